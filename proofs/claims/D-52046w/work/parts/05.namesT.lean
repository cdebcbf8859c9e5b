set_option maxRecDepth 100000
/-! PastWatchModel -/

def RX3 : String := "PastWatchModel"
def TX3 : u_T := fun k => match k with
  | 0 => ("PastWatchModel", "thrown", "I", false)
  | 1 => ("PastWatchModel", "tape", "[I", true)
  | 2 => ("PastWatchModel", "length", "I", false)
  | 3 => ("PastWatchModel", "errorAt", "I", false)
  | 4 => ("PastWatchModel", "kinds", "[I", true)
  | 5 => ("PastWatchModel", "froms", "[I", true)
  | 6 => ("PastWatchModel", "ends", "[I", true)
  | 7 => ("PastWatchModel", "at", "I", false)
  | 8 => ("PastWatchModel", "nodes", "I", false)
  | 9 => ("PastWatchModel", "kind", "[I", true)
  | 10 => ("PastWatchModel", "first", "[I", true)
  | 11 => ("PastWatchModel", "second", "[I", true)
  | 12 => ("PastWatchModel", "third", "[I", true)
  | 13 => ("PastWatchModel", "low", "[I", true)
  | 14 => ("PastWatchModel", "high", "[I", true)
  | 15 => ("PastWatchModel", "place", "[I", true)
  | 16 => ("PastWatchModel", "table", "[J", true)
  | 17 => ("PastWatchModel", "made", "I", false)
  | 18 => ("PastWatchModel", "isThere", "Z", false)
  | 19 => ("PastWatchModel", "named", "I", false)
  | 20 => ("PastWatchModel", "names", "[J", true)
  | 21 => ("PastWatchModel", "sorts", "[I", true)
  | 22 => ("PastWatchModel", "numbers", "[I", true)
  | 23 => ("PastWatchModel", "many", "[I", true)
  | 24 => ("PastWatchModel", "begins", "[J", true)
  | 25 => ("PastWatchModel", "tops", "[I", true)
  | 26 => ("PastWatchModel", "levels", "[I", true)
  | 27 => ("PastWatchModel", "programNodes", "I", false)
  | 28 => ("PastWatchModel", "asked", "I", false)
  | 29 => ("PastWatchModel", "steps", "I", false)
  | 30 => ("PastWatchModel", "times", "[I", true)
  | 31 => ("PastWatchModel", "signals", "[J", true)
  | 32 => ("PastWatchModel", "now", "[J", true)
  | 33 => ("PastWatchModel", "kept", "I", false)
  | 34 => ("PastWatchModel", "keptMany", "I", false)
  | 35 => ("PastWatchModel", "keptTimes", "[I", true)
  | 36 => ("PastWatchModel", "keptSignals", "[J", true)
  | 37 => ("PastWatchModel", "boundA", "I", false)
  | 38 => ("PastWatchModel", "boundB", "I", false)
  | 39 => ("PastWatchModel", "reasonStep", "I", false)
  | _ => ("PastWatchModel", "askedEnd", "I", false)
def tyX3 : Nat → FieldType := fun k => match k with
  | 0 => .int
  | 1 => .array .int
  | 2 => .int
  | 3 => .int
  | 4 => .array .int
  | 5 => .array .int
  | 6 => .array .int
  | 7 => .int
  | 8 => .int
  | 9 => .array .int
  | 10 => .array .int
  | 11 => .array .int
  | 12 => .array .int
  | 13 => .array .int
  | 14 => .array .int
  | 15 => .array .int
  | 16 => .array .long
  | 17 => .int
  | 18 => .boolean
  | 19 => .int
  | 20 => .array .long
  | 21 => .array .int
  | 22 => .array .int
  | 23 => .array .int
  | 24 => .array .long
  | 25 => .array .int
  | 26 => .array .int
  | 27 => .int
  | 28 => .int
  | 29 => .int
  | 30 => .array .int
  | 31 => .array .long
  | 32 => .array .long
  | 33 => .int
  | 34 => .int
  | 35 => .array .int
  | 36 => .array .long
  | 37 => .int
  | 38 => .int
  | 39 => .int
  | _ => .int
abbrev wsX30 : List Cond := u_ws RX3 TX3 41
set_option maxRecDepth 100000 in
theorem nmX3 : ∀ a, a < 41 → ∀ b, b < 41 → a ≠ b → (TX3 a).2.1 ≠ (TX3 b).2.1 := by decide +kernel
set_option maxRecDepth 100000 in
theorem tyX3_ok : ∀ k, k < 41 → parseFieldDescriptor (TX3 k).2.2.1 = some (tyX3 k) := by decide +kernel
abbrev cX3_init : ByteArray := prog_34_method_1_code
def yX3_init : MethodName := ⟨RX3, "<init>", "()V"⟩
def dkwX3_init_9 : List UInt8 := [181, 0, 85, 42, 17, 3, 192, 188, 11, 181, 0, 88, 177]
abbrev dktX3_init_9 : List UInt8 := dkwX3_init_9 ++ []
def dkwX3_init_8 : List UInt8 := [42, 17, 3, 192, 188, 11, 181, 0, 79, 42, 16, 8, 188, 11, 181, 0, 82, 42, 16, 120, 188, 10]
abbrev dktX3_init_8 : List UInt8 := dkwX3_init_8 ++ dktX3_init_9
def dkwX3_init_7 : List UInt8 := [181, 0, 67, 42, 16, 12, 188, 10, 181, 0, 70, 42, 2, 181, 0, 73, 42, 16, 120, 188, 10, 181, 0, 76]
abbrev dktX3_init_7 : List UInt8 := dkwX3_init_7 ++ dktX3_init_8
def dkwX3_init_6 : List UInt8 := [181, 0, 58, 42, 7, 188, 10, 181, 0, 61, 42, 16, 8, 188, 11, 181, 0, 64, 42, 16, 48, 188, 10]
abbrev dktX3_init_6 : List UInt8 := dkwX3_init_6 ++ dktX3_init_7
def dkwX3_init_5 : List UInt8 := [181, 0, 48, 42, 16, 44, 188, 11, 181, 0, 52, 42, 16, 44, 188, 10, 181, 0, 55, 42, 16, 44, 188, 10]
abbrev dktX3_init_5 : List UInt8 := dkwX3_init_5 ++ dktX3_init_6
def dkwX3_init_4 : List UInt8 := [17, 4, 179, 188, 10, 181, 0, 41, 42, 17, 4, 179, 188, 10, 181, 0, 44, 42, 18, 47, 188, 11]
abbrev dktX3_init_4 : List UInt8 := dkwX3_init_4 ++ dktX3_init_5
def dkwX3_init_3 : List UInt8 := [181, 0, 32, 42, 17, 4, 179, 188, 10, 181, 0, 35, 42, 17, 4, 179, 188, 10, 181, 0, 38, 42]
abbrev dktX3_init_3 : List UInt8 := dkwX3_init_3 ++ dktX3_init_4
def dkwX3_init_2 : List UInt8 := [17, 4, 179, 188, 10, 181, 0, 26, 42, 17, 4, 179, 188, 10, 181, 0, 29, 42, 17, 4, 179, 188, 10]
abbrev dktX3_init_2 : List UInt8 := dkwX3_init_2 ++ dktX3_init_3
def dkwX3_init_1 : List UInt8 := [181, 0, 17, 42, 17, 7, 9, 188, 10, 181, 0, 20, 42, 17, 7, 9, 188, 10, 181, 0, 23, 42]
abbrev dktX3_init_1 : List UInt8 := dkwX3_init_1 ++ dktX3_init_2
def dkwX3_init_0 : List UInt8 := [42, 183, 0, 3, 42, 17, 7, 8, 188, 10, 181, 0, 9, 42, 2, 181, 0, 13, 42, 17, 7, 9, 188, 10]
abbrev dktX3_init_0 : List UInt8 := dkwX3_init_0 ++ dktX3_init_1
theorem dksX3_init_0 : cX3_init.data.toList.drop 0 = dktX3_init_0 := by decide +kernel
theorem dksX3_init_1 : cX3_init.data.toList.drop 24 = dktX3_init_1 := dk_seg dksX3_init_0 24 rfl rfl
theorem dksX3_init_2 : cX3_init.data.toList.drop 46 = dktX3_init_2 := dk_seg dksX3_init_1 22 rfl rfl
theorem dksX3_init_3 : cX3_init.data.toList.drop 69 = dktX3_init_3 := dk_seg dksX3_init_2 23 rfl rfl
theorem dksX3_init_4 : cX3_init.data.toList.drop 91 = dktX3_init_4 := dk_seg dksX3_init_3 22 rfl rfl
theorem dksX3_init_5 : cX3_init.data.toList.drop 113 = dktX3_init_5 := dk_seg dksX3_init_4 22 rfl rfl
theorem dksX3_init_6 : cX3_init.data.toList.drop 137 = dktX3_init_6 := dk_seg dksX3_init_5 24 rfl rfl
theorem dksX3_init_7 : cX3_init.data.toList.drop 160 = dktX3_init_7 := dk_seg dksX3_init_6 23 rfl rfl
theorem dksX3_init_8 : cX3_init.data.toList.drop 184 = dktX3_init_8 := dk_seg dksX3_init_7 24 rfl rfl
theorem dksX3_init_9 : cX3_init.data.toList.drop 206 = dktX3_init_9 := dk_seg dksX3_init_8 22 rfl rfl
theorem dX3_init_0 : decode cX3_init 0 = .ok (.aload_n 0, 1) := dk_42 (dk_at dksX3_init_0 0 rfl rfl)
theorem dX3_init_1 : decode cX3_init 1 = .ok (.invokespecial 3, 3) := dk_183 0 3 (dk_at dksX3_init_0 1 rfl rfl)
theorem dX3_init_4 : decode cX3_init 4 = .ok (.aload_n 0, 1) := dk_42 (dk_at dksX3_init_0 4 rfl rfl)
theorem dX3_init_5 : decode cX3_init 5 = .ok (.sipush 1800, 3) := dk_17 7 8 (dk_at dksX3_init_0 5 rfl rfl)
theorem dX3_init_8 : decode cX3_init 8 = .ok (.newarray .int, 2) := dk_188_10 (dk_at dksX3_init_0 8 rfl rfl)
theorem dX3_init_10 : decode cX3_init 10 = .ok (.putfield 9, 3) := dk_181 0 9 (dk_at dksX3_init_0 10 rfl rfl)
theorem dX3_init_13 : decode cX3_init 13 = .ok (.aload_n 0, 1) := dk_42 (dk_at dksX3_init_0 13 rfl rfl)
theorem dX3_init_14 : decode cX3_init 14 = .ok (.iconst (-1), 1) := dk_2 (dk_at dksX3_init_0 14 rfl rfl)
theorem dX3_init_15 : decode cX3_init 15 = .ok (.putfield 13, 3) := dk_181 0 13 (dk_at dksX3_init_0 15 rfl rfl)
theorem dX3_init_18 : decode cX3_init 18 = .ok (.aload_n 0, 1) := dk_42 (dk_at dksX3_init_0 18 rfl rfl)
theorem dX3_init_19 : decode cX3_init 19 = .ok (.sipush 1801, 3) := dk_17 7 9 (dk_at dksX3_init_0 19 rfl rfl)
theorem dX3_init_22 : decode cX3_init 22 = .ok (.newarray .int, 2) := dk_188_10 (dk_at dksX3_init_0 22 rfl rfl)
theorem dX3_init_24 : decode cX3_init 24 = .ok (.putfield 17, 3) := dk_181 0 17 (dk_at dksX3_init_1 0 rfl rfl)
theorem dX3_init_27 : decode cX3_init 27 = .ok (.aload_n 0, 1) := dk_42 (dk_at dksX3_init_1 3 rfl rfl)
theorem dX3_init_28 : decode cX3_init 28 = .ok (.sipush 1801, 3) := dk_17 7 9 (dk_at dksX3_init_1 4 rfl rfl)
theorem dX3_init_31 : decode cX3_init 31 = .ok (.newarray .int, 2) := dk_188_10 (dk_at dksX3_init_1 7 rfl rfl)
theorem dX3_init_33 : decode cX3_init 33 = .ok (.putfield 20, 3) := dk_181 0 20 (dk_at dksX3_init_1 9 rfl rfl)
theorem dX3_init_36 : decode cX3_init 36 = .ok (.aload_n 0, 1) := dk_42 (dk_at dksX3_init_1 12 rfl rfl)
theorem dX3_init_37 : decode cX3_init 37 = .ok (.sipush 1801, 3) := dk_17 7 9 (dk_at dksX3_init_1 13 rfl rfl)
theorem dX3_init_40 : decode cX3_init 40 = .ok (.newarray .int, 2) := dk_188_10 (dk_at dksX3_init_1 16 rfl rfl)
theorem dX3_init_42 : decode cX3_init 42 = .ok (.putfield 23, 3) := dk_181 0 23 (dk_at dksX3_init_1 18 rfl rfl)
theorem dX3_init_45 : decode cX3_init 45 = .ok (.aload_n 0, 1) := dk_42 (dk_at dksX3_init_1 21 rfl rfl)
theorem dX3_init_46 : decode cX3_init 46 = .ok (.sipush 1203, 3) := dk_17 4 179 (dk_at dksX3_init_2 0 rfl rfl)
theorem dX3_init_49 : decode cX3_init 49 = .ok (.newarray .int, 2) := dk_188_10 (dk_at dksX3_init_2 3 rfl rfl)
theorem dX3_init_51 : decode cX3_init 51 = .ok (.putfield 26, 3) := dk_181 0 26 (dk_at dksX3_init_2 5 rfl rfl)
theorem dX3_init_54 : decode cX3_init 54 = .ok (.aload_n 0, 1) := dk_42 (dk_at dksX3_init_2 8 rfl rfl)
theorem dX3_init_55 : decode cX3_init 55 = .ok (.sipush 1203, 3) := dk_17 4 179 (dk_at dksX3_init_2 9 rfl rfl)
theorem dX3_init_58 : decode cX3_init 58 = .ok (.newarray .int, 2) := dk_188_10 (dk_at dksX3_init_2 12 rfl rfl)
theorem dX3_init_60 : decode cX3_init 60 = .ok (.putfield 29, 3) := dk_181 0 29 (dk_at dksX3_init_2 14 rfl rfl)
theorem dX3_init_63 : decode cX3_init 63 = .ok (.aload_n 0, 1) := dk_42 (dk_at dksX3_init_2 17 rfl rfl)
theorem dX3_init_64 : decode cX3_init 64 = .ok (.sipush 1203, 3) := dk_17 4 179 (dk_at dksX3_init_2 18 rfl rfl)
theorem dX3_init_67 : decode cX3_init 67 = .ok (.newarray .int, 2) := dk_188_10 (dk_at dksX3_init_2 21 rfl rfl)
theorem dX3_init_69 : decode cX3_init 69 = .ok (.putfield 32, 3) := dk_181 0 32 (dk_at dksX3_init_3 0 rfl rfl)
theorem dX3_init_72 : decode cX3_init 72 = .ok (.aload_n 0, 1) := dk_42 (dk_at dksX3_init_3 3 rfl rfl)
theorem dX3_init_73 : decode cX3_init 73 = .ok (.sipush 1203, 3) := dk_17 4 179 (dk_at dksX3_init_3 4 rfl rfl)
theorem dX3_init_76 : decode cX3_init 76 = .ok (.newarray .int, 2) := dk_188_10 (dk_at dksX3_init_3 7 rfl rfl)
theorem dX3_init_78 : decode cX3_init 78 = .ok (.putfield 35, 3) := dk_181 0 35 (dk_at dksX3_init_3 9 rfl rfl)
theorem dX3_init_81 : decode cX3_init 81 = .ok (.aload_n 0, 1) := dk_42 (dk_at dksX3_init_3 12 rfl rfl)
theorem dX3_init_82 : decode cX3_init 82 = .ok (.sipush 1203, 3) := dk_17 4 179 (dk_at dksX3_init_3 13 rfl rfl)
theorem dX3_init_85 : decode cX3_init 85 = .ok (.newarray .int, 2) := dk_188_10 (dk_at dksX3_init_3 16 rfl rfl)
theorem dX3_init_87 : decode cX3_init 87 = .ok (.putfield 38, 3) := dk_181 0 38 (dk_at dksX3_init_3 18 rfl rfl)
theorem dX3_init_90 : decode cX3_init 90 = .ok (.aload_n 0, 1) := dk_42 (dk_at dksX3_init_3 21 rfl rfl)
theorem dX3_init_91 : decode cX3_init 91 = .ok (.sipush 1203, 3) := dk_17 4 179 (dk_at dksX3_init_4 0 rfl rfl)
theorem dX3_init_94 : decode cX3_init 94 = .ok (.newarray .int, 2) := dk_188_10 (dk_at dksX3_init_4 3 rfl rfl)
theorem dX3_init_96 : decode cX3_init 96 = .ok (.putfield 41, 3) := dk_181 0 41 (dk_at dksX3_init_4 5 rfl rfl)
theorem dX3_init_99 : decode cX3_init 99 = .ok (.aload_n 0, 1) := dk_42 (dk_at dksX3_init_4 8 rfl rfl)
theorem dX3_init_100 : decode cX3_init 100 = .ok (.sipush 1203, 3) := dk_17 4 179 (dk_at dksX3_init_4 9 rfl rfl)
theorem dX3_init_103 : decode cX3_init 103 = .ok (.newarray .int, 2) := dk_188_10 (dk_at dksX3_init_4 12 rfl rfl)
theorem dX3_init_105 : decode cX3_init 105 = .ok (.putfield 44, 3) := dk_181 0 44 (dk_at dksX3_init_4 14 rfl rfl)
theorem dX3_init_108 : decode cX3_init 108 = .ok (.aload_n 0, 1) := dk_42 (dk_at dksX3_init_4 17 rfl rfl)
theorem dX3_init_109 : decode cX3_init 109 = .ok (.ldc 47, 2) := dk_18 47 (dk_at dksX3_init_4 18 rfl rfl)
theorem dX3_init_111 : decode cX3_init 111 = .ok (.newarray .long, 2) := dk_188_11 (dk_at dksX3_init_4 20 rfl rfl)
theorem dX3_init_113 : decode cX3_init 113 = .ok (.putfield 48, 3) := dk_181 0 48 (dk_at dksX3_init_5 0 rfl rfl)
theorem dX3_init_116 : decode cX3_init 116 = .ok (.aload_n 0, 1) := dk_42 (dk_at dksX3_init_5 3 rfl rfl)
theorem dX3_init_117 : decode cX3_init 117 = .ok (.bipush 44, 2) := dk_16 44 (dk_at dksX3_init_5 4 rfl rfl)
theorem dX3_init_119 : decode cX3_init 119 = .ok (.newarray .long, 2) := dk_188_11 (dk_at dksX3_init_5 6 rfl rfl)
theorem dX3_init_121 : decode cX3_init 121 = .ok (.putfield 52, 3) := dk_181 0 52 (dk_at dksX3_init_5 8 rfl rfl)
theorem dX3_init_124 : decode cX3_init 124 = .ok (.aload_n 0, 1) := dk_42 (dk_at dksX3_init_5 11 rfl rfl)
theorem dX3_init_125 : decode cX3_init 125 = .ok (.bipush 44, 2) := dk_16 44 (dk_at dksX3_init_5 12 rfl rfl)
theorem dX3_init_127 : decode cX3_init 127 = .ok (.newarray .int, 2) := dk_188_10 (dk_at dksX3_init_5 14 rfl rfl)
theorem dX3_init_129 : decode cX3_init 129 = .ok (.putfield 55, 3) := dk_181 0 55 (dk_at dksX3_init_5 16 rfl rfl)
theorem dX3_init_132 : decode cX3_init 132 = .ok (.aload_n 0, 1) := dk_42 (dk_at dksX3_init_5 19 rfl rfl)
theorem dX3_init_133 : decode cX3_init 133 = .ok (.bipush 44, 2) := dk_16 44 (dk_at dksX3_init_5 20 rfl rfl)
theorem dX3_init_135 : decode cX3_init 135 = .ok (.newarray .int, 2) := dk_188_10 (dk_at dksX3_init_5 22 rfl rfl)
theorem dX3_init_137 : decode cX3_init 137 = .ok (.putfield 58, 3) := dk_181 0 58 (dk_at dksX3_init_6 0 rfl rfl)
theorem dX3_init_140 : decode cX3_init 140 = .ok (.aload_n 0, 1) := dk_42 (dk_at dksX3_init_6 3 rfl rfl)
theorem dX3_init_141 : decode cX3_init 141 = .ok (.iconst 4, 1) := dk_7 (dk_at dksX3_init_6 4 rfl rfl)
theorem dX3_init_142 : decode cX3_init 142 = .ok (.newarray .int, 2) := dk_188_10 (dk_at dksX3_init_6 5 rfl rfl)
theorem dX3_init_144 : decode cX3_init 144 = .ok (.putfield 61, 3) := dk_181 0 61 (dk_at dksX3_init_6 7 rfl rfl)
theorem dX3_init_147 : decode cX3_init 147 = .ok (.aload_n 0, 1) := dk_42 (dk_at dksX3_init_6 10 rfl rfl)
theorem dX3_init_148 : decode cX3_init 148 = .ok (.bipush 8, 2) := dk_16 8 (dk_at dksX3_init_6 11 rfl rfl)
theorem dX3_init_150 : decode cX3_init 150 = .ok (.newarray .long, 2) := dk_188_11 (dk_at dksX3_init_6 13 rfl rfl)
theorem dX3_init_152 : decode cX3_init 152 = .ok (.putfield 64, 3) := dk_181 0 64 (dk_at dksX3_init_6 15 rfl rfl)
theorem dX3_init_155 : decode cX3_init 155 = .ok (.aload_n 0, 1) := dk_42 (dk_at dksX3_init_6 18 rfl rfl)
theorem dX3_init_156 : decode cX3_init 156 = .ok (.bipush 48, 2) := dk_16 48 (dk_at dksX3_init_6 19 rfl rfl)
theorem dX3_init_158 : decode cX3_init 158 = .ok (.newarray .int, 2) := dk_188_10 (dk_at dksX3_init_6 21 rfl rfl)
theorem dX3_init_160 : decode cX3_init 160 = .ok (.putfield 67, 3) := dk_181 0 67 (dk_at dksX3_init_7 0 rfl rfl)
theorem dX3_init_163 : decode cX3_init 163 = .ok (.aload_n 0, 1) := dk_42 (dk_at dksX3_init_7 3 rfl rfl)
theorem dX3_init_164 : decode cX3_init 164 = .ok (.bipush 12, 2) := dk_16 12 (dk_at dksX3_init_7 4 rfl rfl)
theorem dX3_init_166 : decode cX3_init 166 = .ok (.newarray .int, 2) := dk_188_10 (dk_at dksX3_init_7 6 rfl rfl)
theorem dX3_init_168 : decode cX3_init 168 = .ok (.putfield 70, 3) := dk_181 0 70 (dk_at dksX3_init_7 8 rfl rfl)
theorem dX3_init_171 : decode cX3_init 171 = .ok (.aload_n 0, 1) := dk_42 (dk_at dksX3_init_7 11 rfl rfl)
theorem dX3_init_172 : decode cX3_init 172 = .ok (.iconst (-1), 1) := dk_2 (dk_at dksX3_init_7 12 rfl rfl)
theorem dX3_init_173 : decode cX3_init 173 = .ok (.putfield 73, 3) := dk_181 0 73 (dk_at dksX3_init_7 13 rfl rfl)
theorem dX3_init_176 : decode cX3_init 176 = .ok (.aload_n 0, 1) := dk_42 (dk_at dksX3_init_7 16 rfl rfl)
theorem dX3_init_177 : decode cX3_init 177 = .ok (.bipush 120, 2) := dk_16 120 (dk_at dksX3_init_7 17 rfl rfl)
theorem dX3_init_179 : decode cX3_init 179 = .ok (.newarray .int, 2) := dk_188_10 (dk_at dksX3_init_7 19 rfl rfl)
theorem dX3_init_181 : decode cX3_init 181 = .ok (.putfield 76, 3) := dk_181 0 76 (dk_at dksX3_init_7 21 rfl rfl)
theorem dX3_init_184 : decode cX3_init 184 = .ok (.aload_n 0, 1) := dk_42 (dk_at dksX3_init_8 0 rfl rfl)
theorem dX3_init_185 : decode cX3_init 185 = .ok (.sipush 960, 3) := dk_17 3 192 (dk_at dksX3_init_8 1 rfl rfl)
theorem dX3_init_188 : decode cX3_init 188 = .ok (.newarray .long, 2) := dk_188_11 (dk_at dksX3_init_8 4 rfl rfl)
theorem dX3_init_190 : decode cX3_init 190 = .ok (.putfield 79, 3) := dk_181 0 79 (dk_at dksX3_init_8 6 rfl rfl)
theorem dX3_init_193 : decode cX3_init 193 = .ok (.aload_n 0, 1) := dk_42 (dk_at dksX3_init_8 9 rfl rfl)
theorem dX3_init_194 : decode cX3_init 194 = .ok (.bipush 8, 2) := dk_16 8 (dk_at dksX3_init_8 10 rfl rfl)
theorem dX3_init_196 : decode cX3_init 196 = .ok (.newarray .long, 2) := dk_188_11 (dk_at dksX3_init_8 12 rfl rfl)
theorem dX3_init_198 : decode cX3_init 198 = .ok (.putfield 82, 3) := dk_181 0 82 (dk_at dksX3_init_8 14 rfl rfl)
theorem dX3_init_201 : decode cX3_init 201 = .ok (.aload_n 0, 1) := dk_42 (dk_at dksX3_init_8 17 rfl rfl)
theorem dX3_init_202 : decode cX3_init 202 = .ok (.bipush 120, 2) := dk_16 120 (dk_at dksX3_init_8 18 rfl rfl)
theorem dX3_init_204 : decode cX3_init 204 = .ok (.newarray .int, 2) := dk_188_10 (dk_at dksX3_init_8 20 rfl rfl)
theorem dX3_init_206 : decode cX3_init 206 = .ok (.putfield 85, 3) := dk_181 0 85 (dk_at dksX3_init_9 0 rfl rfl)
theorem dX3_init_209 : decode cX3_init 209 = .ok (.aload_n 0, 1) := dk_42 (dk_at dksX3_init_9 3 rfl rfl)
theorem dX3_init_210 : decode cX3_init 210 = .ok (.sipush 960, 3) := dk_17 3 192 (dk_at dksX3_init_9 4 rfl rfl)
theorem dX3_init_213 : decode cX3_init 213 = .ok (.newarray .long, 2) := dk_188_11 (dk_at dksX3_init_9 7 rfl rfl)
theorem dX3_init_215 : decode cX3_init 215 = .ok (.putfield 88, 3) := dk_181 0 88 (dk_at dksX3_init_9 9 rfl rfl)
theorem dX3_init_218 : decode cX3_init 218 = .ok (.return_, 1) := dk_177 (dk_at dksX3_init_9 12 rfl rfl)
abbrev cX3_thrown : ByteArray := prog_34_method_2_code
def yX3_thrown : MethodName := ⟨RX3, "thrown", "()I"⟩
theorem dX3_thrown_0 : decode cX3_thrown 0 = .ok (.aload_n 0, 1) := by decide +kernel
theorem dX3_thrown_1 : decode cX3_thrown 1 = .ok (.getfield 91, 3) := by decide +kernel
theorem dX3_thrown_4 : decode cX3_thrown 4 = .ok (.ireturn, 1) := by decide +kernel
abbrev cX3_feed : ByteArray := prog_34_method_5_code
def yX3_feed : MethodName := ⟨RX3, "feed", "(IIIII)I"⟩
def dkwX3_feed_5 : List UInt8 := [167, 255, 217, 132, 9, 1, 167, 255, 194, 42, 180, 0, 94, 172]
abbrev dktX3_feed_5 : List UInt8 := dkwX3_feed_5 ++ []
def dkwX3_feed_4 : List UInt8 := [16, 8, 21, 11, 104, 122, 17, 0, 255, 126, 79, 42, 89, 180, 0, 94, 4, 96, 181, 0, 94, 132, 11, 255]
abbrev dktX3_feed_4 : List UInt8 := dkwX3_feed_4 ++ dktX3_feed_5
def dkwX3_feed_3 : List UInt8 := [21, 9, 46, 54, 10, 6, 54, 11, 21, 11, 155, 0, 40, 42, 180, 0, 9, 42, 180, 0, 94, 21, 10]
abbrev dktX3_feed_3 : List UInt8 := dkwX3_feed_3 ++ dktX3_feed_4
def dkwX3_feed_2 : List UInt8 := [79, 58, 6, 25, 6, 58, 7, 25, 7, 190, 54, 8, 3, 54, 9, 21, 9, 21, 8, 162, 0, 61, 25, 7]
abbrev dktX3_feed_2 : List UInt8 := dkwX3_feed_2 ++ dktX3_feed_3
def dkwX3_feed_1 : List UInt8 := [8, 188, 10, 89, 3, 27, 79, 89, 4, 28, 79, 89, 5, 29, 79, 89, 6, 21, 4, 79, 89, 7, 21, 5]
abbrev dktX3_feed_1 : List UInt8 := dkwX3_feed_1 ++ dktX3_feed_2
def dkwX3_feed_0 : List UInt8 := [42, 3, 181, 0, 91, 42, 180, 0, 94, 16, 20, 96, 17, 7, 8, 164, 0, 9, 42, 4, 182, 0, 97, 172]
abbrev dktX3_feed_0 : List UInt8 := dkwX3_feed_0 ++ dktX3_feed_1
theorem dksX3_feed_0 : cX3_feed.data.toList.drop 0 = dktX3_feed_0 := by decide +kernel
theorem dksX3_feed_1 : cX3_feed.data.toList.drop 24 = dktX3_feed_1 := dk_seg dksX3_feed_0 24 rfl rfl
theorem dksX3_feed_2 : cX3_feed.data.toList.drop 48 = dktX3_feed_2 := dk_seg dksX3_feed_1 24 rfl rfl
theorem dksX3_feed_3 : cX3_feed.data.toList.drop 72 = dktX3_feed_3 := dk_seg dksX3_feed_2 24 rfl rfl
theorem dksX3_feed_4 : cX3_feed.data.toList.drop 95 = dktX3_feed_4 := dk_seg dksX3_feed_3 23 rfl rfl
theorem dksX3_feed_5 : cX3_feed.data.toList.drop 119 = dktX3_feed_5 := dk_seg dksX3_feed_4 24 rfl rfl
theorem dX3_feed_0 : decode cX3_feed 0 = .ok (.aload_n 0, 1) := dk_42 (dk_at dksX3_feed_0 0 rfl rfl)
theorem dX3_feed_1 : decode cX3_feed 1 = .ok (.iconst 0, 1) := dk_3 (dk_at dksX3_feed_0 1 rfl rfl)
theorem dX3_feed_2 : decode cX3_feed 2 = .ok (.putfield 91, 3) := dk_181 0 91 (dk_at dksX3_feed_0 2 rfl rfl)
theorem dX3_feed_5 : decode cX3_feed 5 = .ok (.aload_n 0, 1) := dk_42 (dk_at dksX3_feed_0 5 rfl rfl)
theorem dX3_feed_6 : decode cX3_feed 6 = .ok (.getfield 94, 3) := dk_180 0 94 (dk_at dksX3_feed_0 6 rfl rfl)
theorem dX3_feed_9 : decode cX3_feed 9 = .ok (.bipush 20, 2) := dk_16 20 (dk_at dksX3_feed_0 9 rfl rfl)
theorem dX3_feed_11 : decode cX3_feed 11 = .ok (.iadd, 1) := dk_96 (dk_at dksX3_feed_0 11 rfl rfl)
theorem dX3_feed_12 : decode cX3_feed 12 = .ok (.sipush 1800, 3) := dk_17 7 8 (dk_at dksX3_feed_0 12 rfl rfl)
theorem dX3_feed_15 : decode cX3_feed 15 = .ok (.if_icmp .le 9, 3) := dk_164 0 9 (dk_at dksX3_feed_0 15 rfl rfl)
theorem dX3_feed_18 : decode cX3_feed 18 = .ok (.aload_n 0, 1) := dk_42 (dk_at dksX3_feed_0 18 rfl rfl)
theorem dX3_feed_19 : decode cX3_feed 19 = .ok (.iconst 1, 1) := dk_4 (dk_at dksX3_feed_0 19 rfl rfl)
theorem dX3_feed_20 : decode cX3_feed 20 = .ok (.invokevirtual 97, 3) := dk_182 0 97 (dk_at dksX3_feed_0 20 rfl rfl)
theorem dX3_feed_23 : decode cX3_feed 23 = .ok (.ireturn, 1) := dk_172 (dk_at dksX3_feed_0 23 rfl rfl)
theorem dX3_feed_24 : decode cX3_feed 24 = .ok (.iconst 5, 1) := dk_8 (dk_at dksX3_feed_1 0 rfl rfl)
theorem dX3_feed_25 : decode cX3_feed 25 = .ok (.newarray .int, 2) := dk_188_10 (dk_at dksX3_feed_1 1 rfl rfl)
theorem dX3_feed_27 : decode cX3_feed 27 = .ok (.dup, 1) := dk_89 (dk_at dksX3_feed_1 3 rfl rfl)
theorem dX3_feed_28 : decode cX3_feed 28 = .ok (.iconst 0, 1) := dk_3 (dk_at dksX3_feed_1 4 rfl rfl)
theorem dX3_feed_29 : decode cX3_feed 29 = .ok (.iload_n 1, 1) := dk_27 (dk_at dksX3_feed_1 5 rfl rfl)
theorem dX3_feed_30 : decode cX3_feed 30 = .ok (.iastore, 1) := dk_79 (dk_at dksX3_feed_1 6 rfl rfl)
theorem dX3_feed_31 : decode cX3_feed 31 = .ok (.dup, 1) := dk_89 (dk_at dksX3_feed_1 7 rfl rfl)
theorem dX3_feed_32 : decode cX3_feed 32 = .ok (.iconst 1, 1) := dk_4 (dk_at dksX3_feed_1 8 rfl rfl)
theorem dX3_feed_33 : decode cX3_feed 33 = .ok (.iload_n 2, 1) := dk_28 (dk_at dksX3_feed_1 9 rfl rfl)
theorem dX3_feed_34 : decode cX3_feed 34 = .ok (.iastore, 1) := dk_79 (dk_at dksX3_feed_1 10 rfl rfl)
theorem dX3_feed_35 : decode cX3_feed 35 = .ok (.dup, 1) := dk_89 (dk_at dksX3_feed_1 11 rfl rfl)
theorem dX3_feed_36 : decode cX3_feed 36 = .ok (.iconst 2, 1) := dk_5 (dk_at dksX3_feed_1 12 rfl rfl)
theorem dX3_feed_37 : decode cX3_feed 37 = .ok (.iload_n 3, 1) := dk_29 (dk_at dksX3_feed_1 13 rfl rfl)
theorem dX3_feed_38 : decode cX3_feed 38 = .ok (.iastore, 1) := dk_79 (dk_at dksX3_feed_1 14 rfl rfl)
theorem dX3_feed_39 : decode cX3_feed 39 = .ok (.dup, 1) := dk_89 (dk_at dksX3_feed_1 15 rfl rfl)
theorem dX3_feed_40 : decode cX3_feed 40 = .ok (.iconst 3, 1) := dk_6 (dk_at dksX3_feed_1 16 rfl rfl)
theorem dX3_feed_41 : decode cX3_feed 41 = .ok (.iload 4, 2) := dk_21 4 (dk_at dksX3_feed_1 17 rfl rfl)
theorem dX3_feed_43 : decode cX3_feed 43 = .ok (.iastore, 1) := dk_79 (dk_at dksX3_feed_1 19 rfl rfl)
theorem dX3_feed_44 : decode cX3_feed 44 = .ok (.dup, 1) := dk_89 (dk_at dksX3_feed_1 20 rfl rfl)
theorem dX3_feed_45 : decode cX3_feed 45 = .ok (.iconst 4, 1) := dk_7 (dk_at dksX3_feed_1 21 rfl rfl)
theorem dX3_feed_46 : decode cX3_feed 46 = .ok (.iload 5, 2) := dk_21 5 (dk_at dksX3_feed_1 22 rfl rfl)
theorem dX3_feed_48 : decode cX3_feed 48 = .ok (.iastore, 1) := dk_79 (dk_at dksX3_feed_2 0 rfl rfl)
theorem dX3_feed_49 : decode cX3_feed 49 = .ok (.astore 6, 2) := dk_58 6 (dk_at dksX3_feed_2 1 rfl rfl)
theorem dX3_feed_51 : decode cX3_feed 51 = .ok (.aload 6, 2) := dk_25 6 (dk_at dksX3_feed_2 3 rfl rfl)
theorem dX3_feed_53 : decode cX3_feed 53 = .ok (.astore 7, 2) := dk_58 7 (dk_at dksX3_feed_2 5 rfl rfl)
theorem dX3_feed_55 : decode cX3_feed 55 = .ok (.aload 7, 2) := dk_25 7 (dk_at dksX3_feed_2 7 rfl rfl)
theorem dX3_feed_57 : decode cX3_feed 57 = .ok (.arraylength, 1) := dk_190 (dk_at dksX3_feed_2 9 rfl rfl)
theorem dX3_feed_58 : decode cX3_feed 58 = .ok (.istore 8, 2) := dk_54 8 (dk_at dksX3_feed_2 10 rfl rfl)
theorem dX3_feed_60 : decode cX3_feed 60 = .ok (.iconst 0, 1) := dk_3 (dk_at dksX3_feed_2 12 rfl rfl)
theorem dX3_feed_61 : decode cX3_feed 61 = .ok (.istore 9, 2) := dk_54 9 (dk_at dksX3_feed_2 13 rfl rfl)
theorem dX3_feed_63 : decode cX3_feed 63 = .ok (.iload 9, 2) := dk_21 9 (dk_at dksX3_feed_2 15 rfl rfl)
theorem dX3_feed_65 : decode cX3_feed 65 = .ok (.iload 8, 2) := dk_21 8 (dk_at dksX3_feed_2 17 rfl rfl)
theorem dX3_feed_67 : decode cX3_feed 67 = .ok (.if_icmp .ge 61, 3) := dk_162 0 61 (dk_at dksX3_feed_2 19 rfl rfl)
theorem dX3_feed_70 : decode cX3_feed 70 = .ok (.aload 7, 2) := dk_25 7 (dk_at dksX3_feed_2 22 rfl rfl)
theorem dX3_feed_72 : decode cX3_feed 72 = .ok (.iload 9, 2) := dk_21 9 (dk_at dksX3_feed_3 0 rfl rfl)
theorem dX3_feed_74 : decode cX3_feed 74 = .ok (.iaload, 1) := dk_46 (dk_at dksX3_feed_3 2 rfl rfl)
theorem dX3_feed_75 : decode cX3_feed 75 = .ok (.istore 10, 2) := dk_54 10 (dk_at dksX3_feed_3 3 rfl rfl)
theorem dX3_feed_77 : decode cX3_feed 77 = .ok (.iconst 3, 1) := dk_6 (dk_at dksX3_feed_3 5 rfl rfl)
theorem dX3_feed_78 : decode cX3_feed 78 = .ok (.istore 11, 2) := dk_54 11 (dk_at dksX3_feed_3 6 rfl rfl)
theorem dX3_feed_80 : decode cX3_feed 80 = .ok (.iload 11, 2) := dk_21 11 (dk_at dksX3_feed_3 8 rfl rfl)
theorem dX3_feed_82 : decode cX3_feed 82 = .ok (.ifCond .lt 40, 3) := dk_155 0 40 (dk_at dksX3_feed_3 10 rfl rfl)
theorem dX3_feed_85 : decode cX3_feed 85 = .ok (.aload_n 0, 1) := dk_42 (dk_at dksX3_feed_3 13 rfl rfl)
theorem dX3_feed_86 : decode cX3_feed 86 = .ok (.getfield 9, 3) := dk_180 0 9 (dk_at dksX3_feed_3 14 rfl rfl)
theorem dX3_feed_89 : decode cX3_feed 89 = .ok (.aload_n 0, 1) := dk_42 (dk_at dksX3_feed_3 17 rfl rfl)
theorem dX3_feed_90 : decode cX3_feed 90 = .ok (.getfield 94, 3) := dk_180 0 94 (dk_at dksX3_feed_3 18 rfl rfl)
theorem dX3_feed_93 : decode cX3_feed 93 = .ok (.iload 10, 2) := dk_21 10 (dk_at dksX3_feed_3 21 rfl rfl)
theorem dX3_feed_95 : decode cX3_feed 95 = .ok (.bipush 8, 2) := dk_16 8 (dk_at dksX3_feed_4 0 rfl rfl)
theorem dX3_feed_97 : decode cX3_feed 97 = .ok (.iload 11, 2) := dk_21 11 (dk_at dksX3_feed_4 2 rfl rfl)
theorem dX3_feed_99 : decode cX3_feed 99 = .ok (.imul, 1) := dk_104 (dk_at dksX3_feed_4 4 rfl rfl)
theorem dX3_feed_100 : decode cX3_feed 100 = .ok (.ishr, 1) := dk_122 (dk_at dksX3_feed_4 5 rfl rfl)
theorem dX3_feed_101 : decode cX3_feed 101 = .ok (.sipush 255, 3) := dk_17 0 255 (dk_at dksX3_feed_4 6 rfl rfl)
theorem dX3_feed_104 : decode cX3_feed 104 = .ok (.iand, 1) := dk_126 (dk_at dksX3_feed_4 9 rfl rfl)
theorem dX3_feed_105 : decode cX3_feed 105 = .ok (.iastore, 1) := dk_79 (dk_at dksX3_feed_4 10 rfl rfl)
theorem dX3_feed_106 : decode cX3_feed 106 = .ok (.aload_n 0, 1) := dk_42 (dk_at dksX3_feed_4 11 rfl rfl)
theorem dX3_feed_107 : decode cX3_feed 107 = .ok (.dup, 1) := dk_89 (dk_at dksX3_feed_4 12 rfl rfl)
theorem dX3_feed_108 : decode cX3_feed 108 = .ok (.getfield 94, 3) := dk_180 0 94 (dk_at dksX3_feed_4 13 rfl rfl)
theorem dX3_feed_111 : decode cX3_feed 111 = .ok (.iconst 1, 1) := dk_4 (dk_at dksX3_feed_4 16 rfl rfl)
theorem dX3_feed_112 : decode cX3_feed 112 = .ok (.iadd, 1) := dk_96 (dk_at dksX3_feed_4 17 rfl rfl)
theorem dX3_feed_113 : decode cX3_feed 113 = .ok (.putfield 94, 3) := dk_181 0 94 (dk_at dksX3_feed_4 18 rfl rfl)
theorem dX3_feed_116 : decode cX3_feed 116 = .ok (.iinc 11 (-1), 3) := dk_132 11 255 (dk_at dksX3_feed_4 21 rfl rfl)
theorem dX3_feed_119 : decode cX3_feed 119 = .ok (.goto (-39), 3) := dk_167 255 217 (dk_at dksX3_feed_5 0 rfl rfl)
theorem dX3_feed_122 : decode cX3_feed 122 = .ok (.iinc 9 1, 3) := dk_132 9 1 (dk_at dksX3_feed_5 3 rfl rfl)
theorem dX3_feed_125 : decode cX3_feed 125 = .ok (.goto (-62), 3) := dk_167 255 194 (dk_at dksX3_feed_5 6 rfl rfl)
theorem dX3_feed_128 : decode cX3_feed 128 = .ok (.aload_n 0, 1) := dk_42 (dk_at dksX3_feed_5 9 rfl rfl)
theorem dX3_feed_129 : decode cX3_feed 129 = .ok (.getfield 94, 3) := dk_180 0 94 (dk_at dksX3_feed_5 10 rfl rfl)
theorem dX3_feed_132 : decode cX3_feed 132 = .ok (.ireturn, 1) := dk_172 (dk_at dksX3_feed_5 13 rfl rfl)
abbrev cX3_no : ByteArray := prog_34_method_3_code
def yX3_no : MethodName := ⟨RX3, "no", "(I)I"⟩
def dkwX3_no_0 : List UInt8 := [42, 27, 181, 0, 91, 3, 172]
abbrev dktX3_no_0 : List UInt8 := dkwX3_no_0 ++ []
theorem dksX3_no_0 : cX3_no.data.toList.drop 0 = dktX3_no_0 := by decide +kernel
theorem dX3_no_0 : decode cX3_no 0 = .ok (.aload_n 0, 1) := dk_42 (dk_at dksX3_no_0 0 rfl rfl)
theorem dX3_no_1 : decode cX3_no 1 = .ok (.iload_n 1, 1) := dk_27 (dk_at dksX3_no_0 1 rfl rfl)
theorem dX3_no_2 : decode cX3_no 2 = .ok (.putfield 91, 3) := dk_181 0 91 (dk_at dksX3_no_0 2 rfl rfl)
theorem dX3_no_5 : decode cX3_no 5 = .ok (.iconst 0, 1) := dk_3 (dk_at dksX3_no_0 5 rfl rfl)
theorem dX3_no_6 : decode cX3_no 6 = .ok (.ireturn, 1) := dk_172 (dk_at dksX3_no_0 6 rfl rfl)
abbrev cX3_trim : ByteArray := prog_34_method_6_code
def yX3_trim : MethodName := ⟨RX3, "trim", "(I)I"⟩
def dkwX3_trim_1 : List UInt8 := [27, 181, 0, 94, 27, 172]
abbrev dktX3_trim_1 : List UInt8 := dkwX3_trim_1 ++ []
def dkwX3_trim_0 : List UInt8 := [42, 3, 181, 0, 91, 27, 3, 42, 180, 0, 94, 184, 0, 101, 154, 0, 9, 42, 4, 182, 0, 97, 172, 42]
abbrev dktX3_trim_0 : List UInt8 := dkwX3_trim_0 ++ dktX3_trim_1
theorem dksX3_trim_0 : cX3_trim.data.toList.drop 0 = dktX3_trim_0 := by decide +kernel
theorem dksX3_trim_1 : cX3_trim.data.toList.drop 24 = dktX3_trim_1 := dk_seg dksX3_trim_0 24 rfl rfl
theorem dX3_trim_0 : decode cX3_trim 0 = .ok (.aload_n 0, 1) := dk_42 (dk_at dksX3_trim_0 0 rfl rfl)
theorem dX3_trim_1 : decode cX3_trim 1 = .ok (.iconst 0, 1) := dk_3 (dk_at dksX3_trim_0 1 rfl rfl)
theorem dX3_trim_2 : decode cX3_trim 2 = .ok (.putfield 91, 3) := dk_181 0 91 (dk_at dksX3_trim_0 2 rfl rfl)
theorem dX3_trim_5 : decode cX3_trim 5 = .ok (.iload_n 1, 1) := dk_27 (dk_at dksX3_trim_0 5 rfl rfl)
theorem dX3_trim_6 : decode cX3_trim 6 = .ok (.iconst 0, 1) := dk_3 (dk_at dksX3_trim_0 6 rfl rfl)
theorem dX3_trim_7 : decode cX3_trim 7 = .ok (.aload_n 0, 1) := dk_42 (dk_at dksX3_trim_0 7 rfl rfl)
theorem dX3_trim_8 : decode cX3_trim 8 = .ok (.getfield 94, 3) := dk_180 0 94 (dk_at dksX3_trim_0 8 rfl rfl)
theorem dX3_trim_11 : decode cX3_trim 11 = .ok (.invokestatic 101, 3) := dk_184 0 101 (dk_at dksX3_trim_0 11 rfl rfl)
theorem dX3_trim_14 : decode cX3_trim 14 = .ok (.ifCond .ne 9, 3) := dk_154 0 9 (dk_at dksX3_trim_0 14 rfl rfl)
theorem dX3_trim_17 : decode cX3_trim 17 = .ok (.aload_n 0, 1) := dk_42 (dk_at dksX3_trim_0 17 rfl rfl)
theorem dX3_trim_18 : decode cX3_trim 18 = .ok (.iconst 1, 1) := dk_4 (dk_at dksX3_trim_0 18 rfl rfl)
theorem dX3_trim_19 : decode cX3_trim 19 = .ok (.invokevirtual 97, 3) := dk_182 0 97 (dk_at dksX3_trim_0 19 rfl rfl)
theorem dX3_trim_22 : decode cX3_trim 22 = .ok (.ireturn, 1) := dk_172 (dk_at dksX3_trim_0 22 rfl rfl)
theorem dX3_trim_23 : decode cX3_trim 23 = .ok (.aload_n 0, 1) := dk_42 (dk_at dksX3_trim_0 23 rfl rfl)
theorem dX3_trim_24 : decode cX3_trim 24 = .ok (.iload_n 1, 1) := dk_27 (dk_at dksX3_trim_1 0 rfl rfl)
theorem dX3_trim_25 : decode cX3_trim 25 = .ok (.putfield 94, 3) := dk_181 0 94 (dk_at dksX3_trim_1 1 rfl rfl)
theorem dX3_trim_28 : decode cX3_trim 28 = .ok (.iload_n 1, 1) := dk_27 (dk_at dksX3_trim_1 4 rfl rfl)
theorem dX3_trim_29 : decode cX3_trim 29 = .ok (.ireturn, 1) := dk_172 (dk_at dksX3_trim_1 5 rfl rfl)
abbrev cX3_isIn : ByteArray := prog_34_method_4_code
def yX3_isIn : MethodName := ⟨RX3, "isIn", "(III)Z"⟩
def dkwX3_isIn_0 : List UInt8 := [26, 27, 161, 0, 12, 26, 28, 163, 0, 7, 4, 167, 0, 4, 3, 172]
abbrev dktX3_isIn_0 : List UInt8 := dkwX3_isIn_0 ++ []
theorem dksX3_isIn_0 : cX3_isIn.data.toList.drop 0 = dktX3_isIn_0 := by decide +kernel
theorem dX3_isIn_0 : decode cX3_isIn 0 = .ok (.iload_n 0, 1) := dk_26 (dk_at dksX3_isIn_0 0 rfl rfl)
theorem dX3_isIn_1 : decode cX3_isIn 1 = .ok (.iload_n 1, 1) := dk_27 (dk_at dksX3_isIn_0 1 rfl rfl)
theorem dX3_isIn_2 : decode cX3_isIn 2 = .ok (.if_icmp .lt 12, 3) := dk_161 0 12 (dk_at dksX3_isIn_0 2 rfl rfl)
theorem dX3_isIn_5 : decode cX3_isIn 5 = .ok (.iload_n 0, 1) := dk_26 (dk_at dksX3_isIn_0 5 rfl rfl)
theorem dX3_isIn_6 : decode cX3_isIn 6 = .ok (.iload_n 2, 1) := dk_28 (dk_at dksX3_isIn_0 6 rfl rfl)
theorem dX3_isIn_7 : decode cX3_isIn 7 = .ok (.if_icmp .gt 7, 3) := dk_163 0 7 (dk_at dksX3_isIn_0 7 rfl rfl)
theorem dX3_isIn_10 : decode cX3_isIn 10 = .ok (.iconst 1, 1) := dk_4 (dk_at dksX3_isIn_0 10 rfl rfl)
theorem dX3_isIn_11 : decode cX3_isIn 11 = .ok (.goto 4, 3) := dk_167 0 4 (dk_at dksX3_isIn_0 11 rfl rfl)
theorem dX3_isIn_14 : decode cX3_isIn 14 = .ok (.iconst 0, 1) := dk_3 (dk_at dksX3_isIn_0 14 rfl rfl)
theorem dX3_isIn_15 : decode cX3_isIn 15 = .ok (.ireturn, 1) := dk_172 (dk_at dksX3_isIn_0 15 rfl rfl)
abbrev cX3_compile : ByteArray := prog_34_method_52_code
def yX3_compile : MethodName := ⟨RX3, "compile", "()I"⟩
def dkwX3_compile_4 : List UInt8 := [42, 182, 1, 128, 27, 172]
abbrev dktX3_compile_4 : List UInt8 := dkwX3_compile_4 ++ []
def dkwX3_compile_3 : List UInt8 := [182, 1, 116, 42, 27, 154, 0, 7, 4, 167, 0, 4, 3, 181, 1, 106, 42, 42, 180, 1, 56, 181, 1, 110]
abbrev dktX3_compile_3 : List UInt8 := dkwX3_compile_3 ++ dktX3_compile_4
def dkwX3_compile_2 : List UInt8 := [181, 0, 152, 27, 154, 0, 8, 42, 182, 1, 125, 60, 42, 3, 181, 0, 94, 27, 153, 0, 7, 42]
abbrev dktX3_compile_2 : List UInt8 := dkwX3_compile_2 ++ dktX3_compile_3
def dkwX3_compile_1 : List UInt8 := [182, 1, 122, 153, 0, 7, 3, 167, 0, 12, 42, 4, 42, 180, 0, 152, 182, 1, 38, 60, 42, 3]
abbrev dktX3_compile_1 : List UInt8 := dkwX3_compile_1 ++ dktX3_compile_2
def dkwX3_compile_0 : List UInt8 := [42, 3, 181, 0, 91, 42, 182, 1, 116, 42, 2, 181, 0, 13, 42, 182, 1, 119, 42, 3, 181, 0, 152, 42]
abbrev dktX3_compile_0 : List UInt8 := dkwX3_compile_0 ++ dktX3_compile_1
theorem dksX3_compile_0 : cX3_compile.data.toList.drop 0 = dktX3_compile_0 := by decide +kernel
theorem dksX3_compile_1 : cX3_compile.data.toList.drop 24 = dktX3_compile_1 := dk_seg dksX3_compile_0 24 rfl rfl
theorem dksX3_compile_2 : cX3_compile.data.toList.drop 46 = dktX3_compile_2 := dk_seg dksX3_compile_1 22 rfl rfl
theorem dksX3_compile_3 : cX3_compile.data.toList.drop 68 = dktX3_compile_3 := dk_seg dksX3_compile_2 22 rfl rfl
theorem dksX3_compile_4 : cX3_compile.data.toList.drop 92 = dktX3_compile_4 := dk_seg dksX3_compile_3 24 rfl rfl
theorem dX3_compile_0 : decode cX3_compile 0 = .ok (.aload_n 0, 1) := dk_42 (dk_at dksX3_compile_0 0 rfl rfl)
theorem dX3_compile_1 : decode cX3_compile 1 = .ok (.iconst 0, 1) := dk_3 (dk_at dksX3_compile_0 1 rfl rfl)
theorem dX3_compile_2 : decode cX3_compile 2 = .ok (.putfield 91, 3) := dk_181 0 91 (dk_at dksX3_compile_0 2 rfl rfl)
theorem dX3_compile_5 : decode cX3_compile 5 = .ok (.aload_n 0, 1) := dk_42 (dk_at dksX3_compile_0 5 rfl rfl)
theorem dX3_compile_6 : decode cX3_compile 6 = .ok (.invokevirtual 372, 3) := dk_182 1 116 (dk_at dksX3_compile_0 6 rfl rfl)
theorem dX3_compile_9 : decode cX3_compile 9 = .ok (.aload_n 0, 1) := dk_42 (dk_at dksX3_compile_0 9 rfl rfl)
theorem dX3_compile_10 : decode cX3_compile 10 = .ok (.iconst (-1), 1) := dk_2 (dk_at dksX3_compile_0 10 rfl rfl)
theorem dX3_compile_11 : decode cX3_compile 11 = .ok (.putfield 13, 3) := dk_181 0 13 (dk_at dksX3_compile_0 11 rfl rfl)
theorem dX3_compile_14 : decode cX3_compile 14 = .ok (.aload_n 0, 1) := dk_42 (dk_at dksX3_compile_0 14 rfl rfl)
theorem dX3_compile_15 : decode cX3_compile 15 = .ok (.invokevirtual 375, 3) := dk_182 1 119 (dk_at dksX3_compile_0 15 rfl rfl)
theorem dX3_compile_18 : decode cX3_compile 18 = .ok (.aload_n 0, 1) := dk_42 (dk_at dksX3_compile_0 18 rfl rfl)
theorem dX3_compile_19 : decode cX3_compile 19 = .ok (.iconst 0, 1) := dk_3 (dk_at dksX3_compile_0 19 rfl rfl)
theorem dX3_compile_20 : decode cX3_compile 20 = .ok (.putfield 152, 3) := dk_181 0 152 (dk_at dksX3_compile_0 20 rfl rfl)
theorem dX3_compile_23 : decode cX3_compile 23 = .ok (.aload_n 0, 1) := dk_42 (dk_at dksX3_compile_0 23 rfl rfl)
theorem dX3_compile_24 : decode cX3_compile 24 = .ok (.invokevirtual 378, 3) := dk_182 1 122 (dk_at dksX3_compile_1 0 rfl rfl)
theorem dX3_compile_27 : decode cX3_compile 27 = .ok (.ifCond .eq 7, 3) := dk_153 0 7 (dk_at dksX3_compile_1 3 rfl rfl)
theorem dX3_compile_30 : decode cX3_compile 30 = .ok (.iconst 0, 1) := dk_3 (dk_at dksX3_compile_1 6 rfl rfl)
theorem dX3_compile_31 : decode cX3_compile 31 = .ok (.goto 12, 3) := dk_167 0 12 (dk_at dksX3_compile_1 7 rfl rfl)
theorem dX3_compile_34 : decode cX3_compile 34 = .ok (.aload_n 0, 1) := dk_42 (dk_at dksX3_compile_1 10 rfl rfl)
theorem dX3_compile_35 : decode cX3_compile 35 = .ok (.iconst 1, 1) := dk_4 (dk_at dksX3_compile_1 11 rfl rfl)
theorem dX3_compile_36 : decode cX3_compile 36 = .ok (.aload_n 0, 1) := dk_42 (dk_at dksX3_compile_1 12 rfl rfl)
theorem dX3_compile_37 : decode cX3_compile 37 = .ok (.getfield 152, 3) := dk_180 0 152 (dk_at dksX3_compile_1 13 rfl rfl)
theorem dX3_compile_40 : decode cX3_compile 40 = .ok (.invokevirtual 294, 3) := dk_182 1 38 (dk_at dksX3_compile_1 16 rfl rfl)
theorem dX3_compile_43 : decode cX3_compile 43 = .ok (.istore_n 1, 1) := dk_60 (dk_at dksX3_compile_1 19 rfl rfl)
theorem dX3_compile_44 : decode cX3_compile 44 = .ok (.aload_n 0, 1) := dk_42 (dk_at dksX3_compile_1 20 rfl rfl)
theorem dX3_compile_45 : decode cX3_compile 45 = .ok (.iconst 0, 1) := dk_3 (dk_at dksX3_compile_1 21 rfl rfl)
theorem dX3_compile_46 : decode cX3_compile 46 = .ok (.putfield 152, 3) := dk_181 0 152 (dk_at dksX3_compile_2 0 rfl rfl)
theorem dX3_compile_49 : decode cX3_compile 49 = .ok (.iload_n 1, 1) := dk_27 (dk_at dksX3_compile_2 3 rfl rfl)
theorem dX3_compile_50 : decode cX3_compile 50 = .ok (.ifCond .ne 8, 3) := dk_154 0 8 (dk_at dksX3_compile_2 4 rfl rfl)
theorem dX3_compile_53 : decode cX3_compile 53 = .ok (.aload_n 0, 1) := dk_42 (dk_at dksX3_compile_2 7 rfl rfl)
theorem dX3_compile_54 : decode cX3_compile 54 = .ok (.invokevirtual 381, 3) := dk_182 1 125 (dk_at dksX3_compile_2 8 rfl rfl)
theorem dX3_compile_57 : decode cX3_compile 57 = .ok (.istore_n 1, 1) := dk_60 (dk_at dksX3_compile_2 11 rfl rfl)
theorem dX3_compile_58 : decode cX3_compile 58 = .ok (.aload_n 0, 1) := dk_42 (dk_at dksX3_compile_2 12 rfl rfl)
theorem dX3_compile_59 : decode cX3_compile 59 = .ok (.iconst 0, 1) := dk_3 (dk_at dksX3_compile_2 13 rfl rfl)
theorem dX3_compile_60 : decode cX3_compile 60 = .ok (.putfield 94, 3) := dk_181 0 94 (dk_at dksX3_compile_2 14 rfl rfl)
theorem dX3_compile_63 : decode cX3_compile 63 = .ok (.iload_n 1, 1) := dk_27 (dk_at dksX3_compile_2 17 rfl rfl)
theorem dX3_compile_64 : decode cX3_compile 64 = .ok (.ifCond .eq 7, 3) := dk_153 0 7 (dk_at dksX3_compile_2 18 rfl rfl)
theorem dX3_compile_67 : decode cX3_compile 67 = .ok (.aload_n 0, 1) := dk_42 (dk_at dksX3_compile_2 21 rfl rfl)
theorem dX3_compile_68 : decode cX3_compile 68 = .ok (.invokevirtual 372, 3) := dk_182 1 116 (dk_at dksX3_compile_3 0 rfl rfl)
theorem dX3_compile_71 : decode cX3_compile 71 = .ok (.aload_n 0, 1) := dk_42 (dk_at dksX3_compile_3 3 rfl rfl)
theorem dX3_compile_72 : decode cX3_compile 72 = .ok (.iload_n 1, 1) := dk_27 (dk_at dksX3_compile_3 4 rfl rfl)
theorem dX3_compile_73 : decode cX3_compile 73 = .ok (.ifCond .ne 7, 3) := dk_154 0 7 (dk_at dksX3_compile_3 5 rfl rfl)
theorem dX3_compile_76 : decode cX3_compile 76 = .ok (.iconst 1, 1) := dk_4 (dk_at dksX3_compile_3 8 rfl rfl)
theorem dX3_compile_77 : decode cX3_compile 77 = .ok (.goto 4, 3) := dk_167 0 4 (dk_at dksX3_compile_3 9 rfl rfl)
theorem dX3_compile_80 : decode cX3_compile 80 = .ok (.iconst 0, 1) := dk_3 (dk_at dksX3_compile_3 12 rfl rfl)
theorem dX3_compile_81 : decode cX3_compile 81 = .ok (.putfield 362, 3) := dk_181 1 106 (dk_at dksX3_compile_3 13 rfl rfl)
theorem dX3_compile_84 : decode cX3_compile 84 = .ok (.aload_n 0, 1) := dk_42 (dk_at dksX3_compile_3 16 rfl rfl)
theorem dX3_compile_85 : decode cX3_compile 85 = .ok (.aload_n 0, 1) := dk_42 (dk_at dksX3_compile_3 17 rfl rfl)
theorem dX3_compile_86 : decode cX3_compile 86 = .ok (.getfield 312, 3) := dk_180 1 56 (dk_at dksX3_compile_3 18 rfl rfl)
theorem dX3_compile_89 : decode cX3_compile 89 = .ok (.putfield 366, 3) := dk_181 1 110 (dk_at dksX3_compile_3 21 rfl rfl)
theorem dX3_compile_92 : decode cX3_compile 92 = .ok (.aload_n 0, 1) := dk_42 (dk_at dksX3_compile_4 0 rfl rfl)
theorem dX3_compile_93 : decode cX3_compile 93 = .ok (.invokevirtual 384, 3) := dk_182 1 128 (dk_at dksX3_compile_4 1 rfl rfl)
theorem dX3_compile_96 : decode cX3_compile 96 = .ok (.iload_n 1, 1) := dk_27 (dk_at dksX3_compile_4 4 rfl rfl)
theorem dX3_compile_97 : decode cX3_compile 97 = .ok (.ireturn, 1) := dk_172 (dk_at dksX3_compile_4 5 rfl rfl)
abbrev cX3_forget : ByteArray := prog_34_method_51_code
def yX3_forget : MethodName := ⟨RX3, "forget", "()V"⟩
def dkwX3_forget_2 : List UInt8 := [181, 1, 113, 177]
abbrev dktX3_forget_2 : List UInt8 := dkwX3_forget_2 ++ []
def dkwX3_forget_1 : List UInt8 := [132, 1, 1, 167, 255, 241, 42, 3, 181, 1, 56, 42, 3, 181, 1, 110, 42, 2, 181, 0, 73, 42, 3]
abbrev dktX3_forget_1 : List UInt8 := dkwX3_forget_1 ++ dktX3_forget_2
def dkwX3_forget_0 : List UInt8 := [42, 3, 181, 1, 106, 42, 3, 181, 1, 28, 3, 60, 27, 7, 162, 0, 16, 42, 180, 0, 61, 27, 3, 79]
abbrev dktX3_forget_0 : List UInt8 := dkwX3_forget_0 ++ dktX3_forget_1
theorem dksX3_forget_0 : cX3_forget.data.toList.drop 0 = dktX3_forget_0 := by decide +kernel
theorem dksX3_forget_1 : cX3_forget.data.toList.drop 24 = dktX3_forget_1 := dk_seg dksX3_forget_0 24 rfl rfl
theorem dksX3_forget_2 : cX3_forget.data.toList.drop 47 = dktX3_forget_2 := dk_seg dksX3_forget_1 23 rfl rfl
theorem dX3_forget_0 : decode cX3_forget 0 = .ok (.aload_n 0, 1) := dk_42 (dk_at dksX3_forget_0 0 rfl rfl)
theorem dX3_forget_1 : decode cX3_forget 1 = .ok (.iconst 0, 1) := dk_3 (dk_at dksX3_forget_0 1 rfl rfl)
theorem dX3_forget_2 : decode cX3_forget 2 = .ok (.putfield 362, 3) := dk_181 1 106 (dk_at dksX3_forget_0 2 rfl rfl)
theorem dX3_forget_5 : decode cX3_forget 5 = .ok (.aload_n 0, 1) := dk_42 (dk_at dksX3_forget_0 5 rfl rfl)
theorem dX3_forget_6 : decode cX3_forget 6 = .ok (.iconst 0, 1) := dk_3 (dk_at dksX3_forget_0 6 rfl rfl)
theorem dX3_forget_7 : decode cX3_forget 7 = .ok (.putfield 284, 3) := dk_181 1 28 (dk_at dksX3_forget_0 7 rfl rfl)
theorem dX3_forget_10 : decode cX3_forget 10 = .ok (.iconst 0, 1) := dk_3 (dk_at dksX3_forget_0 10 rfl rfl)
theorem dX3_forget_11 : decode cX3_forget 11 = .ok (.istore_n 1, 1) := dk_60 (dk_at dksX3_forget_0 11 rfl rfl)
theorem dX3_forget_12 : decode cX3_forget 12 = .ok (.iload_n 1, 1) := dk_27 (dk_at dksX3_forget_0 12 rfl rfl)
theorem dX3_forget_13 : decode cX3_forget 13 = .ok (.iconst 4, 1) := dk_7 (dk_at dksX3_forget_0 13 rfl rfl)
theorem dX3_forget_14 : decode cX3_forget 14 = .ok (.if_icmp .ge 16, 3) := dk_162 0 16 (dk_at dksX3_forget_0 14 rfl rfl)
theorem dX3_forget_17 : decode cX3_forget 17 = .ok (.aload_n 0, 1) := dk_42 (dk_at dksX3_forget_0 17 rfl rfl)
theorem dX3_forget_18 : decode cX3_forget 18 = .ok (.getfield 61, 3) := dk_180 0 61 (dk_at dksX3_forget_0 18 rfl rfl)
theorem dX3_forget_21 : decode cX3_forget 21 = .ok (.iload_n 1, 1) := dk_27 (dk_at dksX3_forget_0 21 rfl rfl)
theorem dX3_forget_22 : decode cX3_forget 22 = .ok (.iconst 0, 1) := dk_3 (dk_at dksX3_forget_0 22 rfl rfl)
theorem dX3_forget_23 : decode cX3_forget 23 = .ok (.iastore, 1) := dk_79 (dk_at dksX3_forget_0 23 rfl rfl)
theorem dX3_forget_24 : decode cX3_forget 24 = .ok (.iinc 1 1, 3) := dk_132 1 1 (dk_at dksX3_forget_1 0 rfl rfl)
theorem dX3_forget_27 : decode cX3_forget 27 = .ok (.goto (-15), 3) := dk_167 255 241 (dk_at dksX3_forget_1 3 rfl rfl)
theorem dX3_forget_30 : decode cX3_forget 30 = .ok (.aload_n 0, 1) := dk_42 (dk_at dksX3_forget_1 6 rfl rfl)
theorem dX3_forget_31 : decode cX3_forget 31 = .ok (.iconst 0, 1) := dk_3 (dk_at dksX3_forget_1 7 rfl rfl)
theorem dX3_forget_32 : decode cX3_forget 32 = .ok (.putfield 312, 3) := dk_181 1 56 (dk_at dksX3_forget_1 8 rfl rfl)
theorem dX3_forget_35 : decode cX3_forget 35 = .ok (.aload_n 0, 1) := dk_42 (dk_at dksX3_forget_1 11 rfl rfl)
theorem dX3_forget_36 : decode cX3_forget 36 = .ok (.iconst 0, 1) := dk_3 (dk_at dksX3_forget_1 12 rfl rfl)
theorem dX3_forget_37 : decode cX3_forget 37 = .ok (.putfield 366, 3) := dk_181 1 110 (dk_at dksX3_forget_1 13 rfl rfl)
theorem dX3_forget_40 : decode cX3_forget 40 = .ok (.aload_n 0, 1) := dk_42 (dk_at dksX3_forget_1 16 rfl rfl)
theorem dX3_forget_41 : decode cX3_forget 41 = .ok (.iconst (-1), 1) := dk_2 (dk_at dksX3_forget_1 17 rfl rfl)
theorem dX3_forget_42 : decode cX3_forget 42 = .ok (.putfield 73, 3) := dk_181 0 73 (dk_at dksX3_forget_1 18 rfl rfl)
theorem dX3_forget_45 : decode cX3_forget 45 = .ok (.aload_n 0, 1) := dk_42 (dk_at dksX3_forget_1 21 rfl rfl)
theorem dX3_forget_46 : decode cX3_forget 46 = .ok (.iconst 0, 1) := dk_3 (dk_at dksX3_forget_1 22 rfl rfl)
theorem dX3_forget_47 : decode cX3_forget 47 = .ok (.putfield 369, 3) := dk_181 1 113 (dk_at dksX3_forget_2 0 rfl rfl)
theorem dX3_forget_50 : decode cX3_forget 50 = .ok (.return_, 1) := dk_177 (dk_at dksX3_forget_2 3 rfl rfl)
abbrev cX3_scan : ByteArray := prog_34_method_11_code
def yX3_scan : MethodName := ⟨RX3, "scan", "()V"⟩
def dkwX3_scan_9 : List UInt8 := [132, 1, 1, 21, 4, 61, 21, 5, 153, 0, 7, 4, 167, 0, 4, 3, 62, 167, 255, 35, 177]
abbrev dktX3_scan_9 : List UInt8 := dkwX3_scan_9 ++ []
def dkwX3_scan_8 : List UInt8 := [42, 180, 0, 17, 27, 21, 5, 79, 42, 180, 0, 20, 27, 28, 79, 42, 180, 0, 23, 27, 21, 4, 79]
abbrev dktX3_scan_8 : List UInt8 := dkwX3_scan_8 ++ dktX3_scan_9
def dkwX3_scan_7 : List UInt8 := [182, 0, 122, 184, 0, 125, 96, 54, 4, 42, 28, 182, 0, 122, 158, 0, 7, 6, 167, 0, 4, 7, 54, 5]
abbrev dktX3_scan_7 : List UInt8 := dkwX3_scan_7 ++ dktX3_scan_8
def dkwX3_scan_6 : List UInt8 := [5, 167, 0, 4, 7, 54, 5, 167, 0, 40, 28, 42, 180, 0, 94, 162, 0, 32, 21, 4, 4, 42, 28]
abbrev dktX3_scan_6 : List UInt8 := dkwX3_scan_6 ++ dktX3_scan_7
def dkwX3_scan_5 : List UInt8 := [182, 0, 105, 184, 0, 119, 153, 0, 9, 132, 4, 1, 167, 255, 241, 21, 4, 28, 100, 16, 6, 163, 0, 7]
abbrev dktX3_scan_5 : List UInt8 := dkwX3_scan_5 ++ dktX3_scan_6
def dkwX3_scan_4 : List UInt8 := [4, 167, 0, 4, 7, 54, 5, 167, 0, 88, 42, 28, 182, 0, 105, 184, 0, 119, 153, 0, 40, 42, 21, 4]
abbrev dktX3_scan_4 : List UInt8 := dkwX3_scan_4 ++ dktX3_scan_5
def dkwX3_scan_3 : List UInt8 := [182, 0, 105, 184, 0, 119, 153, 0, 9, 132, 4, 1, 167, 255, 229, 21, 4, 28, 100, 16, 8, 163, 0, 7]
abbrev dktX3_scan_3 : List UInt8 := dkwX3_scan_3 ++ dktX3_scan_4
def dkwX3_scan_2 : List UInt8 := [182, 0, 105, 184, 0, 115, 153, 0, 52, 42, 21, 4, 182, 0, 105, 184, 0, 115, 154, 0, 15, 42, 21, 4]
abbrev dktX3_scan_2 : List UInt8 := dkwX3_scan_2 ++ dktX3_scan_3
def dkwX3_scan_1 : List UInt8 := [182, 0, 105, 16, 10, 160, 0, 9, 132, 2, 1, 167, 255, 233, 28, 54, 4, 3, 54, 5, 42, 28]
abbrev dktX3_scan_1 : List UInt8 := dkwX3_scan_1 ++ dktX3_scan_2
def dkwX3_scan_0 : List UInt8 := [3, 60, 3, 61, 4, 62, 29, 153, 0, 223, 42, 28, 182, 0, 105, 16, 32, 159, 0, 13, 42, 28]
abbrev dktX3_scan_0 : List UInt8 := dkwX3_scan_0 ++ dktX3_scan_1
theorem dksX3_scan_0 : cX3_scan.data.toList.drop 0 = dktX3_scan_0 := by decide +kernel
theorem dksX3_scan_1 : cX3_scan.data.toList.drop 22 = dktX3_scan_1 := dk_seg dksX3_scan_0 22 rfl rfl
theorem dksX3_scan_2 : cX3_scan.data.toList.drop 44 = dktX3_scan_2 := dk_seg dksX3_scan_1 22 rfl rfl
theorem dksX3_scan_3 : cX3_scan.data.toList.drop 68 = dktX3_scan_3 := dk_seg dksX3_scan_2 24 rfl rfl
theorem dksX3_scan_4 : cX3_scan.data.toList.drop 92 = dktX3_scan_4 := dk_seg dksX3_scan_3 24 rfl rfl
theorem dksX3_scan_5 : cX3_scan.data.toList.drop 116 = dktX3_scan_5 := dk_seg dksX3_scan_4 24 rfl rfl
theorem dksX3_scan_6 : cX3_scan.data.toList.drop 140 = dktX3_scan_6 := dk_seg dksX3_scan_5 24 rfl rfl
theorem dksX3_scan_7 : cX3_scan.data.toList.drop 163 = dktX3_scan_7 := dk_seg dksX3_scan_6 23 rfl rfl
theorem dksX3_scan_8 : cX3_scan.data.toList.drop 187 = dktX3_scan_8 := dk_seg dksX3_scan_7 24 rfl rfl
theorem dksX3_scan_9 : cX3_scan.data.toList.drop 210 = dktX3_scan_9 := dk_seg dksX3_scan_8 23 rfl rfl
theorem dX3_scan_0 : decode cX3_scan 0 = .ok (.iconst 0, 1) := dk_3 (dk_at dksX3_scan_0 0 rfl rfl)
theorem dX3_scan_1 : decode cX3_scan 1 = .ok (.istore_n 1, 1) := dk_60 (dk_at dksX3_scan_0 1 rfl rfl)
theorem dX3_scan_2 : decode cX3_scan 2 = .ok (.iconst 0, 1) := dk_3 (dk_at dksX3_scan_0 2 rfl rfl)
theorem dX3_scan_3 : decode cX3_scan 3 = .ok (.istore_n 2, 1) := dk_61 (dk_at dksX3_scan_0 3 rfl rfl)
theorem dX3_scan_4 : decode cX3_scan 4 = .ok (.iconst 1, 1) := dk_4 (dk_at dksX3_scan_0 4 rfl rfl)
theorem dX3_scan_5 : decode cX3_scan 5 = .ok (.istore_n 3, 1) := dk_62 (dk_at dksX3_scan_0 5 rfl rfl)
theorem dX3_scan_6 : decode cX3_scan 6 = .ok (.iload_n 3, 1) := dk_29 (dk_at dksX3_scan_0 6 rfl rfl)
theorem dX3_scan_7 : decode cX3_scan 7 = .ok (.ifCond .eq 223, 3) := dk_153 0 223 (dk_at dksX3_scan_0 7 rfl rfl)
theorem dX3_scan_10 : decode cX3_scan 10 = .ok (.aload_n 0, 1) := dk_42 (dk_at dksX3_scan_0 10 rfl rfl)
theorem dX3_scan_11 : decode cX3_scan 11 = .ok (.iload_n 2, 1) := dk_28 (dk_at dksX3_scan_0 11 rfl rfl)
theorem dX3_scan_12 : decode cX3_scan 12 = .ok (.invokevirtual 105, 3) := dk_182 0 105 (dk_at dksX3_scan_0 12 rfl rfl)
theorem dX3_scan_15 : decode cX3_scan 15 = .ok (.bipush 32, 2) := dk_16 32 (dk_at dksX3_scan_0 15 rfl rfl)
theorem dX3_scan_17 : decode cX3_scan 17 = .ok (.if_icmp .eq 13, 3) := dk_159 0 13 (dk_at dksX3_scan_0 17 rfl rfl)
theorem dX3_scan_20 : decode cX3_scan 20 = .ok (.aload_n 0, 1) := dk_42 (dk_at dksX3_scan_0 20 rfl rfl)
theorem dX3_scan_21 : decode cX3_scan 21 = .ok (.iload_n 2, 1) := dk_28 (dk_at dksX3_scan_0 21 rfl rfl)
theorem dX3_scan_22 : decode cX3_scan 22 = .ok (.invokevirtual 105, 3) := dk_182 0 105 (dk_at dksX3_scan_1 0 rfl rfl)
theorem dX3_scan_25 : decode cX3_scan 25 = .ok (.bipush 10, 2) := dk_16 10 (dk_at dksX3_scan_1 3 rfl rfl)
theorem dX3_scan_27 : decode cX3_scan 27 = .ok (.if_icmp .ne 9, 3) := dk_160 0 9 (dk_at dksX3_scan_1 5 rfl rfl)
theorem dX3_scan_30 : decode cX3_scan 30 = .ok (.iinc 2 1, 3) := dk_132 2 1 (dk_at dksX3_scan_1 8 rfl rfl)
theorem dX3_scan_33 : decode cX3_scan 33 = .ok (.goto (-23), 3) := dk_167 255 233 (dk_at dksX3_scan_1 11 rfl rfl)
theorem dX3_scan_36 : decode cX3_scan 36 = .ok (.iload_n 2, 1) := dk_28 (dk_at dksX3_scan_1 14 rfl rfl)
theorem dX3_scan_37 : decode cX3_scan 37 = .ok (.istore 4, 2) := dk_54 4 (dk_at dksX3_scan_1 15 rfl rfl)
theorem dX3_scan_39 : decode cX3_scan 39 = .ok (.iconst 0, 1) := dk_3 (dk_at dksX3_scan_1 17 rfl rfl)
theorem dX3_scan_40 : decode cX3_scan 40 = .ok (.istore 5, 2) := dk_54 5 (dk_at dksX3_scan_1 18 rfl rfl)
theorem dX3_scan_42 : decode cX3_scan 42 = .ok (.aload_n 0, 1) := dk_42 (dk_at dksX3_scan_1 20 rfl rfl)
theorem dX3_scan_43 : decode cX3_scan 43 = .ok (.iload_n 2, 1) := dk_28 (dk_at dksX3_scan_1 21 rfl rfl)
theorem dX3_scan_44 : decode cX3_scan 44 = .ok (.invokevirtual 105, 3) := dk_182 0 105 (dk_at dksX3_scan_2 0 rfl rfl)
theorem dX3_scan_47 : decode cX3_scan 47 = .ok (.invokestatic 115, 3) := dk_184 0 115 (dk_at dksX3_scan_2 3 rfl rfl)
theorem dX3_scan_50 : decode cX3_scan 50 = .ok (.ifCond .eq 52, 3) := dk_153 0 52 (dk_at dksX3_scan_2 6 rfl rfl)
theorem dX3_scan_53 : decode cX3_scan 53 = .ok (.aload_n 0, 1) := dk_42 (dk_at dksX3_scan_2 9 rfl rfl)
theorem dX3_scan_54 : decode cX3_scan 54 = .ok (.iload 4, 2) := dk_21 4 (dk_at dksX3_scan_2 10 rfl rfl)
theorem dX3_scan_56 : decode cX3_scan 56 = .ok (.invokevirtual 105, 3) := dk_182 0 105 (dk_at dksX3_scan_2 12 rfl rfl)
theorem dX3_scan_59 : decode cX3_scan 59 = .ok (.invokestatic 115, 3) := dk_184 0 115 (dk_at dksX3_scan_2 15 rfl rfl)
theorem dX3_scan_62 : decode cX3_scan 62 = .ok (.ifCond .ne 15, 3) := dk_154 0 15 (dk_at dksX3_scan_2 18 rfl rfl)
theorem dX3_scan_65 : decode cX3_scan 65 = .ok (.aload_n 0, 1) := dk_42 (dk_at dksX3_scan_2 21 rfl rfl)
theorem dX3_scan_66 : decode cX3_scan 66 = .ok (.iload 4, 2) := dk_21 4 (dk_at dksX3_scan_2 22 rfl rfl)
theorem dX3_scan_68 : decode cX3_scan 68 = .ok (.invokevirtual 105, 3) := dk_182 0 105 (dk_at dksX3_scan_3 0 rfl rfl)
theorem dX3_scan_71 : decode cX3_scan 71 = .ok (.invokestatic 119, 3) := dk_184 0 119 (dk_at dksX3_scan_3 3 rfl rfl)
theorem dX3_scan_74 : decode cX3_scan 74 = .ok (.ifCond .eq 9, 3) := dk_153 0 9 (dk_at dksX3_scan_3 6 rfl rfl)
theorem dX3_scan_77 : decode cX3_scan 77 = .ok (.iinc 4 1, 3) := dk_132 4 1 (dk_at dksX3_scan_3 9 rfl rfl)
theorem dX3_scan_80 : decode cX3_scan 80 = .ok (.goto (-27), 3) := dk_167 255 229 (dk_at dksX3_scan_3 12 rfl rfl)
theorem dX3_scan_83 : decode cX3_scan 83 = .ok (.iload 4, 2) := dk_21 4 (dk_at dksX3_scan_3 15 rfl rfl)
theorem dX3_scan_85 : decode cX3_scan 85 = .ok (.iload_n 2, 1) := dk_28 (dk_at dksX3_scan_3 17 rfl rfl)
theorem dX3_scan_86 : decode cX3_scan 86 = .ok (.isub, 1) := dk_100 (dk_at dksX3_scan_3 18 rfl rfl)
theorem dX3_scan_87 : decode cX3_scan 87 = .ok (.bipush 8, 2) := dk_16 8 (dk_at dksX3_scan_3 19 rfl rfl)
theorem dX3_scan_89 : decode cX3_scan 89 = .ok (.if_icmp .gt 7, 3) := dk_163 0 7 (dk_at dksX3_scan_3 21 rfl rfl)
theorem dX3_scan_92 : decode cX3_scan 92 = .ok (.iconst 1, 1) := dk_4 (dk_at dksX3_scan_4 0 rfl rfl)
theorem dX3_scan_93 : decode cX3_scan 93 = .ok (.goto 4, 3) := dk_167 0 4 (dk_at dksX3_scan_4 1 rfl rfl)
theorem dX3_scan_96 : decode cX3_scan 96 = .ok (.iconst 4, 1) := dk_7 (dk_at dksX3_scan_4 4 rfl rfl)
theorem dX3_scan_97 : decode cX3_scan 97 = .ok (.istore 5, 2) := dk_54 5 (dk_at dksX3_scan_4 5 rfl rfl)
theorem dX3_scan_99 : decode cX3_scan 99 = .ok (.goto 88, 3) := dk_167 0 88 (dk_at dksX3_scan_4 7 rfl rfl)
theorem dX3_scan_102 : decode cX3_scan 102 = .ok (.aload_n 0, 1) := dk_42 (dk_at dksX3_scan_4 10 rfl rfl)
theorem dX3_scan_103 : decode cX3_scan 103 = .ok (.iload_n 2, 1) := dk_28 (dk_at dksX3_scan_4 11 rfl rfl)
theorem dX3_scan_104 : decode cX3_scan 104 = .ok (.invokevirtual 105, 3) := dk_182 0 105 (dk_at dksX3_scan_4 12 rfl rfl)
theorem dX3_scan_107 : decode cX3_scan 107 = .ok (.invokestatic 119, 3) := dk_184 0 119 (dk_at dksX3_scan_4 15 rfl rfl)
theorem dX3_scan_110 : decode cX3_scan 110 = .ok (.ifCond .eq 40, 3) := dk_153 0 40 (dk_at dksX3_scan_4 18 rfl rfl)
theorem dX3_scan_113 : decode cX3_scan 113 = .ok (.aload_n 0, 1) := dk_42 (dk_at dksX3_scan_4 21 rfl rfl)
theorem dX3_scan_114 : decode cX3_scan 114 = .ok (.iload 4, 2) := dk_21 4 (dk_at dksX3_scan_4 22 rfl rfl)
theorem dX3_scan_116 : decode cX3_scan 116 = .ok (.invokevirtual 105, 3) := dk_182 0 105 (dk_at dksX3_scan_5 0 rfl rfl)
theorem dX3_scan_119 : decode cX3_scan 119 = .ok (.invokestatic 119, 3) := dk_184 0 119 (dk_at dksX3_scan_5 3 rfl rfl)
theorem dX3_scan_122 : decode cX3_scan 122 = .ok (.ifCond .eq 9, 3) := dk_153 0 9 (dk_at dksX3_scan_5 6 rfl rfl)
theorem dX3_scan_125 : decode cX3_scan 125 = .ok (.iinc 4 1, 3) := dk_132 4 1 (dk_at dksX3_scan_5 9 rfl rfl)
theorem dX3_scan_128 : decode cX3_scan 128 = .ok (.goto (-15), 3) := dk_167 255 241 (dk_at dksX3_scan_5 12 rfl rfl)
theorem dX3_scan_131 : decode cX3_scan 131 = .ok (.iload 4, 2) := dk_21 4 (dk_at dksX3_scan_5 15 rfl rfl)
theorem dX3_scan_133 : decode cX3_scan 133 = .ok (.iload_n 2, 1) := dk_28 (dk_at dksX3_scan_5 17 rfl rfl)
theorem dX3_scan_134 : decode cX3_scan 134 = .ok (.isub, 1) := dk_100 (dk_at dksX3_scan_5 18 rfl rfl)
theorem dX3_scan_135 : decode cX3_scan 135 = .ok (.bipush 6, 2) := dk_16 6 (dk_at dksX3_scan_5 19 rfl rfl)
theorem dX3_scan_137 : decode cX3_scan 137 = .ok (.if_icmp .gt 7, 3) := dk_163 0 7 (dk_at dksX3_scan_5 21 rfl rfl)
theorem dX3_scan_140 : decode cX3_scan 140 = .ok (.iconst 2, 1) := dk_5 (dk_at dksX3_scan_6 0 rfl rfl)
theorem dX3_scan_141 : decode cX3_scan 141 = .ok (.goto 4, 3) := dk_167 0 4 (dk_at dksX3_scan_6 1 rfl rfl)
theorem dX3_scan_144 : decode cX3_scan 144 = .ok (.iconst 4, 1) := dk_7 (dk_at dksX3_scan_6 4 rfl rfl)
theorem dX3_scan_145 : decode cX3_scan 145 = .ok (.istore 5, 2) := dk_54 5 (dk_at dksX3_scan_6 5 rfl rfl)
theorem dX3_scan_147 : decode cX3_scan 147 = .ok (.goto 40, 3) := dk_167 0 40 (dk_at dksX3_scan_6 7 rfl rfl)
theorem dX3_scan_150 : decode cX3_scan 150 = .ok (.iload_n 2, 1) := dk_28 (dk_at dksX3_scan_6 10 rfl rfl)
theorem dX3_scan_151 : decode cX3_scan 151 = .ok (.aload_n 0, 1) := dk_42 (dk_at dksX3_scan_6 11 rfl rfl)
theorem dX3_scan_152 : decode cX3_scan 152 = .ok (.getfield 94, 3) := dk_180 0 94 (dk_at dksX3_scan_6 12 rfl rfl)
theorem dX3_scan_155 : decode cX3_scan 155 = .ok (.if_icmp .ge 32, 3) := dk_162 0 32 (dk_at dksX3_scan_6 15 rfl rfl)
theorem dX3_scan_158 : decode cX3_scan 158 = .ok (.iload 4, 2) := dk_21 4 (dk_at dksX3_scan_6 18 rfl rfl)
theorem dX3_scan_160 : decode cX3_scan 160 = .ok (.iconst 1, 1) := dk_4 (dk_at dksX3_scan_6 20 rfl rfl)
theorem dX3_scan_161 : decode cX3_scan 161 = .ok (.aload_n 0, 1) := dk_42 (dk_at dksX3_scan_6 21 rfl rfl)
theorem dX3_scan_162 : decode cX3_scan 162 = .ok (.iload_n 2, 1) := dk_28 (dk_at dksX3_scan_6 22 rfl rfl)
theorem dX3_scan_163 : decode cX3_scan 163 = .ok (.invokevirtual 122, 3) := dk_182 0 122 (dk_at dksX3_scan_7 0 rfl rfl)
theorem dX3_scan_166 : decode cX3_scan 166 = .ok (.invokestatic 125, 3) := dk_184 0 125 (dk_at dksX3_scan_7 3 rfl rfl)
theorem dX3_scan_169 : decode cX3_scan 169 = .ok (.iadd, 1) := dk_96 (dk_at dksX3_scan_7 6 rfl rfl)
theorem dX3_scan_170 : decode cX3_scan 170 = .ok (.istore 4, 2) := dk_54 4 (dk_at dksX3_scan_7 7 rfl rfl)
theorem dX3_scan_172 : decode cX3_scan 172 = .ok (.aload_n 0, 1) := dk_42 (dk_at dksX3_scan_7 9 rfl rfl)
theorem dX3_scan_173 : decode cX3_scan 173 = .ok (.iload_n 2, 1) := dk_28 (dk_at dksX3_scan_7 10 rfl rfl)
theorem dX3_scan_174 : decode cX3_scan 174 = .ok (.invokevirtual 122, 3) := dk_182 0 122 (dk_at dksX3_scan_7 11 rfl rfl)
theorem dX3_scan_177 : decode cX3_scan 177 = .ok (.ifCond .le 7, 3) := dk_158 0 7 (dk_at dksX3_scan_7 14 rfl rfl)
theorem dX3_scan_180 : decode cX3_scan 180 = .ok (.iconst 3, 1) := dk_6 (dk_at dksX3_scan_7 17 rfl rfl)
theorem dX3_scan_181 : decode cX3_scan 181 = .ok (.goto 4, 3) := dk_167 0 4 (dk_at dksX3_scan_7 18 rfl rfl)
theorem dX3_scan_184 : decode cX3_scan 184 = .ok (.iconst 4, 1) := dk_7 (dk_at dksX3_scan_7 21 rfl rfl)
theorem dX3_scan_185 : decode cX3_scan 185 = .ok (.istore 5, 2) := dk_54 5 (dk_at dksX3_scan_7 22 rfl rfl)
theorem dX3_scan_187 : decode cX3_scan 187 = .ok (.aload_n 0, 1) := dk_42 (dk_at dksX3_scan_8 0 rfl rfl)
theorem dX3_scan_188 : decode cX3_scan 188 = .ok (.getfield 17, 3) := dk_180 0 17 (dk_at dksX3_scan_8 1 rfl rfl)
theorem dX3_scan_191 : decode cX3_scan 191 = .ok (.iload_n 1, 1) := dk_27 (dk_at dksX3_scan_8 4 rfl rfl)
theorem dX3_scan_192 : decode cX3_scan 192 = .ok (.iload 5, 2) := dk_21 5 (dk_at dksX3_scan_8 5 rfl rfl)
theorem dX3_scan_194 : decode cX3_scan 194 = .ok (.iastore, 1) := dk_79 (dk_at dksX3_scan_8 7 rfl rfl)
theorem dX3_scan_195 : decode cX3_scan 195 = .ok (.aload_n 0, 1) := dk_42 (dk_at dksX3_scan_8 8 rfl rfl)
theorem dX3_scan_196 : decode cX3_scan 196 = .ok (.getfield 20, 3) := dk_180 0 20 (dk_at dksX3_scan_8 9 rfl rfl)
theorem dX3_scan_199 : decode cX3_scan 199 = .ok (.iload_n 1, 1) := dk_27 (dk_at dksX3_scan_8 12 rfl rfl)
theorem dX3_scan_200 : decode cX3_scan 200 = .ok (.iload_n 2, 1) := dk_28 (dk_at dksX3_scan_8 13 rfl rfl)
theorem dX3_scan_201 : decode cX3_scan 201 = .ok (.iastore, 1) := dk_79 (dk_at dksX3_scan_8 14 rfl rfl)
theorem dX3_scan_202 : decode cX3_scan 202 = .ok (.aload_n 0, 1) := dk_42 (dk_at dksX3_scan_8 15 rfl rfl)
theorem dX3_scan_203 : decode cX3_scan 203 = .ok (.getfield 23, 3) := dk_180 0 23 (dk_at dksX3_scan_8 16 rfl rfl)
theorem dX3_scan_206 : decode cX3_scan 206 = .ok (.iload_n 1, 1) := dk_27 (dk_at dksX3_scan_8 19 rfl rfl)
theorem dX3_scan_207 : decode cX3_scan 207 = .ok (.iload 4, 2) := dk_21 4 (dk_at dksX3_scan_8 20 rfl rfl)
theorem dX3_scan_209 : decode cX3_scan 209 = .ok (.iastore, 1) := dk_79 (dk_at dksX3_scan_8 22 rfl rfl)
theorem dX3_scan_210 : decode cX3_scan 210 = .ok (.iinc 1 1, 3) := dk_132 1 1 (dk_at dksX3_scan_9 0 rfl rfl)
theorem dX3_scan_213 : decode cX3_scan 213 = .ok (.iload 4, 2) := dk_21 4 (dk_at dksX3_scan_9 3 rfl rfl)
theorem dX3_scan_215 : decode cX3_scan 215 = .ok (.istore_n 2, 1) := dk_61 (dk_at dksX3_scan_9 5 rfl rfl)
theorem dX3_scan_216 : decode cX3_scan 216 = .ok (.iload 5, 2) := dk_21 5 (dk_at dksX3_scan_9 6 rfl rfl)
theorem dX3_scan_218 : decode cX3_scan 218 = .ok (.ifCond .eq 7, 3) := dk_153 0 7 (dk_at dksX3_scan_9 8 rfl rfl)
theorem dX3_scan_221 : decode cX3_scan 221 = .ok (.iconst 1, 1) := dk_4 (dk_at dksX3_scan_9 11 rfl rfl)
theorem dX3_scan_222 : decode cX3_scan 222 = .ok (.goto 4, 3) := dk_167 0 4 (dk_at dksX3_scan_9 12 rfl rfl)
theorem dX3_scan_225 : decode cX3_scan 225 = .ok (.iconst 0, 1) := dk_3 (dk_at dksX3_scan_9 15 rfl rfl)
theorem dX3_scan_226 : decode cX3_scan 226 = .ok (.istore_n 3, 1) := dk_62 (dk_at dksX3_scan_9 16 rfl rfl)
theorem dX3_scan_227 : decode cX3_scan 227 = .ok (.goto (-221), 3) := dk_167 255 35 (dk_at dksX3_scan_9 17 rfl rfl)
theorem dX3_scan_230 : decode cX3_scan 230 = .ok (.return_, 1) := dk_177 (dk_at dksX3_scan_9 20 rfl rfl)
abbrev cX3_byteAt : ByteArray := prog_34_method_7_code
def yX3_byteAt : MethodName := ⟨RX3, "byteAt", "(I)I"⟩
def dkwX3_byteAt_0 : List UInt8 := [27, 42, 180, 0, 94, 162, 0, 12, 42, 180, 0, 9, 27, 46, 167, 0, 4, 2, 172]
abbrev dktX3_byteAt_0 : List UInt8 := dkwX3_byteAt_0 ++ []
theorem dksX3_byteAt_0 : cX3_byteAt.data.toList.drop 0 = dktX3_byteAt_0 := by decide +kernel
theorem dX3_byteAt_0 : decode cX3_byteAt 0 = .ok (.iload_n 1, 1) := dk_27 (dk_at dksX3_byteAt_0 0 rfl rfl)
theorem dX3_byteAt_1 : decode cX3_byteAt 1 = .ok (.aload_n 0, 1) := dk_42 (dk_at dksX3_byteAt_0 1 rfl rfl)
theorem dX3_byteAt_2 : decode cX3_byteAt 2 = .ok (.getfield 94, 3) := dk_180 0 94 (dk_at dksX3_byteAt_0 2 rfl rfl)
theorem dX3_byteAt_5 : decode cX3_byteAt 5 = .ok (.if_icmp .ge 12, 3) := dk_162 0 12 (dk_at dksX3_byteAt_0 5 rfl rfl)
theorem dX3_byteAt_8 : decode cX3_byteAt 8 = .ok (.aload_n 0, 1) := dk_42 (dk_at dksX3_byteAt_0 8 rfl rfl)
theorem dX3_byteAt_9 : decode cX3_byteAt 9 = .ok (.getfield 9, 3) := dk_180 0 9 (dk_at dksX3_byteAt_0 9 rfl rfl)
theorem dX3_byteAt_12 : decode cX3_byteAt 12 = .ok (.iload_n 1, 1) := dk_27 (dk_at dksX3_byteAt_0 12 rfl rfl)
theorem dX3_byteAt_13 : decode cX3_byteAt 13 = .ok (.iaload, 1) := dk_46 (dk_at dksX3_byteAt_0 13 rfl rfl)
theorem dX3_byteAt_14 : decode cX3_byteAt 14 = .ok (.goto 4, 3) := dk_167 0 4 (dk_at dksX3_byteAt_0 14 rfl rfl)
theorem dX3_byteAt_17 : decode cX3_byteAt 17 = .ok (.iconst (-1), 1) := dk_2 (dk_at dksX3_byteAt_0 17 rfl rfl)
theorem dX3_byteAt_18 : decode cX3_byteAt 18 = .ok (.ireturn, 1) := dk_172 (dk_at dksX3_byteAt_0 18 rfl rfl)
abbrev cX3_isLetter : ByteArray := prog_34_method_8_code
def yX3_isLetter : MethodName := ⟨RX3, "isLetter", "(I)Z"⟩
def dkwX3_isLetter_0 : List UInt8 := [26, 16, 97, 16, 122, 184, 0, 101, 172]
abbrev dktX3_isLetter_0 : List UInt8 := dkwX3_isLetter_0 ++ []
theorem dksX3_isLetter_0 : cX3_isLetter.data.toList.drop 0 = dktX3_isLetter_0 := by decide +kernel
theorem dX3_isLetter_0 : decode cX3_isLetter 0 = .ok (.iload_n 0, 1) := dk_26 (dk_at dksX3_isLetter_0 0 rfl rfl)
theorem dX3_isLetter_1 : decode cX3_isLetter 1 = .ok (.bipush 97, 2) := dk_16 97 (dk_at dksX3_isLetter_0 1 rfl rfl)
theorem dX3_isLetter_3 : decode cX3_isLetter 3 = .ok (.bipush 122, 2) := dk_16 122 (dk_at dksX3_isLetter_0 3 rfl rfl)
theorem dX3_isLetter_5 : decode cX3_isLetter 5 = .ok (.invokestatic 101, 3) := dk_184 0 101 (dk_at dksX3_isLetter_0 5 rfl rfl)
theorem dX3_isLetter_8 : decode cX3_isLetter 8 = .ok (.ireturn, 1) := dk_172 (dk_at dksX3_isLetter_0 8 rfl rfl)
abbrev cX3_isDigit : ByteArray := prog_34_method_9_code
def yX3_isDigit : MethodName := ⟨RX3, "isDigit", "(I)Z"⟩
def dkwX3_isDigit_0 : List UInt8 := [26, 16, 48, 16, 57, 184, 0, 101, 172]
abbrev dktX3_isDigit_0 : List UInt8 := dkwX3_isDigit_0 ++ []
theorem dksX3_isDigit_0 : cX3_isDigit.data.toList.drop 0 = dktX3_isDigit_0 := by decide +kernel
theorem dX3_isDigit_0 : decode cX3_isDigit 0 = .ok (.iload_n 0, 1) := dk_26 (dk_at dksX3_isDigit_0 0 rfl rfl)
theorem dX3_isDigit_1 : decode cX3_isDigit 1 = .ok (.bipush 48, 2) := dk_16 48 (dk_at dksX3_isDigit_0 1 rfl rfl)
theorem dX3_isDigit_3 : decode cX3_isDigit 3 = .ok (.bipush 57, 2) := dk_16 57 (dk_at dksX3_isDigit_0 3 rfl rfl)
theorem dX3_isDigit_5 : decode cX3_isDigit 5 = .ok (.invokestatic 101, 3) := dk_184 0 101 (dk_at dksX3_isDigit_0 5 rfl rfl)
theorem dX3_isDigit_8 : decode cX3_isDigit 8 = .ok (.ireturn, 1) := dk_172 (dk_at dksX3_isDigit_0 8 rfl rfl)
abbrev cX3_symbolAt : ByteArray := prog_34_method_10_code
def yX3_symbolAt : MethodName := ⟨RX3, "symbolAt", "(I)I"⟩
def dkwX3_symbolAt_4 : List UInt8 := [182, 0, 110, 155, 0, 7, 4, 167, 0, 4, 3, 172]
abbrev dktX3_symbolAt_4 : List UInt8 := dkwX3_symbolAt_4 ++ []
def dkwX3_symbolAt_3 : List UInt8 := [160, 0, 7, 4, 167, 0, 4, 3, 54, 4, 21, 4, 153, 0, 5, 5, 172, 28, 158, 0, 16, 18, 108, 28]
abbrev dktX3_symbolAt_3 : List UInt8 := dkwX3_symbolAt_3 ++ dktX3_symbolAt_4
def dkwX3_symbolAt_2 : List UInt8 := [160, 0, 15, 29, 16, 61, 159, 0, 21, 29, 16, 62, 159, 0, 15, 28, 16, 62, 160, 0, 13, 29, 16, 61]
abbrev dktX3_symbolAt_2 : List UInt8 := dkwX3_symbolAt_2 ++ dktX3_symbolAt_3
def dkwX3_symbolAt_1 : List UInt8 := [160, 0, 7, 5, 167, 0, 4, 3, 172, 28, 16, 58, 160, 0, 9, 29, 16, 61, 159, 0, 33, 28, 16, 60]
abbrev dktX3_symbolAt_1 : List UInt8 := dkwX3_symbolAt_1 ++ dktX3_symbolAt_2
def dkwX3_symbolAt_0 : List UInt8 := [42, 27, 182, 0, 105, 61, 42, 27, 4, 96, 182, 0, 105, 62, 28, 16, 46, 160, 0, 15, 29, 16, 46]
abbrev dktX3_symbolAt_0 : List UInt8 := dkwX3_symbolAt_0 ++ dktX3_symbolAt_1
theorem dksX3_symbolAt_0 : cX3_symbolAt.data.toList.drop 0 = dktX3_symbolAt_0 := by decide +kernel
theorem dksX3_symbolAt_1 : cX3_symbolAt.data.toList.drop 23 = dktX3_symbolAt_1 := dk_seg dksX3_symbolAt_0 23 rfl rfl
theorem dksX3_symbolAt_2 : cX3_symbolAt.data.toList.drop 47 = dktX3_symbolAt_2 := dk_seg dksX3_symbolAt_1 24 rfl rfl
theorem dksX3_symbolAt_3 : cX3_symbolAt.data.toList.drop 71 = dktX3_symbolAt_3 := dk_seg dksX3_symbolAt_2 24 rfl rfl
theorem dksX3_symbolAt_4 : cX3_symbolAt.data.toList.drop 95 = dktX3_symbolAt_4 := dk_seg dksX3_symbolAt_3 24 rfl rfl
theorem dX3_symbolAt_0 : decode cX3_symbolAt 0 = .ok (.aload_n 0, 1) := dk_42 (dk_at dksX3_symbolAt_0 0 rfl rfl)
theorem dX3_symbolAt_1 : decode cX3_symbolAt 1 = .ok (.iload_n 1, 1) := dk_27 (dk_at dksX3_symbolAt_0 1 rfl rfl)
theorem dX3_symbolAt_2 : decode cX3_symbolAt 2 = .ok (.invokevirtual 105, 3) := dk_182 0 105 (dk_at dksX3_symbolAt_0 2 rfl rfl)
theorem dX3_symbolAt_5 : decode cX3_symbolAt 5 = .ok (.istore_n 2, 1) := dk_61 (dk_at dksX3_symbolAt_0 5 rfl rfl)
theorem dX3_symbolAt_6 : decode cX3_symbolAt 6 = .ok (.aload_n 0, 1) := dk_42 (dk_at dksX3_symbolAt_0 6 rfl rfl)
theorem dX3_symbolAt_7 : decode cX3_symbolAt 7 = .ok (.iload_n 1, 1) := dk_27 (dk_at dksX3_symbolAt_0 7 rfl rfl)
theorem dX3_symbolAt_8 : decode cX3_symbolAt 8 = .ok (.iconst 1, 1) := dk_4 (dk_at dksX3_symbolAt_0 8 rfl rfl)
theorem dX3_symbolAt_9 : decode cX3_symbolAt 9 = .ok (.iadd, 1) := dk_96 (dk_at dksX3_symbolAt_0 9 rfl rfl)
theorem dX3_symbolAt_10 : decode cX3_symbolAt 10 = .ok (.invokevirtual 105, 3) := dk_182 0 105 (dk_at dksX3_symbolAt_0 10 rfl rfl)
theorem dX3_symbolAt_13 : decode cX3_symbolAt 13 = .ok (.istore_n 3, 1) := dk_62 (dk_at dksX3_symbolAt_0 13 rfl rfl)
theorem dX3_symbolAt_14 : decode cX3_symbolAt 14 = .ok (.iload_n 2, 1) := dk_28 (dk_at dksX3_symbolAt_0 14 rfl rfl)
theorem dX3_symbolAt_15 : decode cX3_symbolAt 15 = .ok (.bipush 46, 2) := dk_16 46 (dk_at dksX3_symbolAt_0 15 rfl rfl)
theorem dX3_symbolAt_17 : decode cX3_symbolAt 17 = .ok (.if_icmp .ne 15, 3) := dk_160 0 15 (dk_at dksX3_symbolAt_0 17 rfl rfl)
theorem dX3_symbolAt_20 : decode cX3_symbolAt 20 = .ok (.iload_n 3, 1) := dk_29 (dk_at dksX3_symbolAt_0 20 rfl rfl)
theorem dX3_symbolAt_21 : decode cX3_symbolAt 21 = .ok (.bipush 46, 2) := dk_16 46 (dk_at dksX3_symbolAt_0 21 rfl rfl)
theorem dX3_symbolAt_23 : decode cX3_symbolAt 23 = .ok (.if_icmp .ne 7, 3) := dk_160 0 7 (dk_at dksX3_symbolAt_1 0 rfl rfl)
theorem dX3_symbolAt_26 : decode cX3_symbolAt 26 = .ok (.iconst 2, 1) := dk_5 (dk_at dksX3_symbolAt_1 3 rfl rfl)
theorem dX3_symbolAt_27 : decode cX3_symbolAt 27 = .ok (.goto 4, 3) := dk_167 0 4 (dk_at dksX3_symbolAt_1 4 rfl rfl)
theorem dX3_symbolAt_30 : decode cX3_symbolAt 30 = .ok (.iconst 0, 1) := dk_3 (dk_at dksX3_symbolAt_1 7 rfl rfl)
theorem dX3_symbolAt_31 : decode cX3_symbolAt 31 = .ok (.ireturn, 1) := dk_172 (dk_at dksX3_symbolAt_1 8 rfl rfl)
theorem dX3_symbolAt_32 : decode cX3_symbolAt 32 = .ok (.iload_n 2, 1) := dk_28 (dk_at dksX3_symbolAt_1 9 rfl rfl)
theorem dX3_symbolAt_33 : decode cX3_symbolAt 33 = .ok (.bipush 58, 2) := dk_16 58 (dk_at dksX3_symbolAt_1 10 rfl rfl)
theorem dX3_symbolAt_35 : decode cX3_symbolAt 35 = .ok (.if_icmp .ne 9, 3) := dk_160 0 9 (dk_at dksX3_symbolAt_1 12 rfl rfl)
theorem dX3_symbolAt_38 : decode cX3_symbolAt 38 = .ok (.iload_n 3, 1) := dk_29 (dk_at dksX3_symbolAt_1 15 rfl rfl)
theorem dX3_symbolAt_39 : decode cX3_symbolAt 39 = .ok (.bipush 61, 2) := dk_16 61 (dk_at dksX3_symbolAt_1 16 rfl rfl)
theorem dX3_symbolAt_41 : decode cX3_symbolAt 41 = .ok (.if_icmp .eq 33, 3) := dk_159 0 33 (dk_at dksX3_symbolAt_1 18 rfl rfl)
theorem dX3_symbolAt_44 : decode cX3_symbolAt 44 = .ok (.iload_n 2, 1) := dk_28 (dk_at dksX3_symbolAt_1 21 rfl rfl)
theorem dX3_symbolAt_45 : decode cX3_symbolAt 45 = .ok (.bipush 60, 2) := dk_16 60 (dk_at dksX3_symbolAt_1 22 rfl rfl)
theorem dX3_symbolAt_47 : decode cX3_symbolAt 47 = .ok (.if_icmp .ne 15, 3) := dk_160 0 15 (dk_at dksX3_symbolAt_2 0 rfl rfl)
theorem dX3_symbolAt_50 : decode cX3_symbolAt 50 = .ok (.iload_n 3, 1) := dk_29 (dk_at dksX3_symbolAt_2 3 rfl rfl)
theorem dX3_symbolAt_51 : decode cX3_symbolAt 51 = .ok (.bipush 61, 2) := dk_16 61 (dk_at dksX3_symbolAt_2 4 rfl rfl)
theorem dX3_symbolAt_53 : decode cX3_symbolAt 53 = .ok (.if_icmp .eq 21, 3) := dk_159 0 21 (dk_at dksX3_symbolAt_2 6 rfl rfl)
theorem dX3_symbolAt_56 : decode cX3_symbolAt 56 = .ok (.iload_n 3, 1) := dk_29 (dk_at dksX3_symbolAt_2 9 rfl rfl)
theorem dX3_symbolAt_57 : decode cX3_symbolAt 57 = .ok (.bipush 62, 2) := dk_16 62 (dk_at dksX3_symbolAt_2 10 rfl rfl)
theorem dX3_symbolAt_59 : decode cX3_symbolAt 59 = .ok (.if_icmp .eq 15, 3) := dk_159 0 15 (dk_at dksX3_symbolAt_2 12 rfl rfl)
theorem dX3_symbolAt_62 : decode cX3_symbolAt 62 = .ok (.iload_n 2, 1) := dk_28 (dk_at dksX3_symbolAt_2 15 rfl rfl)
theorem dX3_symbolAt_63 : decode cX3_symbolAt 63 = .ok (.bipush 62, 2) := dk_16 62 (dk_at dksX3_symbolAt_2 16 rfl rfl)
theorem dX3_symbolAt_65 : decode cX3_symbolAt 65 = .ok (.if_icmp .ne 13, 3) := dk_160 0 13 (dk_at dksX3_symbolAt_2 18 rfl rfl)
theorem dX3_symbolAt_68 : decode cX3_symbolAt 68 = .ok (.iload_n 3, 1) := dk_29 (dk_at dksX3_symbolAt_2 21 rfl rfl)
theorem dX3_symbolAt_69 : decode cX3_symbolAt 69 = .ok (.bipush 61, 2) := dk_16 61 (dk_at dksX3_symbolAt_2 22 rfl rfl)
theorem dX3_symbolAt_71 : decode cX3_symbolAt 71 = .ok (.if_icmp .ne 7, 3) := dk_160 0 7 (dk_at dksX3_symbolAt_3 0 rfl rfl)
theorem dX3_symbolAt_74 : decode cX3_symbolAt 74 = .ok (.iconst 1, 1) := dk_4 (dk_at dksX3_symbolAt_3 3 rfl rfl)
theorem dX3_symbolAt_75 : decode cX3_symbolAt 75 = .ok (.goto 4, 3) := dk_167 0 4 (dk_at dksX3_symbolAt_3 4 rfl rfl)
theorem dX3_symbolAt_78 : decode cX3_symbolAt 78 = .ok (.iconst 0, 1) := dk_3 (dk_at dksX3_symbolAt_3 7 rfl rfl)
theorem dX3_symbolAt_79 : decode cX3_symbolAt 79 = .ok (.istore 4, 2) := dk_54 4 (dk_at dksX3_symbolAt_3 8 rfl rfl)
theorem dX3_symbolAt_81 : decode cX3_symbolAt 81 = .ok (.iload 4, 2) := dk_21 4 (dk_at dksX3_symbolAt_3 10 rfl rfl)
theorem dX3_symbolAt_83 : decode cX3_symbolAt 83 = .ok (.ifCond .eq 5, 3) := dk_153 0 5 (dk_at dksX3_symbolAt_3 12 rfl rfl)
theorem dX3_symbolAt_86 : decode cX3_symbolAt 86 = .ok (.iconst 2, 1) := dk_5 (dk_at dksX3_symbolAt_3 15 rfl rfl)
theorem dX3_symbolAt_87 : decode cX3_symbolAt 87 = .ok (.ireturn, 1) := dk_172 (dk_at dksX3_symbolAt_3 16 rfl rfl)
theorem dX3_symbolAt_88 : decode cX3_symbolAt 88 = .ok (.iload_n 2, 1) := dk_28 (dk_at dksX3_symbolAt_3 17 rfl rfl)
theorem dX3_symbolAt_89 : decode cX3_symbolAt 89 = .ok (.ifCond .le 16, 3) := dk_158 0 16 (dk_at dksX3_symbolAt_3 18 rfl rfl)
theorem dX3_symbolAt_92 : decode cX3_symbolAt 92 = .ok (.ldc 108, 2) := dk_18 108 (dk_at dksX3_symbolAt_3 21 rfl rfl)
theorem dX3_symbolAt_94 : decode cX3_symbolAt 94 = .ok (.iload_n 2, 1) := dk_28 (dk_at dksX3_symbolAt_3 23 rfl rfl)
theorem dX3_symbolAt_95 : decode cX3_symbolAt 95 = .ok (.invokevirtual 110, 3) := dk_182 0 110 (dk_at dksX3_symbolAt_4 0 rfl rfl)
theorem dX3_symbolAt_98 : decode cX3_symbolAt 98 = .ok (.ifCond .lt 7, 3) := dk_155 0 7 (dk_at dksX3_symbolAt_4 3 rfl rfl)
theorem dX3_symbolAt_101 : decode cX3_symbolAt 101 = .ok (.iconst 1, 1) := dk_4 (dk_at dksX3_symbolAt_4 6 rfl rfl)
theorem dX3_symbolAt_102 : decode cX3_symbolAt 102 = .ok (.goto 4, 3) := dk_167 0 4 (dk_at dksX3_symbolAt_4 7 rfl rfl)
theorem dX3_symbolAt_105 : decode cX3_symbolAt 105 = .ok (.iconst 0, 1) := dk_3 (dk_at dksX3_symbolAt_4 10 rfl rfl)
theorem dX3_symbolAt_106 : decode cX3_symbolAt 106 = .ok (.ireturn, 1) := dk_172 (dk_at dksX3_symbolAt_4 11 rfl rfl)
abbrev cX3_program : ByteArray := prog_34_method_22_code
def yX3_program : MethodName := ⟨RX3, "program", "()Z"⟩
def dkwX3_program_0 : List UInt8 := [42, 182, 0, 166, 154, 0, 5, 3, 172, 42, 180, 0, 17, 42, 180, 0, 152, 46, 154, 255, 238, 4, 172]
abbrev dktX3_program_0 : List UInt8 := dkwX3_program_0 ++ []
theorem dksX3_program_0 : cX3_program.data.toList.drop 0 = dktX3_program_0 := by decide +kernel
theorem dX3_program_0 : decode cX3_program 0 = .ok (.aload_n 0, 1) := dk_42 (dk_at dksX3_program_0 0 rfl rfl)
theorem dX3_program_1 : decode cX3_program 1 = .ok (.invokevirtual 166, 3) := dk_182 0 166 (dk_at dksX3_program_0 1 rfl rfl)
theorem dX3_program_4 : decode cX3_program 4 = .ok (.ifCond .ne 5, 3) := dk_154 0 5 (dk_at dksX3_program_0 4 rfl rfl)
theorem dX3_program_7 : decode cX3_program 7 = .ok (.iconst 0, 1) := dk_3 (dk_at dksX3_program_0 7 rfl rfl)
theorem dX3_program_8 : decode cX3_program 8 = .ok (.ireturn, 1) := dk_172 (dk_at dksX3_program_0 8 rfl rfl)
theorem dX3_program_9 : decode cX3_program 9 = .ok (.aload_n 0, 1) := dk_42 (dk_at dksX3_program_0 9 rfl rfl)
theorem dX3_program_10 : decode cX3_program 10 = .ok (.getfield 17, 3) := dk_180 0 17 (dk_at dksX3_program_0 10 rfl rfl)
theorem dX3_program_13 : decode cX3_program 13 = .ok (.aload_n 0, 1) := dk_42 (dk_at dksX3_program_0 13 rfl rfl)
theorem dX3_program_14 : decode cX3_program 14 = .ok (.getfield 152, 3) := dk_180 0 152 (dk_at dksX3_program_0 14 rfl rfl)
theorem dX3_program_17 : decode cX3_program 17 = .ok (.iaload, 1) := dk_46 (dk_at dksX3_program_0 17 rfl rfl)
theorem dX3_program_18 : decode cX3_program 18 = .ok (.ifCond .ne (-18), 3) := dk_154 255 238 (dk_at dksX3_program_0 18 rfl rfl)
theorem dX3_program_21 : decode cX3_program 21 = .ok (.iconst 1, 1) := dk_4 (dk_at dksX3_program_0 21 rfl rfl)
theorem dX3_program_22 : decode cX3_program 22 = .ok (.ireturn, 1) := dk_172 (dk_at dksX3_program_0 22 rfl rfl)
abbrev cX3_item : ByteArray := prog_34_method_23_code
def yX3_item : MethodName := ⟨RX3, "item", "()Z"⟩
def dkwX3_item_9 : List UInt8 := [153, 0, 16, 42, 18, 184, 182, 0, 171, 153, 0, 7, 4, 167, 0, 4, 3, 172]
abbrev dktX3_item_9 : List UInt8 := dkwX3_item_9 ++ []
def dkwX3_item_8 : List UInt8 := [153, 0, 39, 42, 18, 202, 182, 0, 155, 153, 0, 17, 42, 182, 0, 159, 153, 0, 23, 42, 182, 0, 181]
abbrev dktX3_item_8 : List UInt8 := dkwX3_item_8 ++ dktX3_item_9
def dkwX3_item_7 : List UInt8 := [153, 0, 63, 42, 182, 0, 174, 153, 0, 56, 42, 18, 200, 182, 0, 171, 153, 0, 47, 42, 3, 182, 0, 190]
abbrev dktX3_item_7 : List UInt8 := dkwX3_item_7 ++ dktX3_item_8
def dkwX3_item_6 : List UInt8 := [153, 0, 16, 42, 18, 184, 182, 0, 171, 153, 0, 7, 4, 167, 0, 4, 3, 172, 42, 18, 198, 182, 0, 171]
abbrev dktX3_item_6 : List UInt8 := dkwX3_item_6 ++ dktX3_item_7
def dkwX3_item_5 : List UInt8 := [153, 0, 42, 42, 182, 0, 174, 153, 0, 33, 42, 18, 177, 182, 0, 171, 153, 0, 24, 42, 3, 182, 0, 195]
abbrev dktX3_item_5 : List UInt8 := dkwX3_item_5 ++ dktX3_item_6
def dkwX3_item_4 : List UInt8 := [153, 0, 16, 42, 18, 184, 182, 0, 171, 153, 0, 7, 4, 167, 0, 4, 3, 172, 42, 18, 193, 182, 0, 171]
abbrev dktX3_item_4 : List UInt8 := dkwX3_item_4 ++ dktX3_item_5
def dkwX3_item_3 : List UInt8 := [153, 0, 42, 42, 182, 0, 174, 153, 0, 33, 42, 18, 188, 182, 0, 171, 153, 0, 24, 42, 3, 182, 0, 190]
abbrev dktX3_item_3 : List UInt8 := dkwX3_item_3 ++ dktX3_item_4
def dkwX3_item_2 : List UInt8 := [153, 0, 16, 42, 18, 184, 182, 0, 171, 153, 0, 7, 4, 167, 0, 4, 3, 172, 42, 18, 186, 182, 0, 171]
abbrev dktX3_item_2 : List UInt8 := dkwX3_item_2 ++ dktX3_item_3
def dkwX3_item_1 : List UInt8 := [153, 0, 39, 42, 18, 179, 182, 0, 155, 153, 0, 10, 42, 182, 0, 159, 153, 0, 23, 42, 182, 0, 181]
abbrev dktX3_item_1 : List UInt8 := dkwX3_item_1 ++ dktX3_item_2
def dkwX3_item_0 : List UInt8 := [42, 18, 169, 182, 0, 171, 153, 0, 57, 42, 182, 0, 174, 153, 0, 48, 42, 18, 177, 182, 0, 171]
abbrev dktX3_item_0 : List UInt8 := dkwX3_item_0 ++ dktX3_item_1
theorem dksX3_item_0 : cX3_item.data.toList.drop 0 = dktX3_item_0 := by decide +kernel
theorem dksX3_item_1 : cX3_item.data.toList.drop 22 = dktX3_item_1 := dk_seg dksX3_item_0 22 rfl rfl
theorem dksX3_item_2 : cX3_item.data.toList.drop 45 = dktX3_item_2 := dk_seg dksX3_item_1 23 rfl rfl
theorem dksX3_item_3 : cX3_item.data.toList.drop 69 = dktX3_item_3 := dk_seg dksX3_item_2 24 rfl rfl
theorem dksX3_item_4 : cX3_item.data.toList.drop 93 = dktX3_item_4 := dk_seg dksX3_item_3 24 rfl rfl
theorem dksX3_item_5 : cX3_item.data.toList.drop 117 = dktX3_item_5 := dk_seg dksX3_item_4 24 rfl rfl
theorem dksX3_item_6 : cX3_item.data.toList.drop 141 = dktX3_item_6 := dk_seg dksX3_item_5 24 rfl rfl
theorem dksX3_item_7 : cX3_item.data.toList.drop 165 = dktX3_item_7 := dk_seg dksX3_item_6 24 rfl rfl
theorem dksX3_item_8 : cX3_item.data.toList.drop 189 = dktX3_item_8 := dk_seg dksX3_item_7 24 rfl rfl
theorem dksX3_item_9 : cX3_item.data.toList.drop 212 = dktX3_item_9 := dk_seg dksX3_item_8 23 rfl rfl
theorem dX3_item_0 : decode cX3_item 0 = .ok (.aload_n 0, 1) := dk_42 (dk_at dksX3_item_0 0 rfl rfl)
theorem dX3_item_1 : decode cX3_item 1 = .ok (.ldc 169, 2) := dk_18 169 (dk_at dksX3_item_0 1 rfl rfl)
theorem dX3_item_3 : decode cX3_item 3 = .ok (.invokevirtual 171, 3) := dk_182 0 171 (dk_at dksX3_item_0 3 rfl rfl)
theorem dX3_item_6 : decode cX3_item 6 = .ok (.ifCond .eq 57, 3) := dk_153 0 57 (dk_at dksX3_item_0 6 rfl rfl)
theorem dX3_item_9 : decode cX3_item 9 = .ok (.aload_n 0, 1) := dk_42 (dk_at dksX3_item_0 9 rfl rfl)
theorem dX3_item_10 : decode cX3_item 10 = .ok (.invokevirtual 174, 3) := dk_182 0 174 (dk_at dksX3_item_0 10 rfl rfl)
theorem dX3_item_13 : decode cX3_item 13 = .ok (.ifCond .eq 48, 3) := dk_153 0 48 (dk_at dksX3_item_0 13 rfl rfl)
theorem dX3_item_16 : decode cX3_item 16 = .ok (.aload_n 0, 1) := dk_42 (dk_at dksX3_item_0 16 rfl rfl)
theorem dX3_item_17 : decode cX3_item 17 = .ok (.ldc 177, 2) := dk_18 177 (dk_at dksX3_item_0 17 rfl rfl)
theorem dX3_item_19 : decode cX3_item 19 = .ok (.invokevirtual 171, 3) := dk_182 0 171 (dk_at dksX3_item_0 19 rfl rfl)
theorem dX3_item_22 : decode cX3_item 22 = .ok (.ifCond .eq 39, 3) := dk_153 0 39 (dk_at dksX3_item_1 0 rfl rfl)
theorem dX3_item_25 : decode cX3_item 25 = .ok (.aload_n 0, 1) := dk_42 (dk_at dksX3_item_1 3 rfl rfl)
theorem dX3_item_26 : decode cX3_item 26 = .ok (.ldc 179, 2) := dk_18 179 (dk_at dksX3_item_1 4 rfl rfl)
theorem dX3_item_28 : decode cX3_item 28 = .ok (.invokevirtual 155, 3) := dk_182 0 155 (dk_at dksX3_item_1 6 rfl rfl)
theorem dX3_item_31 : decode cX3_item 31 = .ok (.ifCond .eq 10, 3) := dk_153 0 10 (dk_at dksX3_item_1 9 rfl rfl)
theorem dX3_item_34 : decode cX3_item 34 = .ok (.aload_n 0, 1) := dk_42 (dk_at dksX3_item_1 12 rfl rfl)
theorem dX3_item_35 : decode cX3_item 35 = .ok (.invokevirtual 159, 3) := dk_182 0 159 (dk_at dksX3_item_1 13 rfl rfl)
theorem dX3_item_38 : decode cX3_item 38 = .ok (.ifCond .eq 23, 3) := dk_153 0 23 (dk_at dksX3_item_1 16 rfl rfl)
theorem dX3_item_41 : decode cX3_item 41 = .ok (.aload_n 0, 1) := dk_42 (dk_at dksX3_item_1 19 rfl rfl)
theorem dX3_item_42 : decode cX3_item 42 = .ok (.invokevirtual 181, 3) := dk_182 0 181 (dk_at dksX3_item_1 20 rfl rfl)
theorem dX3_item_45 : decode cX3_item 45 = .ok (.ifCond .eq 16, 3) := dk_153 0 16 (dk_at dksX3_item_2 0 rfl rfl)
theorem dX3_item_48 : decode cX3_item 48 = .ok (.aload_n 0, 1) := dk_42 (dk_at dksX3_item_2 3 rfl rfl)
theorem dX3_item_49 : decode cX3_item 49 = .ok (.ldc 184, 2) := dk_18 184 (dk_at dksX3_item_2 4 rfl rfl)
theorem dX3_item_51 : decode cX3_item 51 = .ok (.invokevirtual 171, 3) := dk_182 0 171 (dk_at dksX3_item_2 6 rfl rfl)
theorem dX3_item_54 : decode cX3_item 54 = .ok (.ifCond .eq 7, 3) := dk_153 0 7 (dk_at dksX3_item_2 9 rfl rfl)
theorem dX3_item_57 : decode cX3_item 57 = .ok (.iconst 1, 1) := dk_4 (dk_at dksX3_item_2 12 rfl rfl)
theorem dX3_item_58 : decode cX3_item 58 = .ok (.goto 4, 3) := dk_167 0 4 (dk_at dksX3_item_2 13 rfl rfl)
theorem dX3_item_61 : decode cX3_item 61 = .ok (.iconst 0, 1) := dk_3 (dk_at dksX3_item_2 16 rfl rfl)
theorem dX3_item_62 : decode cX3_item 62 = .ok (.ireturn, 1) := dk_172 (dk_at dksX3_item_2 17 rfl rfl)
theorem dX3_item_63 : decode cX3_item 63 = .ok (.aload_n 0, 1) := dk_42 (dk_at dksX3_item_2 18 rfl rfl)
theorem dX3_item_64 : decode cX3_item 64 = .ok (.ldc 186, 2) := dk_18 186 (dk_at dksX3_item_2 19 rfl rfl)
theorem dX3_item_66 : decode cX3_item 66 = .ok (.invokevirtual 171, 3) := dk_182 0 171 (dk_at dksX3_item_2 21 rfl rfl)
theorem dX3_item_69 : decode cX3_item 69 = .ok (.ifCond .eq 42, 3) := dk_153 0 42 (dk_at dksX3_item_3 0 rfl rfl)
theorem dX3_item_72 : decode cX3_item 72 = .ok (.aload_n 0, 1) := dk_42 (dk_at dksX3_item_3 3 rfl rfl)
theorem dX3_item_73 : decode cX3_item 73 = .ok (.invokevirtual 174, 3) := dk_182 0 174 (dk_at dksX3_item_3 4 rfl rfl)
theorem dX3_item_76 : decode cX3_item 76 = .ok (.ifCond .eq 33, 3) := dk_153 0 33 (dk_at dksX3_item_3 7 rfl rfl)
theorem dX3_item_79 : decode cX3_item 79 = .ok (.aload_n 0, 1) := dk_42 (dk_at dksX3_item_3 10 rfl rfl)
theorem dX3_item_80 : decode cX3_item 80 = .ok (.ldc 188, 2) := dk_18 188 (dk_at dksX3_item_3 11 rfl rfl)
theorem dX3_item_82 : decode cX3_item 82 = .ok (.invokevirtual 171, 3) := dk_182 0 171 (dk_at dksX3_item_3 13 rfl rfl)
theorem dX3_item_85 : decode cX3_item 85 = .ok (.ifCond .eq 24, 3) := dk_153 0 24 (dk_at dksX3_item_3 16 rfl rfl)
theorem dX3_item_88 : decode cX3_item 88 = .ok (.aload_n 0, 1) := dk_42 (dk_at dksX3_item_3 19 rfl rfl)
theorem dX3_item_89 : decode cX3_item 89 = .ok (.iconst 0, 1) := dk_3 (dk_at dksX3_item_3 20 rfl rfl)
theorem dX3_item_90 : decode cX3_item 90 = .ok (.invokevirtual 190, 3) := dk_182 0 190 (dk_at dksX3_item_3 21 rfl rfl)
theorem dX3_item_93 : decode cX3_item 93 = .ok (.ifCond .eq 16, 3) := dk_153 0 16 (dk_at dksX3_item_4 0 rfl rfl)
theorem dX3_item_96 : decode cX3_item 96 = .ok (.aload_n 0, 1) := dk_42 (dk_at dksX3_item_4 3 rfl rfl)
theorem dX3_item_97 : decode cX3_item 97 = .ok (.ldc 184, 2) := dk_18 184 (dk_at dksX3_item_4 4 rfl rfl)
theorem dX3_item_99 : decode cX3_item 99 = .ok (.invokevirtual 171, 3) := dk_182 0 171 (dk_at dksX3_item_4 6 rfl rfl)
theorem dX3_item_102 : decode cX3_item 102 = .ok (.ifCond .eq 7, 3) := dk_153 0 7 (dk_at dksX3_item_4 9 rfl rfl)
theorem dX3_item_105 : decode cX3_item 105 = .ok (.iconst 1, 1) := dk_4 (dk_at dksX3_item_4 12 rfl rfl)
theorem dX3_item_106 : decode cX3_item 106 = .ok (.goto 4, 3) := dk_167 0 4 (dk_at dksX3_item_4 13 rfl rfl)
theorem dX3_item_109 : decode cX3_item 109 = .ok (.iconst 0, 1) := dk_3 (dk_at dksX3_item_4 16 rfl rfl)
theorem dX3_item_110 : decode cX3_item 110 = .ok (.ireturn, 1) := dk_172 (dk_at dksX3_item_4 17 rfl rfl)
theorem dX3_item_111 : decode cX3_item 111 = .ok (.aload_n 0, 1) := dk_42 (dk_at dksX3_item_4 18 rfl rfl)
theorem dX3_item_112 : decode cX3_item 112 = .ok (.ldc 193, 2) := dk_18 193 (dk_at dksX3_item_4 19 rfl rfl)
theorem dX3_item_114 : decode cX3_item 114 = .ok (.invokevirtual 171, 3) := dk_182 0 171 (dk_at dksX3_item_4 21 rfl rfl)
theorem dX3_item_117 : decode cX3_item 117 = .ok (.ifCond .eq 42, 3) := dk_153 0 42 (dk_at dksX3_item_5 0 rfl rfl)
theorem dX3_item_120 : decode cX3_item 120 = .ok (.aload_n 0, 1) := dk_42 (dk_at dksX3_item_5 3 rfl rfl)
theorem dX3_item_121 : decode cX3_item 121 = .ok (.invokevirtual 174, 3) := dk_182 0 174 (dk_at dksX3_item_5 4 rfl rfl)
theorem dX3_item_124 : decode cX3_item 124 = .ok (.ifCond .eq 33, 3) := dk_153 0 33 (dk_at dksX3_item_5 7 rfl rfl)
theorem dX3_item_127 : decode cX3_item 127 = .ok (.aload_n 0, 1) := dk_42 (dk_at dksX3_item_5 10 rfl rfl)
theorem dX3_item_128 : decode cX3_item 128 = .ok (.ldc 177, 2) := dk_18 177 (dk_at dksX3_item_5 11 rfl rfl)
theorem dX3_item_130 : decode cX3_item 130 = .ok (.invokevirtual 171, 3) := dk_182 0 171 (dk_at dksX3_item_5 13 rfl rfl)
theorem dX3_item_133 : decode cX3_item 133 = .ok (.ifCond .eq 24, 3) := dk_153 0 24 (dk_at dksX3_item_5 16 rfl rfl)
theorem dX3_item_136 : decode cX3_item 136 = .ok (.aload_n 0, 1) := dk_42 (dk_at dksX3_item_5 19 rfl rfl)
theorem dX3_item_137 : decode cX3_item 137 = .ok (.iconst 0, 1) := dk_3 (dk_at dksX3_item_5 20 rfl rfl)
theorem dX3_item_138 : decode cX3_item 138 = .ok (.invokevirtual 195, 3) := dk_182 0 195 (dk_at dksX3_item_5 21 rfl rfl)
theorem dX3_item_141 : decode cX3_item 141 = .ok (.ifCond .eq 16, 3) := dk_153 0 16 (dk_at dksX3_item_6 0 rfl rfl)
theorem dX3_item_144 : decode cX3_item 144 = .ok (.aload_n 0, 1) := dk_42 (dk_at dksX3_item_6 3 rfl rfl)
theorem dX3_item_145 : decode cX3_item 145 = .ok (.ldc 184, 2) := dk_18 184 (dk_at dksX3_item_6 4 rfl rfl)
theorem dX3_item_147 : decode cX3_item 147 = .ok (.invokevirtual 171, 3) := dk_182 0 171 (dk_at dksX3_item_6 6 rfl rfl)
theorem dX3_item_150 : decode cX3_item 150 = .ok (.ifCond .eq 7, 3) := dk_153 0 7 (dk_at dksX3_item_6 9 rfl rfl)
theorem dX3_item_153 : decode cX3_item 153 = .ok (.iconst 1, 1) := dk_4 (dk_at dksX3_item_6 12 rfl rfl)
theorem dX3_item_154 : decode cX3_item 154 = .ok (.goto 4, 3) := dk_167 0 4 (dk_at dksX3_item_6 13 rfl rfl)
theorem dX3_item_157 : decode cX3_item 157 = .ok (.iconst 0, 1) := dk_3 (dk_at dksX3_item_6 16 rfl rfl)
theorem dX3_item_158 : decode cX3_item 158 = .ok (.ireturn, 1) := dk_172 (dk_at dksX3_item_6 17 rfl rfl)
theorem dX3_item_159 : decode cX3_item 159 = .ok (.aload_n 0, 1) := dk_42 (dk_at dksX3_item_6 18 rfl rfl)
theorem dX3_item_160 : decode cX3_item 160 = .ok (.ldc 198, 2) := dk_18 198 (dk_at dksX3_item_6 19 rfl rfl)
theorem dX3_item_162 : decode cX3_item 162 = .ok (.invokevirtual 171, 3) := dk_182 0 171 (dk_at dksX3_item_6 21 rfl rfl)
theorem dX3_item_165 : decode cX3_item 165 = .ok (.ifCond .eq 63, 3) := dk_153 0 63 (dk_at dksX3_item_7 0 rfl rfl)
theorem dX3_item_168 : decode cX3_item 168 = .ok (.aload_n 0, 1) := dk_42 (dk_at dksX3_item_7 3 rfl rfl)
theorem dX3_item_169 : decode cX3_item 169 = .ok (.invokevirtual 174, 3) := dk_182 0 174 (dk_at dksX3_item_7 4 rfl rfl)
theorem dX3_item_172 : decode cX3_item 172 = .ok (.ifCond .eq 56, 3) := dk_153 0 56 (dk_at dksX3_item_7 7 rfl rfl)
theorem dX3_item_175 : decode cX3_item 175 = .ok (.aload_n 0, 1) := dk_42 (dk_at dksX3_item_7 10 rfl rfl)
theorem dX3_item_176 : decode cX3_item 176 = .ok (.ldc 200, 2) := dk_18 200 (dk_at dksX3_item_7 11 rfl rfl)
theorem dX3_item_178 : decode cX3_item 178 = .ok (.invokevirtual 171, 3) := dk_182 0 171 (dk_at dksX3_item_7 13 rfl rfl)
theorem dX3_item_181 : decode cX3_item 181 = .ok (.ifCond .eq 47, 3) := dk_153 0 47 (dk_at dksX3_item_7 16 rfl rfl)
theorem dX3_item_184 : decode cX3_item 184 = .ok (.aload_n 0, 1) := dk_42 (dk_at dksX3_item_7 19 rfl rfl)
theorem dX3_item_185 : decode cX3_item 185 = .ok (.iconst 0, 1) := dk_3 (dk_at dksX3_item_7 20 rfl rfl)
theorem dX3_item_186 : decode cX3_item 186 = .ok (.invokevirtual 190, 3) := dk_182 0 190 (dk_at dksX3_item_7 21 rfl rfl)
theorem dX3_item_189 : decode cX3_item 189 = .ok (.ifCond .eq 39, 3) := dk_153 0 39 (dk_at dksX3_item_8 0 rfl rfl)
theorem dX3_item_192 : decode cX3_item 192 = .ok (.aload_n 0, 1) := dk_42 (dk_at dksX3_item_8 3 rfl rfl)
theorem dX3_item_193 : decode cX3_item 193 = .ok (.ldc 202, 2) := dk_18 202 (dk_at dksX3_item_8 4 rfl rfl)
theorem dX3_item_195 : decode cX3_item 195 = .ok (.invokevirtual 155, 3) := dk_182 0 155 (dk_at dksX3_item_8 6 rfl rfl)
theorem dX3_item_198 : decode cX3_item 198 = .ok (.ifCond .eq 17, 3) := dk_153 0 17 (dk_at dksX3_item_8 9 rfl rfl)
theorem dX3_item_201 : decode cX3_item 201 = .ok (.aload_n 0, 1) := dk_42 (dk_at dksX3_item_8 12 rfl rfl)
theorem dX3_item_202 : decode cX3_item 202 = .ok (.invokevirtual 159, 3) := dk_182 0 159 (dk_at dksX3_item_8 13 rfl rfl)
theorem dX3_item_205 : decode cX3_item 205 = .ok (.ifCond .eq 23, 3) := dk_153 0 23 (dk_at dksX3_item_8 16 rfl rfl)
theorem dX3_item_208 : decode cX3_item 208 = .ok (.aload_n 0, 1) := dk_42 (dk_at dksX3_item_8 19 rfl rfl)
theorem dX3_item_209 : decode cX3_item 209 = .ok (.invokevirtual 181, 3) := dk_182 0 181 (dk_at dksX3_item_8 20 rfl rfl)
theorem dX3_item_212 : decode cX3_item 212 = .ok (.ifCond .eq 16, 3) := dk_153 0 16 (dk_at dksX3_item_9 0 rfl rfl)
theorem dX3_item_215 : decode cX3_item 215 = .ok (.aload_n 0, 1) := dk_42 (dk_at dksX3_item_9 3 rfl rfl)
theorem dX3_item_216 : decode cX3_item 216 = .ok (.ldc 184, 2) := dk_18 184 (dk_at dksX3_item_9 4 rfl rfl)
theorem dX3_item_218 : decode cX3_item 218 = .ok (.invokevirtual 171, 3) := dk_182 0 171 (dk_at dksX3_item_9 6 rfl rfl)
theorem dX3_item_221 : decode cX3_item 221 = .ok (.ifCond .eq 7, 3) := dk_153 0 7 (dk_at dksX3_item_9 9 rfl rfl)
theorem dX3_item_224 : decode cX3_item 224 = .ok (.iconst 1, 1) := dk_4 (dk_at dksX3_item_9 12 rfl rfl)
theorem dX3_item_225 : decode cX3_item 225 = .ok (.goto 4, 3) := dk_167 0 4 (dk_at dksX3_item_9 13 rfl rfl)
theorem dX3_item_228 : decode cX3_item 228 = .ok (.iconst 0, 1) := dk_3 (dk_at dksX3_item_9 16 rfl rfl)
theorem dX3_item_229 : decode cX3_item 229 = .ok (.ireturn, 1) := dk_172 (dk_at dksX3_item_9 17 rfl rfl)
abbrev cX3_takes : ByteArray := prog_34_method_19_code
def yX3_takes : MethodName := ⟨RX3, "takes", "(Ljava/lang/String;)Z"⟩
def dkwX3_takes_0 : List UInt8 := [42, 43, 182, 0, 155, 153, 0, 14, 42, 182, 0, 159, 153, 0, 7, 4, 167, 0, 4, 3, 172]
abbrev dktX3_takes_0 : List UInt8 := dkwX3_takes_0 ++ []
theorem dksX3_takes_0 : cX3_takes.data.toList.drop 0 = dktX3_takes_0 := by decide +kernel
theorem dX3_takes_0 : decode cX3_takes 0 = .ok (.aload_n 0, 1) := dk_42 (dk_at dksX3_takes_0 0 rfl rfl)
theorem dX3_takes_1 : decode cX3_takes 1 = .ok (.aload_n 1, 1) := dk_43 (dk_at dksX3_takes_0 1 rfl rfl)
theorem dX3_takes_2 : decode cX3_takes 2 = .ok (.invokevirtual 155, 3) := dk_182 0 155 (dk_at dksX3_takes_0 2 rfl rfl)
theorem dX3_takes_5 : decode cX3_takes 5 = .ok (.ifCond .eq 14, 3) := dk_153 0 14 (dk_at dksX3_takes_0 5 rfl rfl)
theorem dX3_takes_8 : decode cX3_takes 8 = .ok (.aload_n 0, 1) := dk_42 (dk_at dksX3_takes_0 8 rfl rfl)
theorem dX3_takes_9 : decode cX3_takes 9 = .ok (.invokevirtual 159, 3) := dk_182 0 159 (dk_at dksX3_takes_0 9 rfl rfl)
theorem dX3_takes_12 : decode cX3_takes 12 = .ok (.ifCond .eq 7, 3) := dk_153 0 7 (dk_at dksX3_takes_0 12 rfl rfl)
theorem dX3_takes_15 : decode cX3_takes 15 = .ok (.iconst 1, 1) := dk_4 (dk_at dksX3_takes_0 15 rfl rfl)
theorem dX3_takes_16 : decode cX3_takes 16 = .ok (.goto 4, 3) := dk_167 0 4 (dk_at dksX3_takes_0 16 rfl rfl)
theorem dX3_takes_19 : decode cX3_takes 19 = .ok (.iconst 0, 1) := dk_3 (dk_at dksX3_takes_0 19 rfl rfl)
theorem dX3_takes_20 : decode cX3_takes 20 = .ok (.ireturn, 1) := dk_172 (dk_at dksX3_takes_0 20 rfl rfl)
abbrev cX3_sees : ByteArray := prog_34_method_17_code
def yX3_sees : MethodName := ⟨RX3, "sees", "(Ljava/lang/String;)Z"⟩
def dkwX3_sees_0 : List UInt8 := [42, 42, 180, 0, 152, 43, 182, 0, 138, 172]
abbrev dktX3_sees_0 : List UInt8 := dkwX3_sees_0 ++ []
theorem dksX3_sees_0 : cX3_sees.data.toList.drop 0 = dktX3_sees_0 := by decide +kernel
theorem dX3_sees_0 : decode cX3_sees 0 = .ok (.aload_n 0, 1) := dk_42 (dk_at dksX3_sees_0 0 rfl rfl)
theorem dX3_sees_1 : decode cX3_sees 1 = .ok (.aload_n 0, 1) := dk_42 (dk_at dksX3_sees_0 1 rfl rfl)
theorem dX3_sees_2 : decode cX3_sees 2 = .ok (.getfield 152, 3) := dk_180 0 152 (dk_at dksX3_sees_0 2 rfl rfl)
theorem dX3_sees_5 : decode cX3_sees 5 = .ok (.aload_n 1, 1) := dk_43 (dk_at dksX3_sees_0 5 rfl rfl)
theorem dX3_sees_6 : decode cX3_sees 6 = .ok (.invokevirtual 138, 3) := dk_182 0 138 (dk_at dksX3_sees_0 6 rfl rfl)
theorem dX3_sees_9 : decode cX3_sees 9 = .ok (.ireturn, 1) := dk_172 (dk_at dksX3_sees_0 9 rfl rfl)
abbrev cX3_is : ByteArray := prog_34_method_12_code
def yX3_is : MethodName := ⟨RX3, "is", "(ILjava/lang/String;)Z"⟩
def dkwX3_is_4 : List UInt8 := [167, 255, 211, 29, 172]
abbrev dktX3_is_4 : List UInt8 := dkwX3_is_4 ++ []
def dkwX3_is_3 : List UInt8 := [46, 21, 4, 96, 46, 44, 21, 4, 182, 0, 134, 160, 0, 7, 4, 167, 0, 4, 3, 62, 132, 4, 1]
abbrev dktX3_is_3 : List UInt8 := dkwX3_is_3 ++ dktX3_is_4
def dkwX3_is_2 : List UInt8 := [54, 4, 21, 4, 44, 182, 0, 131, 162, 0, 42, 29, 153, 0, 38, 42, 180, 0, 9, 42, 180, 0, 20, 27]
abbrev dktX3_is_2 : List UInt8 := dkwX3_is_2 ++ dktX3_is_3
def dkwX3_is_1 : List UInt8 := [27, 46, 42, 180, 0, 20, 27, 46, 100, 44, 182, 0, 131, 160, 0, 7, 4, 167, 0, 4, 3, 62, 3]
abbrev dktX3_is_1 : List UInt8 := dkwX3_is_1 ++ dktX3_is_2
def dkwX3_is_0 : List UInt8 := [42, 180, 0, 17, 27, 46, 4, 159, 0, 13, 42, 180, 0, 17, 27, 46, 6, 160, 0, 27, 42, 180, 0, 23]
abbrev dktX3_is_0 : List UInt8 := dkwX3_is_0 ++ dktX3_is_1
theorem dksX3_is_0 : cX3_is.data.toList.drop 0 = dktX3_is_0 := by decide +kernel
theorem dksX3_is_1 : cX3_is.data.toList.drop 24 = dktX3_is_1 := dk_seg dksX3_is_0 24 rfl rfl
theorem dksX3_is_2 : cX3_is.data.toList.drop 47 = dktX3_is_2 := dk_seg dksX3_is_1 23 rfl rfl
theorem dksX3_is_3 : cX3_is.data.toList.drop 71 = dktX3_is_3 := dk_seg dksX3_is_2 24 rfl rfl
theorem dksX3_is_4 : cX3_is.data.toList.drop 94 = dktX3_is_4 := dk_seg dksX3_is_3 23 rfl rfl
theorem dX3_is_0 : decode cX3_is 0 = .ok (.aload_n 0, 1) := dk_42 (dk_at dksX3_is_0 0 rfl rfl)
theorem dX3_is_1 : decode cX3_is 1 = .ok (.getfield 17, 3) := dk_180 0 17 (dk_at dksX3_is_0 1 rfl rfl)
theorem dX3_is_4 : decode cX3_is 4 = .ok (.iload_n 1, 1) := dk_27 (dk_at dksX3_is_0 4 rfl rfl)
theorem dX3_is_5 : decode cX3_is 5 = .ok (.iaload, 1) := dk_46 (dk_at dksX3_is_0 5 rfl rfl)
theorem dX3_is_6 : decode cX3_is 6 = .ok (.iconst 1, 1) := dk_4 (dk_at dksX3_is_0 6 rfl rfl)
theorem dX3_is_7 : decode cX3_is 7 = .ok (.if_icmp .eq 13, 3) := dk_159 0 13 (dk_at dksX3_is_0 7 rfl rfl)
theorem dX3_is_10 : decode cX3_is 10 = .ok (.aload_n 0, 1) := dk_42 (dk_at dksX3_is_0 10 rfl rfl)
theorem dX3_is_11 : decode cX3_is 11 = .ok (.getfield 17, 3) := dk_180 0 17 (dk_at dksX3_is_0 11 rfl rfl)
theorem dX3_is_14 : decode cX3_is 14 = .ok (.iload_n 1, 1) := dk_27 (dk_at dksX3_is_0 14 rfl rfl)
theorem dX3_is_15 : decode cX3_is 15 = .ok (.iaload, 1) := dk_46 (dk_at dksX3_is_0 15 rfl rfl)
theorem dX3_is_16 : decode cX3_is 16 = .ok (.iconst 3, 1) := dk_6 (dk_at dksX3_is_0 16 rfl rfl)
theorem dX3_is_17 : decode cX3_is 17 = .ok (.if_icmp .ne 27, 3) := dk_160 0 27 (dk_at dksX3_is_0 17 rfl rfl)
theorem dX3_is_20 : decode cX3_is 20 = .ok (.aload_n 0, 1) := dk_42 (dk_at dksX3_is_0 20 rfl rfl)
theorem dX3_is_21 : decode cX3_is 21 = .ok (.getfield 23, 3) := dk_180 0 23 (dk_at dksX3_is_0 21 rfl rfl)
theorem dX3_is_24 : decode cX3_is 24 = .ok (.iload_n 1, 1) := dk_27 (dk_at dksX3_is_1 0 rfl rfl)
theorem dX3_is_25 : decode cX3_is 25 = .ok (.iaload, 1) := dk_46 (dk_at dksX3_is_1 1 rfl rfl)
theorem dX3_is_26 : decode cX3_is 26 = .ok (.aload_n 0, 1) := dk_42 (dk_at dksX3_is_1 2 rfl rfl)
theorem dX3_is_27 : decode cX3_is 27 = .ok (.getfield 20, 3) := dk_180 0 20 (dk_at dksX3_is_1 3 rfl rfl)
theorem dX3_is_30 : decode cX3_is 30 = .ok (.iload_n 1, 1) := dk_27 (dk_at dksX3_is_1 6 rfl rfl)
theorem dX3_is_31 : decode cX3_is 31 = .ok (.iaload, 1) := dk_46 (dk_at dksX3_is_1 7 rfl rfl)
theorem dX3_is_32 : decode cX3_is 32 = .ok (.isub, 1) := dk_100 (dk_at dksX3_is_1 8 rfl rfl)
theorem dX3_is_33 : decode cX3_is 33 = .ok (.aload_n 2, 1) := dk_44 (dk_at dksX3_is_1 9 rfl rfl)
theorem dX3_is_34 : decode cX3_is 34 = .ok (.invokevirtual 131, 3) := dk_182 0 131 (dk_at dksX3_is_1 10 rfl rfl)
theorem dX3_is_37 : decode cX3_is 37 = .ok (.if_icmp .ne 7, 3) := dk_160 0 7 (dk_at dksX3_is_1 13 rfl rfl)
theorem dX3_is_40 : decode cX3_is 40 = .ok (.iconst 1, 1) := dk_4 (dk_at dksX3_is_1 16 rfl rfl)
theorem dX3_is_41 : decode cX3_is 41 = .ok (.goto 4, 3) := dk_167 0 4 (dk_at dksX3_is_1 17 rfl rfl)
theorem dX3_is_44 : decode cX3_is 44 = .ok (.iconst 0, 1) := dk_3 (dk_at dksX3_is_1 20 rfl rfl)
theorem dX3_is_45 : decode cX3_is 45 = .ok (.istore_n 3, 1) := dk_62 (dk_at dksX3_is_1 21 rfl rfl)
theorem dX3_is_46 : decode cX3_is 46 = .ok (.iconst 0, 1) := dk_3 (dk_at dksX3_is_1 22 rfl rfl)
theorem dX3_is_47 : decode cX3_is 47 = .ok (.istore 4, 2) := dk_54 4 (dk_at dksX3_is_2 0 rfl rfl)
theorem dX3_is_49 : decode cX3_is 49 = .ok (.iload 4, 2) := dk_21 4 (dk_at dksX3_is_2 2 rfl rfl)
theorem dX3_is_51 : decode cX3_is 51 = .ok (.aload_n 2, 1) := dk_44 (dk_at dksX3_is_2 4 rfl rfl)
theorem dX3_is_52 : decode cX3_is 52 = .ok (.invokevirtual 131, 3) := dk_182 0 131 (dk_at dksX3_is_2 5 rfl rfl)
theorem dX3_is_55 : decode cX3_is 55 = .ok (.if_icmp .ge 42, 3) := dk_162 0 42 (dk_at dksX3_is_2 8 rfl rfl)
theorem dX3_is_58 : decode cX3_is 58 = .ok (.iload_n 3, 1) := dk_29 (dk_at dksX3_is_2 11 rfl rfl)
theorem dX3_is_59 : decode cX3_is 59 = .ok (.ifCond .eq 38, 3) := dk_153 0 38 (dk_at dksX3_is_2 12 rfl rfl)
theorem dX3_is_62 : decode cX3_is 62 = .ok (.aload_n 0, 1) := dk_42 (dk_at dksX3_is_2 15 rfl rfl)
theorem dX3_is_63 : decode cX3_is 63 = .ok (.getfield 9, 3) := dk_180 0 9 (dk_at dksX3_is_2 16 rfl rfl)
theorem dX3_is_66 : decode cX3_is 66 = .ok (.aload_n 0, 1) := dk_42 (dk_at dksX3_is_2 19 rfl rfl)
theorem dX3_is_67 : decode cX3_is 67 = .ok (.getfield 20, 3) := dk_180 0 20 (dk_at dksX3_is_2 20 rfl rfl)
theorem dX3_is_70 : decode cX3_is 70 = .ok (.iload_n 1, 1) := dk_27 (dk_at dksX3_is_2 23 rfl rfl)
theorem dX3_is_71 : decode cX3_is 71 = .ok (.iaload, 1) := dk_46 (dk_at dksX3_is_3 0 rfl rfl)
theorem dX3_is_72 : decode cX3_is 72 = .ok (.iload 4, 2) := dk_21 4 (dk_at dksX3_is_3 1 rfl rfl)
theorem dX3_is_74 : decode cX3_is 74 = .ok (.iadd, 1) := dk_96 (dk_at dksX3_is_3 3 rfl rfl)
theorem dX3_is_75 : decode cX3_is 75 = .ok (.iaload, 1) := dk_46 (dk_at dksX3_is_3 4 rfl rfl)
theorem dX3_is_76 : decode cX3_is 76 = .ok (.aload_n 2, 1) := dk_44 (dk_at dksX3_is_3 5 rfl rfl)
theorem dX3_is_77 : decode cX3_is 77 = .ok (.iload 4, 2) := dk_21 4 (dk_at dksX3_is_3 6 rfl rfl)
theorem dX3_is_79 : decode cX3_is 79 = .ok (.invokevirtual 134, 3) := dk_182 0 134 (dk_at dksX3_is_3 8 rfl rfl)
theorem dX3_is_82 : decode cX3_is 82 = .ok (.if_icmp .ne 7, 3) := dk_160 0 7 (dk_at dksX3_is_3 11 rfl rfl)
theorem dX3_is_85 : decode cX3_is 85 = .ok (.iconst 1, 1) := dk_4 (dk_at dksX3_is_3 14 rfl rfl)
theorem dX3_is_86 : decode cX3_is 86 = .ok (.goto 4, 3) := dk_167 0 4 (dk_at dksX3_is_3 15 rfl rfl)
theorem dX3_is_89 : decode cX3_is 89 = .ok (.iconst 0, 1) := dk_3 (dk_at dksX3_is_3 18 rfl rfl)
theorem dX3_is_90 : decode cX3_is 90 = .ok (.istore_n 3, 1) := dk_62 (dk_at dksX3_is_3 19 rfl rfl)
theorem dX3_is_91 : decode cX3_is 91 = .ok (.iinc 4 1, 3) := dk_132 4 1 (dk_at dksX3_is_3 20 rfl rfl)
theorem dX3_is_94 : decode cX3_is 94 = .ok (.goto (-45), 3) := dk_167 255 211 (dk_at dksX3_is_4 0 rfl rfl)
theorem dX3_is_97 : decode cX3_is 97 = .ok (.iload_n 3, 1) := dk_29 (dk_at dksX3_is_4 3 rfl rfl)
theorem dX3_is_98 : decode cX3_is 98 = .ok (.ireturn, 1) := dk_172 (dk_at dksX3_is_4 4 rfl rfl)
abbrev cX3_goes : ByteArray := prog_34_method_18_code
def yX3_goes : MethodName := ⟨RX3, "goes", "()Z"⟩
def dkwX3_goes_0 : List UInt8 := [42, 180, 0, 152, 17, 1, 144, 160, 0, 5, 3, 172, 42, 89, 180, 0, 152, 4, 96, 181, 0, 152, 4, 172]
abbrev dktX3_goes_0 : List UInt8 := dkwX3_goes_0 ++ []
theorem dksX3_goes_0 : cX3_goes.data.toList.drop 0 = dktX3_goes_0 := by decide +kernel
theorem dX3_goes_0 : decode cX3_goes 0 = .ok (.aload_n 0, 1) := dk_42 (dk_at dksX3_goes_0 0 rfl rfl)
theorem dX3_goes_1 : decode cX3_goes 1 = .ok (.getfield 152, 3) := dk_180 0 152 (dk_at dksX3_goes_0 1 rfl rfl)
theorem dX3_goes_4 : decode cX3_goes 4 = .ok (.sipush 400, 3) := dk_17 1 144 (dk_at dksX3_goes_0 4 rfl rfl)
theorem dX3_goes_7 : decode cX3_goes 7 = .ok (.if_icmp .ne 5, 3) := dk_160 0 5 (dk_at dksX3_goes_0 7 rfl rfl)
theorem dX3_goes_10 : decode cX3_goes 10 = .ok (.iconst 0, 1) := dk_3 (dk_at dksX3_goes_0 10 rfl rfl)
theorem dX3_goes_11 : decode cX3_goes 11 = .ok (.ireturn, 1) := dk_172 (dk_at dksX3_goes_0 11 rfl rfl)
theorem dX3_goes_12 : decode cX3_goes 12 = .ok (.aload_n 0, 1) := dk_42 (dk_at dksX3_goes_0 12 rfl rfl)
theorem dX3_goes_13 : decode cX3_goes 13 = .ok (.dup, 1) := dk_89 (dk_at dksX3_goes_0 13 rfl rfl)
theorem dX3_goes_14 : decode cX3_goes 14 = .ok (.getfield 152, 3) := dk_180 0 152 (dk_at dksX3_goes_0 14 rfl rfl)
theorem dX3_goes_17 : decode cX3_goes 17 = .ok (.iconst 1, 1) := dk_4 (dk_at dksX3_goes_0 17 rfl rfl)
theorem dX3_goes_18 : decode cX3_goes 18 = .ok (.iadd, 1) := dk_96 (dk_at dksX3_goes_0 18 rfl rfl)
theorem dX3_goes_19 : decode cX3_goes 19 = .ok (.putfield 152, 3) := dk_181 0 152 (dk_at dksX3_goes_0 19 rfl rfl)
theorem dX3_goes_22 : decode cX3_goes 22 = .ok (.iconst 1, 1) := dk_4 (dk_at dksX3_goes_0 22 rfl rfl)
theorem dX3_goes_23 : decode cX3_goes 23 = .ok (.ireturn, 1) := dk_172 (dk_at dksX3_goes_0 23 rfl rfl)
abbrev cX3_takesName : ByteArray := prog_34_method_20_code
def yX3_takesName : MethodName := ⟨RX3, "takesName", "()Z"⟩
def dkwX3_takesName_0 : List UInt8 := [42, 42, 180, 0, 152, 182, 0, 163, 153, 0, 14, 42, 182, 0, 159, 153, 0, 7, 4, 167, 0, 4, 3, 172]
abbrev dktX3_takesName_0 : List UInt8 := dkwX3_takesName_0 ++ []
theorem dksX3_takesName_0 : cX3_takesName.data.toList.drop 0 = dktX3_takesName_0 := by decide +kernel
theorem dX3_takesName_0 : decode cX3_takesName 0 = .ok (.aload_n 0, 1) := dk_42 (dk_at dksX3_takesName_0 0 rfl rfl)
theorem dX3_takesName_1 : decode cX3_takesName 1 = .ok (.aload_n 0, 1) := dk_42 (dk_at dksX3_takesName_0 1 rfl rfl)
theorem dX3_takesName_2 : decode cX3_takesName 2 = .ok (.getfield 152, 3) := dk_180 0 152 (dk_at dksX3_takesName_0 2 rfl rfl)
theorem dX3_takesName_5 : decode cX3_takesName 5 = .ok (.invokevirtual 163, 3) := dk_182 0 163 (dk_at dksX3_takesName_0 5 rfl rfl)
theorem dX3_takesName_8 : decode cX3_takesName 8 = .ok (.ifCond .eq 14, 3) := dk_153 0 14 (dk_at dksX3_takesName_0 8 rfl rfl)
theorem dX3_takesName_11 : decode cX3_takesName 11 = .ok (.aload_n 0, 1) := dk_42 (dk_at dksX3_takesName_0 11 rfl rfl)
theorem dX3_takesName_12 : decode cX3_takesName 12 = .ok (.invokevirtual 159, 3) := dk_182 0 159 (dk_at dksX3_takesName_0 12 rfl rfl)
theorem dX3_takesName_15 : decode cX3_takesName 15 = .ok (.ifCond .eq 7, 3) := dk_153 0 7 (dk_at dksX3_takesName_0 15 rfl rfl)
theorem dX3_takesName_18 : decode cX3_takesName 18 = .ok (.iconst 1, 1) := dk_4 (dk_at dksX3_takesName_0 18 rfl rfl)
theorem dX3_takesName_19 : decode cX3_takesName 19 = .ok (.goto 4, 3) := dk_167 0 4 (dk_at dksX3_takesName_0 19 rfl rfl)
theorem dX3_takesName_22 : decode cX3_takesName 22 = .ok (.iconst 0, 1) := dk_3 (dk_at dksX3_takesName_0 22 rfl rfl)
theorem dX3_takesName_23 : decode cX3_takesName 23 = .ok (.ireturn, 1) := dk_172 (dk_at dksX3_takesName_0 23 rfl rfl)
abbrev cX3_isName : ByteArray := prog_34_method_14_code
def yX3_isName : MethodName := ⟨RX3, "isName", "(I)Z"⟩
def dkwX3_isName_1 : List UInt8 := [167, 0, 4, 3, 172]
abbrev dktX3_isName_1 : List UInt8 := dkwX3_isName_1 ++ []
def dkwX3_isName_0 : List UInt8 := [42, 180, 0, 17, 27, 46, 4, 160, 0, 19, 42, 27, 178, 0, 142, 182, 0, 146, 2, 160, 0, 7, 4]
abbrev dktX3_isName_0 : List UInt8 := dkwX3_isName_0 ++ dktX3_isName_1
theorem dksX3_isName_0 : cX3_isName.data.toList.drop 0 = dktX3_isName_0 := by decide +kernel
theorem dksX3_isName_1 : cX3_isName.data.toList.drop 23 = dktX3_isName_1 := dk_seg dksX3_isName_0 23 rfl rfl
theorem dX3_isName_0 : decode cX3_isName 0 = .ok (.aload_n 0, 1) := dk_42 (dk_at dksX3_isName_0 0 rfl rfl)
theorem dX3_isName_1 : decode cX3_isName 1 = .ok (.getfield 17, 3) := dk_180 0 17 (dk_at dksX3_isName_0 1 rfl rfl)
theorem dX3_isName_4 : decode cX3_isName 4 = .ok (.iload_n 1, 1) := dk_27 (dk_at dksX3_isName_0 4 rfl rfl)
theorem dX3_isName_5 : decode cX3_isName 5 = .ok (.iaload, 1) := dk_46 (dk_at dksX3_isName_0 5 rfl rfl)
theorem dX3_isName_6 : decode cX3_isName 6 = .ok (.iconst 1, 1) := dk_4 (dk_at dksX3_isName_0 6 rfl rfl)
theorem dX3_isName_7 : decode cX3_isName 7 = .ok (.if_icmp .ne 19, 3) := dk_160 0 19 (dk_at dksX3_isName_0 7 rfl rfl)
theorem dX3_isName_10 : decode cX3_isName 10 = .ok (.aload_n 0, 1) := dk_42 (dk_at dksX3_isName_0 10 rfl rfl)
theorem dX3_isName_11 : decode cX3_isName 11 = .ok (.iload_n 1, 1) := dk_27 (dk_at dksX3_isName_0 11 rfl rfl)
theorem dX3_isName_12 : decode cX3_isName 12 = .ok (.getstatic 142, 3) := dk_178 0 142 (dk_at dksX3_isName_0 12 rfl rfl)
theorem dX3_isName_15 : decode cX3_isName 15 = .ok (.invokevirtual 146, 3) := dk_182 0 146 (dk_at dksX3_isName_0 15 rfl rfl)
theorem dX3_isName_18 : decode cX3_isName 18 = .ok (.iconst (-1), 1) := dk_2 (dk_at dksX3_isName_0 18 rfl rfl)
theorem dX3_isName_19 : decode cX3_isName 19 = .ok (.if_icmp .ne 7, 3) := dk_160 0 7 (dk_at dksX3_isName_0 19 rfl rfl)
theorem dX3_isName_22 : decode cX3_isName 22 = .ok (.iconst 1, 1) := dk_4 (dk_at dksX3_isName_0 22 rfl rfl)
theorem dX3_isName_23 : decode cX3_isName 23 = .ok (.goto 4, 3) := dk_167 0 4 (dk_at dksX3_isName_1 0 rfl rfl)
theorem dX3_isName_26 : decode cX3_isName 26 = .ok (.iconst 0, 1) := dk_3 (dk_at dksX3_isName_1 3 rfl rfl)
theorem dX3_isName_27 : decode cX3_isName 27 = .ok (.ireturn, 1) := dk_172 (dk_at dksX3_isName_1 4 rfl rfl)
abbrev cX3_which : ByteArray := prog_34_method_13_code
def yX3_which : MethodName := ⟨RX3, "which", "(I[Ljava/lang/String;)I"⟩
def dkwX3_which_1 : List UInt8 := [21, 4, 62, 132, 4, 1, 167, 255, 231, 29, 172]
abbrev dktX3_which_1 : List UInt8 := dkwX3_which_1 ++ []
def dkwX3_which_0 : List UInt8 := [2, 62, 3, 54, 4, 21, 4, 44, 190, 162, 0, 24, 42, 27, 44, 21, 4, 50, 182, 0, 138, 153, 0, 6]
abbrev dktX3_which_0 : List UInt8 := dkwX3_which_0 ++ dktX3_which_1
theorem dksX3_which_0 : cX3_which.data.toList.drop 0 = dktX3_which_0 := by decide +kernel
theorem dksX3_which_1 : cX3_which.data.toList.drop 24 = dktX3_which_1 := dk_seg dksX3_which_0 24 rfl rfl
theorem dX3_which_0 : decode cX3_which 0 = .ok (.iconst (-1), 1) := dk_2 (dk_at dksX3_which_0 0 rfl rfl)
theorem dX3_which_1 : decode cX3_which 1 = .ok (.istore_n 3, 1) := dk_62 (dk_at dksX3_which_0 1 rfl rfl)
theorem dX3_which_2 : decode cX3_which 2 = .ok (.iconst 0, 1) := dk_3 (dk_at dksX3_which_0 2 rfl rfl)
theorem dX3_which_3 : decode cX3_which 3 = .ok (.istore 4, 2) := dk_54 4 (dk_at dksX3_which_0 3 rfl rfl)
theorem dX3_which_5 : decode cX3_which 5 = .ok (.iload 4, 2) := dk_21 4 (dk_at dksX3_which_0 5 rfl rfl)
theorem dX3_which_7 : decode cX3_which 7 = .ok (.aload_n 2, 1) := dk_44 (dk_at dksX3_which_0 7 rfl rfl)
theorem dX3_which_8 : decode cX3_which 8 = .ok (.arraylength, 1) := dk_190 (dk_at dksX3_which_0 8 rfl rfl)
theorem dX3_which_9 : decode cX3_which 9 = .ok (.if_icmp .ge 24, 3) := dk_162 0 24 (dk_at dksX3_which_0 9 rfl rfl)
theorem dX3_which_12 : decode cX3_which 12 = .ok (.aload_n 0, 1) := dk_42 (dk_at dksX3_which_0 12 rfl rfl)
theorem dX3_which_13 : decode cX3_which 13 = .ok (.iload_n 1, 1) := dk_27 (dk_at dksX3_which_0 13 rfl rfl)
theorem dX3_which_14 : decode cX3_which 14 = .ok (.aload_n 2, 1) := dk_44 (dk_at dksX3_which_0 14 rfl rfl)
theorem dX3_which_15 : decode cX3_which 15 = .ok (.iload 4, 2) := dk_21 4 (dk_at dksX3_which_0 15 rfl rfl)
theorem dX3_which_17 : decode cX3_which 17 = .ok (.aaload, 1) := dk_50 (dk_at dksX3_which_0 17 rfl rfl)
theorem dX3_which_18 : decode cX3_which 18 = .ok (.invokevirtual 138, 3) := dk_182 0 138 (dk_at dksX3_which_0 18 rfl rfl)
theorem dX3_which_21 : decode cX3_which 21 = .ok (.ifCond .eq 6, 3) := dk_153 0 6 (dk_at dksX3_which_0 21 rfl rfl)
theorem dX3_which_24 : decode cX3_which 24 = .ok (.iload 4, 2) := dk_21 4 (dk_at dksX3_which_1 0 rfl rfl)
theorem dX3_which_26 : decode cX3_which 26 = .ok (.istore_n 3, 1) := dk_62 (dk_at dksX3_which_1 2 rfl rfl)
theorem dX3_which_27 : decode cX3_which 27 = .ok (.iinc 4 1, 3) := dk_132 4 1 (dk_at dksX3_which_1 3 rfl rfl)
theorem dX3_which_30 : decode cX3_which 30 = .ok (.goto (-25), 3) := dk_167 255 231 (dk_at dksX3_which_1 6 rfl rfl)
theorem dX3_which_33 : decode cX3_which 33 = .ok (.iload_n 3, 1) := dk_29 (dk_at dksX3_which_1 9 rfl rfl)
theorem dX3_which_34 : decode cX3_which 34 = .ok (.ireturn, 1) := dk_172 (dk_at dksX3_which_1 10 rfl rfl)
abbrev cX3_takesNumber : ByteArray := prog_34_method_21_code
def yX3_takesNumber : MethodName := ⟨RX3, "takesNumber", "()Z"⟩
def dkwX3_takesNumber_1 : List UInt8 := [3, 172]
abbrev dktX3_takesNumber_1 : List UInt8 := dkwX3_takesNumber_1 ++ []
def dkwX3_takesNumber_0 : List UInt8 := [42, 180, 0, 17, 42, 180, 0, 152, 46, 5, 160, 0, 14, 42, 182, 0, 159, 153, 0, 7, 4, 167, 0, 4]
abbrev dktX3_takesNumber_0 : List UInt8 := dkwX3_takesNumber_0 ++ dktX3_takesNumber_1
theorem dksX3_takesNumber_0 : cX3_takesNumber.data.toList.drop 0 = dktX3_takesNumber_0 := by decide +kernel
theorem dksX3_takesNumber_1 : cX3_takesNumber.data.toList.drop 24 = dktX3_takesNumber_1 := dk_seg dksX3_takesNumber_0 24 rfl rfl
theorem dX3_takesNumber_0 : decode cX3_takesNumber 0 = .ok (.aload_n 0, 1) := dk_42 (dk_at dksX3_takesNumber_0 0 rfl rfl)
theorem dX3_takesNumber_1 : decode cX3_takesNumber 1 = .ok (.getfield 17, 3) := dk_180 0 17 (dk_at dksX3_takesNumber_0 1 rfl rfl)
theorem dX3_takesNumber_4 : decode cX3_takesNumber 4 = .ok (.aload_n 0, 1) := dk_42 (dk_at dksX3_takesNumber_0 4 rfl rfl)
theorem dX3_takesNumber_5 : decode cX3_takesNumber 5 = .ok (.getfield 152, 3) := dk_180 0 152 (dk_at dksX3_takesNumber_0 5 rfl rfl)
theorem dX3_takesNumber_8 : decode cX3_takesNumber 8 = .ok (.iaload, 1) := dk_46 (dk_at dksX3_takesNumber_0 8 rfl rfl)
theorem dX3_takesNumber_9 : decode cX3_takesNumber 9 = .ok (.iconst 2, 1) := dk_5 (dk_at dksX3_takesNumber_0 9 rfl rfl)
theorem dX3_takesNumber_10 : decode cX3_takesNumber 10 = .ok (.if_icmp .ne 14, 3) := dk_160 0 14 (dk_at dksX3_takesNumber_0 10 rfl rfl)
theorem dX3_takesNumber_13 : decode cX3_takesNumber 13 = .ok (.aload_n 0, 1) := dk_42 (dk_at dksX3_takesNumber_0 13 rfl rfl)
theorem dX3_takesNumber_14 : decode cX3_takesNumber 14 = .ok (.invokevirtual 159, 3) := dk_182 0 159 (dk_at dksX3_takesNumber_0 14 rfl rfl)
theorem dX3_takesNumber_17 : decode cX3_takesNumber 17 = .ok (.ifCond .eq 7, 3) := dk_153 0 7 (dk_at dksX3_takesNumber_0 17 rfl rfl)
theorem dX3_takesNumber_20 : decode cX3_takesNumber 20 = .ok (.iconst 1, 1) := dk_4 (dk_at dksX3_takesNumber_0 20 rfl rfl)
theorem dX3_takesNumber_21 : decode cX3_takesNumber 21 = .ok (.goto 4, 3) := dk_167 0 4 (dk_at dksX3_takesNumber_0 21 rfl rfl)
theorem dX3_takesNumber_24 : decode cX3_takesNumber 24 = .ok (.iconst 0, 1) := dk_3 (dk_at dksX3_takesNumber_1 0 rfl rfl)
theorem dX3_takesNumber_25 : decode cX3_takesNumber 25 = .ok (.ireturn, 1) := dk_172 (dk_at dksX3_takesNumber_1 1 rfl rfl)
abbrev cX3_formulaForm : ByteArray := prog_34_method_24_code
def yX3_formulaForm : MethodName := ⟨RX3, "formulaForm", "(I)Z"⟩
def dkwX3_formulaForm_1 : List UInt8 := [153, 0, 15, 42, 27, 182, 0, 190, 153, 0, 7, 4, 167, 0, 4, 3, 172]
abbrev dktX3_formulaForm_1 : List UInt8 := dkwX3_formulaForm_1 ++ []
def dkwX3_formulaForm_0 : List UInt8 := [42, 27, 18, 204, 182, 0, 206, 153, 0, 31, 42, 18, 209, 182, 0, 155, 153, 0, 18, 42, 182, 0, 159]
abbrev dktX3_formulaForm_0 : List UInt8 := dkwX3_formulaForm_0 ++ dktX3_formulaForm_1
theorem dksX3_formulaForm_0 : cX3_formulaForm.data.toList.drop 0 = dktX3_formulaForm_0 := by decide +kernel
theorem dksX3_formulaForm_1 : cX3_formulaForm.data.toList.drop 23 = dktX3_formulaForm_1 := dk_seg dksX3_formulaForm_0 23 rfl rfl
theorem dX3_formulaForm_0 : decode cX3_formulaForm 0 = .ok (.aload_n 0, 1) := dk_42 (dk_at dksX3_formulaForm_0 0 rfl rfl)
theorem dX3_formulaForm_1 : decode cX3_formulaForm 1 = .ok (.iload_n 1, 1) := dk_27 (dk_at dksX3_formulaForm_0 1 rfl rfl)
theorem dX3_formulaForm_2 : decode cX3_formulaForm 2 = .ok (.ldc 204, 2) := dk_18 204 (dk_at dksX3_formulaForm_0 2 rfl rfl)
theorem dX3_formulaForm_4 : decode cX3_formulaForm 4 = .ok (.invokevirtual 206, 3) := dk_182 0 206 (dk_at dksX3_formulaForm_0 4 rfl rfl)
theorem dX3_formulaForm_7 : decode cX3_formulaForm 7 = .ok (.ifCond .eq 31, 3) := dk_153 0 31 (dk_at dksX3_formulaForm_0 7 rfl rfl)
theorem dX3_formulaForm_10 : decode cX3_formulaForm 10 = .ok (.aload_n 0, 1) := dk_42 (dk_at dksX3_formulaForm_0 10 rfl rfl)
theorem dX3_formulaForm_11 : decode cX3_formulaForm 11 = .ok (.ldc 209, 2) := dk_18 209 (dk_at dksX3_formulaForm_0 11 rfl rfl)
theorem dX3_formulaForm_13 : decode cX3_formulaForm 13 = .ok (.invokevirtual 155, 3) := dk_182 0 155 (dk_at dksX3_formulaForm_0 13 rfl rfl)
theorem dX3_formulaForm_16 : decode cX3_formulaForm 16 = .ok (.ifCond .eq 18, 3) := dk_153 0 18 (dk_at dksX3_formulaForm_0 16 rfl rfl)
theorem dX3_formulaForm_19 : decode cX3_formulaForm 19 = .ok (.aload_n 0, 1) := dk_42 (dk_at dksX3_formulaForm_0 19 rfl rfl)
theorem dX3_formulaForm_20 : decode cX3_formulaForm 20 = .ok (.invokevirtual 159, 3) := dk_182 0 159 (dk_at dksX3_formulaForm_0 20 rfl rfl)
theorem dX3_formulaForm_23 : decode cX3_formulaForm 23 = .ok (.ifCond .eq 15, 3) := dk_153 0 15 (dk_at dksX3_formulaForm_1 0 rfl rfl)
theorem dX3_formulaForm_26 : decode cX3_formulaForm 26 = .ok (.aload_n 0, 1) := dk_42 (dk_at dksX3_formulaForm_1 3 rfl rfl)
theorem dX3_formulaForm_27 : decode cX3_formulaForm 27 = .ok (.iload_n 1, 1) := dk_27 (dk_at dksX3_formulaForm_1 4 rfl rfl)
theorem dX3_formulaForm_28 : decode cX3_formulaForm 28 = .ok (.invokevirtual 190, 3) := dk_182 0 190 (dk_at dksX3_formulaForm_1 5 rfl rfl)
theorem dX3_formulaForm_31 : decode cX3_formulaForm 31 = .ok (.ifCond .eq 7, 3) := dk_153 0 7 (dk_at dksX3_formulaForm_1 8 rfl rfl)
theorem dX3_formulaForm_34 : decode cX3_formulaForm 34 = .ok (.iconst 1, 1) := dk_4 (dk_at dksX3_formulaForm_1 11 rfl rfl)
theorem dX3_formulaForm_35 : decode cX3_formulaForm 35 = .ok (.goto 4, 3) := dk_167 0 4 (dk_at dksX3_formulaForm_1 12 rfl rfl)
theorem dX3_formulaForm_38 : decode cX3_formulaForm 38 = .ok (.iconst 0, 1) := dk_3 (dk_at dksX3_formulaForm_1 15 rfl rfl)
theorem dX3_formulaForm_39 : decode cX3_formulaForm 39 = .ok (.ireturn, 1) := dk_172 (dk_at dksX3_formulaForm_1 16 rfl rfl)
abbrev cX3_rowForm : ByteArray := prog_34_method_25_code
def yX3_rowForm : MethodName := ⟨RX3, "rowForm", "(ILjava/lang/String;)Z"⟩
def dkwX3_rowForm_3 : List UInt8 := [167, 255, 227, 42, 27, 182, 0, 213, 154, 255, 219, 3, 172, 4, 172]
abbrev dktX3_rowForm_3 : List UInt8 := dkwX3_rowForm_3 ++ []
def dkwX3_rowForm_2 : List UInt8 := [153, 0, 37, 42, 182, 0, 159, 153, 0, 28, 29, 153, 0, 16, 42, 27, 18, 211, 182, 0, 206, 153, 0, 14]
abbrev dktX3_rowForm_2 : List UInt8 := dkwX3_rowForm_2 ++ dktX3_rowForm_3
def dkwX3_rowForm_1 : List UInt8 := [182, 0, 206, 153, 0, 14, 167, 0, 13, 42, 27, 182, 0, 213, 154, 0, 5, 3, 172, 42, 44, 182, 0, 155]
abbrev dktX3_rowForm_1 : List UInt8 := dkwX3_rowForm_1 ++ dktX3_rowForm_2
def dkwX3_rowForm_0 : List UInt8 := [44, 182, 0, 131, 5, 160, 0, 7, 4, 167, 0, 4, 3, 62, 29, 153, 0, 16, 42, 27, 18, 211]
abbrev dktX3_rowForm_0 : List UInt8 := dkwX3_rowForm_0 ++ dktX3_rowForm_1
theorem dksX3_rowForm_0 : cX3_rowForm.data.toList.drop 0 = dktX3_rowForm_0 := by decide +kernel
theorem dksX3_rowForm_1 : cX3_rowForm.data.toList.drop 22 = dktX3_rowForm_1 := dk_seg dksX3_rowForm_0 22 rfl rfl
theorem dksX3_rowForm_2 : cX3_rowForm.data.toList.drop 46 = dktX3_rowForm_2 := dk_seg dksX3_rowForm_1 24 rfl rfl
theorem dksX3_rowForm_3 : cX3_rowForm.data.toList.drop 70 = dktX3_rowForm_3 := dk_seg dksX3_rowForm_2 24 rfl rfl
theorem dX3_rowForm_0 : decode cX3_rowForm 0 = .ok (.aload_n 2, 1) := dk_44 (dk_at dksX3_rowForm_0 0 rfl rfl)
theorem dX3_rowForm_1 : decode cX3_rowForm 1 = .ok (.invokevirtual 131, 3) := dk_182 0 131 (dk_at dksX3_rowForm_0 1 rfl rfl)
theorem dX3_rowForm_4 : decode cX3_rowForm 4 = .ok (.iconst 2, 1) := dk_5 (dk_at dksX3_rowForm_0 4 rfl rfl)
theorem dX3_rowForm_5 : decode cX3_rowForm 5 = .ok (.if_icmp .ne 7, 3) := dk_160 0 7 (dk_at dksX3_rowForm_0 5 rfl rfl)
theorem dX3_rowForm_8 : decode cX3_rowForm 8 = .ok (.iconst 1, 1) := dk_4 (dk_at dksX3_rowForm_0 8 rfl rfl)
theorem dX3_rowForm_9 : decode cX3_rowForm 9 = .ok (.goto 4, 3) := dk_167 0 4 (dk_at dksX3_rowForm_0 9 rfl rfl)
theorem dX3_rowForm_12 : decode cX3_rowForm 12 = .ok (.iconst 0, 1) := dk_3 (dk_at dksX3_rowForm_0 12 rfl rfl)
theorem dX3_rowForm_13 : decode cX3_rowForm 13 = .ok (.istore_n 3, 1) := dk_62 (dk_at dksX3_rowForm_0 13 rfl rfl)
theorem dX3_rowForm_14 : decode cX3_rowForm 14 = .ok (.iload_n 3, 1) := dk_29 (dk_at dksX3_rowForm_0 14 rfl rfl)
theorem dX3_rowForm_15 : decode cX3_rowForm 15 = .ok (.ifCond .eq 16, 3) := dk_153 0 16 (dk_at dksX3_rowForm_0 15 rfl rfl)
theorem dX3_rowForm_18 : decode cX3_rowForm 18 = .ok (.aload_n 0, 1) := dk_42 (dk_at dksX3_rowForm_0 18 rfl rfl)
theorem dX3_rowForm_19 : decode cX3_rowForm 19 = .ok (.iload_n 1, 1) := dk_27 (dk_at dksX3_rowForm_0 19 rfl rfl)
theorem dX3_rowForm_20 : decode cX3_rowForm 20 = .ok (.ldc 211, 2) := dk_18 211 (dk_at dksX3_rowForm_0 20 rfl rfl)
theorem dX3_rowForm_22 : decode cX3_rowForm 22 = .ok (.invokevirtual 206, 3) := dk_182 0 206 (dk_at dksX3_rowForm_1 0 rfl rfl)
theorem dX3_rowForm_25 : decode cX3_rowForm 25 = .ok (.ifCond .eq 14, 3) := dk_153 0 14 (dk_at dksX3_rowForm_1 3 rfl rfl)
theorem dX3_rowForm_28 : decode cX3_rowForm 28 = .ok (.goto 13, 3) := dk_167 0 13 (dk_at dksX3_rowForm_1 6 rfl rfl)
theorem dX3_rowForm_31 : decode cX3_rowForm 31 = .ok (.aload_n 0, 1) := dk_42 (dk_at dksX3_rowForm_1 9 rfl rfl)
theorem dX3_rowForm_32 : decode cX3_rowForm 32 = .ok (.iload_n 1, 1) := dk_27 (dk_at dksX3_rowForm_1 10 rfl rfl)
theorem dX3_rowForm_33 : decode cX3_rowForm 33 = .ok (.invokevirtual 213, 3) := dk_182 0 213 (dk_at dksX3_rowForm_1 11 rfl rfl)
theorem dX3_rowForm_36 : decode cX3_rowForm 36 = .ok (.ifCond .ne 5, 3) := dk_154 0 5 (dk_at dksX3_rowForm_1 14 rfl rfl)
theorem dX3_rowForm_39 : decode cX3_rowForm 39 = .ok (.iconst 0, 1) := dk_3 (dk_at dksX3_rowForm_1 17 rfl rfl)
theorem dX3_rowForm_40 : decode cX3_rowForm 40 = .ok (.ireturn, 1) := dk_172 (dk_at dksX3_rowForm_1 18 rfl rfl)
theorem dX3_rowForm_41 : decode cX3_rowForm 41 = .ok (.aload_n 0, 1) := dk_42 (dk_at dksX3_rowForm_1 19 rfl rfl)
theorem dX3_rowForm_42 : decode cX3_rowForm 42 = .ok (.aload_n 2, 1) := dk_44 (dk_at dksX3_rowForm_1 20 rfl rfl)
theorem dX3_rowForm_43 : decode cX3_rowForm 43 = .ok (.invokevirtual 155, 3) := dk_182 0 155 (dk_at dksX3_rowForm_1 21 rfl rfl)
theorem dX3_rowForm_46 : decode cX3_rowForm 46 = .ok (.ifCond .eq 37, 3) := dk_153 0 37 (dk_at dksX3_rowForm_2 0 rfl rfl)
theorem dX3_rowForm_49 : decode cX3_rowForm 49 = .ok (.aload_n 0, 1) := dk_42 (dk_at dksX3_rowForm_2 3 rfl rfl)
theorem dX3_rowForm_50 : decode cX3_rowForm 50 = .ok (.invokevirtual 159, 3) := dk_182 0 159 (dk_at dksX3_rowForm_2 4 rfl rfl)
theorem dX3_rowForm_53 : decode cX3_rowForm 53 = .ok (.ifCond .eq 28, 3) := dk_153 0 28 (dk_at dksX3_rowForm_2 7 rfl rfl)
theorem dX3_rowForm_56 : decode cX3_rowForm 56 = .ok (.iload_n 3, 1) := dk_29 (dk_at dksX3_rowForm_2 10 rfl rfl)
theorem dX3_rowForm_57 : decode cX3_rowForm 57 = .ok (.ifCond .eq 16, 3) := dk_153 0 16 (dk_at dksX3_rowForm_2 11 rfl rfl)
theorem dX3_rowForm_60 : decode cX3_rowForm 60 = .ok (.aload_n 0, 1) := dk_42 (dk_at dksX3_rowForm_2 14 rfl rfl)
theorem dX3_rowForm_61 : decode cX3_rowForm 61 = .ok (.iload_n 1, 1) := dk_27 (dk_at dksX3_rowForm_2 15 rfl rfl)
theorem dX3_rowForm_62 : decode cX3_rowForm 62 = .ok (.ldc 211, 2) := dk_18 211 (dk_at dksX3_rowForm_2 16 rfl rfl)
theorem dX3_rowForm_64 : decode cX3_rowForm 64 = .ok (.invokevirtual 206, 3) := dk_182 0 206 (dk_at dksX3_rowForm_2 18 rfl rfl)
theorem dX3_rowForm_67 : decode cX3_rowForm 67 = .ok (.ifCond .eq 14, 3) := dk_153 0 14 (dk_at dksX3_rowForm_2 21 rfl rfl)
theorem dX3_rowForm_70 : decode cX3_rowForm 70 = .ok (.goto (-29), 3) := dk_167 255 227 (dk_at dksX3_rowForm_3 0 rfl rfl)
theorem dX3_rowForm_73 : decode cX3_rowForm 73 = .ok (.aload_n 0, 1) := dk_42 (dk_at dksX3_rowForm_3 3 rfl rfl)
theorem dX3_rowForm_74 : decode cX3_rowForm 74 = .ok (.iload_n 1, 1) := dk_27 (dk_at dksX3_rowForm_3 4 rfl rfl)
theorem dX3_rowForm_75 : decode cX3_rowForm 75 = .ok (.invokevirtual 213, 3) := dk_182 0 213 (dk_at dksX3_rowForm_3 5 rfl rfl)
theorem dX3_rowForm_78 : decode cX3_rowForm 78 = .ok (.ifCond .ne (-37), 3) := dk_154 255 219 (dk_at dksX3_rowForm_3 8 rfl rfl)
theorem dX3_rowForm_81 : decode cX3_rowForm 81 = .ok (.iconst 0, 1) := dk_3 (dk_at dksX3_rowForm_3 11 rfl rfl)
theorem dX3_rowForm_82 : decode cX3_rowForm 82 = .ok (.ireturn, 1) := dk_172 (dk_at dksX3_rowForm_3 12 rfl rfl)
theorem dX3_rowForm_83 : decode cX3_rowForm 83 = .ok (.iconst 1, 1) := dk_4 (dk_at dksX3_rowForm_3 13 rfl rfl)
theorem dX3_rowForm_84 : decode cX3_rowForm 84 = .ok (.ireturn, 1) := dk_172 (dk_at dksX3_rowForm_3 14 rfl rfl)
abbrev cX3_sinceForm : ByteArray := prog_34_method_26_code
def yX3_sinceForm : MethodName := ⟨RX3, "sinceForm", "(I)Z"⟩
def dkwX3_sinceForm_1 : List UInt8 := [42, 182, 0, 221, 153, 0, 15, 42, 27, 182, 0, 216, 153, 0, 7, 4, 167, 0, 4, 3, 172]
abbrev dktX3_sinceForm_1 : List UInt8 := dkwX3_sinceForm_1 ++ []
def dkwX3_sinceForm_0 : List UInt8 := [42, 27, 182, 0, 216, 153, 0, 38, 42, 18, 219, 182, 0, 155, 153, 0, 25, 42, 182, 0, 159, 153, 0, 22]
abbrev dktX3_sinceForm_0 : List UInt8 := dkwX3_sinceForm_0 ++ dktX3_sinceForm_1
theorem dksX3_sinceForm_0 : cX3_sinceForm.data.toList.drop 0 = dktX3_sinceForm_0 := by decide +kernel
theorem dksX3_sinceForm_1 : cX3_sinceForm.data.toList.drop 24 = dktX3_sinceForm_1 := dk_seg dksX3_sinceForm_0 24 rfl rfl
theorem dX3_sinceForm_0 : decode cX3_sinceForm 0 = .ok (.aload_n 0, 1) := dk_42 (dk_at dksX3_sinceForm_0 0 rfl rfl)
theorem dX3_sinceForm_1 : decode cX3_sinceForm 1 = .ok (.iload_n 1, 1) := dk_27 (dk_at dksX3_sinceForm_0 1 rfl rfl)
theorem dX3_sinceForm_2 : decode cX3_sinceForm 2 = .ok (.invokevirtual 216, 3) := dk_182 0 216 (dk_at dksX3_sinceForm_0 2 rfl rfl)
theorem dX3_sinceForm_5 : decode cX3_sinceForm 5 = .ok (.ifCond .eq 38, 3) := dk_153 0 38 (dk_at dksX3_sinceForm_0 5 rfl rfl)
theorem dX3_sinceForm_8 : decode cX3_sinceForm 8 = .ok (.aload_n 0, 1) := dk_42 (dk_at dksX3_sinceForm_0 8 rfl rfl)
theorem dX3_sinceForm_9 : decode cX3_sinceForm 9 = .ok (.ldc 219, 2) := dk_18 219 (dk_at dksX3_sinceForm_0 9 rfl rfl)
theorem dX3_sinceForm_11 : decode cX3_sinceForm 11 = .ok (.invokevirtual 155, 3) := dk_182 0 155 (dk_at dksX3_sinceForm_0 11 rfl rfl)
theorem dX3_sinceForm_14 : decode cX3_sinceForm 14 = .ok (.ifCond .eq 25, 3) := dk_153 0 25 (dk_at dksX3_sinceForm_0 14 rfl rfl)
theorem dX3_sinceForm_17 : decode cX3_sinceForm 17 = .ok (.aload_n 0, 1) := dk_42 (dk_at dksX3_sinceForm_0 17 rfl rfl)
theorem dX3_sinceForm_18 : decode cX3_sinceForm 18 = .ok (.invokevirtual 159, 3) := dk_182 0 159 (dk_at dksX3_sinceForm_0 18 rfl rfl)
theorem dX3_sinceForm_21 : decode cX3_sinceForm 21 = .ok (.ifCond .eq 22, 3) := dk_153 0 22 (dk_at dksX3_sinceForm_0 21 rfl rfl)
theorem dX3_sinceForm_24 : decode cX3_sinceForm 24 = .ok (.aload_n 0, 1) := dk_42 (dk_at dksX3_sinceForm_1 0 rfl rfl)
theorem dX3_sinceForm_25 : decode cX3_sinceForm 25 = .ok (.invokevirtual 221, 3) := dk_182 0 221 (dk_at dksX3_sinceForm_1 1 rfl rfl)
theorem dX3_sinceForm_28 : decode cX3_sinceForm 28 = .ok (.ifCond .eq 15, 3) := dk_153 0 15 (dk_at dksX3_sinceForm_1 4 rfl rfl)
theorem dX3_sinceForm_31 : decode cX3_sinceForm 31 = .ok (.aload_n 0, 1) := dk_42 (dk_at dksX3_sinceForm_1 7 rfl rfl)
theorem dX3_sinceForm_32 : decode cX3_sinceForm 32 = .ok (.iload_n 1, 1) := dk_27 (dk_at dksX3_sinceForm_1 8 rfl rfl)
theorem dX3_sinceForm_33 : decode cX3_sinceForm 33 = .ok (.invokevirtual 216, 3) := dk_182 0 216 (dk_at dksX3_sinceForm_1 9 rfl rfl)
theorem dX3_sinceForm_36 : decode cX3_sinceForm 36 = .ok (.ifCond .eq 7, 3) := dk_153 0 7 (dk_at dksX3_sinceForm_1 12 rfl rfl)
theorem dX3_sinceForm_39 : decode cX3_sinceForm 39 = .ok (.iconst 1, 1) := dk_4 (dk_at dksX3_sinceForm_1 15 rfl rfl)
theorem dX3_sinceForm_40 : decode cX3_sinceForm 40 = .ok (.goto 4, 3) := dk_167 0 4 (dk_at dksX3_sinceForm_1 16 rfl rfl)
theorem dX3_sinceForm_43 : decode cX3_sinceForm 43 = .ok (.iconst 0, 1) := dk_3 (dk_at dksX3_sinceForm_1 19 rfl rfl)
theorem dX3_sinceForm_44 : decode cX3_sinceForm 44 = .ok (.ireturn, 1) := dk_172 (dk_at dksX3_sinceForm_1 20 rfl rfl)
abbrev cX3_oneForm : ByteArray := prog_34_method_28_code
def yX3_oneForm : MethodName := ⟨RX3, "oneForm", "(I)Z"⟩
def dkwX3_oneForm_8 : List UInt8 := [182, 0, 195, 153, 0, 7, 4, 167, 0, 4, 3, 172]
abbrev dktX3_oneForm_8 : List UInt8 := dkwX3_oneForm_8 ++ []
def dkwX3_oneForm_7 : List UInt8 := [42, 42, 180, 0, 152, 178, 0, 242, 182, 0, 146, 2, 159, 0, 22, 42, 182, 0, 159, 153, 0, 15, 42, 27]
abbrev dktX3_oneForm_7 : List UInt8 := dkwX3_oneForm_7 ++ dktX3_oneForm_8
def dkwX3_oneForm_6 : List UInt8 := [153, 0, 14, 42, 182, 0, 174, 153, 0, 7, 4, 167, 0, 4, 3, 172, 42, 27, 182, 0, 195, 153, 0, 37]
abbrev dktX3_oneForm_6 : List UInt8 := dkwX3_oneForm_6 ++ dktX3_oneForm_7
def dkwX3_oneForm_5 : List UInt8 := [182, 0, 155, 153, 0, 8, 42, 182, 0, 159, 172, 42, 18, 241, 182, 0, 155, 153, 0, 23, 42, 182, 0, 159]
abbrev dktX3_oneForm_5 : List UInt8 := dkwX3_oneForm_5 ++ dktX3_oneForm_6
def dkwX3_oneForm_4 : List UInt8 := [182, 0, 171, 153, 0, 7, 4, 167, 0, 4, 3, 172, 42, 18, 237, 182, 0, 155, 154, 0, 12, 42, 18, 239]
abbrev dktX3_oneForm_4 : List UInt8 := dkwX3_oneForm_4 ++ dktX3_oneForm_5
def dkwX3_oneForm_3 : List UInt8 := [162, 0, 33, 42, 182, 0, 159, 153, 0, 26, 42, 27, 4, 96, 182, 0, 190, 153, 0, 16, 42, 18, 235]
abbrev dktX3_oneForm_3 : List UInt8 := dkwX3_oneForm_3 ++ dktX3_oneForm_4
def dkwX3_oneForm_2 : List UInt8 := [182, 0, 216, 153, 0, 7, 4, 167, 0, 4, 3, 172, 42, 18, 233, 182, 0, 155, 153, 0, 41, 27, 16, 10]
abbrev dktX3_oneForm_2 : List UInt8 := dkwX3_oneForm_2 ++ dktX3_oneForm_3
def dkwX3_oneForm_1 : List UInt8 := [182, 0, 159, 153, 0, 29, 28, 7, 161, 0, 10, 42, 182, 0, 221, 153, 0, 17, 42, 27, 4, 96]
abbrev dktX3_oneForm_1 : List UInt8 := dkwX3_oneForm_1 ++ dktX3_oneForm_2
def dkwX3_oneForm_0 : List UInt8 := [42, 42, 180, 0, 152, 178, 0, 230, 182, 0, 146, 61, 28, 2, 159, 0, 44, 27, 16, 10, 162, 0, 36, 42]
abbrev dktX3_oneForm_0 : List UInt8 := dkwX3_oneForm_0 ++ dktX3_oneForm_1
theorem dksX3_oneForm_0 : cX3_oneForm.data.toList.drop 0 = dktX3_oneForm_0 := by decide +kernel
theorem dksX3_oneForm_1 : cX3_oneForm.data.toList.drop 24 = dktX3_oneForm_1 := dk_seg dksX3_oneForm_0 24 rfl rfl
theorem dksX3_oneForm_2 : cX3_oneForm.data.toList.drop 46 = dktX3_oneForm_2 := dk_seg dksX3_oneForm_1 22 rfl rfl
theorem dksX3_oneForm_3 : cX3_oneForm.data.toList.drop 70 = dktX3_oneForm_3 := dk_seg dksX3_oneForm_2 24 rfl rfl
theorem dksX3_oneForm_4 : cX3_oneForm.data.toList.drop 93 = dktX3_oneForm_4 := dk_seg dksX3_oneForm_3 23 rfl rfl
theorem dksX3_oneForm_5 : cX3_oneForm.data.toList.drop 117 = dktX3_oneForm_5 := dk_seg dksX3_oneForm_4 24 rfl rfl
theorem dksX3_oneForm_6 : cX3_oneForm.data.toList.drop 141 = dktX3_oneForm_6 := dk_seg dksX3_oneForm_5 24 rfl rfl
theorem dksX3_oneForm_7 : cX3_oneForm.data.toList.drop 165 = dktX3_oneForm_7 := dk_seg dksX3_oneForm_6 24 rfl rfl
theorem dksX3_oneForm_8 : cX3_oneForm.data.toList.drop 189 = dktX3_oneForm_8 := dk_seg dksX3_oneForm_7 24 rfl rfl
theorem dX3_oneForm_0 : decode cX3_oneForm 0 = .ok (.aload_n 0, 1) := dk_42 (dk_at dksX3_oneForm_0 0 rfl rfl)
theorem dX3_oneForm_1 : decode cX3_oneForm 1 = .ok (.aload_n 0, 1) := dk_42 (dk_at dksX3_oneForm_0 1 rfl rfl)
theorem dX3_oneForm_2 : decode cX3_oneForm 2 = .ok (.getfield 152, 3) := dk_180 0 152 (dk_at dksX3_oneForm_0 2 rfl rfl)
theorem dX3_oneForm_5 : decode cX3_oneForm 5 = .ok (.getstatic 230, 3) := dk_178 0 230 (dk_at dksX3_oneForm_0 5 rfl rfl)
theorem dX3_oneForm_8 : decode cX3_oneForm 8 = .ok (.invokevirtual 146, 3) := dk_182 0 146 (dk_at dksX3_oneForm_0 8 rfl rfl)
theorem dX3_oneForm_11 : decode cX3_oneForm 11 = .ok (.istore_n 2, 1) := dk_61 (dk_at dksX3_oneForm_0 11 rfl rfl)
theorem dX3_oneForm_12 : decode cX3_oneForm 12 = .ok (.iload_n 2, 1) := dk_28 (dk_at dksX3_oneForm_0 12 rfl rfl)
theorem dX3_oneForm_13 : decode cX3_oneForm 13 = .ok (.iconst (-1), 1) := dk_2 (dk_at dksX3_oneForm_0 13 rfl rfl)
theorem dX3_oneForm_14 : decode cX3_oneForm 14 = .ok (.if_icmp .eq 44, 3) := dk_159 0 44 (dk_at dksX3_oneForm_0 14 rfl rfl)
theorem dX3_oneForm_17 : decode cX3_oneForm 17 = .ok (.iload_n 1, 1) := dk_27 (dk_at dksX3_oneForm_0 17 rfl rfl)
theorem dX3_oneForm_18 : decode cX3_oneForm 18 = .ok (.bipush 10, 2) := dk_16 10 (dk_at dksX3_oneForm_0 18 rfl rfl)
theorem dX3_oneForm_20 : decode cX3_oneForm 20 = .ok (.if_icmp .ge 36, 3) := dk_162 0 36 (dk_at dksX3_oneForm_0 20 rfl rfl)
theorem dX3_oneForm_23 : decode cX3_oneForm 23 = .ok (.aload_n 0, 1) := dk_42 (dk_at dksX3_oneForm_0 23 rfl rfl)
theorem dX3_oneForm_24 : decode cX3_oneForm 24 = .ok (.invokevirtual 159, 3) := dk_182 0 159 (dk_at dksX3_oneForm_1 0 rfl rfl)
theorem dX3_oneForm_27 : decode cX3_oneForm 27 = .ok (.ifCond .eq 29, 3) := dk_153 0 29 (dk_at dksX3_oneForm_1 3 rfl rfl)
theorem dX3_oneForm_30 : decode cX3_oneForm 30 = .ok (.iload_n 2, 1) := dk_28 (dk_at dksX3_oneForm_1 6 rfl rfl)
theorem dX3_oneForm_31 : decode cX3_oneForm 31 = .ok (.iconst 4, 1) := dk_7 (dk_at dksX3_oneForm_1 7 rfl rfl)
theorem dX3_oneForm_32 : decode cX3_oneForm 32 = .ok (.if_icmp .lt 10, 3) := dk_161 0 10 (dk_at dksX3_oneForm_1 8 rfl rfl)
theorem dX3_oneForm_35 : decode cX3_oneForm 35 = .ok (.aload_n 0, 1) := dk_42 (dk_at dksX3_oneForm_1 11 rfl rfl)
theorem dX3_oneForm_36 : decode cX3_oneForm 36 = .ok (.invokevirtual 221, 3) := dk_182 0 221 (dk_at dksX3_oneForm_1 12 rfl rfl)
theorem dX3_oneForm_39 : decode cX3_oneForm 39 = .ok (.ifCond .eq 17, 3) := dk_153 0 17 (dk_at dksX3_oneForm_1 15 rfl rfl)
theorem dX3_oneForm_42 : decode cX3_oneForm 42 = .ok (.aload_n 0, 1) := dk_42 (dk_at dksX3_oneForm_1 18 rfl rfl)
theorem dX3_oneForm_43 : decode cX3_oneForm 43 = .ok (.iload_n 1, 1) := dk_27 (dk_at dksX3_oneForm_1 19 rfl rfl)
theorem dX3_oneForm_44 : decode cX3_oneForm 44 = .ok (.iconst 1, 1) := dk_4 (dk_at dksX3_oneForm_1 20 rfl rfl)
theorem dX3_oneForm_45 : decode cX3_oneForm 45 = .ok (.iadd, 1) := dk_96 (dk_at dksX3_oneForm_1 21 rfl rfl)
theorem dX3_oneForm_46 : decode cX3_oneForm 46 = .ok (.invokevirtual 216, 3) := dk_182 0 216 (dk_at dksX3_oneForm_2 0 rfl rfl)
theorem dX3_oneForm_49 : decode cX3_oneForm 49 = .ok (.ifCond .eq 7, 3) := dk_153 0 7 (dk_at dksX3_oneForm_2 3 rfl rfl)
theorem dX3_oneForm_52 : decode cX3_oneForm 52 = .ok (.iconst 1, 1) := dk_4 (dk_at dksX3_oneForm_2 6 rfl rfl)
theorem dX3_oneForm_53 : decode cX3_oneForm 53 = .ok (.goto 4, 3) := dk_167 0 4 (dk_at dksX3_oneForm_2 7 rfl rfl)
theorem dX3_oneForm_56 : decode cX3_oneForm 56 = .ok (.iconst 0, 1) := dk_3 (dk_at dksX3_oneForm_2 10 rfl rfl)
theorem dX3_oneForm_57 : decode cX3_oneForm 57 = .ok (.ireturn, 1) := dk_172 (dk_at dksX3_oneForm_2 11 rfl rfl)
theorem dX3_oneForm_58 : decode cX3_oneForm 58 = .ok (.aload_n 0, 1) := dk_42 (dk_at dksX3_oneForm_2 12 rfl rfl)
theorem dX3_oneForm_59 : decode cX3_oneForm 59 = .ok (.ldc 233, 2) := dk_18 233 (dk_at dksX3_oneForm_2 13 rfl rfl)
theorem dX3_oneForm_61 : decode cX3_oneForm 61 = .ok (.invokevirtual 155, 3) := dk_182 0 155 (dk_at dksX3_oneForm_2 15 rfl rfl)
theorem dX3_oneForm_64 : decode cX3_oneForm 64 = .ok (.ifCond .eq 41, 3) := dk_153 0 41 (dk_at dksX3_oneForm_2 18 rfl rfl)
theorem dX3_oneForm_67 : decode cX3_oneForm 67 = .ok (.iload_n 1, 1) := dk_27 (dk_at dksX3_oneForm_2 21 rfl rfl)
theorem dX3_oneForm_68 : decode cX3_oneForm 68 = .ok (.bipush 10, 2) := dk_16 10 (dk_at dksX3_oneForm_2 22 rfl rfl)
theorem dX3_oneForm_70 : decode cX3_oneForm 70 = .ok (.if_icmp .ge 33, 3) := dk_162 0 33 (dk_at dksX3_oneForm_3 0 rfl rfl)
theorem dX3_oneForm_73 : decode cX3_oneForm 73 = .ok (.aload_n 0, 1) := dk_42 (dk_at dksX3_oneForm_3 3 rfl rfl)
theorem dX3_oneForm_74 : decode cX3_oneForm 74 = .ok (.invokevirtual 159, 3) := dk_182 0 159 (dk_at dksX3_oneForm_3 4 rfl rfl)
theorem dX3_oneForm_77 : decode cX3_oneForm 77 = .ok (.ifCond .eq 26, 3) := dk_153 0 26 (dk_at dksX3_oneForm_3 7 rfl rfl)
theorem dX3_oneForm_80 : decode cX3_oneForm 80 = .ok (.aload_n 0, 1) := dk_42 (dk_at dksX3_oneForm_3 10 rfl rfl)
theorem dX3_oneForm_81 : decode cX3_oneForm 81 = .ok (.iload_n 1, 1) := dk_27 (dk_at dksX3_oneForm_3 11 rfl rfl)
theorem dX3_oneForm_82 : decode cX3_oneForm 82 = .ok (.iconst 1, 1) := dk_4 (dk_at dksX3_oneForm_3 12 rfl rfl)
theorem dX3_oneForm_83 : decode cX3_oneForm 83 = .ok (.iadd, 1) := dk_96 (dk_at dksX3_oneForm_3 13 rfl rfl)
theorem dX3_oneForm_84 : decode cX3_oneForm 84 = .ok (.invokevirtual 190, 3) := dk_182 0 190 (dk_at dksX3_oneForm_3 14 rfl rfl)
theorem dX3_oneForm_87 : decode cX3_oneForm 87 = .ok (.ifCond .eq 16, 3) := dk_153 0 16 (dk_at dksX3_oneForm_3 17 rfl rfl)
theorem dX3_oneForm_90 : decode cX3_oneForm 90 = .ok (.aload_n 0, 1) := dk_42 (dk_at dksX3_oneForm_3 20 rfl rfl)
theorem dX3_oneForm_91 : decode cX3_oneForm 91 = .ok (.ldc 235, 2) := dk_18 235 (dk_at dksX3_oneForm_3 21 rfl rfl)
theorem dX3_oneForm_93 : decode cX3_oneForm 93 = .ok (.invokevirtual 171, 3) := dk_182 0 171 (dk_at dksX3_oneForm_4 0 rfl rfl)
theorem dX3_oneForm_96 : decode cX3_oneForm 96 = .ok (.ifCond .eq 7, 3) := dk_153 0 7 (dk_at dksX3_oneForm_4 3 rfl rfl)
theorem dX3_oneForm_99 : decode cX3_oneForm 99 = .ok (.iconst 1, 1) := dk_4 (dk_at dksX3_oneForm_4 6 rfl rfl)
theorem dX3_oneForm_100 : decode cX3_oneForm 100 = .ok (.goto 4, 3) := dk_167 0 4 (dk_at dksX3_oneForm_4 7 rfl rfl)
theorem dX3_oneForm_103 : decode cX3_oneForm 103 = .ok (.iconst 0, 1) := dk_3 (dk_at dksX3_oneForm_4 10 rfl rfl)
theorem dX3_oneForm_104 : decode cX3_oneForm 104 = .ok (.ireturn, 1) := dk_172 (dk_at dksX3_oneForm_4 11 rfl rfl)
theorem dX3_oneForm_105 : decode cX3_oneForm 105 = .ok (.aload_n 0, 1) := dk_42 (dk_at dksX3_oneForm_4 12 rfl rfl)
theorem dX3_oneForm_106 : decode cX3_oneForm 106 = .ok (.ldc 237, 2) := dk_18 237 (dk_at dksX3_oneForm_4 13 rfl rfl)
theorem dX3_oneForm_108 : decode cX3_oneForm 108 = .ok (.invokevirtual 155, 3) := dk_182 0 155 (dk_at dksX3_oneForm_4 15 rfl rfl)
theorem dX3_oneForm_111 : decode cX3_oneForm 111 = .ok (.ifCond .ne 12, 3) := dk_154 0 12 (dk_at dksX3_oneForm_4 18 rfl rfl)
theorem dX3_oneForm_114 : decode cX3_oneForm 114 = .ok (.aload_n 0, 1) := dk_42 (dk_at dksX3_oneForm_4 21 rfl rfl)
theorem dX3_oneForm_115 : decode cX3_oneForm 115 = .ok (.ldc 239, 2) := dk_18 239 (dk_at dksX3_oneForm_4 22 rfl rfl)
theorem dX3_oneForm_117 : decode cX3_oneForm 117 = .ok (.invokevirtual 155, 3) := dk_182 0 155 (dk_at dksX3_oneForm_5 0 rfl rfl)
theorem dX3_oneForm_120 : decode cX3_oneForm 120 = .ok (.ifCond .eq 8, 3) := dk_153 0 8 (dk_at dksX3_oneForm_5 3 rfl rfl)
theorem dX3_oneForm_123 : decode cX3_oneForm 123 = .ok (.aload_n 0, 1) := dk_42 (dk_at dksX3_oneForm_5 6 rfl rfl)
theorem dX3_oneForm_124 : decode cX3_oneForm 124 = .ok (.invokevirtual 159, 3) := dk_182 0 159 (dk_at dksX3_oneForm_5 7 rfl rfl)
theorem dX3_oneForm_127 : decode cX3_oneForm 127 = .ok (.ireturn, 1) := dk_172 (dk_at dksX3_oneForm_5 10 rfl rfl)
theorem dX3_oneForm_128 : decode cX3_oneForm 128 = .ok (.aload_n 0, 1) := dk_42 (dk_at dksX3_oneForm_5 11 rfl rfl)
theorem dX3_oneForm_129 : decode cX3_oneForm 129 = .ok (.ldc 241, 2) := dk_18 241 (dk_at dksX3_oneForm_5 12 rfl rfl)
theorem dX3_oneForm_131 : decode cX3_oneForm 131 = .ok (.invokevirtual 155, 3) := dk_182 0 155 (dk_at dksX3_oneForm_5 14 rfl rfl)
theorem dX3_oneForm_134 : decode cX3_oneForm 134 = .ok (.ifCond .eq 23, 3) := dk_153 0 23 (dk_at dksX3_oneForm_5 17 rfl rfl)
theorem dX3_oneForm_137 : decode cX3_oneForm 137 = .ok (.aload_n 0, 1) := dk_42 (dk_at dksX3_oneForm_5 20 rfl rfl)
theorem dX3_oneForm_138 : decode cX3_oneForm 138 = .ok (.invokevirtual 159, 3) := dk_182 0 159 (dk_at dksX3_oneForm_5 21 rfl rfl)
theorem dX3_oneForm_141 : decode cX3_oneForm 141 = .ok (.ifCond .eq 14, 3) := dk_153 0 14 (dk_at dksX3_oneForm_6 0 rfl rfl)
theorem dX3_oneForm_144 : decode cX3_oneForm 144 = .ok (.aload_n 0, 1) := dk_42 (dk_at dksX3_oneForm_6 3 rfl rfl)
theorem dX3_oneForm_145 : decode cX3_oneForm 145 = .ok (.invokevirtual 174, 3) := dk_182 0 174 (dk_at dksX3_oneForm_6 4 rfl rfl)
theorem dX3_oneForm_148 : decode cX3_oneForm 148 = .ok (.ifCond .eq 7, 3) := dk_153 0 7 (dk_at dksX3_oneForm_6 7 rfl rfl)
theorem dX3_oneForm_151 : decode cX3_oneForm 151 = .ok (.iconst 1, 1) := dk_4 (dk_at dksX3_oneForm_6 10 rfl rfl)
theorem dX3_oneForm_152 : decode cX3_oneForm 152 = .ok (.goto 4, 3) := dk_167 0 4 (dk_at dksX3_oneForm_6 11 rfl rfl)
theorem dX3_oneForm_155 : decode cX3_oneForm 155 = .ok (.iconst 0, 1) := dk_3 (dk_at dksX3_oneForm_6 14 rfl rfl)
theorem dX3_oneForm_156 : decode cX3_oneForm 156 = .ok (.ireturn, 1) := dk_172 (dk_at dksX3_oneForm_6 15 rfl rfl)
theorem dX3_oneForm_157 : decode cX3_oneForm 157 = .ok (.aload_n 0, 1) := dk_42 (dk_at dksX3_oneForm_6 16 rfl rfl)
theorem dX3_oneForm_158 : decode cX3_oneForm 158 = .ok (.iload_n 1, 1) := dk_27 (dk_at dksX3_oneForm_6 17 rfl rfl)
theorem dX3_oneForm_159 : decode cX3_oneForm 159 = .ok (.invokevirtual 195, 3) := dk_182 0 195 (dk_at dksX3_oneForm_6 18 rfl rfl)
theorem dX3_oneForm_162 : decode cX3_oneForm 162 = .ok (.ifCond .eq 37, 3) := dk_153 0 37 (dk_at dksX3_oneForm_6 21 rfl rfl)
theorem dX3_oneForm_165 : decode cX3_oneForm 165 = .ok (.aload_n 0, 1) := dk_42 (dk_at dksX3_oneForm_7 0 rfl rfl)
theorem dX3_oneForm_166 : decode cX3_oneForm 166 = .ok (.aload_n 0, 1) := dk_42 (dk_at dksX3_oneForm_7 1 rfl rfl)
theorem dX3_oneForm_167 : decode cX3_oneForm 167 = .ok (.getfield 152, 3) := dk_180 0 152 (dk_at dksX3_oneForm_7 2 rfl rfl)
theorem dX3_oneForm_170 : decode cX3_oneForm 170 = .ok (.getstatic 242, 3) := dk_178 0 242 (dk_at dksX3_oneForm_7 5 rfl rfl)
theorem dX3_oneForm_173 : decode cX3_oneForm 173 = .ok (.invokevirtual 146, 3) := dk_182 0 146 (dk_at dksX3_oneForm_7 8 rfl rfl)
theorem dX3_oneForm_176 : decode cX3_oneForm 176 = .ok (.iconst (-1), 1) := dk_2 (dk_at dksX3_oneForm_7 11 rfl rfl)
theorem dX3_oneForm_177 : decode cX3_oneForm 177 = .ok (.if_icmp .eq 22, 3) := dk_159 0 22 (dk_at dksX3_oneForm_7 12 rfl rfl)
theorem dX3_oneForm_180 : decode cX3_oneForm 180 = .ok (.aload_n 0, 1) := dk_42 (dk_at dksX3_oneForm_7 15 rfl rfl)
theorem dX3_oneForm_181 : decode cX3_oneForm 181 = .ok (.invokevirtual 159, 3) := dk_182 0 159 (dk_at dksX3_oneForm_7 16 rfl rfl)
theorem dX3_oneForm_184 : decode cX3_oneForm 184 = .ok (.ifCond .eq 15, 3) := dk_153 0 15 (dk_at dksX3_oneForm_7 19 rfl rfl)
theorem dX3_oneForm_187 : decode cX3_oneForm 187 = .ok (.aload_n 0, 1) := dk_42 (dk_at dksX3_oneForm_7 22 rfl rfl)
theorem dX3_oneForm_188 : decode cX3_oneForm 188 = .ok (.iload_n 1, 1) := dk_27 (dk_at dksX3_oneForm_7 23 rfl rfl)
theorem dX3_oneForm_189 : decode cX3_oneForm 189 = .ok (.invokevirtual 195, 3) := dk_182 0 195 (dk_at dksX3_oneForm_8 0 rfl rfl)
theorem dX3_oneForm_192 : decode cX3_oneForm 192 = .ok (.ifCond .eq 7, 3) := dk_153 0 7 (dk_at dksX3_oneForm_8 3 rfl rfl)
theorem dX3_oneForm_195 : decode cX3_oneForm 195 = .ok (.iconst 1, 1) := dk_4 (dk_at dksX3_oneForm_8 6 rfl rfl)
theorem dX3_oneForm_196 : decode cX3_oneForm 196 = .ok (.goto 4, 3) := dk_167 0 4 (dk_at dksX3_oneForm_8 7 rfl rfl)
theorem dX3_oneForm_199 : decode cX3_oneForm 199 = .ok (.iconst 0, 1) := dk_3 (dk_at dksX3_oneForm_8 10 rfl rfl)
theorem dX3_oneForm_200 : decode cX3_oneForm 200 = .ok (.ireturn, 1) := dk_172 (dk_at dksX3_oneForm_8 11 rfl rfl)
abbrev cX3_boundsForm : ByteArray := prog_34_method_27_code
def yX3_boundsForm : MethodName := ⟨RX3, "boundsForm", "()Z"⟩
def dkwX3_boundsForm_2 : List UInt8 := [4, 167, 0, 4, 3, 172]
abbrev dktX3_boundsForm_2 : List UInt8 := dkwX3_boundsForm_2 ++ []
def dkwX3_boundsForm_1 : List UInt8 := [18, 226, 182, 0, 171, 153, 0, 23, 42, 182, 0, 181, 153, 0, 16, 42, 18, 228, 182, 0, 171, 153, 0, 7]
abbrev dktX3_boundsForm_1 : List UInt8 := dkwX3_boundsForm_1 ++ dktX3_boundsForm_2
def dkwX3_boundsForm_0 : List UInt8 := [42, 18, 224, 182, 0, 155, 153, 0, 42, 42, 182, 0, 159, 153, 0, 39, 42, 182, 0, 181, 153, 0, 32, 42]
abbrev dktX3_boundsForm_0 : List UInt8 := dkwX3_boundsForm_0 ++ dktX3_boundsForm_1
theorem dksX3_boundsForm_0 : cX3_boundsForm.data.toList.drop 0 = dktX3_boundsForm_0 := by decide +kernel
theorem dksX3_boundsForm_1 : cX3_boundsForm.data.toList.drop 24 = dktX3_boundsForm_1 := dk_seg dksX3_boundsForm_0 24 rfl rfl
theorem dksX3_boundsForm_2 : cX3_boundsForm.data.toList.drop 48 = dktX3_boundsForm_2 := dk_seg dksX3_boundsForm_1 24 rfl rfl
theorem dX3_boundsForm_0 : decode cX3_boundsForm 0 = .ok (.aload_n 0, 1) := dk_42 (dk_at dksX3_boundsForm_0 0 rfl rfl)
theorem dX3_boundsForm_1 : decode cX3_boundsForm 1 = .ok (.ldc 224, 2) := dk_18 224 (dk_at dksX3_boundsForm_0 1 rfl rfl)
theorem dX3_boundsForm_3 : decode cX3_boundsForm 3 = .ok (.invokevirtual 155, 3) := dk_182 0 155 (dk_at dksX3_boundsForm_0 3 rfl rfl)
theorem dX3_boundsForm_6 : decode cX3_boundsForm 6 = .ok (.ifCond .eq 42, 3) := dk_153 0 42 (dk_at dksX3_boundsForm_0 6 rfl rfl)
theorem dX3_boundsForm_9 : decode cX3_boundsForm 9 = .ok (.aload_n 0, 1) := dk_42 (dk_at dksX3_boundsForm_0 9 rfl rfl)
theorem dX3_boundsForm_10 : decode cX3_boundsForm 10 = .ok (.invokevirtual 159, 3) := dk_182 0 159 (dk_at dksX3_boundsForm_0 10 rfl rfl)
theorem dX3_boundsForm_13 : decode cX3_boundsForm 13 = .ok (.ifCond .eq 39, 3) := dk_153 0 39 (dk_at dksX3_boundsForm_0 13 rfl rfl)
theorem dX3_boundsForm_16 : decode cX3_boundsForm 16 = .ok (.aload_n 0, 1) := dk_42 (dk_at dksX3_boundsForm_0 16 rfl rfl)
theorem dX3_boundsForm_17 : decode cX3_boundsForm 17 = .ok (.invokevirtual 181, 3) := dk_182 0 181 (dk_at dksX3_boundsForm_0 17 rfl rfl)
theorem dX3_boundsForm_20 : decode cX3_boundsForm 20 = .ok (.ifCond .eq 32, 3) := dk_153 0 32 (dk_at dksX3_boundsForm_0 20 rfl rfl)
theorem dX3_boundsForm_23 : decode cX3_boundsForm 23 = .ok (.aload_n 0, 1) := dk_42 (dk_at dksX3_boundsForm_0 23 rfl rfl)
theorem dX3_boundsForm_24 : decode cX3_boundsForm 24 = .ok (.ldc 226, 2) := dk_18 226 (dk_at dksX3_boundsForm_1 0 rfl rfl)
theorem dX3_boundsForm_26 : decode cX3_boundsForm 26 = .ok (.invokevirtual 171, 3) := dk_182 0 171 (dk_at dksX3_boundsForm_1 2 rfl rfl)
theorem dX3_boundsForm_29 : decode cX3_boundsForm 29 = .ok (.ifCond .eq 23, 3) := dk_153 0 23 (dk_at dksX3_boundsForm_1 5 rfl rfl)
theorem dX3_boundsForm_32 : decode cX3_boundsForm 32 = .ok (.aload_n 0, 1) := dk_42 (dk_at dksX3_boundsForm_1 8 rfl rfl)
theorem dX3_boundsForm_33 : decode cX3_boundsForm 33 = .ok (.invokevirtual 181, 3) := dk_182 0 181 (dk_at dksX3_boundsForm_1 9 rfl rfl)
theorem dX3_boundsForm_36 : decode cX3_boundsForm 36 = .ok (.ifCond .eq 16, 3) := dk_153 0 16 (dk_at dksX3_boundsForm_1 12 rfl rfl)
theorem dX3_boundsForm_39 : decode cX3_boundsForm 39 = .ok (.aload_n 0, 1) := dk_42 (dk_at dksX3_boundsForm_1 15 rfl rfl)
theorem dX3_boundsForm_40 : decode cX3_boundsForm 40 = .ok (.ldc 228, 2) := dk_18 228 (dk_at dksX3_boundsForm_1 16 rfl rfl)
theorem dX3_boundsForm_42 : decode cX3_boundsForm 42 = .ok (.invokevirtual 171, 3) := dk_182 0 171 (dk_at dksX3_boundsForm_1 18 rfl rfl)
theorem dX3_boundsForm_45 : decode cX3_boundsForm 45 = .ok (.ifCond .eq 7, 3) := dk_153 0 7 (dk_at dksX3_boundsForm_1 21 rfl rfl)
theorem dX3_boundsForm_48 : decode cX3_boundsForm 48 = .ok (.iconst 1, 1) := dk_4 (dk_at dksX3_boundsForm_2 0 rfl rfl)
theorem dX3_boundsForm_49 : decode cX3_boundsForm 49 = .ok (.goto 4, 3) := dk_167 0 4 (dk_at dksX3_boundsForm_2 1 rfl rfl)
theorem dX3_boundsForm_52 : decode cX3_boundsForm 52 = .ok (.iconst 0, 1) := dk_3 (dk_at dksX3_boundsForm_2 4 rfl rfl)
theorem dX3_boundsForm_53 : decode cX3_boundsForm 53 = .ok (.ireturn, 1) := dk_172 (dk_at dksX3_boundsForm_2 5 rfl rfl)
abbrev cX3_expressionForm : ByteArray := prog_34_method_29_code
def yX3_expressionForm : MethodName := ⟨RX3, "expressionForm", "(I)Z"⟩
def dkwX3_expressionForm_2 : List UInt8 := [172]
abbrev dktX3_expressionForm_2 : List UInt8 := dkwX3_expressionForm_2 ++ []
def dkwX3_expressionForm_1 : List UInt8 := [182, 0, 155, 153, 0, 20, 42, 182, 0, 159, 153, 0, 11, 42, 27, 182, 0, 245, 154, 255, 226, 3, 172, 4]
abbrev dktX3_expressionForm_1 : List UInt8 := dkwX3_expressionForm_1 ++ dktX3_expressionForm_2
def dkwX3_expressionForm_0 : List UInt8 := [42, 27, 182, 0, 245, 154, 0, 5, 3, 172, 42, 18, 248, 182, 0, 155, 154, 0, 12, 42, 18, 179]
abbrev dktX3_expressionForm_0 : List UInt8 := dkwX3_expressionForm_0 ++ dktX3_expressionForm_1
theorem dksX3_expressionForm_0 : cX3_expressionForm.data.toList.drop 0 = dktX3_expressionForm_0 := by decide +kernel
theorem dksX3_expressionForm_1 : cX3_expressionForm.data.toList.drop 22 = dktX3_expressionForm_1 := dk_seg dksX3_expressionForm_0 22 rfl rfl
theorem dksX3_expressionForm_2 : cX3_expressionForm.data.toList.drop 46 = dktX3_expressionForm_2 := dk_seg dksX3_expressionForm_1 24 rfl rfl
theorem dX3_expressionForm_0 : decode cX3_expressionForm 0 = .ok (.aload_n 0, 1) := dk_42 (dk_at dksX3_expressionForm_0 0 rfl rfl)
theorem dX3_expressionForm_1 : decode cX3_expressionForm 1 = .ok (.iload_n 1, 1) := dk_27 (dk_at dksX3_expressionForm_0 1 rfl rfl)
theorem dX3_expressionForm_2 : decode cX3_expressionForm 2 = .ok (.invokevirtual 245, 3) := dk_182 0 245 (dk_at dksX3_expressionForm_0 2 rfl rfl)
theorem dX3_expressionForm_5 : decode cX3_expressionForm 5 = .ok (.ifCond .ne 5, 3) := dk_154 0 5 (dk_at dksX3_expressionForm_0 5 rfl rfl)
theorem dX3_expressionForm_8 : decode cX3_expressionForm 8 = .ok (.iconst 0, 1) := dk_3 (dk_at dksX3_expressionForm_0 8 rfl rfl)
theorem dX3_expressionForm_9 : decode cX3_expressionForm 9 = .ok (.ireturn, 1) := dk_172 (dk_at dksX3_expressionForm_0 9 rfl rfl)
theorem dX3_expressionForm_10 : decode cX3_expressionForm 10 = .ok (.aload_n 0, 1) := dk_42 (dk_at dksX3_expressionForm_0 10 rfl rfl)
theorem dX3_expressionForm_11 : decode cX3_expressionForm 11 = .ok (.ldc 248, 2) := dk_18 248 (dk_at dksX3_expressionForm_0 11 rfl rfl)
theorem dX3_expressionForm_13 : decode cX3_expressionForm 13 = .ok (.invokevirtual 155, 3) := dk_182 0 155 (dk_at dksX3_expressionForm_0 13 rfl rfl)
theorem dX3_expressionForm_16 : decode cX3_expressionForm 16 = .ok (.ifCond .ne 12, 3) := dk_154 0 12 (dk_at dksX3_expressionForm_0 16 rfl rfl)
theorem dX3_expressionForm_19 : decode cX3_expressionForm 19 = .ok (.aload_n 0, 1) := dk_42 (dk_at dksX3_expressionForm_0 19 rfl rfl)
theorem dX3_expressionForm_20 : decode cX3_expressionForm 20 = .ok (.ldc 179, 2) := dk_18 179 (dk_at dksX3_expressionForm_0 20 rfl rfl)
theorem dX3_expressionForm_22 : decode cX3_expressionForm 22 = .ok (.invokevirtual 155, 3) := dk_182 0 155 (dk_at dksX3_expressionForm_1 0 rfl rfl)
theorem dX3_expressionForm_25 : decode cX3_expressionForm 25 = .ok (.ifCond .eq 20, 3) := dk_153 0 20 (dk_at dksX3_expressionForm_1 3 rfl rfl)
theorem dX3_expressionForm_28 : decode cX3_expressionForm 28 = .ok (.aload_n 0, 1) := dk_42 (dk_at dksX3_expressionForm_1 6 rfl rfl)
theorem dX3_expressionForm_29 : decode cX3_expressionForm 29 = .ok (.invokevirtual 159, 3) := dk_182 0 159 (dk_at dksX3_expressionForm_1 7 rfl rfl)
theorem dX3_expressionForm_32 : decode cX3_expressionForm 32 = .ok (.ifCond .eq 11, 3) := dk_153 0 11 (dk_at dksX3_expressionForm_1 10 rfl rfl)
theorem dX3_expressionForm_35 : decode cX3_expressionForm 35 = .ok (.aload_n 0, 1) := dk_42 (dk_at dksX3_expressionForm_1 13 rfl rfl)
theorem dX3_expressionForm_36 : decode cX3_expressionForm 36 = .ok (.iload_n 1, 1) := dk_27 (dk_at dksX3_expressionForm_1 14 rfl rfl)
theorem dX3_expressionForm_37 : decode cX3_expressionForm 37 = .ok (.invokevirtual 245, 3) := dk_182 0 245 (dk_at dksX3_expressionForm_1 15 rfl rfl)
theorem dX3_expressionForm_40 : decode cX3_expressionForm 40 = .ok (.ifCond .ne (-30), 3) := dk_154 255 226 (dk_at dksX3_expressionForm_1 18 rfl rfl)
theorem dX3_expressionForm_43 : decode cX3_expressionForm 43 = .ok (.iconst 0, 1) := dk_3 (dk_at dksX3_expressionForm_1 21 rfl rfl)
theorem dX3_expressionForm_44 : decode cX3_expressionForm 44 = .ok (.ireturn, 1) := dk_172 (dk_at dksX3_expressionForm_1 22 rfl rfl)
theorem dX3_expressionForm_45 : decode cX3_expressionForm 45 = .ok (.iconst 1, 1) := dk_4 (dk_at dksX3_expressionForm_1 23 rfl rfl)
theorem dX3_expressionForm_46 : decode cX3_expressionForm 46 = .ok (.ireturn, 1) := dk_172 (dk_at dksX3_expressionForm_2 0 rfl rfl)
abbrev cX3_productForm : ByteArray := prog_34_method_30_code
def yX3_productForm : MethodName := ⟨RX3, "productForm", "(I)Z"⟩
def dkwX3_productForm_2 : List UInt8 := [27, 182, 0, 250, 154, 255, 216, 3, 172, 4, 172]
abbrev dktX3_productForm_2 : List UInt8 := dkwX3_productForm_2 ++ []
def dkwX3_productForm_1 : List UInt8 := [182, 0, 155, 154, 0, 13, 42, 19, 1, 1, 182, 0, 155, 153, 0, 20, 42, 182, 0, 159, 153, 0, 11, 42]
abbrev dktX3_productForm_1 : List UInt8 := dkwX3_productForm_1 ++ dktX3_productForm_2
def dkwX3_productForm_0 : List UInt8 := [42, 27, 182, 0, 250, 154, 0, 5, 3, 172, 42, 18, 253, 182, 0, 155, 154, 0, 22, 42, 18, 255]
abbrev dktX3_productForm_0 : List UInt8 := dkwX3_productForm_0 ++ dktX3_productForm_1
theorem dksX3_productForm_0 : cX3_productForm.data.toList.drop 0 = dktX3_productForm_0 := by decide +kernel
theorem dksX3_productForm_1 : cX3_productForm.data.toList.drop 22 = dktX3_productForm_1 := dk_seg dksX3_productForm_0 22 rfl rfl
theorem dksX3_productForm_2 : cX3_productForm.data.toList.drop 46 = dktX3_productForm_2 := dk_seg dksX3_productForm_1 24 rfl rfl
theorem dX3_productForm_0 : decode cX3_productForm 0 = .ok (.aload_n 0, 1) := dk_42 (dk_at dksX3_productForm_0 0 rfl rfl)
theorem dX3_productForm_1 : decode cX3_productForm 1 = .ok (.iload_n 1, 1) := dk_27 (dk_at dksX3_productForm_0 1 rfl rfl)
theorem dX3_productForm_2 : decode cX3_productForm 2 = .ok (.invokevirtual 250, 3) := dk_182 0 250 (dk_at dksX3_productForm_0 2 rfl rfl)
theorem dX3_productForm_5 : decode cX3_productForm 5 = .ok (.ifCond .ne 5, 3) := dk_154 0 5 (dk_at dksX3_productForm_0 5 rfl rfl)
theorem dX3_productForm_8 : decode cX3_productForm 8 = .ok (.iconst 0, 1) := dk_3 (dk_at dksX3_productForm_0 8 rfl rfl)
theorem dX3_productForm_9 : decode cX3_productForm 9 = .ok (.ireturn, 1) := dk_172 (dk_at dksX3_productForm_0 9 rfl rfl)
theorem dX3_productForm_10 : decode cX3_productForm 10 = .ok (.aload_n 0, 1) := dk_42 (dk_at dksX3_productForm_0 10 rfl rfl)
theorem dX3_productForm_11 : decode cX3_productForm 11 = .ok (.ldc 253, 2) := dk_18 253 (dk_at dksX3_productForm_0 11 rfl rfl)
theorem dX3_productForm_13 : decode cX3_productForm 13 = .ok (.invokevirtual 155, 3) := dk_182 0 155 (dk_at dksX3_productForm_0 13 rfl rfl)
theorem dX3_productForm_16 : decode cX3_productForm 16 = .ok (.ifCond .ne 22, 3) := dk_154 0 22 (dk_at dksX3_productForm_0 16 rfl rfl)
theorem dX3_productForm_19 : decode cX3_productForm 19 = .ok (.aload_n 0, 1) := dk_42 (dk_at dksX3_productForm_0 19 rfl rfl)
theorem dX3_productForm_20 : decode cX3_productForm 20 = .ok (.ldc 255, 2) := dk_18 255 (dk_at dksX3_productForm_0 20 rfl rfl)
theorem dX3_productForm_22 : decode cX3_productForm 22 = .ok (.invokevirtual 155, 3) := dk_182 0 155 (dk_at dksX3_productForm_1 0 rfl rfl)
theorem dX3_productForm_25 : decode cX3_productForm 25 = .ok (.ifCond .ne 13, 3) := dk_154 0 13 (dk_at dksX3_productForm_1 3 rfl rfl)
theorem dX3_productForm_28 : decode cX3_productForm 28 = .ok (.aload_n 0, 1) := dk_42 (dk_at dksX3_productForm_1 6 rfl rfl)
theorem dX3_productForm_29 : decode cX3_productForm 29 = .ok (.ldc_w 257, 3) := dk_19 1 1 (dk_at dksX3_productForm_1 7 rfl rfl)
theorem dX3_productForm_32 : decode cX3_productForm 32 = .ok (.invokevirtual 155, 3) := dk_182 0 155 (dk_at dksX3_productForm_1 10 rfl rfl)
theorem dX3_productForm_35 : decode cX3_productForm 35 = .ok (.ifCond .eq 20, 3) := dk_153 0 20 (dk_at dksX3_productForm_1 13 rfl rfl)
theorem dX3_productForm_38 : decode cX3_productForm 38 = .ok (.aload_n 0, 1) := dk_42 (dk_at dksX3_productForm_1 16 rfl rfl)
theorem dX3_productForm_39 : decode cX3_productForm 39 = .ok (.invokevirtual 159, 3) := dk_182 0 159 (dk_at dksX3_productForm_1 17 rfl rfl)
theorem dX3_productForm_42 : decode cX3_productForm 42 = .ok (.ifCond .eq 11, 3) := dk_153 0 11 (dk_at dksX3_productForm_1 20 rfl rfl)
theorem dX3_productForm_45 : decode cX3_productForm 45 = .ok (.aload_n 0, 1) := dk_42 (dk_at dksX3_productForm_1 23 rfl rfl)
theorem dX3_productForm_46 : decode cX3_productForm 46 = .ok (.iload_n 1, 1) := dk_27 (dk_at dksX3_productForm_2 0 rfl rfl)
theorem dX3_productForm_47 : decode cX3_productForm 47 = .ok (.invokevirtual 250, 3) := dk_182 0 250 (dk_at dksX3_productForm_2 1 rfl rfl)
theorem dX3_productForm_50 : decode cX3_productForm 50 = .ok (.ifCond .ne (-40), 3) := dk_154 255 216 (dk_at dksX3_productForm_2 4 rfl rfl)
theorem dX3_productForm_53 : decode cX3_productForm 53 = .ok (.iconst 0, 1) := dk_3 (dk_at dksX3_productForm_2 7 rfl rfl)
theorem dX3_productForm_54 : decode cX3_productForm 54 = .ok (.ireturn, 1) := dk_172 (dk_at dksX3_productForm_2 8 rfl rfl)
theorem dX3_productForm_55 : decode cX3_productForm 55 = .ok (.iconst 1, 1) := dk_4 (dk_at dksX3_productForm_2 9 rfl rfl)
theorem dX3_productForm_56 : decode cX3_productForm 56 = .ok (.ireturn, 1) := dk_172 (dk_at dksX3_productForm_2 10 rfl rfl)
abbrev cX3_factorForm : ByteArray := prog_34_method_32_code
def yX3_factorForm : MethodName := ⟨RX3, "factorForm", "(I)Z"⟩
def dkwX3_factorForm_13 : List UInt8 := [153, 0, 7, 4, 167, 0, 4, 3, 172]
abbrev dktX3_factorForm_13 : List UInt8 := dkwX3_factorForm_13 ++ []
def dkwX3_factorForm_12 : List UInt8 := [182, 0, 250, 153, 0, 27, 42, 19, 1, 26, 182, 0, 171, 153, 0, 17, 42, 27, 4, 96, 182, 0, 250]
abbrev dktX3_factorForm_12 : List UInt8 := dkwX3_factorForm_12 ++ dktX3_factorForm_13
def dkwX3_factorForm_11 : List UInt8 := [18, 235, 182, 0, 171, 153, 0, 47, 42, 19, 1, 24, 182, 0, 171, 153, 0, 37, 42, 27, 4, 96]
abbrev dktX3_factorForm_11 : List UInt8 := dkwX3_factorForm_11 ++ dktX3_factorForm_12
def dkwX3_factorForm_10 : List UInt8 := [167, 0, 4, 3, 172, 42, 19, 1, 22, 182, 0, 171, 153, 0, 64, 42, 27, 182, 1, 18, 153, 0, 56, 42]
abbrev dktX3_factorForm_10 : List UInt8 := dkwX3_factorForm_10 ++ dktX3_factorForm_11
def dkwX3_factorForm_9 : List UInt8 := [153, 0, 26, 42, 18, 235, 182, 0, 171, 153, 0, 17, 42, 27, 4, 96, 182, 0, 250, 153, 0, 7, 4]
abbrev dktX3_factorForm_9 : List UInt8 := dkwX3_factorForm_9 ++ dktX3_factorForm_10
def dkwX3_factorForm_8 : List UInt8 := [3, 172, 42, 19, 1, 21, 182, 0, 155, 153, 0, 43, 42, 182, 0, 159, 153, 0, 34, 42, 27, 182, 1, 18]
abbrev dktX3_factorForm_8 : List UInt8 := dkwX3_factorForm_8 ++ dktX3_factorForm_9
def dkwX3_factorForm_7 : List UInt8 := [153, 0, 24, 42, 27, 182, 1, 18, 153, 0, 16, 42, 18, 235, 182, 0, 171, 153, 0, 7, 4, 167, 0, 4]
abbrev dktX3_factorForm_7 : List UInt8 := dkwX3_factorForm_7 ++ dktX3_factorForm_8
def dkwX3_factorForm_6 : List UInt8 := [19, 1, 14, 182, 0, 155, 154, 0, 13, 42, 19, 1, 16, 182, 0, 155, 153, 0, 33, 42, 182, 0, 159]
abbrev dktX3_factorForm_6 : List UInt8 := dkwX3_factorForm_6 ++ dktX3_factorForm_7
def dkwX3_factorForm_5 : List UInt8 := [182, 0, 159, 153, 0, 17, 42, 27, 4, 96, 182, 0, 250, 153, 0, 7, 4, 167, 0, 4, 3, 172, 42]
abbrev dktX3_factorForm_5 : List UInt8 := dkwX3_factorForm_5 ++ dktX3_factorForm_6
def dkwX3_factorForm_4 : List UInt8 := [3, 172, 42, 42, 180, 0, 152, 178, 1, 11, 182, 0, 146, 2, 159, 0, 32, 27, 16, 10, 162, 0, 24, 42]
abbrev dktX3_factorForm_4 : List UInt8 := dkwX3_factorForm_4 ++ dktX3_factorForm_5
def dkwX3_factorForm_3 : List UInt8 := [42, 27, 4, 96, 182, 0, 195, 153, 0, 17, 42, 19, 1, 9, 182, 0, 171, 153, 0, 7, 4, 167, 0, 4]
abbrev dktX3_factorForm_3 : List UInt8 := dkwX3_factorForm_3 ++ dktX3_factorForm_4
def dkwX3_factorForm_2 : List UInt8 := [172, 42, 19, 1, 7, 182, 0, 155, 153, 0, 42, 27, 16, 10, 162, 0, 34, 42, 182, 0, 159, 153, 0, 27]
abbrev dktX3_factorForm_2 : List UInt8 := dkwX3_factorForm_2 ++ dktX3_factorForm_3
def dkwX3_factorForm_1 : List UInt8 := [42, 19, 1, 3, 182, 0, 155, 154, 0, 13, 42, 19, 1, 5, 182, 0, 155, 153, 0, 8, 42, 182, 0, 159]
abbrev dktX3_factorForm_1 : List UInt8 := dkwX3_factorForm_1 ++ dktX3_factorForm_2
def dkwX3_factorForm_0 : List UInt8 := [42, 180, 0, 17, 42, 180, 0, 152, 46, 5, 159, 0, 34, 42, 42, 180, 0, 152, 182, 0, 163, 154, 0, 23]
abbrev dktX3_factorForm_0 : List UInt8 := dkwX3_factorForm_0 ++ dktX3_factorForm_1
theorem dksX3_factorForm_0 : cX3_factorForm.data.toList.drop 0 = dktX3_factorForm_0 := by decide +kernel
theorem dksX3_factorForm_1 : cX3_factorForm.data.toList.drop 24 = dktX3_factorForm_1 := dk_seg dksX3_factorForm_0 24 rfl rfl
theorem dksX3_factorForm_2 : cX3_factorForm.data.toList.drop 48 = dktX3_factorForm_2 := dk_seg dksX3_factorForm_1 24 rfl rfl
theorem dksX3_factorForm_3 : cX3_factorForm.data.toList.drop 72 = dktX3_factorForm_3 := dk_seg dksX3_factorForm_2 24 rfl rfl
theorem dksX3_factorForm_4 : cX3_factorForm.data.toList.drop 96 = dktX3_factorForm_4 := dk_seg dksX3_factorForm_3 24 rfl rfl
theorem dksX3_factorForm_5 : cX3_factorForm.data.toList.drop 120 = dktX3_factorForm_5 := dk_seg dksX3_factorForm_4 24 rfl rfl
theorem dksX3_factorForm_6 : cX3_factorForm.data.toList.drop 143 = dktX3_factorForm_6 := dk_seg dksX3_factorForm_5 23 rfl rfl
theorem dksX3_factorForm_7 : cX3_factorForm.data.toList.drop 166 = dktX3_factorForm_7 := dk_seg dksX3_factorForm_6 23 rfl rfl
theorem dksX3_factorForm_8 : cX3_factorForm.data.toList.drop 190 = dktX3_factorForm_8 := dk_seg dksX3_factorForm_7 24 rfl rfl
theorem dksX3_factorForm_9 : cX3_factorForm.data.toList.drop 214 = dktX3_factorForm_9 := dk_seg dksX3_factorForm_8 24 rfl rfl
theorem dksX3_factorForm_10 : cX3_factorForm.data.toList.drop 237 = dktX3_factorForm_10 := dk_seg dksX3_factorForm_9 23 rfl rfl
theorem dksX3_factorForm_11 : cX3_factorForm.data.toList.drop 261 = dktX3_factorForm_11 := dk_seg dksX3_factorForm_10 24 rfl rfl
theorem dksX3_factorForm_12 : cX3_factorForm.data.toList.drop 283 = dktX3_factorForm_12 := dk_seg dksX3_factorForm_11 22 rfl rfl
theorem dksX3_factorForm_13 : cX3_factorForm.data.toList.drop 306 = dktX3_factorForm_13 := dk_seg dksX3_factorForm_12 23 rfl rfl
theorem dX3_factorForm_0 : decode cX3_factorForm 0 = .ok (.aload_n 0, 1) := dk_42 (dk_at dksX3_factorForm_0 0 rfl rfl)
theorem dX3_factorForm_1 : decode cX3_factorForm 1 = .ok (.getfield 17, 3) := dk_180 0 17 (dk_at dksX3_factorForm_0 1 rfl rfl)
theorem dX3_factorForm_4 : decode cX3_factorForm 4 = .ok (.aload_n 0, 1) := dk_42 (dk_at dksX3_factorForm_0 4 rfl rfl)
theorem dX3_factorForm_5 : decode cX3_factorForm 5 = .ok (.getfield 152, 3) := dk_180 0 152 (dk_at dksX3_factorForm_0 5 rfl rfl)
theorem dX3_factorForm_8 : decode cX3_factorForm 8 = .ok (.iaload, 1) := dk_46 (dk_at dksX3_factorForm_0 8 rfl rfl)
theorem dX3_factorForm_9 : decode cX3_factorForm 9 = .ok (.iconst 2, 1) := dk_5 (dk_at dksX3_factorForm_0 9 rfl rfl)
theorem dX3_factorForm_10 : decode cX3_factorForm 10 = .ok (.if_icmp .eq 34, 3) := dk_159 0 34 (dk_at dksX3_factorForm_0 10 rfl rfl)
theorem dX3_factorForm_13 : decode cX3_factorForm 13 = .ok (.aload_n 0, 1) := dk_42 (dk_at dksX3_factorForm_0 13 rfl rfl)
theorem dX3_factorForm_14 : decode cX3_factorForm 14 = .ok (.aload_n 0, 1) := dk_42 (dk_at dksX3_factorForm_0 14 rfl rfl)
theorem dX3_factorForm_15 : decode cX3_factorForm 15 = .ok (.getfield 152, 3) := dk_180 0 152 (dk_at dksX3_factorForm_0 15 rfl rfl)
theorem dX3_factorForm_18 : decode cX3_factorForm 18 = .ok (.invokevirtual 163, 3) := dk_182 0 163 (dk_at dksX3_factorForm_0 18 rfl rfl)
theorem dX3_factorForm_21 : decode cX3_factorForm 21 = .ok (.ifCond .ne 23, 3) := dk_154 0 23 (dk_at dksX3_factorForm_0 21 rfl rfl)
theorem dX3_factorForm_24 : decode cX3_factorForm 24 = .ok (.aload_n 0, 1) := dk_42 (dk_at dksX3_factorForm_1 0 rfl rfl)
theorem dX3_factorForm_25 : decode cX3_factorForm 25 = .ok (.ldc_w 259, 3) := dk_19 1 3 (dk_at dksX3_factorForm_1 1 rfl rfl)
theorem dX3_factorForm_28 : decode cX3_factorForm 28 = .ok (.invokevirtual 155, 3) := dk_182 0 155 (dk_at dksX3_factorForm_1 4 rfl rfl)
theorem dX3_factorForm_31 : decode cX3_factorForm 31 = .ok (.ifCond .ne 13, 3) := dk_154 0 13 (dk_at dksX3_factorForm_1 7 rfl rfl)
theorem dX3_factorForm_34 : decode cX3_factorForm 34 = .ok (.aload_n 0, 1) := dk_42 (dk_at dksX3_factorForm_1 10 rfl rfl)
theorem dX3_factorForm_35 : decode cX3_factorForm 35 = .ok (.ldc_w 261, 3) := dk_19 1 5 (dk_at dksX3_factorForm_1 11 rfl rfl)
theorem dX3_factorForm_38 : decode cX3_factorForm 38 = .ok (.invokevirtual 155, 3) := dk_182 0 155 (dk_at dksX3_factorForm_1 14 rfl rfl)
theorem dX3_factorForm_41 : decode cX3_factorForm 41 = .ok (.ifCond .eq 8, 3) := dk_153 0 8 (dk_at dksX3_factorForm_1 17 rfl rfl)
theorem dX3_factorForm_44 : decode cX3_factorForm 44 = .ok (.aload_n 0, 1) := dk_42 (dk_at dksX3_factorForm_1 20 rfl rfl)
theorem dX3_factorForm_45 : decode cX3_factorForm 45 = .ok (.invokevirtual 159, 3) := dk_182 0 159 (dk_at dksX3_factorForm_1 21 rfl rfl)
theorem dX3_factorForm_48 : decode cX3_factorForm 48 = .ok (.ireturn, 1) := dk_172 (dk_at dksX3_factorForm_2 0 rfl rfl)
theorem dX3_factorForm_49 : decode cX3_factorForm 49 = .ok (.aload_n 0, 1) := dk_42 (dk_at dksX3_factorForm_2 1 rfl rfl)
theorem dX3_factorForm_50 : decode cX3_factorForm 50 = .ok (.ldc_w 263, 3) := dk_19 1 7 (dk_at dksX3_factorForm_2 2 rfl rfl)
theorem dX3_factorForm_53 : decode cX3_factorForm 53 = .ok (.invokevirtual 155, 3) := dk_182 0 155 (dk_at dksX3_factorForm_2 5 rfl rfl)
theorem dX3_factorForm_56 : decode cX3_factorForm 56 = .ok (.ifCond .eq 42, 3) := dk_153 0 42 (dk_at dksX3_factorForm_2 8 rfl rfl)
theorem dX3_factorForm_59 : decode cX3_factorForm 59 = .ok (.iload_n 1, 1) := dk_27 (dk_at dksX3_factorForm_2 11 rfl rfl)
theorem dX3_factorForm_60 : decode cX3_factorForm 60 = .ok (.bipush 10, 2) := dk_16 10 (dk_at dksX3_factorForm_2 12 rfl rfl)
theorem dX3_factorForm_62 : decode cX3_factorForm 62 = .ok (.if_icmp .ge 34, 3) := dk_162 0 34 (dk_at dksX3_factorForm_2 14 rfl rfl)
theorem dX3_factorForm_65 : decode cX3_factorForm 65 = .ok (.aload_n 0, 1) := dk_42 (dk_at dksX3_factorForm_2 17 rfl rfl)
theorem dX3_factorForm_66 : decode cX3_factorForm 66 = .ok (.invokevirtual 159, 3) := dk_182 0 159 (dk_at dksX3_factorForm_2 18 rfl rfl)
theorem dX3_factorForm_69 : decode cX3_factorForm 69 = .ok (.ifCond .eq 27, 3) := dk_153 0 27 (dk_at dksX3_factorForm_2 21 rfl rfl)
theorem dX3_factorForm_72 : decode cX3_factorForm 72 = .ok (.aload_n 0, 1) := dk_42 (dk_at dksX3_factorForm_3 0 rfl rfl)
theorem dX3_factorForm_73 : decode cX3_factorForm 73 = .ok (.iload_n 1, 1) := dk_27 (dk_at dksX3_factorForm_3 1 rfl rfl)
theorem dX3_factorForm_74 : decode cX3_factorForm 74 = .ok (.iconst 1, 1) := dk_4 (dk_at dksX3_factorForm_3 2 rfl rfl)
theorem dX3_factorForm_75 : decode cX3_factorForm 75 = .ok (.iadd, 1) := dk_96 (dk_at dksX3_factorForm_3 3 rfl rfl)
theorem dX3_factorForm_76 : decode cX3_factorForm 76 = .ok (.invokevirtual 195, 3) := dk_182 0 195 (dk_at dksX3_factorForm_3 4 rfl rfl)
theorem dX3_factorForm_79 : decode cX3_factorForm 79 = .ok (.ifCond .eq 17, 3) := dk_153 0 17 (dk_at dksX3_factorForm_3 7 rfl rfl)
theorem dX3_factorForm_82 : decode cX3_factorForm 82 = .ok (.aload_n 0, 1) := dk_42 (dk_at dksX3_factorForm_3 10 rfl rfl)
theorem dX3_factorForm_83 : decode cX3_factorForm 83 = .ok (.ldc_w 265, 3) := dk_19 1 9 (dk_at dksX3_factorForm_3 11 rfl rfl)
theorem dX3_factorForm_86 : decode cX3_factorForm 86 = .ok (.invokevirtual 171, 3) := dk_182 0 171 (dk_at dksX3_factorForm_3 14 rfl rfl)
theorem dX3_factorForm_89 : decode cX3_factorForm 89 = .ok (.ifCond .eq 7, 3) := dk_153 0 7 (dk_at dksX3_factorForm_3 17 rfl rfl)
theorem dX3_factorForm_92 : decode cX3_factorForm 92 = .ok (.iconst 1, 1) := dk_4 (dk_at dksX3_factorForm_3 20 rfl rfl)
theorem dX3_factorForm_93 : decode cX3_factorForm 93 = .ok (.goto 4, 3) := dk_167 0 4 (dk_at dksX3_factorForm_3 21 rfl rfl)
theorem dX3_factorForm_96 : decode cX3_factorForm 96 = .ok (.iconst 0, 1) := dk_3 (dk_at dksX3_factorForm_4 0 rfl rfl)
theorem dX3_factorForm_97 : decode cX3_factorForm 97 = .ok (.ireturn, 1) := dk_172 (dk_at dksX3_factorForm_4 1 rfl rfl)
theorem dX3_factorForm_98 : decode cX3_factorForm 98 = .ok (.aload_n 0, 1) := dk_42 (dk_at dksX3_factorForm_4 2 rfl rfl)
theorem dX3_factorForm_99 : decode cX3_factorForm 99 = .ok (.aload_n 0, 1) := dk_42 (dk_at dksX3_factorForm_4 3 rfl rfl)
theorem dX3_factorForm_100 : decode cX3_factorForm 100 = .ok (.getfield 152, 3) := dk_180 0 152 (dk_at dksX3_factorForm_4 4 rfl rfl)
theorem dX3_factorForm_103 : decode cX3_factorForm 103 = .ok (.getstatic 267, 3) := dk_178 1 11 (dk_at dksX3_factorForm_4 7 rfl rfl)
theorem dX3_factorForm_106 : decode cX3_factorForm 106 = .ok (.invokevirtual 146, 3) := dk_182 0 146 (dk_at dksX3_factorForm_4 10 rfl rfl)
theorem dX3_factorForm_109 : decode cX3_factorForm 109 = .ok (.iconst (-1), 1) := dk_2 (dk_at dksX3_factorForm_4 13 rfl rfl)
theorem dX3_factorForm_110 : decode cX3_factorForm 110 = .ok (.if_icmp .eq 32, 3) := dk_159 0 32 (dk_at dksX3_factorForm_4 14 rfl rfl)
theorem dX3_factorForm_113 : decode cX3_factorForm 113 = .ok (.iload_n 1, 1) := dk_27 (dk_at dksX3_factorForm_4 17 rfl rfl)
theorem dX3_factorForm_114 : decode cX3_factorForm 114 = .ok (.bipush 10, 2) := dk_16 10 (dk_at dksX3_factorForm_4 18 rfl rfl)
theorem dX3_factorForm_116 : decode cX3_factorForm 116 = .ok (.if_icmp .ge 24, 3) := dk_162 0 24 (dk_at dksX3_factorForm_4 20 rfl rfl)
theorem dX3_factorForm_119 : decode cX3_factorForm 119 = .ok (.aload_n 0, 1) := dk_42 (dk_at dksX3_factorForm_4 23 rfl rfl)
theorem dX3_factorForm_120 : decode cX3_factorForm 120 = .ok (.invokevirtual 159, 3) := dk_182 0 159 (dk_at dksX3_factorForm_5 0 rfl rfl)
theorem dX3_factorForm_123 : decode cX3_factorForm 123 = .ok (.ifCond .eq 17, 3) := dk_153 0 17 (dk_at dksX3_factorForm_5 3 rfl rfl)
theorem dX3_factorForm_126 : decode cX3_factorForm 126 = .ok (.aload_n 0, 1) := dk_42 (dk_at dksX3_factorForm_5 6 rfl rfl)
theorem dX3_factorForm_127 : decode cX3_factorForm 127 = .ok (.iload_n 1, 1) := dk_27 (dk_at dksX3_factorForm_5 7 rfl rfl)
theorem dX3_factorForm_128 : decode cX3_factorForm 128 = .ok (.iconst 1, 1) := dk_4 (dk_at dksX3_factorForm_5 8 rfl rfl)
theorem dX3_factorForm_129 : decode cX3_factorForm 129 = .ok (.iadd, 1) := dk_96 (dk_at dksX3_factorForm_5 9 rfl rfl)
theorem dX3_factorForm_130 : decode cX3_factorForm 130 = .ok (.invokevirtual 250, 3) := dk_182 0 250 (dk_at dksX3_factorForm_5 10 rfl rfl)
theorem dX3_factorForm_133 : decode cX3_factorForm 133 = .ok (.ifCond .eq 7, 3) := dk_153 0 7 (dk_at dksX3_factorForm_5 13 rfl rfl)
theorem dX3_factorForm_136 : decode cX3_factorForm 136 = .ok (.iconst 1, 1) := dk_4 (dk_at dksX3_factorForm_5 16 rfl rfl)
theorem dX3_factorForm_137 : decode cX3_factorForm 137 = .ok (.goto 4, 3) := dk_167 0 4 (dk_at dksX3_factorForm_5 17 rfl rfl)
theorem dX3_factorForm_140 : decode cX3_factorForm 140 = .ok (.iconst 0, 1) := dk_3 (dk_at dksX3_factorForm_5 20 rfl rfl)
theorem dX3_factorForm_141 : decode cX3_factorForm 141 = .ok (.ireturn, 1) := dk_172 (dk_at dksX3_factorForm_5 21 rfl rfl)
theorem dX3_factorForm_142 : decode cX3_factorForm 142 = .ok (.aload_n 0, 1) := dk_42 (dk_at dksX3_factorForm_5 22 rfl rfl)
theorem dX3_factorForm_143 : decode cX3_factorForm 143 = .ok (.ldc_w 270, 3) := dk_19 1 14 (dk_at dksX3_factorForm_6 0 rfl rfl)
theorem dX3_factorForm_146 : decode cX3_factorForm 146 = .ok (.invokevirtual 155, 3) := dk_182 0 155 (dk_at dksX3_factorForm_6 3 rfl rfl)
theorem dX3_factorForm_149 : decode cX3_factorForm 149 = .ok (.ifCond .ne 13, 3) := dk_154 0 13 (dk_at dksX3_factorForm_6 6 rfl rfl)
theorem dX3_factorForm_152 : decode cX3_factorForm 152 = .ok (.aload_n 0, 1) := dk_42 (dk_at dksX3_factorForm_6 9 rfl rfl)
theorem dX3_factorForm_153 : decode cX3_factorForm 153 = .ok (.ldc_w 272, 3) := dk_19 1 16 (dk_at dksX3_factorForm_6 10 rfl rfl)
theorem dX3_factorForm_156 : decode cX3_factorForm 156 = .ok (.invokevirtual 155, 3) := dk_182 0 155 (dk_at dksX3_factorForm_6 13 rfl rfl)
theorem dX3_factorForm_159 : decode cX3_factorForm 159 = .ok (.ifCond .eq 33, 3) := dk_153 0 33 (dk_at dksX3_factorForm_6 16 rfl rfl)
theorem dX3_factorForm_162 : decode cX3_factorForm 162 = .ok (.aload_n 0, 1) := dk_42 (dk_at dksX3_factorForm_6 19 rfl rfl)
theorem dX3_factorForm_163 : decode cX3_factorForm 163 = .ok (.invokevirtual 159, 3) := dk_182 0 159 (dk_at dksX3_factorForm_6 20 rfl rfl)
theorem dX3_factorForm_166 : decode cX3_factorForm 166 = .ok (.ifCond .eq 24, 3) := dk_153 0 24 (dk_at dksX3_factorForm_7 0 rfl rfl)
theorem dX3_factorForm_169 : decode cX3_factorForm 169 = .ok (.aload_n 0, 1) := dk_42 (dk_at dksX3_factorForm_7 3 rfl rfl)
theorem dX3_factorForm_170 : decode cX3_factorForm 170 = .ok (.iload_n 1, 1) := dk_27 (dk_at dksX3_factorForm_7 4 rfl rfl)
theorem dX3_factorForm_171 : decode cX3_factorForm 171 = .ok (.invokevirtual 274, 3) := dk_182 1 18 (dk_at dksX3_factorForm_7 5 rfl rfl)
theorem dX3_factorForm_174 : decode cX3_factorForm 174 = .ok (.ifCond .eq 16, 3) := dk_153 0 16 (dk_at dksX3_factorForm_7 8 rfl rfl)
theorem dX3_factorForm_177 : decode cX3_factorForm 177 = .ok (.aload_n 0, 1) := dk_42 (dk_at dksX3_factorForm_7 11 rfl rfl)
theorem dX3_factorForm_178 : decode cX3_factorForm 178 = .ok (.ldc 235, 2) := dk_18 235 (dk_at dksX3_factorForm_7 12 rfl rfl)
theorem dX3_factorForm_180 : decode cX3_factorForm 180 = .ok (.invokevirtual 171, 3) := dk_182 0 171 (dk_at dksX3_factorForm_7 14 rfl rfl)
theorem dX3_factorForm_183 : decode cX3_factorForm 183 = .ok (.ifCond .eq 7, 3) := dk_153 0 7 (dk_at dksX3_factorForm_7 17 rfl rfl)
theorem dX3_factorForm_186 : decode cX3_factorForm 186 = .ok (.iconst 1, 1) := dk_4 (dk_at dksX3_factorForm_7 20 rfl rfl)
theorem dX3_factorForm_187 : decode cX3_factorForm 187 = .ok (.goto 4, 3) := dk_167 0 4 (dk_at dksX3_factorForm_7 21 rfl rfl)
theorem dX3_factorForm_190 : decode cX3_factorForm 190 = .ok (.iconst 0, 1) := dk_3 (dk_at dksX3_factorForm_8 0 rfl rfl)
theorem dX3_factorForm_191 : decode cX3_factorForm 191 = .ok (.ireturn, 1) := dk_172 (dk_at dksX3_factorForm_8 1 rfl rfl)
theorem dX3_factorForm_192 : decode cX3_factorForm 192 = .ok (.aload_n 0, 1) := dk_42 (dk_at dksX3_factorForm_8 2 rfl rfl)
theorem dX3_factorForm_193 : decode cX3_factorForm 193 = .ok (.ldc_w 277, 3) := dk_19 1 21 (dk_at dksX3_factorForm_8 3 rfl rfl)
theorem dX3_factorForm_196 : decode cX3_factorForm 196 = .ok (.invokevirtual 155, 3) := dk_182 0 155 (dk_at dksX3_factorForm_8 6 rfl rfl)
theorem dX3_factorForm_199 : decode cX3_factorForm 199 = .ok (.ifCond .eq 43, 3) := dk_153 0 43 (dk_at dksX3_factorForm_8 9 rfl rfl)
theorem dX3_factorForm_202 : decode cX3_factorForm 202 = .ok (.aload_n 0, 1) := dk_42 (dk_at dksX3_factorForm_8 12 rfl rfl)
theorem dX3_factorForm_203 : decode cX3_factorForm 203 = .ok (.invokevirtual 159, 3) := dk_182 0 159 (dk_at dksX3_factorForm_8 13 rfl rfl)
theorem dX3_factorForm_206 : decode cX3_factorForm 206 = .ok (.ifCond .eq 34, 3) := dk_153 0 34 (dk_at dksX3_factorForm_8 16 rfl rfl)
theorem dX3_factorForm_209 : decode cX3_factorForm 209 = .ok (.aload_n 0, 1) := dk_42 (dk_at dksX3_factorForm_8 19 rfl rfl)
theorem dX3_factorForm_210 : decode cX3_factorForm 210 = .ok (.iload_n 1, 1) := dk_27 (dk_at dksX3_factorForm_8 20 rfl rfl)
theorem dX3_factorForm_211 : decode cX3_factorForm 211 = .ok (.invokevirtual 274, 3) := dk_182 1 18 (dk_at dksX3_factorForm_8 21 rfl rfl)
theorem dX3_factorForm_214 : decode cX3_factorForm 214 = .ok (.ifCond .eq 26, 3) := dk_153 0 26 (dk_at dksX3_factorForm_9 0 rfl rfl)
theorem dX3_factorForm_217 : decode cX3_factorForm 217 = .ok (.aload_n 0, 1) := dk_42 (dk_at dksX3_factorForm_9 3 rfl rfl)
theorem dX3_factorForm_218 : decode cX3_factorForm 218 = .ok (.ldc 235, 2) := dk_18 235 (dk_at dksX3_factorForm_9 4 rfl rfl)
theorem dX3_factorForm_220 : decode cX3_factorForm 220 = .ok (.invokevirtual 171, 3) := dk_182 0 171 (dk_at dksX3_factorForm_9 6 rfl rfl)
theorem dX3_factorForm_223 : decode cX3_factorForm 223 = .ok (.ifCond .eq 17, 3) := dk_153 0 17 (dk_at dksX3_factorForm_9 9 rfl rfl)
theorem dX3_factorForm_226 : decode cX3_factorForm 226 = .ok (.aload_n 0, 1) := dk_42 (dk_at dksX3_factorForm_9 12 rfl rfl)
theorem dX3_factorForm_227 : decode cX3_factorForm 227 = .ok (.iload_n 1, 1) := dk_27 (dk_at dksX3_factorForm_9 13 rfl rfl)
theorem dX3_factorForm_228 : decode cX3_factorForm 228 = .ok (.iconst 1, 1) := dk_4 (dk_at dksX3_factorForm_9 14 rfl rfl)
theorem dX3_factorForm_229 : decode cX3_factorForm 229 = .ok (.iadd, 1) := dk_96 (dk_at dksX3_factorForm_9 15 rfl rfl)
theorem dX3_factorForm_230 : decode cX3_factorForm 230 = .ok (.invokevirtual 250, 3) := dk_182 0 250 (dk_at dksX3_factorForm_9 16 rfl rfl)
theorem dX3_factorForm_233 : decode cX3_factorForm 233 = .ok (.ifCond .eq 7, 3) := dk_153 0 7 (dk_at dksX3_factorForm_9 19 rfl rfl)
theorem dX3_factorForm_236 : decode cX3_factorForm 236 = .ok (.iconst 1, 1) := dk_4 (dk_at dksX3_factorForm_9 22 rfl rfl)
theorem dX3_factorForm_237 : decode cX3_factorForm 237 = .ok (.goto 4, 3) := dk_167 0 4 (dk_at dksX3_factorForm_10 0 rfl rfl)
theorem dX3_factorForm_240 : decode cX3_factorForm 240 = .ok (.iconst 0, 1) := dk_3 (dk_at dksX3_factorForm_10 3 rfl rfl)
theorem dX3_factorForm_241 : decode cX3_factorForm 241 = .ok (.ireturn, 1) := dk_172 (dk_at dksX3_factorForm_10 4 rfl rfl)
theorem dX3_factorForm_242 : decode cX3_factorForm 242 = .ok (.aload_n 0, 1) := dk_42 (dk_at dksX3_factorForm_10 5 rfl rfl)
theorem dX3_factorForm_243 : decode cX3_factorForm 243 = .ok (.ldc_w 278, 3) := dk_19 1 22 (dk_at dksX3_factorForm_10 6 rfl rfl)
theorem dX3_factorForm_246 : decode cX3_factorForm 246 = .ok (.invokevirtual 171, 3) := dk_182 0 171 (dk_at dksX3_factorForm_10 9 rfl rfl)
theorem dX3_factorForm_249 : decode cX3_factorForm 249 = .ok (.ifCond .eq 64, 3) := dk_153 0 64 (dk_at dksX3_factorForm_10 12 rfl rfl)
theorem dX3_factorForm_252 : decode cX3_factorForm 252 = .ok (.aload_n 0, 1) := dk_42 (dk_at dksX3_factorForm_10 15 rfl rfl)
theorem dX3_factorForm_253 : decode cX3_factorForm 253 = .ok (.iload_n 1, 1) := dk_27 (dk_at dksX3_factorForm_10 16 rfl rfl)
theorem dX3_factorForm_254 : decode cX3_factorForm 254 = .ok (.invokevirtual 274, 3) := dk_182 1 18 (dk_at dksX3_factorForm_10 17 rfl rfl)
theorem dX3_factorForm_257 : decode cX3_factorForm 257 = .ok (.ifCond .eq 56, 3) := dk_153 0 56 (dk_at dksX3_factorForm_10 20 rfl rfl)
theorem dX3_factorForm_260 : decode cX3_factorForm 260 = .ok (.aload_n 0, 1) := dk_42 (dk_at dksX3_factorForm_10 23 rfl rfl)
theorem dX3_factorForm_261 : decode cX3_factorForm 261 = .ok (.ldc 235, 2) := dk_18 235 (dk_at dksX3_factorForm_11 0 rfl rfl)
theorem dX3_factorForm_263 : decode cX3_factorForm 263 = .ok (.invokevirtual 171, 3) := dk_182 0 171 (dk_at dksX3_factorForm_11 2 rfl rfl)
theorem dX3_factorForm_266 : decode cX3_factorForm 266 = .ok (.ifCond .eq 47, 3) := dk_153 0 47 (dk_at dksX3_factorForm_11 5 rfl rfl)
theorem dX3_factorForm_269 : decode cX3_factorForm 269 = .ok (.aload_n 0, 1) := dk_42 (dk_at dksX3_factorForm_11 8 rfl rfl)
theorem dX3_factorForm_270 : decode cX3_factorForm 270 = .ok (.ldc_w 280, 3) := dk_19 1 24 (dk_at dksX3_factorForm_11 9 rfl rfl)
theorem dX3_factorForm_273 : decode cX3_factorForm 273 = .ok (.invokevirtual 171, 3) := dk_182 0 171 (dk_at dksX3_factorForm_11 12 rfl rfl)
theorem dX3_factorForm_276 : decode cX3_factorForm 276 = .ok (.ifCond .eq 37, 3) := dk_153 0 37 (dk_at dksX3_factorForm_11 15 rfl rfl)
theorem dX3_factorForm_279 : decode cX3_factorForm 279 = .ok (.aload_n 0, 1) := dk_42 (dk_at dksX3_factorForm_11 18 rfl rfl)
theorem dX3_factorForm_280 : decode cX3_factorForm 280 = .ok (.iload_n 1, 1) := dk_27 (dk_at dksX3_factorForm_11 19 rfl rfl)
theorem dX3_factorForm_281 : decode cX3_factorForm 281 = .ok (.iconst 1, 1) := dk_4 (dk_at dksX3_factorForm_11 20 rfl rfl)
theorem dX3_factorForm_282 : decode cX3_factorForm 282 = .ok (.iadd, 1) := dk_96 (dk_at dksX3_factorForm_11 21 rfl rfl)
theorem dX3_factorForm_283 : decode cX3_factorForm 283 = .ok (.invokevirtual 250, 3) := dk_182 0 250 (dk_at dksX3_factorForm_12 0 rfl rfl)
theorem dX3_factorForm_286 : decode cX3_factorForm 286 = .ok (.ifCond .eq 27, 3) := dk_153 0 27 (dk_at dksX3_factorForm_12 3 rfl rfl)
theorem dX3_factorForm_289 : decode cX3_factorForm 289 = .ok (.aload_n 0, 1) := dk_42 (dk_at dksX3_factorForm_12 6 rfl rfl)
theorem dX3_factorForm_290 : decode cX3_factorForm 290 = .ok (.ldc_w 282, 3) := dk_19 1 26 (dk_at dksX3_factorForm_12 7 rfl rfl)
theorem dX3_factorForm_293 : decode cX3_factorForm 293 = .ok (.invokevirtual 171, 3) := dk_182 0 171 (dk_at dksX3_factorForm_12 10 rfl rfl)
theorem dX3_factorForm_296 : decode cX3_factorForm 296 = .ok (.ifCond .eq 17, 3) := dk_153 0 17 (dk_at dksX3_factorForm_12 13 rfl rfl)
theorem dX3_factorForm_299 : decode cX3_factorForm 299 = .ok (.aload_n 0, 1) := dk_42 (dk_at dksX3_factorForm_12 16 rfl rfl)
theorem dX3_factorForm_300 : decode cX3_factorForm 300 = .ok (.iload_n 1, 1) := dk_27 (dk_at dksX3_factorForm_12 17 rfl rfl)
theorem dX3_factorForm_301 : decode cX3_factorForm 301 = .ok (.iconst 1, 1) := dk_4 (dk_at dksX3_factorForm_12 18 rfl rfl)
theorem dX3_factorForm_302 : decode cX3_factorForm 302 = .ok (.iadd, 1) := dk_96 (dk_at dksX3_factorForm_12 19 rfl rfl)
theorem dX3_factorForm_303 : decode cX3_factorForm 303 = .ok (.invokevirtual 250, 3) := dk_182 0 250 (dk_at dksX3_factorForm_12 20 rfl rfl)
theorem dX3_factorForm_306 : decode cX3_factorForm 306 = .ok (.ifCond .eq 7, 3) := dk_153 0 7 (dk_at dksX3_factorForm_13 0 rfl rfl)
theorem dX3_factorForm_309 : decode cX3_factorForm 309 = .ok (.iconst 1, 1) := dk_4 (dk_at dksX3_factorForm_13 3 rfl rfl)
theorem dX3_factorForm_310 : decode cX3_factorForm 310 = .ok (.goto 4, 3) := dk_167 0 4 (dk_at dksX3_factorForm_13 4 rfl rfl)
theorem dX3_factorForm_313 : decode cX3_factorForm 313 = .ok (.iconst 0, 1) := dk_3 (dk_at dksX3_factorForm_13 7 rfl rfl)
theorem dX3_factorForm_314 : decode cX3_factorForm 314 = .ok (.ireturn, 1) := dk_172 (dk_at dksX3_factorForm_13 8 rfl rfl)
abbrev cX3_bracesForm : ByteArray := prog_34_method_31_code
def yX3_bracesForm : MethodName := ⟨RX3, "bracesForm", "(I)Z"⟩
def dkwX3_bracesForm_1 : List UInt8 := [4, 96, 182, 0, 190, 153, 0, 7, 4, 167, 0, 4, 3, 172]
abbrev dktX3_bracesForm_1 : List UInt8 := dkwX3_bracesForm_1 ++ []
def dkwX3_bracesForm_0 : List UInt8 := [42, 18, 233, 182, 0, 155, 153, 0, 30, 27, 16, 10, 162, 0, 24, 42, 182, 0, 159, 153, 0, 17, 42, 27]
abbrev dktX3_bracesForm_0 : List UInt8 := dkwX3_bracesForm_0 ++ dktX3_bracesForm_1
theorem dksX3_bracesForm_0 : cX3_bracesForm.data.toList.drop 0 = dktX3_bracesForm_0 := by decide +kernel
theorem dksX3_bracesForm_1 : cX3_bracesForm.data.toList.drop 24 = dktX3_bracesForm_1 := dk_seg dksX3_bracesForm_0 24 rfl rfl
theorem dX3_bracesForm_0 : decode cX3_bracesForm 0 = .ok (.aload_n 0, 1) := dk_42 (dk_at dksX3_bracesForm_0 0 rfl rfl)
theorem dX3_bracesForm_1 : decode cX3_bracesForm 1 = .ok (.ldc 233, 2) := dk_18 233 (dk_at dksX3_bracesForm_0 1 rfl rfl)
theorem dX3_bracesForm_3 : decode cX3_bracesForm 3 = .ok (.invokevirtual 155, 3) := dk_182 0 155 (dk_at dksX3_bracesForm_0 3 rfl rfl)
theorem dX3_bracesForm_6 : decode cX3_bracesForm 6 = .ok (.ifCond .eq 30, 3) := dk_153 0 30 (dk_at dksX3_bracesForm_0 6 rfl rfl)
theorem dX3_bracesForm_9 : decode cX3_bracesForm 9 = .ok (.iload_n 1, 1) := dk_27 (dk_at dksX3_bracesForm_0 9 rfl rfl)
theorem dX3_bracesForm_10 : decode cX3_bracesForm 10 = .ok (.bipush 10, 2) := dk_16 10 (dk_at dksX3_bracesForm_0 10 rfl rfl)
theorem dX3_bracesForm_12 : decode cX3_bracesForm 12 = .ok (.if_icmp .ge 24, 3) := dk_162 0 24 (dk_at dksX3_bracesForm_0 12 rfl rfl)
theorem dX3_bracesForm_15 : decode cX3_bracesForm 15 = .ok (.aload_n 0, 1) := dk_42 (dk_at dksX3_bracesForm_0 15 rfl rfl)
theorem dX3_bracesForm_16 : decode cX3_bracesForm 16 = .ok (.invokevirtual 159, 3) := dk_182 0 159 (dk_at dksX3_bracesForm_0 16 rfl rfl)
theorem dX3_bracesForm_19 : decode cX3_bracesForm 19 = .ok (.ifCond .eq 17, 3) := dk_153 0 17 (dk_at dksX3_bracesForm_0 19 rfl rfl)
theorem dX3_bracesForm_22 : decode cX3_bracesForm 22 = .ok (.aload_n 0, 1) := dk_42 (dk_at dksX3_bracesForm_0 22 rfl rfl)
theorem dX3_bracesForm_23 : decode cX3_bracesForm 23 = .ok (.iload_n 1, 1) := dk_27 (dk_at dksX3_bracesForm_0 23 rfl rfl)
theorem dX3_bracesForm_24 : decode cX3_bracesForm 24 = .ok (.iconst 1, 1) := dk_4 (dk_at dksX3_bracesForm_1 0 rfl rfl)
theorem dX3_bracesForm_25 : decode cX3_bracesForm 25 = .ok (.iadd, 1) := dk_96 (dk_at dksX3_bracesForm_1 1 rfl rfl)
theorem dX3_bracesForm_26 : decode cX3_bracesForm 26 = .ok (.invokevirtual 190, 3) := dk_182 0 190 (dk_at dksX3_bracesForm_1 2 rfl rfl)
theorem dX3_bracesForm_29 : decode cX3_bracesForm 29 = .ok (.ifCond .eq 7, 3) := dk_153 0 7 (dk_at dksX3_bracesForm_1 5 rfl rfl)
theorem dX3_bracesForm_32 : decode cX3_bracesForm 32 = .ok (.iconst 1, 1) := dk_4 (dk_at dksX3_bracesForm_1 8 rfl rfl)
theorem dX3_bracesForm_33 : decode cX3_bracesForm 33 = .ok (.goto 4, 3) := dk_167 0 4 (dk_at dksX3_bracesForm_1 9 rfl rfl)
theorem dX3_bracesForm_36 : decode cX3_bracesForm 36 = .ok (.iconst 0, 1) := dk_3 (dk_at dksX3_bracesForm_1 12 rfl rfl)
theorem dX3_bracesForm_37 : decode cX3_bracesForm 37 = .ok (.ireturn, 1) := dk_172 (dk_at dksX3_bracesForm_1 13 rfl rfl)
abbrev cX3_wrong : ByteArray := prog_34_method_33_code
def yX3_wrong : MethodName := ⟨RX3, "wrong", "(II)I"⟩
def dkwX3_wrong_0 : List UInt8 := [42, 42, 180, 0, 20, 28, 46, 181, 0, 13, 27, 172]
abbrev dktX3_wrong_0 : List UInt8 := dkwX3_wrong_0 ++ []
theorem dksX3_wrong_0 : cX3_wrong.data.toList.drop 0 = dktX3_wrong_0 := by decide +kernel
theorem dX3_wrong_0 : decode cX3_wrong 0 = .ok (.aload_n 0, 1) := dk_42 (dk_at dksX3_wrong_0 0 rfl rfl)
theorem dX3_wrong_1 : decode cX3_wrong 1 = .ok (.aload_n 0, 1) := dk_42 (dk_at dksX3_wrong_0 1 rfl rfl)
theorem dX3_wrong_2 : decode cX3_wrong 2 = .ok (.getfield 20, 3) := dk_180 0 20 (dk_at dksX3_wrong_0 2 rfl rfl)
theorem dX3_wrong_5 : decode cX3_wrong 5 = .ok (.iload_n 2, 1) := dk_28 (dk_at dksX3_wrong_0 5 rfl rfl)
theorem dX3_wrong_6 : decode cX3_wrong 6 = .ok (.iaload, 1) := dk_46 (dk_at dksX3_wrong_0 6 rfl rfl)
theorem dX3_wrong_7 : decode cX3_wrong 7 = .ok (.putfield 13, 3) := dk_181 0 13 (dk_at dksX3_wrong_0 7 rfl rfl)
theorem dX3_wrong_10 : decode cX3_wrong 10 = .ok (.iload_n 1, 1) := dk_27 (dk_at dksX3_wrong_0 10 rfl rfl)
theorem dX3_wrong_11 : decode cX3_wrong 11 = .ok (.ireturn, 1) := dk_172 (dk_at dksX3_wrong_0 11 rfl rfl)
abbrev cX3_meaning : ByteArray := prog_34_method_35_code
def yX3_meaning : MethodName := ⟨RX3, "meaning", "()I"⟩
def dkwX3_meaning_2 : List UInt8 := [42, 180, 0, 152, 182, 1, 38, 167, 0, 4, 3, 172]
abbrev dktX3_meaning_2 : List UInt8 := dkwX3_meaning_2 ++ []
def dkwX3_meaning_1 : List UInt8 := [89, 180, 0, 152, 4, 96, 181, 0, 152, 167, 255, 223, 42, 180, 0, 61, 6, 46, 154, 0, 16, 42, 16, 6]
abbrev dktX3_meaning_1 : List UInt8 := dkwX3_meaning_1 ++ dktX3_meaning_2
def dkwX3_meaning_0 : List UInt8 := [42, 180, 0, 17, 42, 180, 0, 152, 46, 153, 0, 27, 42, 182, 1, 35, 60, 27, 153, 0, 5, 27, 172, 42]
abbrev dktX3_meaning_0 : List UInt8 := dkwX3_meaning_0 ++ dktX3_meaning_1
theorem dksX3_meaning_0 : cX3_meaning.data.toList.drop 0 = dktX3_meaning_0 := by decide +kernel
theorem dksX3_meaning_1 : cX3_meaning.data.toList.drop 24 = dktX3_meaning_1 := dk_seg dksX3_meaning_0 24 rfl rfl
theorem dksX3_meaning_2 : cX3_meaning.data.toList.drop 48 = dktX3_meaning_2 := dk_seg dksX3_meaning_1 24 rfl rfl
theorem dX3_meaning_0 : decode cX3_meaning 0 = .ok (.aload_n 0, 1) := dk_42 (dk_at dksX3_meaning_0 0 rfl rfl)
theorem dX3_meaning_1 : decode cX3_meaning 1 = .ok (.getfield 17, 3) := dk_180 0 17 (dk_at dksX3_meaning_0 1 rfl rfl)
theorem dX3_meaning_4 : decode cX3_meaning 4 = .ok (.aload_n 0, 1) := dk_42 (dk_at dksX3_meaning_0 4 rfl rfl)
theorem dX3_meaning_5 : decode cX3_meaning 5 = .ok (.getfield 152, 3) := dk_180 0 152 (dk_at dksX3_meaning_0 5 rfl rfl)
theorem dX3_meaning_8 : decode cX3_meaning 8 = .ok (.iaload, 1) := dk_46 (dk_at dksX3_meaning_0 8 rfl rfl)
theorem dX3_meaning_9 : decode cX3_meaning 9 = .ok (.ifCond .eq 27, 3) := dk_153 0 27 (dk_at dksX3_meaning_0 9 rfl rfl)
theorem dX3_meaning_12 : decode cX3_meaning 12 = .ok (.aload_n 0, 1) := dk_42 (dk_at dksX3_meaning_0 12 rfl rfl)
theorem dX3_meaning_13 : decode cX3_meaning 13 = .ok (.invokevirtual 291, 3) := dk_182 1 35 (dk_at dksX3_meaning_0 13 rfl rfl)
theorem dX3_meaning_16 : decode cX3_meaning 16 = .ok (.istore_n 1, 1) := dk_60 (dk_at dksX3_meaning_0 16 rfl rfl)
theorem dX3_meaning_17 : decode cX3_meaning 17 = .ok (.iload_n 1, 1) := dk_27 (dk_at dksX3_meaning_0 17 rfl rfl)
theorem dX3_meaning_18 : decode cX3_meaning 18 = .ok (.ifCond .eq 5, 3) := dk_153 0 5 (dk_at dksX3_meaning_0 18 rfl rfl)
theorem dX3_meaning_21 : decode cX3_meaning 21 = .ok (.iload_n 1, 1) := dk_27 (dk_at dksX3_meaning_0 21 rfl rfl)
theorem dX3_meaning_22 : decode cX3_meaning 22 = .ok (.ireturn, 1) := dk_172 (dk_at dksX3_meaning_0 22 rfl rfl)
theorem dX3_meaning_23 : decode cX3_meaning 23 = .ok (.aload_n 0, 1) := dk_42 (dk_at dksX3_meaning_0 23 rfl rfl)
theorem dX3_meaning_24 : decode cX3_meaning 24 = .ok (.dup, 1) := dk_89 (dk_at dksX3_meaning_1 0 rfl rfl)
theorem dX3_meaning_25 : decode cX3_meaning 25 = .ok (.getfield 152, 3) := dk_180 0 152 (dk_at dksX3_meaning_1 1 rfl rfl)
theorem dX3_meaning_28 : decode cX3_meaning 28 = .ok (.iconst 1, 1) := dk_4 (dk_at dksX3_meaning_1 4 rfl rfl)
theorem dX3_meaning_29 : decode cX3_meaning 29 = .ok (.iadd, 1) := dk_96 (dk_at dksX3_meaning_1 5 rfl rfl)
theorem dX3_meaning_30 : decode cX3_meaning 30 = .ok (.putfield 152, 3) := dk_181 0 152 (dk_at dksX3_meaning_1 6 rfl rfl)
theorem dX3_meaning_33 : decode cX3_meaning 33 = .ok (.goto (-33), 3) := dk_167 255 223 (dk_at dksX3_meaning_1 9 rfl rfl)
theorem dX3_meaning_36 : decode cX3_meaning 36 = .ok (.aload_n 0, 1) := dk_42 (dk_at dksX3_meaning_1 12 rfl rfl)
theorem dX3_meaning_37 : decode cX3_meaning 37 = .ok (.getfield 61, 3) := dk_180 0 61 (dk_at dksX3_meaning_1 13 rfl rfl)
theorem dX3_meaning_40 : decode cX3_meaning 40 = .ok (.iconst 3, 1) := dk_6 (dk_at dksX3_meaning_1 16 rfl rfl)
theorem dX3_meaning_41 : decode cX3_meaning 41 = .ok (.iaload, 1) := dk_46 (dk_at dksX3_meaning_1 17 rfl rfl)
theorem dX3_meaning_42 : decode cX3_meaning 42 = .ok (.ifCond .ne 16, 3) := dk_154 0 16 (dk_at dksX3_meaning_1 18 rfl rfl)
theorem dX3_meaning_45 : decode cX3_meaning 45 = .ok (.aload_n 0, 1) := dk_42 (dk_at dksX3_meaning_1 21 rfl rfl)
theorem dX3_meaning_46 : decode cX3_meaning 46 = .ok (.bipush 6, 2) := dk_16 6 (dk_at dksX3_meaning_1 22 rfl rfl)
theorem dX3_meaning_48 : decode cX3_meaning 48 = .ok (.aload_n 0, 1) := dk_42 (dk_at dksX3_meaning_2 0 rfl rfl)
theorem dX3_meaning_49 : decode cX3_meaning 49 = .ok (.getfield 152, 3) := dk_180 0 152 (dk_at dksX3_meaning_2 1 rfl rfl)
theorem dX3_meaning_52 : decode cX3_meaning 52 = .ok (.invokevirtual 294, 3) := dk_182 1 38 (dk_at dksX3_meaning_2 4 rfl rfl)
theorem dX3_meaning_55 : decode cX3_meaning 55 = .ok (.goto 4, 3) := dk_167 0 4 (dk_at dksX3_meaning_2 7 rfl rfl)
theorem dX3_meaning_58 : decode cX3_meaning 58 = .ok (.iconst 0, 1) := dk_3 (dk_at dksX3_meaning_2 10 rfl rfl)
theorem dX3_meaning_59 : decode cX3_meaning 59 = .ok (.ireturn, 1) := dk_172 (dk_at dksX3_meaning_2 11 rfl rfl)
abbrev cX3_itemMeant : ByteArray := prog_34_method_36_code
def yX3_itemMeant : MethodName := ⟨RX3, "itemMeant", "()I"⟩
def dkwX3_itemMeant_16 : List UInt8 := [79, 42, 89, 180, 1, 28, 4, 96, 181, 1, 28, 42, 180, 0, 61, 29, 92, 46, 4, 96, 79, 3, 172]
abbrev dktX3_itemMeant_16 : List UInt8 := dkwX3_itemMeant_16 ++ []
def dkwX3_itemMeant_15 : List UInt8 := [42, 180, 0, 55, 42, 180, 1, 28, 29, 79, 42, 180, 0, 58, 42, 180, 1, 28, 42, 180, 0, 61, 29, 46]
abbrev dktX3_itemMeant_15 : List UInt8 := dkwX3_itemMeant_15 ++ dktX3_itemMeant_16
def dkwX3_itemMeant_14 : List UInt8 := [89, 180, 0, 152, 4, 96, 181, 0, 152, 42, 180, 0, 52, 42, 180, 1, 28, 42, 21, 4, 182, 1, 31, 80]
abbrev dktX3_itemMeant_14 : List UInt8 := dkwX3_itemMeant_14 ++ dktX3_itemMeant_15
def dkwX3_itemMeant_13 : List UInt8 := [182, 1, 38, 172, 42, 180, 0, 70, 42, 180, 0, 61, 6, 46, 42, 42, 180, 0, 152, 182, 1, 44, 79, 42]
abbrev dktX3_itemMeant_13 : List UInt8 := dkwX3_itemMeant_13 ++ dktX3_itemMeant_14
def dkwX3_itemMeant_12 : List UInt8 := [181, 0, 152, 42, 42, 180, 0, 152, 182, 1, 44, 16, 9, 164, 0, 13, 42, 8, 42, 180, 0, 152]
abbrev dktX3_itemMeant_12 : List UInt8 := dkwX3_itemMeant_12 ++ dktX3_itemMeant_13
def dkwX3_itemMeant_11 : List UInt8 := [180, 0, 61, 6, 46, 8, 79, 42, 18, 202, 182, 0, 155, 153, 0, 65, 42, 89, 180, 0, 152, 4, 96]
abbrev dktX3_itemMeant_11 : List UInt8 := dkwX3_itemMeant_11 ++ dktX3_itemMeant_12
def dkwX3_itemMeant_10 : List UInt8 := [104, 42, 180, 0, 61, 29, 46, 96, 42, 180, 1, 53, 79, 29, 6, 160, 0, 15, 42, 180, 0, 70, 42]
abbrev dktX3_itemMeant_10 : List UInt8 := dkwX3_itemMeant_10 ++ dktX3_itemMeant_11
def dkwX3_itemMeant_9 : List UInt8 := [182, 1, 50, 54, 5, 21, 5, 153, 0, 6, 21, 5, 172, 29, 158, 0, 23, 42, 180, 0, 67, 16, 12, 29]
abbrev dktX3_itemMeant_9 : List UInt8 := dkwX3_itemMeant_9 ++ dktX3_itemMeant_10
def dkwX3_itemMeant_8 : List UInt8 := [180, 0, 152, 4, 96, 181, 0, 152, 167, 0, 21, 29, 5, 160, 0, 10, 42, 182, 1, 47, 167, 0, 7, 42]
abbrev dktX3_itemMeant_8 : List UInt8 := dkwX3_itemMeant_8 ++ dktX3_itemMeant_9
def dkwX3_itemMeant_7 : List UInt8 := [42, 180, 0, 152, 182, 1, 44, 116, 133, 167, 0, 12, 42, 42, 180, 0, 152, 182, 1, 44, 133, 80, 42, 89]
abbrev dktX3_itemMeant_7 : List UInt8 := dkwX3_itemMeant_7 ++ dktX3_itemMeant_8
def dkwX3_itemMeant_6 : List UInt8 := [167, 0, 4, 3, 96, 181, 0, 152, 42, 180, 0, 64, 42, 180, 0, 61, 3, 46, 21, 6, 153, 0, 16, 42]
abbrev dktX3_itemMeant_6 : List UInt8 := dkwX3_itemMeant_6 ++ dktX3_itemMeant_7
def dkwX3_itemMeant_5 : List UInt8 := [154, 0, 81, 42, 18, 179, 182, 0, 155, 54, 6, 42, 89, 180, 0, 152, 21, 6, 153, 0, 7, 4]
abbrev dktX3_itemMeant_5 : List UInt8 := dkwX3_itemMeant_5 ++ dktX3_itemMeant_6
def dkwX3_itemMeant_4 : List UInt8 := [42, 6, 21, 4, 182, 1, 38, 172, 42, 89, 180, 0, 152, 5, 96, 181, 0, 152, 3, 54, 5, 29]
abbrev dktX3_itemMeant_4 : List UInt8 := dkwX3_itemMeant_4 ++ dktX3_itemMeant_5
def dkwX3_itemMeant_3 : List UInt8 := [180, 0, 152, 4, 96, 181, 0, 152, 42, 180, 0, 152, 54, 4, 42, 21, 4, 182, 1, 41, 2, 159, 0, 11]
abbrev dktX3_itemMeant_3 : List UInt8 := dkwX3_itemMeant_3 ++ dktX3_itemMeant_4
def dkwX3_itemMeant_2 : List UInt8 := [154, 0, 8, 16, 8, 167, 0, 5, 16, 12, 160, 0, 10, 42, 7, 28, 182, 1, 38, 172, 42, 89]
abbrev dktX3_itemMeant_2 : List UInt8 := dkwX3_itemMeant_2 ++ dktX3_itemMeant_3
def dkwX3_itemMeant_1 : List UInt8 := [76, 42, 180, 0, 152, 61, 42, 42, 180, 0, 152, 43, 182, 0, 146, 62, 42, 180, 0, 61, 29, 46, 29]
abbrev dktX3_itemMeant_1 : List UInt8 := dkwX3_itemMeant_1 ++ dktX3_itemMeant_2
def dkwX3_itemMeant_0 : List UInt8 := [7, 189, 0, 111, 89, 3, 18, 169, 83, 89, 4, 18, 186, 83, 89, 5, 18, 193, 83, 89, 6, 18, 198, 83]
abbrev dktX3_itemMeant_0 : List UInt8 := dkwX3_itemMeant_0 ++ dktX3_itemMeant_1
theorem dksX3_itemMeant_0 : cX3_itemMeant.data.toList.drop 0 = dktX3_itemMeant_0 := by decide +kernel
theorem dksX3_itemMeant_1 : cX3_itemMeant.data.toList.drop 24 = dktX3_itemMeant_1 := dk_seg dksX3_itemMeant_0 24 rfl rfl
theorem dksX3_itemMeant_2 : cX3_itemMeant.data.toList.drop 47 = dktX3_itemMeant_2 := dk_seg dksX3_itemMeant_1 23 rfl rfl
theorem dksX3_itemMeant_3 : cX3_itemMeant.data.toList.drop 69 = dktX3_itemMeant_3 := dk_seg dksX3_itemMeant_2 22 rfl rfl
theorem dksX3_itemMeant_4 : cX3_itemMeant.data.toList.drop 93 = dktX3_itemMeant_4 := dk_seg dksX3_itemMeant_3 24 rfl rfl
theorem dksX3_itemMeant_5 : cX3_itemMeant.data.toList.drop 115 = dktX3_itemMeant_5 := dk_seg dksX3_itemMeant_4 22 rfl rfl
theorem dksX3_itemMeant_6 : cX3_itemMeant.data.toList.drop 137 = dktX3_itemMeant_6 := dk_seg dksX3_itemMeant_5 22 rfl rfl
theorem dksX3_itemMeant_7 : cX3_itemMeant.data.toList.drop 161 = dktX3_itemMeant_7 := dk_seg dksX3_itemMeant_6 24 rfl rfl
theorem dksX3_itemMeant_8 : cX3_itemMeant.data.toList.drop 185 = dktX3_itemMeant_8 := dk_seg dksX3_itemMeant_7 24 rfl rfl
theorem dksX3_itemMeant_9 : cX3_itemMeant.data.toList.drop 209 = dktX3_itemMeant_9 := dk_seg dksX3_itemMeant_8 24 rfl rfl
theorem dksX3_itemMeant_10 : cX3_itemMeant.data.toList.drop 233 = dktX3_itemMeant_10 := dk_seg dksX3_itemMeant_9 24 rfl rfl
theorem dksX3_itemMeant_11 : cX3_itemMeant.data.toList.drop 256 = dktX3_itemMeant_11 := dk_seg dksX3_itemMeant_10 23 rfl rfl
theorem dksX3_itemMeant_12 : cX3_itemMeant.data.toList.drop 279 = dktX3_itemMeant_12 := dk_seg dksX3_itemMeant_11 23 rfl rfl
theorem dksX3_itemMeant_13 : cX3_itemMeant.data.toList.drop 301 = dktX3_itemMeant_13 := dk_seg dksX3_itemMeant_12 22 rfl rfl
theorem dksX3_itemMeant_14 : cX3_itemMeant.data.toList.drop 325 = dktX3_itemMeant_14 := dk_seg dksX3_itemMeant_13 24 rfl rfl
theorem dksX3_itemMeant_15 : cX3_itemMeant.data.toList.drop 349 = dktX3_itemMeant_15 := dk_seg dksX3_itemMeant_14 24 rfl rfl
theorem dksX3_itemMeant_16 : cX3_itemMeant.data.toList.drop 373 = dktX3_itemMeant_16 := dk_seg dksX3_itemMeant_15 24 rfl rfl
theorem dX3_itemMeant_0 : decode cX3_itemMeant 0 = .ok (.iconst 4, 1) := dk_7 (dk_at dksX3_itemMeant_0 0 rfl rfl)
theorem dX3_itemMeant_1 : decode cX3_itemMeant 1 = .ok (.anewarray 111, 3) := dk_189 0 111 (dk_at dksX3_itemMeant_0 1 rfl rfl)
theorem dX3_itemMeant_4 : decode cX3_itemMeant 4 = .ok (.dup, 1) := dk_89 (dk_at dksX3_itemMeant_0 4 rfl rfl)
theorem dX3_itemMeant_5 : decode cX3_itemMeant 5 = .ok (.iconst 0, 1) := dk_3 (dk_at dksX3_itemMeant_0 5 rfl rfl)
theorem dX3_itemMeant_6 : decode cX3_itemMeant 6 = .ok (.ldc 169, 2) := dk_18 169 (dk_at dksX3_itemMeant_0 6 rfl rfl)
theorem dX3_itemMeant_8 : decode cX3_itemMeant 8 = .ok (.aastore, 1) := dk_83 (dk_at dksX3_itemMeant_0 8 rfl rfl)
theorem dX3_itemMeant_9 : decode cX3_itemMeant 9 = .ok (.dup, 1) := dk_89 (dk_at dksX3_itemMeant_0 9 rfl rfl)
theorem dX3_itemMeant_10 : decode cX3_itemMeant 10 = .ok (.iconst 1, 1) := dk_4 (dk_at dksX3_itemMeant_0 10 rfl rfl)
theorem dX3_itemMeant_11 : decode cX3_itemMeant 11 = .ok (.ldc 186, 2) := dk_18 186 (dk_at dksX3_itemMeant_0 11 rfl rfl)
theorem dX3_itemMeant_13 : decode cX3_itemMeant 13 = .ok (.aastore, 1) := dk_83 (dk_at dksX3_itemMeant_0 13 rfl rfl)
theorem dX3_itemMeant_14 : decode cX3_itemMeant 14 = .ok (.dup, 1) := dk_89 (dk_at dksX3_itemMeant_0 14 rfl rfl)
theorem dX3_itemMeant_15 : decode cX3_itemMeant 15 = .ok (.iconst 2, 1) := dk_5 (dk_at dksX3_itemMeant_0 15 rfl rfl)
theorem dX3_itemMeant_16 : decode cX3_itemMeant 16 = .ok (.ldc 193, 2) := dk_18 193 (dk_at dksX3_itemMeant_0 16 rfl rfl)
theorem dX3_itemMeant_18 : decode cX3_itemMeant 18 = .ok (.aastore, 1) := dk_83 (dk_at dksX3_itemMeant_0 18 rfl rfl)
theorem dX3_itemMeant_19 : decode cX3_itemMeant 19 = .ok (.dup, 1) := dk_89 (dk_at dksX3_itemMeant_0 19 rfl rfl)
theorem dX3_itemMeant_20 : decode cX3_itemMeant 20 = .ok (.iconst 3, 1) := dk_6 (dk_at dksX3_itemMeant_0 20 rfl rfl)
theorem dX3_itemMeant_21 : decode cX3_itemMeant 21 = .ok (.ldc 198, 2) := dk_18 198 (dk_at dksX3_itemMeant_0 21 rfl rfl)
theorem dX3_itemMeant_23 : decode cX3_itemMeant 23 = .ok (.aastore, 1) := dk_83 (dk_at dksX3_itemMeant_0 23 rfl rfl)
theorem dX3_itemMeant_24 : decode cX3_itemMeant 24 = .ok (.astore_n 1, 1) := dk_76 (dk_at dksX3_itemMeant_1 0 rfl rfl)
theorem dX3_itemMeant_25 : decode cX3_itemMeant 25 = .ok (.aload_n 0, 1) := dk_42 (dk_at dksX3_itemMeant_1 1 rfl rfl)
theorem dX3_itemMeant_26 : decode cX3_itemMeant 26 = .ok (.getfield 152, 3) := dk_180 0 152 (dk_at dksX3_itemMeant_1 2 rfl rfl)
theorem dX3_itemMeant_29 : decode cX3_itemMeant 29 = .ok (.istore_n 2, 1) := dk_61 (dk_at dksX3_itemMeant_1 5 rfl rfl)
theorem dX3_itemMeant_30 : decode cX3_itemMeant 30 = .ok (.aload_n 0, 1) := dk_42 (dk_at dksX3_itemMeant_1 6 rfl rfl)
theorem dX3_itemMeant_31 : decode cX3_itemMeant 31 = .ok (.aload_n 0, 1) := dk_42 (dk_at dksX3_itemMeant_1 7 rfl rfl)
theorem dX3_itemMeant_32 : decode cX3_itemMeant 32 = .ok (.getfield 152, 3) := dk_180 0 152 (dk_at dksX3_itemMeant_1 8 rfl rfl)
theorem dX3_itemMeant_35 : decode cX3_itemMeant 35 = .ok (.aload_n 1, 1) := dk_43 (dk_at dksX3_itemMeant_1 11 rfl rfl)
theorem dX3_itemMeant_36 : decode cX3_itemMeant 36 = .ok (.invokevirtual 146, 3) := dk_182 0 146 (dk_at dksX3_itemMeant_1 12 rfl rfl)
theorem dX3_itemMeant_39 : decode cX3_itemMeant 39 = .ok (.istore_n 3, 1) := dk_62 (dk_at dksX3_itemMeant_1 15 rfl rfl)
theorem dX3_itemMeant_40 : decode cX3_itemMeant 40 = .ok (.aload_n 0, 1) := dk_42 (dk_at dksX3_itemMeant_1 16 rfl rfl)
theorem dX3_itemMeant_41 : decode cX3_itemMeant 41 = .ok (.getfield 61, 3) := dk_180 0 61 (dk_at dksX3_itemMeant_1 17 rfl rfl)
theorem dX3_itemMeant_44 : decode cX3_itemMeant 44 = .ok (.iload_n 3, 1) := dk_29 (dk_at dksX3_itemMeant_1 20 rfl rfl)
theorem dX3_itemMeant_45 : decode cX3_itemMeant 45 = .ok (.iaload, 1) := dk_46 (dk_at dksX3_itemMeant_1 21 rfl rfl)
theorem dX3_itemMeant_46 : decode cX3_itemMeant 46 = .ok (.iload_n 3, 1) := dk_29 (dk_at dksX3_itemMeant_1 22 rfl rfl)
theorem dX3_itemMeant_47 : decode cX3_itemMeant 47 = .ok (.ifCond .ne 8, 3) := dk_154 0 8 (dk_at dksX3_itemMeant_2 0 rfl rfl)
theorem dX3_itemMeant_50 : decode cX3_itemMeant 50 = .ok (.bipush 8, 2) := dk_16 8 (dk_at dksX3_itemMeant_2 3 rfl rfl)
theorem dX3_itemMeant_52 : decode cX3_itemMeant 52 = .ok (.goto 5, 3) := dk_167 0 5 (dk_at dksX3_itemMeant_2 5 rfl rfl)
theorem dX3_itemMeant_55 : decode cX3_itemMeant 55 = .ok (.bipush 12, 2) := dk_16 12 (dk_at dksX3_itemMeant_2 8 rfl rfl)
theorem dX3_itemMeant_57 : decode cX3_itemMeant 57 = .ok (.if_icmp .ne 10, 3) := dk_160 0 10 (dk_at dksX3_itemMeant_2 10 rfl rfl)
theorem dX3_itemMeant_60 : decode cX3_itemMeant 60 = .ok (.aload_n 0, 1) := dk_42 (dk_at dksX3_itemMeant_2 13 rfl rfl)
theorem dX3_itemMeant_61 : decode cX3_itemMeant 61 = .ok (.iconst 4, 1) := dk_7 (dk_at dksX3_itemMeant_2 14 rfl rfl)
theorem dX3_itemMeant_62 : decode cX3_itemMeant 62 = .ok (.iload_n 2, 1) := dk_28 (dk_at dksX3_itemMeant_2 15 rfl rfl)
theorem dX3_itemMeant_63 : decode cX3_itemMeant 63 = .ok (.invokevirtual 294, 3) := dk_182 1 38 (dk_at dksX3_itemMeant_2 16 rfl rfl)
theorem dX3_itemMeant_66 : decode cX3_itemMeant 66 = .ok (.ireturn, 1) := dk_172 (dk_at dksX3_itemMeant_2 19 rfl rfl)
theorem dX3_itemMeant_67 : decode cX3_itemMeant 67 = .ok (.aload_n 0, 1) := dk_42 (dk_at dksX3_itemMeant_2 20 rfl rfl)
theorem dX3_itemMeant_68 : decode cX3_itemMeant 68 = .ok (.dup, 1) := dk_89 (dk_at dksX3_itemMeant_2 21 rfl rfl)
theorem dX3_itemMeant_69 : decode cX3_itemMeant 69 = .ok (.getfield 152, 3) := dk_180 0 152 (dk_at dksX3_itemMeant_3 0 rfl rfl)
theorem dX3_itemMeant_72 : decode cX3_itemMeant 72 = .ok (.iconst 1, 1) := dk_4 (dk_at dksX3_itemMeant_3 3 rfl rfl)
theorem dX3_itemMeant_73 : decode cX3_itemMeant 73 = .ok (.iadd, 1) := dk_96 (dk_at dksX3_itemMeant_3 4 rfl rfl)
theorem dX3_itemMeant_74 : decode cX3_itemMeant 74 = .ok (.putfield 152, 3) := dk_181 0 152 (dk_at dksX3_itemMeant_3 5 rfl rfl)
theorem dX3_itemMeant_77 : decode cX3_itemMeant 77 = .ok (.aload_n 0, 1) := dk_42 (dk_at dksX3_itemMeant_3 8 rfl rfl)
theorem dX3_itemMeant_78 : decode cX3_itemMeant 78 = .ok (.getfield 152, 3) := dk_180 0 152 (dk_at dksX3_itemMeant_3 9 rfl rfl)
theorem dX3_itemMeant_81 : decode cX3_itemMeant 81 = .ok (.istore 4, 2) := dk_54 4 (dk_at dksX3_itemMeant_3 12 rfl rfl)
theorem dX3_itemMeant_83 : decode cX3_itemMeant 83 = .ok (.aload_n 0, 1) := dk_42 (dk_at dksX3_itemMeant_3 14 rfl rfl)
theorem dX3_itemMeant_84 : decode cX3_itemMeant 84 = .ok (.iload 4, 2) := dk_21 4 (dk_at dksX3_itemMeant_3 15 rfl rfl)
theorem dX3_itemMeant_86 : decode cX3_itemMeant 86 = .ok (.invokevirtual 297, 3) := dk_182 1 41 (dk_at dksX3_itemMeant_3 17 rfl rfl)
theorem dX3_itemMeant_89 : decode cX3_itemMeant 89 = .ok (.iconst (-1), 1) := dk_2 (dk_at dksX3_itemMeant_3 20 rfl rfl)
theorem dX3_itemMeant_90 : decode cX3_itemMeant 90 = .ok (.if_icmp .eq 11, 3) := dk_159 0 11 (dk_at dksX3_itemMeant_3 21 rfl rfl)
theorem dX3_itemMeant_93 : decode cX3_itemMeant 93 = .ok (.aload_n 0, 1) := dk_42 (dk_at dksX3_itemMeant_4 0 rfl rfl)
theorem dX3_itemMeant_94 : decode cX3_itemMeant 94 = .ok (.iconst 3, 1) := dk_6 (dk_at dksX3_itemMeant_4 1 rfl rfl)
theorem dX3_itemMeant_95 : decode cX3_itemMeant 95 = .ok (.iload 4, 2) := dk_21 4 (dk_at dksX3_itemMeant_4 2 rfl rfl)
theorem dX3_itemMeant_97 : decode cX3_itemMeant 97 = .ok (.invokevirtual 294, 3) := dk_182 1 38 (dk_at dksX3_itemMeant_4 4 rfl rfl)
theorem dX3_itemMeant_100 : decode cX3_itemMeant 100 = .ok (.ireturn, 1) := dk_172 (dk_at dksX3_itemMeant_4 7 rfl rfl)
theorem dX3_itemMeant_101 : decode cX3_itemMeant 101 = .ok (.aload_n 0, 1) := dk_42 (dk_at dksX3_itemMeant_4 8 rfl rfl)
theorem dX3_itemMeant_102 : decode cX3_itemMeant 102 = .ok (.dup, 1) := dk_89 (dk_at dksX3_itemMeant_4 9 rfl rfl)
theorem dX3_itemMeant_103 : decode cX3_itemMeant 103 = .ok (.getfield 152, 3) := dk_180 0 152 (dk_at dksX3_itemMeant_4 10 rfl rfl)
theorem dX3_itemMeant_106 : decode cX3_itemMeant 106 = .ok (.iconst 2, 1) := dk_5 (dk_at dksX3_itemMeant_4 13 rfl rfl)
theorem dX3_itemMeant_107 : decode cX3_itemMeant 107 = .ok (.iadd, 1) := dk_96 (dk_at dksX3_itemMeant_4 14 rfl rfl)
theorem dX3_itemMeant_108 : decode cX3_itemMeant 108 = .ok (.putfield 152, 3) := dk_181 0 152 (dk_at dksX3_itemMeant_4 15 rfl rfl)
theorem dX3_itemMeant_111 : decode cX3_itemMeant 111 = .ok (.iconst 0, 1) := dk_3 (dk_at dksX3_itemMeant_4 18 rfl rfl)
theorem dX3_itemMeant_112 : decode cX3_itemMeant 112 = .ok (.istore 5, 2) := dk_54 5 (dk_at dksX3_itemMeant_4 19 rfl rfl)
theorem dX3_itemMeant_114 : decode cX3_itemMeant 114 = .ok (.iload_n 3, 1) := dk_29 (dk_at dksX3_itemMeant_4 21 rfl rfl)
theorem dX3_itemMeant_115 : decode cX3_itemMeant 115 = .ok (.ifCond .ne 81, 3) := dk_154 0 81 (dk_at dksX3_itemMeant_5 0 rfl rfl)
theorem dX3_itemMeant_118 : decode cX3_itemMeant 118 = .ok (.aload_n 0, 1) := dk_42 (dk_at dksX3_itemMeant_5 3 rfl rfl)
theorem dX3_itemMeant_119 : decode cX3_itemMeant 119 = .ok (.ldc 179, 2) := dk_18 179 (dk_at dksX3_itemMeant_5 4 rfl rfl)
theorem dX3_itemMeant_121 : decode cX3_itemMeant 121 = .ok (.invokevirtual 155, 3) := dk_182 0 155 (dk_at dksX3_itemMeant_5 6 rfl rfl)
theorem dX3_itemMeant_124 : decode cX3_itemMeant 124 = .ok (.istore 6, 2) := dk_54 6 (dk_at dksX3_itemMeant_5 9 rfl rfl)
theorem dX3_itemMeant_126 : decode cX3_itemMeant 126 = .ok (.aload_n 0, 1) := dk_42 (dk_at dksX3_itemMeant_5 11 rfl rfl)
theorem dX3_itemMeant_127 : decode cX3_itemMeant 127 = .ok (.dup, 1) := dk_89 (dk_at dksX3_itemMeant_5 12 rfl rfl)
theorem dX3_itemMeant_128 : decode cX3_itemMeant 128 = .ok (.getfield 152, 3) := dk_180 0 152 (dk_at dksX3_itemMeant_5 13 rfl rfl)
theorem dX3_itemMeant_131 : decode cX3_itemMeant 131 = .ok (.iload 6, 2) := dk_21 6 (dk_at dksX3_itemMeant_5 16 rfl rfl)
theorem dX3_itemMeant_133 : decode cX3_itemMeant 133 = .ok (.ifCond .eq 7, 3) := dk_153 0 7 (dk_at dksX3_itemMeant_5 18 rfl rfl)
theorem dX3_itemMeant_136 : decode cX3_itemMeant 136 = .ok (.iconst 1, 1) := dk_4 (dk_at dksX3_itemMeant_5 21 rfl rfl)
theorem dX3_itemMeant_137 : decode cX3_itemMeant 137 = .ok (.goto 4, 3) := dk_167 0 4 (dk_at dksX3_itemMeant_6 0 rfl rfl)
theorem dX3_itemMeant_140 : decode cX3_itemMeant 140 = .ok (.iconst 0, 1) := dk_3 (dk_at dksX3_itemMeant_6 3 rfl rfl)
theorem dX3_itemMeant_141 : decode cX3_itemMeant 141 = .ok (.iadd, 1) := dk_96 (dk_at dksX3_itemMeant_6 4 rfl rfl)
theorem dX3_itemMeant_142 : decode cX3_itemMeant 142 = .ok (.putfield 152, 3) := dk_181 0 152 (dk_at dksX3_itemMeant_6 5 rfl rfl)
theorem dX3_itemMeant_145 : decode cX3_itemMeant 145 = .ok (.aload_n 0, 1) := dk_42 (dk_at dksX3_itemMeant_6 8 rfl rfl)
theorem dX3_itemMeant_146 : decode cX3_itemMeant 146 = .ok (.getfield 64, 3) := dk_180 0 64 (dk_at dksX3_itemMeant_6 9 rfl rfl)
theorem dX3_itemMeant_149 : decode cX3_itemMeant 149 = .ok (.aload_n 0, 1) := dk_42 (dk_at dksX3_itemMeant_6 12 rfl rfl)
theorem dX3_itemMeant_150 : decode cX3_itemMeant 150 = .ok (.getfield 61, 3) := dk_180 0 61 (dk_at dksX3_itemMeant_6 13 rfl rfl)
theorem dX3_itemMeant_153 : decode cX3_itemMeant 153 = .ok (.iconst 0, 1) := dk_3 (dk_at dksX3_itemMeant_6 16 rfl rfl)
theorem dX3_itemMeant_154 : decode cX3_itemMeant 154 = .ok (.iaload, 1) := dk_46 (dk_at dksX3_itemMeant_6 17 rfl rfl)
theorem dX3_itemMeant_155 : decode cX3_itemMeant 155 = .ok (.iload 6, 2) := dk_21 6 (dk_at dksX3_itemMeant_6 18 rfl rfl)
theorem dX3_itemMeant_157 : decode cX3_itemMeant 157 = .ok (.ifCond .eq 16, 3) := dk_153 0 16 (dk_at dksX3_itemMeant_6 20 rfl rfl)
theorem dX3_itemMeant_160 : decode cX3_itemMeant 160 = .ok (.aload_n 0, 1) := dk_42 (dk_at dksX3_itemMeant_6 23 rfl rfl)
theorem dX3_itemMeant_161 : decode cX3_itemMeant 161 = .ok (.aload_n 0, 1) := dk_42 (dk_at dksX3_itemMeant_7 0 rfl rfl)
theorem dX3_itemMeant_162 : decode cX3_itemMeant 162 = .ok (.getfield 152, 3) := dk_180 0 152 (dk_at dksX3_itemMeant_7 1 rfl rfl)
theorem dX3_itemMeant_165 : decode cX3_itemMeant 165 = .ok (.invokevirtual 300, 3) := dk_182 1 44 (dk_at dksX3_itemMeant_7 4 rfl rfl)
theorem dX3_itemMeant_168 : decode cX3_itemMeant 168 = .ok (.ineg, 1) := dk_116 (dk_at dksX3_itemMeant_7 7 rfl rfl)
theorem dX3_itemMeant_169 : decode cX3_itemMeant 169 = .ok (.i2l, 1) := dk_133 (dk_at dksX3_itemMeant_7 8 rfl rfl)
theorem dX3_itemMeant_170 : decode cX3_itemMeant 170 = .ok (.goto 12, 3) := dk_167 0 12 (dk_at dksX3_itemMeant_7 9 rfl rfl)
theorem dX3_itemMeant_173 : decode cX3_itemMeant 173 = .ok (.aload_n 0, 1) := dk_42 (dk_at dksX3_itemMeant_7 12 rfl rfl)
theorem dX3_itemMeant_174 : decode cX3_itemMeant 174 = .ok (.aload_n 0, 1) := dk_42 (dk_at dksX3_itemMeant_7 13 rfl rfl)
theorem dX3_itemMeant_175 : decode cX3_itemMeant 175 = .ok (.getfield 152, 3) := dk_180 0 152 (dk_at dksX3_itemMeant_7 14 rfl rfl)
theorem dX3_itemMeant_178 : decode cX3_itemMeant 178 = .ok (.invokevirtual 300, 3) := dk_182 1 44 (dk_at dksX3_itemMeant_7 17 rfl rfl)
theorem dX3_itemMeant_181 : decode cX3_itemMeant 181 = .ok (.i2l, 1) := dk_133 (dk_at dksX3_itemMeant_7 20 rfl rfl)
theorem dX3_itemMeant_182 : decode cX3_itemMeant 182 = .ok (.lastore, 1) := dk_80 (dk_at dksX3_itemMeant_7 21 rfl rfl)
theorem dX3_itemMeant_183 : decode cX3_itemMeant 183 = .ok (.aload_n 0, 1) := dk_42 (dk_at dksX3_itemMeant_7 22 rfl rfl)
theorem dX3_itemMeant_184 : decode cX3_itemMeant 184 = .ok (.dup, 1) := dk_89 (dk_at dksX3_itemMeant_7 23 rfl rfl)
theorem dX3_itemMeant_185 : decode cX3_itemMeant 185 = .ok (.getfield 152, 3) := dk_180 0 152 (dk_at dksX3_itemMeant_8 0 rfl rfl)
theorem dX3_itemMeant_188 : decode cX3_itemMeant 188 = .ok (.iconst 1, 1) := dk_4 (dk_at dksX3_itemMeant_8 3 rfl rfl)
theorem dX3_itemMeant_189 : decode cX3_itemMeant 189 = .ok (.iadd, 1) := dk_96 (dk_at dksX3_itemMeant_8 4 rfl rfl)
theorem dX3_itemMeant_190 : decode cX3_itemMeant 190 = .ok (.putfield 152, 3) := dk_181 0 152 (dk_at dksX3_itemMeant_8 5 rfl rfl)
theorem dX3_itemMeant_193 : decode cX3_itemMeant 193 = .ok (.goto 21, 3) := dk_167 0 21 (dk_at dksX3_itemMeant_8 8 rfl rfl)
theorem dX3_itemMeant_196 : decode cX3_itemMeant 196 = .ok (.iload_n 3, 1) := dk_29 (dk_at dksX3_itemMeant_8 11 rfl rfl)
theorem dX3_itemMeant_197 : decode cX3_itemMeant 197 = .ok (.iconst 2, 1) := dk_5 (dk_at dksX3_itemMeant_8 12 rfl rfl)
theorem dX3_itemMeant_198 : decode cX3_itemMeant 198 = .ok (.if_icmp .ne 10, 3) := dk_160 0 10 (dk_at dksX3_itemMeant_8 13 rfl rfl)
theorem dX3_itemMeant_201 : decode cX3_itemMeant 201 = .ok (.aload_n 0, 1) := dk_42 (dk_at dksX3_itemMeant_8 16 rfl rfl)
theorem dX3_itemMeant_202 : decode cX3_itemMeant 202 = .ok (.invokevirtual 303, 3) := dk_182 1 47 (dk_at dksX3_itemMeant_8 17 rfl rfl)
theorem dX3_itemMeant_205 : decode cX3_itemMeant 205 = .ok (.goto 7, 3) := dk_167 0 7 (dk_at dksX3_itemMeant_8 20 rfl rfl)
theorem dX3_itemMeant_208 : decode cX3_itemMeant 208 = .ok (.aload_n 0, 1) := dk_42 (dk_at dksX3_itemMeant_8 23 rfl rfl)
theorem dX3_itemMeant_209 : decode cX3_itemMeant 209 = .ok (.invokevirtual 306, 3) := dk_182 1 50 (dk_at dksX3_itemMeant_9 0 rfl rfl)
theorem dX3_itemMeant_212 : decode cX3_itemMeant 212 = .ok (.istore 5, 2) := dk_54 5 (dk_at dksX3_itemMeant_9 3 rfl rfl)
theorem dX3_itemMeant_214 : decode cX3_itemMeant 214 = .ok (.iload 5, 2) := dk_21 5 (dk_at dksX3_itemMeant_9 5 rfl rfl)
theorem dX3_itemMeant_216 : decode cX3_itemMeant 216 = .ok (.ifCond .eq 6, 3) := dk_153 0 6 (dk_at dksX3_itemMeant_9 7 rfl rfl)
theorem dX3_itemMeant_219 : decode cX3_itemMeant 219 = .ok (.iload 5, 2) := dk_21 5 (dk_at dksX3_itemMeant_9 10 rfl rfl)
theorem dX3_itemMeant_221 : decode cX3_itemMeant 221 = .ok (.ireturn, 1) := dk_172 (dk_at dksX3_itemMeant_9 12 rfl rfl)
theorem dX3_itemMeant_222 : decode cX3_itemMeant 222 = .ok (.iload_n 3, 1) := dk_29 (dk_at dksX3_itemMeant_9 13 rfl rfl)
theorem dX3_itemMeant_223 : decode cX3_itemMeant 223 = .ok (.ifCond .le 23, 3) := dk_158 0 23 (dk_at dksX3_itemMeant_9 14 rfl rfl)
theorem dX3_itemMeant_226 : decode cX3_itemMeant 226 = .ok (.aload_n 0, 1) := dk_42 (dk_at dksX3_itemMeant_9 17 rfl rfl)
theorem dX3_itemMeant_227 : decode cX3_itemMeant 227 = .ok (.getfield 67, 3) := dk_180 0 67 (dk_at dksX3_itemMeant_9 18 rfl rfl)
theorem dX3_itemMeant_230 : decode cX3_itemMeant 230 = .ok (.bipush 12, 2) := dk_16 12 (dk_at dksX3_itemMeant_9 21 rfl rfl)
theorem dX3_itemMeant_232 : decode cX3_itemMeant 232 = .ok (.iload_n 3, 1) := dk_29 (dk_at dksX3_itemMeant_9 23 rfl rfl)
theorem dX3_itemMeant_233 : decode cX3_itemMeant 233 = .ok (.imul, 1) := dk_104 (dk_at dksX3_itemMeant_10 0 rfl rfl)
theorem dX3_itemMeant_234 : decode cX3_itemMeant 234 = .ok (.aload_n 0, 1) := dk_42 (dk_at dksX3_itemMeant_10 1 rfl rfl)
theorem dX3_itemMeant_235 : decode cX3_itemMeant 235 = .ok (.getfield 61, 3) := dk_180 0 61 (dk_at dksX3_itemMeant_10 2 rfl rfl)
theorem dX3_itemMeant_238 : decode cX3_itemMeant 238 = .ok (.iload_n 3, 1) := dk_29 (dk_at dksX3_itemMeant_10 5 rfl rfl)
theorem dX3_itemMeant_239 : decode cX3_itemMeant 239 = .ok (.iaload, 1) := dk_46 (dk_at dksX3_itemMeant_10 6 rfl rfl)
theorem dX3_itemMeant_240 : decode cX3_itemMeant 240 = .ok (.iadd, 1) := dk_96 (dk_at dksX3_itemMeant_10 7 rfl rfl)
theorem dX3_itemMeant_241 : decode cX3_itemMeant 241 = .ok (.aload_n 0, 1) := dk_42 (dk_at dksX3_itemMeant_10 8 rfl rfl)
theorem dX3_itemMeant_242 : decode cX3_itemMeant 242 = .ok (.getfield 309, 3) := dk_180 1 53 (dk_at dksX3_itemMeant_10 9 rfl rfl)
theorem dX3_itemMeant_245 : decode cX3_itemMeant 245 = .ok (.iastore, 1) := dk_79 (dk_at dksX3_itemMeant_10 12 rfl rfl)
theorem dX3_itemMeant_246 : decode cX3_itemMeant 246 = .ok (.iload_n 3, 1) := dk_29 (dk_at dksX3_itemMeant_10 13 rfl rfl)
theorem dX3_itemMeant_247 : decode cX3_itemMeant 247 = .ok (.iconst 3, 1) := dk_6 (dk_at dksX3_itemMeant_10 14 rfl rfl)
theorem dX3_itemMeant_248 : decode cX3_itemMeant 248 = .ok (.if_icmp .ne 15, 3) := dk_160 0 15 (dk_at dksX3_itemMeant_10 15 rfl rfl)
theorem dX3_itemMeant_251 : decode cX3_itemMeant 251 = .ok (.aload_n 0, 1) := dk_42 (dk_at dksX3_itemMeant_10 18 rfl rfl)
theorem dX3_itemMeant_252 : decode cX3_itemMeant 252 = .ok (.getfield 70, 3) := dk_180 0 70 (dk_at dksX3_itemMeant_10 19 rfl rfl)
theorem dX3_itemMeant_255 : decode cX3_itemMeant 255 = .ok (.aload_n 0, 1) := dk_42 (dk_at dksX3_itemMeant_10 22 rfl rfl)
theorem dX3_itemMeant_256 : decode cX3_itemMeant 256 = .ok (.getfield 61, 3) := dk_180 0 61 (dk_at dksX3_itemMeant_11 0 rfl rfl)
theorem dX3_itemMeant_259 : decode cX3_itemMeant 259 = .ok (.iconst 3, 1) := dk_6 (dk_at dksX3_itemMeant_11 3 rfl rfl)
theorem dX3_itemMeant_260 : decode cX3_itemMeant 260 = .ok (.iaload, 1) := dk_46 (dk_at dksX3_itemMeant_11 4 rfl rfl)
theorem dX3_itemMeant_261 : decode cX3_itemMeant 261 = .ok (.iconst 5, 1) := dk_8 (dk_at dksX3_itemMeant_11 5 rfl rfl)
theorem dX3_itemMeant_262 : decode cX3_itemMeant 262 = .ok (.iastore, 1) := dk_79 (dk_at dksX3_itemMeant_11 6 rfl rfl)
theorem dX3_itemMeant_263 : decode cX3_itemMeant 263 = .ok (.aload_n 0, 1) := dk_42 (dk_at dksX3_itemMeant_11 7 rfl rfl)
theorem dX3_itemMeant_264 : decode cX3_itemMeant 264 = .ok (.ldc 202, 2) := dk_18 202 (dk_at dksX3_itemMeant_11 8 rfl rfl)
theorem dX3_itemMeant_266 : decode cX3_itemMeant 266 = .ok (.invokevirtual 155, 3) := dk_182 0 155 (dk_at dksX3_itemMeant_11 10 rfl rfl)
theorem dX3_itemMeant_269 : decode cX3_itemMeant 269 = .ok (.ifCond .eq 65, 3) := dk_153 0 65 (dk_at dksX3_itemMeant_11 13 rfl rfl)
theorem dX3_itemMeant_272 : decode cX3_itemMeant 272 = .ok (.aload_n 0, 1) := dk_42 (dk_at dksX3_itemMeant_11 16 rfl rfl)
theorem dX3_itemMeant_273 : decode cX3_itemMeant 273 = .ok (.dup, 1) := dk_89 (dk_at dksX3_itemMeant_11 17 rfl rfl)
theorem dX3_itemMeant_274 : decode cX3_itemMeant 274 = .ok (.getfield 152, 3) := dk_180 0 152 (dk_at dksX3_itemMeant_11 18 rfl rfl)
theorem dX3_itemMeant_277 : decode cX3_itemMeant 277 = .ok (.iconst 1, 1) := dk_4 (dk_at dksX3_itemMeant_11 21 rfl rfl)
theorem dX3_itemMeant_278 : decode cX3_itemMeant 278 = .ok (.iadd, 1) := dk_96 (dk_at dksX3_itemMeant_11 22 rfl rfl)
theorem dX3_itemMeant_279 : decode cX3_itemMeant 279 = .ok (.putfield 152, 3) := dk_181 0 152 (dk_at dksX3_itemMeant_12 0 rfl rfl)
theorem dX3_itemMeant_282 : decode cX3_itemMeant 282 = .ok (.aload_n 0, 1) := dk_42 (dk_at dksX3_itemMeant_12 3 rfl rfl)
theorem dX3_itemMeant_283 : decode cX3_itemMeant 283 = .ok (.aload_n 0, 1) := dk_42 (dk_at dksX3_itemMeant_12 4 rfl rfl)
theorem dX3_itemMeant_284 : decode cX3_itemMeant 284 = .ok (.getfield 152, 3) := dk_180 0 152 (dk_at dksX3_itemMeant_12 5 rfl rfl)
theorem dX3_itemMeant_287 : decode cX3_itemMeant 287 = .ok (.invokevirtual 300, 3) := dk_182 1 44 (dk_at dksX3_itemMeant_12 8 rfl rfl)
theorem dX3_itemMeant_290 : decode cX3_itemMeant 290 = .ok (.bipush 9, 2) := dk_16 9 (dk_at dksX3_itemMeant_12 11 rfl rfl)
theorem dX3_itemMeant_292 : decode cX3_itemMeant 292 = .ok (.if_icmp .le 13, 3) := dk_164 0 13 (dk_at dksX3_itemMeant_12 13 rfl rfl)
theorem dX3_itemMeant_295 : decode cX3_itemMeant 295 = .ok (.aload_n 0, 1) := dk_42 (dk_at dksX3_itemMeant_12 16 rfl rfl)
theorem dX3_itemMeant_296 : decode cX3_itemMeant 296 = .ok (.iconst 5, 1) := dk_8 (dk_at dksX3_itemMeant_12 17 rfl rfl)
theorem dX3_itemMeant_297 : decode cX3_itemMeant 297 = .ok (.aload_n 0, 1) := dk_42 (dk_at dksX3_itemMeant_12 18 rfl rfl)
theorem dX3_itemMeant_298 : decode cX3_itemMeant 298 = .ok (.getfield 152, 3) := dk_180 0 152 (dk_at dksX3_itemMeant_12 19 rfl rfl)
theorem dX3_itemMeant_301 : decode cX3_itemMeant 301 = .ok (.invokevirtual 294, 3) := dk_182 1 38 (dk_at dksX3_itemMeant_13 0 rfl rfl)
theorem dX3_itemMeant_304 : decode cX3_itemMeant 304 = .ok (.ireturn, 1) := dk_172 (dk_at dksX3_itemMeant_13 3 rfl rfl)
theorem dX3_itemMeant_305 : decode cX3_itemMeant 305 = .ok (.aload_n 0, 1) := dk_42 (dk_at dksX3_itemMeant_13 4 rfl rfl)
theorem dX3_itemMeant_306 : decode cX3_itemMeant 306 = .ok (.getfield 70, 3) := dk_180 0 70 (dk_at dksX3_itemMeant_13 5 rfl rfl)
theorem dX3_itemMeant_309 : decode cX3_itemMeant 309 = .ok (.aload_n 0, 1) := dk_42 (dk_at dksX3_itemMeant_13 8 rfl rfl)
theorem dX3_itemMeant_310 : decode cX3_itemMeant 310 = .ok (.getfield 61, 3) := dk_180 0 61 (dk_at dksX3_itemMeant_13 9 rfl rfl)
theorem dX3_itemMeant_313 : decode cX3_itemMeant 313 = .ok (.iconst 3, 1) := dk_6 (dk_at dksX3_itemMeant_13 12 rfl rfl)
theorem dX3_itemMeant_314 : decode cX3_itemMeant 314 = .ok (.iaload, 1) := dk_46 (dk_at dksX3_itemMeant_13 13 rfl rfl)
theorem dX3_itemMeant_315 : decode cX3_itemMeant 315 = .ok (.aload_n 0, 1) := dk_42 (dk_at dksX3_itemMeant_13 14 rfl rfl)
theorem dX3_itemMeant_316 : decode cX3_itemMeant 316 = .ok (.aload_n 0, 1) := dk_42 (dk_at dksX3_itemMeant_13 15 rfl rfl)
theorem dX3_itemMeant_317 : decode cX3_itemMeant 317 = .ok (.getfield 152, 3) := dk_180 0 152 (dk_at dksX3_itemMeant_13 16 rfl rfl)
theorem dX3_itemMeant_320 : decode cX3_itemMeant 320 = .ok (.invokevirtual 300, 3) := dk_182 1 44 (dk_at dksX3_itemMeant_13 19 rfl rfl)
theorem dX3_itemMeant_323 : decode cX3_itemMeant 323 = .ok (.iastore, 1) := dk_79 (dk_at dksX3_itemMeant_13 22 rfl rfl)
theorem dX3_itemMeant_324 : decode cX3_itemMeant 324 = .ok (.aload_n 0, 1) := dk_42 (dk_at dksX3_itemMeant_13 23 rfl rfl)
theorem dX3_itemMeant_325 : decode cX3_itemMeant 325 = .ok (.dup, 1) := dk_89 (dk_at dksX3_itemMeant_14 0 rfl rfl)
theorem dX3_itemMeant_326 : decode cX3_itemMeant 326 = .ok (.getfield 152, 3) := dk_180 0 152 (dk_at dksX3_itemMeant_14 1 rfl rfl)
theorem dX3_itemMeant_329 : decode cX3_itemMeant 329 = .ok (.iconst 1, 1) := dk_4 (dk_at dksX3_itemMeant_14 4 rfl rfl)
theorem dX3_itemMeant_330 : decode cX3_itemMeant 330 = .ok (.iadd, 1) := dk_96 (dk_at dksX3_itemMeant_14 5 rfl rfl)
theorem dX3_itemMeant_331 : decode cX3_itemMeant 331 = .ok (.putfield 152, 3) := dk_181 0 152 (dk_at dksX3_itemMeant_14 6 rfl rfl)
theorem dX3_itemMeant_334 : decode cX3_itemMeant 334 = .ok (.aload_n 0, 1) := dk_42 (dk_at dksX3_itemMeant_14 9 rfl rfl)
theorem dX3_itemMeant_335 : decode cX3_itemMeant 335 = .ok (.getfield 52, 3) := dk_180 0 52 (dk_at dksX3_itemMeant_14 10 rfl rfl)
theorem dX3_itemMeant_338 : decode cX3_itemMeant 338 = .ok (.aload_n 0, 1) := dk_42 (dk_at dksX3_itemMeant_14 13 rfl rfl)
theorem dX3_itemMeant_339 : decode cX3_itemMeant 339 = .ok (.getfield 284, 3) := dk_180 1 28 (dk_at dksX3_itemMeant_14 14 rfl rfl)
theorem dX3_itemMeant_342 : decode cX3_itemMeant 342 = .ok (.aload_n 0, 1) := dk_42 (dk_at dksX3_itemMeant_14 17 rfl rfl)
theorem dX3_itemMeant_343 : decode cX3_itemMeant 343 = .ok (.iload 4, 2) := dk_21 4 (dk_at dksX3_itemMeant_14 18 rfl rfl)
theorem dX3_itemMeant_345 : decode cX3_itemMeant 345 = .ok (.invokevirtual 287, 3) := dk_182 1 31 (dk_at dksX3_itemMeant_14 20 rfl rfl)
theorem dX3_itemMeant_348 : decode cX3_itemMeant 348 = .ok (.lastore, 1) := dk_80 (dk_at dksX3_itemMeant_14 23 rfl rfl)
theorem dX3_itemMeant_349 : decode cX3_itemMeant 349 = .ok (.aload_n 0, 1) := dk_42 (dk_at dksX3_itemMeant_15 0 rfl rfl)
theorem dX3_itemMeant_350 : decode cX3_itemMeant 350 = .ok (.getfield 55, 3) := dk_180 0 55 (dk_at dksX3_itemMeant_15 1 rfl rfl)
theorem dX3_itemMeant_353 : decode cX3_itemMeant 353 = .ok (.aload_n 0, 1) := dk_42 (dk_at dksX3_itemMeant_15 4 rfl rfl)
theorem dX3_itemMeant_354 : decode cX3_itemMeant 354 = .ok (.getfield 284, 3) := dk_180 1 28 (dk_at dksX3_itemMeant_15 5 rfl rfl)
theorem dX3_itemMeant_357 : decode cX3_itemMeant 357 = .ok (.iload_n 3, 1) := dk_29 (dk_at dksX3_itemMeant_15 8 rfl rfl)
theorem dX3_itemMeant_358 : decode cX3_itemMeant 358 = .ok (.iastore, 1) := dk_79 (dk_at dksX3_itemMeant_15 9 rfl rfl)
theorem dX3_itemMeant_359 : decode cX3_itemMeant 359 = .ok (.aload_n 0, 1) := dk_42 (dk_at dksX3_itemMeant_15 10 rfl rfl)
theorem dX3_itemMeant_360 : decode cX3_itemMeant 360 = .ok (.getfield 58, 3) := dk_180 0 58 (dk_at dksX3_itemMeant_15 11 rfl rfl)
theorem dX3_itemMeant_363 : decode cX3_itemMeant 363 = .ok (.aload_n 0, 1) := dk_42 (dk_at dksX3_itemMeant_15 14 rfl rfl)
theorem dX3_itemMeant_364 : decode cX3_itemMeant 364 = .ok (.getfield 284, 3) := dk_180 1 28 (dk_at dksX3_itemMeant_15 15 rfl rfl)
theorem dX3_itemMeant_367 : decode cX3_itemMeant 367 = .ok (.aload_n 0, 1) := dk_42 (dk_at dksX3_itemMeant_15 18 rfl rfl)
theorem dX3_itemMeant_368 : decode cX3_itemMeant 368 = .ok (.getfield 61, 3) := dk_180 0 61 (dk_at dksX3_itemMeant_15 19 rfl rfl)
theorem dX3_itemMeant_371 : decode cX3_itemMeant 371 = .ok (.iload_n 3, 1) := dk_29 (dk_at dksX3_itemMeant_15 22 rfl rfl)
theorem dX3_itemMeant_372 : decode cX3_itemMeant 372 = .ok (.iaload, 1) := dk_46 (dk_at dksX3_itemMeant_15 23 rfl rfl)
theorem dX3_itemMeant_373 : decode cX3_itemMeant 373 = .ok (.iastore, 1) := dk_79 (dk_at dksX3_itemMeant_16 0 rfl rfl)
theorem dX3_itemMeant_374 : decode cX3_itemMeant 374 = .ok (.aload_n 0, 1) := dk_42 (dk_at dksX3_itemMeant_16 1 rfl rfl)
theorem dX3_itemMeant_375 : decode cX3_itemMeant 375 = .ok (.dup, 1) := dk_89 (dk_at dksX3_itemMeant_16 2 rfl rfl)
theorem dX3_itemMeant_376 : decode cX3_itemMeant 376 = .ok (.getfield 284, 3) := dk_180 1 28 (dk_at dksX3_itemMeant_16 3 rfl rfl)
theorem dX3_itemMeant_379 : decode cX3_itemMeant 379 = .ok (.iconst 1, 1) := dk_4 (dk_at dksX3_itemMeant_16 6 rfl rfl)
theorem dX3_itemMeant_380 : decode cX3_itemMeant 380 = .ok (.iadd, 1) := dk_96 (dk_at dksX3_itemMeant_16 7 rfl rfl)
theorem dX3_itemMeant_381 : decode cX3_itemMeant 381 = .ok (.putfield 284, 3) := dk_181 1 28 (dk_at dksX3_itemMeant_16 8 rfl rfl)
theorem dX3_itemMeant_384 : decode cX3_itemMeant 384 = .ok (.aload_n 0, 1) := dk_42 (dk_at dksX3_itemMeant_16 11 rfl rfl)
theorem dX3_itemMeant_385 : decode cX3_itemMeant 385 = .ok (.getfield 61, 3) := dk_180 0 61 (dk_at dksX3_itemMeant_16 12 rfl rfl)
theorem dX3_itemMeant_388 : decode cX3_itemMeant 388 = .ok (.iload_n 3, 1) := dk_29 (dk_at dksX3_itemMeant_16 15 rfl rfl)
theorem dX3_itemMeant_389 : decode cX3_itemMeant 389 = .ok (.dup2, 1) := dk_92 (dk_at dksX3_itemMeant_16 16 rfl rfl)
theorem dX3_itemMeant_390 : decode cX3_itemMeant 390 = .ok (.iaload, 1) := dk_46 (dk_at dksX3_itemMeant_16 17 rfl rfl)
theorem dX3_itemMeant_391 : decode cX3_itemMeant 391 = .ok (.iconst 1, 1) := dk_4 (dk_at dksX3_itemMeant_16 18 rfl rfl)
theorem dX3_itemMeant_392 : decode cX3_itemMeant 392 = .ok (.iadd, 1) := dk_96 (dk_at dksX3_itemMeant_16 19 rfl rfl)
theorem dX3_itemMeant_393 : decode cX3_itemMeant 393 = .ok (.iastore, 1) := dk_79 (dk_at dksX3_itemMeant_16 20 rfl rfl)
theorem dX3_itemMeant_394 : decode cX3_itemMeant 394 = .ok (.iconst 0, 1) := dk_3 (dk_at dksX3_itemMeant_16 21 rfl rfl)
theorem dX3_itemMeant_395 : decode cX3_itemMeant 395 = .ok (.ireturn, 1) := dk_172 (dk_at dksX3_itemMeant_16 22 rfl rfl)
abbrev cX3_find : ByteArray := prog_34_method_34_code
def yX3_find : MethodName := ⟨RX3, "find", "(I)I"⟩
def dkwX3_find_1 : List UInt8 := [154, 0, 5, 29, 61, 132, 3, 1, 167, 255, 228, 28, 172]
abbrev dktX3_find_1 : List UInt8 := dkwX3_find_1 ++ []
def dkwX3_find_0 : List UInt8 := [2, 61, 3, 62, 29, 42, 180, 1, 28, 162, 0, 26, 42, 180, 0, 52, 29, 47, 42, 27, 182, 1, 31, 148]
abbrev dktX3_find_0 : List UInt8 := dkwX3_find_0 ++ dktX3_find_1
theorem dksX3_find_0 : cX3_find.data.toList.drop 0 = dktX3_find_0 := by decide +kernel
theorem dksX3_find_1 : cX3_find.data.toList.drop 24 = dktX3_find_1 := dk_seg dksX3_find_0 24 rfl rfl
theorem dX3_find_0 : decode cX3_find 0 = .ok (.iconst (-1), 1) := dk_2 (dk_at dksX3_find_0 0 rfl rfl)
theorem dX3_find_1 : decode cX3_find 1 = .ok (.istore_n 2, 1) := dk_61 (dk_at dksX3_find_0 1 rfl rfl)
theorem dX3_find_2 : decode cX3_find 2 = .ok (.iconst 0, 1) := dk_3 (dk_at dksX3_find_0 2 rfl rfl)
theorem dX3_find_3 : decode cX3_find 3 = .ok (.istore_n 3, 1) := dk_62 (dk_at dksX3_find_0 3 rfl rfl)
theorem dX3_find_4 : decode cX3_find 4 = .ok (.iload_n 3, 1) := dk_29 (dk_at dksX3_find_0 4 rfl rfl)
theorem dX3_find_5 : decode cX3_find 5 = .ok (.aload_n 0, 1) := dk_42 (dk_at dksX3_find_0 5 rfl rfl)
theorem dX3_find_6 : decode cX3_find 6 = .ok (.getfield 284, 3) := dk_180 1 28 (dk_at dksX3_find_0 6 rfl rfl)
theorem dX3_find_9 : decode cX3_find 9 = .ok (.if_icmp .ge 26, 3) := dk_162 0 26 (dk_at dksX3_find_0 9 rfl rfl)
theorem dX3_find_12 : decode cX3_find 12 = .ok (.aload_n 0, 1) := dk_42 (dk_at dksX3_find_0 12 rfl rfl)
theorem dX3_find_13 : decode cX3_find 13 = .ok (.getfield 52, 3) := dk_180 0 52 (dk_at dksX3_find_0 13 rfl rfl)
theorem dX3_find_16 : decode cX3_find 16 = .ok (.iload_n 3, 1) := dk_29 (dk_at dksX3_find_0 16 rfl rfl)
theorem dX3_find_17 : decode cX3_find 17 = .ok (.laload, 1) := dk_47 (dk_at dksX3_find_0 17 rfl rfl)
theorem dX3_find_18 : decode cX3_find 18 = .ok (.aload_n 0, 1) := dk_42 (dk_at dksX3_find_0 18 rfl rfl)
theorem dX3_find_19 : decode cX3_find 19 = .ok (.iload_n 1, 1) := dk_27 (dk_at dksX3_find_0 19 rfl rfl)
theorem dX3_find_20 : decode cX3_find 20 = .ok (.invokevirtual 287, 3) := dk_182 1 31 (dk_at dksX3_find_0 20 rfl rfl)
theorem dX3_find_23 : decode cX3_find 23 = .ok (.lcmp, 1) := dk_148 (dk_at dksX3_find_0 23 rfl rfl)
theorem dX3_find_24 : decode cX3_find 24 = .ok (.ifCond .ne 5, 3) := dk_154 0 5 (dk_at dksX3_find_1 0 rfl rfl)
theorem dX3_find_27 : decode cX3_find 27 = .ok (.iload_n 3, 1) := dk_29 (dk_at dksX3_find_1 3 rfl rfl)
theorem dX3_find_28 : decode cX3_find 28 = .ok (.istore_n 2, 1) := dk_61 (dk_at dksX3_find_1 4 rfl rfl)
theorem dX3_find_29 : decode cX3_find 29 = .ok (.iinc 3 1, 3) := dk_132 3 1 (dk_at dksX3_find_1 5 rfl rfl)
theorem dX3_find_32 : decode cX3_find 32 = .ok (.goto (-28), 3) := dk_167 255 228 (dk_at dksX3_find_1 8 rfl rfl)
theorem dX3_find_35 : decode cX3_find 35 = .ok (.iload_n 2, 1) := dk_28 (dk_at dksX3_find_1 11 rfl rfl)
theorem dX3_find_36 : decode cX3_find 36 = .ok (.ireturn, 1) := dk_172 (dk_at dksX3_find_1 12 rfl rfl)
abbrev cX3_nameOf : ByteArray := prog_34_method_15_code
def yX3_nameOf : MethodName := ⟨RX3, "nameOf", "(I)J"⟩
def dkwX3_nameOf_3 : List UInt8 := [173]
abbrev dktX3_nameOf_3 : List UInt8 := dkwX3_nameOf_3 ++ []
def dkwX3_nameOf_2 : List UInt8 := [100, 167, 0, 13, 42, 180, 0, 9, 21, 4, 46, 16, 86, 100, 133, 97, 65, 132, 4, 1, 167, 255, 198, 32]
abbrev dktX3_nameOf_2 : List UInt8 := dkwX3_nameOf_2 ++ dktX3_nameOf_3
def dkwX3_nameOf_1 : List UInt8 := [32, 105, 42, 180, 0, 9, 21, 4, 46, 184, 0, 119, 153, 0, 16, 42, 180, 0, 9, 21, 4, 46, 16, 47]
abbrev dktX3_nameOf_1 : List UInt8 := dkwX3_nameOf_1 ++ dktX3_nameOf_2
def dkwX3_nameOf_0 : List UInt8 := [9, 65, 42, 180, 0, 20, 27, 46, 54, 4, 21, 4, 42, 180, 0, 23, 27, 46, 162, 0, 53, 20, 0, 150]
abbrev dktX3_nameOf_0 : List UInt8 := dkwX3_nameOf_0 ++ dktX3_nameOf_1
theorem dksX3_nameOf_0 : cX3_nameOf.data.toList.drop 0 = dktX3_nameOf_0 := by decide +kernel
theorem dksX3_nameOf_1 : cX3_nameOf.data.toList.drop 24 = dktX3_nameOf_1 := dk_seg dksX3_nameOf_0 24 rfl rfl
theorem dksX3_nameOf_2 : cX3_nameOf.data.toList.drop 48 = dktX3_nameOf_2 := dk_seg dksX3_nameOf_1 24 rfl rfl
theorem dksX3_nameOf_3 : cX3_nameOf.data.toList.drop 72 = dktX3_nameOf_3 := dk_seg dksX3_nameOf_2 24 rfl rfl
theorem dX3_nameOf_0 : decode cX3_nameOf 0 = .ok (.lconst 0, 1) := dk_9 (dk_at dksX3_nameOf_0 0 rfl rfl)
theorem dX3_nameOf_1 : decode cX3_nameOf 1 = .ok (.lstore_n 2, 1) := dk_65 (dk_at dksX3_nameOf_0 1 rfl rfl)
theorem dX3_nameOf_2 : decode cX3_nameOf 2 = .ok (.aload_n 0, 1) := dk_42 (dk_at dksX3_nameOf_0 2 rfl rfl)
theorem dX3_nameOf_3 : decode cX3_nameOf 3 = .ok (.getfield 20, 3) := dk_180 0 20 (dk_at dksX3_nameOf_0 3 rfl rfl)
theorem dX3_nameOf_6 : decode cX3_nameOf 6 = .ok (.iload_n 1, 1) := dk_27 (dk_at dksX3_nameOf_0 6 rfl rfl)
theorem dX3_nameOf_7 : decode cX3_nameOf 7 = .ok (.iaload, 1) := dk_46 (dk_at dksX3_nameOf_0 7 rfl rfl)
theorem dX3_nameOf_8 : decode cX3_nameOf 8 = .ok (.istore 4, 2) := dk_54 4 (dk_at dksX3_nameOf_0 8 rfl rfl)
theorem dX3_nameOf_10 : decode cX3_nameOf 10 = .ok (.iload 4, 2) := dk_21 4 (dk_at dksX3_nameOf_0 10 rfl rfl)
theorem dX3_nameOf_12 : decode cX3_nameOf 12 = .ok (.aload_n 0, 1) := dk_42 (dk_at dksX3_nameOf_0 12 rfl rfl)
theorem dX3_nameOf_13 : decode cX3_nameOf 13 = .ok (.getfield 23, 3) := dk_180 0 23 (dk_at dksX3_nameOf_0 13 rfl rfl)
theorem dX3_nameOf_16 : decode cX3_nameOf 16 = .ok (.iload_n 1, 1) := dk_27 (dk_at dksX3_nameOf_0 16 rfl rfl)
theorem dX3_nameOf_17 : decode cX3_nameOf 17 = .ok (.iaload, 1) := dk_46 (dk_at dksX3_nameOf_0 17 rfl rfl)
theorem dX3_nameOf_18 : decode cX3_nameOf 18 = .ok (.if_icmp .ge 53, 3) := dk_162 0 53 (dk_at dksX3_nameOf_0 18 rfl rfl)
theorem dX3_nameOf_21 : decode cX3_nameOf 21 = .ok (.ldc2_w 150, 3) := dk_20 0 150 (dk_at dksX3_nameOf_0 21 rfl rfl)
theorem dX3_nameOf_24 : decode cX3_nameOf 24 = .ok (.lload_n 2, 1) := dk_32 (dk_at dksX3_nameOf_1 0 rfl rfl)
theorem dX3_nameOf_25 : decode cX3_nameOf 25 = .ok (.lmul, 1) := dk_105 (dk_at dksX3_nameOf_1 1 rfl rfl)
theorem dX3_nameOf_26 : decode cX3_nameOf 26 = .ok (.aload_n 0, 1) := dk_42 (dk_at dksX3_nameOf_1 2 rfl rfl)
theorem dX3_nameOf_27 : decode cX3_nameOf 27 = .ok (.getfield 9, 3) := dk_180 0 9 (dk_at dksX3_nameOf_1 3 rfl rfl)
theorem dX3_nameOf_30 : decode cX3_nameOf 30 = .ok (.iload 4, 2) := dk_21 4 (dk_at dksX3_nameOf_1 6 rfl rfl)
theorem dX3_nameOf_32 : decode cX3_nameOf 32 = .ok (.iaload, 1) := dk_46 (dk_at dksX3_nameOf_1 8 rfl rfl)
theorem dX3_nameOf_33 : decode cX3_nameOf 33 = .ok (.invokestatic 119, 3) := dk_184 0 119 (dk_at dksX3_nameOf_1 9 rfl rfl)
theorem dX3_nameOf_36 : decode cX3_nameOf 36 = .ok (.ifCond .eq 16, 3) := dk_153 0 16 (dk_at dksX3_nameOf_1 12 rfl rfl)
theorem dX3_nameOf_39 : decode cX3_nameOf 39 = .ok (.aload_n 0, 1) := dk_42 (dk_at dksX3_nameOf_1 15 rfl rfl)
theorem dX3_nameOf_40 : decode cX3_nameOf 40 = .ok (.getfield 9, 3) := dk_180 0 9 (dk_at dksX3_nameOf_1 16 rfl rfl)
theorem dX3_nameOf_43 : decode cX3_nameOf 43 = .ok (.iload 4, 2) := dk_21 4 (dk_at dksX3_nameOf_1 19 rfl rfl)
theorem dX3_nameOf_45 : decode cX3_nameOf 45 = .ok (.iaload, 1) := dk_46 (dk_at dksX3_nameOf_1 21 rfl rfl)
theorem dX3_nameOf_46 : decode cX3_nameOf 46 = .ok (.bipush 47, 2) := dk_16 47 (dk_at dksX3_nameOf_1 22 rfl rfl)
theorem dX3_nameOf_48 : decode cX3_nameOf 48 = .ok (.isub, 1) := dk_100 (dk_at dksX3_nameOf_2 0 rfl rfl)
theorem dX3_nameOf_49 : decode cX3_nameOf 49 = .ok (.goto 13, 3) := dk_167 0 13 (dk_at dksX3_nameOf_2 1 rfl rfl)
theorem dX3_nameOf_52 : decode cX3_nameOf 52 = .ok (.aload_n 0, 1) := dk_42 (dk_at dksX3_nameOf_2 4 rfl rfl)
theorem dX3_nameOf_53 : decode cX3_nameOf 53 = .ok (.getfield 9, 3) := dk_180 0 9 (dk_at dksX3_nameOf_2 5 rfl rfl)
theorem dX3_nameOf_56 : decode cX3_nameOf 56 = .ok (.iload 4, 2) := dk_21 4 (dk_at dksX3_nameOf_2 8 rfl rfl)
theorem dX3_nameOf_58 : decode cX3_nameOf 58 = .ok (.iaload, 1) := dk_46 (dk_at dksX3_nameOf_2 10 rfl rfl)
theorem dX3_nameOf_59 : decode cX3_nameOf 59 = .ok (.bipush 86, 2) := dk_16 86 (dk_at dksX3_nameOf_2 11 rfl rfl)
theorem dX3_nameOf_61 : decode cX3_nameOf 61 = .ok (.isub, 1) := dk_100 (dk_at dksX3_nameOf_2 13 rfl rfl)
theorem dX3_nameOf_62 : decode cX3_nameOf 62 = .ok (.i2l, 1) := dk_133 (dk_at dksX3_nameOf_2 14 rfl rfl)
theorem dX3_nameOf_63 : decode cX3_nameOf 63 = .ok (.ladd, 1) := dk_97 (dk_at dksX3_nameOf_2 15 rfl rfl)
theorem dX3_nameOf_64 : decode cX3_nameOf 64 = .ok (.lstore_n 2, 1) := dk_65 (dk_at dksX3_nameOf_2 16 rfl rfl)
theorem dX3_nameOf_65 : decode cX3_nameOf 65 = .ok (.iinc 4 1, 3) := dk_132 4 1 (dk_at dksX3_nameOf_2 17 rfl rfl)
theorem dX3_nameOf_68 : decode cX3_nameOf 68 = .ok (.goto (-58), 3) := dk_167 255 198 (dk_at dksX3_nameOf_2 20 rfl rfl)
theorem dX3_nameOf_71 : decode cX3_nameOf 71 = .ok (.lload_n 2, 1) := dk_32 (dk_at dksX3_nameOf_2 23 rfl rfl)
theorem dX3_nameOf_72 : decode cX3_nameOf 72 = .ok (.lreturn, 1) := dk_173 (dk_at dksX3_nameOf_3 0 rfl rfl)
abbrev cX3_numberOf : ByteArray := prog_34_method_16_code
def yX3_numberOf : MethodName := ⟨RX3, "numberOf", "(I)I"⟩
def dkwX3_numberOf_1 : List UInt8 := [180, 0, 9, 29, 46, 96, 16, 48, 100, 61, 132, 3, 1, 167, 255, 228, 28, 172]
abbrev dktX3_numberOf_1 : List UInt8 := dkwX3_numberOf_1 ++ []
def dkwX3_numberOf_0 : List UInt8 := [3, 61, 42, 180, 0, 20, 27, 46, 62, 29, 42, 180, 0, 23, 27, 46, 162, 0, 24, 16, 10, 28, 104, 42]
abbrev dktX3_numberOf_0 : List UInt8 := dkwX3_numberOf_0 ++ dktX3_numberOf_1
theorem dksX3_numberOf_0 : cX3_numberOf.data.toList.drop 0 = dktX3_numberOf_0 := by decide +kernel
theorem dksX3_numberOf_1 : cX3_numberOf.data.toList.drop 24 = dktX3_numberOf_1 := dk_seg dksX3_numberOf_0 24 rfl rfl
theorem dX3_numberOf_0 : decode cX3_numberOf 0 = .ok (.iconst 0, 1) := dk_3 (dk_at dksX3_numberOf_0 0 rfl rfl)
theorem dX3_numberOf_1 : decode cX3_numberOf 1 = .ok (.istore_n 2, 1) := dk_61 (dk_at dksX3_numberOf_0 1 rfl rfl)
theorem dX3_numberOf_2 : decode cX3_numberOf 2 = .ok (.aload_n 0, 1) := dk_42 (dk_at dksX3_numberOf_0 2 rfl rfl)
theorem dX3_numberOf_3 : decode cX3_numberOf 3 = .ok (.getfield 20, 3) := dk_180 0 20 (dk_at dksX3_numberOf_0 3 rfl rfl)
theorem dX3_numberOf_6 : decode cX3_numberOf 6 = .ok (.iload_n 1, 1) := dk_27 (dk_at dksX3_numberOf_0 6 rfl rfl)
theorem dX3_numberOf_7 : decode cX3_numberOf 7 = .ok (.iaload, 1) := dk_46 (dk_at dksX3_numberOf_0 7 rfl rfl)
theorem dX3_numberOf_8 : decode cX3_numberOf 8 = .ok (.istore_n 3, 1) := dk_62 (dk_at dksX3_numberOf_0 8 rfl rfl)
theorem dX3_numberOf_9 : decode cX3_numberOf 9 = .ok (.iload_n 3, 1) := dk_29 (dk_at dksX3_numberOf_0 9 rfl rfl)
theorem dX3_numberOf_10 : decode cX3_numberOf 10 = .ok (.aload_n 0, 1) := dk_42 (dk_at dksX3_numberOf_0 10 rfl rfl)
theorem dX3_numberOf_11 : decode cX3_numberOf 11 = .ok (.getfield 23, 3) := dk_180 0 23 (dk_at dksX3_numberOf_0 11 rfl rfl)
theorem dX3_numberOf_14 : decode cX3_numberOf 14 = .ok (.iload_n 1, 1) := dk_27 (dk_at dksX3_numberOf_0 14 rfl rfl)
theorem dX3_numberOf_15 : decode cX3_numberOf 15 = .ok (.iaload, 1) := dk_46 (dk_at dksX3_numberOf_0 15 rfl rfl)
theorem dX3_numberOf_16 : decode cX3_numberOf 16 = .ok (.if_icmp .ge 24, 3) := dk_162 0 24 (dk_at dksX3_numberOf_0 16 rfl rfl)
theorem dX3_numberOf_19 : decode cX3_numberOf 19 = .ok (.bipush 10, 2) := dk_16 10 (dk_at dksX3_numberOf_0 19 rfl rfl)
theorem dX3_numberOf_21 : decode cX3_numberOf 21 = .ok (.iload_n 2, 1) := dk_28 (dk_at dksX3_numberOf_0 21 rfl rfl)
theorem dX3_numberOf_22 : decode cX3_numberOf 22 = .ok (.imul, 1) := dk_104 (dk_at dksX3_numberOf_0 22 rfl rfl)
theorem dX3_numberOf_23 : decode cX3_numberOf 23 = .ok (.aload_n 0, 1) := dk_42 (dk_at dksX3_numberOf_0 23 rfl rfl)
theorem dX3_numberOf_24 : decode cX3_numberOf 24 = .ok (.getfield 9, 3) := dk_180 0 9 (dk_at dksX3_numberOf_1 0 rfl rfl)
theorem dX3_numberOf_27 : decode cX3_numberOf 27 = .ok (.iload_n 3, 1) := dk_29 (dk_at dksX3_numberOf_1 3 rfl rfl)
theorem dX3_numberOf_28 : decode cX3_numberOf 28 = .ok (.iaload, 1) := dk_46 (dk_at dksX3_numberOf_1 4 rfl rfl)
theorem dX3_numberOf_29 : decode cX3_numberOf 29 = .ok (.iadd, 1) := dk_96 (dk_at dksX3_numberOf_1 5 rfl rfl)
theorem dX3_numberOf_30 : decode cX3_numberOf 30 = .ok (.bipush 48, 2) := dk_16 48 (dk_at dksX3_numberOf_1 6 rfl rfl)
theorem dX3_numberOf_32 : decode cX3_numberOf 32 = .ok (.isub, 1) := dk_100 (dk_at dksX3_numberOf_1 8 rfl rfl)
theorem dX3_numberOf_33 : decode cX3_numberOf 33 = .ok (.istore_n 2, 1) := dk_61 (dk_at dksX3_numberOf_1 9 rfl rfl)
theorem dX3_numberOf_34 : decode cX3_numberOf 34 = .ok (.iinc 3 1, 3) := dk_132 3 1 (dk_at dksX3_numberOf_1 10 rfl rfl)
theorem dX3_numberOf_37 : decode cX3_numberOf 37 = .ok (.goto (-28), 3) := dk_167 255 228 (dk_at dksX3_numberOf_1 13 rfl rfl)
theorem dX3_numberOf_40 : decode cX3_numberOf 40 = .ok (.iload_n 2, 1) := dk_28 (dk_at dksX3_numberOf_1 16 rfl rfl)
theorem dX3_numberOf_41 : decode cX3_numberOf 41 = .ok (.ireturn, 1) := dk_172 (dk_at dksX3_numberOf_1 17 rfl rfl)
abbrev cX3_expression : ByteArray := prog_34_method_45_code
def yX3_expression : MethodName := ⟨RX3, "expression", "()I"⟩
def dkwX3_expression_1 : List UInt8 := [153, 0, 12, 42, 4, 182, 1, 90, 60, 167, 255, 228, 27, 172]
abbrev dktX3_expression_1 : List UInt8 := dkwX3_expression_1 ++ []
def dkwX3_expression_0 : List UInt8 := [42, 182, 1, 87, 60, 27, 154, 0, 30, 42, 18, 248, 182, 0, 155, 154, 0, 12, 42, 18, 179, 182, 0, 155]
abbrev dktX3_expression_0 : List UInt8 := dkwX3_expression_0 ++ dktX3_expression_1
theorem dksX3_expression_0 : cX3_expression.data.toList.drop 0 = dktX3_expression_0 := by decide +kernel
theorem dksX3_expression_1 : cX3_expression.data.toList.drop 24 = dktX3_expression_1 := dk_seg dksX3_expression_0 24 rfl rfl
theorem dX3_expression_0 : decode cX3_expression 0 = .ok (.aload_n 0, 1) := dk_42 (dk_at dksX3_expression_0 0 rfl rfl)
theorem dX3_expression_1 : decode cX3_expression 1 = .ok (.invokevirtual 343, 3) := dk_182 1 87 (dk_at dksX3_expression_0 1 rfl rfl)
theorem dX3_expression_4 : decode cX3_expression 4 = .ok (.istore_n 1, 1) := dk_60 (dk_at dksX3_expression_0 4 rfl rfl)
theorem dX3_expression_5 : decode cX3_expression 5 = .ok (.iload_n 1, 1) := dk_27 (dk_at dksX3_expression_0 5 rfl rfl)
theorem dX3_expression_6 : decode cX3_expression 6 = .ok (.ifCond .ne 30, 3) := dk_154 0 30 (dk_at dksX3_expression_0 6 rfl rfl)
theorem dX3_expression_9 : decode cX3_expression 9 = .ok (.aload_n 0, 1) := dk_42 (dk_at dksX3_expression_0 9 rfl rfl)
theorem dX3_expression_10 : decode cX3_expression 10 = .ok (.ldc 248, 2) := dk_18 248 (dk_at dksX3_expression_0 10 rfl rfl)
theorem dX3_expression_12 : decode cX3_expression 12 = .ok (.invokevirtual 155, 3) := dk_182 0 155 (dk_at dksX3_expression_0 12 rfl rfl)
theorem dX3_expression_15 : decode cX3_expression 15 = .ok (.ifCond .ne 12, 3) := dk_154 0 12 (dk_at dksX3_expression_0 15 rfl rfl)
theorem dX3_expression_18 : decode cX3_expression 18 = .ok (.aload_n 0, 1) := dk_42 (dk_at dksX3_expression_0 18 rfl rfl)
theorem dX3_expression_19 : decode cX3_expression 19 = .ok (.ldc 179, 2) := dk_18 179 (dk_at dksX3_expression_0 19 rfl rfl)
theorem dX3_expression_21 : decode cX3_expression 21 = .ok (.invokevirtual 155, 3) := dk_182 0 155 (dk_at dksX3_expression_0 21 rfl rfl)
theorem dX3_expression_24 : decode cX3_expression 24 = .ok (.ifCond .eq 12, 3) := dk_153 0 12 (dk_at dksX3_expression_1 0 rfl rfl)
theorem dX3_expression_27 : decode cX3_expression 27 = .ok (.aload_n 0, 1) := dk_42 (dk_at dksX3_expression_1 3 rfl rfl)
theorem dX3_expression_28 : decode cX3_expression 28 = .ok (.iconst 1, 1) := dk_4 (dk_at dksX3_expression_1 4 rfl rfl)
theorem dX3_expression_29 : decode cX3_expression 29 = .ok (.invokevirtual 346, 3) := dk_182 1 90 (dk_at dksX3_expression_1 5 rfl rfl)
theorem dX3_expression_32 : decode cX3_expression 32 = .ok (.istore_n 1, 1) := dk_60 (dk_at dksX3_expression_1 8 rfl rfl)
theorem dX3_expression_33 : decode cX3_expression 33 = .ok (.goto (-28), 3) := dk_167 255 228 (dk_at dksX3_expression_1 9 rfl rfl)
theorem dX3_expression_36 : decode cX3_expression 36 = .ok (.iload_n 1, 1) := dk_27 (dk_at dksX3_expression_1 12 rfl rfl)
theorem dX3_expression_37 : decode cX3_expression 37 = .ok (.ireturn, 1) := dk_172 (dk_at dksX3_expression_1 13 rfl rfl)
abbrev cX3_product : ByteArray := prog_34_method_46_code
def yX3_product : MethodName := ⟨RX3, "product", "()I"⟩
def dkwX3_product_1 : List UInt8 := [154, 0, 13, 42, 19, 1, 1, 182, 0, 155, 153, 0, 12, 42, 3, 182, 1, 90, 60, 167, 255, 218, 27, 172]
abbrev dktX3_product_1 : List UInt8 := dkwX3_product_1 ++ []
def dkwX3_product_0 : List UInt8 := [42, 182, 1, 94, 60, 27, 154, 0, 40, 42, 18, 253, 182, 0, 155, 154, 0, 22, 42, 18, 255, 182, 0, 155]
abbrev dktX3_product_0 : List UInt8 := dkwX3_product_0 ++ dktX3_product_1
theorem dksX3_product_0 : cX3_product.data.toList.drop 0 = dktX3_product_0 := by decide +kernel
theorem dksX3_product_1 : cX3_product.data.toList.drop 24 = dktX3_product_1 := dk_seg dksX3_product_0 24 rfl rfl
theorem dX3_product_0 : decode cX3_product 0 = .ok (.aload_n 0, 1) := dk_42 (dk_at dksX3_product_0 0 rfl rfl)
theorem dX3_product_1 : decode cX3_product 1 = .ok (.invokevirtual 350, 3) := dk_182 1 94 (dk_at dksX3_product_0 1 rfl rfl)
theorem dX3_product_4 : decode cX3_product 4 = .ok (.istore_n 1, 1) := dk_60 (dk_at dksX3_product_0 4 rfl rfl)
theorem dX3_product_5 : decode cX3_product 5 = .ok (.iload_n 1, 1) := dk_27 (dk_at dksX3_product_0 5 rfl rfl)
theorem dX3_product_6 : decode cX3_product 6 = .ok (.ifCond .ne 40, 3) := dk_154 0 40 (dk_at dksX3_product_0 6 rfl rfl)
theorem dX3_product_9 : decode cX3_product 9 = .ok (.aload_n 0, 1) := dk_42 (dk_at dksX3_product_0 9 rfl rfl)
theorem dX3_product_10 : decode cX3_product 10 = .ok (.ldc 253, 2) := dk_18 253 (dk_at dksX3_product_0 10 rfl rfl)
theorem dX3_product_12 : decode cX3_product 12 = .ok (.invokevirtual 155, 3) := dk_182 0 155 (dk_at dksX3_product_0 12 rfl rfl)
theorem dX3_product_15 : decode cX3_product 15 = .ok (.ifCond .ne 22, 3) := dk_154 0 22 (dk_at dksX3_product_0 15 rfl rfl)
theorem dX3_product_18 : decode cX3_product 18 = .ok (.aload_n 0, 1) := dk_42 (dk_at dksX3_product_0 18 rfl rfl)
theorem dX3_product_19 : decode cX3_product 19 = .ok (.ldc 255, 2) := dk_18 255 (dk_at dksX3_product_0 19 rfl rfl)
theorem dX3_product_21 : decode cX3_product 21 = .ok (.invokevirtual 155, 3) := dk_182 0 155 (dk_at dksX3_product_0 21 rfl rfl)
theorem dX3_product_24 : decode cX3_product 24 = .ok (.ifCond .ne 13, 3) := dk_154 0 13 (dk_at dksX3_product_1 0 rfl rfl)
theorem dX3_product_27 : decode cX3_product 27 = .ok (.aload_n 0, 1) := dk_42 (dk_at dksX3_product_1 3 rfl rfl)
theorem dX3_product_28 : decode cX3_product 28 = .ok (.ldc_w 257, 3) := dk_19 1 1 (dk_at dksX3_product_1 4 rfl rfl)
theorem dX3_product_31 : decode cX3_product 31 = .ok (.invokevirtual 155, 3) := dk_182 0 155 (dk_at dksX3_product_1 7 rfl rfl)
theorem dX3_product_34 : decode cX3_product 34 = .ok (.ifCond .eq 12, 3) := dk_153 0 12 (dk_at dksX3_product_1 10 rfl rfl)
theorem dX3_product_37 : decode cX3_product 37 = .ok (.aload_n 0, 1) := dk_42 (dk_at dksX3_product_1 13 rfl rfl)
theorem dX3_product_38 : decode cX3_product 38 = .ok (.iconst 0, 1) := dk_3 (dk_at dksX3_product_1 14 rfl rfl)
theorem dX3_product_39 : decode cX3_product 39 = .ok (.invokevirtual 346, 3) := dk_182 1 90 (dk_at dksX3_product_1 15 rfl rfl)
theorem dX3_product_42 : decode cX3_product 42 = .ok (.istore_n 1, 1) := dk_60 (dk_at dksX3_product_1 18 rfl rfl)
theorem dX3_product_43 : decode cX3_product 43 = .ok (.goto (-38), 3) := dk_167 255 218 (dk_at dksX3_product_1 19 rfl rfl)
theorem dX3_product_46 : decode cX3_product 46 = .ok (.iload_n 1, 1) := dk_27 (dk_at dksX3_product_1 22 rfl rfl)
theorem dX3_product_47 : decode cX3_product 47 = .ok (.ireturn, 1) := dk_172 (dk_at dksX3_product_1 23 rfl rfl)
abbrev cX3_factor : ByteArray := prog_34_method_49_code
def yX3_factor : MethodName := ⟨RX3, "factor", "()I"⟩
def dkwX3_factor_14 : List UInt8 := [153, 0, 7, 29, 167, 0, 18, 42, 16, 33, 21, 5, 21, 6, 42, 180, 1, 53, 28, 182, 1, 63, 172]
abbrev dktX3_factor_14 : List UInt8 := dkwX3_factor_14 ++ []
def dkwX3_factor_13 : List UInt8 := [2, 28, 182, 1, 63, 172, 42, 89, 180, 0, 152, 4, 96, 181, 0, 152, 42, 182, 1, 94, 62, 29]
abbrev dktX3_factor_13 : List UInt8 := dkwX3_factor_13 ++ dktX3_factor_14
def dkwX3_factor_12 : List UInt8 := [29, 153, 0, 5, 29, 172, 42, 27, 19, 1, 21, 182, 0, 138, 153, 0, 16, 42, 16, 32, 21, 5, 21, 6]
abbrev dktX3_factor_12 : List UInt8 := dkwX3_factor_12 ++ dktX3_factor_13
def dkwX3_factor_11 : List UInt8 := [153, 0, 13, 42, 89, 180, 0, 152, 4, 96, 181, 0, 152, 42, 182, 1, 94, 62, 42, 180, 1, 53, 54, 6]
abbrev dktX3_factor_11 : List UInt8 := dkwX3_factor_11 ++ dktX3_factor_12
def dkwX3_factor_10 : List UInt8 := [16, 30, 167, 0, 5, 16, 31, 21, 5, 2, 2, 28, 182, 1, 63, 172, 42, 27, 19, 1, 22, 182, 0, 138]
abbrev dktX3_factor_10 : List UInt8 := dkwX3_factor_10 ++ dktX3_factor_11
def dkwX3_factor_9 : List UInt8 := [42, 27, 19, 1, 16, 182, 0, 138, 153, 0, 31, 42, 42, 27, 19, 1, 14, 182, 0, 138, 153, 0, 8]
abbrev dktX3_factor_9 : List UInt8 := dkwX3_factor_9 ++ dktX3_factor_10
def dkwX3_factor_8 : List UInt8 := [62, 42, 180, 1, 53, 54, 5, 29, 153, 0, 5, 29, 172, 42, 27, 19, 1, 14, 182, 0, 138, 154, 0, 14]
abbrev dktX3_factor_8 : List UInt8 := dkwX3_factor_8 ++ dktX3_factor_9
def dkwX3_factor_7 : List UInt8 := [167, 0, 19, 42, 16, 25, 21, 4, 96, 42, 180, 1, 53, 2, 2, 28, 182, 1, 63, 172, 42, 182, 1, 103]
abbrev dktX3_factor_7 : List UInt8 := dkwX3_factor_7 ++ dktX3_factor_8
def dkwX3_factor_6 : List UInt8 := [178, 1, 11, 182, 0, 146, 54, 4, 21, 4, 2, 159, 0, 33, 42, 182, 1, 94, 62, 29, 153, 0, 7, 29]
abbrev dktX3_factor_6 : List UInt8 := dkwX3_factor_6 ++ dktX3_factor_7
def dkwX3_factor_5 : List UInt8 := [153, 0, 20, 42, 182, 1, 47, 62, 42, 89, 180, 0, 152, 4, 96, 181, 0, 152, 29, 172, 42, 27]
abbrev dktX3_factor_5 : List UInt8 := dkwX3_factor_5 ++ dktX3_factor_6
def dkwX3_factor_4 : List UInt8 := [182, 0, 163, 153, 0, 9, 42, 27, 182, 1, 100, 172, 3, 62, 42, 27, 19, 1, 7, 182, 0, 138]
abbrev dktX3_factor_4 : List UInt8 := dkwX3_factor_4 ++ dktX3_factor_5
def dkwX3_factor_3 : List UInt8 := [19, 1, 5, 182, 0, 138, 153, 0, 14, 42, 16, 24, 2, 2, 2, 28, 182, 1, 63, 172, 42, 27]
abbrev dktX3_factor_3 : List UInt8 := dkwX3_factor_3 ++ dktX3_factor_4
def dkwX3_factor_2 : List UInt8 := [42, 27, 19, 1, 3, 182, 0, 138, 153, 0, 14, 42, 16, 23, 2, 2, 2, 28, 182, 1, 63, 172, 42, 27]
abbrev dktX3_factor_2 : List UInt8 := dkwX3_factor_2 ++ dktX3_factor_3
def dkwX3_factor_1 : List UInt8 := [180, 0, 17, 27, 46, 5, 160, 0, 18, 42, 16, 20, 42, 27, 182, 1, 44, 2, 2, 28, 182, 1, 63, 172]
abbrev dktX3_factor_1 : List UInt8 := dkwX3_factor_1 ++ dktX3_factor_2
def dkwX3_factor_0 : List UInt8 := [42, 180, 0, 152, 60, 42, 180, 0, 20, 27, 46, 61, 42, 89, 180, 0, 152, 4, 96, 181, 0, 152, 42]
abbrev dktX3_factor_0 : List UInt8 := dkwX3_factor_0 ++ dktX3_factor_1
theorem dksX3_factor_0 : cX3_factor.data.toList.drop 0 = dktX3_factor_0 := by decide +kernel
theorem dksX3_factor_1 : cX3_factor.data.toList.drop 23 = dktX3_factor_1 := dk_seg dksX3_factor_0 23 rfl rfl
theorem dksX3_factor_2 : cX3_factor.data.toList.drop 47 = dktX3_factor_2 := dk_seg dksX3_factor_1 24 rfl rfl
theorem dksX3_factor_3 : cX3_factor.data.toList.drop 71 = dktX3_factor_3 := dk_seg dksX3_factor_2 24 rfl rfl
theorem dksX3_factor_4 : cX3_factor.data.toList.drop 93 = dktX3_factor_4 := dk_seg dksX3_factor_3 22 rfl rfl
theorem dksX3_factor_5 : cX3_factor.data.toList.drop 115 = dktX3_factor_5 := dk_seg dksX3_factor_4 22 rfl rfl
theorem dksX3_factor_6 : cX3_factor.data.toList.drop 137 = dktX3_factor_6 := dk_seg dksX3_factor_5 22 rfl rfl
theorem dksX3_factor_7 : cX3_factor.data.toList.drop 161 = dktX3_factor_7 := dk_seg dksX3_factor_6 24 rfl rfl
theorem dksX3_factor_8 : cX3_factor.data.toList.drop 185 = dktX3_factor_8 := dk_seg dksX3_factor_7 24 rfl rfl
theorem dksX3_factor_9 : cX3_factor.data.toList.drop 209 = dktX3_factor_9 := dk_seg dksX3_factor_8 24 rfl rfl
theorem dksX3_factor_10 : cX3_factor.data.toList.drop 232 = dktX3_factor_10 := dk_seg dksX3_factor_9 23 rfl rfl
theorem dksX3_factor_11 : cX3_factor.data.toList.drop 256 = dktX3_factor_11 := dk_seg dksX3_factor_10 24 rfl rfl
theorem dksX3_factor_12 : cX3_factor.data.toList.drop 280 = dktX3_factor_12 := dk_seg dksX3_factor_11 24 rfl rfl
theorem dksX3_factor_13 : cX3_factor.data.toList.drop 304 = dktX3_factor_13 := dk_seg dksX3_factor_12 24 rfl rfl
theorem dksX3_factor_14 : cX3_factor.data.toList.drop 326 = dktX3_factor_14 := dk_seg dksX3_factor_13 22 rfl rfl
theorem dX3_factor_0 : decode cX3_factor 0 = .ok (.aload_n 0, 1) := dk_42 (dk_at dksX3_factor_0 0 rfl rfl)
theorem dX3_factor_1 : decode cX3_factor 1 = .ok (.getfield 152, 3) := dk_180 0 152 (dk_at dksX3_factor_0 1 rfl rfl)
theorem dX3_factor_4 : decode cX3_factor 4 = .ok (.istore_n 1, 1) := dk_60 (dk_at dksX3_factor_0 4 rfl rfl)
theorem dX3_factor_5 : decode cX3_factor 5 = .ok (.aload_n 0, 1) := dk_42 (dk_at dksX3_factor_0 5 rfl rfl)
theorem dX3_factor_6 : decode cX3_factor 6 = .ok (.getfield 20, 3) := dk_180 0 20 (dk_at dksX3_factor_0 6 rfl rfl)
theorem dX3_factor_9 : decode cX3_factor 9 = .ok (.iload_n 1, 1) := dk_27 (dk_at dksX3_factor_0 9 rfl rfl)
theorem dX3_factor_10 : decode cX3_factor 10 = .ok (.iaload, 1) := dk_46 (dk_at dksX3_factor_0 10 rfl rfl)
theorem dX3_factor_11 : decode cX3_factor 11 = .ok (.istore_n 2, 1) := dk_61 (dk_at dksX3_factor_0 11 rfl rfl)
theorem dX3_factor_12 : decode cX3_factor 12 = .ok (.aload_n 0, 1) := dk_42 (dk_at dksX3_factor_0 12 rfl rfl)
theorem dX3_factor_13 : decode cX3_factor 13 = .ok (.dup, 1) := dk_89 (dk_at dksX3_factor_0 13 rfl rfl)
theorem dX3_factor_14 : decode cX3_factor 14 = .ok (.getfield 152, 3) := dk_180 0 152 (dk_at dksX3_factor_0 14 rfl rfl)
theorem dX3_factor_17 : decode cX3_factor 17 = .ok (.iconst 1, 1) := dk_4 (dk_at dksX3_factor_0 17 rfl rfl)
theorem dX3_factor_18 : decode cX3_factor 18 = .ok (.iadd, 1) := dk_96 (dk_at dksX3_factor_0 18 rfl rfl)
theorem dX3_factor_19 : decode cX3_factor 19 = .ok (.putfield 152, 3) := dk_181 0 152 (dk_at dksX3_factor_0 19 rfl rfl)
theorem dX3_factor_22 : decode cX3_factor 22 = .ok (.aload_n 0, 1) := dk_42 (dk_at dksX3_factor_0 22 rfl rfl)
theorem dX3_factor_23 : decode cX3_factor 23 = .ok (.getfield 17, 3) := dk_180 0 17 (dk_at dksX3_factor_1 0 rfl rfl)
theorem dX3_factor_26 : decode cX3_factor 26 = .ok (.iload_n 1, 1) := dk_27 (dk_at dksX3_factor_1 3 rfl rfl)
theorem dX3_factor_27 : decode cX3_factor 27 = .ok (.iaload, 1) := dk_46 (dk_at dksX3_factor_1 4 rfl rfl)
theorem dX3_factor_28 : decode cX3_factor 28 = .ok (.iconst 2, 1) := dk_5 (dk_at dksX3_factor_1 5 rfl rfl)
theorem dX3_factor_29 : decode cX3_factor 29 = .ok (.if_icmp .ne 18, 3) := dk_160 0 18 (dk_at dksX3_factor_1 6 rfl rfl)
theorem dX3_factor_32 : decode cX3_factor 32 = .ok (.aload_n 0, 1) := dk_42 (dk_at dksX3_factor_1 9 rfl rfl)
theorem dX3_factor_33 : decode cX3_factor 33 = .ok (.bipush 20, 2) := dk_16 20 (dk_at dksX3_factor_1 10 rfl rfl)
theorem dX3_factor_35 : decode cX3_factor 35 = .ok (.aload_n 0, 1) := dk_42 (dk_at dksX3_factor_1 12 rfl rfl)
theorem dX3_factor_36 : decode cX3_factor 36 = .ok (.iload_n 1, 1) := dk_27 (dk_at dksX3_factor_1 13 rfl rfl)
theorem dX3_factor_37 : decode cX3_factor 37 = .ok (.invokevirtual 300, 3) := dk_182 1 44 (dk_at dksX3_factor_1 14 rfl rfl)
theorem dX3_factor_40 : decode cX3_factor 40 = .ok (.iconst (-1), 1) := dk_2 (dk_at dksX3_factor_1 17 rfl rfl)
theorem dX3_factor_41 : decode cX3_factor 41 = .ok (.iconst (-1), 1) := dk_2 (dk_at dksX3_factor_1 18 rfl rfl)
theorem dX3_factor_42 : decode cX3_factor 42 = .ok (.iload_n 2, 1) := dk_28 (dk_at dksX3_factor_1 19 rfl rfl)
theorem dX3_factor_43 : decode cX3_factor 43 = .ok (.invokevirtual 319, 3) := dk_182 1 63 (dk_at dksX3_factor_1 20 rfl rfl)
theorem dX3_factor_46 : decode cX3_factor 46 = .ok (.ireturn, 1) := dk_172 (dk_at dksX3_factor_1 23 rfl rfl)
theorem dX3_factor_47 : decode cX3_factor 47 = .ok (.aload_n 0, 1) := dk_42 (dk_at dksX3_factor_2 0 rfl rfl)
theorem dX3_factor_48 : decode cX3_factor 48 = .ok (.iload_n 1, 1) := dk_27 (dk_at dksX3_factor_2 1 rfl rfl)
theorem dX3_factor_49 : decode cX3_factor 49 = .ok (.ldc_w 259, 3) := dk_19 1 3 (dk_at dksX3_factor_2 2 rfl rfl)
theorem dX3_factor_52 : decode cX3_factor 52 = .ok (.invokevirtual 138, 3) := dk_182 0 138 (dk_at dksX3_factor_2 5 rfl rfl)
theorem dX3_factor_55 : decode cX3_factor 55 = .ok (.ifCond .eq 14, 3) := dk_153 0 14 (dk_at dksX3_factor_2 8 rfl rfl)
theorem dX3_factor_58 : decode cX3_factor 58 = .ok (.aload_n 0, 1) := dk_42 (dk_at dksX3_factor_2 11 rfl rfl)
theorem dX3_factor_59 : decode cX3_factor 59 = .ok (.bipush 23, 2) := dk_16 23 (dk_at dksX3_factor_2 12 rfl rfl)
theorem dX3_factor_61 : decode cX3_factor 61 = .ok (.iconst (-1), 1) := dk_2 (dk_at dksX3_factor_2 14 rfl rfl)
theorem dX3_factor_62 : decode cX3_factor 62 = .ok (.iconst (-1), 1) := dk_2 (dk_at dksX3_factor_2 15 rfl rfl)
theorem dX3_factor_63 : decode cX3_factor 63 = .ok (.iconst (-1), 1) := dk_2 (dk_at dksX3_factor_2 16 rfl rfl)
theorem dX3_factor_64 : decode cX3_factor 64 = .ok (.iload_n 2, 1) := dk_28 (dk_at dksX3_factor_2 17 rfl rfl)
theorem dX3_factor_65 : decode cX3_factor 65 = .ok (.invokevirtual 319, 3) := dk_182 1 63 (dk_at dksX3_factor_2 18 rfl rfl)
theorem dX3_factor_68 : decode cX3_factor 68 = .ok (.ireturn, 1) := dk_172 (dk_at dksX3_factor_2 21 rfl rfl)
theorem dX3_factor_69 : decode cX3_factor 69 = .ok (.aload_n 0, 1) := dk_42 (dk_at dksX3_factor_2 22 rfl rfl)
theorem dX3_factor_70 : decode cX3_factor 70 = .ok (.iload_n 1, 1) := dk_27 (dk_at dksX3_factor_2 23 rfl rfl)
theorem dX3_factor_71 : decode cX3_factor 71 = .ok (.ldc_w 261, 3) := dk_19 1 5 (dk_at dksX3_factor_3 0 rfl rfl)
theorem dX3_factor_74 : decode cX3_factor 74 = .ok (.invokevirtual 138, 3) := dk_182 0 138 (dk_at dksX3_factor_3 3 rfl rfl)
theorem dX3_factor_77 : decode cX3_factor 77 = .ok (.ifCond .eq 14, 3) := dk_153 0 14 (dk_at dksX3_factor_3 6 rfl rfl)
theorem dX3_factor_80 : decode cX3_factor 80 = .ok (.aload_n 0, 1) := dk_42 (dk_at dksX3_factor_3 9 rfl rfl)
theorem dX3_factor_81 : decode cX3_factor 81 = .ok (.bipush 24, 2) := dk_16 24 (dk_at dksX3_factor_3 10 rfl rfl)
theorem dX3_factor_83 : decode cX3_factor 83 = .ok (.iconst (-1), 1) := dk_2 (dk_at dksX3_factor_3 12 rfl rfl)
theorem dX3_factor_84 : decode cX3_factor 84 = .ok (.iconst (-1), 1) := dk_2 (dk_at dksX3_factor_3 13 rfl rfl)
theorem dX3_factor_85 : decode cX3_factor 85 = .ok (.iconst (-1), 1) := dk_2 (dk_at dksX3_factor_3 14 rfl rfl)
theorem dX3_factor_86 : decode cX3_factor 86 = .ok (.iload_n 2, 1) := dk_28 (dk_at dksX3_factor_3 15 rfl rfl)
theorem dX3_factor_87 : decode cX3_factor 87 = .ok (.invokevirtual 319, 3) := dk_182 1 63 (dk_at dksX3_factor_3 16 rfl rfl)
theorem dX3_factor_90 : decode cX3_factor 90 = .ok (.ireturn, 1) := dk_172 (dk_at dksX3_factor_3 19 rfl rfl)
theorem dX3_factor_91 : decode cX3_factor 91 = .ok (.aload_n 0, 1) := dk_42 (dk_at dksX3_factor_3 20 rfl rfl)
theorem dX3_factor_92 : decode cX3_factor 92 = .ok (.iload_n 1, 1) := dk_27 (dk_at dksX3_factor_3 21 rfl rfl)
theorem dX3_factor_93 : decode cX3_factor 93 = .ok (.invokevirtual 163, 3) := dk_182 0 163 (dk_at dksX3_factor_4 0 rfl rfl)
theorem dX3_factor_96 : decode cX3_factor 96 = .ok (.ifCond .eq 9, 3) := dk_153 0 9 (dk_at dksX3_factor_4 3 rfl rfl)
theorem dX3_factor_99 : decode cX3_factor 99 = .ok (.aload_n 0, 1) := dk_42 (dk_at dksX3_factor_4 6 rfl rfl)
theorem dX3_factor_100 : decode cX3_factor 100 = .ok (.iload_n 1, 1) := dk_27 (dk_at dksX3_factor_4 7 rfl rfl)
theorem dX3_factor_101 : decode cX3_factor 101 = .ok (.invokevirtual 356, 3) := dk_182 1 100 (dk_at dksX3_factor_4 8 rfl rfl)
theorem dX3_factor_104 : decode cX3_factor 104 = .ok (.ireturn, 1) := dk_172 (dk_at dksX3_factor_4 11 rfl rfl)
theorem dX3_factor_105 : decode cX3_factor 105 = .ok (.iconst 0, 1) := dk_3 (dk_at dksX3_factor_4 12 rfl rfl)
theorem dX3_factor_106 : decode cX3_factor 106 = .ok (.istore_n 3, 1) := dk_62 (dk_at dksX3_factor_4 13 rfl rfl)
theorem dX3_factor_107 : decode cX3_factor 107 = .ok (.aload_n 0, 1) := dk_42 (dk_at dksX3_factor_4 14 rfl rfl)
theorem dX3_factor_108 : decode cX3_factor 108 = .ok (.iload_n 1, 1) := dk_27 (dk_at dksX3_factor_4 15 rfl rfl)
theorem dX3_factor_109 : decode cX3_factor 109 = .ok (.ldc_w 263, 3) := dk_19 1 7 (dk_at dksX3_factor_4 16 rfl rfl)
theorem dX3_factor_112 : decode cX3_factor 112 = .ok (.invokevirtual 138, 3) := dk_182 0 138 (dk_at dksX3_factor_4 19 rfl rfl)
theorem dX3_factor_115 : decode cX3_factor 115 = .ok (.ifCond .eq 20, 3) := dk_153 0 20 (dk_at dksX3_factor_5 0 rfl rfl)
theorem dX3_factor_118 : decode cX3_factor 118 = .ok (.aload_n 0, 1) := dk_42 (dk_at dksX3_factor_5 3 rfl rfl)
theorem dX3_factor_119 : decode cX3_factor 119 = .ok (.invokevirtual 303, 3) := dk_182 1 47 (dk_at dksX3_factor_5 4 rfl rfl)
theorem dX3_factor_122 : decode cX3_factor 122 = .ok (.istore_n 3, 1) := dk_62 (dk_at dksX3_factor_5 7 rfl rfl)
theorem dX3_factor_123 : decode cX3_factor 123 = .ok (.aload_n 0, 1) := dk_42 (dk_at dksX3_factor_5 8 rfl rfl)
theorem dX3_factor_124 : decode cX3_factor 124 = .ok (.dup, 1) := dk_89 (dk_at dksX3_factor_5 9 rfl rfl)
theorem dX3_factor_125 : decode cX3_factor 125 = .ok (.getfield 152, 3) := dk_180 0 152 (dk_at dksX3_factor_5 10 rfl rfl)
theorem dX3_factor_128 : decode cX3_factor 128 = .ok (.iconst 1, 1) := dk_4 (dk_at dksX3_factor_5 13 rfl rfl)
theorem dX3_factor_129 : decode cX3_factor 129 = .ok (.iadd, 1) := dk_96 (dk_at dksX3_factor_5 14 rfl rfl)
theorem dX3_factor_130 : decode cX3_factor 130 = .ok (.putfield 152, 3) := dk_181 0 152 (dk_at dksX3_factor_5 15 rfl rfl)
theorem dX3_factor_133 : decode cX3_factor 133 = .ok (.iload_n 3, 1) := dk_29 (dk_at dksX3_factor_5 18 rfl rfl)
theorem dX3_factor_134 : decode cX3_factor 134 = .ok (.ireturn, 1) := dk_172 (dk_at dksX3_factor_5 19 rfl rfl)
theorem dX3_factor_135 : decode cX3_factor 135 = .ok (.aload_n 0, 1) := dk_42 (dk_at dksX3_factor_5 20 rfl rfl)
theorem dX3_factor_136 : decode cX3_factor 136 = .ok (.iload_n 1, 1) := dk_27 (dk_at dksX3_factor_5 21 rfl rfl)
theorem dX3_factor_137 : decode cX3_factor 137 = .ok (.getstatic 267, 3) := dk_178 1 11 (dk_at dksX3_factor_6 0 rfl rfl)
theorem dX3_factor_140 : decode cX3_factor 140 = .ok (.invokevirtual 146, 3) := dk_182 0 146 (dk_at dksX3_factor_6 3 rfl rfl)
theorem dX3_factor_143 : decode cX3_factor 143 = .ok (.istore 4, 2) := dk_54 4 (dk_at dksX3_factor_6 6 rfl rfl)
theorem dX3_factor_145 : decode cX3_factor 145 = .ok (.iload 4, 2) := dk_21 4 (dk_at dksX3_factor_6 8 rfl rfl)
theorem dX3_factor_147 : decode cX3_factor 147 = .ok (.iconst (-1), 1) := dk_2 (dk_at dksX3_factor_6 10 rfl rfl)
theorem dX3_factor_148 : decode cX3_factor 148 = .ok (.if_icmp .eq 33, 3) := dk_159 0 33 (dk_at dksX3_factor_6 11 rfl rfl)
theorem dX3_factor_151 : decode cX3_factor 151 = .ok (.aload_n 0, 1) := dk_42 (dk_at dksX3_factor_6 14 rfl rfl)
theorem dX3_factor_152 : decode cX3_factor 152 = .ok (.invokevirtual 350, 3) := dk_182 1 94 (dk_at dksX3_factor_6 15 rfl rfl)
theorem dX3_factor_155 : decode cX3_factor 155 = .ok (.istore_n 3, 1) := dk_62 (dk_at dksX3_factor_6 18 rfl rfl)
theorem dX3_factor_156 : decode cX3_factor 156 = .ok (.iload_n 3, 1) := dk_29 (dk_at dksX3_factor_6 19 rfl rfl)
theorem dX3_factor_157 : decode cX3_factor 157 = .ok (.ifCond .eq 7, 3) := dk_153 0 7 (dk_at dksX3_factor_6 20 rfl rfl)
theorem dX3_factor_160 : decode cX3_factor 160 = .ok (.iload_n 3, 1) := dk_29 (dk_at dksX3_factor_6 23 rfl rfl)
theorem dX3_factor_161 : decode cX3_factor 161 = .ok (.goto 19, 3) := dk_167 0 19 (dk_at dksX3_factor_7 0 rfl rfl)
theorem dX3_factor_164 : decode cX3_factor 164 = .ok (.aload_n 0, 1) := dk_42 (dk_at dksX3_factor_7 3 rfl rfl)
theorem dX3_factor_165 : decode cX3_factor 165 = .ok (.bipush 25, 2) := dk_16 25 (dk_at dksX3_factor_7 4 rfl rfl)
theorem dX3_factor_167 : decode cX3_factor 167 = .ok (.iload 4, 2) := dk_21 4 (dk_at dksX3_factor_7 6 rfl rfl)
theorem dX3_factor_169 : decode cX3_factor 169 = .ok (.iadd, 1) := dk_96 (dk_at dksX3_factor_7 8 rfl rfl)
theorem dX3_factor_170 : decode cX3_factor 170 = .ok (.aload_n 0, 1) := dk_42 (dk_at dksX3_factor_7 9 rfl rfl)
theorem dX3_factor_171 : decode cX3_factor 171 = .ok (.getfield 309, 3) := dk_180 1 53 (dk_at dksX3_factor_7 10 rfl rfl)
theorem dX3_factor_174 : decode cX3_factor 174 = .ok (.iconst (-1), 1) := dk_2 (dk_at dksX3_factor_7 13 rfl rfl)
theorem dX3_factor_175 : decode cX3_factor 175 = .ok (.iconst (-1), 1) := dk_2 (dk_at dksX3_factor_7 14 rfl rfl)
theorem dX3_factor_176 : decode cX3_factor 176 = .ok (.iload_n 2, 1) := dk_28 (dk_at dksX3_factor_7 15 rfl rfl)
theorem dX3_factor_177 : decode cX3_factor 177 = .ok (.invokevirtual 319, 3) := dk_182 1 63 (dk_at dksX3_factor_7 16 rfl rfl)
theorem dX3_factor_180 : decode cX3_factor 180 = .ok (.ireturn, 1) := dk_172 (dk_at dksX3_factor_7 19 rfl rfl)
theorem dX3_factor_181 : decode cX3_factor 181 = .ok (.aload_n 0, 1) := dk_42 (dk_at dksX3_factor_7 20 rfl rfl)
theorem dX3_factor_182 : decode cX3_factor 182 = .ok (.invokevirtual 359, 3) := dk_182 1 103 (dk_at dksX3_factor_7 21 rfl rfl)
theorem dX3_factor_185 : decode cX3_factor 185 = .ok (.istore_n 3, 1) := dk_62 (dk_at dksX3_factor_8 0 rfl rfl)
theorem dX3_factor_186 : decode cX3_factor 186 = .ok (.aload_n 0, 1) := dk_42 (dk_at dksX3_factor_8 1 rfl rfl)
theorem dX3_factor_187 : decode cX3_factor 187 = .ok (.getfield 309, 3) := dk_180 1 53 (dk_at dksX3_factor_8 2 rfl rfl)
theorem dX3_factor_190 : decode cX3_factor 190 = .ok (.istore 5, 2) := dk_54 5 (dk_at dksX3_factor_8 5 rfl rfl)
theorem dX3_factor_192 : decode cX3_factor 192 = .ok (.iload_n 3, 1) := dk_29 (dk_at dksX3_factor_8 7 rfl rfl)
theorem dX3_factor_193 : decode cX3_factor 193 = .ok (.ifCond .eq 5, 3) := dk_153 0 5 (dk_at dksX3_factor_8 8 rfl rfl)
theorem dX3_factor_196 : decode cX3_factor 196 = .ok (.iload_n 3, 1) := dk_29 (dk_at dksX3_factor_8 11 rfl rfl)
theorem dX3_factor_197 : decode cX3_factor 197 = .ok (.ireturn, 1) := dk_172 (dk_at dksX3_factor_8 12 rfl rfl)
theorem dX3_factor_198 : decode cX3_factor 198 = .ok (.aload_n 0, 1) := dk_42 (dk_at dksX3_factor_8 13 rfl rfl)
theorem dX3_factor_199 : decode cX3_factor 199 = .ok (.iload_n 1, 1) := dk_27 (dk_at dksX3_factor_8 14 rfl rfl)
theorem dX3_factor_200 : decode cX3_factor 200 = .ok (.ldc_w 270, 3) := dk_19 1 14 (dk_at dksX3_factor_8 15 rfl rfl)
theorem dX3_factor_203 : decode cX3_factor 203 = .ok (.invokevirtual 138, 3) := dk_182 0 138 (dk_at dksX3_factor_8 18 rfl rfl)
theorem dX3_factor_206 : decode cX3_factor 206 = .ok (.ifCond .ne 14, 3) := dk_154 0 14 (dk_at dksX3_factor_8 21 rfl rfl)
theorem dX3_factor_209 : decode cX3_factor 209 = .ok (.aload_n 0, 1) := dk_42 (dk_at dksX3_factor_9 0 rfl rfl)
theorem dX3_factor_210 : decode cX3_factor 210 = .ok (.iload_n 1, 1) := dk_27 (dk_at dksX3_factor_9 1 rfl rfl)
theorem dX3_factor_211 : decode cX3_factor 211 = .ok (.ldc_w 272, 3) := dk_19 1 16 (dk_at dksX3_factor_9 2 rfl rfl)
theorem dX3_factor_214 : decode cX3_factor 214 = .ok (.invokevirtual 138, 3) := dk_182 0 138 (dk_at dksX3_factor_9 5 rfl rfl)
theorem dX3_factor_217 : decode cX3_factor 217 = .ok (.ifCond .eq 31, 3) := dk_153 0 31 (dk_at dksX3_factor_9 8 rfl rfl)
theorem dX3_factor_220 : decode cX3_factor 220 = .ok (.aload_n 0, 1) := dk_42 (dk_at dksX3_factor_9 11 rfl rfl)
theorem dX3_factor_221 : decode cX3_factor 221 = .ok (.aload_n 0, 1) := dk_42 (dk_at dksX3_factor_9 12 rfl rfl)
theorem dX3_factor_222 : decode cX3_factor 222 = .ok (.iload_n 1, 1) := dk_27 (dk_at dksX3_factor_9 13 rfl rfl)
theorem dX3_factor_223 : decode cX3_factor 223 = .ok (.ldc_w 270, 3) := dk_19 1 14 (dk_at dksX3_factor_9 14 rfl rfl)
theorem dX3_factor_226 : decode cX3_factor 226 = .ok (.invokevirtual 138, 3) := dk_182 0 138 (dk_at dksX3_factor_9 17 rfl rfl)
theorem dX3_factor_229 : decode cX3_factor 229 = .ok (.ifCond .eq 8, 3) := dk_153 0 8 (dk_at dksX3_factor_9 20 rfl rfl)
theorem dX3_factor_232 : decode cX3_factor 232 = .ok (.bipush 30, 2) := dk_16 30 (dk_at dksX3_factor_10 0 rfl rfl)
theorem dX3_factor_234 : decode cX3_factor 234 = .ok (.goto 5, 3) := dk_167 0 5 (dk_at dksX3_factor_10 2 rfl rfl)
theorem dX3_factor_237 : decode cX3_factor 237 = .ok (.bipush 31, 2) := dk_16 31 (dk_at dksX3_factor_10 5 rfl rfl)
theorem dX3_factor_239 : decode cX3_factor 239 = .ok (.iload 5, 2) := dk_21 5 (dk_at dksX3_factor_10 7 rfl rfl)
theorem dX3_factor_241 : decode cX3_factor 241 = .ok (.iconst (-1), 1) := dk_2 (dk_at dksX3_factor_10 9 rfl rfl)
theorem dX3_factor_242 : decode cX3_factor 242 = .ok (.iconst (-1), 1) := dk_2 (dk_at dksX3_factor_10 10 rfl rfl)
theorem dX3_factor_243 : decode cX3_factor 243 = .ok (.iload_n 2, 1) := dk_28 (dk_at dksX3_factor_10 11 rfl rfl)
theorem dX3_factor_244 : decode cX3_factor 244 = .ok (.invokevirtual 319, 3) := dk_182 1 63 (dk_at dksX3_factor_10 12 rfl rfl)
theorem dX3_factor_247 : decode cX3_factor 247 = .ok (.ireturn, 1) := dk_172 (dk_at dksX3_factor_10 15 rfl rfl)
theorem dX3_factor_248 : decode cX3_factor 248 = .ok (.aload_n 0, 1) := dk_42 (dk_at dksX3_factor_10 16 rfl rfl)
theorem dX3_factor_249 : decode cX3_factor 249 = .ok (.iload_n 1, 1) := dk_27 (dk_at dksX3_factor_10 17 rfl rfl)
theorem dX3_factor_250 : decode cX3_factor 250 = .ok (.ldc_w 278, 3) := dk_19 1 22 (dk_at dksX3_factor_10 18 rfl rfl)
theorem dX3_factor_253 : decode cX3_factor 253 = .ok (.invokevirtual 138, 3) := dk_182 0 138 (dk_at dksX3_factor_10 21 rfl rfl)
theorem dX3_factor_256 : decode cX3_factor 256 = .ok (.ifCond .eq 13, 3) := dk_153 0 13 (dk_at dksX3_factor_11 0 rfl rfl)
theorem dX3_factor_259 : decode cX3_factor 259 = .ok (.aload_n 0, 1) := dk_42 (dk_at dksX3_factor_11 3 rfl rfl)
theorem dX3_factor_260 : decode cX3_factor 260 = .ok (.dup, 1) := dk_89 (dk_at dksX3_factor_11 4 rfl rfl)
theorem dX3_factor_261 : decode cX3_factor 261 = .ok (.getfield 152, 3) := dk_180 0 152 (dk_at dksX3_factor_11 5 rfl rfl)
theorem dX3_factor_264 : decode cX3_factor 264 = .ok (.iconst 1, 1) := dk_4 (dk_at dksX3_factor_11 8 rfl rfl)
theorem dX3_factor_265 : decode cX3_factor 265 = .ok (.iadd, 1) := dk_96 (dk_at dksX3_factor_11 9 rfl rfl)
theorem dX3_factor_266 : decode cX3_factor 266 = .ok (.putfield 152, 3) := dk_181 0 152 (dk_at dksX3_factor_11 10 rfl rfl)
theorem dX3_factor_269 : decode cX3_factor 269 = .ok (.aload_n 0, 1) := dk_42 (dk_at dksX3_factor_11 13 rfl rfl)
theorem dX3_factor_270 : decode cX3_factor 270 = .ok (.invokevirtual 350, 3) := dk_182 1 94 (dk_at dksX3_factor_11 14 rfl rfl)
theorem dX3_factor_273 : decode cX3_factor 273 = .ok (.istore_n 3, 1) := dk_62 (dk_at dksX3_factor_11 17 rfl rfl)
theorem dX3_factor_274 : decode cX3_factor 274 = .ok (.aload_n 0, 1) := dk_42 (dk_at dksX3_factor_11 18 rfl rfl)
theorem dX3_factor_275 : decode cX3_factor 275 = .ok (.getfield 309, 3) := dk_180 1 53 (dk_at dksX3_factor_11 19 rfl rfl)
theorem dX3_factor_278 : decode cX3_factor 278 = .ok (.istore 6, 2) := dk_54 6 (dk_at dksX3_factor_11 22 rfl rfl)
theorem dX3_factor_280 : decode cX3_factor 280 = .ok (.iload_n 3, 1) := dk_29 (dk_at dksX3_factor_12 0 rfl rfl)
theorem dX3_factor_281 : decode cX3_factor 281 = .ok (.ifCond .eq 5, 3) := dk_153 0 5 (dk_at dksX3_factor_12 1 rfl rfl)
theorem dX3_factor_284 : decode cX3_factor 284 = .ok (.iload_n 3, 1) := dk_29 (dk_at dksX3_factor_12 4 rfl rfl)
theorem dX3_factor_285 : decode cX3_factor 285 = .ok (.ireturn, 1) := dk_172 (dk_at dksX3_factor_12 5 rfl rfl)
theorem dX3_factor_286 : decode cX3_factor 286 = .ok (.aload_n 0, 1) := dk_42 (dk_at dksX3_factor_12 6 rfl rfl)
theorem dX3_factor_287 : decode cX3_factor 287 = .ok (.iload_n 1, 1) := dk_27 (dk_at dksX3_factor_12 7 rfl rfl)
theorem dX3_factor_288 : decode cX3_factor 288 = .ok (.ldc_w 277, 3) := dk_19 1 21 (dk_at dksX3_factor_12 8 rfl rfl)
theorem dX3_factor_291 : decode cX3_factor 291 = .ok (.invokevirtual 138, 3) := dk_182 0 138 (dk_at dksX3_factor_12 11 rfl rfl)
theorem dX3_factor_294 : decode cX3_factor 294 = .ok (.ifCond .eq 16, 3) := dk_153 0 16 (dk_at dksX3_factor_12 14 rfl rfl)
theorem dX3_factor_297 : decode cX3_factor 297 = .ok (.aload_n 0, 1) := dk_42 (dk_at dksX3_factor_12 17 rfl rfl)
theorem dX3_factor_298 : decode cX3_factor 298 = .ok (.bipush 32, 2) := dk_16 32 (dk_at dksX3_factor_12 18 rfl rfl)
theorem dX3_factor_300 : decode cX3_factor 300 = .ok (.iload 5, 2) := dk_21 5 (dk_at dksX3_factor_12 20 rfl rfl)
theorem dX3_factor_302 : decode cX3_factor 302 = .ok (.iload 6, 2) := dk_21 6 (dk_at dksX3_factor_12 22 rfl rfl)
theorem dX3_factor_304 : decode cX3_factor 304 = .ok (.iconst (-1), 1) := dk_2 (dk_at dksX3_factor_13 0 rfl rfl)
theorem dX3_factor_305 : decode cX3_factor 305 = .ok (.iload_n 2, 1) := dk_28 (dk_at dksX3_factor_13 1 rfl rfl)
theorem dX3_factor_306 : decode cX3_factor 306 = .ok (.invokevirtual 319, 3) := dk_182 1 63 (dk_at dksX3_factor_13 2 rfl rfl)
theorem dX3_factor_309 : decode cX3_factor 309 = .ok (.ireturn, 1) := dk_172 (dk_at dksX3_factor_13 5 rfl rfl)
theorem dX3_factor_310 : decode cX3_factor 310 = .ok (.aload_n 0, 1) := dk_42 (dk_at dksX3_factor_13 6 rfl rfl)
theorem dX3_factor_311 : decode cX3_factor 311 = .ok (.dup, 1) := dk_89 (dk_at dksX3_factor_13 7 rfl rfl)
theorem dX3_factor_312 : decode cX3_factor 312 = .ok (.getfield 152, 3) := dk_180 0 152 (dk_at dksX3_factor_13 8 rfl rfl)
theorem dX3_factor_315 : decode cX3_factor 315 = .ok (.iconst 1, 1) := dk_4 (dk_at dksX3_factor_13 11 rfl rfl)
theorem dX3_factor_316 : decode cX3_factor 316 = .ok (.iadd, 1) := dk_96 (dk_at dksX3_factor_13 12 rfl rfl)
theorem dX3_factor_317 : decode cX3_factor 317 = .ok (.putfield 152, 3) := dk_181 0 152 (dk_at dksX3_factor_13 13 rfl rfl)
theorem dX3_factor_320 : decode cX3_factor 320 = .ok (.aload_n 0, 1) := dk_42 (dk_at dksX3_factor_13 16 rfl rfl)
theorem dX3_factor_321 : decode cX3_factor 321 = .ok (.invokevirtual 350, 3) := dk_182 1 94 (dk_at dksX3_factor_13 17 rfl rfl)
theorem dX3_factor_324 : decode cX3_factor 324 = .ok (.istore_n 3, 1) := dk_62 (dk_at dksX3_factor_13 20 rfl rfl)
theorem dX3_factor_325 : decode cX3_factor 325 = .ok (.iload_n 3, 1) := dk_29 (dk_at dksX3_factor_13 21 rfl rfl)
theorem dX3_factor_326 : decode cX3_factor 326 = .ok (.ifCond .eq 7, 3) := dk_153 0 7 (dk_at dksX3_factor_14 0 rfl rfl)
theorem dX3_factor_329 : decode cX3_factor 329 = .ok (.iload_n 3, 1) := dk_29 (dk_at dksX3_factor_14 3 rfl rfl)
theorem dX3_factor_330 : decode cX3_factor 330 = .ok (.goto 18, 3) := dk_167 0 18 (dk_at dksX3_factor_14 4 rfl rfl)
theorem dX3_factor_333 : decode cX3_factor 333 = .ok (.aload_n 0, 1) := dk_42 (dk_at dksX3_factor_14 7 rfl rfl)
theorem dX3_factor_334 : decode cX3_factor 334 = .ok (.bipush 33, 2) := dk_16 33 (dk_at dksX3_factor_14 8 rfl rfl)
theorem dX3_factor_336 : decode cX3_factor 336 = .ok (.iload 5, 2) := dk_21 5 (dk_at dksX3_factor_14 10 rfl rfl)
theorem dX3_factor_338 : decode cX3_factor 338 = .ok (.iload 6, 2) := dk_21 6 (dk_at dksX3_factor_14 12 rfl rfl)
theorem dX3_factor_340 : decode cX3_factor 340 = .ok (.aload_n 0, 1) := dk_42 (dk_at dksX3_factor_14 14 rfl rfl)
theorem dX3_factor_341 : decode cX3_factor 341 = .ok (.getfield 309, 3) := dk_180 1 53 (dk_at dksX3_factor_14 15 rfl rfl)
theorem dX3_factor_344 : decode cX3_factor 344 = .ok (.iload_n 2, 1) := dk_28 (dk_at dksX3_factor_14 18 rfl rfl)
theorem dX3_factor_345 : decode cX3_factor 345 = .ok (.invokevirtual 319, 3) := dk_182 1 63 (dk_at dksX3_factor_14 19 rfl rfl)
theorem dX3_factor_348 : decode cX3_factor 348 = .ok (.ireturn, 1) := dk_172 (dk_at dksX3_factor_14 22 rfl rfl)
abbrev cX3_node : ByteArray := prog_34_method_37_code
def yX3_node : MethodName := ⟨RX3, "node", "(IIIII)I"⟩
def dkwX3_node_3 : List UInt8 := [21, 5, 79, 42, 42, 180, 1, 56, 181, 1, 53, 42, 89, 180, 1, 56, 4, 96, 181, 1, 56, 3, 172]
abbrev dktX3_node_3 : List UInt8 := dkwX3_node_3 ++ []
def dkwX3_node_2 : List UInt8 := [180, 1, 56, 3, 79, 42, 180, 0, 41, 42, 180, 1, 56, 2, 79, 42, 180, 0, 44, 42, 180, 1, 56]
abbrev dktX3_node_2 : List UInt8 := dkwX3_node_2 ++ dktX3_node_3
def dkwX3_node_1 : List UInt8 := [42, 180, 1, 56, 29, 79, 42, 180, 0, 35, 42, 180, 1, 56, 21, 4, 79, 42, 180, 0, 38, 42]
abbrev dktX3_node_1 : List UInt8 := dkwX3_node_1 ++ dktX3_node_2
def dkwX3_node_0 : List UInt8 := [42, 180, 0, 26, 42, 180, 1, 56, 27, 79, 42, 180, 0, 29, 42, 180, 1, 56, 28, 79, 42, 180, 0, 32]
abbrev dktX3_node_0 : List UInt8 := dkwX3_node_0 ++ dktX3_node_1
theorem dksX3_node_0 : cX3_node.data.toList.drop 0 = dktX3_node_0 := by decide +kernel
theorem dksX3_node_1 : cX3_node.data.toList.drop 24 = dktX3_node_1 := dk_seg dksX3_node_0 24 rfl rfl
theorem dksX3_node_2 : cX3_node.data.toList.drop 46 = dktX3_node_2 := dk_seg dksX3_node_1 22 rfl rfl
theorem dksX3_node_3 : cX3_node.data.toList.drop 69 = dktX3_node_3 := dk_seg dksX3_node_2 23 rfl rfl
theorem dX3_node_0 : decode cX3_node 0 = .ok (.aload_n 0, 1) := dk_42 (dk_at dksX3_node_0 0 rfl rfl)
theorem dX3_node_1 : decode cX3_node 1 = .ok (.getfield 26, 3) := dk_180 0 26 (dk_at dksX3_node_0 1 rfl rfl)
theorem dX3_node_4 : decode cX3_node 4 = .ok (.aload_n 0, 1) := dk_42 (dk_at dksX3_node_0 4 rfl rfl)
theorem dX3_node_5 : decode cX3_node 5 = .ok (.getfield 312, 3) := dk_180 1 56 (dk_at dksX3_node_0 5 rfl rfl)
theorem dX3_node_8 : decode cX3_node 8 = .ok (.iload_n 1, 1) := dk_27 (dk_at dksX3_node_0 8 rfl rfl)
theorem dX3_node_9 : decode cX3_node 9 = .ok (.iastore, 1) := dk_79 (dk_at dksX3_node_0 9 rfl rfl)
theorem dX3_node_10 : decode cX3_node 10 = .ok (.aload_n 0, 1) := dk_42 (dk_at dksX3_node_0 10 rfl rfl)
theorem dX3_node_11 : decode cX3_node 11 = .ok (.getfield 29, 3) := dk_180 0 29 (dk_at dksX3_node_0 11 rfl rfl)
theorem dX3_node_14 : decode cX3_node 14 = .ok (.aload_n 0, 1) := dk_42 (dk_at dksX3_node_0 14 rfl rfl)
theorem dX3_node_15 : decode cX3_node 15 = .ok (.getfield 312, 3) := dk_180 1 56 (dk_at dksX3_node_0 15 rfl rfl)
theorem dX3_node_18 : decode cX3_node 18 = .ok (.iload_n 2, 1) := dk_28 (dk_at dksX3_node_0 18 rfl rfl)
theorem dX3_node_19 : decode cX3_node 19 = .ok (.iastore, 1) := dk_79 (dk_at dksX3_node_0 19 rfl rfl)
theorem dX3_node_20 : decode cX3_node 20 = .ok (.aload_n 0, 1) := dk_42 (dk_at dksX3_node_0 20 rfl rfl)
theorem dX3_node_21 : decode cX3_node 21 = .ok (.getfield 32, 3) := dk_180 0 32 (dk_at dksX3_node_0 21 rfl rfl)
theorem dX3_node_24 : decode cX3_node 24 = .ok (.aload_n 0, 1) := dk_42 (dk_at dksX3_node_1 0 rfl rfl)
theorem dX3_node_25 : decode cX3_node 25 = .ok (.getfield 312, 3) := dk_180 1 56 (dk_at dksX3_node_1 1 rfl rfl)
theorem dX3_node_28 : decode cX3_node 28 = .ok (.iload_n 3, 1) := dk_29 (dk_at dksX3_node_1 4 rfl rfl)
theorem dX3_node_29 : decode cX3_node 29 = .ok (.iastore, 1) := dk_79 (dk_at dksX3_node_1 5 rfl rfl)
theorem dX3_node_30 : decode cX3_node 30 = .ok (.aload_n 0, 1) := dk_42 (dk_at dksX3_node_1 6 rfl rfl)
theorem dX3_node_31 : decode cX3_node 31 = .ok (.getfield 35, 3) := dk_180 0 35 (dk_at dksX3_node_1 7 rfl rfl)
theorem dX3_node_34 : decode cX3_node 34 = .ok (.aload_n 0, 1) := dk_42 (dk_at dksX3_node_1 10 rfl rfl)
theorem dX3_node_35 : decode cX3_node 35 = .ok (.getfield 312, 3) := dk_180 1 56 (dk_at dksX3_node_1 11 rfl rfl)
theorem dX3_node_38 : decode cX3_node 38 = .ok (.iload 4, 2) := dk_21 4 (dk_at dksX3_node_1 14 rfl rfl)
theorem dX3_node_40 : decode cX3_node 40 = .ok (.iastore, 1) := dk_79 (dk_at dksX3_node_1 16 rfl rfl)
theorem dX3_node_41 : decode cX3_node 41 = .ok (.aload_n 0, 1) := dk_42 (dk_at dksX3_node_1 17 rfl rfl)
theorem dX3_node_42 : decode cX3_node 42 = .ok (.getfield 38, 3) := dk_180 0 38 (dk_at dksX3_node_1 18 rfl rfl)
theorem dX3_node_45 : decode cX3_node 45 = .ok (.aload_n 0, 1) := dk_42 (dk_at dksX3_node_1 21 rfl rfl)
theorem dX3_node_46 : decode cX3_node 46 = .ok (.getfield 312, 3) := dk_180 1 56 (dk_at dksX3_node_2 0 rfl rfl)
theorem dX3_node_49 : decode cX3_node 49 = .ok (.iconst 0, 1) := dk_3 (dk_at dksX3_node_2 3 rfl rfl)
theorem dX3_node_50 : decode cX3_node 50 = .ok (.iastore, 1) := dk_79 (dk_at dksX3_node_2 4 rfl rfl)
theorem dX3_node_51 : decode cX3_node 51 = .ok (.aload_n 0, 1) := dk_42 (dk_at dksX3_node_2 5 rfl rfl)
theorem dX3_node_52 : decode cX3_node 52 = .ok (.getfield 41, 3) := dk_180 0 41 (dk_at dksX3_node_2 6 rfl rfl)
theorem dX3_node_55 : decode cX3_node 55 = .ok (.aload_n 0, 1) := dk_42 (dk_at dksX3_node_2 9 rfl rfl)
theorem dX3_node_56 : decode cX3_node 56 = .ok (.getfield 312, 3) := dk_180 1 56 (dk_at dksX3_node_2 10 rfl rfl)
theorem dX3_node_59 : decode cX3_node 59 = .ok (.iconst (-1), 1) := dk_2 (dk_at dksX3_node_2 13 rfl rfl)
theorem dX3_node_60 : decode cX3_node 60 = .ok (.iastore, 1) := dk_79 (dk_at dksX3_node_2 14 rfl rfl)
theorem dX3_node_61 : decode cX3_node 61 = .ok (.aload_n 0, 1) := dk_42 (dk_at dksX3_node_2 15 rfl rfl)
theorem dX3_node_62 : decode cX3_node 62 = .ok (.getfield 44, 3) := dk_180 0 44 (dk_at dksX3_node_2 16 rfl rfl)
theorem dX3_node_65 : decode cX3_node 65 = .ok (.aload_n 0, 1) := dk_42 (dk_at dksX3_node_2 19 rfl rfl)
theorem dX3_node_66 : decode cX3_node 66 = .ok (.getfield 312, 3) := dk_180 1 56 (dk_at dksX3_node_2 20 rfl rfl)
theorem dX3_node_69 : decode cX3_node 69 = .ok (.iload 5, 2) := dk_21 5 (dk_at dksX3_node_3 0 rfl rfl)
theorem dX3_node_71 : decode cX3_node 71 = .ok (.iastore, 1) := dk_79 (dk_at dksX3_node_3 2 rfl rfl)
theorem dX3_node_72 : decode cX3_node 72 = .ok (.aload_n 0, 1) := dk_42 (dk_at dksX3_node_3 3 rfl rfl)
theorem dX3_node_73 : decode cX3_node 73 = .ok (.aload_n 0, 1) := dk_42 (dk_at dksX3_node_3 4 rfl rfl)
theorem dX3_node_74 : decode cX3_node 74 = .ok (.getfield 312, 3) := dk_180 1 56 (dk_at dksX3_node_3 5 rfl rfl)
theorem dX3_node_77 : decode cX3_node 77 = .ok (.putfield 309, 3) := dk_181 1 53 (dk_at dksX3_node_3 8 rfl rfl)
theorem dX3_node_80 : decode cX3_node 80 = .ok (.aload_n 0, 1) := dk_42 (dk_at dksX3_node_3 11 rfl rfl)
theorem dX3_node_81 : decode cX3_node 81 = .ok (.dup, 1) := dk_89 (dk_at dksX3_node_3 12 rfl rfl)
theorem dX3_node_82 : decode cX3_node 82 = .ok (.getfield 312, 3) := dk_180 1 56 (dk_at dksX3_node_3 13 rfl rfl)
theorem dX3_node_85 : decode cX3_node 85 = .ok (.iconst 1, 1) := dk_4 (dk_at dksX3_node_3 16 rfl rfl)
theorem dX3_node_86 : decode cX3_node 86 = .ok (.iadd, 1) := dk_96 (dk_at dksX3_node_3 17 rfl rfl)
theorem dX3_node_87 : decode cX3_node 87 = .ok (.putfield 312, 3) := dk_181 1 56 (dk_at dksX3_node_3 18 rfl rfl)
theorem dX3_node_90 : decode cX3_node 90 = .ok (.iconst 0, 1) := dk_3 (dk_at dksX3_node_3 21 rfl rfl)
theorem dX3_node_91 : decode cX3_node 91 = .ok (.ireturn, 1) := dk_172 (dk_at dksX3_node_3 22 rfl rfl)
abbrev cX3_namedValue : ByteArray := prog_34_method_50_code
def yX3_namedValue : MethodName := ⟨RX3, "namedValue", "(I)I"⟩
def dkwX3_namedValue_3 : List UInt8 := [180, 0, 58, 28, 46, 96, 46, 2, 2, 42, 180, 0, 20, 27, 46, 182, 1, 63, 172]
abbrev dktX3_namedValue_3 : List UInt8 := dkwX3_namedValue_3 ++ []
def dkwX3_namedValue_2 : List UInt8 := [2, 2, 42, 180, 0, 20, 27, 46, 182, 1, 63, 167, 0, 31, 42, 16, 22, 42, 180, 0, 67, 16, 24, 42]
abbrev dktX3_namedValue_2 : List UInt8 := dkwX3_namedValue_2 ++ dktX3_namedValue_3
def dkwX3_namedValue_1 : List UInt8 := [5, 27, 182, 1, 38, 172, 42, 180, 0, 55, 28, 46, 154, 0, 26, 42, 16, 21, 42, 180, 0, 58, 28, 46]
abbrev dktX3_namedValue_1 : List UInt8 := dkwX3_namedValue_1 ++ dktX3_namedValue_2
def dkwX3_namedValue_0 : List UInt8 := [42, 27, 182, 1, 41, 61, 28, 2, 159, 0, 15, 42, 180, 0, 55, 28, 46, 5, 112, 4, 160, 0, 10, 42]
abbrev dktX3_namedValue_0 : List UInt8 := dkwX3_namedValue_0 ++ dktX3_namedValue_1
theorem dksX3_namedValue_0 : cX3_namedValue.data.toList.drop 0 = dktX3_namedValue_0 := by decide +kernel
theorem dksX3_namedValue_1 : cX3_namedValue.data.toList.drop 24 = dktX3_namedValue_1 := dk_seg dksX3_namedValue_0 24 rfl rfl
theorem dksX3_namedValue_2 : cX3_namedValue.data.toList.drop 48 = dktX3_namedValue_2 := dk_seg dksX3_namedValue_1 24 rfl rfl
theorem dksX3_namedValue_3 : cX3_namedValue.data.toList.drop 72 = dktX3_namedValue_3 := dk_seg dksX3_namedValue_2 24 rfl rfl
theorem dX3_namedValue_0 : decode cX3_namedValue 0 = .ok (.aload_n 0, 1) := dk_42 (dk_at dksX3_namedValue_0 0 rfl rfl)
theorem dX3_namedValue_1 : decode cX3_namedValue 1 = .ok (.iload_n 1, 1) := dk_27 (dk_at dksX3_namedValue_0 1 rfl rfl)
theorem dX3_namedValue_2 : decode cX3_namedValue 2 = .ok (.invokevirtual 297, 3) := dk_182 1 41 (dk_at dksX3_namedValue_0 2 rfl rfl)
theorem dX3_namedValue_5 : decode cX3_namedValue 5 = .ok (.istore_n 2, 1) := dk_61 (dk_at dksX3_namedValue_0 5 rfl rfl)
theorem dX3_namedValue_6 : decode cX3_namedValue 6 = .ok (.iload_n 2, 1) := dk_28 (dk_at dksX3_namedValue_0 6 rfl rfl)
theorem dX3_namedValue_7 : decode cX3_namedValue 7 = .ok (.iconst (-1), 1) := dk_2 (dk_at dksX3_namedValue_0 7 rfl rfl)
theorem dX3_namedValue_8 : decode cX3_namedValue 8 = .ok (.if_icmp .eq 15, 3) := dk_159 0 15 (dk_at dksX3_namedValue_0 8 rfl rfl)
theorem dX3_namedValue_11 : decode cX3_namedValue 11 = .ok (.aload_n 0, 1) := dk_42 (dk_at dksX3_namedValue_0 11 rfl rfl)
theorem dX3_namedValue_12 : decode cX3_namedValue 12 = .ok (.getfield 55, 3) := dk_180 0 55 (dk_at dksX3_namedValue_0 12 rfl rfl)
theorem dX3_namedValue_15 : decode cX3_namedValue 15 = .ok (.iload_n 2, 1) := dk_28 (dk_at dksX3_namedValue_0 15 rfl rfl)
theorem dX3_namedValue_16 : decode cX3_namedValue 16 = .ok (.iaload, 1) := dk_46 (dk_at dksX3_namedValue_0 16 rfl rfl)
theorem dX3_namedValue_17 : decode cX3_namedValue 17 = .ok (.iconst 2, 1) := dk_5 (dk_at dksX3_namedValue_0 17 rfl rfl)
theorem dX3_namedValue_18 : decode cX3_namedValue 18 = .ok (.irem, 1) := dk_112 (dk_at dksX3_namedValue_0 18 rfl rfl)
theorem dX3_namedValue_19 : decode cX3_namedValue 19 = .ok (.iconst 1, 1) := dk_4 (dk_at dksX3_namedValue_0 19 rfl rfl)
theorem dX3_namedValue_20 : decode cX3_namedValue 20 = .ok (.if_icmp .ne 10, 3) := dk_160 0 10 (dk_at dksX3_namedValue_0 20 rfl rfl)
theorem dX3_namedValue_23 : decode cX3_namedValue 23 = .ok (.aload_n 0, 1) := dk_42 (dk_at dksX3_namedValue_0 23 rfl rfl)
theorem dX3_namedValue_24 : decode cX3_namedValue 24 = .ok (.iconst 2, 1) := dk_5 (dk_at dksX3_namedValue_1 0 rfl rfl)
theorem dX3_namedValue_25 : decode cX3_namedValue 25 = .ok (.iload_n 1, 1) := dk_27 (dk_at dksX3_namedValue_1 1 rfl rfl)
theorem dX3_namedValue_26 : decode cX3_namedValue 26 = .ok (.invokevirtual 294, 3) := dk_182 1 38 (dk_at dksX3_namedValue_1 2 rfl rfl)
theorem dX3_namedValue_29 : decode cX3_namedValue 29 = .ok (.ireturn, 1) := dk_172 (dk_at dksX3_namedValue_1 5 rfl rfl)
theorem dX3_namedValue_30 : decode cX3_namedValue 30 = .ok (.aload_n 0, 1) := dk_42 (dk_at dksX3_namedValue_1 6 rfl rfl)
theorem dX3_namedValue_31 : decode cX3_namedValue 31 = .ok (.getfield 55, 3) := dk_180 0 55 (dk_at dksX3_namedValue_1 7 rfl rfl)
theorem dX3_namedValue_34 : decode cX3_namedValue 34 = .ok (.iload_n 2, 1) := dk_28 (dk_at dksX3_namedValue_1 10 rfl rfl)
theorem dX3_namedValue_35 : decode cX3_namedValue 35 = .ok (.iaload, 1) := dk_46 (dk_at dksX3_namedValue_1 11 rfl rfl)
theorem dX3_namedValue_36 : decode cX3_namedValue 36 = .ok (.ifCond .ne 26, 3) := dk_154 0 26 (dk_at dksX3_namedValue_1 12 rfl rfl)
theorem dX3_namedValue_39 : decode cX3_namedValue 39 = .ok (.aload_n 0, 1) := dk_42 (dk_at dksX3_namedValue_1 15 rfl rfl)
theorem dX3_namedValue_40 : decode cX3_namedValue 40 = .ok (.bipush 21, 2) := dk_16 21 (dk_at dksX3_namedValue_1 16 rfl rfl)
theorem dX3_namedValue_42 : decode cX3_namedValue 42 = .ok (.aload_n 0, 1) := dk_42 (dk_at dksX3_namedValue_1 18 rfl rfl)
theorem dX3_namedValue_43 : decode cX3_namedValue 43 = .ok (.getfield 58, 3) := dk_180 0 58 (dk_at dksX3_namedValue_1 19 rfl rfl)
theorem dX3_namedValue_46 : decode cX3_namedValue 46 = .ok (.iload_n 2, 1) := dk_28 (dk_at dksX3_namedValue_1 22 rfl rfl)
theorem dX3_namedValue_47 : decode cX3_namedValue 47 = .ok (.iaload, 1) := dk_46 (dk_at dksX3_namedValue_1 23 rfl rfl)
theorem dX3_namedValue_48 : decode cX3_namedValue 48 = .ok (.iconst (-1), 1) := dk_2 (dk_at dksX3_namedValue_2 0 rfl rfl)
theorem dX3_namedValue_49 : decode cX3_namedValue 49 = .ok (.iconst (-1), 1) := dk_2 (dk_at dksX3_namedValue_2 1 rfl rfl)
theorem dX3_namedValue_50 : decode cX3_namedValue 50 = .ok (.aload_n 0, 1) := dk_42 (dk_at dksX3_namedValue_2 2 rfl rfl)
theorem dX3_namedValue_51 : decode cX3_namedValue 51 = .ok (.getfield 20, 3) := dk_180 0 20 (dk_at dksX3_namedValue_2 3 rfl rfl)
theorem dX3_namedValue_54 : decode cX3_namedValue 54 = .ok (.iload_n 1, 1) := dk_27 (dk_at dksX3_namedValue_2 6 rfl rfl)
theorem dX3_namedValue_55 : decode cX3_namedValue 55 = .ok (.iaload, 1) := dk_46 (dk_at dksX3_namedValue_2 7 rfl rfl)
theorem dX3_namedValue_56 : decode cX3_namedValue 56 = .ok (.invokevirtual 319, 3) := dk_182 1 63 (dk_at dksX3_namedValue_2 8 rfl rfl)
theorem dX3_namedValue_59 : decode cX3_namedValue 59 = .ok (.goto 31, 3) := dk_167 0 31 (dk_at dksX3_namedValue_2 11 rfl rfl)
theorem dX3_namedValue_62 : decode cX3_namedValue 62 = .ok (.aload_n 0, 1) := dk_42 (dk_at dksX3_namedValue_2 14 rfl rfl)
theorem dX3_namedValue_63 : decode cX3_namedValue 63 = .ok (.bipush 22, 2) := dk_16 22 (dk_at dksX3_namedValue_2 15 rfl rfl)
theorem dX3_namedValue_65 : decode cX3_namedValue 65 = .ok (.aload_n 0, 1) := dk_42 (dk_at dksX3_namedValue_2 17 rfl rfl)
theorem dX3_namedValue_66 : decode cX3_namedValue 66 = .ok (.getfield 67, 3) := dk_180 0 67 (dk_at dksX3_namedValue_2 18 rfl rfl)
theorem dX3_namedValue_69 : decode cX3_namedValue 69 = .ok (.bipush 24, 2) := dk_16 24 (dk_at dksX3_namedValue_2 21 rfl rfl)
theorem dX3_namedValue_71 : decode cX3_namedValue 71 = .ok (.aload_n 0, 1) := dk_42 (dk_at dksX3_namedValue_2 23 rfl rfl)
theorem dX3_namedValue_72 : decode cX3_namedValue 72 = .ok (.getfield 58, 3) := dk_180 0 58 (dk_at dksX3_namedValue_3 0 rfl rfl)
theorem dX3_namedValue_75 : decode cX3_namedValue 75 = .ok (.iload_n 2, 1) := dk_28 (dk_at dksX3_namedValue_3 3 rfl rfl)
theorem dX3_namedValue_76 : decode cX3_namedValue 76 = .ok (.iaload, 1) := dk_46 (dk_at dksX3_namedValue_3 4 rfl rfl)
theorem dX3_namedValue_77 : decode cX3_namedValue 77 = .ok (.iadd, 1) := dk_96 (dk_at dksX3_namedValue_3 5 rfl rfl)
theorem dX3_namedValue_78 : decode cX3_namedValue 78 = .ok (.iaload, 1) := dk_46 (dk_at dksX3_namedValue_3 6 rfl rfl)
theorem dX3_namedValue_79 : decode cX3_namedValue 79 = .ok (.iconst (-1), 1) := dk_2 (dk_at dksX3_namedValue_3 7 rfl rfl)
theorem dX3_namedValue_80 : decode cX3_namedValue 80 = .ok (.iconst (-1), 1) := dk_2 (dk_at dksX3_namedValue_3 8 rfl rfl)
theorem dX3_namedValue_81 : decode cX3_namedValue 81 = .ok (.aload_n 0, 1) := dk_42 (dk_at dksX3_namedValue_3 9 rfl rfl)
theorem dX3_namedValue_82 : decode cX3_namedValue 82 = .ok (.getfield 20, 3) := dk_180 0 20 (dk_at dksX3_namedValue_3 10 rfl rfl)
theorem dX3_namedValue_85 : decode cX3_namedValue 85 = .ok (.iload_n 1, 1) := dk_27 (dk_at dksX3_namedValue_3 13 rfl rfl)
theorem dX3_namedValue_86 : decode cX3_namedValue 86 = .ok (.iaload, 1) := dk_46 (dk_at dksX3_namedValue_3 14 rfl rfl)
theorem dX3_namedValue_87 : decode cX3_namedValue 87 = .ok (.invokevirtual 319, 3) := dk_182 1 63 (dk_at dksX3_namedValue_3 15 rfl rfl)
theorem dX3_namedValue_90 : decode cX3_namedValue 90 = .ok (.ireturn, 1) := dk_172 (dk_at dksX3_namedValue_3 18 rfl rfl)
abbrev cX3_braces : ByteArray := prog_34_method_48_code
def yX3_braces : MethodName := ⟨RX3, "braces", "()I"⟩
def dkwX3_braces_1 : List UInt8 := [181, 0, 152, 27, 172]
abbrev dktX3_braces_1 : List UInt8 := dkwX3_braces_1 ++ []
def dkwX3_braces_0 : List UInt8 := [42, 89, 180, 0, 152, 4, 96, 181, 0, 152, 42, 182, 1, 50, 60, 42, 89, 180, 0, 152, 4, 96]
abbrev dktX3_braces_0 : List UInt8 := dkwX3_braces_0 ++ dktX3_braces_1
theorem dksX3_braces_0 : cX3_braces.data.toList.drop 0 = dktX3_braces_0 := by decide +kernel
theorem dksX3_braces_1 : cX3_braces.data.toList.drop 22 = dktX3_braces_1 := dk_seg dksX3_braces_0 22 rfl rfl
theorem dX3_braces_0 : decode cX3_braces 0 = .ok (.aload_n 0, 1) := dk_42 (dk_at dksX3_braces_0 0 rfl rfl)
theorem dX3_braces_1 : decode cX3_braces 1 = .ok (.dup, 1) := dk_89 (dk_at dksX3_braces_0 1 rfl rfl)
theorem dX3_braces_2 : decode cX3_braces 2 = .ok (.getfield 152, 3) := dk_180 0 152 (dk_at dksX3_braces_0 2 rfl rfl)
theorem dX3_braces_5 : decode cX3_braces 5 = .ok (.iconst 1, 1) := dk_4 (dk_at dksX3_braces_0 5 rfl rfl)
theorem dX3_braces_6 : decode cX3_braces 6 = .ok (.iadd, 1) := dk_96 (dk_at dksX3_braces_0 6 rfl rfl)
theorem dX3_braces_7 : decode cX3_braces 7 = .ok (.putfield 152, 3) := dk_181 0 152 (dk_at dksX3_braces_0 7 rfl rfl)
theorem dX3_braces_10 : decode cX3_braces 10 = .ok (.aload_n 0, 1) := dk_42 (dk_at dksX3_braces_0 10 rfl rfl)
theorem dX3_braces_11 : decode cX3_braces 11 = .ok (.invokevirtual 306, 3) := dk_182 1 50 (dk_at dksX3_braces_0 11 rfl rfl)
theorem dX3_braces_14 : decode cX3_braces 14 = .ok (.istore_n 1, 1) := dk_60 (dk_at dksX3_braces_0 14 rfl rfl)
theorem dX3_braces_15 : decode cX3_braces 15 = .ok (.aload_n 0, 1) := dk_42 (dk_at dksX3_braces_0 15 rfl rfl)
theorem dX3_braces_16 : decode cX3_braces 16 = .ok (.dup, 1) := dk_89 (dk_at dksX3_braces_0 16 rfl rfl)
theorem dX3_braces_17 : decode cX3_braces 17 = .ok (.getfield 152, 3) := dk_180 0 152 (dk_at dksX3_braces_0 17 rfl rfl)
theorem dX3_braces_20 : decode cX3_braces 20 = .ok (.iconst 1, 1) := dk_4 (dk_at dksX3_braces_0 20 rfl rfl)
theorem dX3_braces_21 : decode cX3_braces 21 = .ok (.iadd, 1) := dk_96 (dk_at dksX3_braces_0 21 rfl rfl)
theorem dX3_braces_22 : decode cX3_braces 22 = .ok (.putfield 152, 3) := dk_181 0 152 (dk_at dksX3_braces_1 0 rfl rfl)
theorem dX3_braces_25 : decode cX3_braces 25 = .ok (.iload_n 1, 1) := dk_27 (dk_at dksX3_braces_1 3 rfl rfl)
theorem dX3_braces_26 : decode cX3_braces 26 = .ok (.ireturn, 1) := dk_172 (dk_at dksX3_braces_1 4 rfl rfl)
abbrev cX3_formula : ByteArray := prog_34_method_38_code
def yX3_formula : MethodName := ⟨RX3, "formula", "()I"⟩
def dkwX3_formula_2 : List UInt8 := [167, 0, 21, 42, 16, 13, 28, 42, 180, 1, 53, 2, 42, 180, 0, 44, 28, 46, 182, 1, 63, 172]
abbrev dktX3_formula_2 : List UInt8 := dkwX3_formula_2 ++ []
def dkwX3_formula_1 : List UInt8 := [180, 1, 53, 61, 42, 89, 180, 0, 152, 4, 96, 181, 0, 152, 42, 182, 1, 50, 60, 27, 153, 0, 7, 27]
abbrev dktX3_formula_1 : List UInt8 := dkwX3_formula_1 ++ dktX3_formula_2
def dkwX3_formula_0 : List UInt8 := [42, 18, 204, 182, 1, 59, 60, 27, 154, 0, 12, 42, 18, 209, 182, 0, 155, 154, 0, 5, 27, 172, 42]
abbrev dktX3_formula_0 : List UInt8 := dkwX3_formula_0 ++ dktX3_formula_1
theorem dksX3_formula_0 : cX3_formula.data.toList.drop 0 = dktX3_formula_0 := by decide +kernel
theorem dksX3_formula_1 : cX3_formula.data.toList.drop 23 = dktX3_formula_1 := dk_seg dksX3_formula_0 23 rfl rfl
theorem dksX3_formula_2 : cX3_formula.data.toList.drop 47 = dktX3_formula_2 := dk_seg dksX3_formula_1 24 rfl rfl
theorem dX3_formula_0 : decode cX3_formula 0 = .ok (.aload_n 0, 1) := dk_42 (dk_at dksX3_formula_0 0 rfl rfl)
theorem dX3_formula_1 : decode cX3_formula 1 = .ok (.ldc 204, 2) := dk_18 204 (dk_at dksX3_formula_0 1 rfl rfl)
theorem dX3_formula_3 : decode cX3_formula 3 = .ok (.invokevirtual 315, 3) := dk_182 1 59 (dk_at dksX3_formula_0 3 rfl rfl)
theorem dX3_formula_6 : decode cX3_formula 6 = .ok (.istore_n 1, 1) := dk_60 (dk_at dksX3_formula_0 6 rfl rfl)
theorem dX3_formula_7 : decode cX3_formula 7 = .ok (.iload_n 1, 1) := dk_27 (dk_at dksX3_formula_0 7 rfl rfl)
theorem dX3_formula_8 : decode cX3_formula 8 = .ok (.ifCond .ne 12, 3) := dk_154 0 12 (dk_at dksX3_formula_0 8 rfl rfl)
theorem dX3_formula_11 : decode cX3_formula 11 = .ok (.aload_n 0, 1) := dk_42 (dk_at dksX3_formula_0 11 rfl rfl)
theorem dX3_formula_12 : decode cX3_formula 12 = .ok (.ldc 209, 2) := dk_18 209 (dk_at dksX3_formula_0 12 rfl rfl)
theorem dX3_formula_14 : decode cX3_formula 14 = .ok (.invokevirtual 155, 3) := dk_182 0 155 (dk_at dksX3_formula_0 14 rfl rfl)
theorem dX3_formula_17 : decode cX3_formula 17 = .ok (.ifCond .ne 5, 3) := dk_154 0 5 (dk_at dksX3_formula_0 17 rfl rfl)
theorem dX3_formula_20 : decode cX3_formula 20 = .ok (.iload_n 1, 1) := dk_27 (dk_at dksX3_formula_0 20 rfl rfl)
theorem dX3_formula_21 : decode cX3_formula 21 = .ok (.ireturn, 1) := dk_172 (dk_at dksX3_formula_0 21 rfl rfl)
theorem dX3_formula_22 : decode cX3_formula 22 = .ok (.aload_n 0, 1) := dk_42 (dk_at dksX3_formula_0 22 rfl rfl)
theorem dX3_formula_23 : decode cX3_formula 23 = .ok (.getfield 309, 3) := dk_180 1 53 (dk_at dksX3_formula_1 0 rfl rfl)
theorem dX3_formula_26 : decode cX3_formula 26 = .ok (.istore_n 2, 1) := dk_61 (dk_at dksX3_formula_1 3 rfl rfl)
theorem dX3_formula_27 : decode cX3_formula 27 = .ok (.aload_n 0, 1) := dk_42 (dk_at dksX3_formula_1 4 rfl rfl)
theorem dX3_formula_28 : decode cX3_formula 28 = .ok (.dup, 1) := dk_89 (dk_at dksX3_formula_1 5 rfl rfl)
theorem dX3_formula_29 : decode cX3_formula 29 = .ok (.getfield 152, 3) := dk_180 0 152 (dk_at dksX3_formula_1 6 rfl rfl)
theorem dX3_formula_32 : decode cX3_formula 32 = .ok (.iconst 1, 1) := dk_4 (dk_at dksX3_formula_1 9 rfl rfl)
theorem dX3_formula_33 : decode cX3_formula 33 = .ok (.iadd, 1) := dk_96 (dk_at dksX3_formula_1 10 rfl rfl)
theorem dX3_formula_34 : decode cX3_formula 34 = .ok (.putfield 152, 3) := dk_181 0 152 (dk_at dksX3_formula_1 11 rfl rfl)
theorem dX3_formula_37 : decode cX3_formula 37 = .ok (.aload_n 0, 1) := dk_42 (dk_at dksX3_formula_1 14 rfl rfl)
theorem dX3_formula_38 : decode cX3_formula 38 = .ok (.invokevirtual 306, 3) := dk_182 1 50 (dk_at dksX3_formula_1 15 rfl rfl)
theorem dX3_formula_41 : decode cX3_formula 41 = .ok (.istore_n 1, 1) := dk_60 (dk_at dksX3_formula_1 18 rfl rfl)
theorem dX3_formula_42 : decode cX3_formula 42 = .ok (.iload_n 1, 1) := dk_27 (dk_at dksX3_formula_1 19 rfl rfl)
theorem dX3_formula_43 : decode cX3_formula 43 = .ok (.ifCond .eq 7, 3) := dk_153 0 7 (dk_at dksX3_formula_1 20 rfl rfl)
theorem dX3_formula_46 : decode cX3_formula 46 = .ok (.iload_n 1, 1) := dk_27 (dk_at dksX3_formula_1 23 rfl rfl)
theorem dX3_formula_47 : decode cX3_formula 47 = .ok (.goto 21, 3) := dk_167 0 21 (dk_at dksX3_formula_2 0 rfl rfl)
theorem dX3_formula_50 : decode cX3_formula 50 = .ok (.aload_n 0, 1) := dk_42 (dk_at dksX3_formula_2 3 rfl rfl)
theorem dX3_formula_51 : decode cX3_formula 51 = .ok (.bipush 13, 2) := dk_16 13 (dk_at dksX3_formula_2 4 rfl rfl)
theorem dX3_formula_53 : decode cX3_formula 53 = .ok (.iload_n 2, 1) := dk_28 (dk_at dksX3_formula_2 6 rfl rfl)
theorem dX3_formula_54 : decode cX3_formula 54 = .ok (.aload_n 0, 1) := dk_42 (dk_at dksX3_formula_2 7 rfl rfl)
theorem dX3_formula_55 : decode cX3_formula 55 = .ok (.getfield 309, 3) := dk_180 1 53 (dk_at dksX3_formula_2 8 rfl rfl)
theorem dX3_formula_58 : decode cX3_formula 58 = .ok (.iconst (-1), 1) := dk_2 (dk_at dksX3_formula_2 11 rfl rfl)
theorem dX3_formula_59 : decode cX3_formula 59 = .ok (.aload_n 0, 1) := dk_42 (dk_at dksX3_formula_2 12 rfl rfl)
theorem dX3_formula_60 : decode cX3_formula 60 = .ok (.getfield 44, 3) := dk_180 0 44 (dk_at dksX3_formula_2 13 rfl rfl)
theorem dX3_formula_63 : decode cX3_formula 63 = .ok (.iload_n 2, 1) := dk_28 (dk_at dksX3_formula_2 16 rfl rfl)
theorem dX3_formula_64 : decode cX3_formula 64 = .ok (.iaload, 1) := dk_46 (dk_at dksX3_formula_2 17 rfl rfl)
theorem dX3_formula_65 : decode cX3_formula 65 = .ok (.invokevirtual 319, 3) := dk_182 1 63 (dk_at dksX3_formula_2 18 rfl rfl)
theorem dX3_formula_68 : decode cX3_formula 68 = .ok (.ireturn, 1) := dk_172 (dk_at dksX3_formula_2 21 rfl rfl)
abbrev cX3_row : ByteArray := prog_34_method_39_code
def yX3_row : MethodName := ⟨RX3, "row", "(Ljava/lang/String;)I"⟩
def dkwX3_row_4 : List UInt8 := [21, 4, 42, 180, 1, 53, 2, 42, 180, 0, 44, 21, 4, 46, 182, 1, 63, 87, 167, 255, 176, 29, 172]
abbrev dktX3_row_4 : List UInt8 := dkwX3_row_4 ++ []
def dkwX3_row_3 : List UInt8 := [167, 0, 7, 42, 182, 1, 67, 62, 29, 154, 0, 33, 42, 28, 153, 0, 8, 16, 12, 167, 0, 5, 16, 11]
abbrev dktX3_row_3 : List UInt8 := dkwX3_row_3 ++ dktX3_row_4
def dkwX3_row_2 : List UInt8 := [54, 4, 42, 89, 180, 0, 152, 4, 96, 181, 0, 152, 28, 153, 0, 12, 42, 18, 211, 182, 1, 59]
abbrev dktX3_row_2 : List UInt8 := dkwX3_row_2 ++ dktX3_row_3
def dkwX3_row_1 : List UInt8 := [167, 0, 7, 42, 182, 1, 67, 62, 29, 154, 0, 82, 42, 43, 182, 0, 155, 153, 0, 74, 42, 180, 1, 53]
abbrev dktX3_row_1 : List UInt8 := dkwX3_row_1 ++ dktX3_row_2
def dkwX3_row_0 : List UInt8 := [43, 182, 0, 131, 5, 160, 0, 7, 4, 167, 0, 4, 3, 61, 28, 153, 0, 12, 42, 18, 211, 182, 1, 59]
abbrev dktX3_row_0 : List UInt8 := dkwX3_row_0 ++ dktX3_row_1
theorem dksX3_row_0 : cX3_row.data.toList.drop 0 = dktX3_row_0 := by decide +kernel
theorem dksX3_row_1 : cX3_row.data.toList.drop 24 = dktX3_row_1 := dk_seg dksX3_row_0 24 rfl rfl
theorem dksX3_row_2 : cX3_row.data.toList.drop 48 = dktX3_row_2 := dk_seg dksX3_row_1 24 rfl rfl
theorem dksX3_row_3 : cX3_row.data.toList.drop 70 = dktX3_row_3 := dk_seg dksX3_row_2 22 rfl rfl
theorem dksX3_row_4 : cX3_row.data.toList.drop 94 = dktX3_row_4 := dk_seg dksX3_row_3 24 rfl rfl
theorem dX3_row_0 : decode cX3_row 0 = .ok (.aload_n 1, 1) := dk_43 (dk_at dksX3_row_0 0 rfl rfl)
theorem dX3_row_1 : decode cX3_row 1 = .ok (.invokevirtual 131, 3) := dk_182 0 131 (dk_at dksX3_row_0 1 rfl rfl)
theorem dX3_row_4 : decode cX3_row 4 = .ok (.iconst 2, 1) := dk_5 (dk_at dksX3_row_0 4 rfl rfl)
theorem dX3_row_5 : decode cX3_row 5 = .ok (.if_icmp .ne 7, 3) := dk_160 0 7 (dk_at dksX3_row_0 5 rfl rfl)
theorem dX3_row_8 : decode cX3_row 8 = .ok (.iconst 1, 1) := dk_4 (dk_at dksX3_row_0 8 rfl rfl)
theorem dX3_row_9 : decode cX3_row 9 = .ok (.goto 4, 3) := dk_167 0 4 (dk_at dksX3_row_0 9 rfl rfl)
theorem dX3_row_12 : decode cX3_row 12 = .ok (.iconst 0, 1) := dk_3 (dk_at dksX3_row_0 12 rfl rfl)
theorem dX3_row_13 : decode cX3_row 13 = .ok (.istore_n 2, 1) := dk_61 (dk_at dksX3_row_0 13 rfl rfl)
theorem dX3_row_14 : decode cX3_row 14 = .ok (.iload_n 2, 1) := dk_28 (dk_at dksX3_row_0 14 rfl rfl)
theorem dX3_row_15 : decode cX3_row 15 = .ok (.ifCond .eq 12, 3) := dk_153 0 12 (dk_at dksX3_row_0 15 rfl rfl)
theorem dX3_row_18 : decode cX3_row 18 = .ok (.aload_n 0, 1) := dk_42 (dk_at dksX3_row_0 18 rfl rfl)
theorem dX3_row_19 : decode cX3_row 19 = .ok (.ldc 211, 2) := dk_18 211 (dk_at dksX3_row_0 19 rfl rfl)
theorem dX3_row_21 : decode cX3_row 21 = .ok (.invokevirtual 315, 3) := dk_182 1 59 (dk_at dksX3_row_0 21 rfl rfl)
theorem dX3_row_24 : decode cX3_row 24 = .ok (.goto 7, 3) := dk_167 0 7 (dk_at dksX3_row_1 0 rfl rfl)
theorem dX3_row_27 : decode cX3_row 27 = .ok (.aload_n 0, 1) := dk_42 (dk_at dksX3_row_1 3 rfl rfl)
theorem dX3_row_28 : decode cX3_row 28 = .ok (.invokevirtual 323, 3) := dk_182 1 67 (dk_at dksX3_row_1 4 rfl rfl)
theorem dX3_row_31 : decode cX3_row 31 = .ok (.istore_n 3, 1) := dk_62 (dk_at dksX3_row_1 7 rfl rfl)
theorem dX3_row_32 : decode cX3_row 32 = .ok (.iload_n 3, 1) := dk_29 (dk_at dksX3_row_1 8 rfl rfl)
theorem dX3_row_33 : decode cX3_row 33 = .ok (.ifCond .ne 82, 3) := dk_154 0 82 (dk_at dksX3_row_1 9 rfl rfl)
theorem dX3_row_36 : decode cX3_row 36 = .ok (.aload_n 0, 1) := dk_42 (dk_at dksX3_row_1 12 rfl rfl)
theorem dX3_row_37 : decode cX3_row 37 = .ok (.aload_n 1, 1) := dk_43 (dk_at dksX3_row_1 13 rfl rfl)
theorem dX3_row_38 : decode cX3_row 38 = .ok (.invokevirtual 155, 3) := dk_182 0 155 (dk_at dksX3_row_1 14 rfl rfl)
theorem dX3_row_41 : decode cX3_row 41 = .ok (.ifCond .eq 74, 3) := dk_153 0 74 (dk_at dksX3_row_1 17 rfl rfl)
theorem dX3_row_44 : decode cX3_row 44 = .ok (.aload_n 0, 1) := dk_42 (dk_at dksX3_row_1 20 rfl rfl)
theorem dX3_row_45 : decode cX3_row 45 = .ok (.getfield 309, 3) := dk_180 1 53 (dk_at dksX3_row_1 21 rfl rfl)
theorem dX3_row_48 : decode cX3_row 48 = .ok (.istore 4, 2) := dk_54 4 (dk_at dksX3_row_2 0 rfl rfl)
theorem dX3_row_50 : decode cX3_row 50 = .ok (.aload_n 0, 1) := dk_42 (dk_at dksX3_row_2 2 rfl rfl)
theorem dX3_row_51 : decode cX3_row 51 = .ok (.dup, 1) := dk_89 (dk_at dksX3_row_2 3 rfl rfl)
theorem dX3_row_52 : decode cX3_row 52 = .ok (.getfield 152, 3) := dk_180 0 152 (dk_at dksX3_row_2 4 rfl rfl)
theorem dX3_row_55 : decode cX3_row 55 = .ok (.iconst 1, 1) := dk_4 (dk_at dksX3_row_2 7 rfl rfl)
theorem dX3_row_56 : decode cX3_row 56 = .ok (.iadd, 1) := dk_96 (dk_at dksX3_row_2 8 rfl rfl)
theorem dX3_row_57 : decode cX3_row 57 = .ok (.putfield 152, 3) := dk_181 0 152 (dk_at dksX3_row_2 9 rfl rfl)
theorem dX3_row_60 : decode cX3_row 60 = .ok (.iload_n 2, 1) := dk_28 (dk_at dksX3_row_2 12 rfl rfl)
theorem dX3_row_61 : decode cX3_row 61 = .ok (.ifCond .eq 12, 3) := dk_153 0 12 (dk_at dksX3_row_2 13 rfl rfl)
theorem dX3_row_64 : decode cX3_row 64 = .ok (.aload_n 0, 1) := dk_42 (dk_at dksX3_row_2 16 rfl rfl)
theorem dX3_row_65 : decode cX3_row 65 = .ok (.ldc 211, 2) := dk_18 211 (dk_at dksX3_row_2 17 rfl rfl)
theorem dX3_row_67 : decode cX3_row 67 = .ok (.invokevirtual 315, 3) := dk_182 1 59 (dk_at dksX3_row_2 19 rfl rfl)
theorem dX3_row_70 : decode cX3_row 70 = .ok (.goto 7, 3) := dk_167 0 7 (dk_at dksX3_row_3 0 rfl rfl)
theorem dX3_row_73 : decode cX3_row 73 = .ok (.aload_n 0, 1) := dk_42 (dk_at dksX3_row_3 3 rfl rfl)
theorem dX3_row_74 : decode cX3_row 74 = .ok (.invokevirtual 323, 3) := dk_182 1 67 (dk_at dksX3_row_3 4 rfl rfl)
theorem dX3_row_77 : decode cX3_row 77 = .ok (.istore_n 3, 1) := dk_62 (dk_at dksX3_row_3 7 rfl rfl)
theorem dX3_row_78 : decode cX3_row 78 = .ok (.iload_n 3, 1) := dk_29 (dk_at dksX3_row_3 8 rfl rfl)
theorem dX3_row_79 : decode cX3_row 79 = .ok (.ifCond .ne 33, 3) := dk_154 0 33 (dk_at dksX3_row_3 9 rfl rfl)
theorem dX3_row_82 : decode cX3_row 82 = .ok (.aload_n 0, 1) := dk_42 (dk_at dksX3_row_3 12 rfl rfl)
theorem dX3_row_83 : decode cX3_row 83 = .ok (.iload_n 2, 1) := dk_28 (dk_at dksX3_row_3 13 rfl rfl)
theorem dX3_row_84 : decode cX3_row 84 = .ok (.ifCond .eq 8, 3) := dk_153 0 8 (dk_at dksX3_row_3 14 rfl rfl)
theorem dX3_row_87 : decode cX3_row 87 = .ok (.bipush 12, 2) := dk_16 12 (dk_at dksX3_row_3 17 rfl rfl)
theorem dX3_row_89 : decode cX3_row 89 = .ok (.goto 5, 3) := dk_167 0 5 (dk_at dksX3_row_3 19 rfl rfl)
theorem dX3_row_92 : decode cX3_row 92 = .ok (.bipush 11, 2) := dk_16 11 (dk_at dksX3_row_3 22 rfl rfl)
theorem dX3_row_94 : decode cX3_row 94 = .ok (.iload 4, 2) := dk_21 4 (dk_at dksX3_row_4 0 rfl rfl)
theorem dX3_row_96 : decode cX3_row 96 = .ok (.aload_n 0, 1) := dk_42 (dk_at dksX3_row_4 2 rfl rfl)
theorem dX3_row_97 : decode cX3_row 97 = .ok (.getfield 309, 3) := dk_180 1 53 (dk_at dksX3_row_4 3 rfl rfl)
theorem dX3_row_100 : decode cX3_row 100 = .ok (.iconst (-1), 1) := dk_2 (dk_at dksX3_row_4 6 rfl rfl)
theorem dX3_row_101 : decode cX3_row 101 = .ok (.aload_n 0, 1) := dk_42 (dk_at dksX3_row_4 7 rfl rfl)
theorem dX3_row_102 : decode cX3_row 102 = .ok (.getfield 44, 3) := dk_180 0 44 (dk_at dksX3_row_4 8 rfl rfl)
theorem dX3_row_105 : decode cX3_row 105 = .ok (.iload 4, 2) := dk_21 4 (dk_at dksX3_row_4 11 rfl rfl)
theorem dX3_row_107 : decode cX3_row 107 = .ok (.iaload, 1) := dk_46 (dk_at dksX3_row_4 13 rfl rfl)
theorem dX3_row_108 : decode cX3_row 108 = .ok (.invokevirtual 319, 3) := dk_182 1 63 (dk_at dksX3_row_4 14 rfl rfl)
theorem dX3_row_111 : decode cX3_row 111 = .ok (.pop, 1) := dk_87 (dk_at dksX3_row_4 17 rfl rfl)
theorem dX3_row_112 : decode cX3_row 112 = .ok (.goto (-80), 3) := dk_167 255 176 (dk_at dksX3_row_4 18 rfl rfl)
theorem dX3_row_115 : decode cX3_row 115 = .ok (.iload_n 3, 1) := dk_29 (dk_at dksX3_row_4 21 rfl rfl)
theorem dX3_row_116 : decode cX3_row 116 = .ok (.ireturn, 1) := dk_172 (dk_at dksX3_row_4 22 rfl rfl)
abbrev cX3_since : ByteArray := prog_34_method_41_code
def yX3_since : MethodName := ⟨RX3, "since", "()I"⟩
def dkwX3_since_4 : List UInt8 := [180, 0, 38, 42, 180, 1, 53, 21, 4, 79, 42, 180, 0, 41, 42, 180, 1, 53, 21, 5, 79, 3, 172]
abbrev dktX3_since_4 : List UInt8 := dkwX3_since_4 ++ []
def dkwX3_since_3 : List UInt8 := [28, 172, 42, 16, 10, 29, 42, 180, 1, 53, 2, 42, 180, 0, 20, 27, 46, 182, 1, 63, 87, 42]
abbrev dktX3_since_3 : List UInt8 := dkwX3_since_3 ++ dktX3_since_4
def dkwX3_since_2 : List UInt8 := [180, 1, 69, 54, 4, 42, 180, 1, 72, 54, 5, 28, 154, 0, 8, 42, 182, 1, 75, 61, 28, 153, 0, 5]
abbrev dktX3_since_2 : List UInt8 := dkwX3_since_2 ++ dktX3_since_3
def dkwX3_since_1 : List UInt8 := [172, 42, 180, 1, 53, 62, 42, 89, 180, 0, 152, 4, 96, 181, 0, 152, 42, 182, 1, 78, 61, 42]
abbrev dktX3_since_1 : List UInt8 := dkwX3_since_1 ++ dktX3_since_2
def dkwX3_since_0 : List UInt8 := [42, 180, 0, 152, 60, 42, 182, 1, 75, 61, 28, 154, 0, 12, 42, 18, 219, 182, 0, 155, 154, 0, 5, 28]
abbrev dktX3_since_0 : List UInt8 := dkwX3_since_0 ++ dktX3_since_1
theorem dksX3_since_0 : cX3_since.data.toList.drop 0 = dktX3_since_0 := by decide +kernel
theorem dksX3_since_1 : cX3_since.data.toList.drop 24 = dktX3_since_1 := dk_seg dksX3_since_0 24 rfl rfl
theorem dksX3_since_2 : cX3_since.data.toList.drop 46 = dktX3_since_2 := dk_seg dksX3_since_1 22 rfl rfl
theorem dksX3_since_3 : cX3_since.data.toList.drop 70 = dktX3_since_3 := dk_seg dksX3_since_2 24 rfl rfl
theorem dksX3_since_4 : cX3_since.data.toList.drop 92 = dktX3_since_4 := dk_seg dksX3_since_3 22 rfl rfl
theorem dX3_since_0 : decode cX3_since 0 = .ok (.aload_n 0, 1) := dk_42 (dk_at dksX3_since_0 0 rfl rfl)
theorem dX3_since_1 : decode cX3_since 1 = .ok (.getfield 152, 3) := dk_180 0 152 (dk_at dksX3_since_0 1 rfl rfl)
theorem dX3_since_4 : decode cX3_since 4 = .ok (.istore_n 1, 1) := dk_60 (dk_at dksX3_since_0 4 rfl rfl)
theorem dX3_since_5 : decode cX3_since 5 = .ok (.aload_n 0, 1) := dk_42 (dk_at dksX3_since_0 5 rfl rfl)
theorem dX3_since_6 : decode cX3_since 6 = .ok (.invokevirtual 331, 3) := dk_182 1 75 (dk_at dksX3_since_0 6 rfl rfl)
theorem dX3_since_9 : decode cX3_since 9 = .ok (.istore_n 2, 1) := dk_61 (dk_at dksX3_since_0 9 rfl rfl)
theorem dX3_since_10 : decode cX3_since 10 = .ok (.iload_n 2, 1) := dk_28 (dk_at dksX3_since_0 10 rfl rfl)
theorem dX3_since_11 : decode cX3_since 11 = .ok (.ifCond .ne 12, 3) := dk_154 0 12 (dk_at dksX3_since_0 11 rfl rfl)
theorem dX3_since_14 : decode cX3_since 14 = .ok (.aload_n 0, 1) := dk_42 (dk_at dksX3_since_0 14 rfl rfl)
theorem dX3_since_15 : decode cX3_since 15 = .ok (.ldc 219, 2) := dk_18 219 (dk_at dksX3_since_0 15 rfl rfl)
theorem dX3_since_17 : decode cX3_since 17 = .ok (.invokevirtual 155, 3) := dk_182 0 155 (dk_at dksX3_since_0 17 rfl rfl)
theorem dX3_since_20 : decode cX3_since 20 = .ok (.ifCond .ne 5, 3) := dk_154 0 5 (dk_at dksX3_since_0 20 rfl rfl)
theorem dX3_since_23 : decode cX3_since 23 = .ok (.iload_n 2, 1) := dk_28 (dk_at dksX3_since_0 23 rfl rfl)
theorem dX3_since_24 : decode cX3_since 24 = .ok (.ireturn, 1) := dk_172 (dk_at dksX3_since_1 0 rfl rfl)
theorem dX3_since_25 : decode cX3_since 25 = .ok (.aload_n 0, 1) := dk_42 (dk_at dksX3_since_1 1 rfl rfl)
theorem dX3_since_26 : decode cX3_since 26 = .ok (.getfield 309, 3) := dk_180 1 53 (dk_at dksX3_since_1 2 rfl rfl)
theorem dX3_since_29 : decode cX3_since 29 = .ok (.istore_n 3, 1) := dk_62 (dk_at dksX3_since_1 5 rfl rfl)
theorem dX3_since_30 : decode cX3_since 30 = .ok (.aload_n 0, 1) := dk_42 (dk_at dksX3_since_1 6 rfl rfl)
theorem dX3_since_31 : decode cX3_since 31 = .ok (.dup, 1) := dk_89 (dk_at dksX3_since_1 7 rfl rfl)
theorem dX3_since_32 : decode cX3_since 32 = .ok (.getfield 152, 3) := dk_180 0 152 (dk_at dksX3_since_1 8 rfl rfl)
theorem dX3_since_35 : decode cX3_since 35 = .ok (.iconst 1, 1) := dk_4 (dk_at dksX3_since_1 11 rfl rfl)
theorem dX3_since_36 : decode cX3_since 36 = .ok (.iadd, 1) := dk_96 (dk_at dksX3_since_1 12 rfl rfl)
theorem dX3_since_37 : decode cX3_since 37 = .ok (.putfield 152, 3) := dk_181 0 152 (dk_at dksX3_since_1 13 rfl rfl)
theorem dX3_since_40 : decode cX3_since 40 = .ok (.aload_n 0, 1) := dk_42 (dk_at dksX3_since_1 16 rfl rfl)
theorem dX3_since_41 : decode cX3_since 41 = .ok (.invokevirtual 334, 3) := dk_182 1 78 (dk_at dksX3_since_1 17 rfl rfl)
theorem dX3_since_44 : decode cX3_since 44 = .ok (.istore_n 2, 1) := dk_61 (dk_at dksX3_since_1 20 rfl rfl)
theorem dX3_since_45 : decode cX3_since 45 = .ok (.aload_n 0, 1) := dk_42 (dk_at dksX3_since_1 21 rfl rfl)
theorem dX3_since_46 : decode cX3_since 46 = .ok (.getfield 325, 3) := dk_180 1 69 (dk_at dksX3_since_2 0 rfl rfl)
theorem dX3_since_49 : decode cX3_since 49 = .ok (.istore 4, 2) := dk_54 4 (dk_at dksX3_since_2 3 rfl rfl)
theorem dX3_since_51 : decode cX3_since 51 = .ok (.aload_n 0, 1) := dk_42 (dk_at dksX3_since_2 5 rfl rfl)
theorem dX3_since_52 : decode cX3_since 52 = .ok (.getfield 328, 3) := dk_180 1 72 (dk_at dksX3_since_2 6 rfl rfl)
theorem dX3_since_55 : decode cX3_since 55 = .ok (.istore 5, 2) := dk_54 5 (dk_at dksX3_since_2 9 rfl rfl)
theorem dX3_since_57 : decode cX3_since 57 = .ok (.iload_n 2, 1) := dk_28 (dk_at dksX3_since_2 11 rfl rfl)
theorem dX3_since_58 : decode cX3_since 58 = .ok (.ifCond .ne 8, 3) := dk_154 0 8 (dk_at dksX3_since_2 12 rfl rfl)
theorem dX3_since_61 : decode cX3_since 61 = .ok (.aload_n 0, 1) := dk_42 (dk_at dksX3_since_2 15 rfl rfl)
theorem dX3_since_62 : decode cX3_since 62 = .ok (.invokevirtual 331, 3) := dk_182 1 75 (dk_at dksX3_since_2 16 rfl rfl)
theorem dX3_since_65 : decode cX3_since 65 = .ok (.istore_n 2, 1) := dk_61 (dk_at dksX3_since_2 19 rfl rfl)
theorem dX3_since_66 : decode cX3_since 66 = .ok (.iload_n 2, 1) := dk_28 (dk_at dksX3_since_2 20 rfl rfl)
theorem dX3_since_67 : decode cX3_since 67 = .ok (.ifCond .eq 5, 3) := dk_153 0 5 (dk_at dksX3_since_2 21 rfl rfl)
theorem dX3_since_70 : decode cX3_since 70 = .ok (.iload_n 2, 1) := dk_28 (dk_at dksX3_since_3 0 rfl rfl)
theorem dX3_since_71 : decode cX3_since 71 = .ok (.ireturn, 1) := dk_172 (dk_at dksX3_since_3 1 rfl rfl)
theorem dX3_since_72 : decode cX3_since 72 = .ok (.aload_n 0, 1) := dk_42 (dk_at dksX3_since_3 2 rfl rfl)
theorem dX3_since_73 : decode cX3_since 73 = .ok (.bipush 10, 2) := dk_16 10 (dk_at dksX3_since_3 3 rfl rfl)
theorem dX3_since_75 : decode cX3_since 75 = .ok (.iload_n 3, 1) := dk_29 (dk_at dksX3_since_3 5 rfl rfl)
theorem dX3_since_76 : decode cX3_since 76 = .ok (.aload_n 0, 1) := dk_42 (dk_at dksX3_since_3 6 rfl rfl)
theorem dX3_since_77 : decode cX3_since 77 = .ok (.getfield 309, 3) := dk_180 1 53 (dk_at dksX3_since_3 7 rfl rfl)
theorem dX3_since_80 : decode cX3_since 80 = .ok (.iconst (-1), 1) := dk_2 (dk_at dksX3_since_3 10 rfl rfl)
theorem dX3_since_81 : decode cX3_since 81 = .ok (.aload_n 0, 1) := dk_42 (dk_at dksX3_since_3 11 rfl rfl)
theorem dX3_since_82 : decode cX3_since 82 = .ok (.getfield 20, 3) := dk_180 0 20 (dk_at dksX3_since_3 12 rfl rfl)
theorem dX3_since_85 : decode cX3_since 85 = .ok (.iload_n 1, 1) := dk_27 (dk_at dksX3_since_3 15 rfl rfl)
theorem dX3_since_86 : decode cX3_since 86 = .ok (.iaload, 1) := dk_46 (dk_at dksX3_since_3 16 rfl rfl)
theorem dX3_since_87 : decode cX3_since 87 = .ok (.invokevirtual 319, 3) := dk_182 1 63 (dk_at dksX3_since_3 17 rfl rfl)
theorem dX3_since_90 : decode cX3_since 90 = .ok (.pop, 1) := dk_87 (dk_at dksX3_since_3 20 rfl rfl)
theorem dX3_since_91 : decode cX3_since 91 = .ok (.aload_n 0, 1) := dk_42 (dk_at dksX3_since_3 21 rfl rfl)
theorem dX3_since_92 : decode cX3_since 92 = .ok (.getfield 38, 3) := dk_180 0 38 (dk_at dksX3_since_4 0 rfl rfl)
theorem dX3_since_95 : decode cX3_since 95 = .ok (.aload_n 0, 1) := dk_42 (dk_at dksX3_since_4 3 rfl rfl)
theorem dX3_since_96 : decode cX3_since 96 = .ok (.getfield 309, 3) := dk_180 1 53 (dk_at dksX3_since_4 4 rfl rfl)
theorem dX3_since_99 : decode cX3_since 99 = .ok (.iload 4, 2) := dk_21 4 (dk_at dksX3_since_4 7 rfl rfl)
theorem dX3_since_101 : decode cX3_since 101 = .ok (.iastore, 1) := dk_79 (dk_at dksX3_since_4 9 rfl rfl)
theorem dX3_since_102 : decode cX3_since 102 = .ok (.aload_n 0, 1) := dk_42 (dk_at dksX3_since_4 10 rfl rfl)
theorem dX3_since_103 : decode cX3_since 103 = .ok (.getfield 41, 3) := dk_180 0 41 (dk_at dksX3_since_4 11 rfl rfl)
theorem dX3_since_106 : decode cX3_since 106 = .ok (.aload_n 0, 1) := dk_42 (dk_at dksX3_since_4 14 rfl rfl)
theorem dX3_since_107 : decode cX3_since 107 = .ok (.getfield 309, 3) := dk_180 1 53 (dk_at dksX3_since_4 15 rfl rfl)
theorem dX3_since_110 : decode cX3_since 110 = .ok (.iload 5, 2) := dk_21 5 (dk_at dksX3_since_4 18 rfl rfl)
theorem dX3_since_112 : decode cX3_since 112 = .ok (.iastore, 1) := dk_79 (dk_at dksX3_since_4 20 rfl rfl)
theorem dX3_since_113 : decode cX3_since 113 = .ok (.iconst 0, 1) := dk_3 (dk_at dksX3_since_4 21 rfl rfl)
theorem dX3_since_114 : decode cX3_since 114 = .ok (.ireturn, 1) := dk_172 (dk_at dksX3_since_4 22 rfl rfl)
abbrev cX3_one : ByteArray := prog_34_method_42_code
def yX3_one : MethodName := ⟨RX3, "one", "()I"⟩
def dkwX3_one_9 : List UInt8 := [42, 180, 0, 58, 29, 46, 96, 46, 2, 2, 42, 180, 0, 20, 27, 46, 182, 1, 63, 172]
abbrev dktX3_one_9 : List UInt8 := dkwX3_one_9 ++ []
def dkwX3_one_8 : List UInt8 := [180, 0, 152, 4, 96, 181, 0, 152, 42, 16, 8, 42, 180, 0, 67, 16, 12, 42, 180, 0, 55, 29, 46, 104]
abbrev dktX3_one_8 : List UInt8 := dkwX3_one_8 ++ dktX3_one_9
def dkwX3_one_7 : List UInt8 := [180, 0, 55, 29, 46, 5, 112, 154, 0, 13, 42, 5, 42, 180, 0, 152, 182, 1, 38, 172, 42, 89]
abbrev dktX3_one_7 : List UInt8 := dkwX3_one_7 ++ dktX3_one_8
def dkwX3_one_6 : List UInt8 := [180, 0, 152, 4, 96, 181, 0, 152, 42, 42, 180, 0, 152, 182, 1, 41, 62, 29, 2, 159, 0, 14, 42]
abbrev dktX3_one_6 : List UInt8 := dkwX3_one_6 ++ dktX3_one_7
def dkwX3_one_5 : List UInt8 := [46, 182, 1, 63, 172, 42, 18, 241, 182, 0, 155, 154, 0, 9, 42, 27, 182, 1, 84, 172, 42, 89]
abbrev dktX3_one_5 : List UInt8 := dkwX3_one_5 ++ dktX3_one_6
def dkwX3_one_4 : List UInt8 := [27, 18, 237, 182, 0, 138, 153, 0, 8, 16, 6, 167, 0, 5, 16, 7, 2, 2, 2, 42, 180, 0, 20, 27]
abbrev dktX3_one_4 : List UInt8 := dkwX3_one_4 ++ dktX3_one_5
def dkwX3_one_3 : List UInt8 := [154, 0, 12, 42, 18, 239, 182, 0, 155, 153, 0, 44, 42, 89, 180, 0, 152, 4, 96, 181, 0, 152, 42, 42]
abbrev dktX3_one_3 : List UInt8 := dkwX3_one_3 ++ dktX3_one_4
def dkwX3_one_2 : List UInt8 := [42, 182, 1, 50, 62, 42, 89, 180, 0, 152, 4, 96, 181, 0, 152, 29, 172, 42, 18, 237, 182, 0, 155]
abbrev dktX3_one_2 : List UInt8 := dkwX3_one_2 ++ dktX3_one_3
def dkwX3_one_1 : List UInt8 := [28, 182, 1, 81, 172, 42, 18, 233, 182, 0, 155, 153, 0, 30, 42, 89, 180, 0, 152, 4, 96, 181, 0, 152]
abbrev dktX3_one_1 : List UInt8 := dkwX3_one_1 ++ dktX3_one_2
def dkwX3_one_0 : List UInt8 := [42, 180, 0, 152, 60, 42, 42, 180, 0, 152, 178, 0, 230, 182, 0, 146, 61, 28, 2, 159, 0, 10, 42, 27]
abbrev dktX3_one_0 : List UInt8 := dkwX3_one_0 ++ dktX3_one_1
theorem dksX3_one_0 : cX3_one.data.toList.drop 0 = dktX3_one_0 := by decide +kernel
theorem dksX3_one_1 : cX3_one.data.toList.drop 24 = dktX3_one_1 := dk_seg dksX3_one_0 24 rfl rfl
theorem dksX3_one_2 : cX3_one.data.toList.drop 48 = dktX3_one_2 := dk_seg dksX3_one_1 24 rfl rfl
theorem dksX3_one_3 : cX3_one.data.toList.drop 71 = dktX3_one_3 := dk_seg dksX3_one_2 23 rfl rfl
theorem dksX3_one_4 : cX3_one.data.toList.drop 95 = dktX3_one_4 := dk_seg dksX3_one_3 24 rfl rfl
theorem dksX3_one_5 : cX3_one.data.toList.drop 119 = dktX3_one_5 := dk_seg dksX3_one_4 24 rfl rfl
theorem dksX3_one_6 : cX3_one.data.toList.drop 141 = dktX3_one_6 := dk_seg dksX3_one_5 22 rfl rfl
theorem dksX3_one_7 : cX3_one.data.toList.drop 164 = dktX3_one_7 := dk_seg dksX3_one_6 23 rfl rfl
theorem dksX3_one_8 : cX3_one.data.toList.drop 186 = dktX3_one_8 := dk_seg dksX3_one_7 22 rfl rfl
theorem dksX3_one_9 : cX3_one.data.toList.drop 210 = dktX3_one_9 := dk_seg dksX3_one_8 24 rfl rfl
theorem dX3_one_0 : decode cX3_one 0 = .ok (.aload_n 0, 1) := dk_42 (dk_at dksX3_one_0 0 rfl rfl)
theorem dX3_one_1 : decode cX3_one 1 = .ok (.getfield 152, 3) := dk_180 0 152 (dk_at dksX3_one_0 1 rfl rfl)
theorem dX3_one_4 : decode cX3_one 4 = .ok (.istore_n 1, 1) := dk_60 (dk_at dksX3_one_0 4 rfl rfl)
theorem dX3_one_5 : decode cX3_one 5 = .ok (.aload_n 0, 1) := dk_42 (dk_at dksX3_one_0 5 rfl rfl)
theorem dX3_one_6 : decode cX3_one 6 = .ok (.aload_n 0, 1) := dk_42 (dk_at dksX3_one_0 6 rfl rfl)
theorem dX3_one_7 : decode cX3_one 7 = .ok (.getfield 152, 3) := dk_180 0 152 (dk_at dksX3_one_0 7 rfl rfl)
theorem dX3_one_10 : decode cX3_one 10 = .ok (.getstatic 230, 3) := dk_178 0 230 (dk_at dksX3_one_0 10 rfl rfl)
theorem dX3_one_13 : decode cX3_one 13 = .ok (.invokevirtual 146, 3) := dk_182 0 146 (dk_at dksX3_one_0 13 rfl rfl)
theorem dX3_one_16 : decode cX3_one 16 = .ok (.istore_n 2, 1) := dk_61 (dk_at dksX3_one_0 16 rfl rfl)
theorem dX3_one_17 : decode cX3_one 17 = .ok (.iload_n 2, 1) := dk_28 (dk_at dksX3_one_0 17 rfl rfl)
theorem dX3_one_18 : decode cX3_one 18 = .ok (.iconst (-1), 1) := dk_2 (dk_at dksX3_one_0 18 rfl rfl)
theorem dX3_one_19 : decode cX3_one 19 = .ok (.if_icmp .eq 10, 3) := dk_159 0 10 (dk_at dksX3_one_0 19 rfl rfl)
theorem dX3_one_22 : decode cX3_one 22 = .ok (.aload_n 0, 1) := dk_42 (dk_at dksX3_one_0 22 rfl rfl)
theorem dX3_one_23 : decode cX3_one 23 = .ok (.iload_n 1, 1) := dk_27 (dk_at dksX3_one_0 23 rfl rfl)
theorem dX3_one_24 : decode cX3_one 24 = .ok (.iload_n 2, 1) := dk_28 (dk_at dksX3_one_1 0 rfl rfl)
theorem dX3_one_25 : decode cX3_one 25 = .ok (.invokevirtual 337, 3) := dk_182 1 81 (dk_at dksX3_one_1 1 rfl rfl)
theorem dX3_one_28 : decode cX3_one 28 = .ok (.ireturn, 1) := dk_172 (dk_at dksX3_one_1 4 rfl rfl)
theorem dX3_one_29 : decode cX3_one 29 = .ok (.aload_n 0, 1) := dk_42 (dk_at dksX3_one_1 5 rfl rfl)
theorem dX3_one_30 : decode cX3_one 30 = .ok (.ldc 233, 2) := dk_18 233 (dk_at dksX3_one_1 6 rfl rfl)
theorem dX3_one_32 : decode cX3_one 32 = .ok (.invokevirtual 155, 3) := dk_182 0 155 (dk_at dksX3_one_1 8 rfl rfl)
theorem dX3_one_35 : decode cX3_one 35 = .ok (.ifCond .eq 30, 3) := dk_153 0 30 (dk_at dksX3_one_1 11 rfl rfl)
theorem dX3_one_38 : decode cX3_one 38 = .ok (.aload_n 0, 1) := dk_42 (dk_at dksX3_one_1 14 rfl rfl)
theorem dX3_one_39 : decode cX3_one 39 = .ok (.dup, 1) := dk_89 (dk_at dksX3_one_1 15 rfl rfl)
theorem dX3_one_40 : decode cX3_one 40 = .ok (.getfield 152, 3) := dk_180 0 152 (dk_at dksX3_one_1 16 rfl rfl)
theorem dX3_one_43 : decode cX3_one 43 = .ok (.iconst 1, 1) := dk_4 (dk_at dksX3_one_1 19 rfl rfl)
theorem dX3_one_44 : decode cX3_one 44 = .ok (.iadd, 1) := dk_96 (dk_at dksX3_one_1 20 rfl rfl)
theorem dX3_one_45 : decode cX3_one 45 = .ok (.putfield 152, 3) := dk_181 0 152 (dk_at dksX3_one_1 21 rfl rfl)
theorem dX3_one_48 : decode cX3_one 48 = .ok (.aload_n 0, 1) := dk_42 (dk_at dksX3_one_2 0 rfl rfl)
theorem dX3_one_49 : decode cX3_one 49 = .ok (.invokevirtual 306, 3) := dk_182 1 50 (dk_at dksX3_one_2 1 rfl rfl)
theorem dX3_one_52 : decode cX3_one 52 = .ok (.istore_n 3, 1) := dk_62 (dk_at dksX3_one_2 4 rfl rfl)
theorem dX3_one_53 : decode cX3_one 53 = .ok (.aload_n 0, 1) := dk_42 (dk_at dksX3_one_2 5 rfl rfl)
theorem dX3_one_54 : decode cX3_one 54 = .ok (.dup, 1) := dk_89 (dk_at dksX3_one_2 6 rfl rfl)
theorem dX3_one_55 : decode cX3_one 55 = .ok (.getfield 152, 3) := dk_180 0 152 (dk_at dksX3_one_2 7 rfl rfl)
theorem dX3_one_58 : decode cX3_one 58 = .ok (.iconst 1, 1) := dk_4 (dk_at dksX3_one_2 10 rfl rfl)
theorem dX3_one_59 : decode cX3_one 59 = .ok (.iadd, 1) := dk_96 (dk_at dksX3_one_2 11 rfl rfl)
theorem dX3_one_60 : decode cX3_one 60 = .ok (.putfield 152, 3) := dk_181 0 152 (dk_at dksX3_one_2 12 rfl rfl)
theorem dX3_one_63 : decode cX3_one 63 = .ok (.iload_n 3, 1) := dk_29 (dk_at dksX3_one_2 15 rfl rfl)
theorem dX3_one_64 : decode cX3_one 64 = .ok (.ireturn, 1) := dk_172 (dk_at dksX3_one_2 16 rfl rfl)
theorem dX3_one_65 : decode cX3_one 65 = .ok (.aload_n 0, 1) := dk_42 (dk_at dksX3_one_2 17 rfl rfl)
theorem dX3_one_66 : decode cX3_one 66 = .ok (.ldc 237, 2) := dk_18 237 (dk_at dksX3_one_2 18 rfl rfl)
theorem dX3_one_68 : decode cX3_one 68 = .ok (.invokevirtual 155, 3) := dk_182 0 155 (dk_at dksX3_one_2 20 rfl rfl)
theorem dX3_one_71 : decode cX3_one 71 = .ok (.ifCond .ne 12, 3) := dk_154 0 12 (dk_at dksX3_one_3 0 rfl rfl)
theorem dX3_one_74 : decode cX3_one 74 = .ok (.aload_n 0, 1) := dk_42 (dk_at dksX3_one_3 3 rfl rfl)
theorem dX3_one_75 : decode cX3_one 75 = .ok (.ldc 239, 2) := dk_18 239 (dk_at dksX3_one_3 4 rfl rfl)
theorem dX3_one_77 : decode cX3_one 77 = .ok (.invokevirtual 155, 3) := dk_182 0 155 (dk_at dksX3_one_3 6 rfl rfl)
theorem dX3_one_80 : decode cX3_one 80 = .ok (.ifCond .eq 44, 3) := dk_153 0 44 (dk_at dksX3_one_3 9 rfl rfl)
theorem dX3_one_83 : decode cX3_one 83 = .ok (.aload_n 0, 1) := dk_42 (dk_at dksX3_one_3 12 rfl rfl)
theorem dX3_one_84 : decode cX3_one 84 = .ok (.dup, 1) := dk_89 (dk_at dksX3_one_3 13 rfl rfl)
theorem dX3_one_85 : decode cX3_one 85 = .ok (.getfield 152, 3) := dk_180 0 152 (dk_at dksX3_one_3 14 rfl rfl)
theorem dX3_one_88 : decode cX3_one 88 = .ok (.iconst 1, 1) := dk_4 (dk_at dksX3_one_3 17 rfl rfl)
theorem dX3_one_89 : decode cX3_one 89 = .ok (.iadd, 1) := dk_96 (dk_at dksX3_one_3 18 rfl rfl)
theorem dX3_one_90 : decode cX3_one 90 = .ok (.putfield 152, 3) := dk_181 0 152 (dk_at dksX3_one_3 19 rfl rfl)
theorem dX3_one_93 : decode cX3_one 93 = .ok (.aload_n 0, 1) := dk_42 (dk_at dksX3_one_3 22 rfl rfl)
theorem dX3_one_94 : decode cX3_one 94 = .ok (.aload_n 0, 1) := dk_42 (dk_at dksX3_one_3 23 rfl rfl)
theorem dX3_one_95 : decode cX3_one 95 = .ok (.iload_n 1, 1) := dk_27 (dk_at dksX3_one_4 0 rfl rfl)
theorem dX3_one_96 : decode cX3_one 96 = .ok (.ldc 237, 2) := dk_18 237 (dk_at dksX3_one_4 1 rfl rfl)
theorem dX3_one_98 : decode cX3_one 98 = .ok (.invokevirtual 138, 3) := dk_182 0 138 (dk_at dksX3_one_4 3 rfl rfl)
theorem dX3_one_101 : decode cX3_one 101 = .ok (.ifCond .eq 8, 3) := dk_153 0 8 (dk_at dksX3_one_4 6 rfl rfl)
theorem dX3_one_104 : decode cX3_one 104 = .ok (.bipush 6, 2) := dk_16 6 (dk_at dksX3_one_4 9 rfl rfl)
theorem dX3_one_106 : decode cX3_one 106 = .ok (.goto 5, 3) := dk_167 0 5 (dk_at dksX3_one_4 11 rfl rfl)
theorem dX3_one_109 : decode cX3_one 109 = .ok (.bipush 7, 2) := dk_16 7 (dk_at dksX3_one_4 14 rfl rfl)
theorem dX3_one_111 : decode cX3_one 111 = .ok (.iconst (-1), 1) := dk_2 (dk_at dksX3_one_4 16 rfl rfl)
theorem dX3_one_112 : decode cX3_one 112 = .ok (.iconst (-1), 1) := dk_2 (dk_at dksX3_one_4 17 rfl rfl)
theorem dX3_one_113 : decode cX3_one 113 = .ok (.iconst (-1), 1) := dk_2 (dk_at dksX3_one_4 18 rfl rfl)
theorem dX3_one_114 : decode cX3_one 114 = .ok (.aload_n 0, 1) := dk_42 (dk_at dksX3_one_4 19 rfl rfl)
theorem dX3_one_115 : decode cX3_one 115 = .ok (.getfield 20, 3) := dk_180 0 20 (dk_at dksX3_one_4 20 rfl rfl)
theorem dX3_one_118 : decode cX3_one 118 = .ok (.iload_n 1, 1) := dk_27 (dk_at dksX3_one_4 23 rfl rfl)
theorem dX3_one_119 : decode cX3_one 119 = .ok (.iaload, 1) := dk_46 (dk_at dksX3_one_5 0 rfl rfl)
theorem dX3_one_120 : decode cX3_one 120 = .ok (.invokevirtual 319, 3) := dk_182 1 63 (dk_at dksX3_one_5 1 rfl rfl)
theorem dX3_one_123 : decode cX3_one 123 = .ok (.ireturn, 1) := dk_172 (dk_at dksX3_one_5 4 rfl rfl)
theorem dX3_one_124 : decode cX3_one 124 = .ok (.aload_n 0, 1) := dk_42 (dk_at dksX3_one_5 5 rfl rfl)
theorem dX3_one_125 : decode cX3_one 125 = .ok (.ldc 241, 2) := dk_18 241 (dk_at dksX3_one_5 6 rfl rfl)
theorem dX3_one_127 : decode cX3_one 127 = .ok (.invokevirtual 155, 3) := dk_182 0 155 (dk_at dksX3_one_5 8 rfl rfl)
theorem dX3_one_130 : decode cX3_one 130 = .ok (.ifCond .ne 9, 3) := dk_154 0 9 (dk_at dksX3_one_5 11 rfl rfl)
theorem dX3_one_133 : decode cX3_one 133 = .ok (.aload_n 0, 1) := dk_42 (dk_at dksX3_one_5 14 rfl rfl)
theorem dX3_one_134 : decode cX3_one 134 = .ok (.iload_n 1, 1) := dk_27 (dk_at dksX3_one_5 15 rfl rfl)
theorem dX3_one_135 : decode cX3_one 135 = .ok (.invokevirtual 340, 3) := dk_182 1 84 (dk_at dksX3_one_5 16 rfl rfl)
theorem dX3_one_138 : decode cX3_one 138 = .ok (.ireturn, 1) := dk_172 (dk_at dksX3_one_5 19 rfl rfl)
theorem dX3_one_139 : decode cX3_one 139 = .ok (.aload_n 0, 1) := dk_42 (dk_at dksX3_one_5 20 rfl rfl)
theorem dX3_one_140 : decode cX3_one 140 = .ok (.dup, 1) := dk_89 (dk_at dksX3_one_5 21 rfl rfl)
theorem dX3_one_141 : decode cX3_one 141 = .ok (.getfield 152, 3) := dk_180 0 152 (dk_at dksX3_one_6 0 rfl rfl)
theorem dX3_one_144 : decode cX3_one 144 = .ok (.iconst 1, 1) := dk_4 (dk_at dksX3_one_6 3 rfl rfl)
theorem dX3_one_145 : decode cX3_one 145 = .ok (.iadd, 1) := dk_96 (dk_at dksX3_one_6 4 rfl rfl)
theorem dX3_one_146 : decode cX3_one 146 = .ok (.putfield 152, 3) := dk_181 0 152 (dk_at dksX3_one_6 5 rfl rfl)
theorem dX3_one_149 : decode cX3_one 149 = .ok (.aload_n 0, 1) := dk_42 (dk_at dksX3_one_6 8 rfl rfl)
theorem dX3_one_150 : decode cX3_one 150 = .ok (.aload_n 0, 1) := dk_42 (dk_at dksX3_one_6 9 rfl rfl)
theorem dX3_one_151 : decode cX3_one 151 = .ok (.getfield 152, 3) := dk_180 0 152 (dk_at dksX3_one_6 10 rfl rfl)
theorem dX3_one_154 : decode cX3_one 154 = .ok (.invokevirtual 297, 3) := dk_182 1 41 (dk_at dksX3_one_6 13 rfl rfl)
theorem dX3_one_157 : decode cX3_one 157 = .ok (.istore_n 3, 1) := dk_62 (dk_at dksX3_one_6 16 rfl rfl)
theorem dX3_one_158 : decode cX3_one 158 = .ok (.iload_n 3, 1) := dk_29 (dk_at dksX3_one_6 17 rfl rfl)
theorem dX3_one_159 : decode cX3_one 159 = .ok (.iconst (-1), 1) := dk_2 (dk_at dksX3_one_6 18 rfl rfl)
theorem dX3_one_160 : decode cX3_one 160 = .ok (.if_icmp .eq 14, 3) := dk_159 0 14 (dk_at dksX3_one_6 19 rfl rfl)
theorem dX3_one_163 : decode cX3_one 163 = .ok (.aload_n 0, 1) := dk_42 (dk_at dksX3_one_6 22 rfl rfl)
theorem dX3_one_164 : decode cX3_one 164 = .ok (.getfield 55, 3) := dk_180 0 55 (dk_at dksX3_one_7 0 rfl rfl)
theorem dX3_one_167 : decode cX3_one 167 = .ok (.iload_n 3, 1) := dk_29 (dk_at dksX3_one_7 3 rfl rfl)
theorem dX3_one_168 : decode cX3_one 168 = .ok (.iaload, 1) := dk_46 (dk_at dksX3_one_7 4 rfl rfl)
theorem dX3_one_169 : decode cX3_one 169 = .ok (.iconst 2, 1) := dk_5 (dk_at dksX3_one_7 5 rfl rfl)
theorem dX3_one_170 : decode cX3_one 170 = .ok (.irem, 1) := dk_112 (dk_at dksX3_one_7 6 rfl rfl)
theorem dX3_one_171 : decode cX3_one 171 = .ok (.ifCond .ne 13, 3) := dk_154 0 13 (dk_at dksX3_one_7 7 rfl rfl)
theorem dX3_one_174 : decode cX3_one 174 = .ok (.aload_n 0, 1) := dk_42 (dk_at dksX3_one_7 10 rfl rfl)
theorem dX3_one_175 : decode cX3_one 175 = .ok (.iconst 2, 1) := dk_5 (dk_at dksX3_one_7 11 rfl rfl)
theorem dX3_one_176 : decode cX3_one 176 = .ok (.aload_n 0, 1) := dk_42 (dk_at dksX3_one_7 12 rfl rfl)
theorem dX3_one_177 : decode cX3_one 177 = .ok (.getfield 152, 3) := dk_180 0 152 (dk_at dksX3_one_7 13 rfl rfl)
theorem dX3_one_180 : decode cX3_one 180 = .ok (.invokevirtual 294, 3) := dk_182 1 38 (dk_at dksX3_one_7 16 rfl rfl)
theorem dX3_one_183 : decode cX3_one 183 = .ok (.ireturn, 1) := dk_172 (dk_at dksX3_one_7 19 rfl rfl)
theorem dX3_one_184 : decode cX3_one 184 = .ok (.aload_n 0, 1) := dk_42 (dk_at dksX3_one_7 20 rfl rfl)
theorem dX3_one_185 : decode cX3_one 185 = .ok (.dup, 1) := dk_89 (dk_at dksX3_one_7 21 rfl rfl)
theorem dX3_one_186 : decode cX3_one 186 = .ok (.getfield 152, 3) := dk_180 0 152 (dk_at dksX3_one_8 0 rfl rfl)
theorem dX3_one_189 : decode cX3_one 189 = .ok (.iconst 1, 1) := dk_4 (dk_at dksX3_one_8 3 rfl rfl)
theorem dX3_one_190 : decode cX3_one 190 = .ok (.iadd, 1) := dk_96 (dk_at dksX3_one_8 4 rfl rfl)
theorem dX3_one_191 : decode cX3_one 191 = .ok (.putfield 152, 3) := dk_181 0 152 (dk_at dksX3_one_8 5 rfl rfl)
theorem dX3_one_194 : decode cX3_one 194 = .ok (.aload_n 0, 1) := dk_42 (dk_at dksX3_one_8 8 rfl rfl)
theorem dX3_one_195 : decode cX3_one 195 = .ok (.bipush 8, 2) := dk_16 8 (dk_at dksX3_one_8 9 rfl rfl)
theorem dX3_one_197 : decode cX3_one 197 = .ok (.aload_n 0, 1) := dk_42 (dk_at dksX3_one_8 11 rfl rfl)
theorem dX3_one_198 : decode cX3_one 198 = .ok (.getfield 67, 3) := dk_180 0 67 (dk_at dksX3_one_8 12 rfl rfl)
theorem dX3_one_201 : decode cX3_one 201 = .ok (.bipush 12, 2) := dk_16 12 (dk_at dksX3_one_8 15 rfl rfl)
theorem dX3_one_203 : decode cX3_one 203 = .ok (.aload_n 0, 1) := dk_42 (dk_at dksX3_one_8 17 rfl rfl)
theorem dX3_one_204 : decode cX3_one 204 = .ok (.getfield 55, 3) := dk_180 0 55 (dk_at dksX3_one_8 18 rfl rfl)
theorem dX3_one_207 : decode cX3_one 207 = .ok (.iload_n 3, 1) := dk_29 (dk_at dksX3_one_8 21 rfl rfl)
theorem dX3_one_208 : decode cX3_one 208 = .ok (.iaload, 1) := dk_46 (dk_at dksX3_one_8 22 rfl rfl)
theorem dX3_one_209 : decode cX3_one 209 = .ok (.imul, 1) := dk_104 (dk_at dksX3_one_8 23 rfl rfl)
theorem dX3_one_210 : decode cX3_one 210 = .ok (.aload_n 0, 1) := dk_42 (dk_at dksX3_one_9 0 rfl rfl)
theorem dX3_one_211 : decode cX3_one 211 = .ok (.getfield 58, 3) := dk_180 0 58 (dk_at dksX3_one_9 1 rfl rfl)
theorem dX3_one_214 : decode cX3_one 214 = .ok (.iload_n 3, 1) := dk_29 (dk_at dksX3_one_9 4 rfl rfl)
theorem dX3_one_215 : decode cX3_one 215 = .ok (.iaload, 1) := dk_46 (dk_at dksX3_one_9 5 rfl rfl)
theorem dX3_one_216 : decode cX3_one 216 = .ok (.iadd, 1) := dk_96 (dk_at dksX3_one_9 6 rfl rfl)
theorem dX3_one_217 : decode cX3_one 217 = .ok (.iaload, 1) := dk_46 (dk_at dksX3_one_9 7 rfl rfl)
theorem dX3_one_218 : decode cX3_one 218 = .ok (.iconst (-1), 1) := dk_2 (dk_at dksX3_one_9 8 rfl rfl)
theorem dX3_one_219 : decode cX3_one 219 = .ok (.iconst (-1), 1) := dk_2 (dk_at dksX3_one_9 9 rfl rfl)
theorem dX3_one_220 : decode cX3_one 220 = .ok (.aload_n 0, 1) := dk_42 (dk_at dksX3_one_9 10 rfl rfl)
theorem dX3_one_221 : decode cX3_one 221 = .ok (.getfield 20, 3) := dk_180 0 20 (dk_at dksX3_one_9 11 rfl rfl)
theorem dX3_one_224 : decode cX3_one 224 = .ok (.iload_n 1, 1) := dk_27 (dk_at dksX3_one_9 14 rfl rfl)
theorem dX3_one_225 : decode cX3_one 225 = .ok (.iaload, 1) := dk_46 (dk_at dksX3_one_9 15 rfl rfl)
theorem dX3_one_226 : decode cX3_one 226 = .ok (.invokevirtual 319, 3) := dk_182 1 63 (dk_at dksX3_one_9 16 rfl rfl)
theorem dX3_one_229 : decode cX3_one 229 = .ok (.ireturn, 1) := dk_172 (dk_at dksX3_one_9 19 rfl rfl)
abbrev cX3_fronted : ByteArray := prog_34_method_43_code
def yX3_fronted : MethodName := ⟨RX3, "fronted", "(II)I"⟩
def dkwX3_fronted_4 : List UInt8 := [21, 4, 79, 42, 180, 0, 41, 42, 180, 1, 53, 21, 5, 79, 3, 172]
abbrev dktX3_fronted_4 : List UInt8 := dkwX3_fronted_4 ++ []
def dkwX3_fronted_3 : List UInt8 := [180, 1, 53, 2, 2, 42, 180, 0, 20, 27, 46, 182, 1, 63, 87, 42, 180, 0, 38, 42, 180, 1, 53]
abbrev dktX3_fronted_3 : List UInt8 := dkwX3_fronted_3 ++ dktX3_fronted_4
def dkwX3_fronted_2 : List UInt8 := [42, 180, 1, 72, 54, 5, 29, 154, 0, 8, 42, 182, 1, 75, 62, 29, 153, 0, 5, 29, 172, 42, 28, 42]
abbrev dktX3_fronted_2 : List UInt8 := dkwX3_fronted_2 ++ dktX3_fronted_3
def dkwX3_fronted_1 : List UInt8 := [28, 7, 162, 0, 7, 3, 167, 0, 7, 42, 180, 1, 69, 54, 4, 28, 7, 162, 0, 7, 2, 167, 0, 7]
abbrev dktX3_fronted_1 : List UInt8 := dkwX3_fronted_1 ++ dktX3_fronted_2
def dkwX3_fronted_0 : List UInt8 := [42, 89, 180, 0, 152, 4, 96, 181, 0, 152, 28, 7, 162, 0, 7, 3, 167, 0, 7, 42, 182, 1, 78, 62]
abbrev dktX3_fronted_0 : List UInt8 := dkwX3_fronted_0 ++ dktX3_fronted_1
theorem dksX3_fronted_0 : cX3_fronted.data.toList.drop 0 = dktX3_fronted_0 := by decide +kernel
theorem dksX3_fronted_1 : cX3_fronted.data.toList.drop 24 = dktX3_fronted_1 := dk_seg dksX3_fronted_0 24 rfl rfl
theorem dksX3_fronted_2 : cX3_fronted.data.toList.drop 48 = dktX3_fronted_2 := dk_seg dksX3_fronted_1 24 rfl rfl
theorem dksX3_fronted_3 : cX3_fronted.data.toList.drop 72 = dktX3_fronted_3 := dk_seg dksX3_fronted_2 24 rfl rfl
theorem dksX3_fronted_4 : cX3_fronted.data.toList.drop 95 = dktX3_fronted_4 := dk_seg dksX3_fronted_3 23 rfl rfl
theorem dX3_fronted_0 : decode cX3_fronted 0 = .ok (.aload_n 0, 1) := dk_42 (dk_at dksX3_fronted_0 0 rfl rfl)
theorem dX3_fronted_1 : decode cX3_fronted 1 = .ok (.dup, 1) := dk_89 (dk_at dksX3_fronted_0 1 rfl rfl)
theorem dX3_fronted_2 : decode cX3_fronted 2 = .ok (.getfield 152, 3) := dk_180 0 152 (dk_at dksX3_fronted_0 2 rfl rfl)
theorem dX3_fronted_5 : decode cX3_fronted 5 = .ok (.iconst 1, 1) := dk_4 (dk_at dksX3_fronted_0 5 rfl rfl)
theorem dX3_fronted_6 : decode cX3_fronted 6 = .ok (.iadd, 1) := dk_96 (dk_at dksX3_fronted_0 6 rfl rfl)
theorem dX3_fronted_7 : decode cX3_fronted 7 = .ok (.putfield 152, 3) := dk_181 0 152 (dk_at dksX3_fronted_0 7 rfl rfl)
theorem dX3_fronted_10 : decode cX3_fronted 10 = .ok (.iload_n 2, 1) := dk_28 (dk_at dksX3_fronted_0 10 rfl rfl)
theorem dX3_fronted_11 : decode cX3_fronted 11 = .ok (.iconst 4, 1) := dk_7 (dk_at dksX3_fronted_0 11 rfl rfl)
theorem dX3_fronted_12 : decode cX3_fronted 12 = .ok (.if_icmp .ge 7, 3) := dk_162 0 7 (dk_at dksX3_fronted_0 12 rfl rfl)
theorem dX3_fronted_15 : decode cX3_fronted 15 = .ok (.iconst 0, 1) := dk_3 (dk_at dksX3_fronted_0 15 rfl rfl)
theorem dX3_fronted_16 : decode cX3_fronted 16 = .ok (.goto 7, 3) := dk_167 0 7 (dk_at dksX3_fronted_0 16 rfl rfl)
theorem dX3_fronted_19 : decode cX3_fronted 19 = .ok (.aload_n 0, 1) := dk_42 (dk_at dksX3_fronted_0 19 rfl rfl)
theorem dX3_fronted_20 : decode cX3_fronted 20 = .ok (.invokevirtual 334, 3) := dk_182 1 78 (dk_at dksX3_fronted_0 20 rfl rfl)
theorem dX3_fronted_23 : decode cX3_fronted 23 = .ok (.istore_n 3, 1) := dk_62 (dk_at dksX3_fronted_0 23 rfl rfl)
theorem dX3_fronted_24 : decode cX3_fronted 24 = .ok (.iload_n 2, 1) := dk_28 (dk_at dksX3_fronted_1 0 rfl rfl)
theorem dX3_fronted_25 : decode cX3_fronted 25 = .ok (.iconst 4, 1) := dk_7 (dk_at dksX3_fronted_1 1 rfl rfl)
theorem dX3_fronted_26 : decode cX3_fronted 26 = .ok (.if_icmp .ge 7, 3) := dk_162 0 7 (dk_at dksX3_fronted_1 2 rfl rfl)
theorem dX3_fronted_29 : decode cX3_fronted 29 = .ok (.iconst 0, 1) := dk_3 (dk_at dksX3_fronted_1 5 rfl rfl)
theorem dX3_fronted_30 : decode cX3_fronted 30 = .ok (.goto 7, 3) := dk_167 0 7 (dk_at dksX3_fronted_1 6 rfl rfl)
theorem dX3_fronted_33 : decode cX3_fronted 33 = .ok (.aload_n 0, 1) := dk_42 (dk_at dksX3_fronted_1 9 rfl rfl)
theorem dX3_fronted_34 : decode cX3_fronted 34 = .ok (.getfield 325, 3) := dk_180 1 69 (dk_at dksX3_fronted_1 10 rfl rfl)
theorem dX3_fronted_37 : decode cX3_fronted 37 = .ok (.istore 4, 2) := dk_54 4 (dk_at dksX3_fronted_1 13 rfl rfl)
theorem dX3_fronted_39 : decode cX3_fronted 39 = .ok (.iload_n 2, 1) := dk_28 (dk_at dksX3_fronted_1 15 rfl rfl)
theorem dX3_fronted_40 : decode cX3_fronted 40 = .ok (.iconst 4, 1) := dk_7 (dk_at dksX3_fronted_1 16 rfl rfl)
theorem dX3_fronted_41 : decode cX3_fronted 41 = .ok (.if_icmp .ge 7, 3) := dk_162 0 7 (dk_at dksX3_fronted_1 17 rfl rfl)
theorem dX3_fronted_44 : decode cX3_fronted 44 = .ok (.iconst (-1), 1) := dk_2 (dk_at dksX3_fronted_1 20 rfl rfl)
theorem dX3_fronted_45 : decode cX3_fronted 45 = .ok (.goto 7, 3) := dk_167 0 7 (dk_at dksX3_fronted_1 21 rfl rfl)
theorem dX3_fronted_48 : decode cX3_fronted 48 = .ok (.aload_n 0, 1) := dk_42 (dk_at dksX3_fronted_2 0 rfl rfl)
theorem dX3_fronted_49 : decode cX3_fronted 49 = .ok (.getfield 328, 3) := dk_180 1 72 (dk_at dksX3_fronted_2 1 rfl rfl)
theorem dX3_fronted_52 : decode cX3_fronted 52 = .ok (.istore 5, 2) := dk_54 5 (dk_at dksX3_fronted_2 4 rfl rfl)
theorem dX3_fronted_54 : decode cX3_fronted 54 = .ok (.iload_n 3, 1) := dk_29 (dk_at dksX3_fronted_2 6 rfl rfl)
theorem dX3_fronted_55 : decode cX3_fronted 55 = .ok (.ifCond .ne 8, 3) := dk_154 0 8 (dk_at dksX3_fronted_2 7 rfl rfl)
theorem dX3_fronted_58 : decode cX3_fronted 58 = .ok (.aload_n 0, 1) := dk_42 (dk_at dksX3_fronted_2 10 rfl rfl)
theorem dX3_fronted_59 : decode cX3_fronted 59 = .ok (.invokevirtual 331, 3) := dk_182 1 75 (dk_at dksX3_fronted_2 11 rfl rfl)
theorem dX3_fronted_62 : decode cX3_fronted 62 = .ok (.istore_n 3, 1) := dk_62 (dk_at dksX3_fronted_2 14 rfl rfl)
theorem dX3_fronted_63 : decode cX3_fronted 63 = .ok (.iload_n 3, 1) := dk_29 (dk_at dksX3_fronted_2 15 rfl rfl)
theorem dX3_fronted_64 : decode cX3_fronted 64 = .ok (.ifCond .eq 5, 3) := dk_153 0 5 (dk_at dksX3_fronted_2 16 rfl rfl)
theorem dX3_fronted_67 : decode cX3_fronted 67 = .ok (.iload_n 3, 1) := dk_29 (dk_at dksX3_fronted_2 19 rfl rfl)
theorem dX3_fronted_68 : decode cX3_fronted 68 = .ok (.ireturn, 1) := dk_172 (dk_at dksX3_fronted_2 20 rfl rfl)
theorem dX3_fronted_69 : decode cX3_fronted 69 = .ok (.aload_n 0, 1) := dk_42 (dk_at dksX3_fronted_2 21 rfl rfl)
theorem dX3_fronted_70 : decode cX3_fronted 70 = .ok (.iload_n 2, 1) := dk_28 (dk_at dksX3_fronted_2 22 rfl rfl)
theorem dX3_fronted_71 : decode cX3_fronted 71 = .ok (.aload_n 0, 1) := dk_42 (dk_at dksX3_fronted_2 23 rfl rfl)
theorem dX3_fronted_72 : decode cX3_fronted 72 = .ok (.getfield 309, 3) := dk_180 1 53 (dk_at dksX3_fronted_3 0 rfl rfl)
theorem dX3_fronted_75 : decode cX3_fronted 75 = .ok (.iconst (-1), 1) := dk_2 (dk_at dksX3_fronted_3 3 rfl rfl)
theorem dX3_fronted_76 : decode cX3_fronted 76 = .ok (.iconst (-1), 1) := dk_2 (dk_at dksX3_fronted_3 4 rfl rfl)
theorem dX3_fronted_77 : decode cX3_fronted 77 = .ok (.aload_n 0, 1) := dk_42 (dk_at dksX3_fronted_3 5 rfl rfl)
theorem dX3_fronted_78 : decode cX3_fronted 78 = .ok (.getfield 20, 3) := dk_180 0 20 (dk_at dksX3_fronted_3 6 rfl rfl)
theorem dX3_fronted_81 : decode cX3_fronted 81 = .ok (.iload_n 1, 1) := dk_27 (dk_at dksX3_fronted_3 9 rfl rfl)
theorem dX3_fronted_82 : decode cX3_fronted 82 = .ok (.iaload, 1) := dk_46 (dk_at dksX3_fronted_3 10 rfl rfl)
theorem dX3_fronted_83 : decode cX3_fronted 83 = .ok (.invokevirtual 319, 3) := dk_182 1 63 (dk_at dksX3_fronted_3 11 rfl rfl)
theorem dX3_fronted_86 : decode cX3_fronted 86 = .ok (.pop, 1) := dk_87 (dk_at dksX3_fronted_3 14 rfl rfl)
theorem dX3_fronted_87 : decode cX3_fronted 87 = .ok (.aload_n 0, 1) := dk_42 (dk_at dksX3_fronted_3 15 rfl rfl)
theorem dX3_fronted_88 : decode cX3_fronted 88 = .ok (.getfield 38, 3) := dk_180 0 38 (dk_at dksX3_fronted_3 16 rfl rfl)
theorem dX3_fronted_91 : decode cX3_fronted 91 = .ok (.aload_n 0, 1) := dk_42 (dk_at dksX3_fronted_3 19 rfl rfl)
theorem dX3_fronted_92 : decode cX3_fronted 92 = .ok (.getfield 309, 3) := dk_180 1 53 (dk_at dksX3_fronted_3 20 rfl rfl)
theorem dX3_fronted_95 : decode cX3_fronted 95 = .ok (.iload 4, 2) := dk_21 4 (dk_at dksX3_fronted_4 0 rfl rfl)
theorem dX3_fronted_97 : decode cX3_fronted 97 = .ok (.iastore, 1) := dk_79 (dk_at dksX3_fronted_4 2 rfl rfl)
theorem dX3_fronted_98 : decode cX3_fronted 98 = .ok (.aload_n 0, 1) := dk_42 (dk_at dksX3_fronted_4 3 rfl rfl)
theorem dX3_fronted_99 : decode cX3_fronted 99 = .ok (.getfield 41, 3) := dk_180 0 41 (dk_at dksX3_fronted_4 4 rfl rfl)
theorem dX3_fronted_102 : decode cX3_fronted 102 = .ok (.aload_n 0, 1) := dk_42 (dk_at dksX3_fronted_4 7 rfl rfl)
theorem dX3_fronted_103 : decode cX3_fronted 103 = .ok (.getfield 309, 3) := dk_180 1 53 (dk_at dksX3_fronted_4 8 rfl rfl)
theorem dX3_fronted_106 : decode cX3_fronted 106 = .ok (.iload 5, 2) := dk_21 5 (dk_at dksX3_fronted_4 11 rfl rfl)
theorem dX3_fronted_108 : decode cX3_fronted 108 = .ok (.iastore, 1) := dk_79 (dk_at dksX3_fronted_4 13 rfl rfl)
theorem dX3_fronted_109 : decode cX3_fronted 109 = .ok (.iconst 0, 1) := dk_3 (dk_at dksX3_fronted_4 14 rfl rfl)
theorem dX3_fronted_110 : decode cX3_fronted 110 = .ok (.ireturn, 1) := dk_172 (dk_at dksX3_fronted_4 15 rfl rfl)
abbrev cX3_bounds : ByteArray := prog_34_method_40_code
def yX3_bounds : MethodName := ⟨RX3, "bounds", "()I"⟩
def dkwX3_bounds_5 : List UInt8 := [42, 42, 180, 0, 152, 182, 1, 44, 181, 1, 72, 42, 89, 180, 0, 152, 5, 96, 181, 0, 152, 3, 172]
abbrev dktX3_bounds_5 : List UInt8 := dkwX3_bounds_5 ++ []
def dkwX3_bounds_4 : List UInt8 := [180, 0, 152, 182, 1, 44, 42, 180, 1, 69, 162, 0, 13, 42, 8, 42, 180, 0, 152, 182, 1, 38, 172, 42]
abbrev dktX3_bounds_4 : List UInt8 := dkwX3_bounds_4 ++ dktX3_bounds_5
def dkwX3_bounds_3 : List UInt8 := [180, 0, 152, 5, 96, 181, 0, 152, 42, 42, 180, 0, 152, 182, 1, 44, 17, 3, 232, 163, 0, 18, 42, 42]
abbrev dktX3_bounds_3 : List UInt8 := dkwX3_bounds_3 ++ dktX3_bounds_4
def dkwX3_bounds_2 : List UInt8 := [42, 180, 0, 152, 182, 1, 38, 172, 42, 42, 42, 180, 0, 152, 182, 1, 44, 181, 1, 69, 42, 89]
abbrev dktX3_bounds_2 : List UInt8 := dkwX3_bounds_2 ++ dktX3_bounds_3
def dkwX3_bounds_1 : List UInt8 := [180, 0, 152, 4, 96, 181, 0, 152, 42, 42, 180, 0, 152, 182, 1, 44, 17, 3, 232, 164, 0, 13, 42, 8]
abbrev dktX3_bounds_1 : List UInt8 := dkwX3_bounds_1 ++ dktX3_bounds_2
def dkwX3_bounds_0 : List UInt8 := [42, 3, 181, 1, 69, 42, 2, 181, 1, 72, 42, 18, 224, 182, 0, 155, 154, 0, 5, 3, 172, 42, 89]
abbrev dktX3_bounds_0 : List UInt8 := dkwX3_bounds_0 ++ dktX3_bounds_1
theorem dksX3_bounds_0 : cX3_bounds.data.toList.drop 0 = dktX3_bounds_0 := by decide +kernel
theorem dksX3_bounds_1 : cX3_bounds.data.toList.drop 23 = dktX3_bounds_1 := dk_seg dksX3_bounds_0 23 rfl rfl
theorem dksX3_bounds_2 : cX3_bounds.data.toList.drop 47 = dktX3_bounds_2 := dk_seg dksX3_bounds_1 24 rfl rfl
theorem dksX3_bounds_3 : cX3_bounds.data.toList.drop 69 = dktX3_bounds_3 := dk_seg dksX3_bounds_2 22 rfl rfl
theorem dksX3_bounds_4 : cX3_bounds.data.toList.drop 93 = dktX3_bounds_4 := dk_seg dksX3_bounds_3 24 rfl rfl
theorem dksX3_bounds_5 : cX3_bounds.data.toList.drop 117 = dktX3_bounds_5 := dk_seg dksX3_bounds_4 24 rfl rfl
theorem dX3_bounds_0 : decode cX3_bounds 0 = .ok (.aload_n 0, 1) := dk_42 (dk_at dksX3_bounds_0 0 rfl rfl)
theorem dX3_bounds_1 : decode cX3_bounds 1 = .ok (.iconst 0, 1) := dk_3 (dk_at dksX3_bounds_0 1 rfl rfl)
theorem dX3_bounds_2 : decode cX3_bounds 2 = .ok (.putfield 325, 3) := dk_181 1 69 (dk_at dksX3_bounds_0 2 rfl rfl)
theorem dX3_bounds_5 : decode cX3_bounds 5 = .ok (.aload_n 0, 1) := dk_42 (dk_at dksX3_bounds_0 5 rfl rfl)
theorem dX3_bounds_6 : decode cX3_bounds 6 = .ok (.iconst (-1), 1) := dk_2 (dk_at dksX3_bounds_0 6 rfl rfl)
theorem dX3_bounds_7 : decode cX3_bounds 7 = .ok (.putfield 328, 3) := dk_181 1 72 (dk_at dksX3_bounds_0 7 rfl rfl)
theorem dX3_bounds_10 : decode cX3_bounds 10 = .ok (.aload_n 0, 1) := dk_42 (dk_at dksX3_bounds_0 10 rfl rfl)
theorem dX3_bounds_11 : decode cX3_bounds 11 = .ok (.ldc 224, 2) := dk_18 224 (dk_at dksX3_bounds_0 11 rfl rfl)
theorem dX3_bounds_13 : decode cX3_bounds 13 = .ok (.invokevirtual 155, 3) := dk_182 0 155 (dk_at dksX3_bounds_0 13 rfl rfl)
theorem dX3_bounds_16 : decode cX3_bounds 16 = .ok (.ifCond .ne 5, 3) := dk_154 0 5 (dk_at dksX3_bounds_0 16 rfl rfl)
theorem dX3_bounds_19 : decode cX3_bounds 19 = .ok (.iconst 0, 1) := dk_3 (dk_at dksX3_bounds_0 19 rfl rfl)
theorem dX3_bounds_20 : decode cX3_bounds 20 = .ok (.ireturn, 1) := dk_172 (dk_at dksX3_bounds_0 20 rfl rfl)
theorem dX3_bounds_21 : decode cX3_bounds 21 = .ok (.aload_n 0, 1) := dk_42 (dk_at dksX3_bounds_0 21 rfl rfl)
theorem dX3_bounds_22 : decode cX3_bounds 22 = .ok (.dup, 1) := dk_89 (dk_at dksX3_bounds_0 22 rfl rfl)
theorem dX3_bounds_23 : decode cX3_bounds 23 = .ok (.getfield 152, 3) := dk_180 0 152 (dk_at dksX3_bounds_1 0 rfl rfl)
theorem dX3_bounds_26 : decode cX3_bounds 26 = .ok (.iconst 1, 1) := dk_4 (dk_at dksX3_bounds_1 3 rfl rfl)
theorem dX3_bounds_27 : decode cX3_bounds 27 = .ok (.iadd, 1) := dk_96 (dk_at dksX3_bounds_1 4 rfl rfl)
theorem dX3_bounds_28 : decode cX3_bounds 28 = .ok (.putfield 152, 3) := dk_181 0 152 (dk_at dksX3_bounds_1 5 rfl rfl)
theorem dX3_bounds_31 : decode cX3_bounds 31 = .ok (.aload_n 0, 1) := dk_42 (dk_at dksX3_bounds_1 8 rfl rfl)
theorem dX3_bounds_32 : decode cX3_bounds 32 = .ok (.aload_n 0, 1) := dk_42 (dk_at dksX3_bounds_1 9 rfl rfl)
theorem dX3_bounds_33 : decode cX3_bounds 33 = .ok (.getfield 152, 3) := dk_180 0 152 (dk_at dksX3_bounds_1 10 rfl rfl)
theorem dX3_bounds_36 : decode cX3_bounds 36 = .ok (.invokevirtual 300, 3) := dk_182 1 44 (dk_at dksX3_bounds_1 13 rfl rfl)
theorem dX3_bounds_39 : decode cX3_bounds 39 = .ok (.sipush 1000, 3) := dk_17 3 232 (dk_at dksX3_bounds_1 16 rfl rfl)
theorem dX3_bounds_42 : decode cX3_bounds 42 = .ok (.if_icmp .le 13, 3) := dk_164 0 13 (dk_at dksX3_bounds_1 19 rfl rfl)
theorem dX3_bounds_45 : decode cX3_bounds 45 = .ok (.aload_n 0, 1) := dk_42 (dk_at dksX3_bounds_1 22 rfl rfl)
theorem dX3_bounds_46 : decode cX3_bounds 46 = .ok (.iconst 5, 1) := dk_8 (dk_at dksX3_bounds_1 23 rfl rfl)
theorem dX3_bounds_47 : decode cX3_bounds 47 = .ok (.aload_n 0, 1) := dk_42 (dk_at dksX3_bounds_2 0 rfl rfl)
theorem dX3_bounds_48 : decode cX3_bounds 48 = .ok (.getfield 152, 3) := dk_180 0 152 (dk_at dksX3_bounds_2 1 rfl rfl)
theorem dX3_bounds_51 : decode cX3_bounds 51 = .ok (.invokevirtual 294, 3) := dk_182 1 38 (dk_at dksX3_bounds_2 4 rfl rfl)
theorem dX3_bounds_54 : decode cX3_bounds 54 = .ok (.ireturn, 1) := dk_172 (dk_at dksX3_bounds_2 7 rfl rfl)
theorem dX3_bounds_55 : decode cX3_bounds 55 = .ok (.aload_n 0, 1) := dk_42 (dk_at dksX3_bounds_2 8 rfl rfl)
theorem dX3_bounds_56 : decode cX3_bounds 56 = .ok (.aload_n 0, 1) := dk_42 (dk_at dksX3_bounds_2 9 rfl rfl)
theorem dX3_bounds_57 : decode cX3_bounds 57 = .ok (.aload_n 0, 1) := dk_42 (dk_at dksX3_bounds_2 10 rfl rfl)
theorem dX3_bounds_58 : decode cX3_bounds 58 = .ok (.getfield 152, 3) := dk_180 0 152 (dk_at dksX3_bounds_2 11 rfl rfl)
theorem dX3_bounds_61 : decode cX3_bounds 61 = .ok (.invokevirtual 300, 3) := dk_182 1 44 (dk_at dksX3_bounds_2 14 rfl rfl)
theorem dX3_bounds_64 : decode cX3_bounds 64 = .ok (.putfield 325, 3) := dk_181 1 69 (dk_at dksX3_bounds_2 17 rfl rfl)
theorem dX3_bounds_67 : decode cX3_bounds 67 = .ok (.aload_n 0, 1) := dk_42 (dk_at dksX3_bounds_2 20 rfl rfl)
theorem dX3_bounds_68 : decode cX3_bounds 68 = .ok (.dup, 1) := dk_89 (dk_at dksX3_bounds_2 21 rfl rfl)
theorem dX3_bounds_69 : decode cX3_bounds 69 = .ok (.getfield 152, 3) := dk_180 0 152 (dk_at dksX3_bounds_3 0 rfl rfl)
theorem dX3_bounds_72 : decode cX3_bounds 72 = .ok (.iconst 2, 1) := dk_5 (dk_at dksX3_bounds_3 3 rfl rfl)
theorem dX3_bounds_73 : decode cX3_bounds 73 = .ok (.iadd, 1) := dk_96 (dk_at dksX3_bounds_3 4 rfl rfl)
theorem dX3_bounds_74 : decode cX3_bounds 74 = .ok (.putfield 152, 3) := dk_181 0 152 (dk_at dksX3_bounds_3 5 rfl rfl)
theorem dX3_bounds_77 : decode cX3_bounds 77 = .ok (.aload_n 0, 1) := dk_42 (dk_at dksX3_bounds_3 8 rfl rfl)
theorem dX3_bounds_78 : decode cX3_bounds 78 = .ok (.aload_n 0, 1) := dk_42 (dk_at dksX3_bounds_3 9 rfl rfl)
theorem dX3_bounds_79 : decode cX3_bounds 79 = .ok (.getfield 152, 3) := dk_180 0 152 (dk_at dksX3_bounds_3 10 rfl rfl)
theorem dX3_bounds_82 : decode cX3_bounds 82 = .ok (.invokevirtual 300, 3) := dk_182 1 44 (dk_at dksX3_bounds_3 13 rfl rfl)
theorem dX3_bounds_85 : decode cX3_bounds 85 = .ok (.sipush 1000, 3) := dk_17 3 232 (dk_at dksX3_bounds_3 16 rfl rfl)
theorem dX3_bounds_88 : decode cX3_bounds 88 = .ok (.if_icmp .gt 18, 3) := dk_163 0 18 (dk_at dksX3_bounds_3 19 rfl rfl)
theorem dX3_bounds_91 : decode cX3_bounds 91 = .ok (.aload_n 0, 1) := dk_42 (dk_at dksX3_bounds_3 22 rfl rfl)
theorem dX3_bounds_92 : decode cX3_bounds 92 = .ok (.aload_n 0, 1) := dk_42 (dk_at dksX3_bounds_3 23 rfl rfl)
theorem dX3_bounds_93 : decode cX3_bounds 93 = .ok (.getfield 152, 3) := dk_180 0 152 (dk_at dksX3_bounds_4 0 rfl rfl)
theorem dX3_bounds_96 : decode cX3_bounds 96 = .ok (.invokevirtual 300, 3) := dk_182 1 44 (dk_at dksX3_bounds_4 3 rfl rfl)
theorem dX3_bounds_99 : decode cX3_bounds 99 = .ok (.aload_n 0, 1) := dk_42 (dk_at dksX3_bounds_4 6 rfl rfl)
theorem dX3_bounds_100 : decode cX3_bounds 100 = .ok (.getfield 325, 3) := dk_180 1 69 (dk_at dksX3_bounds_4 7 rfl rfl)
theorem dX3_bounds_103 : decode cX3_bounds 103 = .ok (.if_icmp .ge 13, 3) := dk_162 0 13 (dk_at dksX3_bounds_4 10 rfl rfl)
theorem dX3_bounds_106 : decode cX3_bounds 106 = .ok (.aload_n 0, 1) := dk_42 (dk_at dksX3_bounds_4 13 rfl rfl)
theorem dX3_bounds_107 : decode cX3_bounds 107 = .ok (.iconst 5, 1) := dk_8 (dk_at dksX3_bounds_4 14 rfl rfl)
theorem dX3_bounds_108 : decode cX3_bounds 108 = .ok (.aload_n 0, 1) := dk_42 (dk_at dksX3_bounds_4 15 rfl rfl)
theorem dX3_bounds_109 : decode cX3_bounds 109 = .ok (.getfield 152, 3) := dk_180 0 152 (dk_at dksX3_bounds_4 16 rfl rfl)
theorem dX3_bounds_112 : decode cX3_bounds 112 = .ok (.invokevirtual 294, 3) := dk_182 1 38 (dk_at dksX3_bounds_4 19 rfl rfl)
theorem dX3_bounds_115 : decode cX3_bounds 115 = .ok (.ireturn, 1) := dk_172 (dk_at dksX3_bounds_4 22 rfl rfl)
theorem dX3_bounds_116 : decode cX3_bounds 116 = .ok (.aload_n 0, 1) := dk_42 (dk_at dksX3_bounds_4 23 rfl rfl)
theorem dX3_bounds_117 : decode cX3_bounds 117 = .ok (.aload_n 0, 1) := dk_42 (dk_at dksX3_bounds_5 0 rfl rfl)
theorem dX3_bounds_118 : decode cX3_bounds 118 = .ok (.aload_n 0, 1) := dk_42 (dk_at dksX3_bounds_5 1 rfl rfl)
theorem dX3_bounds_119 : decode cX3_bounds 119 = .ok (.getfield 152, 3) := dk_180 0 152 (dk_at dksX3_bounds_5 2 rfl rfl)
theorem dX3_bounds_122 : decode cX3_bounds 122 = .ok (.invokevirtual 300, 3) := dk_182 1 44 (dk_at dksX3_bounds_5 5 rfl rfl)
theorem dX3_bounds_125 : decode cX3_bounds 125 = .ok (.putfield 328, 3) := dk_181 1 72 (dk_at dksX3_bounds_5 8 rfl rfl)
theorem dX3_bounds_128 : decode cX3_bounds 128 = .ok (.aload_n 0, 1) := dk_42 (dk_at dksX3_bounds_5 11 rfl rfl)
theorem dX3_bounds_129 : decode cX3_bounds 129 = .ok (.dup, 1) := dk_89 (dk_at dksX3_bounds_5 12 rfl rfl)
theorem dX3_bounds_130 : decode cX3_bounds 130 = .ok (.getfield 152, 3) := dk_180 0 152 (dk_at dksX3_bounds_5 13 rfl rfl)
theorem dX3_bounds_133 : decode cX3_bounds 133 = .ok (.iconst 2, 1) := dk_5 (dk_at dksX3_bounds_5 16 rfl rfl)
theorem dX3_bounds_134 : decode cX3_bounds 134 = .ok (.iadd, 1) := dk_96 (dk_at dksX3_bounds_5 17 rfl rfl)
theorem dX3_bounds_135 : decode cX3_bounds 135 = .ok (.putfield 152, 3) := dk_181 0 152 (dk_at dksX3_bounds_5 18 rfl rfl)
theorem dX3_bounds_138 : decode cX3_bounds 138 = .ok (.iconst 0, 1) := dk_3 (dk_at dksX3_bounds_5 21 rfl rfl)
theorem dX3_bounds_139 : decode cX3_bounds 139 = .ok (.ireturn, 1) := dk_172 (dk_at dksX3_bounds_5 22 rfl rfl)
abbrev cX3_compare : ByteArray := prog_34_method_44_code
def yX3_compare : MethodName := ⟨RX3, "compare", "(I)I"⟩
def dkwX3_compare_2 : List UInt8 := [28, 172, 42, 16, 9, 29, 42, 180, 1, 53, 21, 4, 42, 180, 0, 20, 27, 46, 182, 1, 63, 172]
abbrev dktX3_compare_2 : List UInt8 := dkwX3_compare_2 ++ []
def dkwX3_compare_1 : List UInt8 := [182, 0, 146, 54, 4, 42, 89, 180, 0, 152, 4, 96, 181, 0, 152, 42, 182, 1, 47, 61, 28, 153, 0, 5]
abbrev dktX3_compare_1 : List UInt8 := dkwX3_compare_1 ++ dktX3_compare_2
def dkwX3_compare_0 : List UInt8 := [42, 182, 1, 47, 61, 28, 153, 0, 5, 28, 172, 42, 180, 1, 53, 62, 42, 42, 180, 0, 152, 178, 0, 242]
abbrev dktX3_compare_0 : List UInt8 := dkwX3_compare_0 ++ dktX3_compare_1
theorem dksX3_compare_0 : cX3_compare.data.toList.drop 0 = dktX3_compare_0 := by decide +kernel
theorem dksX3_compare_1 : cX3_compare.data.toList.drop 24 = dktX3_compare_1 := dk_seg dksX3_compare_0 24 rfl rfl
theorem dksX3_compare_2 : cX3_compare.data.toList.drop 48 = dktX3_compare_2 := dk_seg dksX3_compare_1 24 rfl rfl
theorem dX3_compare_0 : decode cX3_compare 0 = .ok (.aload_n 0, 1) := dk_42 (dk_at dksX3_compare_0 0 rfl rfl)
theorem dX3_compare_1 : decode cX3_compare 1 = .ok (.invokevirtual 303, 3) := dk_182 1 47 (dk_at dksX3_compare_0 1 rfl rfl)
theorem dX3_compare_4 : decode cX3_compare 4 = .ok (.istore_n 2, 1) := dk_61 (dk_at dksX3_compare_0 4 rfl rfl)
theorem dX3_compare_5 : decode cX3_compare 5 = .ok (.iload_n 2, 1) := dk_28 (dk_at dksX3_compare_0 5 rfl rfl)
theorem dX3_compare_6 : decode cX3_compare 6 = .ok (.ifCond .eq 5, 3) := dk_153 0 5 (dk_at dksX3_compare_0 6 rfl rfl)
theorem dX3_compare_9 : decode cX3_compare 9 = .ok (.iload_n 2, 1) := dk_28 (dk_at dksX3_compare_0 9 rfl rfl)
theorem dX3_compare_10 : decode cX3_compare 10 = .ok (.ireturn, 1) := dk_172 (dk_at dksX3_compare_0 10 rfl rfl)
theorem dX3_compare_11 : decode cX3_compare 11 = .ok (.aload_n 0, 1) := dk_42 (dk_at dksX3_compare_0 11 rfl rfl)
theorem dX3_compare_12 : decode cX3_compare 12 = .ok (.getfield 309, 3) := dk_180 1 53 (dk_at dksX3_compare_0 12 rfl rfl)
theorem dX3_compare_15 : decode cX3_compare 15 = .ok (.istore_n 3, 1) := dk_62 (dk_at dksX3_compare_0 15 rfl rfl)
theorem dX3_compare_16 : decode cX3_compare 16 = .ok (.aload_n 0, 1) := dk_42 (dk_at dksX3_compare_0 16 rfl rfl)
theorem dX3_compare_17 : decode cX3_compare 17 = .ok (.aload_n 0, 1) := dk_42 (dk_at dksX3_compare_0 17 rfl rfl)
theorem dX3_compare_18 : decode cX3_compare 18 = .ok (.getfield 152, 3) := dk_180 0 152 (dk_at dksX3_compare_0 18 rfl rfl)
theorem dX3_compare_21 : decode cX3_compare 21 = .ok (.getstatic 242, 3) := dk_178 0 242 (dk_at dksX3_compare_0 21 rfl rfl)
theorem dX3_compare_24 : decode cX3_compare 24 = .ok (.invokevirtual 146, 3) := dk_182 0 146 (dk_at dksX3_compare_1 0 rfl rfl)
theorem dX3_compare_27 : decode cX3_compare 27 = .ok (.istore 4, 2) := dk_54 4 (dk_at dksX3_compare_1 3 rfl rfl)
theorem dX3_compare_29 : decode cX3_compare 29 = .ok (.aload_n 0, 1) := dk_42 (dk_at dksX3_compare_1 5 rfl rfl)
theorem dX3_compare_30 : decode cX3_compare 30 = .ok (.dup, 1) := dk_89 (dk_at dksX3_compare_1 6 rfl rfl)
theorem dX3_compare_31 : decode cX3_compare 31 = .ok (.getfield 152, 3) := dk_180 0 152 (dk_at dksX3_compare_1 7 rfl rfl)
theorem dX3_compare_34 : decode cX3_compare 34 = .ok (.iconst 1, 1) := dk_4 (dk_at dksX3_compare_1 10 rfl rfl)
theorem dX3_compare_35 : decode cX3_compare 35 = .ok (.iadd, 1) := dk_96 (dk_at dksX3_compare_1 11 rfl rfl)
theorem dX3_compare_36 : decode cX3_compare 36 = .ok (.putfield 152, 3) := dk_181 0 152 (dk_at dksX3_compare_1 12 rfl rfl)
theorem dX3_compare_39 : decode cX3_compare 39 = .ok (.aload_n 0, 1) := dk_42 (dk_at dksX3_compare_1 15 rfl rfl)
theorem dX3_compare_40 : decode cX3_compare 40 = .ok (.invokevirtual 303, 3) := dk_182 1 47 (dk_at dksX3_compare_1 16 rfl rfl)
theorem dX3_compare_43 : decode cX3_compare 43 = .ok (.istore_n 2, 1) := dk_61 (dk_at dksX3_compare_1 19 rfl rfl)
theorem dX3_compare_44 : decode cX3_compare 44 = .ok (.iload_n 2, 1) := dk_28 (dk_at dksX3_compare_1 20 rfl rfl)
theorem dX3_compare_45 : decode cX3_compare 45 = .ok (.ifCond .eq 5, 3) := dk_153 0 5 (dk_at dksX3_compare_1 21 rfl rfl)
theorem dX3_compare_48 : decode cX3_compare 48 = .ok (.iload_n 2, 1) := dk_28 (dk_at dksX3_compare_2 0 rfl rfl)
theorem dX3_compare_49 : decode cX3_compare 49 = .ok (.ireturn, 1) := dk_172 (dk_at dksX3_compare_2 1 rfl rfl)
theorem dX3_compare_50 : decode cX3_compare 50 = .ok (.aload_n 0, 1) := dk_42 (dk_at dksX3_compare_2 2 rfl rfl)
theorem dX3_compare_51 : decode cX3_compare 51 = .ok (.bipush 9, 2) := dk_16 9 (dk_at dksX3_compare_2 3 rfl rfl)
theorem dX3_compare_53 : decode cX3_compare 53 = .ok (.iload_n 3, 1) := dk_29 (dk_at dksX3_compare_2 5 rfl rfl)
theorem dX3_compare_54 : decode cX3_compare 54 = .ok (.aload_n 0, 1) := dk_42 (dk_at dksX3_compare_2 6 rfl rfl)
theorem dX3_compare_55 : decode cX3_compare 55 = .ok (.getfield 309, 3) := dk_180 1 53 (dk_at dksX3_compare_2 7 rfl rfl)
theorem dX3_compare_58 : decode cX3_compare 58 = .ok (.iload 4, 2) := dk_21 4 (dk_at dksX3_compare_2 10 rfl rfl)
theorem dX3_compare_60 : decode cX3_compare 60 = .ok (.aload_n 0, 1) := dk_42 (dk_at dksX3_compare_2 12 rfl rfl)
theorem dX3_compare_61 : decode cX3_compare 61 = .ok (.getfield 20, 3) := dk_180 0 20 (dk_at dksX3_compare_2 13 rfl rfl)
theorem dX3_compare_64 : decode cX3_compare 64 = .ok (.iload_n 1, 1) := dk_27 (dk_at dksX3_compare_2 16 rfl rfl)
theorem dX3_compare_65 : decode cX3_compare 65 = .ok (.iaload, 1) := dk_46 (dk_at dksX3_compare_2 17 rfl rfl)
theorem dX3_compare_66 : decode cX3_compare 66 = .ok (.invokevirtual 319, 3) := dk_182 1 63 (dk_at dksX3_compare_2 18 rfl rfl)
theorem dX3_compare_69 : decode cX3_compare 69 = .ok (.ireturn, 1) := dk_172 (dk_at dksX3_compare_2 21 rfl rfl)
abbrev cX3_twoSided : ByteArray := prog_34_method_47_code
def yX3_twoSided : MethodName := ⟨RX3, "twoSided", "(Z)I"⟩
def dkwX3_twoSided_3 : List UInt8 := [182, 1, 63, 172]
abbrev dktX3_twoSided_3 : List UInt8 := dkwX3_twoSided_3 ++ []
def dkwX3_twoSided_2 : List UInt8 := [153, 0, 8, 21, 4, 167, 0, 21, 42, 16, 34, 28, 42, 180, 1, 53, 29, 42, 180, 0, 44, 28, 46]
abbrev dktX3_twoSided_2 : List UInt8 := dkwX3_twoSided_2 ++ dktX3_twoSided_3
def dkwX3_twoSided_1 : List UInt8 := [181, 0, 152, 27, 153, 0, 10, 42, 182, 1, 87, 167, 0, 7, 42, 182, 1, 94, 54, 4, 21, 4]
abbrev dktX3_twoSided_1 : List UInt8 := dkwX3_twoSided_1 ++ dktX3_twoSided_2
def dkwX3_twoSided_0 : List UInt8 := [42, 180, 1, 53, 61, 42, 42, 180, 0, 152, 178, 1, 97, 182, 0, 146, 62, 42, 89, 180, 0, 152, 4, 96]
abbrev dktX3_twoSided_0 : List UInt8 := dkwX3_twoSided_0 ++ dktX3_twoSided_1
theorem dksX3_twoSided_0 : cX3_twoSided.data.toList.drop 0 = dktX3_twoSided_0 := by decide +kernel
theorem dksX3_twoSided_1 : cX3_twoSided.data.toList.drop 24 = dktX3_twoSided_1 := dk_seg dksX3_twoSided_0 24 rfl rfl
theorem dksX3_twoSided_2 : cX3_twoSided.data.toList.drop 46 = dktX3_twoSided_2 := dk_seg dksX3_twoSided_1 22 rfl rfl
theorem dksX3_twoSided_3 : cX3_twoSided.data.toList.drop 69 = dktX3_twoSided_3 := dk_seg dksX3_twoSided_2 23 rfl rfl
theorem dX3_twoSided_0 : decode cX3_twoSided 0 = .ok (.aload_n 0, 1) := dk_42 (dk_at dksX3_twoSided_0 0 rfl rfl)
theorem dX3_twoSided_1 : decode cX3_twoSided 1 = .ok (.getfield 309, 3) := dk_180 1 53 (dk_at dksX3_twoSided_0 1 rfl rfl)
theorem dX3_twoSided_4 : decode cX3_twoSided 4 = .ok (.istore_n 2, 1) := dk_61 (dk_at dksX3_twoSided_0 4 rfl rfl)
theorem dX3_twoSided_5 : decode cX3_twoSided 5 = .ok (.aload_n 0, 1) := dk_42 (dk_at dksX3_twoSided_0 5 rfl rfl)
theorem dX3_twoSided_6 : decode cX3_twoSided 6 = .ok (.aload_n 0, 1) := dk_42 (dk_at dksX3_twoSided_0 6 rfl rfl)
theorem dX3_twoSided_7 : decode cX3_twoSided 7 = .ok (.getfield 152, 3) := dk_180 0 152 (dk_at dksX3_twoSided_0 7 rfl rfl)
theorem dX3_twoSided_10 : decode cX3_twoSided 10 = .ok (.getstatic 353, 3) := dk_178 1 97 (dk_at dksX3_twoSided_0 10 rfl rfl)
theorem dX3_twoSided_13 : decode cX3_twoSided 13 = .ok (.invokevirtual 146, 3) := dk_182 0 146 (dk_at dksX3_twoSided_0 13 rfl rfl)
theorem dX3_twoSided_16 : decode cX3_twoSided 16 = .ok (.istore_n 3, 1) := dk_62 (dk_at dksX3_twoSided_0 16 rfl rfl)
theorem dX3_twoSided_17 : decode cX3_twoSided 17 = .ok (.aload_n 0, 1) := dk_42 (dk_at dksX3_twoSided_0 17 rfl rfl)
theorem dX3_twoSided_18 : decode cX3_twoSided 18 = .ok (.dup, 1) := dk_89 (dk_at dksX3_twoSided_0 18 rfl rfl)
theorem dX3_twoSided_19 : decode cX3_twoSided 19 = .ok (.getfield 152, 3) := dk_180 0 152 (dk_at dksX3_twoSided_0 19 rfl rfl)
theorem dX3_twoSided_22 : decode cX3_twoSided 22 = .ok (.iconst 1, 1) := dk_4 (dk_at dksX3_twoSided_0 22 rfl rfl)
theorem dX3_twoSided_23 : decode cX3_twoSided 23 = .ok (.iadd, 1) := dk_96 (dk_at dksX3_twoSided_0 23 rfl rfl)
theorem dX3_twoSided_24 : decode cX3_twoSided 24 = .ok (.putfield 152, 3) := dk_181 0 152 (dk_at dksX3_twoSided_1 0 rfl rfl)
theorem dX3_twoSided_27 : decode cX3_twoSided 27 = .ok (.iload_n 1, 1) := dk_27 (dk_at dksX3_twoSided_1 3 rfl rfl)
theorem dX3_twoSided_28 : decode cX3_twoSided 28 = .ok (.ifCond .eq 10, 3) := dk_153 0 10 (dk_at dksX3_twoSided_1 4 rfl rfl)
theorem dX3_twoSided_31 : decode cX3_twoSided 31 = .ok (.aload_n 0, 1) := dk_42 (dk_at dksX3_twoSided_1 7 rfl rfl)
theorem dX3_twoSided_32 : decode cX3_twoSided 32 = .ok (.invokevirtual 343, 3) := dk_182 1 87 (dk_at dksX3_twoSided_1 8 rfl rfl)
theorem dX3_twoSided_35 : decode cX3_twoSided 35 = .ok (.goto 7, 3) := dk_167 0 7 (dk_at dksX3_twoSided_1 11 rfl rfl)
theorem dX3_twoSided_38 : decode cX3_twoSided 38 = .ok (.aload_n 0, 1) := dk_42 (dk_at dksX3_twoSided_1 14 rfl rfl)
theorem dX3_twoSided_39 : decode cX3_twoSided 39 = .ok (.invokevirtual 350, 3) := dk_182 1 94 (dk_at dksX3_twoSided_1 15 rfl rfl)
theorem dX3_twoSided_42 : decode cX3_twoSided 42 = .ok (.istore 4, 2) := dk_54 4 (dk_at dksX3_twoSided_1 18 rfl rfl)
theorem dX3_twoSided_44 : decode cX3_twoSided 44 = .ok (.iload 4, 2) := dk_21 4 (dk_at dksX3_twoSided_1 20 rfl rfl)
theorem dX3_twoSided_46 : decode cX3_twoSided 46 = .ok (.ifCond .eq 8, 3) := dk_153 0 8 (dk_at dksX3_twoSided_2 0 rfl rfl)
theorem dX3_twoSided_49 : decode cX3_twoSided 49 = .ok (.iload 4, 2) := dk_21 4 (dk_at dksX3_twoSided_2 3 rfl rfl)
theorem dX3_twoSided_51 : decode cX3_twoSided 51 = .ok (.goto 21, 3) := dk_167 0 21 (dk_at dksX3_twoSided_2 5 rfl rfl)
theorem dX3_twoSided_54 : decode cX3_twoSided 54 = .ok (.aload_n 0, 1) := dk_42 (dk_at dksX3_twoSided_2 8 rfl rfl)
theorem dX3_twoSided_55 : decode cX3_twoSided 55 = .ok (.bipush 34, 2) := dk_16 34 (dk_at dksX3_twoSided_2 9 rfl rfl)
theorem dX3_twoSided_57 : decode cX3_twoSided 57 = .ok (.iload_n 2, 1) := dk_28 (dk_at dksX3_twoSided_2 11 rfl rfl)
theorem dX3_twoSided_58 : decode cX3_twoSided 58 = .ok (.aload_n 0, 1) := dk_42 (dk_at dksX3_twoSided_2 12 rfl rfl)
theorem dX3_twoSided_59 : decode cX3_twoSided 59 = .ok (.getfield 309, 3) := dk_180 1 53 (dk_at dksX3_twoSided_2 13 rfl rfl)
theorem dX3_twoSided_62 : decode cX3_twoSided 62 = .ok (.iload_n 3, 1) := dk_29 (dk_at dksX3_twoSided_2 16 rfl rfl)
theorem dX3_twoSided_63 : decode cX3_twoSided 63 = .ok (.aload_n 0, 1) := dk_42 (dk_at dksX3_twoSided_2 17 rfl rfl)
theorem dX3_twoSided_64 : decode cX3_twoSided 64 = .ok (.getfield 44, 3) := dk_180 0 44 (dk_at dksX3_twoSided_2 18 rfl rfl)
theorem dX3_twoSided_67 : decode cX3_twoSided 67 = .ok (.iload_n 2, 1) := dk_28 (dk_at dksX3_twoSided_2 21 rfl rfl)
theorem dX3_twoSided_68 : decode cX3_twoSided 68 = .ok (.iaload, 1) := dk_46 (dk_at dksX3_twoSided_2 22 rfl rfl)
theorem dX3_twoSided_69 : decode cX3_twoSided 69 = .ok (.invokevirtual 319, 3) := dk_182 1 63 (dk_at dksX3_twoSided_3 0 rfl rfl)
theorem dX3_twoSided_72 : decode cX3_twoSided 72 = .ok (.ireturn, 1) := dk_172 (dk_at dksX3_twoSided_3 3 rfl rfl)
abbrev cX3_begin : ByteArray := prog_34_method_53_code
def yX3_begin : MethodName := ⟨RX3, "begin", "()V"⟩
def dkwX3_begin_1 : List UInt8 := [180, 0, 64, 27, 47, 80, 132, 1, 1, 167, 255, 231, 177]
abbrev dktX3_begin_1 : List UInt8 := dkwX3_begin_1 ++ []
def dkwX3_begin_0 : List UInt8 := [42, 3, 181, 1, 113, 3, 60, 27, 42, 180, 0, 61, 3, 46, 162, 0, 21, 42, 180, 0, 82, 27, 42]
abbrev dktX3_begin_0 : List UInt8 := dkwX3_begin_0 ++ dktX3_begin_1
theorem dksX3_begin_0 : cX3_begin.data.toList.drop 0 = dktX3_begin_0 := by decide +kernel
theorem dksX3_begin_1 : cX3_begin.data.toList.drop 23 = dktX3_begin_1 := dk_seg dksX3_begin_0 23 rfl rfl
theorem dX3_begin_0 : decode cX3_begin 0 = .ok (.aload_n 0, 1) := dk_42 (dk_at dksX3_begin_0 0 rfl rfl)
theorem dX3_begin_1 : decode cX3_begin 1 = .ok (.iconst 0, 1) := dk_3 (dk_at dksX3_begin_0 1 rfl rfl)
theorem dX3_begin_2 : decode cX3_begin 2 = .ok (.putfield 369, 3) := dk_181 1 113 (dk_at dksX3_begin_0 2 rfl rfl)
theorem dX3_begin_5 : decode cX3_begin 5 = .ok (.iconst 0, 1) := dk_3 (dk_at dksX3_begin_0 5 rfl rfl)
theorem dX3_begin_6 : decode cX3_begin 6 = .ok (.istore_n 1, 1) := dk_60 (dk_at dksX3_begin_0 6 rfl rfl)
theorem dX3_begin_7 : decode cX3_begin 7 = .ok (.iload_n 1, 1) := dk_27 (dk_at dksX3_begin_0 7 rfl rfl)
theorem dX3_begin_8 : decode cX3_begin 8 = .ok (.aload_n 0, 1) := dk_42 (dk_at dksX3_begin_0 8 rfl rfl)
theorem dX3_begin_9 : decode cX3_begin 9 = .ok (.getfield 61, 3) := dk_180 0 61 (dk_at dksX3_begin_0 9 rfl rfl)
theorem dX3_begin_12 : decode cX3_begin 12 = .ok (.iconst 0, 1) := dk_3 (dk_at dksX3_begin_0 12 rfl rfl)
theorem dX3_begin_13 : decode cX3_begin 13 = .ok (.iaload, 1) := dk_46 (dk_at dksX3_begin_0 13 rfl rfl)
theorem dX3_begin_14 : decode cX3_begin 14 = .ok (.if_icmp .ge 21, 3) := dk_162 0 21 (dk_at dksX3_begin_0 14 rfl rfl)
theorem dX3_begin_17 : decode cX3_begin 17 = .ok (.aload_n 0, 1) := dk_42 (dk_at dksX3_begin_0 17 rfl rfl)
theorem dX3_begin_18 : decode cX3_begin 18 = .ok (.getfield 82, 3) := dk_180 0 82 (dk_at dksX3_begin_0 18 rfl rfl)
theorem dX3_begin_21 : decode cX3_begin 21 = .ok (.iload_n 1, 1) := dk_27 (dk_at dksX3_begin_0 21 rfl rfl)
theorem dX3_begin_22 : decode cX3_begin 22 = .ok (.aload_n 0, 1) := dk_42 (dk_at dksX3_begin_0 22 rfl rfl)
theorem dX3_begin_23 : decode cX3_begin 23 = .ok (.getfield 64, 3) := dk_180 0 64 (dk_at dksX3_begin_1 0 rfl rfl)
theorem dX3_begin_26 : decode cX3_begin 26 = .ok (.iload_n 1, 1) := dk_27 (dk_at dksX3_begin_1 3 rfl rfl)
theorem dX3_begin_27 : decode cX3_begin 27 = .ok (.laload, 1) := dk_47 (dk_at dksX3_begin_1 4 rfl rfl)
theorem dX3_begin_28 : decode cX3_begin 28 = .ok (.lastore, 1) := dk_80 (dk_at dksX3_begin_1 5 rfl rfl)
theorem dX3_begin_29 : decode cX3_begin 29 = .ok (.iinc 1 1, 3) := dk_132 1 1 (dk_at dksX3_begin_1 6 rfl rfl)
theorem dX3_begin_32 : decode cX3_begin 32 = .ok (.goto (-25), 3) := dk_167 255 231 (dk_at dksX3_begin_1 9 rfl rfl)
theorem dX3_begin_35 : decode cX3_begin 35 = .ok (.return_, 1) := dk_177 (dk_at dksX3_begin_1 12 rfl rfl)
abbrev cX3_errorAt : ByteArray := prog_34_method_54_code
def yX3_errorAt : MethodName := ⟨RX3, "errorAt", "()I"⟩
def dkwX3_errorAt_0 : List UInt8 := [42, 3, 181, 0, 91, 42, 180, 0, 13, 172]
abbrev dktX3_errorAt_0 : List UInt8 := dkwX3_errorAt_0 ++ []
theorem dksX3_errorAt_0 : cX3_errorAt.data.toList.drop 0 = dktX3_errorAt_0 := by decide +kernel
theorem dX3_errorAt_0 : decode cX3_errorAt 0 = .ok (.aload_n 0, 1) := dk_42 (dk_at dksX3_errorAt_0 0 rfl rfl)
theorem dX3_errorAt_1 : decode cX3_errorAt 1 = .ok (.iconst 0, 1) := dk_3 (dk_at dksX3_errorAt_0 1 rfl rfl)
theorem dX3_errorAt_2 : decode cX3_errorAt 2 = .ok (.putfield 91, 3) := dk_181 0 91 (dk_at dksX3_errorAt_0 2 rfl rfl)
theorem dX3_errorAt_5 : decode cX3_errorAt 5 = .ok (.aload_n 0, 1) := dk_42 (dk_at dksX3_errorAt_0 5 rfl rfl)
theorem dX3_errorAt_6 : decode cX3_errorAt 6 = .ok (.getfield 13, 3) := dk_180 0 13 (dk_at dksX3_errorAt_0 6 rfl rfl)
theorem dX3_errorAt_9 : decode cX3_errorAt 9 = .ok (.ireturn, 1) := dk_172 (dk_at dksX3_errorAt_0 9 rfl rfl)
abbrev cX3_count : ByteArray := prog_34_method_56_code
def yX3_count : MethodName := ⟨RX3, "count", "(I)I"⟩
def dkwX3_count_1 : List UInt8 := [4, 182, 0, 97, 172]
abbrev dktX3_count_1 : List UInt8 := dkwX3_count_1 ++ []
def dkwX3_count_0 : List UInt8 := [42, 3, 181, 0, 91, 27, 3, 16, 6, 184, 0, 101, 153, 0, 11, 42, 27, 182, 1, 134, 167, 0, 8, 42]
abbrev dktX3_count_0 : List UInt8 := dkwX3_count_0 ++ dktX3_count_1
theorem dksX3_count_0 : cX3_count.data.toList.drop 0 = dktX3_count_0 := by decide +kernel
theorem dksX3_count_1 : cX3_count.data.toList.drop 24 = dktX3_count_1 := dk_seg dksX3_count_0 24 rfl rfl
theorem dX3_count_0 : decode cX3_count 0 = .ok (.aload_n 0, 1) := dk_42 (dk_at dksX3_count_0 0 rfl rfl)
theorem dX3_count_1 : decode cX3_count 1 = .ok (.iconst 0, 1) := dk_3 (dk_at dksX3_count_0 1 rfl rfl)
theorem dX3_count_2 : decode cX3_count 2 = .ok (.putfield 91, 3) := dk_181 0 91 (dk_at dksX3_count_0 2 rfl rfl)
theorem dX3_count_5 : decode cX3_count 5 = .ok (.iload_n 1, 1) := dk_27 (dk_at dksX3_count_0 5 rfl rfl)
theorem dX3_count_6 : decode cX3_count 6 = .ok (.iconst 0, 1) := dk_3 (dk_at dksX3_count_0 6 rfl rfl)
theorem dX3_count_7 : decode cX3_count 7 = .ok (.bipush 6, 2) := dk_16 6 (dk_at dksX3_count_0 7 rfl rfl)
theorem dX3_count_9 : decode cX3_count 9 = .ok (.invokestatic 101, 3) := dk_184 0 101 (dk_at dksX3_count_0 9 rfl rfl)
theorem dX3_count_12 : decode cX3_count 12 = .ok (.ifCond .eq 11, 3) := dk_153 0 11 (dk_at dksX3_count_0 12 rfl rfl)
theorem dX3_count_15 : decode cX3_count 15 = .ok (.aload_n 0, 1) := dk_42 (dk_at dksX3_count_0 15 rfl rfl)
theorem dX3_count_16 : decode cX3_count 16 = .ok (.iload_n 1, 1) := dk_27 (dk_at dksX3_count_0 16 rfl rfl)
theorem dX3_count_17 : decode cX3_count 17 = .ok (.invokevirtual 390, 3) := dk_182 1 134 (dk_at dksX3_count_0 17 rfl rfl)
theorem dX3_count_20 : decode cX3_count 20 = .ok (.goto 8, 3) := dk_167 0 8 (dk_at dksX3_count_0 20 rfl rfl)
theorem dX3_count_23 : decode cX3_count 23 = .ok (.aload_n 0, 1) := dk_42 (dk_at dksX3_count_0 23 rfl rfl)
theorem dX3_count_24 : decode cX3_count 24 = .ok (.iconst 1, 1) := dk_4 (dk_at dksX3_count_1 0 rfl rfl)
theorem dX3_count_25 : decode cX3_count 25 = .ok (.invokevirtual 97, 3) := dk_182 0 97 (dk_at dksX3_count_1 1 rfl rfl)
theorem dX3_count_28 : decode cX3_count 28 = .ok (.ireturn, 1) := dk_172 (dk_at dksX3_count_1 4 rfl rfl)
abbrev cX3_counted : ByteArray := prog_34_method_55_code
def yX3_counted : MethodName := ⟨RX3, "counted", "(I)I"⟩
def dkwX3_counted_1 : List UInt8 := [167, 0, 19, 27, 8, 160, 0, 10, 42, 180, 1, 131, 167, 0, 7, 42, 180, 0, 94, 172]
abbrev dktX3_counted_1 : List UInt8 := dkwX3_counted_1 ++ []
def dkwX3_counted_0 : List UInt8 := [27, 7, 162, 0, 12, 42, 180, 0, 61, 27, 46, 167, 0, 31, 27, 7, 160, 0, 10, 42, 180, 1, 113]
abbrev dktX3_counted_0 : List UInt8 := dkwX3_counted_0 ++ dktX3_counted_1
theorem dksX3_counted_0 : cX3_counted.data.toList.drop 0 = dktX3_counted_0 := by decide +kernel
theorem dksX3_counted_1 : cX3_counted.data.toList.drop 23 = dktX3_counted_1 := dk_seg dksX3_counted_0 23 rfl rfl
theorem dX3_counted_0 : decode cX3_counted 0 = .ok (.iload_n 1, 1) := dk_27 (dk_at dksX3_counted_0 0 rfl rfl)
theorem dX3_counted_1 : decode cX3_counted 1 = .ok (.iconst 4, 1) := dk_7 (dk_at dksX3_counted_0 1 rfl rfl)
theorem dX3_counted_2 : decode cX3_counted 2 = .ok (.if_icmp .ge 12, 3) := dk_162 0 12 (dk_at dksX3_counted_0 2 rfl rfl)
theorem dX3_counted_5 : decode cX3_counted 5 = .ok (.aload_n 0, 1) := dk_42 (dk_at dksX3_counted_0 5 rfl rfl)
theorem dX3_counted_6 : decode cX3_counted 6 = .ok (.getfield 61, 3) := dk_180 0 61 (dk_at dksX3_counted_0 6 rfl rfl)
theorem dX3_counted_9 : decode cX3_counted 9 = .ok (.iload_n 1, 1) := dk_27 (dk_at dksX3_counted_0 9 rfl rfl)
theorem dX3_counted_10 : decode cX3_counted 10 = .ok (.iaload, 1) := dk_46 (dk_at dksX3_counted_0 10 rfl rfl)
theorem dX3_counted_11 : decode cX3_counted 11 = .ok (.goto 31, 3) := dk_167 0 31 (dk_at dksX3_counted_0 11 rfl rfl)
theorem dX3_counted_14 : decode cX3_counted 14 = .ok (.iload_n 1, 1) := dk_27 (dk_at dksX3_counted_0 14 rfl rfl)
theorem dX3_counted_15 : decode cX3_counted 15 = .ok (.iconst 4, 1) := dk_7 (dk_at dksX3_counted_0 15 rfl rfl)
theorem dX3_counted_16 : decode cX3_counted 16 = .ok (.if_icmp .ne 10, 3) := dk_160 0 10 (dk_at dksX3_counted_0 16 rfl rfl)
theorem dX3_counted_19 : decode cX3_counted 19 = .ok (.aload_n 0, 1) := dk_42 (dk_at dksX3_counted_0 19 rfl rfl)
theorem dX3_counted_20 : decode cX3_counted 20 = .ok (.getfield 369, 3) := dk_180 1 113 (dk_at dksX3_counted_0 20 rfl rfl)
theorem dX3_counted_23 : decode cX3_counted 23 = .ok (.goto 19, 3) := dk_167 0 19 (dk_at dksX3_counted_1 0 rfl rfl)
theorem dX3_counted_26 : decode cX3_counted 26 = .ok (.iload_n 1, 1) := dk_27 (dk_at dksX3_counted_1 3 rfl rfl)
theorem dX3_counted_27 : decode cX3_counted 27 = .ok (.iconst 5, 1) := dk_8 (dk_at dksX3_counted_1 4 rfl rfl)
theorem dX3_counted_28 : decode cX3_counted 28 = .ok (.if_icmp .ne 10, 3) := dk_160 0 10 (dk_at dksX3_counted_1 5 rfl rfl)
theorem dX3_counted_31 : decode cX3_counted 31 = .ok (.aload_n 0, 1) := dk_42 (dk_at dksX3_counted_1 8 rfl rfl)
theorem dX3_counted_32 : decode cX3_counted 32 = .ok (.getfield 387, 3) := dk_180 1 131 (dk_at dksX3_counted_1 9 rfl rfl)
theorem dX3_counted_35 : decode cX3_counted 35 = .ok (.goto 7, 3) := dk_167 0 7 (dk_at dksX3_counted_1 12 rfl rfl)
theorem dX3_counted_38 : decode cX3_counted 38 = .ok (.aload_n 0, 1) := dk_42 (dk_at dksX3_counted_1 15 rfl rfl)
theorem dX3_counted_39 : decode cX3_counted 39 = .ok (.getfield 94, 3) := dk_180 0 94 (dk_at dksX3_counted_1 16 rfl rfl)
theorem dX3_counted_42 : decode cX3_counted 42 = .ok (.ireturn, 1) := dk_172 (dk_at dksX3_counted_1 19 rfl rfl)
abbrev cX3_set : ByteArray := prog_34_method_70_code
def yX3_set : MethodName := ⟨RX3, "set", "(IJ)J"⟩
def dkwX3_set_2 : List UInt8 := [27, 32, 80, 22, 4, 173]
abbrev dktX3_set_2 : List UInt8 := dkwX3_set_2 ++ []
def dkwX3_set_1 : List UInt8 := [181, 0, 91, 42, 180, 0, 91, 153, 0, 5, 9, 173, 42, 180, 0, 82, 27, 47, 55, 4, 42, 180, 0, 82]
abbrev dktX3_set_1 : List UInt8 := dkwX3_set_1 ++ dktX3_set_2
def dkwX3_set_0 : List UInt8 := [42, 27, 3, 42, 180, 0, 61, 3, 46, 4, 100, 184, 0, 101, 153, 0, 7, 3, 167, 0, 4, 4]
abbrev dktX3_set_0 : List UInt8 := dkwX3_set_0 ++ dktX3_set_1
theorem dksX3_set_0 : cX3_set.data.toList.drop 0 = dktX3_set_0 := by decide +kernel
theorem dksX3_set_1 : cX3_set.data.toList.drop 22 = dktX3_set_1 := dk_seg dksX3_set_0 22 rfl rfl
theorem dksX3_set_2 : cX3_set.data.toList.drop 46 = dktX3_set_2 := dk_seg dksX3_set_1 24 rfl rfl
theorem dX3_set_0 : decode cX3_set 0 = .ok (.aload_n 0, 1) := dk_42 (dk_at dksX3_set_0 0 rfl rfl)
theorem dX3_set_1 : decode cX3_set 1 = .ok (.iload_n 1, 1) := dk_27 (dk_at dksX3_set_0 1 rfl rfl)
theorem dX3_set_2 : decode cX3_set 2 = .ok (.iconst 0, 1) := dk_3 (dk_at dksX3_set_0 2 rfl rfl)
theorem dX3_set_3 : decode cX3_set 3 = .ok (.aload_n 0, 1) := dk_42 (dk_at dksX3_set_0 3 rfl rfl)
theorem dX3_set_4 : decode cX3_set 4 = .ok (.getfield 61, 3) := dk_180 0 61 (dk_at dksX3_set_0 4 rfl rfl)
theorem dX3_set_7 : decode cX3_set 7 = .ok (.iconst 0, 1) := dk_3 (dk_at dksX3_set_0 7 rfl rfl)
theorem dX3_set_8 : decode cX3_set 8 = .ok (.iaload, 1) := dk_46 (dk_at dksX3_set_0 8 rfl rfl)
theorem dX3_set_9 : decode cX3_set 9 = .ok (.iconst 1, 1) := dk_4 (dk_at dksX3_set_0 9 rfl rfl)
theorem dX3_set_10 : decode cX3_set 10 = .ok (.isub, 1) := dk_100 (dk_at dksX3_set_0 10 rfl rfl)
theorem dX3_set_11 : decode cX3_set 11 = .ok (.invokestatic 101, 3) := dk_184 0 101 (dk_at dksX3_set_0 11 rfl rfl)
theorem dX3_set_14 : decode cX3_set 14 = .ok (.ifCond .eq 7, 3) := dk_153 0 7 (dk_at dksX3_set_0 14 rfl rfl)
theorem dX3_set_17 : decode cX3_set 17 = .ok (.iconst 0, 1) := dk_3 (dk_at dksX3_set_0 17 rfl rfl)
theorem dX3_set_18 : decode cX3_set 18 = .ok (.goto 4, 3) := dk_167 0 4 (dk_at dksX3_set_0 18 rfl rfl)
theorem dX3_set_21 : decode cX3_set 21 = .ok (.iconst 1, 1) := dk_4 (dk_at dksX3_set_0 21 rfl rfl)
theorem dX3_set_22 : decode cX3_set 22 = .ok (.putfield 91, 3) := dk_181 0 91 (dk_at dksX3_set_1 0 rfl rfl)
theorem dX3_set_25 : decode cX3_set 25 = .ok (.aload_n 0, 1) := dk_42 (dk_at dksX3_set_1 3 rfl rfl)
theorem dX3_set_26 : decode cX3_set 26 = .ok (.getfield 91, 3) := dk_180 0 91 (dk_at dksX3_set_1 4 rfl rfl)
theorem dX3_set_29 : decode cX3_set 29 = .ok (.ifCond .eq 5, 3) := dk_153 0 5 (dk_at dksX3_set_1 7 rfl rfl)
theorem dX3_set_32 : decode cX3_set 32 = .ok (.lconst 0, 1) := dk_9 (dk_at dksX3_set_1 10 rfl rfl)
theorem dX3_set_33 : decode cX3_set 33 = .ok (.lreturn, 1) := dk_173 (dk_at dksX3_set_1 11 rfl rfl)
theorem dX3_set_34 : decode cX3_set 34 = .ok (.aload_n 0, 1) := dk_42 (dk_at dksX3_set_1 12 rfl rfl)
theorem dX3_set_35 : decode cX3_set 35 = .ok (.getfield 82, 3) := dk_180 0 82 (dk_at dksX3_set_1 13 rfl rfl)
theorem dX3_set_38 : decode cX3_set 38 = .ok (.iload_n 1, 1) := dk_27 (dk_at dksX3_set_1 16 rfl rfl)
theorem dX3_set_39 : decode cX3_set 39 = .ok (.laload, 1) := dk_47 (dk_at dksX3_set_1 17 rfl rfl)
theorem dX3_set_40 : decode cX3_set 40 = .ok (.lstore 4, 2) := dk_55 4 (dk_at dksX3_set_1 18 rfl rfl)
theorem dX3_set_42 : decode cX3_set 42 = .ok (.aload_n 0, 1) := dk_42 (dk_at dksX3_set_1 20 rfl rfl)
theorem dX3_set_43 : decode cX3_set 43 = .ok (.getfield 82, 3) := dk_180 0 82 (dk_at dksX3_set_1 21 rfl rfl)
theorem dX3_set_46 : decode cX3_set 46 = .ok (.iload_n 1, 1) := dk_27 (dk_at dksX3_set_2 0 rfl rfl)
theorem dX3_set_47 : decode cX3_set 47 = .ok (.lload_n 2, 1) := dk_32 (dk_at dksX3_set_2 1 rfl rfl)
theorem dX3_set_48 : decode cX3_set 48 = .ok (.lastore, 1) := dk_80 (dk_at dksX3_set_2 2 rfl rfl)
theorem dX3_set_49 : decode cX3_set 49 = .ok (.lload 4, 2) := dk_22 4 (dk_at dksX3_set_2 3 rfl rfl)
theorem dX3_set_51 : decode cX3_set 51 = .ok (.lreturn, 1) := dk_173 (dk_at dksX3_set_2 5 rfl rfl)
abbrev cX3_tick : ByteArray := prog_34_method_73_code
def yX3_tick : MethodName := ⟨RX3, "tick", "(I)I"⟩
def dkwX3_tick_3 : List UInt8 := [182, 1, 193, 172]
abbrev dktX3_tick_3 : List UInt8 := dkwX3_tick_3 ++ []
def dkwX3_tick_2 : List UInt8 := [180, 1, 113, 154, 0, 7, 3, 167, 0, 14, 42, 180, 0, 76, 42, 180, 1, 113, 4, 100, 46, 27, 96]
abbrev dktX3_tick_2 : List UInt8 := dkwX3_tick_2 ++ dktX3_tick_3
def dkwX3_tick_1 : List UInt8 := [180, 1, 106, 153, 0, 12, 42, 180, 1, 113, 16, 120, 160, 0, 9, 42, 5, 182, 0, 97, 172, 42, 42]
abbrev dktX3_tick_1 : List UInt8 := dkwX3_tick_1 ++ dktX3_tick_2
def dkwX3_tick_0 : List UInt8 := [42, 3, 181, 0, 91, 27, 3, 17, 3, 232, 184, 0, 101, 154, 0, 9, 42, 4, 182, 0, 97, 172, 42]
abbrev dktX3_tick_0 : List UInt8 := dkwX3_tick_0 ++ dktX3_tick_1
theorem dksX3_tick_0 : cX3_tick.data.toList.drop 0 = dktX3_tick_0 := by decide +kernel
theorem dksX3_tick_1 : cX3_tick.data.toList.drop 23 = dktX3_tick_1 := dk_seg dksX3_tick_0 23 rfl rfl
theorem dksX3_tick_2 : cX3_tick.data.toList.drop 46 = dktX3_tick_2 := dk_seg dksX3_tick_1 23 rfl rfl
theorem dksX3_tick_3 : cX3_tick.data.toList.drop 69 = dktX3_tick_3 := dk_seg dksX3_tick_2 23 rfl rfl
theorem dX3_tick_0 : decode cX3_tick 0 = .ok (.aload_n 0, 1) := dk_42 (dk_at dksX3_tick_0 0 rfl rfl)
theorem dX3_tick_1 : decode cX3_tick 1 = .ok (.iconst 0, 1) := dk_3 (dk_at dksX3_tick_0 1 rfl rfl)
theorem dX3_tick_2 : decode cX3_tick 2 = .ok (.putfield 91, 3) := dk_181 0 91 (dk_at dksX3_tick_0 2 rfl rfl)
theorem dX3_tick_5 : decode cX3_tick 5 = .ok (.iload_n 1, 1) := dk_27 (dk_at dksX3_tick_0 5 rfl rfl)
theorem dX3_tick_6 : decode cX3_tick 6 = .ok (.iconst 0, 1) := dk_3 (dk_at dksX3_tick_0 6 rfl rfl)
theorem dX3_tick_7 : decode cX3_tick 7 = .ok (.sipush 1000, 3) := dk_17 3 232 (dk_at dksX3_tick_0 7 rfl rfl)
theorem dX3_tick_10 : decode cX3_tick 10 = .ok (.invokestatic 101, 3) := dk_184 0 101 (dk_at dksX3_tick_0 10 rfl rfl)
theorem dX3_tick_13 : decode cX3_tick 13 = .ok (.ifCond .ne 9, 3) := dk_154 0 9 (dk_at dksX3_tick_0 13 rfl rfl)
theorem dX3_tick_16 : decode cX3_tick 16 = .ok (.aload_n 0, 1) := dk_42 (dk_at dksX3_tick_0 16 rfl rfl)
theorem dX3_tick_17 : decode cX3_tick 17 = .ok (.iconst 1, 1) := dk_4 (dk_at dksX3_tick_0 17 rfl rfl)
theorem dX3_tick_18 : decode cX3_tick 18 = .ok (.invokevirtual 97, 3) := dk_182 0 97 (dk_at dksX3_tick_0 18 rfl rfl)
theorem dX3_tick_21 : decode cX3_tick 21 = .ok (.ireturn, 1) := dk_172 (dk_at dksX3_tick_0 21 rfl rfl)
theorem dX3_tick_22 : decode cX3_tick 22 = .ok (.aload_n 0, 1) := dk_42 (dk_at dksX3_tick_0 22 rfl rfl)
theorem dX3_tick_23 : decode cX3_tick 23 = .ok (.getfield 362, 3) := dk_180 1 106 (dk_at dksX3_tick_1 0 rfl rfl)
theorem dX3_tick_26 : decode cX3_tick 26 = .ok (.ifCond .eq 12, 3) := dk_153 0 12 (dk_at dksX3_tick_1 3 rfl rfl)
theorem dX3_tick_29 : decode cX3_tick 29 = .ok (.aload_n 0, 1) := dk_42 (dk_at dksX3_tick_1 6 rfl rfl)
theorem dX3_tick_30 : decode cX3_tick 30 = .ok (.getfield 369, 3) := dk_180 1 113 (dk_at dksX3_tick_1 7 rfl rfl)
theorem dX3_tick_33 : decode cX3_tick 33 = .ok (.bipush 120, 2) := dk_16 120 (dk_at dksX3_tick_1 10 rfl rfl)
theorem dX3_tick_35 : decode cX3_tick 35 = .ok (.if_icmp .ne 9, 3) := dk_160 0 9 (dk_at dksX3_tick_1 12 rfl rfl)
theorem dX3_tick_38 : decode cX3_tick 38 = .ok (.aload_n 0, 1) := dk_42 (dk_at dksX3_tick_1 15 rfl rfl)
theorem dX3_tick_39 : decode cX3_tick 39 = .ok (.iconst 2, 1) := dk_5 (dk_at dksX3_tick_1 16 rfl rfl)
theorem dX3_tick_40 : decode cX3_tick 40 = .ok (.invokevirtual 97, 3) := dk_182 0 97 (dk_at dksX3_tick_1 17 rfl rfl)
theorem dX3_tick_43 : decode cX3_tick 43 = .ok (.ireturn, 1) := dk_172 (dk_at dksX3_tick_1 20 rfl rfl)
theorem dX3_tick_44 : decode cX3_tick 44 = .ok (.aload_n 0, 1) := dk_42 (dk_at dksX3_tick_1 21 rfl rfl)
theorem dX3_tick_45 : decode cX3_tick 45 = .ok (.aload_n 0, 1) := dk_42 (dk_at dksX3_tick_1 22 rfl rfl)
theorem dX3_tick_46 : decode cX3_tick 46 = .ok (.getfield 369, 3) := dk_180 1 113 (dk_at dksX3_tick_2 0 rfl rfl)
theorem dX3_tick_49 : decode cX3_tick 49 = .ok (.ifCond .ne 7, 3) := dk_154 0 7 (dk_at dksX3_tick_2 3 rfl rfl)
theorem dX3_tick_52 : decode cX3_tick 52 = .ok (.iconst 0, 1) := dk_3 (dk_at dksX3_tick_2 6 rfl rfl)
theorem dX3_tick_53 : decode cX3_tick 53 = .ok (.goto 14, 3) := dk_167 0 14 (dk_at dksX3_tick_2 7 rfl rfl)
theorem dX3_tick_56 : decode cX3_tick 56 = .ok (.aload_n 0, 1) := dk_42 (dk_at dksX3_tick_2 10 rfl rfl)
theorem dX3_tick_57 : decode cX3_tick 57 = .ok (.getfield 76, 3) := dk_180 0 76 (dk_at dksX3_tick_2 11 rfl rfl)
theorem dX3_tick_60 : decode cX3_tick 60 = .ok (.aload_n 0, 1) := dk_42 (dk_at dksX3_tick_2 14 rfl rfl)
theorem dX3_tick_61 : decode cX3_tick 61 = .ok (.getfield 369, 3) := dk_180 1 113 (dk_at dksX3_tick_2 15 rfl rfl)
theorem dX3_tick_64 : decode cX3_tick 64 = .ok (.iconst 1, 1) := dk_4 (dk_at dksX3_tick_2 18 rfl rfl)
theorem dX3_tick_65 : decode cX3_tick 65 = .ok (.isub, 1) := dk_100 (dk_at dksX3_tick_2 19 rfl rfl)
theorem dX3_tick_66 : decode cX3_tick 66 = .ok (.iaload, 1) := dk_46 (dk_at dksX3_tick_2 20 rfl rfl)
theorem dX3_tick_67 : decode cX3_tick 67 = .ok (.iload_n 1, 1) := dk_27 (dk_at dksX3_tick_2 21 rfl rfl)
theorem dX3_tick_68 : decode cX3_tick 68 = .ok (.iadd, 1) := dk_96 (dk_at dksX3_tick_2 22 rfl rfl)
theorem dX3_tick_69 : decode cX3_tick 69 = .ok (.invokevirtual 449, 3) := dk_182 1 193 (dk_at dksX3_tick_3 0 rfl rfl)
theorem dX3_tick_72 : decode cX3_tick 72 = .ok (.ireturn, 1) := dk_172 (dk_at dksX3_tick_3 3 rfl rfl)
abbrev cX3_step : ByteArray := prog_34_method_72_code
def yX3_step : MethodName := ⟨RX3, "step", "(I)I"⟩
def dkwX3_step_4 : List UInt8 := [167, 0, 4, 4, 96, 61, 132, 3, 1, 167, 255, 223, 42, 89, 180, 1, 113, 4, 96, 181, 1, 113, 28, 172]
abbrev dktX3_step_4 : List UInt8 := dkwX3_step_4 ++ []
def dkwX3_step_3 : List UInt8 := [180, 0, 61, 6, 46, 162, 0, 29, 28, 42, 29, 42, 180, 1, 113, 182, 1, 190, 153, 0, 7, 3]
abbrev dktX3_step_3 : List UInt8 := dkwX3_step_3 ++ dktX3_step_4
def dkwX3_step_2 : List UInt8 := [167, 255, 223, 42, 3, 42, 180, 1, 110, 42, 180, 1, 113, 182, 1, 186, 3, 61, 3, 62, 29, 42]
abbrev dktX3_step_2 : List UInt8 := dkwX3_step_2 ++ dktX3_step_3
def dkwX3_step_1 : List UInt8 := [180, 0, 79, 16, 8, 42, 180, 1, 113, 104, 28, 96, 42, 180, 0, 82, 28, 47, 80, 132, 2, 1]
abbrev dktX3_step_1 : List UInt8 := dkwX3_step_1 ++ dktX3_step_2
def dkwX3_step_0 : List UInt8 := [42, 180, 0, 76, 42, 180, 1, 113, 27, 79, 3, 61, 28, 42, 180, 0, 61, 3, 46, 162, 0, 29, 42]
abbrev dktX3_step_0 : List UInt8 := dkwX3_step_0 ++ dktX3_step_1
theorem dksX3_step_0 : cX3_step.data.toList.drop 0 = dktX3_step_0 := by decide +kernel
theorem dksX3_step_1 : cX3_step.data.toList.drop 23 = dktX3_step_1 := dk_seg dksX3_step_0 23 rfl rfl
theorem dksX3_step_2 : cX3_step.data.toList.drop 45 = dktX3_step_2 := dk_seg dksX3_step_1 22 rfl rfl
theorem dksX3_step_3 : cX3_step.data.toList.drop 67 = dktX3_step_3 := dk_seg dksX3_step_2 22 rfl rfl
theorem dksX3_step_4 : cX3_step.data.toList.drop 89 = dktX3_step_4 := dk_seg dksX3_step_3 22 rfl rfl
theorem dX3_step_0 : decode cX3_step 0 = .ok (.aload_n 0, 1) := dk_42 (dk_at dksX3_step_0 0 rfl rfl)
theorem dX3_step_1 : decode cX3_step 1 = .ok (.getfield 76, 3) := dk_180 0 76 (dk_at dksX3_step_0 1 rfl rfl)
theorem dX3_step_4 : decode cX3_step 4 = .ok (.aload_n 0, 1) := dk_42 (dk_at dksX3_step_0 4 rfl rfl)
theorem dX3_step_5 : decode cX3_step 5 = .ok (.getfield 369, 3) := dk_180 1 113 (dk_at dksX3_step_0 5 rfl rfl)
theorem dX3_step_8 : decode cX3_step 8 = .ok (.iload_n 1, 1) := dk_27 (dk_at dksX3_step_0 8 rfl rfl)
theorem dX3_step_9 : decode cX3_step 9 = .ok (.iastore, 1) := dk_79 (dk_at dksX3_step_0 9 rfl rfl)
theorem dX3_step_10 : decode cX3_step 10 = .ok (.iconst 0, 1) := dk_3 (dk_at dksX3_step_0 10 rfl rfl)
theorem dX3_step_11 : decode cX3_step 11 = .ok (.istore_n 2, 1) := dk_61 (dk_at dksX3_step_0 11 rfl rfl)
theorem dX3_step_12 : decode cX3_step 12 = .ok (.iload_n 2, 1) := dk_28 (dk_at dksX3_step_0 12 rfl rfl)
theorem dX3_step_13 : decode cX3_step 13 = .ok (.aload_n 0, 1) := dk_42 (dk_at dksX3_step_0 13 rfl rfl)
theorem dX3_step_14 : decode cX3_step 14 = .ok (.getfield 61, 3) := dk_180 0 61 (dk_at dksX3_step_0 14 rfl rfl)
theorem dX3_step_17 : decode cX3_step 17 = .ok (.iconst 0, 1) := dk_3 (dk_at dksX3_step_0 17 rfl rfl)
theorem dX3_step_18 : decode cX3_step 18 = .ok (.iaload, 1) := dk_46 (dk_at dksX3_step_0 18 rfl rfl)
theorem dX3_step_19 : decode cX3_step 19 = .ok (.if_icmp .ge 29, 3) := dk_162 0 29 (dk_at dksX3_step_0 19 rfl rfl)
theorem dX3_step_22 : decode cX3_step 22 = .ok (.aload_n 0, 1) := dk_42 (dk_at dksX3_step_0 22 rfl rfl)
theorem dX3_step_23 : decode cX3_step 23 = .ok (.getfield 79, 3) := dk_180 0 79 (dk_at dksX3_step_1 0 rfl rfl)
theorem dX3_step_26 : decode cX3_step 26 = .ok (.bipush 8, 2) := dk_16 8 (dk_at dksX3_step_1 3 rfl rfl)
theorem dX3_step_28 : decode cX3_step 28 = .ok (.aload_n 0, 1) := dk_42 (dk_at dksX3_step_1 5 rfl rfl)
theorem dX3_step_29 : decode cX3_step 29 = .ok (.getfield 369, 3) := dk_180 1 113 (dk_at dksX3_step_1 6 rfl rfl)
theorem dX3_step_32 : decode cX3_step 32 = .ok (.imul, 1) := dk_104 (dk_at dksX3_step_1 9 rfl rfl)
theorem dX3_step_33 : decode cX3_step 33 = .ok (.iload_n 2, 1) := dk_28 (dk_at dksX3_step_1 10 rfl rfl)
theorem dX3_step_34 : decode cX3_step 34 = .ok (.iadd, 1) := dk_96 (dk_at dksX3_step_1 11 rfl rfl)
theorem dX3_step_35 : decode cX3_step 35 = .ok (.aload_n 0, 1) := dk_42 (dk_at dksX3_step_1 12 rfl rfl)
theorem dX3_step_36 : decode cX3_step 36 = .ok (.getfield 82, 3) := dk_180 0 82 (dk_at dksX3_step_1 13 rfl rfl)
theorem dX3_step_39 : decode cX3_step 39 = .ok (.iload_n 2, 1) := dk_28 (dk_at dksX3_step_1 16 rfl rfl)
theorem dX3_step_40 : decode cX3_step 40 = .ok (.laload, 1) := dk_47 (dk_at dksX3_step_1 17 rfl rfl)
theorem dX3_step_41 : decode cX3_step 41 = .ok (.lastore, 1) := dk_80 (dk_at dksX3_step_1 18 rfl rfl)
theorem dX3_step_42 : decode cX3_step 42 = .ok (.iinc 2 1, 3) := dk_132 2 1 (dk_at dksX3_step_1 19 rfl rfl)
theorem dX3_step_45 : decode cX3_step 45 = .ok (.goto (-33), 3) := dk_167 255 223 (dk_at dksX3_step_2 0 rfl rfl)
theorem dX3_step_48 : decode cX3_step 48 = .ok (.aload_n 0, 1) := dk_42 (dk_at dksX3_step_2 3 rfl rfl)
theorem dX3_step_49 : decode cX3_step 49 = .ok (.iconst 0, 1) := dk_3 (dk_at dksX3_step_2 4 rfl rfl)
theorem dX3_step_50 : decode cX3_step 50 = .ok (.aload_n 0, 1) := dk_42 (dk_at dksX3_step_2 5 rfl rfl)
theorem dX3_step_51 : decode cX3_step 51 = .ok (.getfield 366, 3) := dk_180 1 110 (dk_at dksX3_step_2 6 rfl rfl)
theorem dX3_step_54 : decode cX3_step 54 = .ok (.aload_n 0, 1) := dk_42 (dk_at dksX3_step_2 9 rfl rfl)
theorem dX3_step_55 : decode cX3_step 55 = .ok (.getfield 369, 3) := dk_180 1 113 (dk_at dksX3_step_2 10 rfl rfl)
theorem dX3_step_58 : decode cX3_step 58 = .ok (.invokevirtual 442, 3) := dk_182 1 186 (dk_at dksX3_step_2 13 rfl rfl)
theorem dX3_step_61 : decode cX3_step 61 = .ok (.iconst 0, 1) := dk_3 (dk_at dksX3_step_2 16 rfl rfl)
theorem dX3_step_62 : decode cX3_step 62 = .ok (.istore_n 2, 1) := dk_61 (dk_at dksX3_step_2 17 rfl rfl)
theorem dX3_step_63 : decode cX3_step 63 = .ok (.iconst 0, 1) := dk_3 (dk_at dksX3_step_2 18 rfl rfl)
theorem dX3_step_64 : decode cX3_step 64 = .ok (.istore_n 3, 1) := dk_62 (dk_at dksX3_step_2 19 rfl rfl)
theorem dX3_step_65 : decode cX3_step 65 = .ok (.iload_n 3, 1) := dk_29 (dk_at dksX3_step_2 20 rfl rfl)
theorem dX3_step_66 : decode cX3_step 66 = .ok (.aload_n 0, 1) := dk_42 (dk_at dksX3_step_2 21 rfl rfl)
theorem dX3_step_67 : decode cX3_step 67 = .ok (.getfield 61, 3) := dk_180 0 61 (dk_at dksX3_step_3 0 rfl rfl)
theorem dX3_step_70 : decode cX3_step 70 = .ok (.iconst 3, 1) := dk_6 (dk_at dksX3_step_3 3 rfl rfl)
theorem dX3_step_71 : decode cX3_step 71 = .ok (.iaload, 1) := dk_46 (dk_at dksX3_step_3 4 rfl rfl)
theorem dX3_step_72 : decode cX3_step 72 = .ok (.if_icmp .ge 29, 3) := dk_162 0 29 (dk_at dksX3_step_3 5 rfl rfl)
theorem dX3_step_75 : decode cX3_step 75 = .ok (.iload_n 2, 1) := dk_28 (dk_at dksX3_step_3 8 rfl rfl)
theorem dX3_step_76 : decode cX3_step 76 = .ok (.aload_n 0, 1) := dk_42 (dk_at dksX3_step_3 9 rfl rfl)
theorem dX3_step_77 : decode cX3_step 77 = .ok (.iload_n 3, 1) := dk_29 (dk_at dksX3_step_3 10 rfl rfl)
theorem dX3_step_78 : decode cX3_step 78 = .ok (.aload_n 0, 1) := dk_42 (dk_at dksX3_step_3 11 rfl rfl)
theorem dX3_step_79 : decode cX3_step 79 = .ok (.getfield 369, 3) := dk_180 1 113 (dk_at dksX3_step_3 12 rfl rfl)
theorem dX3_step_82 : decode cX3_step 82 = .ok (.invokevirtual 446, 3) := dk_182 1 190 (dk_at dksX3_step_3 15 rfl rfl)
theorem dX3_step_85 : decode cX3_step 85 = .ok (.ifCond .eq 7, 3) := dk_153 0 7 (dk_at dksX3_step_3 18 rfl rfl)
theorem dX3_step_88 : decode cX3_step 88 = .ok (.iconst 0, 1) := dk_3 (dk_at dksX3_step_3 21 rfl rfl)
theorem dX3_step_89 : decode cX3_step 89 = .ok (.goto 4, 3) := dk_167 0 4 (dk_at dksX3_step_4 0 rfl rfl)
theorem dX3_step_92 : decode cX3_step 92 = .ok (.iconst 1, 1) := dk_4 (dk_at dksX3_step_4 3 rfl rfl)
theorem dX3_step_93 : decode cX3_step 93 = .ok (.iadd, 1) := dk_96 (dk_at dksX3_step_4 4 rfl rfl)
theorem dX3_step_94 : decode cX3_step 94 = .ok (.istore_n 2, 1) := dk_61 (dk_at dksX3_step_4 5 rfl rfl)
theorem dX3_step_95 : decode cX3_step 95 = .ok (.iinc 3 1, 3) := dk_132 3 1 (dk_at dksX3_step_4 6 rfl rfl)
theorem dX3_step_98 : decode cX3_step 98 = .ok (.goto (-33), 3) := dk_167 255 223 (dk_at dksX3_step_4 9 rfl rfl)
theorem dX3_step_101 : decode cX3_step 101 = .ok (.aload_n 0, 1) := dk_42 (dk_at dksX3_step_4 12 rfl rfl)
theorem dX3_step_102 : decode cX3_step 102 = .ok (.dup, 1) := dk_89 (dk_at dksX3_step_4 13 rfl rfl)
theorem dX3_step_103 : decode cX3_step 103 = .ok (.getfield 369, 3) := dk_180 1 113 (dk_at dksX3_step_4 14 rfl rfl)
theorem dX3_step_106 : decode cX3_step 106 = .ok (.iconst 1, 1) := dk_4 (dk_at dksX3_step_4 17 rfl rfl)
theorem dX3_step_107 : decode cX3_step 107 = .ok (.iadd, 1) := dk_96 (dk_at dksX3_step_4 18 rfl rfl)
theorem dX3_step_108 : decode cX3_step 108 = .ok (.putfield 369, 3) := dk_181 1 113 (dk_at dksX3_step_4 19 rfl rfl)
theorem dX3_step_111 : decode cX3_step 111 = .ok (.iload_n 2, 1) := dk_28 (dk_at dksX3_step_4 22 rfl rfl)
theorem dX3_step_112 : decode cX3_step 112 = .ok (.ireturn, 1) := dk_172 (dk_at dksX3_step_4 23 rfl rfl)
abbrev cX3_reckon : ByteArray := prog_34_method_60_code
def yX3_reckon : MethodName := ⟨RX3, "reckon", "(III)V"⟩
def dkwX3_reckon_2 : List UInt8 := [29, 182, 1, 148, 80, 132, 4, 1, 167, 255, 203, 177]
abbrev dktX3_reckon_2 : List UInt8 := dkwX3_reckon_2 ++ []
def dkwX3_reckon_1 : List UInt8 := [21, 4, 46, 16, 20, 162, 0, 16, 42, 21, 4, 29, 182, 1, 140, 184, 1, 144, 167, 0, 10, 42, 21, 4]
abbrev dktX3_reckon_1 : List UInt8 := dkwX3_reckon_1 ++ dktX3_reckon_2
def dkwX3_reckon_0 : List UInt8 := [27, 54, 4, 21, 4, 28, 162, 0, 53, 42, 180, 0, 48, 16, 120, 21, 4, 104, 29, 96, 42, 180, 0, 26]
abbrev dktX3_reckon_0 : List UInt8 := dkwX3_reckon_0 ++ dktX3_reckon_1
theorem dksX3_reckon_0 : cX3_reckon.data.toList.drop 0 = dktX3_reckon_0 := by decide +kernel
theorem dksX3_reckon_1 : cX3_reckon.data.toList.drop 24 = dktX3_reckon_1 := dk_seg dksX3_reckon_0 24 rfl rfl
theorem dksX3_reckon_2 : cX3_reckon.data.toList.drop 48 = dktX3_reckon_2 := dk_seg dksX3_reckon_1 24 rfl rfl
theorem dX3_reckon_0 : decode cX3_reckon 0 = .ok (.iload_n 1, 1) := dk_27 (dk_at dksX3_reckon_0 0 rfl rfl)
theorem dX3_reckon_1 : decode cX3_reckon 1 = .ok (.istore 4, 2) := dk_54 4 (dk_at dksX3_reckon_0 1 rfl rfl)
theorem dX3_reckon_3 : decode cX3_reckon 3 = .ok (.iload 4, 2) := dk_21 4 (dk_at dksX3_reckon_0 3 rfl rfl)
theorem dX3_reckon_5 : decode cX3_reckon 5 = .ok (.iload_n 2, 1) := dk_28 (dk_at dksX3_reckon_0 5 rfl rfl)
theorem dX3_reckon_6 : decode cX3_reckon 6 = .ok (.if_icmp .ge 53, 3) := dk_162 0 53 (dk_at dksX3_reckon_0 6 rfl rfl)
theorem dX3_reckon_9 : decode cX3_reckon 9 = .ok (.aload_n 0, 1) := dk_42 (dk_at dksX3_reckon_0 9 rfl rfl)
theorem dX3_reckon_10 : decode cX3_reckon 10 = .ok (.getfield 48, 3) := dk_180 0 48 (dk_at dksX3_reckon_0 10 rfl rfl)
theorem dX3_reckon_13 : decode cX3_reckon 13 = .ok (.bipush 120, 2) := dk_16 120 (dk_at dksX3_reckon_0 13 rfl rfl)
theorem dX3_reckon_15 : decode cX3_reckon 15 = .ok (.iload 4, 2) := dk_21 4 (dk_at dksX3_reckon_0 15 rfl rfl)
theorem dX3_reckon_17 : decode cX3_reckon 17 = .ok (.imul, 1) := dk_104 (dk_at dksX3_reckon_0 17 rfl rfl)
theorem dX3_reckon_18 : decode cX3_reckon 18 = .ok (.iload_n 3, 1) := dk_29 (dk_at dksX3_reckon_0 18 rfl rfl)
theorem dX3_reckon_19 : decode cX3_reckon 19 = .ok (.iadd, 1) := dk_96 (dk_at dksX3_reckon_0 19 rfl rfl)
theorem dX3_reckon_20 : decode cX3_reckon 20 = .ok (.aload_n 0, 1) := dk_42 (dk_at dksX3_reckon_0 20 rfl rfl)
theorem dX3_reckon_21 : decode cX3_reckon 21 = .ok (.getfield 26, 3) := dk_180 0 26 (dk_at dksX3_reckon_0 21 rfl rfl)
theorem dX3_reckon_24 : decode cX3_reckon 24 = .ok (.iload 4, 2) := dk_21 4 (dk_at dksX3_reckon_1 0 rfl rfl)
theorem dX3_reckon_26 : decode cX3_reckon 26 = .ok (.iaload, 1) := dk_46 (dk_at dksX3_reckon_1 2 rfl rfl)
theorem dX3_reckon_27 : decode cX3_reckon 27 = .ok (.bipush 20, 2) := dk_16 20 (dk_at dksX3_reckon_1 3 rfl rfl)
theorem dX3_reckon_29 : decode cX3_reckon 29 = .ok (.if_icmp .ge 16, 3) := dk_162 0 16 (dk_at dksX3_reckon_1 5 rfl rfl)
theorem dX3_reckon_32 : decode cX3_reckon 32 = .ok (.aload_n 0, 1) := dk_42 (dk_at dksX3_reckon_1 8 rfl rfl)
theorem dX3_reckon_33 : decode cX3_reckon 33 = .ok (.iload 4, 2) := dk_21 4 (dk_at dksX3_reckon_1 9 rfl rfl)
theorem dX3_reckon_35 : decode cX3_reckon 35 = .ok (.iload_n 3, 1) := dk_29 (dk_at dksX3_reckon_1 11 rfl rfl)
theorem dX3_reckon_36 : decode cX3_reckon 36 = .ok (.invokevirtual 396, 3) := dk_182 1 140 (dk_at dksX3_reckon_1 12 rfl rfl)
theorem dX3_reckon_39 : decode cX3_reckon 39 = .ok (.invokestatic 400, 3) := dk_184 1 144 (dk_at dksX3_reckon_1 15 rfl rfl)
theorem dX3_reckon_42 : decode cX3_reckon 42 = .ok (.goto 10, 3) := dk_167 0 10 (dk_at dksX3_reckon_1 18 rfl rfl)
theorem dX3_reckon_45 : decode cX3_reckon 45 = .ok (.aload_n 0, 1) := dk_42 (dk_at dksX3_reckon_1 21 rfl rfl)
theorem dX3_reckon_46 : decode cX3_reckon 46 = .ok (.iload 4, 2) := dk_21 4 (dk_at dksX3_reckon_1 22 rfl rfl)
theorem dX3_reckon_48 : decode cX3_reckon 48 = .ok (.iload_n 3, 1) := dk_29 (dk_at dksX3_reckon_2 0 rfl rfl)
theorem dX3_reckon_49 : decode cX3_reckon 49 = .ok (.invokevirtual 404, 3) := dk_182 1 148 (dk_at dksX3_reckon_2 1 rfl rfl)
theorem dX3_reckon_52 : decode cX3_reckon 52 = .ok (.lastore, 1) := dk_80 (dk_at dksX3_reckon_2 4 rfl rfl)
theorem dX3_reckon_53 : decode cX3_reckon 53 = .ok (.iinc 4 1, 3) := dk_132 4 1 (dk_at dksX3_reckon_2 5 rfl rfl)
theorem dX3_reckon_56 : decode cX3_reckon 56 = .ok (.goto (-53), 3) := dk_167 255 203 (dk_at dksX3_reckon_2 8 rfl rfl)
theorem dX3_reckon_59 : decode cX3_reckon 59 = .ok (.return_, 1) := dk_177 (dk_at dksX3_reckon_2 11 rfl rfl)
abbrev cX3_isTrue : ByteArray := prog_34_method_62_code
def yX3_isTrue : MethodName := ⟨RX3, "isTrue", "(II)Z"⟩
def dkwX3_isTrue_14 : List UInt8 := [172]
abbrev dktX3_isTrue_14 : List UInt8 := dkwX3_isTrue_14 ++ []
def dkwX3_isTrue_13 : List UInt8 := [42, 29, 28, 182, 1, 151, 153, 0, 13, 42, 21, 4, 28, 182, 1, 151, 153, 0, 7, 4, 167, 0, 4, 3]
abbrev dktX3_isTrue_13 : List UInt8 := dkwX3_isTrue_13 ++ dktX3_isTrue_14
def dkwX3_isTrue_12 : List UInt8 := [29, 28, 182, 1, 151, 154, 0, 13, 42, 21, 4, 28, 182, 1, 151, 153, 0, 7, 4, 167, 0, 4, 3, 172]
abbrev dktX3_isTrue_12 : List UInt8 := dkwX3_isTrue_12 ++ dktX3_isTrue_13
def dkwX3_isTrue_11 : List UInt8 := [28, 182, 1, 151, 153, 0, 17, 42, 21, 4, 28, 182, 1, 151, 153, 0, 7, 4, 167, 0, 4, 3, 172, 42]
abbrev dktX3_isTrue_11 : List UInt8 := dkwX3_isTrue_11 ++ dktX3_isTrue_12
def dkwX3_isTrue_10 : List UInt8 := [28, 182, 1, 137, 42, 21, 4, 28, 182, 1, 137, 184, 1, 160, 172, 42, 27, 28, 182, 1, 164, 172, 42, 29]
abbrev dktX3_isTrue_10 : List UInt8 := dkwX3_isTrue_10 ++ dktX3_isTrue_11
def dkwX3_isTrue_9 : List UInt8 := [167, 0, 4, 3, 172, 4, 172, 3, 172, 42, 29, 28, 182, 1, 151, 172, 42, 180, 0, 35, 27, 46, 42, 29]
abbrev dktX3_isTrue_9 : List UInt8 := dkwX3_isTrue_9 ++ dktX3_isTrue_10
def dkwX3_isTrue_8 : List UInt8 := [54, 5, 132, 6, 1, 167, 255, 214, 21, 5, 172, 42, 27, 28, 182, 1, 157, 2, 160, 0, 7, 4]
abbrev dktX3_isTrue_8 : List UInt8 := dkwX3_isTrue_8 ++ dktX3_isTrue_9
def dkwX3_isTrue_7 : List UInt8 := [21, 6, 182, 1, 151, 153, 0, 18, 42, 27, 21, 6, 28, 182, 1, 154, 153, 0, 7, 4, 167, 0, 4, 3]
abbrev dktX3_isTrue_7 : List UInt8 := dkwX3_isTrue_7 ++ dktX3_isTrue_8
def dkwX3_isTrue_6 : List UInt8 := [167, 0, 4, 3, 172, 3, 54, 5, 3, 54, 6, 21, 6, 28, 163, 0, 42, 21, 5, 154, 0, 24, 42, 29]
abbrev dktX3_isTrue_6 : List UInt8 := dkwX3_isTrue_6 ++ dktX3_isTrue_7
def dkwX3_isTrue_5 : List UInt8 := [182, 1, 151, 154, 0, 22, 28, 158, 0, 18, 42, 29, 28, 4, 100, 182, 1, 151, 153, 0, 7, 4]
abbrev dktX3_isTrue_5 : List UInt8 := dkwX3_isTrue_5 ++ dktX3_isTrue_6
def dkwX3_isTrue_4 : List UInt8 := [153, 0, 14, 42, 29, 28, 4, 100, 182, 1, 151, 154, 0, 7, 4, 167, 0, 4, 3, 172, 42, 29, 28]
abbrev dktX3_isTrue_4 : List UInt8 := dkwX3_isTrue_4 ++ dktX3_isTrue_5
def dkwX3_isTrue_3 : List UInt8 := [182, 1, 151, 153, 0, 7, 4, 167, 0, 4, 3, 172, 42, 29, 28, 182, 1, 151, 153, 0, 22, 28]
abbrev dktX3_isTrue_3 : List UInt8 := dkwX3_isTrue_3 ++ dktX3_isTrue_4
def dkwX3_isTrue_2 : List UInt8 := [42, 29, 28, 182, 1, 151, 154, 0, 7, 4, 167, 0, 4, 3, 172, 28, 158, 0, 18, 42, 29, 28, 4, 100]
abbrev dktX3_isTrue_2 : List UInt8 := dkwX3_isTrue_2 ++ dktX3_isTrue_3
def dkwX3_isTrue_1 : List UInt8 := [170, 0, 0, 0, 0, 1, 68, 0, 0, 0, 0, 0, 0, 0, 12, 0, 0, 0, 67, 0, 0, 0, 82, 0, 0, 0, 103, 0, 0, 0, 133, 0, 0, 0, 163, 0, 0, 0, 217, 0, 0, 0, 233, 0, 0, 0, 235, 0, 0, 0, 237, 0, 0, 0, 244, 0, 0, 1, 11, 0, 0, 1, 18, 0, 0, 1, 43]
abbrev dktX3_isTrue_1 : List UInt8 := dkwX3_isTrue_1 ++ dktX3_isTrue_2
def dkwX3_isTrue_0 : List UInt8 := [42, 180, 0, 29, 27, 46, 62, 42, 180, 0, 32, 27, 46, 54, 4, 42, 180, 0, 26, 27, 46]
abbrev dktX3_isTrue_0 : List UInt8 := dkwX3_isTrue_0 ++ dktX3_isTrue_1
theorem dksX3_isTrue_0 : cX3_isTrue.data.toList.drop 0 = dktX3_isTrue_0 := by decide +kernel
theorem dksX3_isTrue_1 : cX3_isTrue.data.toList.drop 21 = dktX3_isTrue_1 := dk_seg dksX3_isTrue_0 21 rfl rfl
theorem dksX3_isTrue_2 : cX3_isTrue.data.toList.drop 88 = dktX3_isTrue_2 := dk_seg dksX3_isTrue_1 67 rfl rfl
theorem dksX3_isTrue_3 : cX3_isTrue.data.toList.drop 112 = dktX3_isTrue_3 := dk_seg dksX3_isTrue_2 24 rfl rfl
theorem dksX3_isTrue_4 : cX3_isTrue.data.toList.drop 134 = dktX3_isTrue_4 := dk_seg dksX3_isTrue_3 22 rfl rfl
theorem dksX3_isTrue_5 : cX3_isTrue.data.toList.drop 157 = dktX3_isTrue_5 := dk_seg dksX3_isTrue_4 23 rfl rfl
theorem dksX3_isTrue_6 : cX3_isTrue.data.toList.drop 179 = dktX3_isTrue_6 := dk_seg dksX3_isTrue_5 22 rfl rfl
theorem dksX3_isTrue_7 : cX3_isTrue.data.toList.drop 203 = dktX3_isTrue_7 := dk_seg dksX3_isTrue_6 24 rfl rfl
theorem dksX3_isTrue_8 : cX3_isTrue.data.toList.drop 227 = dktX3_isTrue_8 := dk_seg dksX3_isTrue_7 24 rfl rfl
theorem dksX3_isTrue_9 : cX3_isTrue.data.toList.drop 249 = dktX3_isTrue_9 := dk_seg dksX3_isTrue_8 22 rfl rfl
theorem dksX3_isTrue_10 : cX3_isTrue.data.toList.drop 273 = dktX3_isTrue_10 := dk_seg dksX3_isTrue_9 24 rfl rfl
theorem dksX3_isTrue_11 : cX3_isTrue.data.toList.drop 297 = dktX3_isTrue_11 := dk_seg dksX3_isTrue_10 24 rfl rfl
theorem dksX3_isTrue_12 : cX3_isTrue.data.toList.drop 321 = dktX3_isTrue_12 := dk_seg dksX3_isTrue_11 24 rfl rfl
theorem dksX3_isTrue_13 : cX3_isTrue.data.toList.drop 345 = dktX3_isTrue_13 := dk_seg dksX3_isTrue_12 24 rfl rfl
theorem dksX3_isTrue_14 : cX3_isTrue.data.toList.drop 369 = dktX3_isTrue_14 := dk_seg dksX3_isTrue_13 24 rfl rfl
theorem dX3_isTrue_0 : decode cX3_isTrue 0 = .ok (.aload_n 0, 1) := dk_42 (dk_at dksX3_isTrue_0 0 rfl rfl)
theorem dX3_isTrue_1 : decode cX3_isTrue 1 = .ok (.getfield 29, 3) := dk_180 0 29 (dk_at dksX3_isTrue_0 1 rfl rfl)
theorem dX3_isTrue_4 : decode cX3_isTrue 4 = .ok (.iload_n 1, 1) := dk_27 (dk_at dksX3_isTrue_0 4 rfl rfl)
theorem dX3_isTrue_5 : decode cX3_isTrue 5 = .ok (.iaload, 1) := dk_46 (dk_at dksX3_isTrue_0 5 rfl rfl)
theorem dX3_isTrue_6 : decode cX3_isTrue 6 = .ok (.istore_n 3, 1) := dk_62 (dk_at dksX3_isTrue_0 6 rfl rfl)
theorem dX3_isTrue_7 : decode cX3_isTrue 7 = .ok (.aload_n 0, 1) := dk_42 (dk_at dksX3_isTrue_0 7 rfl rfl)
theorem dX3_isTrue_8 : decode cX3_isTrue 8 = .ok (.getfield 32, 3) := dk_180 0 32 (dk_at dksX3_isTrue_0 8 rfl rfl)
theorem dX3_isTrue_11 : decode cX3_isTrue 11 = .ok (.iload_n 1, 1) := dk_27 (dk_at dksX3_isTrue_0 11 rfl rfl)
theorem dX3_isTrue_12 : decode cX3_isTrue 12 = .ok (.iaload, 1) := dk_46 (dk_at dksX3_isTrue_0 12 rfl rfl)
theorem dX3_isTrue_13 : decode cX3_isTrue 13 = .ok (.istore 4, 2) := dk_54 4 (dk_at dksX3_isTrue_0 13 rfl rfl)
theorem dX3_isTrue_15 : decode cX3_isTrue 15 = .ok (.aload_n 0, 1) := dk_42 (dk_at dksX3_isTrue_0 15 rfl rfl)
theorem dX3_isTrue_16 : decode cX3_isTrue 16 = .ok (.getfield 26, 3) := dk_180 0 26 (dk_at dksX3_isTrue_0 16 rfl rfl)
theorem dX3_isTrue_19 : decode cX3_isTrue 19 = .ok (.iload_n 1, 1) := dk_27 (dk_at dksX3_isTrue_0 19 rfl rfl)
theorem dX3_isTrue_20 : decode cX3_isTrue 20 = .ok (.iaload, 1) := dk_46 (dk_at dksX3_isTrue_0 20 rfl rfl)
theorem dX3_isTrue_21 : decode cX3_isTrue 21 = .ok (.tableswitch 324 0 12 #[67, 82, 103, 133, 163, 217, 233, 235, 237, 244, 267, 274, 299], 67) := by decide +kernel
theorem dX3_isTrue_88 : decode cX3_isTrue 88 = .ok (.aload_n 0, 1) := dk_42 (dk_at dksX3_isTrue_2 0 rfl rfl)
theorem dX3_isTrue_89 : decode cX3_isTrue 89 = .ok (.iload_n 3, 1) := dk_29 (dk_at dksX3_isTrue_2 1 rfl rfl)
theorem dX3_isTrue_90 : decode cX3_isTrue 90 = .ok (.iload_n 2, 1) := dk_28 (dk_at dksX3_isTrue_2 2 rfl rfl)
theorem dX3_isTrue_91 : decode cX3_isTrue 91 = .ok (.invokevirtual 407, 3) := dk_182 1 151 (dk_at dksX3_isTrue_2 3 rfl rfl)
theorem dX3_isTrue_94 : decode cX3_isTrue 94 = .ok (.ifCond .ne 7, 3) := dk_154 0 7 (dk_at dksX3_isTrue_2 6 rfl rfl)
theorem dX3_isTrue_97 : decode cX3_isTrue 97 = .ok (.iconst 1, 1) := dk_4 (dk_at dksX3_isTrue_2 9 rfl rfl)
theorem dX3_isTrue_98 : decode cX3_isTrue 98 = .ok (.goto 4, 3) := dk_167 0 4 (dk_at dksX3_isTrue_2 10 rfl rfl)
theorem dX3_isTrue_101 : decode cX3_isTrue 101 = .ok (.iconst 0, 1) := dk_3 (dk_at dksX3_isTrue_2 13 rfl rfl)
theorem dX3_isTrue_102 : decode cX3_isTrue 102 = .ok (.ireturn, 1) := dk_172 (dk_at dksX3_isTrue_2 14 rfl rfl)
theorem dX3_isTrue_103 : decode cX3_isTrue 103 = .ok (.iload_n 2, 1) := dk_28 (dk_at dksX3_isTrue_2 15 rfl rfl)
theorem dX3_isTrue_104 : decode cX3_isTrue 104 = .ok (.ifCond .le 18, 3) := dk_158 0 18 (dk_at dksX3_isTrue_2 16 rfl rfl)
theorem dX3_isTrue_107 : decode cX3_isTrue 107 = .ok (.aload_n 0, 1) := dk_42 (dk_at dksX3_isTrue_2 19 rfl rfl)
theorem dX3_isTrue_108 : decode cX3_isTrue 108 = .ok (.iload_n 3, 1) := dk_29 (dk_at dksX3_isTrue_2 20 rfl rfl)
theorem dX3_isTrue_109 : decode cX3_isTrue 109 = .ok (.iload_n 2, 1) := dk_28 (dk_at dksX3_isTrue_2 21 rfl rfl)
theorem dX3_isTrue_110 : decode cX3_isTrue 110 = .ok (.iconst 1, 1) := dk_4 (dk_at dksX3_isTrue_2 22 rfl rfl)
theorem dX3_isTrue_111 : decode cX3_isTrue 111 = .ok (.isub, 1) := dk_100 (dk_at dksX3_isTrue_2 23 rfl rfl)
theorem dX3_isTrue_112 : decode cX3_isTrue 112 = .ok (.invokevirtual 407, 3) := dk_182 1 151 (dk_at dksX3_isTrue_3 0 rfl rfl)
theorem dX3_isTrue_115 : decode cX3_isTrue 115 = .ok (.ifCond .eq 7, 3) := dk_153 0 7 (dk_at dksX3_isTrue_3 3 rfl rfl)
theorem dX3_isTrue_118 : decode cX3_isTrue 118 = .ok (.iconst 1, 1) := dk_4 (dk_at dksX3_isTrue_3 6 rfl rfl)
theorem dX3_isTrue_119 : decode cX3_isTrue 119 = .ok (.goto 4, 3) := dk_167 0 4 (dk_at dksX3_isTrue_3 7 rfl rfl)
theorem dX3_isTrue_122 : decode cX3_isTrue 122 = .ok (.iconst 0, 1) := dk_3 (dk_at dksX3_isTrue_3 10 rfl rfl)
theorem dX3_isTrue_123 : decode cX3_isTrue 123 = .ok (.ireturn, 1) := dk_172 (dk_at dksX3_isTrue_3 11 rfl rfl)
theorem dX3_isTrue_124 : decode cX3_isTrue 124 = .ok (.aload_n 0, 1) := dk_42 (dk_at dksX3_isTrue_3 12 rfl rfl)
theorem dX3_isTrue_125 : decode cX3_isTrue 125 = .ok (.iload_n 3, 1) := dk_29 (dk_at dksX3_isTrue_3 13 rfl rfl)
theorem dX3_isTrue_126 : decode cX3_isTrue 126 = .ok (.iload_n 2, 1) := dk_28 (dk_at dksX3_isTrue_3 14 rfl rfl)
theorem dX3_isTrue_127 : decode cX3_isTrue 127 = .ok (.invokevirtual 407, 3) := dk_182 1 151 (dk_at dksX3_isTrue_3 15 rfl rfl)
theorem dX3_isTrue_130 : decode cX3_isTrue 130 = .ok (.ifCond .eq 22, 3) := dk_153 0 22 (dk_at dksX3_isTrue_3 18 rfl rfl)
theorem dX3_isTrue_133 : decode cX3_isTrue 133 = .ok (.iload_n 2, 1) := dk_28 (dk_at dksX3_isTrue_3 21 rfl rfl)
theorem dX3_isTrue_134 : decode cX3_isTrue 134 = .ok (.ifCond .eq 14, 3) := dk_153 0 14 (dk_at dksX3_isTrue_4 0 rfl rfl)
theorem dX3_isTrue_137 : decode cX3_isTrue 137 = .ok (.aload_n 0, 1) := dk_42 (dk_at dksX3_isTrue_4 3 rfl rfl)
theorem dX3_isTrue_138 : decode cX3_isTrue 138 = .ok (.iload_n 3, 1) := dk_29 (dk_at dksX3_isTrue_4 4 rfl rfl)
theorem dX3_isTrue_139 : decode cX3_isTrue 139 = .ok (.iload_n 2, 1) := dk_28 (dk_at dksX3_isTrue_4 5 rfl rfl)
theorem dX3_isTrue_140 : decode cX3_isTrue 140 = .ok (.iconst 1, 1) := dk_4 (dk_at dksX3_isTrue_4 6 rfl rfl)
theorem dX3_isTrue_141 : decode cX3_isTrue 141 = .ok (.isub, 1) := dk_100 (dk_at dksX3_isTrue_4 7 rfl rfl)
theorem dX3_isTrue_142 : decode cX3_isTrue 142 = .ok (.invokevirtual 407, 3) := dk_182 1 151 (dk_at dksX3_isTrue_4 8 rfl rfl)
theorem dX3_isTrue_145 : decode cX3_isTrue 145 = .ok (.ifCond .ne 7, 3) := dk_154 0 7 (dk_at dksX3_isTrue_4 11 rfl rfl)
theorem dX3_isTrue_148 : decode cX3_isTrue 148 = .ok (.iconst 1, 1) := dk_4 (dk_at dksX3_isTrue_4 14 rfl rfl)
theorem dX3_isTrue_149 : decode cX3_isTrue 149 = .ok (.goto 4, 3) := dk_167 0 4 (dk_at dksX3_isTrue_4 15 rfl rfl)
theorem dX3_isTrue_152 : decode cX3_isTrue 152 = .ok (.iconst 0, 1) := dk_3 (dk_at dksX3_isTrue_4 18 rfl rfl)
theorem dX3_isTrue_153 : decode cX3_isTrue 153 = .ok (.ireturn, 1) := dk_172 (dk_at dksX3_isTrue_4 19 rfl rfl)
theorem dX3_isTrue_154 : decode cX3_isTrue 154 = .ok (.aload_n 0, 1) := dk_42 (dk_at dksX3_isTrue_4 20 rfl rfl)
theorem dX3_isTrue_155 : decode cX3_isTrue 155 = .ok (.iload_n 3, 1) := dk_29 (dk_at dksX3_isTrue_4 21 rfl rfl)
theorem dX3_isTrue_156 : decode cX3_isTrue 156 = .ok (.iload_n 2, 1) := dk_28 (dk_at dksX3_isTrue_4 22 rfl rfl)
theorem dX3_isTrue_157 : decode cX3_isTrue 157 = .ok (.invokevirtual 407, 3) := dk_182 1 151 (dk_at dksX3_isTrue_5 0 rfl rfl)
theorem dX3_isTrue_160 : decode cX3_isTrue 160 = .ok (.ifCond .ne 22, 3) := dk_154 0 22 (dk_at dksX3_isTrue_5 3 rfl rfl)
theorem dX3_isTrue_163 : decode cX3_isTrue 163 = .ok (.iload_n 2, 1) := dk_28 (dk_at dksX3_isTrue_5 6 rfl rfl)
theorem dX3_isTrue_164 : decode cX3_isTrue 164 = .ok (.ifCond .le 18, 3) := dk_158 0 18 (dk_at dksX3_isTrue_5 7 rfl rfl)
theorem dX3_isTrue_167 : decode cX3_isTrue 167 = .ok (.aload_n 0, 1) := dk_42 (dk_at dksX3_isTrue_5 10 rfl rfl)
theorem dX3_isTrue_168 : decode cX3_isTrue 168 = .ok (.iload_n 3, 1) := dk_29 (dk_at dksX3_isTrue_5 11 rfl rfl)
theorem dX3_isTrue_169 : decode cX3_isTrue 169 = .ok (.iload_n 2, 1) := dk_28 (dk_at dksX3_isTrue_5 12 rfl rfl)
theorem dX3_isTrue_170 : decode cX3_isTrue 170 = .ok (.iconst 1, 1) := dk_4 (dk_at dksX3_isTrue_5 13 rfl rfl)
theorem dX3_isTrue_171 : decode cX3_isTrue 171 = .ok (.isub, 1) := dk_100 (dk_at dksX3_isTrue_5 14 rfl rfl)
theorem dX3_isTrue_172 : decode cX3_isTrue 172 = .ok (.invokevirtual 407, 3) := dk_182 1 151 (dk_at dksX3_isTrue_5 15 rfl rfl)
theorem dX3_isTrue_175 : decode cX3_isTrue 175 = .ok (.ifCond .eq 7, 3) := dk_153 0 7 (dk_at dksX3_isTrue_5 18 rfl rfl)
theorem dX3_isTrue_178 : decode cX3_isTrue 178 = .ok (.iconst 1, 1) := dk_4 (dk_at dksX3_isTrue_5 21 rfl rfl)
theorem dX3_isTrue_179 : decode cX3_isTrue 179 = .ok (.goto 4, 3) := dk_167 0 4 (dk_at dksX3_isTrue_6 0 rfl rfl)
theorem dX3_isTrue_182 : decode cX3_isTrue 182 = .ok (.iconst 0, 1) := dk_3 (dk_at dksX3_isTrue_6 3 rfl rfl)
theorem dX3_isTrue_183 : decode cX3_isTrue 183 = .ok (.ireturn, 1) := dk_172 (dk_at dksX3_isTrue_6 4 rfl rfl)
theorem dX3_isTrue_184 : decode cX3_isTrue 184 = .ok (.iconst 0, 1) := dk_3 (dk_at dksX3_isTrue_6 5 rfl rfl)
theorem dX3_isTrue_185 : decode cX3_isTrue 185 = .ok (.istore 5, 2) := dk_54 5 (dk_at dksX3_isTrue_6 6 rfl rfl)
theorem dX3_isTrue_187 : decode cX3_isTrue 187 = .ok (.iconst 0, 1) := dk_3 (dk_at dksX3_isTrue_6 8 rfl rfl)
theorem dX3_isTrue_188 : decode cX3_isTrue 188 = .ok (.istore 6, 2) := dk_54 6 (dk_at dksX3_isTrue_6 9 rfl rfl)
theorem dX3_isTrue_190 : decode cX3_isTrue 190 = .ok (.iload 6, 2) := dk_21 6 (dk_at dksX3_isTrue_6 11 rfl rfl)
theorem dX3_isTrue_192 : decode cX3_isTrue 192 = .ok (.iload_n 2, 1) := dk_28 (dk_at dksX3_isTrue_6 13 rfl rfl)
theorem dX3_isTrue_193 : decode cX3_isTrue 193 = .ok (.if_icmp .gt 42, 3) := dk_163 0 42 (dk_at dksX3_isTrue_6 14 rfl rfl)
theorem dX3_isTrue_196 : decode cX3_isTrue 196 = .ok (.iload 5, 2) := dk_21 5 (dk_at dksX3_isTrue_6 17 rfl rfl)
theorem dX3_isTrue_198 : decode cX3_isTrue 198 = .ok (.ifCond .ne 24, 3) := dk_154 0 24 (dk_at dksX3_isTrue_6 19 rfl rfl)
theorem dX3_isTrue_201 : decode cX3_isTrue 201 = .ok (.aload_n 0, 1) := dk_42 (dk_at dksX3_isTrue_6 22 rfl rfl)
theorem dX3_isTrue_202 : decode cX3_isTrue 202 = .ok (.iload_n 3, 1) := dk_29 (dk_at dksX3_isTrue_6 23 rfl rfl)
theorem dX3_isTrue_203 : decode cX3_isTrue 203 = .ok (.iload 6, 2) := dk_21 6 (dk_at dksX3_isTrue_7 0 rfl rfl)
theorem dX3_isTrue_205 : decode cX3_isTrue 205 = .ok (.invokevirtual 407, 3) := dk_182 1 151 (dk_at dksX3_isTrue_7 2 rfl rfl)
theorem dX3_isTrue_208 : decode cX3_isTrue 208 = .ok (.ifCond .eq 18, 3) := dk_153 0 18 (dk_at dksX3_isTrue_7 5 rfl rfl)
theorem dX3_isTrue_211 : decode cX3_isTrue 211 = .ok (.aload_n 0, 1) := dk_42 (dk_at dksX3_isTrue_7 8 rfl rfl)
theorem dX3_isTrue_212 : decode cX3_isTrue 212 = .ok (.iload_n 1, 1) := dk_27 (dk_at dksX3_isTrue_7 9 rfl rfl)
theorem dX3_isTrue_213 : decode cX3_isTrue 213 = .ok (.iload 6, 2) := dk_21 6 (dk_at dksX3_isTrue_7 10 rfl rfl)
theorem dX3_isTrue_215 : decode cX3_isTrue 215 = .ok (.iload_n 2, 1) := dk_28 (dk_at dksX3_isTrue_7 12 rfl rfl)
theorem dX3_isTrue_216 : decode cX3_isTrue 216 = .ok (.invokevirtual 410, 3) := dk_182 1 154 (dk_at dksX3_isTrue_7 13 rfl rfl)
theorem dX3_isTrue_219 : decode cX3_isTrue 219 = .ok (.ifCond .eq 7, 3) := dk_153 0 7 (dk_at dksX3_isTrue_7 16 rfl rfl)
theorem dX3_isTrue_222 : decode cX3_isTrue 222 = .ok (.iconst 1, 1) := dk_4 (dk_at dksX3_isTrue_7 19 rfl rfl)
theorem dX3_isTrue_223 : decode cX3_isTrue 223 = .ok (.goto 4, 3) := dk_167 0 4 (dk_at dksX3_isTrue_7 20 rfl rfl)
theorem dX3_isTrue_226 : decode cX3_isTrue 226 = .ok (.iconst 0, 1) := dk_3 (dk_at dksX3_isTrue_7 23 rfl rfl)
theorem dX3_isTrue_227 : decode cX3_isTrue 227 = .ok (.istore 5, 2) := dk_54 5 (dk_at dksX3_isTrue_8 0 rfl rfl)
theorem dX3_isTrue_229 : decode cX3_isTrue 229 = .ok (.iinc 6 1, 3) := dk_132 6 1 (dk_at dksX3_isTrue_8 2 rfl rfl)
theorem dX3_isTrue_232 : decode cX3_isTrue 232 = .ok (.goto (-42), 3) := dk_167 255 214 (dk_at dksX3_isTrue_8 5 rfl rfl)
theorem dX3_isTrue_235 : decode cX3_isTrue 235 = .ok (.iload 5, 2) := dk_21 5 (dk_at dksX3_isTrue_8 8 rfl rfl)
theorem dX3_isTrue_237 : decode cX3_isTrue 237 = .ok (.ireturn, 1) := dk_172 (dk_at dksX3_isTrue_8 10 rfl rfl)
theorem dX3_isTrue_238 : decode cX3_isTrue 238 = .ok (.aload_n 0, 1) := dk_42 (dk_at dksX3_isTrue_8 11 rfl rfl)
theorem dX3_isTrue_239 : decode cX3_isTrue 239 = .ok (.iload_n 1, 1) := dk_27 (dk_at dksX3_isTrue_8 12 rfl rfl)
theorem dX3_isTrue_240 : decode cX3_isTrue 240 = .ok (.iload_n 2, 1) := dk_28 (dk_at dksX3_isTrue_8 13 rfl rfl)
theorem dX3_isTrue_241 : decode cX3_isTrue 241 = .ok (.invokevirtual 413, 3) := dk_182 1 157 (dk_at dksX3_isTrue_8 14 rfl rfl)
theorem dX3_isTrue_244 : decode cX3_isTrue 244 = .ok (.iconst (-1), 1) := dk_2 (dk_at dksX3_isTrue_8 17 rfl rfl)
theorem dX3_isTrue_245 : decode cX3_isTrue 245 = .ok (.if_icmp .ne 7, 3) := dk_160 0 7 (dk_at dksX3_isTrue_8 18 rfl rfl)
theorem dX3_isTrue_248 : decode cX3_isTrue 248 = .ok (.iconst 1, 1) := dk_4 (dk_at dksX3_isTrue_8 21 rfl rfl)
theorem dX3_isTrue_249 : decode cX3_isTrue 249 = .ok (.goto 4, 3) := dk_167 0 4 (dk_at dksX3_isTrue_9 0 rfl rfl)
theorem dX3_isTrue_252 : decode cX3_isTrue 252 = .ok (.iconst 0, 1) := dk_3 (dk_at dksX3_isTrue_9 3 rfl rfl)
theorem dX3_isTrue_253 : decode cX3_isTrue 253 = .ok (.ireturn, 1) := dk_172 (dk_at dksX3_isTrue_9 4 rfl rfl)
theorem dX3_isTrue_254 : decode cX3_isTrue 254 = .ok (.iconst 1, 1) := dk_4 (dk_at dksX3_isTrue_9 5 rfl rfl)
theorem dX3_isTrue_255 : decode cX3_isTrue 255 = .ok (.ireturn, 1) := dk_172 (dk_at dksX3_isTrue_9 6 rfl rfl)
theorem dX3_isTrue_256 : decode cX3_isTrue 256 = .ok (.iconst 0, 1) := dk_3 (dk_at dksX3_isTrue_9 7 rfl rfl)
theorem dX3_isTrue_257 : decode cX3_isTrue 257 = .ok (.ireturn, 1) := dk_172 (dk_at dksX3_isTrue_9 8 rfl rfl)
theorem dX3_isTrue_258 : decode cX3_isTrue 258 = .ok (.aload_n 0, 1) := dk_42 (dk_at dksX3_isTrue_9 9 rfl rfl)
theorem dX3_isTrue_259 : decode cX3_isTrue 259 = .ok (.iload_n 3, 1) := dk_29 (dk_at dksX3_isTrue_9 10 rfl rfl)
theorem dX3_isTrue_260 : decode cX3_isTrue 260 = .ok (.iload_n 2, 1) := dk_28 (dk_at dksX3_isTrue_9 11 rfl rfl)
theorem dX3_isTrue_261 : decode cX3_isTrue 261 = .ok (.invokevirtual 407, 3) := dk_182 1 151 (dk_at dksX3_isTrue_9 12 rfl rfl)
theorem dX3_isTrue_264 : decode cX3_isTrue 264 = .ok (.ireturn, 1) := dk_172 (dk_at dksX3_isTrue_9 15 rfl rfl)
theorem dX3_isTrue_265 : decode cX3_isTrue 265 = .ok (.aload_n 0, 1) := dk_42 (dk_at dksX3_isTrue_9 16 rfl rfl)
theorem dX3_isTrue_266 : decode cX3_isTrue 266 = .ok (.getfield 35, 3) := dk_180 0 35 (dk_at dksX3_isTrue_9 17 rfl rfl)
theorem dX3_isTrue_269 : decode cX3_isTrue 269 = .ok (.iload_n 1, 1) := dk_27 (dk_at dksX3_isTrue_9 20 rfl rfl)
theorem dX3_isTrue_270 : decode cX3_isTrue 270 = .ok (.iaload, 1) := dk_46 (dk_at dksX3_isTrue_9 21 rfl rfl)
theorem dX3_isTrue_271 : decode cX3_isTrue 271 = .ok (.aload_n 0, 1) := dk_42 (dk_at dksX3_isTrue_9 22 rfl rfl)
theorem dX3_isTrue_272 : decode cX3_isTrue 272 = .ok (.iload_n 3, 1) := dk_29 (dk_at dksX3_isTrue_9 23 rfl rfl)
theorem dX3_isTrue_273 : decode cX3_isTrue 273 = .ok (.iload_n 2, 1) := dk_28 (dk_at dksX3_isTrue_10 0 rfl rfl)
theorem dX3_isTrue_274 : decode cX3_isTrue 274 = .ok (.invokevirtual 393, 3) := dk_182 1 137 (dk_at dksX3_isTrue_10 1 rfl rfl)
theorem dX3_isTrue_277 : decode cX3_isTrue 277 = .ok (.aload_n 0, 1) := dk_42 (dk_at dksX3_isTrue_10 4 rfl rfl)
theorem dX3_isTrue_278 : decode cX3_isTrue 278 = .ok (.iload 4, 2) := dk_21 4 (dk_at dksX3_isTrue_10 5 rfl rfl)
theorem dX3_isTrue_280 : decode cX3_isTrue 280 = .ok (.iload_n 2, 1) := dk_28 (dk_at dksX3_isTrue_10 7 rfl rfl)
theorem dX3_isTrue_281 : decode cX3_isTrue 281 = .ok (.invokevirtual 393, 3) := dk_182 1 137 (dk_at dksX3_isTrue_10 8 rfl rfl)
theorem dX3_isTrue_284 : decode cX3_isTrue 284 = .ok (.invokestatic 416, 3) := dk_184 1 160 (dk_at dksX3_isTrue_10 11 rfl rfl)
theorem dX3_isTrue_287 : decode cX3_isTrue 287 = .ok (.ireturn, 1) := dk_172 (dk_at dksX3_isTrue_10 14 rfl rfl)
theorem dX3_isTrue_288 : decode cX3_isTrue 288 = .ok (.aload_n 0, 1) := dk_42 (dk_at dksX3_isTrue_10 15 rfl rfl)
theorem dX3_isTrue_289 : decode cX3_isTrue 289 = .ok (.iload_n 1, 1) := dk_27 (dk_at dksX3_isTrue_10 16 rfl rfl)
theorem dX3_isTrue_290 : decode cX3_isTrue 290 = .ok (.iload_n 2, 1) := dk_28 (dk_at dksX3_isTrue_10 17 rfl rfl)
theorem dX3_isTrue_291 : decode cX3_isTrue 291 = .ok (.invokevirtual 420, 3) := dk_182 1 164 (dk_at dksX3_isTrue_10 18 rfl rfl)
theorem dX3_isTrue_294 : decode cX3_isTrue 294 = .ok (.ireturn, 1) := dk_172 (dk_at dksX3_isTrue_10 21 rfl rfl)
theorem dX3_isTrue_295 : decode cX3_isTrue 295 = .ok (.aload_n 0, 1) := dk_42 (dk_at dksX3_isTrue_10 22 rfl rfl)
theorem dX3_isTrue_296 : decode cX3_isTrue 296 = .ok (.iload_n 3, 1) := dk_29 (dk_at dksX3_isTrue_10 23 rfl rfl)
theorem dX3_isTrue_297 : decode cX3_isTrue 297 = .ok (.iload_n 2, 1) := dk_28 (dk_at dksX3_isTrue_11 0 rfl rfl)
theorem dX3_isTrue_298 : decode cX3_isTrue 298 = .ok (.invokevirtual 407, 3) := dk_182 1 151 (dk_at dksX3_isTrue_11 1 rfl rfl)
theorem dX3_isTrue_301 : decode cX3_isTrue 301 = .ok (.ifCond .eq 17, 3) := dk_153 0 17 (dk_at dksX3_isTrue_11 4 rfl rfl)
theorem dX3_isTrue_304 : decode cX3_isTrue 304 = .ok (.aload_n 0, 1) := dk_42 (dk_at dksX3_isTrue_11 7 rfl rfl)
theorem dX3_isTrue_305 : decode cX3_isTrue 305 = .ok (.iload 4, 2) := dk_21 4 (dk_at dksX3_isTrue_11 8 rfl rfl)
theorem dX3_isTrue_307 : decode cX3_isTrue 307 = .ok (.iload_n 2, 1) := dk_28 (dk_at dksX3_isTrue_11 10 rfl rfl)
theorem dX3_isTrue_308 : decode cX3_isTrue 308 = .ok (.invokevirtual 407, 3) := dk_182 1 151 (dk_at dksX3_isTrue_11 11 rfl rfl)
theorem dX3_isTrue_311 : decode cX3_isTrue 311 = .ok (.ifCond .eq 7, 3) := dk_153 0 7 (dk_at dksX3_isTrue_11 14 rfl rfl)
theorem dX3_isTrue_314 : decode cX3_isTrue 314 = .ok (.iconst 1, 1) := dk_4 (dk_at dksX3_isTrue_11 17 rfl rfl)
theorem dX3_isTrue_315 : decode cX3_isTrue 315 = .ok (.goto 4, 3) := dk_167 0 4 (dk_at dksX3_isTrue_11 18 rfl rfl)
theorem dX3_isTrue_318 : decode cX3_isTrue 318 = .ok (.iconst 0, 1) := dk_3 (dk_at dksX3_isTrue_11 21 rfl rfl)
theorem dX3_isTrue_319 : decode cX3_isTrue 319 = .ok (.ireturn, 1) := dk_172 (dk_at dksX3_isTrue_11 22 rfl rfl)
theorem dX3_isTrue_320 : decode cX3_isTrue 320 = .ok (.aload_n 0, 1) := dk_42 (dk_at dksX3_isTrue_11 23 rfl rfl)
theorem dX3_isTrue_321 : decode cX3_isTrue 321 = .ok (.iload_n 3, 1) := dk_29 (dk_at dksX3_isTrue_12 0 rfl rfl)
theorem dX3_isTrue_322 : decode cX3_isTrue 322 = .ok (.iload_n 2, 1) := dk_28 (dk_at dksX3_isTrue_12 1 rfl rfl)
theorem dX3_isTrue_323 : decode cX3_isTrue 323 = .ok (.invokevirtual 407, 3) := dk_182 1 151 (dk_at dksX3_isTrue_12 2 rfl rfl)
theorem dX3_isTrue_326 : decode cX3_isTrue 326 = .ok (.ifCond .ne 13, 3) := dk_154 0 13 (dk_at dksX3_isTrue_12 5 rfl rfl)
theorem dX3_isTrue_329 : decode cX3_isTrue 329 = .ok (.aload_n 0, 1) := dk_42 (dk_at dksX3_isTrue_12 8 rfl rfl)
theorem dX3_isTrue_330 : decode cX3_isTrue 330 = .ok (.iload 4, 2) := dk_21 4 (dk_at dksX3_isTrue_12 9 rfl rfl)
theorem dX3_isTrue_332 : decode cX3_isTrue 332 = .ok (.iload_n 2, 1) := dk_28 (dk_at dksX3_isTrue_12 11 rfl rfl)
theorem dX3_isTrue_333 : decode cX3_isTrue 333 = .ok (.invokevirtual 407, 3) := dk_182 1 151 (dk_at dksX3_isTrue_12 12 rfl rfl)
theorem dX3_isTrue_336 : decode cX3_isTrue 336 = .ok (.ifCond .eq 7, 3) := dk_153 0 7 (dk_at dksX3_isTrue_12 15 rfl rfl)
theorem dX3_isTrue_339 : decode cX3_isTrue 339 = .ok (.iconst 1, 1) := dk_4 (dk_at dksX3_isTrue_12 18 rfl rfl)
theorem dX3_isTrue_340 : decode cX3_isTrue 340 = .ok (.goto 4, 3) := dk_167 0 4 (dk_at dksX3_isTrue_12 19 rfl rfl)
theorem dX3_isTrue_343 : decode cX3_isTrue 343 = .ok (.iconst 0, 1) := dk_3 (dk_at dksX3_isTrue_12 22 rfl rfl)
theorem dX3_isTrue_344 : decode cX3_isTrue 344 = .ok (.ireturn, 1) := dk_172 (dk_at dksX3_isTrue_12 23 rfl rfl)
theorem dX3_isTrue_345 : decode cX3_isTrue 345 = .ok (.aload_n 0, 1) := dk_42 (dk_at dksX3_isTrue_13 0 rfl rfl)
theorem dX3_isTrue_346 : decode cX3_isTrue 346 = .ok (.iload_n 3, 1) := dk_29 (dk_at dksX3_isTrue_13 1 rfl rfl)
theorem dX3_isTrue_347 : decode cX3_isTrue 347 = .ok (.iload_n 2, 1) := dk_28 (dk_at dksX3_isTrue_13 2 rfl rfl)
theorem dX3_isTrue_348 : decode cX3_isTrue 348 = .ok (.invokevirtual 407, 3) := dk_182 1 151 (dk_at dksX3_isTrue_13 3 rfl rfl)
theorem dX3_isTrue_351 : decode cX3_isTrue 351 = .ok (.ifCond .eq 13, 3) := dk_153 0 13 (dk_at dksX3_isTrue_13 6 rfl rfl)
theorem dX3_isTrue_354 : decode cX3_isTrue 354 = .ok (.aload_n 0, 1) := dk_42 (dk_at dksX3_isTrue_13 9 rfl rfl)
theorem dX3_isTrue_355 : decode cX3_isTrue 355 = .ok (.iload 4, 2) := dk_21 4 (dk_at dksX3_isTrue_13 10 rfl rfl)
theorem dX3_isTrue_357 : decode cX3_isTrue 357 = .ok (.iload_n 2, 1) := dk_28 (dk_at dksX3_isTrue_13 12 rfl rfl)
theorem dX3_isTrue_358 : decode cX3_isTrue 358 = .ok (.invokevirtual 407, 3) := dk_182 1 151 (dk_at dksX3_isTrue_13 13 rfl rfl)
theorem dX3_isTrue_361 : decode cX3_isTrue 361 = .ok (.ifCond .eq 7, 3) := dk_153 0 7 (dk_at dksX3_isTrue_13 16 rfl rfl)
theorem dX3_isTrue_364 : decode cX3_isTrue 364 = .ok (.iconst 1, 1) := dk_4 (dk_at dksX3_isTrue_13 19 rfl rfl)
theorem dX3_isTrue_365 : decode cX3_isTrue 365 = .ok (.goto 4, 3) := dk_167 0 4 (dk_at dksX3_isTrue_13 20 rfl rfl)
theorem dX3_isTrue_368 : decode cX3_isTrue 368 = .ok (.iconst 0, 1) := dk_3 (dk_at dksX3_isTrue_13 23 rfl rfl)
theorem dX3_isTrue_369 : decode cX3_isTrue 369 = .ok (.ireturn, 1) := dk_172 (dk_at dksX3_isTrue_14 0 rfl rfl)
abbrev cX3_holds : ByteArray := prog_34_method_58_code
def yX3_holds : MethodName := ⟨RX3, "holds", "(II)Z"⟩
def dkwX3_holds_0 : List UInt8 := [42, 27, 28, 182, 1, 137, 9, 148, 153, 0, 7, 4, 167, 0, 4, 3, 172]
abbrev dktX3_holds_0 : List UInt8 := dkwX3_holds_0 ++ []
theorem dksX3_holds_0 : cX3_holds.data.toList.drop 0 = dktX3_holds_0 := by decide +kernel
theorem dX3_holds_0 : decode cX3_holds 0 = .ok (.aload_n 0, 1) := dk_42 (dk_at dksX3_holds_0 0 rfl rfl)
theorem dX3_holds_1 : decode cX3_holds 1 = .ok (.iload_n 1, 1) := dk_27 (dk_at dksX3_holds_0 1 rfl rfl)
theorem dX3_holds_2 : decode cX3_holds 2 = .ok (.iload_n 2, 1) := dk_28 (dk_at dksX3_holds_0 2 rfl rfl)
theorem dX3_holds_3 : decode cX3_holds 3 = .ok (.invokevirtual 393, 3) := dk_182 1 137 (dk_at dksX3_holds_0 3 rfl rfl)
theorem dX3_holds_6 : decode cX3_holds 6 = .ok (.lconst 0, 1) := dk_9 (dk_at dksX3_holds_0 6 rfl rfl)
theorem dX3_holds_7 : decode cX3_holds 7 = .ok (.lcmp, 1) := dk_148 (dk_at dksX3_holds_0 7 rfl rfl)
theorem dX3_holds_8 : decode cX3_holds 8 = .ok (.ifCond .eq 7, 3) := dk_153 0 7 (dk_at dksX3_holds_0 8 rfl rfl)
theorem dX3_holds_11 : decode cX3_holds 11 = .ok (.iconst 1, 1) := dk_4 (dk_at dksX3_holds_0 11 rfl rfl)
theorem dX3_holds_12 : decode cX3_holds 12 = .ok (.goto 4, 3) := dk_167 0 4 (dk_at dksX3_holds_0 12 rfl rfl)
theorem dX3_holds_15 : decode cX3_holds 15 = .ok (.iconst 0, 1) := dk_3 (dk_at dksX3_holds_0 15 rfl rfl)
theorem dX3_holds_16 : decode cX3_holds 16 = .ok (.ireturn, 1) := dk_172 (dk_at dksX3_holds_0 16 rfl rfl)
abbrev cX3_at : ByteArray := prog_34_method_57_code
def yX3_at : MethodName := ⟨RX3, "at", "(II)J"⟩
def dkwX3_at_0 : List UInt8 := [42, 180, 0, 48, 16, 120, 27, 104, 28, 96, 47, 173]
abbrev dktX3_at_0 : List UInt8 := dkwX3_at_0 ++ []
theorem dksX3_at_0 : cX3_at.data.toList.drop 0 = dktX3_at_0 := by decide +kernel
theorem dX3_at_0 : decode cX3_at 0 = .ok (.aload_n 0, 1) := dk_42 (dk_at dksX3_at_0 0 rfl rfl)
theorem dX3_at_1 : decode cX3_at 1 = .ok (.getfield 48, 3) := dk_180 0 48 (dk_at dksX3_at_0 1 rfl rfl)
theorem dX3_at_4 : decode cX3_at 4 = .ok (.bipush 120, 2) := dk_16 120 (dk_at dksX3_at_0 4 rfl rfl)
theorem dX3_at_6 : decode cX3_at 6 = .ok (.iload_n 1, 1) := dk_27 (dk_at dksX3_at_0 6 rfl rfl)
theorem dX3_at_7 : decode cX3_at 7 = .ok (.imul, 1) := dk_104 (dk_at dksX3_at_0 7 rfl rfl)
theorem dX3_at_8 : decode cX3_at 8 = .ok (.iload_n 2, 1) := dk_28 (dk_at dksX3_at_0 8 rfl rfl)
theorem dX3_at_9 : decode cX3_at 9 = .ok (.iadd, 1) := dk_96 (dk_at dksX3_at_0 9 rfl rfl)
theorem dX3_at_10 : decode cX3_at 10 = .ok (.laload, 1) := dk_47 (dk_at dksX3_at_0 10 rfl rfl)
theorem dX3_at_11 : decode cX3_at 11 = .ok (.lreturn, 1) := dk_173 (dk_at dksX3_at_0 11 rfl rfl)
abbrev cX3_isWithin : ByteArray := prog_34_method_59_code
def yX3_isWithin : MethodName := ⟨RX3, "isWithin", "(III)Z"⟩
def dkwX3_isWithin_1 : List UInt8 := [180, 0, 38, 27, 46, 42, 180, 0, 41, 27, 46, 184, 0, 101, 153, 0, 7, 4, 167, 0, 4, 3, 172]
abbrev dktX3_isWithin_1 : List UInt8 := dkwX3_isWithin_1 ++ []
def dkwX3_isWithin_0 : List UInt8 := [42, 180, 0, 41, 27, 46, 2, 159, 0, 34, 42, 180, 0, 76, 29, 46, 42, 180, 0, 76, 28, 46, 100, 42]
abbrev dktX3_isWithin_0 : List UInt8 := dkwX3_isWithin_0 ++ dktX3_isWithin_1
theorem dksX3_isWithin_0 : cX3_isWithin.data.toList.drop 0 = dktX3_isWithin_0 := by decide +kernel
theorem dksX3_isWithin_1 : cX3_isWithin.data.toList.drop 24 = dktX3_isWithin_1 := dk_seg dksX3_isWithin_0 24 rfl rfl
theorem dX3_isWithin_0 : decode cX3_isWithin 0 = .ok (.aload_n 0, 1) := dk_42 (dk_at dksX3_isWithin_0 0 rfl rfl)
theorem dX3_isWithin_1 : decode cX3_isWithin 1 = .ok (.getfield 41, 3) := dk_180 0 41 (dk_at dksX3_isWithin_0 1 rfl rfl)
theorem dX3_isWithin_4 : decode cX3_isWithin 4 = .ok (.iload_n 1, 1) := dk_27 (dk_at dksX3_isWithin_0 4 rfl rfl)
theorem dX3_isWithin_5 : decode cX3_isWithin 5 = .ok (.iaload, 1) := dk_46 (dk_at dksX3_isWithin_0 5 rfl rfl)
theorem dX3_isWithin_6 : decode cX3_isWithin 6 = .ok (.iconst (-1), 1) := dk_2 (dk_at dksX3_isWithin_0 6 rfl rfl)
theorem dX3_isWithin_7 : decode cX3_isWithin 7 = .ok (.if_icmp .eq 34, 3) := dk_159 0 34 (dk_at dksX3_isWithin_0 7 rfl rfl)
theorem dX3_isWithin_10 : decode cX3_isWithin 10 = .ok (.aload_n 0, 1) := dk_42 (dk_at dksX3_isWithin_0 10 rfl rfl)
theorem dX3_isWithin_11 : decode cX3_isWithin 11 = .ok (.getfield 76, 3) := dk_180 0 76 (dk_at dksX3_isWithin_0 11 rfl rfl)
theorem dX3_isWithin_14 : decode cX3_isWithin 14 = .ok (.iload_n 3, 1) := dk_29 (dk_at dksX3_isWithin_0 14 rfl rfl)
theorem dX3_isWithin_15 : decode cX3_isWithin 15 = .ok (.iaload, 1) := dk_46 (dk_at dksX3_isWithin_0 15 rfl rfl)
theorem dX3_isWithin_16 : decode cX3_isWithin 16 = .ok (.aload_n 0, 1) := dk_42 (dk_at dksX3_isWithin_0 16 rfl rfl)
theorem dX3_isWithin_17 : decode cX3_isWithin 17 = .ok (.getfield 76, 3) := dk_180 0 76 (dk_at dksX3_isWithin_0 17 rfl rfl)
theorem dX3_isWithin_20 : decode cX3_isWithin 20 = .ok (.iload_n 2, 1) := dk_28 (dk_at dksX3_isWithin_0 20 rfl rfl)
theorem dX3_isWithin_21 : decode cX3_isWithin 21 = .ok (.iaload, 1) := dk_46 (dk_at dksX3_isWithin_0 21 rfl rfl)
theorem dX3_isWithin_22 : decode cX3_isWithin 22 = .ok (.isub, 1) := dk_100 (dk_at dksX3_isWithin_0 22 rfl rfl)
theorem dX3_isWithin_23 : decode cX3_isWithin 23 = .ok (.aload_n 0, 1) := dk_42 (dk_at dksX3_isWithin_0 23 rfl rfl)
theorem dX3_isWithin_24 : decode cX3_isWithin 24 = .ok (.getfield 38, 3) := dk_180 0 38 (dk_at dksX3_isWithin_1 0 rfl rfl)
theorem dX3_isWithin_27 : decode cX3_isWithin 27 = .ok (.iload_n 1, 1) := dk_27 (dk_at dksX3_isWithin_1 3 rfl rfl)
theorem dX3_isWithin_28 : decode cX3_isWithin 28 = .ok (.iaload, 1) := dk_46 (dk_at dksX3_isWithin_1 4 rfl rfl)
theorem dX3_isWithin_29 : decode cX3_isWithin 29 = .ok (.aload_n 0, 1) := dk_42 (dk_at dksX3_isWithin_1 5 rfl rfl)
theorem dX3_isWithin_30 : decode cX3_isWithin 30 = .ok (.getfield 41, 3) := dk_180 0 41 (dk_at dksX3_isWithin_1 6 rfl rfl)
theorem dX3_isWithin_33 : decode cX3_isWithin 33 = .ok (.iload_n 1, 1) := dk_27 (dk_at dksX3_isWithin_1 9 rfl rfl)
theorem dX3_isWithin_34 : decode cX3_isWithin 34 = .ok (.iaload, 1) := dk_46 (dk_at dksX3_isWithin_1 10 rfl rfl)
theorem dX3_isWithin_35 : decode cX3_isWithin 35 = .ok (.invokestatic 101, 3) := dk_184 0 101 (dk_at dksX3_isWithin_1 11 rfl rfl)
theorem dX3_isWithin_38 : decode cX3_isWithin 38 = .ok (.ifCond .eq 7, 3) := dk_153 0 7 (dk_at dksX3_isWithin_1 14 rfl rfl)
theorem dX3_isWithin_41 : decode cX3_isWithin 41 = .ok (.iconst 1, 1) := dk_4 (dk_at dksX3_isWithin_1 17 rfl rfl)
theorem dX3_isWithin_42 : decode cX3_isWithin 42 = .ok (.goto 4, 3) := dk_167 0 4 (dk_at dksX3_isWithin_1 18 rfl rfl)
theorem dX3_isWithin_45 : decode cX3_isWithin 45 = .ok (.iconst 0, 1) := dk_3 (dk_at dksX3_isWithin_1 21 rfl rfl)
theorem dX3_isWithin_46 : decode cX3_isWithin 46 = .ok (.ireturn, 1) := dk_172 (dk_at dksX3_isWithin_1 22 rfl rfl)
abbrev cX3_firstMiss : ByteArray := prog_34_method_63_code
def yX3_firstMiss : MethodName := ⟨RX3, "firstMiss", "(II)I"⟩
def dkwX3_firstMiss_2 : List UInt8 := [172]
abbrev dktX3_firstMiss_2 : List UInt8 := dkwX3_firstMiss_2 ++ []
def dkwX3_firstMiss_1 : List UInt8 := [154, 0, 17, 42, 27, 21, 4, 28, 182, 1, 154, 153, 0, 6, 21, 4, 62, 132, 4, 255, 167, 255, 219, 29]
abbrev dktX3_firstMiss_1 : List UInt8 := dkwX3_firstMiss_1 ++ dktX3_firstMiss_2
def dkwX3_firstMiss_0 : List UInt8 := [2, 62, 28, 54, 4, 21, 4, 155, 0, 38, 42, 42, 180, 0, 29, 27, 46, 21, 4, 182, 1, 151]
abbrev dktX3_firstMiss_0 : List UInt8 := dkwX3_firstMiss_0 ++ dktX3_firstMiss_1
theorem dksX3_firstMiss_0 : cX3_firstMiss.data.toList.drop 0 = dktX3_firstMiss_0 := by decide +kernel
theorem dksX3_firstMiss_1 : cX3_firstMiss.data.toList.drop 22 = dktX3_firstMiss_1 := dk_seg dksX3_firstMiss_0 22 rfl rfl
theorem dksX3_firstMiss_2 : cX3_firstMiss.data.toList.drop 46 = dktX3_firstMiss_2 := dk_seg dksX3_firstMiss_1 24 rfl rfl
theorem dX3_firstMiss_0 : decode cX3_firstMiss 0 = .ok (.iconst (-1), 1) := dk_2 (dk_at dksX3_firstMiss_0 0 rfl rfl)
theorem dX3_firstMiss_1 : decode cX3_firstMiss 1 = .ok (.istore_n 3, 1) := dk_62 (dk_at dksX3_firstMiss_0 1 rfl rfl)
theorem dX3_firstMiss_2 : decode cX3_firstMiss 2 = .ok (.iload_n 2, 1) := dk_28 (dk_at dksX3_firstMiss_0 2 rfl rfl)
theorem dX3_firstMiss_3 : decode cX3_firstMiss 3 = .ok (.istore 4, 2) := dk_54 4 (dk_at dksX3_firstMiss_0 3 rfl rfl)
theorem dX3_firstMiss_5 : decode cX3_firstMiss 5 = .ok (.iload 4, 2) := dk_21 4 (dk_at dksX3_firstMiss_0 5 rfl rfl)
theorem dX3_firstMiss_7 : decode cX3_firstMiss 7 = .ok (.ifCond .lt 38, 3) := dk_155 0 38 (dk_at dksX3_firstMiss_0 7 rfl rfl)
theorem dX3_firstMiss_10 : decode cX3_firstMiss 10 = .ok (.aload_n 0, 1) := dk_42 (dk_at dksX3_firstMiss_0 10 rfl rfl)
theorem dX3_firstMiss_11 : decode cX3_firstMiss 11 = .ok (.aload_n 0, 1) := dk_42 (dk_at dksX3_firstMiss_0 11 rfl rfl)
theorem dX3_firstMiss_12 : decode cX3_firstMiss 12 = .ok (.getfield 29, 3) := dk_180 0 29 (dk_at dksX3_firstMiss_0 12 rfl rfl)
theorem dX3_firstMiss_15 : decode cX3_firstMiss 15 = .ok (.iload_n 1, 1) := dk_27 (dk_at dksX3_firstMiss_0 15 rfl rfl)
theorem dX3_firstMiss_16 : decode cX3_firstMiss 16 = .ok (.iaload, 1) := dk_46 (dk_at dksX3_firstMiss_0 16 rfl rfl)
theorem dX3_firstMiss_17 : decode cX3_firstMiss 17 = .ok (.iload 4, 2) := dk_21 4 (dk_at dksX3_firstMiss_0 17 rfl rfl)
theorem dX3_firstMiss_19 : decode cX3_firstMiss 19 = .ok (.invokevirtual 407, 3) := dk_182 1 151 (dk_at dksX3_firstMiss_0 19 rfl rfl)
theorem dX3_firstMiss_22 : decode cX3_firstMiss 22 = .ok (.ifCond .ne 17, 3) := dk_154 0 17 (dk_at dksX3_firstMiss_1 0 rfl rfl)
theorem dX3_firstMiss_25 : decode cX3_firstMiss 25 = .ok (.aload_n 0, 1) := dk_42 (dk_at dksX3_firstMiss_1 3 rfl rfl)
theorem dX3_firstMiss_26 : decode cX3_firstMiss 26 = .ok (.iload_n 1, 1) := dk_27 (dk_at dksX3_firstMiss_1 4 rfl rfl)
theorem dX3_firstMiss_27 : decode cX3_firstMiss 27 = .ok (.iload 4, 2) := dk_21 4 (dk_at dksX3_firstMiss_1 5 rfl rfl)
theorem dX3_firstMiss_29 : decode cX3_firstMiss 29 = .ok (.iload_n 2, 1) := dk_28 (dk_at dksX3_firstMiss_1 7 rfl rfl)
theorem dX3_firstMiss_30 : decode cX3_firstMiss 30 = .ok (.invokevirtual 410, 3) := dk_182 1 154 (dk_at dksX3_firstMiss_1 8 rfl rfl)
theorem dX3_firstMiss_33 : decode cX3_firstMiss 33 = .ok (.ifCond .eq 6, 3) := dk_153 0 6 (dk_at dksX3_firstMiss_1 11 rfl rfl)
theorem dX3_firstMiss_36 : decode cX3_firstMiss 36 = .ok (.iload 4, 2) := dk_21 4 (dk_at dksX3_firstMiss_1 14 rfl rfl)
theorem dX3_firstMiss_38 : decode cX3_firstMiss 38 = .ok (.istore_n 3, 1) := dk_62 (dk_at dksX3_firstMiss_1 16 rfl rfl)
theorem dX3_firstMiss_39 : decode cX3_firstMiss 39 = .ok (.iinc 4 (-1), 3) := dk_132 4 255 (dk_at dksX3_firstMiss_1 17 rfl rfl)
theorem dX3_firstMiss_42 : decode cX3_firstMiss 42 = .ok (.goto (-37), 3) := dk_167 255 219 (dk_at dksX3_firstMiss_1 20 rfl rfl)
theorem dX3_firstMiss_45 : decode cX3_firstMiss 45 = .ok (.iload_n 3, 1) := dk_29 (dk_at dksX3_firstMiss_1 23 rfl rfl)
theorem dX3_firstMiss_46 : decode cX3_firstMiss 46 = .ok (.ireturn, 1) := dk_172 (dk_at dksX3_firstMiss_2 0 rfl rfl)
abbrev cX3_compared : ByteArray := prog_34_method_65_code
def yX3_compared : MethodName := ⟨RX3, "compared", "(IJJ)Z"⟩
def dkwX3_compared_4 : List UInt8 := [148, 155, 0, 7, 4, 167, 0, 4, 3, 172]
abbrev dktX3_compared_4 : List UInt8 := dkwX3_compared_4 ++ []
def dkwX3_compared_3 : List UInt8 := [167, 0, 33, 26, 7, 160, 0, 17, 31, 33, 148, 157, 0, 7, 4, 167, 0, 18, 3, 167, 0, 14, 31, 33]
abbrev dktX3_compared_3 : List UInt8 := dkwX3_compared_3 ++ dktX3_compared_4
def dkwX3_compared_2 : List UInt8 := [4, 167, 0, 56, 3, 167, 0, 52, 26, 6, 160, 0, 17, 31, 33, 148, 158, 0, 7, 4, 167, 0, 37, 3]
abbrev dktX3_compared_2 : List UInt8 := dkwX3_compared_2 ++ dktX3_compared_3
def dkwX3_compared_1 : List UInt8 := [33, 148, 153, 0, 7, 4, 167, 0, 75, 3, 167, 0, 71, 26, 5, 160, 0, 17, 31, 33, 148, 156, 0, 7]
abbrev dktX3_compared_1 : List UInt8 := dkwX3_compared_1 ++ dktX3_compared_2
def dkwX3_compared_0 : List UInt8 := [26, 154, 0, 17, 31, 33, 148, 154, 0, 7, 4, 167, 0, 94, 3, 167, 0, 90, 26, 4, 160, 0, 17, 31]
abbrev dktX3_compared_0 : List UInt8 := dkwX3_compared_0 ++ dktX3_compared_1
theorem dksX3_compared_0 : cX3_compared.data.toList.drop 0 = dktX3_compared_0 := by decide +kernel
theorem dksX3_compared_1 : cX3_compared.data.toList.drop 24 = dktX3_compared_1 := dk_seg dksX3_compared_0 24 rfl rfl
theorem dksX3_compared_2 : cX3_compared.data.toList.drop 48 = dktX3_compared_2 := dk_seg dksX3_compared_1 24 rfl rfl
theorem dksX3_compared_3 : cX3_compared.data.toList.drop 72 = dktX3_compared_3 := dk_seg dksX3_compared_2 24 rfl rfl
theorem dksX3_compared_4 : cX3_compared.data.toList.drop 96 = dktX3_compared_4 := dk_seg dksX3_compared_3 24 rfl rfl
theorem dX3_compared_0 : decode cX3_compared 0 = .ok (.iload_n 0, 1) := dk_26 (dk_at dksX3_compared_0 0 rfl rfl)
theorem dX3_compared_1 : decode cX3_compared 1 = .ok (.ifCond .ne 17, 3) := dk_154 0 17 (dk_at dksX3_compared_0 1 rfl rfl)
theorem dX3_compared_4 : decode cX3_compared 4 = .ok (.lload_n 1, 1) := dk_31 (dk_at dksX3_compared_0 4 rfl rfl)
theorem dX3_compared_5 : decode cX3_compared 5 = .ok (.lload_n 3, 1) := dk_33 (dk_at dksX3_compared_0 5 rfl rfl)
theorem dX3_compared_6 : decode cX3_compared 6 = .ok (.lcmp, 1) := dk_148 (dk_at dksX3_compared_0 6 rfl rfl)
theorem dX3_compared_7 : decode cX3_compared 7 = .ok (.ifCond .ne 7, 3) := dk_154 0 7 (dk_at dksX3_compared_0 7 rfl rfl)
theorem dX3_compared_10 : decode cX3_compared 10 = .ok (.iconst 1, 1) := dk_4 (dk_at dksX3_compared_0 10 rfl rfl)
theorem dX3_compared_11 : decode cX3_compared 11 = .ok (.goto 94, 3) := dk_167 0 94 (dk_at dksX3_compared_0 11 rfl rfl)
theorem dX3_compared_14 : decode cX3_compared 14 = .ok (.iconst 0, 1) := dk_3 (dk_at dksX3_compared_0 14 rfl rfl)
theorem dX3_compared_15 : decode cX3_compared 15 = .ok (.goto 90, 3) := dk_167 0 90 (dk_at dksX3_compared_0 15 rfl rfl)
theorem dX3_compared_18 : decode cX3_compared 18 = .ok (.iload_n 0, 1) := dk_26 (dk_at dksX3_compared_0 18 rfl rfl)
theorem dX3_compared_19 : decode cX3_compared 19 = .ok (.iconst 1, 1) := dk_4 (dk_at dksX3_compared_0 19 rfl rfl)
theorem dX3_compared_20 : decode cX3_compared 20 = .ok (.if_icmp .ne 17, 3) := dk_160 0 17 (dk_at dksX3_compared_0 20 rfl rfl)
theorem dX3_compared_23 : decode cX3_compared 23 = .ok (.lload_n 1, 1) := dk_31 (dk_at dksX3_compared_0 23 rfl rfl)
theorem dX3_compared_24 : decode cX3_compared 24 = .ok (.lload_n 3, 1) := dk_33 (dk_at dksX3_compared_1 0 rfl rfl)
theorem dX3_compared_25 : decode cX3_compared 25 = .ok (.lcmp, 1) := dk_148 (dk_at dksX3_compared_1 1 rfl rfl)
theorem dX3_compared_26 : decode cX3_compared 26 = .ok (.ifCond .eq 7, 3) := dk_153 0 7 (dk_at dksX3_compared_1 2 rfl rfl)
theorem dX3_compared_29 : decode cX3_compared 29 = .ok (.iconst 1, 1) := dk_4 (dk_at dksX3_compared_1 5 rfl rfl)
theorem dX3_compared_30 : decode cX3_compared 30 = .ok (.goto 75, 3) := dk_167 0 75 (dk_at dksX3_compared_1 6 rfl rfl)
theorem dX3_compared_33 : decode cX3_compared 33 = .ok (.iconst 0, 1) := dk_3 (dk_at dksX3_compared_1 9 rfl rfl)
theorem dX3_compared_34 : decode cX3_compared 34 = .ok (.goto 71, 3) := dk_167 0 71 (dk_at dksX3_compared_1 10 rfl rfl)
theorem dX3_compared_37 : decode cX3_compared 37 = .ok (.iload_n 0, 1) := dk_26 (dk_at dksX3_compared_1 13 rfl rfl)
theorem dX3_compared_38 : decode cX3_compared 38 = .ok (.iconst 2, 1) := dk_5 (dk_at dksX3_compared_1 14 rfl rfl)
theorem dX3_compared_39 : decode cX3_compared 39 = .ok (.if_icmp .ne 17, 3) := dk_160 0 17 (dk_at dksX3_compared_1 15 rfl rfl)
theorem dX3_compared_42 : decode cX3_compared 42 = .ok (.lload_n 1, 1) := dk_31 (dk_at dksX3_compared_1 18 rfl rfl)
theorem dX3_compared_43 : decode cX3_compared 43 = .ok (.lload_n 3, 1) := dk_33 (dk_at dksX3_compared_1 19 rfl rfl)
theorem dX3_compared_44 : decode cX3_compared 44 = .ok (.lcmp, 1) := dk_148 (dk_at dksX3_compared_1 20 rfl rfl)
theorem dX3_compared_45 : decode cX3_compared 45 = .ok (.ifCond .ge 7, 3) := dk_156 0 7 (dk_at dksX3_compared_1 21 rfl rfl)
theorem dX3_compared_48 : decode cX3_compared 48 = .ok (.iconst 1, 1) := dk_4 (dk_at dksX3_compared_2 0 rfl rfl)
theorem dX3_compared_49 : decode cX3_compared 49 = .ok (.goto 56, 3) := dk_167 0 56 (dk_at dksX3_compared_2 1 rfl rfl)
theorem dX3_compared_52 : decode cX3_compared 52 = .ok (.iconst 0, 1) := dk_3 (dk_at dksX3_compared_2 4 rfl rfl)
theorem dX3_compared_53 : decode cX3_compared 53 = .ok (.goto 52, 3) := dk_167 0 52 (dk_at dksX3_compared_2 5 rfl rfl)
theorem dX3_compared_56 : decode cX3_compared 56 = .ok (.iload_n 0, 1) := dk_26 (dk_at dksX3_compared_2 8 rfl rfl)
theorem dX3_compared_57 : decode cX3_compared 57 = .ok (.iconst 3, 1) := dk_6 (dk_at dksX3_compared_2 9 rfl rfl)
theorem dX3_compared_58 : decode cX3_compared 58 = .ok (.if_icmp .ne 17, 3) := dk_160 0 17 (dk_at dksX3_compared_2 10 rfl rfl)
theorem dX3_compared_61 : decode cX3_compared 61 = .ok (.lload_n 1, 1) := dk_31 (dk_at dksX3_compared_2 13 rfl rfl)
theorem dX3_compared_62 : decode cX3_compared 62 = .ok (.lload_n 3, 1) := dk_33 (dk_at dksX3_compared_2 14 rfl rfl)
theorem dX3_compared_63 : decode cX3_compared 63 = .ok (.lcmp, 1) := dk_148 (dk_at dksX3_compared_2 15 rfl rfl)
theorem dX3_compared_64 : decode cX3_compared 64 = .ok (.ifCond .le 7, 3) := dk_158 0 7 (dk_at dksX3_compared_2 16 rfl rfl)
theorem dX3_compared_67 : decode cX3_compared 67 = .ok (.iconst 1, 1) := dk_4 (dk_at dksX3_compared_2 19 rfl rfl)
theorem dX3_compared_68 : decode cX3_compared 68 = .ok (.goto 37, 3) := dk_167 0 37 (dk_at dksX3_compared_2 20 rfl rfl)
theorem dX3_compared_71 : decode cX3_compared 71 = .ok (.iconst 0, 1) := dk_3 (dk_at dksX3_compared_2 23 rfl rfl)
theorem dX3_compared_72 : decode cX3_compared 72 = .ok (.goto 33, 3) := dk_167 0 33 (dk_at dksX3_compared_3 0 rfl rfl)
theorem dX3_compared_75 : decode cX3_compared 75 = .ok (.iload_n 0, 1) := dk_26 (dk_at dksX3_compared_3 3 rfl rfl)
theorem dX3_compared_76 : decode cX3_compared 76 = .ok (.iconst 4, 1) := dk_7 (dk_at dksX3_compared_3 4 rfl rfl)
theorem dX3_compared_77 : decode cX3_compared 77 = .ok (.if_icmp .ne 17, 3) := dk_160 0 17 (dk_at dksX3_compared_3 5 rfl rfl)
theorem dX3_compared_80 : decode cX3_compared 80 = .ok (.lload_n 1, 1) := dk_31 (dk_at dksX3_compared_3 8 rfl rfl)
theorem dX3_compared_81 : decode cX3_compared 81 = .ok (.lload_n 3, 1) := dk_33 (dk_at dksX3_compared_3 9 rfl rfl)
theorem dX3_compared_82 : decode cX3_compared 82 = .ok (.lcmp, 1) := dk_148 (dk_at dksX3_compared_3 10 rfl rfl)
theorem dX3_compared_83 : decode cX3_compared 83 = .ok (.ifCond .gt 7, 3) := dk_157 0 7 (dk_at dksX3_compared_3 11 rfl rfl)
theorem dX3_compared_86 : decode cX3_compared 86 = .ok (.iconst 1, 1) := dk_4 (dk_at dksX3_compared_3 14 rfl rfl)
theorem dX3_compared_87 : decode cX3_compared 87 = .ok (.goto 18, 3) := dk_167 0 18 (dk_at dksX3_compared_3 15 rfl rfl)
theorem dX3_compared_90 : decode cX3_compared 90 = .ok (.iconst 0, 1) := dk_3 (dk_at dksX3_compared_3 18 rfl rfl)
theorem dX3_compared_91 : decode cX3_compared 91 = .ok (.goto 14, 3) := dk_167 0 14 (dk_at dksX3_compared_3 19 rfl rfl)
theorem dX3_compared_94 : decode cX3_compared 94 = .ok (.lload_n 1, 1) := dk_31 (dk_at dksX3_compared_3 22 rfl rfl)
theorem dX3_compared_95 : decode cX3_compared 95 = .ok (.lload_n 3, 1) := dk_33 (dk_at dksX3_compared_3 23 rfl rfl)
theorem dX3_compared_96 : decode cX3_compared 96 = .ok (.lcmp, 1) := dk_148 (dk_at dksX3_compared_4 0 rfl rfl)
theorem dX3_compared_97 : decode cX3_compared 97 = .ok (.ifCond .lt 7, 3) := dk_155 0 7 (dk_at dksX3_compared_4 1 rfl rfl)
theorem dX3_compared_100 : decode cX3_compared 100 = .ok (.iconst 1, 1) := dk_4 (dk_at dksX3_compared_4 4 rfl rfl)
theorem dX3_compared_101 : decode cX3_compared 101 = .ok (.goto 4, 3) := dk_167 0 4 (dk_at dksX3_compared_4 5 rfl rfl)
theorem dX3_compared_104 : decode cX3_compared 104 = .ok (.iconst 0, 1) := dk_3 (dk_at dksX3_compared_4 8 rfl rfl)
theorem dX3_compared_105 : decode cX3_compared 105 = .ok (.ireturn, 1) := dk_172 (dk_at dksX3_compared_4 9 rfl rfl)
abbrev cX3_isSince : ByteArray := prog_34_method_64_code
def yX3_isSince : MethodName := ⟨RX3, "isSince", "(II)Z"⟩
def dkwX3_isSince_3 : List UInt8 := [167, 255, 193, 29, 172]
abbrev dktX3_isSince_3 : List UInt8 := dkwX3_isSince_3 ++ []
def dkwX3_isSince_2 : List UInt8 := [4, 167, 0, 4, 3, 62, 42, 42, 180, 0, 29, 27, 46, 21, 5, 182, 1, 151, 54, 4, 132, 5, 255]
abbrev dktX3_isSince_2 : List UInt8 := dkwX3_isSince_2 ++ dktX3_isSince_3
def dkwX3_isSince_1 : List UInt8 := [180, 0, 32, 27, 46, 21, 5, 182, 1, 151, 153, 0, 18, 42, 27, 21, 5, 28, 182, 1, 154, 153, 0, 7]
abbrev dktX3_isSince_1 : List UInt8 := dkwX3_isSince_1 ++ dktX3_isSince_2
def dkwX3_isSince_0 : List UInt8 := [3, 62, 4, 54, 4, 28, 54, 5, 21, 5, 155, 0, 64, 21, 4, 153, 0, 59, 29, 154, 0, 29, 42, 42]
abbrev dktX3_isSince_0 : List UInt8 := dkwX3_isSince_0 ++ dktX3_isSince_1
theorem dksX3_isSince_0 : cX3_isSince.data.toList.drop 0 = dktX3_isSince_0 := by decide +kernel
theorem dksX3_isSince_1 : cX3_isSince.data.toList.drop 24 = dktX3_isSince_1 := dk_seg dksX3_isSince_0 24 rfl rfl
theorem dksX3_isSince_2 : cX3_isSince.data.toList.drop 48 = dktX3_isSince_2 := dk_seg dksX3_isSince_1 24 rfl rfl
theorem dksX3_isSince_3 : cX3_isSince.data.toList.drop 71 = dktX3_isSince_3 := dk_seg dksX3_isSince_2 23 rfl rfl
theorem dX3_isSince_0 : decode cX3_isSince 0 = .ok (.iconst 0, 1) := dk_3 (dk_at dksX3_isSince_0 0 rfl rfl)
theorem dX3_isSince_1 : decode cX3_isSince 1 = .ok (.istore_n 3, 1) := dk_62 (dk_at dksX3_isSince_0 1 rfl rfl)
theorem dX3_isSince_2 : decode cX3_isSince 2 = .ok (.iconst 1, 1) := dk_4 (dk_at dksX3_isSince_0 2 rfl rfl)
theorem dX3_isSince_3 : decode cX3_isSince 3 = .ok (.istore 4, 2) := dk_54 4 (dk_at dksX3_isSince_0 3 rfl rfl)
theorem dX3_isSince_5 : decode cX3_isSince 5 = .ok (.iload_n 2, 1) := dk_28 (dk_at dksX3_isSince_0 5 rfl rfl)
theorem dX3_isSince_6 : decode cX3_isSince 6 = .ok (.istore 5, 2) := dk_54 5 (dk_at dksX3_isSince_0 6 rfl rfl)
theorem dX3_isSince_8 : decode cX3_isSince 8 = .ok (.iload 5, 2) := dk_21 5 (dk_at dksX3_isSince_0 8 rfl rfl)
theorem dX3_isSince_10 : decode cX3_isSince 10 = .ok (.ifCond .lt 64, 3) := dk_155 0 64 (dk_at dksX3_isSince_0 10 rfl rfl)
theorem dX3_isSince_13 : decode cX3_isSince 13 = .ok (.iload 4, 2) := dk_21 4 (dk_at dksX3_isSince_0 13 rfl rfl)
theorem dX3_isSince_15 : decode cX3_isSince 15 = .ok (.ifCond .eq 59, 3) := dk_153 0 59 (dk_at dksX3_isSince_0 15 rfl rfl)
theorem dX3_isSince_18 : decode cX3_isSince 18 = .ok (.iload_n 3, 1) := dk_29 (dk_at dksX3_isSince_0 18 rfl rfl)
theorem dX3_isSince_19 : decode cX3_isSince 19 = .ok (.ifCond .ne 29, 3) := dk_154 0 29 (dk_at dksX3_isSince_0 19 rfl rfl)
theorem dX3_isSince_22 : decode cX3_isSince 22 = .ok (.aload_n 0, 1) := dk_42 (dk_at dksX3_isSince_0 22 rfl rfl)
theorem dX3_isSince_23 : decode cX3_isSince 23 = .ok (.aload_n 0, 1) := dk_42 (dk_at dksX3_isSince_0 23 rfl rfl)
theorem dX3_isSince_24 : decode cX3_isSince 24 = .ok (.getfield 32, 3) := dk_180 0 32 (dk_at dksX3_isSince_1 0 rfl rfl)
theorem dX3_isSince_27 : decode cX3_isSince 27 = .ok (.iload_n 1, 1) := dk_27 (dk_at dksX3_isSince_1 3 rfl rfl)
theorem dX3_isSince_28 : decode cX3_isSince 28 = .ok (.iaload, 1) := dk_46 (dk_at dksX3_isSince_1 4 rfl rfl)
theorem dX3_isSince_29 : decode cX3_isSince 29 = .ok (.iload 5, 2) := dk_21 5 (dk_at dksX3_isSince_1 5 rfl rfl)
theorem dX3_isSince_31 : decode cX3_isSince 31 = .ok (.invokevirtual 407, 3) := dk_182 1 151 (dk_at dksX3_isSince_1 7 rfl rfl)
theorem dX3_isSince_34 : decode cX3_isSince 34 = .ok (.ifCond .eq 18, 3) := dk_153 0 18 (dk_at dksX3_isSince_1 10 rfl rfl)
theorem dX3_isSince_37 : decode cX3_isSince 37 = .ok (.aload_n 0, 1) := dk_42 (dk_at dksX3_isSince_1 13 rfl rfl)
theorem dX3_isSince_38 : decode cX3_isSince 38 = .ok (.iload_n 1, 1) := dk_27 (dk_at dksX3_isSince_1 14 rfl rfl)
theorem dX3_isSince_39 : decode cX3_isSince 39 = .ok (.iload 5, 2) := dk_21 5 (dk_at dksX3_isSince_1 15 rfl rfl)
theorem dX3_isSince_41 : decode cX3_isSince 41 = .ok (.iload_n 2, 1) := dk_28 (dk_at dksX3_isSince_1 17 rfl rfl)
theorem dX3_isSince_42 : decode cX3_isSince 42 = .ok (.invokevirtual 410, 3) := dk_182 1 154 (dk_at dksX3_isSince_1 18 rfl rfl)
theorem dX3_isSince_45 : decode cX3_isSince 45 = .ok (.ifCond .eq 7, 3) := dk_153 0 7 (dk_at dksX3_isSince_1 21 rfl rfl)
theorem dX3_isSince_48 : decode cX3_isSince 48 = .ok (.iconst 1, 1) := dk_4 (dk_at dksX3_isSince_2 0 rfl rfl)
theorem dX3_isSince_49 : decode cX3_isSince 49 = .ok (.goto 4, 3) := dk_167 0 4 (dk_at dksX3_isSince_2 1 rfl rfl)
theorem dX3_isSince_52 : decode cX3_isSince 52 = .ok (.iconst 0, 1) := dk_3 (dk_at dksX3_isSince_2 4 rfl rfl)
theorem dX3_isSince_53 : decode cX3_isSince 53 = .ok (.istore_n 3, 1) := dk_62 (dk_at dksX3_isSince_2 5 rfl rfl)
theorem dX3_isSince_54 : decode cX3_isSince 54 = .ok (.aload_n 0, 1) := dk_42 (dk_at dksX3_isSince_2 6 rfl rfl)
theorem dX3_isSince_55 : decode cX3_isSince 55 = .ok (.aload_n 0, 1) := dk_42 (dk_at dksX3_isSince_2 7 rfl rfl)
theorem dX3_isSince_56 : decode cX3_isSince 56 = .ok (.getfield 29, 3) := dk_180 0 29 (dk_at dksX3_isSince_2 8 rfl rfl)
theorem dX3_isSince_59 : decode cX3_isSince 59 = .ok (.iload_n 1, 1) := dk_27 (dk_at dksX3_isSince_2 11 rfl rfl)
theorem dX3_isSince_60 : decode cX3_isSince 60 = .ok (.iaload, 1) := dk_46 (dk_at dksX3_isSince_2 12 rfl rfl)
theorem dX3_isSince_61 : decode cX3_isSince 61 = .ok (.iload 5, 2) := dk_21 5 (dk_at dksX3_isSince_2 13 rfl rfl)
theorem dX3_isSince_63 : decode cX3_isSince 63 = .ok (.invokevirtual 407, 3) := dk_182 1 151 (dk_at dksX3_isSince_2 15 rfl rfl)
theorem dX3_isSince_66 : decode cX3_isSince 66 = .ok (.istore 4, 2) := dk_54 4 (dk_at dksX3_isSince_2 18 rfl rfl)
theorem dX3_isSince_68 : decode cX3_isSince 68 = .ok (.iinc 5 (-1), 3) := dk_132 5 255 (dk_at dksX3_isSince_2 20 rfl rfl)
theorem dX3_isSince_71 : decode cX3_isSince 71 = .ok (.goto (-63), 3) := dk_167 255 193 (dk_at dksX3_isSince_3 0 rfl rfl)
theorem dX3_isSince_74 : decode cX3_isSince 74 = .ok (.iload_n 3, 1) := dk_29 (dk_at dksX3_isSince_3 3 rfl rfl)
theorem dX3_isSince_75 : decode cX3_isSince 75 = .ok (.ireturn, 1) := dk_172 (dk_at dksX3_isSince_3 4 rfl rfl)
abbrev cX3_truth : ByteArray := prog_34_method_61_code
def yX3_truth : MethodName := ⟨RX3, "truth", "(Z)J"⟩
def dkwX3_truth_0 : List UInt8 := [26, 153, 0, 7, 10, 167, 0, 4, 9, 173]
abbrev dktX3_truth_0 : List UInt8 := dkwX3_truth_0 ++ []
theorem dksX3_truth_0 : cX3_truth.data.toList.drop 0 = dktX3_truth_0 := by decide +kernel
theorem dX3_truth_0 : decode cX3_truth 0 = .ok (.iload_n 0, 1) := dk_26 (dk_at dksX3_truth_0 0 rfl rfl)
theorem dX3_truth_1 : decode cX3_truth 1 = .ok (.ifCond .eq 7, 3) := dk_153 0 7 (dk_at dksX3_truth_0 1 rfl rfl)
theorem dX3_truth_4 : decode cX3_truth 4 = .ok (.lconst 1, 1) := dk_10 (dk_at dksX3_truth_0 4 rfl rfl)
theorem dX3_truth_5 : decode cX3_truth 5 = .ok (.goto 4, 3) := dk_167 0 4 (dk_at dksX3_truth_0 5 rfl rfl)
theorem dX3_truth_8 : decode cX3_truth 8 = .ok (.lconst 0, 1) := dk_9 (dk_at dksX3_truth_0 8 rfl rfl)
theorem dX3_truth_9 : decode cX3_truth 9 = .ok (.lreturn, 1) := dk_173 (dk_at dksX3_truth_0 9 rfl rfl)
abbrev cX3_worth : ByteArray := prog_34_method_67_code
def yX3_worth : MethodName := ⟨RX3, "worth", "(II)J"⟩
def dkwX3_worth_11 : List UInt8 := [182, 1, 137, 42, 42, 180, 0, 32, 27, 46, 28, 182, 1, 137, 184, 1, 176, 173]
abbrev dktX3_worth_11 : List UInt8 := dkwX3_worth_11 ++ []
def dkwX3_worth_10 : List UInt8 := [167, 0, 9, 42, 180, 0, 35, 27, 46, 28, 182, 1, 137, 173, 42, 180, 0, 35, 27, 46, 42, 29, 28]
abbrev dktX3_worth_10 : List UInt8 := dkwX3_worth_10 ++ dktX3_worth_11
def dkwX3_worth_9 : List UInt8 := [182, 1, 171, 182, 1, 137, 173, 42, 42, 29, 28, 182, 1, 151, 153, 0, 12, 42, 180, 0, 32, 27, 46]
abbrev dktX3_worth_9 : List UInt8 := dkwX3_worth_9 ++ dktX3_worth_10
def dkwX3_worth_8 : List UInt8 := [29, 28, 182, 1, 171, 2, 160, 0, 7, 9, 167, 0, 19, 42, 42, 180, 0, 32, 27, 46, 42, 29, 28]
abbrev dktX3_worth_8 : List UInt8 := dkwX3_worth_8 ++ dktX3_worth_9
def dkwX3_worth_7 : List UInt8 := [167, 0, 22, 42, 180, 0, 76, 28, 46, 42, 180, 0, 76, 42, 29, 28, 182, 1, 171, 46, 100, 133, 173, 42]
abbrev dktX3_worth_7 : List UInt8 := dkwX3_worth_7 ++ dktX3_worth_8
def dkwX3_worth_6 : List UInt8 := [55, 4, 132, 6, 1, 167, 255, 235, 22, 4, 173, 42, 29, 28, 182, 1, 171, 2, 160, 0, 9, 20, 1, 174]
abbrev dktX3_worth_6 : List UInt8 := dkwX3_worth_6 ++ dktX3_worth_7
def dkwX3_worth_5 : List UInt8 := [173, 9, 55, 4, 3, 54, 6, 21, 6, 28, 163, 0, 21, 22, 4, 42, 29, 21, 6, 182, 1, 137, 97]
abbrev dktX3_worth_5 : List UInt8 := dkwX3_worth_5 ++ dktX3_worth_6
def dkwX3_worth_4 : List UInt8 := [167, 0, 11, 42, 29, 28, 4, 100, 182, 1, 137, 173, 42, 42, 180, 0, 26, 27, 46, 29, 28, 182, 1, 167]
abbrev dktX3_worth_4 : List UInt8 := dkwX3_worth_4 ++ dktX3_worth_5
def dkwX3_worth_3 : List UInt8 := [180, 0, 76, 28, 46, 133, 173, 28, 133, 173, 42, 29, 28, 182, 1, 137, 117, 173, 28, 154, 0, 7, 9]
abbrev dktX3_worth_3 : List UInt8 := dkwX3_worth_3 ++ dktX3_worth_4
def dkwX3_worth_2 : List UInt8 := [29, 133, 173, 42, 180, 0, 79, 16, 8, 28, 104, 29, 96, 47, 173, 42, 29, 28, 182, 1, 137, 173, 42]
abbrev dktX3_worth_2 : List UInt8 := dkwX3_worth_2 ++ dktX3_worth_3
def dkwX3_worth_1 : List UInt8 := [170, 0, 0, 0, 0, 1, 16, 0, 0, 0, 20, 0, 0, 0, 33, 0, 0, 0, 71, 0, 0, 0, 74, 0, 0, 0, 86, 0, 0, 0, 93, 0, 0, 0, 101, 0, 0, 0, 104, 0, 0, 0, 112, 0, 0, 0, 129, 0, 0, 0, 129, 0, 0, 0, 129, 0, 0, 0, 142, 0, 0, 0, 175, 0, 0, 0, 211, 0, 0, 0, 242]
abbrev dktX3_worth_1 : List UInt8 := dkwX3_worth_1 ++ dktX3_worth_2
def dkwX3_worth_0 : List UInt8 := [42, 180, 0, 29, 27, 46, 62, 42, 180, 0, 26, 27, 46]
abbrev dktX3_worth_0 : List UInt8 := dkwX3_worth_0 ++ dktX3_worth_1
theorem dksX3_worth_0 : cX3_worth.data.toList.drop 0 = dktX3_worth_0 := by decide +kernel
theorem dksX3_worth_1 : cX3_worth.data.toList.drop 13 = dktX3_worth_1 := dk_seg dksX3_worth_0 13 rfl rfl
theorem dksX3_worth_2 : cX3_worth.data.toList.drop 84 = dktX3_worth_2 := dk_seg dksX3_worth_1 71 rfl rfl
theorem dksX3_worth_3 : cX3_worth.data.toList.drop 107 = dktX3_worth_3 := dk_seg dksX3_worth_2 23 rfl rfl
theorem dksX3_worth_4 : cX3_worth.data.toList.drop 130 = dktX3_worth_4 := dk_seg dksX3_worth_3 23 rfl rfl
theorem dksX3_worth_5 : cX3_worth.data.toList.drop 154 = dktX3_worth_5 := dk_seg dksX3_worth_4 24 rfl rfl
theorem dksX3_worth_6 : cX3_worth.data.toList.drop 177 = dktX3_worth_6 := dk_seg dksX3_worth_5 23 rfl rfl
theorem dksX3_worth_7 : cX3_worth.data.toList.drop 201 = dktX3_worth_7 := dk_seg dksX3_worth_6 24 rfl rfl
theorem dksX3_worth_8 : cX3_worth.data.toList.drop 225 = dktX3_worth_8 := dk_seg dksX3_worth_7 24 rfl rfl
theorem dksX3_worth_9 : cX3_worth.data.toList.drop 248 = dktX3_worth_9 := dk_seg dksX3_worth_8 23 rfl rfl
theorem dksX3_worth_10 : cX3_worth.data.toList.drop 271 = dktX3_worth_10 := dk_seg dksX3_worth_9 23 rfl rfl
theorem dksX3_worth_11 : cX3_worth.data.toList.drop 294 = dktX3_worth_11 := dk_seg dksX3_worth_10 23 rfl rfl
theorem dX3_worth_0 : decode cX3_worth 0 = .ok (.aload_n 0, 1) := dk_42 (dk_at dksX3_worth_0 0 rfl rfl)
theorem dX3_worth_1 : decode cX3_worth 1 = .ok (.getfield 29, 3) := dk_180 0 29 (dk_at dksX3_worth_0 1 rfl rfl)
theorem dX3_worth_4 : decode cX3_worth 4 = .ok (.iload_n 1, 1) := dk_27 (dk_at dksX3_worth_0 4 rfl rfl)
theorem dX3_worth_5 : decode cX3_worth 5 = .ok (.iaload, 1) := dk_46 (dk_at dksX3_worth_0 5 rfl rfl)
theorem dX3_worth_6 : decode cX3_worth 6 = .ok (.istore_n 3, 1) := dk_62 (dk_at dksX3_worth_0 6 rfl rfl)
theorem dX3_worth_7 : decode cX3_worth 7 = .ok (.aload_n 0, 1) := dk_42 (dk_at dksX3_worth_0 7 rfl rfl)
theorem dX3_worth_8 : decode cX3_worth 8 = .ok (.getfield 26, 3) := dk_180 0 26 (dk_at dksX3_worth_0 8 rfl rfl)
theorem dX3_worth_11 : decode cX3_worth 11 = .ok (.iload_n 1, 1) := dk_27 (dk_at dksX3_worth_0 11 rfl rfl)
theorem dX3_worth_12 : decode cX3_worth 12 = .ok (.iaload, 1) := dk_46 (dk_at dksX3_worth_0 12 rfl rfl)
theorem dX3_worth_13 : decode cX3_worth 13 = .ok (.tableswitch 272 20 33 #[71, 74, 86, 93, 101, 104, 112, 129, 129, 129, 142, 175, 211, 242], 71) := by decide +kernel
theorem dX3_worth_84 : decode cX3_worth 84 = .ok (.iload_n 3, 1) := dk_29 (dk_at dksX3_worth_2 0 rfl rfl)
theorem dX3_worth_85 : decode cX3_worth 85 = .ok (.i2l, 1) := dk_133 (dk_at dksX3_worth_2 1 rfl rfl)
theorem dX3_worth_86 : decode cX3_worth 86 = .ok (.lreturn, 1) := dk_173 (dk_at dksX3_worth_2 2 rfl rfl)
theorem dX3_worth_87 : decode cX3_worth 87 = .ok (.aload_n 0, 1) := dk_42 (dk_at dksX3_worth_2 3 rfl rfl)
theorem dX3_worth_88 : decode cX3_worth 88 = .ok (.getfield 79, 3) := dk_180 0 79 (dk_at dksX3_worth_2 4 rfl rfl)
theorem dX3_worth_91 : decode cX3_worth 91 = .ok (.bipush 8, 2) := dk_16 8 (dk_at dksX3_worth_2 7 rfl rfl)
theorem dX3_worth_93 : decode cX3_worth 93 = .ok (.iload_n 2, 1) := dk_28 (dk_at dksX3_worth_2 9 rfl rfl)
theorem dX3_worth_94 : decode cX3_worth 94 = .ok (.imul, 1) := dk_104 (dk_at dksX3_worth_2 10 rfl rfl)
theorem dX3_worth_95 : decode cX3_worth 95 = .ok (.iload_n 3, 1) := dk_29 (dk_at dksX3_worth_2 11 rfl rfl)
theorem dX3_worth_96 : decode cX3_worth 96 = .ok (.iadd, 1) := dk_96 (dk_at dksX3_worth_2 12 rfl rfl)
theorem dX3_worth_97 : decode cX3_worth 97 = .ok (.laload, 1) := dk_47 (dk_at dksX3_worth_2 13 rfl rfl)
theorem dX3_worth_98 : decode cX3_worth 98 = .ok (.lreturn, 1) := dk_173 (dk_at dksX3_worth_2 14 rfl rfl)
theorem dX3_worth_99 : decode cX3_worth 99 = .ok (.aload_n 0, 1) := dk_42 (dk_at dksX3_worth_2 15 rfl rfl)
theorem dX3_worth_100 : decode cX3_worth 100 = .ok (.iload_n 3, 1) := dk_29 (dk_at dksX3_worth_2 16 rfl rfl)
theorem dX3_worth_101 : decode cX3_worth 101 = .ok (.iload_n 2, 1) := dk_28 (dk_at dksX3_worth_2 17 rfl rfl)
theorem dX3_worth_102 : decode cX3_worth 102 = .ok (.invokevirtual 393, 3) := dk_182 1 137 (dk_at dksX3_worth_2 18 rfl rfl)
theorem dX3_worth_105 : decode cX3_worth 105 = .ok (.lreturn, 1) := dk_173 (dk_at dksX3_worth_2 21 rfl rfl)
theorem dX3_worth_106 : decode cX3_worth 106 = .ok (.aload_n 0, 1) := dk_42 (dk_at dksX3_worth_2 22 rfl rfl)
theorem dX3_worth_107 : decode cX3_worth 107 = .ok (.getfield 76, 3) := dk_180 0 76 (dk_at dksX3_worth_3 0 rfl rfl)
theorem dX3_worth_110 : decode cX3_worth 110 = .ok (.iload_n 2, 1) := dk_28 (dk_at dksX3_worth_3 3 rfl rfl)
theorem dX3_worth_111 : decode cX3_worth 111 = .ok (.iaload, 1) := dk_46 (dk_at dksX3_worth_3 4 rfl rfl)
theorem dX3_worth_112 : decode cX3_worth 112 = .ok (.i2l, 1) := dk_133 (dk_at dksX3_worth_3 5 rfl rfl)
theorem dX3_worth_113 : decode cX3_worth 113 = .ok (.lreturn, 1) := dk_173 (dk_at dksX3_worth_3 6 rfl rfl)
theorem dX3_worth_114 : decode cX3_worth 114 = .ok (.iload_n 2, 1) := dk_28 (dk_at dksX3_worth_3 7 rfl rfl)
theorem dX3_worth_115 : decode cX3_worth 115 = .ok (.i2l, 1) := dk_133 (dk_at dksX3_worth_3 8 rfl rfl)
theorem dX3_worth_116 : decode cX3_worth 116 = .ok (.lreturn, 1) := dk_173 (dk_at dksX3_worth_3 9 rfl rfl)
theorem dX3_worth_117 : decode cX3_worth 117 = .ok (.aload_n 0, 1) := dk_42 (dk_at dksX3_worth_3 10 rfl rfl)
theorem dX3_worth_118 : decode cX3_worth 118 = .ok (.iload_n 3, 1) := dk_29 (dk_at dksX3_worth_3 11 rfl rfl)
theorem dX3_worth_119 : decode cX3_worth 119 = .ok (.iload_n 2, 1) := dk_28 (dk_at dksX3_worth_3 12 rfl rfl)
theorem dX3_worth_120 : decode cX3_worth 120 = .ok (.invokevirtual 393, 3) := dk_182 1 137 (dk_at dksX3_worth_3 13 rfl rfl)
theorem dX3_worth_123 : decode cX3_worth 123 = .ok (.lneg, 1) := dk_117 (dk_at dksX3_worth_3 16 rfl rfl)
theorem dX3_worth_124 : decode cX3_worth 124 = .ok (.lreturn, 1) := dk_173 (dk_at dksX3_worth_3 17 rfl rfl)
theorem dX3_worth_125 : decode cX3_worth 125 = .ok (.iload_n 2, 1) := dk_28 (dk_at dksX3_worth_3 18 rfl rfl)
theorem dX3_worth_126 : decode cX3_worth 126 = .ok (.ifCond .ne 7, 3) := dk_154 0 7 (dk_at dksX3_worth_3 19 rfl rfl)
theorem dX3_worth_129 : decode cX3_worth 129 = .ok (.lconst 0, 1) := dk_9 (dk_at dksX3_worth_3 22 rfl rfl)
theorem dX3_worth_130 : decode cX3_worth 130 = .ok (.goto 11, 3) := dk_167 0 11 (dk_at dksX3_worth_4 0 rfl rfl)
theorem dX3_worth_133 : decode cX3_worth 133 = .ok (.aload_n 0, 1) := dk_42 (dk_at dksX3_worth_4 3 rfl rfl)
theorem dX3_worth_134 : decode cX3_worth 134 = .ok (.iload_n 3, 1) := dk_29 (dk_at dksX3_worth_4 4 rfl rfl)
theorem dX3_worth_135 : decode cX3_worth 135 = .ok (.iload_n 2, 1) := dk_28 (dk_at dksX3_worth_4 5 rfl rfl)
theorem dX3_worth_136 : decode cX3_worth 136 = .ok (.iconst 1, 1) := dk_4 (dk_at dksX3_worth_4 6 rfl rfl)
theorem dX3_worth_137 : decode cX3_worth 137 = .ok (.isub, 1) := dk_100 (dk_at dksX3_worth_4 7 rfl rfl)
theorem dX3_worth_138 : decode cX3_worth 138 = .ok (.invokevirtual 393, 3) := dk_182 1 137 (dk_at dksX3_worth_4 8 rfl rfl)
theorem dX3_worth_141 : decode cX3_worth 141 = .ok (.lreturn, 1) := dk_173 (dk_at dksX3_worth_4 11 rfl rfl)
theorem dX3_worth_142 : decode cX3_worth 142 = .ok (.aload_n 0, 1) := dk_42 (dk_at dksX3_worth_4 12 rfl rfl)
theorem dX3_worth_143 : decode cX3_worth 143 = .ok (.aload_n 0, 1) := dk_42 (dk_at dksX3_worth_4 13 rfl rfl)
theorem dX3_worth_144 : decode cX3_worth 144 = .ok (.getfield 26, 3) := dk_180 0 26 (dk_at dksX3_worth_4 14 rfl rfl)
theorem dX3_worth_147 : decode cX3_worth 147 = .ok (.iload_n 1, 1) := dk_27 (dk_at dksX3_worth_4 17 rfl rfl)
theorem dX3_worth_148 : decode cX3_worth 148 = .ok (.iaload, 1) := dk_46 (dk_at dksX3_worth_4 18 rfl rfl)
theorem dX3_worth_149 : decode cX3_worth 149 = .ok (.iload_n 3, 1) := dk_29 (dk_at dksX3_worth_4 19 rfl rfl)
theorem dX3_worth_150 : decode cX3_worth 150 = .ok (.iload_n 2, 1) := dk_28 (dk_at dksX3_worth_4 20 rfl rfl)
theorem dX3_worth_151 : decode cX3_worth 151 = .ok (.invokevirtual 423, 3) := dk_182 1 167 (dk_at dksX3_worth_4 21 rfl rfl)
theorem dX3_worth_154 : decode cX3_worth 154 = .ok (.lreturn, 1) := dk_173 (dk_at dksX3_worth_5 0 rfl rfl)
theorem dX3_worth_155 : decode cX3_worth 155 = .ok (.lconst 0, 1) := dk_9 (dk_at dksX3_worth_5 1 rfl rfl)
theorem dX3_worth_156 : decode cX3_worth 156 = .ok (.lstore 4, 2) := dk_55 4 (dk_at dksX3_worth_5 2 rfl rfl)
theorem dX3_worth_158 : decode cX3_worth 158 = .ok (.iconst 0, 1) := dk_3 (dk_at dksX3_worth_5 4 rfl rfl)
theorem dX3_worth_159 : decode cX3_worth 159 = .ok (.istore 6, 2) := dk_54 6 (dk_at dksX3_worth_5 5 rfl rfl)
theorem dX3_worth_161 : decode cX3_worth 161 = .ok (.iload 6, 2) := dk_21 6 (dk_at dksX3_worth_5 7 rfl rfl)
theorem dX3_worth_163 : decode cX3_worth 163 = .ok (.iload_n 2, 1) := dk_28 (dk_at dksX3_worth_5 9 rfl rfl)
theorem dX3_worth_164 : decode cX3_worth 164 = .ok (.if_icmp .gt 21, 3) := dk_163 0 21 (dk_at dksX3_worth_5 10 rfl rfl)
theorem dX3_worth_167 : decode cX3_worth 167 = .ok (.lload 4, 2) := dk_22 4 (dk_at dksX3_worth_5 13 rfl rfl)
theorem dX3_worth_169 : decode cX3_worth 169 = .ok (.aload_n 0, 1) := dk_42 (dk_at dksX3_worth_5 15 rfl rfl)
theorem dX3_worth_170 : decode cX3_worth 170 = .ok (.iload_n 3, 1) := dk_29 (dk_at dksX3_worth_5 16 rfl rfl)
theorem dX3_worth_171 : decode cX3_worth 171 = .ok (.iload 6, 2) := dk_21 6 (dk_at dksX3_worth_5 17 rfl rfl)
theorem dX3_worth_173 : decode cX3_worth 173 = .ok (.invokevirtual 393, 3) := dk_182 1 137 (dk_at dksX3_worth_5 19 rfl rfl)
theorem dX3_worth_176 : decode cX3_worth 176 = .ok (.ladd, 1) := dk_97 (dk_at dksX3_worth_5 22 rfl rfl)
theorem dX3_worth_177 : decode cX3_worth 177 = .ok (.lstore 4, 2) := dk_55 4 (dk_at dksX3_worth_6 0 rfl rfl)
theorem dX3_worth_179 : decode cX3_worth 179 = .ok (.iinc 6 1, 3) := dk_132 6 1 (dk_at dksX3_worth_6 2 rfl rfl)
theorem dX3_worth_182 : decode cX3_worth 182 = .ok (.goto (-21), 3) := dk_167 255 235 (dk_at dksX3_worth_6 5 rfl rfl)
theorem dX3_worth_185 : decode cX3_worth 185 = .ok (.lload 4, 2) := dk_22 4 (dk_at dksX3_worth_6 8 rfl rfl)
theorem dX3_worth_187 : decode cX3_worth 187 = .ok (.lreturn, 1) := dk_173 (dk_at dksX3_worth_6 10 rfl rfl)
theorem dX3_worth_188 : decode cX3_worth 188 = .ok (.aload_n 0, 1) := dk_42 (dk_at dksX3_worth_6 11 rfl rfl)
theorem dX3_worth_189 : decode cX3_worth 189 = .ok (.iload_n 3, 1) := dk_29 (dk_at dksX3_worth_6 12 rfl rfl)
theorem dX3_worth_190 : decode cX3_worth 190 = .ok (.iload_n 2, 1) := dk_28 (dk_at dksX3_worth_6 13 rfl rfl)
theorem dX3_worth_191 : decode cX3_worth 191 = .ok (.invokevirtual 427, 3) := dk_182 1 171 (dk_at dksX3_worth_6 14 rfl rfl)
theorem dX3_worth_194 : decode cX3_worth 194 = .ok (.iconst (-1), 1) := dk_2 (dk_at dksX3_worth_6 17 rfl rfl)
theorem dX3_worth_195 : decode cX3_worth 195 = .ok (.if_icmp .ne 9, 3) := dk_160 0 9 (dk_at dksX3_worth_6 18 rfl rfl)
theorem dX3_worth_198 : decode cX3_worth 198 = .ok (.ldc2_w 430, 3) := dk_20 1 174 (dk_at dksX3_worth_6 21 rfl rfl)
theorem dX3_worth_201 : decode cX3_worth 201 = .ok (.goto 22, 3) := dk_167 0 22 (dk_at dksX3_worth_7 0 rfl rfl)
theorem dX3_worth_204 : decode cX3_worth 204 = .ok (.aload_n 0, 1) := dk_42 (dk_at dksX3_worth_7 3 rfl rfl)
theorem dX3_worth_205 : decode cX3_worth 205 = .ok (.getfield 76, 3) := dk_180 0 76 (dk_at dksX3_worth_7 4 rfl rfl)
theorem dX3_worth_208 : decode cX3_worth 208 = .ok (.iload_n 2, 1) := dk_28 (dk_at dksX3_worth_7 7 rfl rfl)
theorem dX3_worth_209 : decode cX3_worth 209 = .ok (.iaload, 1) := dk_46 (dk_at dksX3_worth_7 8 rfl rfl)
theorem dX3_worth_210 : decode cX3_worth 210 = .ok (.aload_n 0, 1) := dk_42 (dk_at dksX3_worth_7 9 rfl rfl)
theorem dX3_worth_211 : decode cX3_worth 211 = .ok (.getfield 76, 3) := dk_180 0 76 (dk_at dksX3_worth_7 10 rfl rfl)
theorem dX3_worth_214 : decode cX3_worth 214 = .ok (.aload_n 0, 1) := dk_42 (dk_at dksX3_worth_7 13 rfl rfl)
theorem dX3_worth_215 : decode cX3_worth 215 = .ok (.iload_n 3, 1) := dk_29 (dk_at dksX3_worth_7 14 rfl rfl)
theorem dX3_worth_216 : decode cX3_worth 216 = .ok (.iload_n 2, 1) := dk_28 (dk_at dksX3_worth_7 15 rfl rfl)
theorem dX3_worth_217 : decode cX3_worth 217 = .ok (.invokevirtual 427, 3) := dk_182 1 171 (dk_at dksX3_worth_7 16 rfl rfl)
theorem dX3_worth_220 : decode cX3_worth 220 = .ok (.iaload, 1) := dk_46 (dk_at dksX3_worth_7 19 rfl rfl)
theorem dX3_worth_221 : decode cX3_worth 221 = .ok (.isub, 1) := dk_100 (dk_at dksX3_worth_7 20 rfl rfl)
theorem dX3_worth_222 : decode cX3_worth 222 = .ok (.i2l, 1) := dk_133 (dk_at dksX3_worth_7 21 rfl rfl)
theorem dX3_worth_223 : decode cX3_worth 223 = .ok (.lreturn, 1) := dk_173 (dk_at dksX3_worth_7 22 rfl rfl)
theorem dX3_worth_224 : decode cX3_worth 224 = .ok (.aload_n 0, 1) := dk_42 (dk_at dksX3_worth_7 23 rfl rfl)
theorem dX3_worth_225 : decode cX3_worth 225 = .ok (.iload_n 3, 1) := dk_29 (dk_at dksX3_worth_8 0 rfl rfl)
theorem dX3_worth_226 : decode cX3_worth 226 = .ok (.iload_n 2, 1) := dk_28 (dk_at dksX3_worth_8 1 rfl rfl)
theorem dX3_worth_227 : decode cX3_worth 227 = .ok (.invokevirtual 427, 3) := dk_182 1 171 (dk_at dksX3_worth_8 2 rfl rfl)
theorem dX3_worth_230 : decode cX3_worth 230 = .ok (.iconst (-1), 1) := dk_2 (dk_at dksX3_worth_8 5 rfl rfl)
theorem dX3_worth_231 : decode cX3_worth 231 = .ok (.if_icmp .ne 7, 3) := dk_160 0 7 (dk_at dksX3_worth_8 6 rfl rfl)
theorem dX3_worth_234 : decode cX3_worth 234 = .ok (.lconst 0, 1) := dk_9 (dk_at dksX3_worth_8 9 rfl rfl)
theorem dX3_worth_235 : decode cX3_worth 235 = .ok (.goto 19, 3) := dk_167 0 19 (dk_at dksX3_worth_8 10 rfl rfl)
theorem dX3_worth_238 : decode cX3_worth 238 = .ok (.aload_n 0, 1) := dk_42 (dk_at dksX3_worth_8 13 rfl rfl)
theorem dX3_worth_239 : decode cX3_worth 239 = .ok (.aload_n 0, 1) := dk_42 (dk_at dksX3_worth_8 14 rfl rfl)
theorem dX3_worth_240 : decode cX3_worth 240 = .ok (.getfield 32, 3) := dk_180 0 32 (dk_at dksX3_worth_8 15 rfl rfl)
theorem dX3_worth_243 : decode cX3_worth 243 = .ok (.iload_n 1, 1) := dk_27 (dk_at dksX3_worth_8 18 rfl rfl)
theorem dX3_worth_244 : decode cX3_worth 244 = .ok (.iaload, 1) := dk_46 (dk_at dksX3_worth_8 19 rfl rfl)
theorem dX3_worth_245 : decode cX3_worth 245 = .ok (.aload_n 0, 1) := dk_42 (dk_at dksX3_worth_8 20 rfl rfl)
theorem dX3_worth_246 : decode cX3_worth 246 = .ok (.iload_n 3, 1) := dk_29 (dk_at dksX3_worth_8 21 rfl rfl)
theorem dX3_worth_247 : decode cX3_worth 247 = .ok (.iload_n 2, 1) := dk_28 (dk_at dksX3_worth_8 22 rfl rfl)
theorem dX3_worth_248 : decode cX3_worth 248 = .ok (.invokevirtual 427, 3) := dk_182 1 171 (dk_at dksX3_worth_9 0 rfl rfl)
theorem dX3_worth_251 : decode cX3_worth 251 = .ok (.invokevirtual 393, 3) := dk_182 1 137 (dk_at dksX3_worth_9 3 rfl rfl)
theorem dX3_worth_254 : decode cX3_worth 254 = .ok (.lreturn, 1) := dk_173 (dk_at dksX3_worth_9 6 rfl rfl)
theorem dX3_worth_255 : decode cX3_worth 255 = .ok (.aload_n 0, 1) := dk_42 (dk_at dksX3_worth_9 7 rfl rfl)
theorem dX3_worth_256 : decode cX3_worth 256 = .ok (.aload_n 0, 1) := dk_42 (dk_at dksX3_worth_9 8 rfl rfl)
theorem dX3_worth_257 : decode cX3_worth 257 = .ok (.iload_n 3, 1) := dk_29 (dk_at dksX3_worth_9 9 rfl rfl)
theorem dX3_worth_258 : decode cX3_worth 258 = .ok (.iload_n 2, 1) := dk_28 (dk_at dksX3_worth_9 10 rfl rfl)
theorem dX3_worth_259 : decode cX3_worth 259 = .ok (.invokevirtual 407, 3) := dk_182 1 151 (dk_at dksX3_worth_9 11 rfl rfl)
theorem dX3_worth_262 : decode cX3_worth 262 = .ok (.ifCond .eq 12, 3) := dk_153 0 12 (dk_at dksX3_worth_9 14 rfl rfl)
theorem dX3_worth_265 : decode cX3_worth 265 = .ok (.aload_n 0, 1) := dk_42 (dk_at dksX3_worth_9 17 rfl rfl)
theorem dX3_worth_266 : decode cX3_worth 266 = .ok (.getfield 32, 3) := dk_180 0 32 (dk_at dksX3_worth_9 18 rfl rfl)
theorem dX3_worth_269 : decode cX3_worth 269 = .ok (.iload_n 1, 1) := dk_27 (dk_at dksX3_worth_9 21 rfl rfl)
theorem dX3_worth_270 : decode cX3_worth 270 = .ok (.iaload, 1) := dk_46 (dk_at dksX3_worth_9 22 rfl rfl)
theorem dX3_worth_271 : decode cX3_worth 271 = .ok (.goto 9, 3) := dk_167 0 9 (dk_at dksX3_worth_10 0 rfl rfl)
theorem dX3_worth_274 : decode cX3_worth 274 = .ok (.aload_n 0, 1) := dk_42 (dk_at dksX3_worth_10 3 rfl rfl)
theorem dX3_worth_275 : decode cX3_worth 275 = .ok (.getfield 35, 3) := dk_180 0 35 (dk_at dksX3_worth_10 4 rfl rfl)
theorem dX3_worth_278 : decode cX3_worth 278 = .ok (.iload_n 1, 1) := dk_27 (dk_at dksX3_worth_10 7 rfl rfl)
theorem dX3_worth_279 : decode cX3_worth 279 = .ok (.iaload, 1) := dk_46 (dk_at dksX3_worth_10 8 rfl rfl)
theorem dX3_worth_280 : decode cX3_worth 280 = .ok (.iload_n 2, 1) := dk_28 (dk_at dksX3_worth_10 9 rfl rfl)
theorem dX3_worth_281 : decode cX3_worth 281 = .ok (.invokevirtual 393, 3) := dk_182 1 137 (dk_at dksX3_worth_10 10 rfl rfl)
theorem dX3_worth_284 : decode cX3_worth 284 = .ok (.lreturn, 1) := dk_173 (dk_at dksX3_worth_10 13 rfl rfl)
theorem dX3_worth_285 : decode cX3_worth 285 = .ok (.aload_n 0, 1) := dk_42 (dk_at dksX3_worth_10 14 rfl rfl)
theorem dX3_worth_286 : decode cX3_worth 286 = .ok (.getfield 35, 3) := dk_180 0 35 (dk_at dksX3_worth_10 15 rfl rfl)
theorem dX3_worth_289 : decode cX3_worth 289 = .ok (.iload_n 1, 1) := dk_27 (dk_at dksX3_worth_10 18 rfl rfl)
theorem dX3_worth_290 : decode cX3_worth 290 = .ok (.iaload, 1) := dk_46 (dk_at dksX3_worth_10 19 rfl rfl)
theorem dX3_worth_291 : decode cX3_worth 291 = .ok (.aload_n 0, 1) := dk_42 (dk_at dksX3_worth_10 20 rfl rfl)
theorem dX3_worth_292 : decode cX3_worth 292 = .ok (.iload_n 3, 1) := dk_29 (dk_at dksX3_worth_10 21 rfl rfl)
theorem dX3_worth_293 : decode cX3_worth 293 = .ok (.iload_n 2, 1) := dk_28 (dk_at dksX3_worth_10 22 rfl rfl)
theorem dX3_worth_294 : decode cX3_worth 294 = .ok (.invokevirtual 393, 3) := dk_182 1 137 (dk_at dksX3_worth_11 0 rfl rfl)
theorem dX3_worth_297 : decode cX3_worth 297 = .ok (.aload_n 0, 1) := dk_42 (dk_at dksX3_worth_11 3 rfl rfl)
theorem dX3_worth_298 : decode cX3_worth 298 = .ok (.aload_n 0, 1) := dk_42 (dk_at dksX3_worth_11 4 rfl rfl)
theorem dX3_worth_299 : decode cX3_worth 299 = .ok (.getfield 32, 3) := dk_180 0 32 (dk_at dksX3_worth_11 5 rfl rfl)
theorem dX3_worth_302 : decode cX3_worth 302 = .ok (.iload_n 1, 1) := dk_27 (dk_at dksX3_worth_11 8 rfl rfl)
theorem dX3_worth_303 : decode cX3_worth 303 = .ok (.iaload, 1) := dk_46 (dk_at dksX3_worth_11 9 rfl rfl)
theorem dX3_worth_304 : decode cX3_worth 304 = .ok (.iload_n 2, 1) := dk_28 (dk_at dksX3_worth_11 10 rfl rfl)
theorem dX3_worth_305 : decode cX3_worth 305 = .ok (.invokevirtual 393, 3) := dk_182 1 137 (dk_at dksX3_worth_11 11 rfl rfl)
theorem dX3_worth_308 : decode cX3_worth 308 = .ok (.invokestatic 432, 3) := dk_184 1 176 (dk_at dksX3_worth_11 14 rfl rfl)
theorem dX3_worth_311 : decode cX3_worth 311 = .ok (.lreturn, 1) := dk_173 (dk_at dksX3_worth_11 17 rfl rfl)
abbrev cX3_overAll : ByteArray := prog_34_method_68_code
def yX3_overAll : MethodName := ⟨RX3, "overAll", "(III)J"⟩
def dkwX3_overAll_3 : List UInt8 := [132, 6, 1, 167, 255, 193, 22, 4, 173]
abbrev dktX3_overAll_3 : List UInt8 := dkwX3_overAll_3 ++ []
def dkwX3_overAll_2 : List UInt8 := [28, 21, 6, 182, 1, 137, 184, 1, 183, 167, 0, 13, 22, 4, 42, 28, 21, 6, 182, 1, 137, 97, 55, 4]
abbrev dktX3_overAll_2 : List UInt8 := dkwX3_overAll_2 ++ dktX3_overAll_3
def dkwX3_overAll_1 : List UInt8 := [22, 4, 42, 28, 21, 6, 182, 1, 137, 184, 1, 180, 167, 0, 34, 27, 16, 28, 160, 0, 18, 22, 4, 42]
abbrev dktX3_overAll_1 : List UInt8 := dkwX3_overAll_1 ++ dktX3_overAll_2
def dkwX3_overAll_0 : List UInt8 := [42, 28, 3, 182, 1, 137, 55, 4, 4, 54, 6, 21, 6, 29, 163, 0, 63, 27, 16, 27, 160, 0, 18]
abbrev dktX3_overAll_0 : List UInt8 := dkwX3_overAll_0 ++ dktX3_overAll_1
theorem dksX3_overAll_0 : cX3_overAll.data.toList.drop 0 = dktX3_overAll_0 := by decide +kernel
theorem dksX3_overAll_1 : cX3_overAll.data.toList.drop 23 = dktX3_overAll_1 := dk_seg dksX3_overAll_0 23 rfl rfl
theorem dksX3_overAll_2 : cX3_overAll.data.toList.drop 47 = dktX3_overAll_2 := dk_seg dksX3_overAll_1 24 rfl rfl
theorem dksX3_overAll_3 : cX3_overAll.data.toList.drop 71 = dktX3_overAll_3 := dk_seg dksX3_overAll_2 24 rfl rfl
theorem dX3_overAll_0 : decode cX3_overAll 0 = .ok (.aload_n 0, 1) := dk_42 (dk_at dksX3_overAll_0 0 rfl rfl)
theorem dX3_overAll_1 : decode cX3_overAll 1 = .ok (.iload_n 2, 1) := dk_28 (dk_at dksX3_overAll_0 1 rfl rfl)
theorem dX3_overAll_2 : decode cX3_overAll 2 = .ok (.iconst 0, 1) := dk_3 (dk_at dksX3_overAll_0 2 rfl rfl)
theorem dX3_overAll_3 : decode cX3_overAll 3 = .ok (.invokevirtual 393, 3) := dk_182 1 137 (dk_at dksX3_overAll_0 3 rfl rfl)
theorem dX3_overAll_6 : decode cX3_overAll 6 = .ok (.lstore 4, 2) := dk_55 4 (dk_at dksX3_overAll_0 6 rfl rfl)
theorem dX3_overAll_8 : decode cX3_overAll 8 = .ok (.iconst 1, 1) := dk_4 (dk_at dksX3_overAll_0 8 rfl rfl)
theorem dX3_overAll_9 : decode cX3_overAll 9 = .ok (.istore 6, 2) := dk_54 6 (dk_at dksX3_overAll_0 9 rfl rfl)
theorem dX3_overAll_11 : decode cX3_overAll 11 = .ok (.iload 6, 2) := dk_21 6 (dk_at dksX3_overAll_0 11 rfl rfl)
theorem dX3_overAll_13 : decode cX3_overAll 13 = .ok (.iload_n 3, 1) := dk_29 (dk_at dksX3_overAll_0 13 rfl rfl)
theorem dX3_overAll_14 : decode cX3_overAll 14 = .ok (.if_icmp .gt 63, 3) := dk_163 0 63 (dk_at dksX3_overAll_0 14 rfl rfl)
theorem dX3_overAll_17 : decode cX3_overAll 17 = .ok (.iload_n 1, 1) := dk_27 (dk_at dksX3_overAll_0 17 rfl rfl)
theorem dX3_overAll_18 : decode cX3_overAll 18 = .ok (.bipush 27, 2) := dk_16 27 (dk_at dksX3_overAll_0 18 rfl rfl)
theorem dX3_overAll_20 : decode cX3_overAll 20 = .ok (.if_icmp .ne 18, 3) := dk_160 0 18 (dk_at dksX3_overAll_0 20 rfl rfl)
theorem dX3_overAll_23 : decode cX3_overAll 23 = .ok (.lload 4, 2) := dk_22 4 (dk_at dksX3_overAll_1 0 rfl rfl)
theorem dX3_overAll_25 : decode cX3_overAll 25 = .ok (.aload_n 0, 1) := dk_42 (dk_at dksX3_overAll_1 2 rfl rfl)
theorem dX3_overAll_26 : decode cX3_overAll 26 = .ok (.iload_n 2, 1) := dk_28 (dk_at dksX3_overAll_1 3 rfl rfl)
theorem dX3_overAll_27 : decode cX3_overAll 27 = .ok (.iload 6, 2) := dk_21 6 (dk_at dksX3_overAll_1 4 rfl rfl)
theorem dX3_overAll_29 : decode cX3_overAll 29 = .ok (.invokevirtual 393, 3) := dk_182 1 137 (dk_at dksX3_overAll_1 6 rfl rfl)
theorem dX3_overAll_32 : decode cX3_overAll 32 = .ok (.invokestatic 436, 3) := dk_184 1 180 (dk_at dksX3_overAll_1 9 rfl rfl)
theorem dX3_overAll_35 : decode cX3_overAll 35 = .ok (.goto 34, 3) := dk_167 0 34 (dk_at dksX3_overAll_1 12 rfl rfl)
theorem dX3_overAll_38 : decode cX3_overAll 38 = .ok (.iload_n 1, 1) := dk_27 (dk_at dksX3_overAll_1 15 rfl rfl)
theorem dX3_overAll_39 : decode cX3_overAll 39 = .ok (.bipush 28, 2) := dk_16 28 (dk_at dksX3_overAll_1 16 rfl rfl)
theorem dX3_overAll_41 : decode cX3_overAll 41 = .ok (.if_icmp .ne 18, 3) := dk_160 0 18 (dk_at dksX3_overAll_1 18 rfl rfl)
theorem dX3_overAll_44 : decode cX3_overAll 44 = .ok (.lload 4, 2) := dk_22 4 (dk_at dksX3_overAll_1 21 rfl rfl)
theorem dX3_overAll_46 : decode cX3_overAll 46 = .ok (.aload_n 0, 1) := dk_42 (dk_at dksX3_overAll_1 23 rfl rfl)
theorem dX3_overAll_47 : decode cX3_overAll 47 = .ok (.iload_n 2, 1) := dk_28 (dk_at dksX3_overAll_2 0 rfl rfl)
theorem dX3_overAll_48 : decode cX3_overAll 48 = .ok (.iload 6, 2) := dk_21 6 (dk_at dksX3_overAll_2 1 rfl rfl)
theorem dX3_overAll_50 : decode cX3_overAll 50 = .ok (.invokevirtual 393, 3) := dk_182 1 137 (dk_at dksX3_overAll_2 3 rfl rfl)
theorem dX3_overAll_53 : decode cX3_overAll 53 = .ok (.invokestatic 439, 3) := dk_184 1 183 (dk_at dksX3_overAll_2 6 rfl rfl)
theorem dX3_overAll_56 : decode cX3_overAll 56 = .ok (.goto 13, 3) := dk_167 0 13 (dk_at dksX3_overAll_2 9 rfl rfl)
theorem dX3_overAll_59 : decode cX3_overAll 59 = .ok (.lload 4, 2) := dk_22 4 (dk_at dksX3_overAll_2 12 rfl rfl)
theorem dX3_overAll_61 : decode cX3_overAll 61 = .ok (.aload_n 0, 1) := dk_42 (dk_at dksX3_overAll_2 14 rfl rfl)
theorem dX3_overAll_62 : decode cX3_overAll 62 = .ok (.iload_n 2, 1) := dk_28 (dk_at dksX3_overAll_2 15 rfl rfl)
theorem dX3_overAll_63 : decode cX3_overAll 63 = .ok (.iload 6, 2) := dk_21 6 (dk_at dksX3_overAll_2 16 rfl rfl)
theorem dX3_overAll_65 : decode cX3_overAll 65 = .ok (.invokevirtual 393, 3) := dk_182 1 137 (dk_at dksX3_overAll_2 18 rfl rfl)
theorem dX3_overAll_68 : decode cX3_overAll 68 = .ok (.ladd, 1) := dk_97 (dk_at dksX3_overAll_2 21 rfl rfl)
theorem dX3_overAll_69 : decode cX3_overAll 69 = .ok (.lstore 4, 2) := dk_55 4 (dk_at dksX3_overAll_2 22 rfl rfl)
theorem dX3_overAll_71 : decode cX3_overAll 71 = .ok (.iinc 6 1, 3) := dk_132 6 1 (dk_at dksX3_overAll_3 0 rfl rfl)
theorem dX3_overAll_74 : decode cX3_overAll 74 = .ok (.goto (-63), 3) := dk_167 255 193 (dk_at dksX3_overAll_3 3 rfl rfl)
theorem dX3_overAll_77 : decode cX3_overAll 77 = .ok (.lload 4, 2) := dk_22 4 (dk_at dksX3_overAll_3 6 rfl rfl)
theorem dX3_overAll_79 : decode cX3_overAll 79 = .ok (.lreturn, 1) := dk_173 (dk_at dksX3_overAll_3 8 rfl rfl)
abbrev cX3_lastHolding : ByteArray := prog_34_method_66_code
def yX3_lastHolding : MethodName := ⟨RX3, "lastHolding", "(II)I"⟩
def dkwX3_lastHolding_1 : List UInt8 := [132, 4, 1, 167, 255, 234, 29, 172]
abbrev dktX3_lastHolding_1 : List UInt8 := dkwX3_lastHolding_1 ++ []
def dkwX3_lastHolding_0 : List UInt8 := [2, 62, 3, 54, 4, 21, 4, 28, 163, 0, 22, 42, 27, 21, 4, 182, 1, 151, 153, 0, 6, 21, 4, 62]
abbrev dktX3_lastHolding_0 : List UInt8 := dkwX3_lastHolding_0 ++ dktX3_lastHolding_1
theorem dksX3_lastHolding_0 : cX3_lastHolding.data.toList.drop 0 = dktX3_lastHolding_0 := by decide +kernel
theorem dksX3_lastHolding_1 : cX3_lastHolding.data.toList.drop 24 = dktX3_lastHolding_1 := dk_seg dksX3_lastHolding_0 24 rfl rfl
theorem dX3_lastHolding_0 : decode cX3_lastHolding 0 = .ok (.iconst (-1), 1) := dk_2 (dk_at dksX3_lastHolding_0 0 rfl rfl)
theorem dX3_lastHolding_1 : decode cX3_lastHolding 1 = .ok (.istore_n 3, 1) := dk_62 (dk_at dksX3_lastHolding_0 1 rfl rfl)
theorem dX3_lastHolding_2 : decode cX3_lastHolding 2 = .ok (.iconst 0, 1) := dk_3 (dk_at dksX3_lastHolding_0 2 rfl rfl)
theorem dX3_lastHolding_3 : decode cX3_lastHolding 3 = .ok (.istore 4, 2) := dk_54 4 (dk_at dksX3_lastHolding_0 3 rfl rfl)
theorem dX3_lastHolding_5 : decode cX3_lastHolding 5 = .ok (.iload 4, 2) := dk_21 4 (dk_at dksX3_lastHolding_0 5 rfl rfl)
theorem dX3_lastHolding_7 : decode cX3_lastHolding 7 = .ok (.iload_n 2, 1) := dk_28 (dk_at dksX3_lastHolding_0 7 rfl rfl)
theorem dX3_lastHolding_8 : decode cX3_lastHolding 8 = .ok (.if_icmp .gt 22, 3) := dk_163 0 22 (dk_at dksX3_lastHolding_0 8 rfl rfl)
theorem dX3_lastHolding_11 : decode cX3_lastHolding 11 = .ok (.aload_n 0, 1) := dk_42 (dk_at dksX3_lastHolding_0 11 rfl rfl)
theorem dX3_lastHolding_12 : decode cX3_lastHolding 12 = .ok (.iload_n 1, 1) := dk_27 (dk_at dksX3_lastHolding_0 12 rfl rfl)
theorem dX3_lastHolding_13 : decode cX3_lastHolding 13 = .ok (.iload 4, 2) := dk_21 4 (dk_at dksX3_lastHolding_0 13 rfl rfl)
theorem dX3_lastHolding_15 : decode cX3_lastHolding 15 = .ok (.invokevirtual 407, 3) := dk_182 1 151 (dk_at dksX3_lastHolding_0 15 rfl rfl)
theorem dX3_lastHolding_18 : decode cX3_lastHolding 18 = .ok (.ifCond .eq 6, 3) := dk_153 0 6 (dk_at dksX3_lastHolding_0 18 rfl rfl)
theorem dX3_lastHolding_21 : decode cX3_lastHolding 21 = .ok (.iload 4, 2) := dk_21 4 (dk_at dksX3_lastHolding_0 21 rfl rfl)
theorem dX3_lastHolding_23 : decode cX3_lastHolding 23 = .ok (.istore_n 3, 1) := dk_62 (dk_at dksX3_lastHolding_0 23 rfl rfl)
theorem dX3_lastHolding_24 : decode cX3_lastHolding 24 = .ok (.iinc 4 1, 3) := dk_132 4 1 (dk_at dksX3_lastHolding_1 0 rfl rfl)
theorem dX3_lastHolding_27 : decode cX3_lastHolding 27 = .ok (.goto (-22), 3) := dk_167 255 234 (dk_at dksX3_lastHolding_1 3 rfl rfl)
theorem dX3_lastHolding_30 : decode cX3_lastHolding 30 = .ok (.iload_n 3, 1) := dk_29 (dk_at dksX3_lastHolding_1 6 rfl rfl)
theorem dX3_lastHolding_31 : decode cX3_lastHolding 31 = .ok (.ireturn, 1) := dk_172 (dk_at dksX3_lastHolding_1 7 rfl rfl)
abbrev cX3_both : ByteArray := prog_34_method_69_code
def yX3_both : MethodName := ⟨RX3, "both", "(IJJ)J"⟩
def dkwX3_both_2 : List UInt8 := [160, 0, 9, 31, 33, 109, 167, 0, 6, 31, 33, 113, 173]
abbrev dktX3_both_2 : List UInt8 := dkwX3_both_2 ++ []
def dkwX3_both_1 : List UInt8 := [4, 160, 0, 9, 31, 33, 101, 167, 0, 28, 26, 5, 160, 0, 9, 31, 33, 105, 167, 0, 17, 26, 6]
abbrev dktX3_both_1 : List UInt8 := dkwX3_both_1 ++ dktX3_both_2
def dkwX3_both_0 : List UInt8 := [26, 5, 164, 0, 11, 33, 9, 148, 154, 0, 5, 9, 173, 26, 154, 0, 9, 31, 33, 97, 167, 0, 39, 26]
abbrev dktX3_both_0 : List UInt8 := dkwX3_both_0 ++ dktX3_both_1
theorem dksX3_both_0 : cX3_both.data.toList.drop 0 = dktX3_both_0 := by decide +kernel
theorem dksX3_both_1 : cX3_both.data.toList.drop 24 = dktX3_both_1 := dk_seg dksX3_both_0 24 rfl rfl
theorem dksX3_both_2 : cX3_both.data.toList.drop 47 = dktX3_both_2 := dk_seg dksX3_both_1 23 rfl rfl
theorem dX3_both_0 : decode cX3_both 0 = .ok (.iload_n 0, 1) := dk_26 (dk_at dksX3_both_0 0 rfl rfl)
theorem dX3_both_1 : decode cX3_both 1 = .ok (.iconst 2, 1) := dk_5 (dk_at dksX3_both_0 1 rfl rfl)
theorem dX3_both_2 : decode cX3_both 2 = .ok (.if_icmp .le 11, 3) := dk_164 0 11 (dk_at dksX3_both_0 2 rfl rfl)
theorem dX3_both_5 : decode cX3_both 5 = .ok (.lload_n 3, 1) := dk_33 (dk_at dksX3_both_0 5 rfl rfl)
theorem dX3_both_6 : decode cX3_both 6 = .ok (.lconst 0, 1) := dk_9 (dk_at dksX3_both_0 6 rfl rfl)
theorem dX3_both_7 : decode cX3_both 7 = .ok (.lcmp, 1) := dk_148 (dk_at dksX3_both_0 7 rfl rfl)
theorem dX3_both_8 : decode cX3_both 8 = .ok (.ifCond .ne 5, 3) := dk_154 0 5 (dk_at dksX3_both_0 8 rfl rfl)
theorem dX3_both_11 : decode cX3_both 11 = .ok (.lconst 0, 1) := dk_9 (dk_at dksX3_both_0 11 rfl rfl)
theorem dX3_both_12 : decode cX3_both 12 = .ok (.lreturn, 1) := dk_173 (dk_at dksX3_both_0 12 rfl rfl)
theorem dX3_both_13 : decode cX3_both 13 = .ok (.iload_n 0, 1) := dk_26 (dk_at dksX3_both_0 13 rfl rfl)
theorem dX3_both_14 : decode cX3_both 14 = .ok (.ifCond .ne 9, 3) := dk_154 0 9 (dk_at dksX3_both_0 14 rfl rfl)
theorem dX3_both_17 : decode cX3_both 17 = .ok (.lload_n 1, 1) := dk_31 (dk_at dksX3_both_0 17 rfl rfl)
theorem dX3_both_18 : decode cX3_both 18 = .ok (.lload_n 3, 1) := dk_33 (dk_at dksX3_both_0 18 rfl rfl)
theorem dX3_both_19 : decode cX3_both 19 = .ok (.ladd, 1) := dk_97 (dk_at dksX3_both_0 19 rfl rfl)
theorem dX3_both_20 : decode cX3_both 20 = .ok (.goto 39, 3) := dk_167 0 39 (dk_at dksX3_both_0 20 rfl rfl)
theorem dX3_both_23 : decode cX3_both 23 = .ok (.iload_n 0, 1) := dk_26 (dk_at dksX3_both_0 23 rfl rfl)
theorem dX3_both_24 : decode cX3_both 24 = .ok (.iconst 1, 1) := dk_4 (dk_at dksX3_both_1 0 rfl rfl)
theorem dX3_both_25 : decode cX3_both 25 = .ok (.if_icmp .ne 9, 3) := dk_160 0 9 (dk_at dksX3_both_1 1 rfl rfl)
theorem dX3_both_28 : decode cX3_both 28 = .ok (.lload_n 1, 1) := dk_31 (dk_at dksX3_both_1 4 rfl rfl)
theorem dX3_both_29 : decode cX3_both 29 = .ok (.lload_n 3, 1) := dk_33 (dk_at dksX3_both_1 5 rfl rfl)
theorem dX3_both_30 : decode cX3_both 30 = .ok (.lsub, 1) := dk_101 (dk_at dksX3_both_1 6 rfl rfl)
theorem dX3_both_31 : decode cX3_both 31 = .ok (.goto 28, 3) := dk_167 0 28 (dk_at dksX3_both_1 7 rfl rfl)
theorem dX3_both_34 : decode cX3_both 34 = .ok (.iload_n 0, 1) := dk_26 (dk_at dksX3_both_1 10 rfl rfl)
theorem dX3_both_35 : decode cX3_both 35 = .ok (.iconst 2, 1) := dk_5 (dk_at dksX3_both_1 11 rfl rfl)
theorem dX3_both_36 : decode cX3_both 36 = .ok (.if_icmp .ne 9, 3) := dk_160 0 9 (dk_at dksX3_both_1 12 rfl rfl)
theorem dX3_both_39 : decode cX3_both 39 = .ok (.lload_n 1, 1) := dk_31 (dk_at dksX3_both_1 15 rfl rfl)
theorem dX3_both_40 : decode cX3_both 40 = .ok (.lload_n 3, 1) := dk_33 (dk_at dksX3_both_1 16 rfl rfl)
theorem dX3_both_41 : decode cX3_both 41 = .ok (.lmul, 1) := dk_105 (dk_at dksX3_both_1 17 rfl rfl)
theorem dX3_both_42 : decode cX3_both 42 = .ok (.goto 17, 3) := dk_167 0 17 (dk_at dksX3_both_1 18 rfl rfl)
theorem dX3_both_45 : decode cX3_both 45 = .ok (.iload_n 0, 1) := dk_26 (dk_at dksX3_both_1 21 rfl rfl)
theorem dX3_both_46 : decode cX3_both 46 = .ok (.iconst 3, 1) := dk_6 (dk_at dksX3_both_1 22 rfl rfl)
theorem dX3_both_47 : decode cX3_both 47 = .ok (.if_icmp .ne 9, 3) := dk_160 0 9 (dk_at dksX3_both_2 0 rfl rfl)
theorem dX3_both_50 : decode cX3_both 50 = .ok (.lload_n 1, 1) := dk_31 (dk_at dksX3_both_2 3 rfl rfl)
theorem dX3_both_51 : decode cX3_both 51 = .ok (.lload_n 3, 1) := dk_33 (dk_at dksX3_both_2 4 rfl rfl)
theorem dX3_both_52 : decode cX3_both 52 = .ok (.ldiv, 1) := dk_109 (dk_at dksX3_both_2 5 rfl rfl)
theorem dX3_both_53 : decode cX3_both 53 = .ok (.goto 6, 3) := dk_167 0 6 (dk_at dksX3_both_2 6 rfl rfl)
theorem dX3_both_56 : decode cX3_both 56 = .ok (.lload_n 1, 1) := dk_31 (dk_at dksX3_both_2 9 rfl rfl)
theorem dX3_both_57 : decode cX3_both 57 = .ok (.lload_n 3, 1) := dk_33 (dk_at dksX3_both_2 10 rfl rfl)
theorem dX3_both_58 : decode cX3_both 58 = .ok (.lrem, 1) := dk_113 (dk_at dksX3_both_2 11 rfl rfl)
theorem dX3_both_59 : decode cX3_both 59 = .ok (.lreturn, 1) := dk_173 (dk_at dksX3_both_2 12 rfl rfl)
abbrev cX3_watches : ByteArray := prog_34_method_71_code
def yX3_watches : MethodName := ⟨RX3, "watches", "(II)Z"⟩
def dkwX3_watches_0 : List UInt8 := [42, 42, 180, 0, 67, 16, 36, 27, 96, 46, 28, 182, 1, 151, 172]
abbrev dktX3_watches_0 : List UInt8 := dkwX3_watches_0 ++ []
theorem dksX3_watches_0 : cX3_watches.data.toList.drop 0 = dktX3_watches_0 := by decide +kernel
theorem dX3_watches_0 : decode cX3_watches 0 = .ok (.aload_n 0, 1) := dk_42 (dk_at dksX3_watches_0 0 rfl rfl)
theorem dX3_watches_1 : decode cX3_watches 1 = .ok (.aload_n 0, 1) := dk_42 (dk_at dksX3_watches_0 1 rfl rfl)
theorem dX3_watches_2 : decode cX3_watches 2 = .ok (.getfield 67, 3) := dk_180 0 67 (dk_at dksX3_watches_0 2 rfl rfl)
theorem dX3_watches_5 : decode cX3_watches 5 = .ok (.bipush 36, 2) := dk_16 36 (dk_at dksX3_watches_0 5 rfl rfl)
theorem dX3_watches_7 : decode cX3_watches 7 = .ok (.iload_n 1, 1) := dk_27 (dk_at dksX3_watches_0 7 rfl rfl)
theorem dX3_watches_8 : decode cX3_watches 8 = .ok (.iadd, 1) := dk_96 (dk_at dksX3_watches_0 8 rfl rfl)
theorem dX3_watches_9 : decode cX3_watches 9 = .ok (.iaload, 1) := dk_46 (dk_at dksX3_watches_0 9 rfl rfl)
theorem dX3_watches_10 : decode cX3_watches 10 = .ok (.iload_n 2, 1) := dk_28 (dk_at dksX3_watches_0 10 rfl rfl)
theorem dX3_watches_11 : decode cX3_watches 11 = .ok (.invokevirtual 407, 3) := dk_182 1 151 (dk_at dksX3_watches_0 11 rfl rfl)
theorem dX3_watches_14 : decode cX3_watches 14 = .ok (.ireturn, 1) := dk_172 (dk_at dksX3_watches_0 14 rfl rfl)
abbrev cX3_back : ByteArray := prog_34_method_74_code
def yX3_back : MethodName := ⟨RX3, "back", "(I)I"⟩
def dkwX3_back_1 : List UInt8 := [27, 181, 1, 113, 27, 154, 0, 7, 3, 167, 0, 11, 42, 180, 0, 76, 27, 4, 100, 46, 172]
abbrev dktX3_back_1 : List UInt8 := dkwX3_back_1 ++ []
def dkwX3_back_0 : List UInt8 := [42, 3, 181, 0, 91, 27, 3, 42, 180, 1, 113, 184, 0, 101, 154, 0, 9, 42, 4, 182, 0, 97, 172, 42]
abbrev dktX3_back_0 : List UInt8 := dkwX3_back_0 ++ dktX3_back_1
theorem dksX3_back_0 : cX3_back.data.toList.drop 0 = dktX3_back_0 := by decide +kernel
theorem dksX3_back_1 : cX3_back.data.toList.drop 24 = dktX3_back_1 := dk_seg dksX3_back_0 24 rfl rfl
theorem dX3_back_0 : decode cX3_back 0 = .ok (.aload_n 0, 1) := dk_42 (dk_at dksX3_back_0 0 rfl rfl)
theorem dX3_back_1 : decode cX3_back 1 = .ok (.iconst 0, 1) := dk_3 (dk_at dksX3_back_0 1 rfl rfl)
theorem dX3_back_2 : decode cX3_back 2 = .ok (.putfield 91, 3) := dk_181 0 91 (dk_at dksX3_back_0 2 rfl rfl)
theorem dX3_back_5 : decode cX3_back 5 = .ok (.iload_n 1, 1) := dk_27 (dk_at dksX3_back_0 5 rfl rfl)
theorem dX3_back_6 : decode cX3_back 6 = .ok (.iconst 0, 1) := dk_3 (dk_at dksX3_back_0 6 rfl rfl)
theorem dX3_back_7 : decode cX3_back 7 = .ok (.aload_n 0, 1) := dk_42 (dk_at dksX3_back_0 7 rfl rfl)
theorem dX3_back_8 : decode cX3_back 8 = .ok (.getfield 369, 3) := dk_180 1 113 (dk_at dksX3_back_0 8 rfl rfl)
theorem dX3_back_11 : decode cX3_back 11 = .ok (.invokestatic 101, 3) := dk_184 0 101 (dk_at dksX3_back_0 11 rfl rfl)
theorem dX3_back_14 : decode cX3_back 14 = .ok (.ifCond .ne 9, 3) := dk_154 0 9 (dk_at dksX3_back_0 14 rfl rfl)
theorem dX3_back_17 : decode cX3_back 17 = .ok (.aload_n 0, 1) := dk_42 (dk_at dksX3_back_0 17 rfl rfl)
theorem dX3_back_18 : decode cX3_back 18 = .ok (.iconst 1, 1) := dk_4 (dk_at dksX3_back_0 18 rfl rfl)
theorem dX3_back_19 : decode cX3_back 19 = .ok (.invokevirtual 97, 3) := dk_182 0 97 (dk_at dksX3_back_0 19 rfl rfl)
theorem dX3_back_22 : decode cX3_back 22 = .ok (.ireturn, 1) := dk_172 (dk_at dksX3_back_0 22 rfl rfl)
theorem dX3_back_23 : decode cX3_back 23 = .ok (.aload_n 0, 1) := dk_42 (dk_at dksX3_back_0 23 rfl rfl)
theorem dX3_back_24 : decode cX3_back 24 = .ok (.iload_n 1, 1) := dk_27 (dk_at dksX3_back_1 0 rfl rfl)
theorem dX3_back_25 : decode cX3_back 25 = .ok (.putfield 369, 3) := dk_181 1 113 (dk_at dksX3_back_1 1 rfl rfl)
theorem dX3_back_28 : decode cX3_back 28 = .ok (.iload_n 1, 1) := dk_27 (dk_at dksX3_back_1 4 rfl rfl)
theorem dX3_back_29 : decode cX3_back 29 = .ok (.ifCond .ne 7, 3) := dk_154 0 7 (dk_at dksX3_back_1 5 rfl rfl)
theorem dX3_back_32 : decode cX3_back 32 = .ok (.iconst 0, 1) := dk_3 (dk_at dksX3_back_1 8 rfl rfl)
theorem dX3_back_33 : decode cX3_back 33 = .ok (.goto 11, 3) := dk_167 0 11 (dk_at dksX3_back_1 9 rfl rfl)
theorem dX3_back_36 : decode cX3_back 36 = .ok (.aload_n 0, 1) := dk_42 (dk_at dksX3_back_1 12 rfl rfl)
theorem dX3_back_37 : decode cX3_back 37 = .ok (.getfield 76, 3) := dk_180 0 76 (dk_at dksX3_back_1 13 rfl rfl)
theorem dX3_back_40 : decode cX3_back 40 = .ok (.iload_n 1, 1) := dk_27 (dk_at dksX3_back_1 16 rfl rfl)
theorem dX3_back_41 : decode cX3_back 41 = .ok (.iconst 1, 1) := dk_4 (dk_at dksX3_back_1 17 rfl rfl)
theorem dX3_back_42 : decode cX3_back 42 = .ok (.isub, 1) := dk_100 (dk_at dksX3_back_1 18 rfl rfl)
theorem dX3_back_43 : decode cX3_back 43 = .ok (.iaload, 1) := dk_46 (dk_at dksX3_back_1 19 rfl rfl)
theorem dX3_back_44 : decode cX3_back 44 = .ok (.ireturn, 1) := dk_172 (dk_at dksX3_back_1 20 rfl rfl)
abbrev cX3_restart : ByteArray := prog_34_method_75_code
def yX3_restart : MethodName := ⟨RX3, "restart", "()I"⟩
def dkwX3_restart_1 : List UInt8 := [180, 0, 61, 6, 46, 172]
abbrev dktX3_restart_1 : List UInt8 := dkwX3_restart_1 ++ []
def dkwX3_restart_0 : List UInt8 := [42, 3, 181, 0, 91, 42, 180, 1, 106, 154, 0, 9, 42, 4, 182, 0, 97, 172, 42, 182, 1, 128, 42]
abbrev dktX3_restart_0 : List UInt8 := dkwX3_restart_0 ++ dktX3_restart_1
theorem dksX3_restart_0 : cX3_restart.data.toList.drop 0 = dktX3_restart_0 := by decide +kernel
theorem dksX3_restart_1 : cX3_restart.data.toList.drop 23 = dktX3_restart_1 := dk_seg dksX3_restart_0 23 rfl rfl
theorem dX3_restart_0 : decode cX3_restart 0 = .ok (.aload_n 0, 1) := dk_42 (dk_at dksX3_restart_0 0 rfl rfl)
theorem dX3_restart_1 : decode cX3_restart 1 = .ok (.iconst 0, 1) := dk_3 (dk_at dksX3_restart_0 1 rfl rfl)
theorem dX3_restart_2 : decode cX3_restart 2 = .ok (.putfield 91, 3) := dk_181 0 91 (dk_at dksX3_restart_0 2 rfl rfl)
theorem dX3_restart_5 : decode cX3_restart 5 = .ok (.aload_n 0, 1) := dk_42 (dk_at dksX3_restart_0 5 rfl rfl)
theorem dX3_restart_6 : decode cX3_restart 6 = .ok (.getfield 362, 3) := dk_180 1 106 (dk_at dksX3_restart_0 6 rfl rfl)
theorem dX3_restart_9 : decode cX3_restart 9 = .ok (.ifCond .ne 9, 3) := dk_154 0 9 (dk_at dksX3_restart_0 9 rfl rfl)
theorem dX3_restart_12 : decode cX3_restart 12 = .ok (.aload_n 0, 1) := dk_42 (dk_at dksX3_restart_0 12 rfl rfl)
theorem dX3_restart_13 : decode cX3_restart 13 = .ok (.iconst 1, 1) := dk_4 (dk_at dksX3_restart_0 13 rfl rfl)
theorem dX3_restart_14 : decode cX3_restart 14 = .ok (.invokevirtual 97, 3) := dk_182 0 97 (dk_at dksX3_restart_0 14 rfl rfl)
theorem dX3_restart_17 : decode cX3_restart 17 = .ok (.ireturn, 1) := dk_172 (dk_at dksX3_restart_0 17 rfl rfl)
theorem dX3_restart_18 : decode cX3_restart 18 = .ok (.aload_n 0, 1) := dk_42 (dk_at dksX3_restart_0 18 rfl rfl)
theorem dX3_restart_19 : decode cX3_restart 19 = .ok (.invokevirtual 384, 3) := dk_182 1 128 (dk_at dksX3_restart_0 19 rfl rfl)
theorem dX3_restart_22 : decode cX3_restart 22 = .ok (.aload_n 0, 1) := dk_42 (dk_at dksX3_restart_0 22 rfl rfl)
theorem dX3_restart_23 : decode cX3_restart 23 = .ok (.getfield 61, 3) := dk_180 0 61 (dk_at dksX3_restart_1 0 rfl rfl)
theorem dX3_restart_26 : decode cX3_restart 26 = .ok (.iconst 3, 1) := dk_6 (dk_at dksX3_restart_1 3 rfl rfl)
theorem dX3_restart_27 : decode cX3_restart 27 = .ok (.iaload, 1) := dk_46 (dk_at dksX3_restart_1 4 rfl rfl)
theorem dX3_restart_28 : decode cX3_restart 28 = .ok (.ireturn, 1) := dk_172 (dk_at dksX3_restart_1 5 rfl rfl)
abbrev cX3_keep : ByteArray := prog_34_method_76_code
def yX3_keep : MethodName := ⟨RX3, "keep", "()I"⟩
def dkwX3_keep_2 : List UInt8 := [17, 3, 192, 184, 1, 198, 42, 180, 1, 131, 172]
abbrev dktX3_keep_2 : List UInt8 := dkwX3_keep_2 ++ []
def dkwX3_keep_1 : List UInt8 := [180, 0, 76, 3, 42, 180, 0, 85, 3, 16, 120, 184, 1, 198, 42, 180, 0, 79, 3, 42, 180, 0, 88, 3]
abbrev dktX3_keep_1 : List UInt8 := dkwX3_keep_1 ++ dktX3_keep_2
def dkwX3_keep_0 : List UInt8 := [42, 3, 181, 0, 91, 42, 42, 180, 1, 113, 181, 1, 131, 42, 42, 180, 0, 61, 3, 46, 181, 1, 195, 42]
abbrev dktX3_keep_0 : List UInt8 := dkwX3_keep_0 ++ dktX3_keep_1
theorem dksX3_keep_0 : cX3_keep.data.toList.drop 0 = dktX3_keep_0 := by decide +kernel
theorem dksX3_keep_1 : cX3_keep.data.toList.drop 24 = dktX3_keep_1 := dk_seg dksX3_keep_0 24 rfl rfl
theorem dksX3_keep_2 : cX3_keep.data.toList.drop 48 = dktX3_keep_2 := dk_seg dksX3_keep_1 24 rfl rfl
theorem dX3_keep_0 : decode cX3_keep 0 = .ok (.aload_n 0, 1) := dk_42 (dk_at dksX3_keep_0 0 rfl rfl)
theorem dX3_keep_1 : decode cX3_keep 1 = .ok (.iconst 0, 1) := dk_3 (dk_at dksX3_keep_0 1 rfl rfl)
theorem dX3_keep_2 : decode cX3_keep 2 = .ok (.putfield 91, 3) := dk_181 0 91 (dk_at dksX3_keep_0 2 rfl rfl)
theorem dX3_keep_5 : decode cX3_keep 5 = .ok (.aload_n 0, 1) := dk_42 (dk_at dksX3_keep_0 5 rfl rfl)
theorem dX3_keep_6 : decode cX3_keep 6 = .ok (.aload_n 0, 1) := dk_42 (dk_at dksX3_keep_0 6 rfl rfl)
theorem dX3_keep_7 : decode cX3_keep 7 = .ok (.getfield 369, 3) := dk_180 1 113 (dk_at dksX3_keep_0 7 rfl rfl)
theorem dX3_keep_10 : decode cX3_keep 10 = .ok (.putfield 387, 3) := dk_181 1 131 (dk_at dksX3_keep_0 10 rfl rfl)
theorem dX3_keep_13 : decode cX3_keep 13 = .ok (.aload_n 0, 1) := dk_42 (dk_at dksX3_keep_0 13 rfl rfl)
theorem dX3_keep_14 : decode cX3_keep 14 = .ok (.aload_n 0, 1) := dk_42 (dk_at dksX3_keep_0 14 rfl rfl)
theorem dX3_keep_15 : decode cX3_keep 15 = .ok (.getfield 61, 3) := dk_180 0 61 (dk_at dksX3_keep_0 15 rfl rfl)
theorem dX3_keep_18 : decode cX3_keep 18 = .ok (.iconst 0, 1) := dk_3 (dk_at dksX3_keep_0 18 rfl rfl)
theorem dX3_keep_19 : decode cX3_keep 19 = .ok (.iaload, 1) := dk_46 (dk_at dksX3_keep_0 19 rfl rfl)
theorem dX3_keep_20 : decode cX3_keep 20 = .ok (.putfield 451, 3) := dk_181 1 195 (dk_at dksX3_keep_0 20 rfl rfl)
theorem dX3_keep_23 : decode cX3_keep 23 = .ok (.aload_n 0, 1) := dk_42 (dk_at dksX3_keep_0 23 rfl rfl)
theorem dX3_keep_24 : decode cX3_keep 24 = .ok (.getfield 76, 3) := dk_180 0 76 (dk_at dksX3_keep_1 0 rfl rfl)
theorem dX3_keep_27 : decode cX3_keep 27 = .ok (.iconst 0, 1) := dk_3 (dk_at dksX3_keep_1 3 rfl rfl)
theorem dX3_keep_28 : decode cX3_keep 28 = .ok (.aload_n 0, 1) := dk_42 (dk_at dksX3_keep_1 4 rfl rfl)
theorem dX3_keep_29 : decode cX3_keep 29 = .ok (.getfield 85, 3) := dk_180 0 85 (dk_at dksX3_keep_1 5 rfl rfl)
theorem dX3_keep_32 : decode cX3_keep 32 = .ok (.iconst 0, 1) := dk_3 (dk_at dksX3_keep_1 8 rfl rfl)
theorem dX3_keep_33 : decode cX3_keep 33 = .ok (.bipush 120, 2) := dk_16 120 (dk_at dksX3_keep_1 9 rfl rfl)
theorem dX3_keep_35 : decode cX3_keep 35 = .ok (.invokestatic 454, 3) := dk_184 1 198 (dk_at dksX3_keep_1 11 rfl rfl)
theorem dX3_keep_38 : decode cX3_keep 38 = .ok (.aload_n 0, 1) := dk_42 (dk_at dksX3_keep_1 14 rfl rfl)
theorem dX3_keep_39 : decode cX3_keep 39 = .ok (.getfield 79, 3) := dk_180 0 79 (dk_at dksX3_keep_1 15 rfl rfl)
theorem dX3_keep_42 : decode cX3_keep 42 = .ok (.iconst 0, 1) := dk_3 (dk_at dksX3_keep_1 18 rfl rfl)
theorem dX3_keep_43 : decode cX3_keep 43 = .ok (.aload_n 0, 1) := dk_42 (dk_at dksX3_keep_1 19 rfl rfl)
theorem dX3_keep_44 : decode cX3_keep 44 = .ok (.getfield 88, 3) := dk_180 0 88 (dk_at dksX3_keep_1 20 rfl rfl)
theorem dX3_keep_47 : decode cX3_keep 47 = .ok (.iconst 0, 1) := dk_3 (dk_at dksX3_keep_1 23 rfl rfl)
theorem dX3_keep_48 : decode cX3_keep 48 = .ok (.sipush 960, 3) := dk_17 3 192 (dk_at dksX3_keep_2 0 rfl rfl)
theorem dX3_keep_51 : decode cX3_keep 51 = .ok (.invokestatic 454, 3) := dk_184 1 198 (dk_at dksX3_keep_2 3 rfl rfl)
theorem dX3_keep_54 : decode cX3_keep 54 = .ok (.aload_n 0, 1) := dk_42 (dk_at dksX3_keep_2 6 rfl rfl)
theorem dX3_keep_55 : decode cX3_keep 55 = .ok (.getfield 387, 3) := dk_180 1 131 (dk_at dksX3_keep_2 7 rfl rfl)
theorem dX3_keep_58 : decode cX3_keep 58 = .ok (.ireturn, 1) := dk_172 (dk_at dksX3_keep_2 10 rfl rfl)
abbrev cX3_replay : ByteArray := prog_34_method_77_code
def yX3_replay : MethodName := ⟨RX3, "replay", "()I"⟩
def dkwX3_replay_4 : List UInt8 := [3, 96, 60, 132, 2, 1, 167, 255, 182, 27, 172]
abbrev dktX3_replay_4 : List UInt8 := dkwX3_replay_4 ++ []
def dkwX3_replay_3 : List UInt8 := [132, 3, 1, 167, 255, 219, 27, 42, 42, 180, 0, 85, 28, 46, 182, 1, 193, 154, 0, 7, 4, 167, 0, 4]
abbrev dktX3_replay_3 : List UInt8 := dkwX3_replay_3 ++ dktX3_replay_4
def dkwX3_replay_2 : List UInt8 := [184, 1, 204, 162, 0, 26, 42, 180, 0, 82, 29, 42, 180, 0, 88, 16, 8, 28, 104, 29, 96, 47, 80]
abbrev dktX3_replay_2 : List UInt8 := dkwX3_replay_2 ++ dktX3_replay_3
def dkwX3_replay_1 : List UInt8 := [3, 61, 28, 42, 180, 1, 131, 162, 0, 72, 3, 62, 29, 42, 180, 0, 61, 3, 46, 42, 180, 1, 195]
abbrev dktX3_replay_1 : List UInt8 := dkwX3_replay_1 ++ dktX3_replay_2
def dkwX3_replay_0 : List UInt8 := [42, 3, 181, 0, 91, 42, 180, 1, 106, 154, 0, 9, 42, 4, 182, 0, 97, 172, 42, 182, 1, 128, 3, 60]
abbrev dktX3_replay_0 : List UInt8 := dkwX3_replay_0 ++ dktX3_replay_1
theorem dksX3_replay_0 : cX3_replay.data.toList.drop 0 = dktX3_replay_0 := by decide +kernel
theorem dksX3_replay_1 : cX3_replay.data.toList.drop 24 = dktX3_replay_1 := dk_seg dksX3_replay_0 24 rfl rfl
theorem dksX3_replay_2 : cX3_replay.data.toList.drop 47 = dktX3_replay_2 := dk_seg dksX3_replay_1 23 rfl rfl
theorem dksX3_replay_3 : cX3_replay.data.toList.drop 70 = dktX3_replay_3 := dk_seg dksX3_replay_2 23 rfl rfl
theorem dksX3_replay_4 : cX3_replay.data.toList.drop 94 = dktX3_replay_4 := dk_seg dksX3_replay_3 24 rfl rfl
theorem dX3_replay_0 : decode cX3_replay 0 = .ok (.aload_n 0, 1) := dk_42 (dk_at dksX3_replay_0 0 rfl rfl)
theorem dX3_replay_1 : decode cX3_replay 1 = .ok (.iconst 0, 1) := dk_3 (dk_at dksX3_replay_0 1 rfl rfl)
theorem dX3_replay_2 : decode cX3_replay 2 = .ok (.putfield 91, 3) := dk_181 0 91 (dk_at dksX3_replay_0 2 rfl rfl)
theorem dX3_replay_5 : decode cX3_replay 5 = .ok (.aload_n 0, 1) := dk_42 (dk_at dksX3_replay_0 5 rfl rfl)
theorem dX3_replay_6 : decode cX3_replay 6 = .ok (.getfield 362, 3) := dk_180 1 106 (dk_at dksX3_replay_0 6 rfl rfl)
theorem dX3_replay_9 : decode cX3_replay 9 = .ok (.ifCond .ne 9, 3) := dk_154 0 9 (dk_at dksX3_replay_0 9 rfl rfl)
theorem dX3_replay_12 : decode cX3_replay 12 = .ok (.aload_n 0, 1) := dk_42 (dk_at dksX3_replay_0 12 rfl rfl)
theorem dX3_replay_13 : decode cX3_replay 13 = .ok (.iconst 1, 1) := dk_4 (dk_at dksX3_replay_0 13 rfl rfl)
theorem dX3_replay_14 : decode cX3_replay 14 = .ok (.invokevirtual 97, 3) := dk_182 0 97 (dk_at dksX3_replay_0 14 rfl rfl)
theorem dX3_replay_17 : decode cX3_replay 17 = .ok (.ireturn, 1) := dk_172 (dk_at dksX3_replay_0 17 rfl rfl)
theorem dX3_replay_18 : decode cX3_replay 18 = .ok (.aload_n 0, 1) := dk_42 (dk_at dksX3_replay_0 18 rfl rfl)
theorem dX3_replay_19 : decode cX3_replay 19 = .ok (.invokevirtual 384, 3) := dk_182 1 128 (dk_at dksX3_replay_0 19 rfl rfl)
theorem dX3_replay_22 : decode cX3_replay 22 = .ok (.iconst 0, 1) := dk_3 (dk_at dksX3_replay_0 22 rfl rfl)
theorem dX3_replay_23 : decode cX3_replay 23 = .ok (.istore_n 1, 1) := dk_60 (dk_at dksX3_replay_0 23 rfl rfl)
theorem dX3_replay_24 : decode cX3_replay 24 = .ok (.iconst 0, 1) := dk_3 (dk_at dksX3_replay_1 0 rfl rfl)
theorem dX3_replay_25 : decode cX3_replay 25 = .ok (.istore_n 2, 1) := dk_61 (dk_at dksX3_replay_1 1 rfl rfl)
theorem dX3_replay_26 : decode cX3_replay 26 = .ok (.iload_n 2, 1) := dk_28 (dk_at dksX3_replay_1 2 rfl rfl)
theorem dX3_replay_27 : decode cX3_replay 27 = .ok (.aload_n 0, 1) := dk_42 (dk_at dksX3_replay_1 3 rfl rfl)
theorem dX3_replay_28 : decode cX3_replay 28 = .ok (.getfield 387, 3) := dk_180 1 131 (dk_at dksX3_replay_1 4 rfl rfl)
theorem dX3_replay_31 : decode cX3_replay 31 = .ok (.if_icmp .ge 72, 3) := dk_162 0 72 (dk_at dksX3_replay_1 7 rfl rfl)
theorem dX3_replay_34 : decode cX3_replay 34 = .ok (.iconst 0, 1) := dk_3 (dk_at dksX3_replay_1 10 rfl rfl)
theorem dX3_replay_35 : decode cX3_replay 35 = .ok (.istore_n 3, 1) := dk_62 (dk_at dksX3_replay_1 11 rfl rfl)
theorem dX3_replay_36 : decode cX3_replay 36 = .ok (.iload_n 3, 1) := dk_29 (dk_at dksX3_replay_1 12 rfl rfl)
theorem dX3_replay_37 : decode cX3_replay 37 = .ok (.aload_n 0, 1) := dk_42 (dk_at dksX3_replay_1 13 rfl rfl)
theorem dX3_replay_38 : decode cX3_replay 38 = .ok (.getfield 61, 3) := dk_180 0 61 (dk_at dksX3_replay_1 14 rfl rfl)
theorem dX3_replay_41 : decode cX3_replay 41 = .ok (.iconst 0, 1) := dk_3 (dk_at dksX3_replay_1 17 rfl rfl)
theorem dX3_replay_42 : decode cX3_replay 42 = .ok (.iaload, 1) := dk_46 (dk_at dksX3_replay_1 18 rfl rfl)
theorem dX3_replay_43 : decode cX3_replay 43 = .ok (.aload_n 0, 1) := dk_42 (dk_at dksX3_replay_1 19 rfl rfl)
theorem dX3_replay_44 : decode cX3_replay 44 = .ok (.getfield 451, 3) := dk_180 1 195 (dk_at dksX3_replay_1 20 rfl rfl)
theorem dX3_replay_47 : decode cX3_replay 47 = .ok (.invokestatic 460, 3) := dk_184 1 204 (dk_at dksX3_replay_2 0 rfl rfl)
theorem dX3_replay_50 : decode cX3_replay 50 = .ok (.if_icmp .ge 26, 3) := dk_162 0 26 (dk_at dksX3_replay_2 3 rfl rfl)
theorem dX3_replay_53 : decode cX3_replay 53 = .ok (.aload_n 0, 1) := dk_42 (dk_at dksX3_replay_2 6 rfl rfl)
theorem dX3_replay_54 : decode cX3_replay 54 = .ok (.getfield 82, 3) := dk_180 0 82 (dk_at dksX3_replay_2 7 rfl rfl)
theorem dX3_replay_57 : decode cX3_replay 57 = .ok (.iload_n 3, 1) := dk_29 (dk_at dksX3_replay_2 10 rfl rfl)
theorem dX3_replay_58 : decode cX3_replay 58 = .ok (.aload_n 0, 1) := dk_42 (dk_at dksX3_replay_2 11 rfl rfl)
theorem dX3_replay_59 : decode cX3_replay 59 = .ok (.getfield 88, 3) := dk_180 0 88 (dk_at dksX3_replay_2 12 rfl rfl)
theorem dX3_replay_62 : decode cX3_replay 62 = .ok (.bipush 8, 2) := dk_16 8 (dk_at dksX3_replay_2 15 rfl rfl)
theorem dX3_replay_64 : decode cX3_replay 64 = .ok (.iload_n 2, 1) := dk_28 (dk_at dksX3_replay_2 17 rfl rfl)
theorem dX3_replay_65 : decode cX3_replay 65 = .ok (.imul, 1) := dk_104 (dk_at dksX3_replay_2 18 rfl rfl)
theorem dX3_replay_66 : decode cX3_replay 66 = .ok (.iload_n 3, 1) := dk_29 (dk_at dksX3_replay_2 19 rfl rfl)
theorem dX3_replay_67 : decode cX3_replay 67 = .ok (.iadd, 1) := dk_96 (dk_at dksX3_replay_2 20 rfl rfl)
theorem dX3_replay_68 : decode cX3_replay 68 = .ok (.laload, 1) := dk_47 (dk_at dksX3_replay_2 21 rfl rfl)
theorem dX3_replay_69 : decode cX3_replay 69 = .ok (.lastore, 1) := dk_80 (dk_at dksX3_replay_2 22 rfl rfl)
theorem dX3_replay_70 : decode cX3_replay 70 = .ok (.iinc 3 1, 3) := dk_132 3 1 (dk_at dksX3_replay_3 0 rfl rfl)
theorem dX3_replay_73 : decode cX3_replay 73 = .ok (.goto (-37), 3) := dk_167 255 219 (dk_at dksX3_replay_3 3 rfl rfl)
theorem dX3_replay_76 : decode cX3_replay 76 = .ok (.iload_n 1, 1) := dk_27 (dk_at dksX3_replay_3 6 rfl rfl)
theorem dX3_replay_77 : decode cX3_replay 77 = .ok (.aload_n 0, 1) := dk_42 (dk_at dksX3_replay_3 7 rfl rfl)
theorem dX3_replay_78 : decode cX3_replay 78 = .ok (.aload_n 0, 1) := dk_42 (dk_at dksX3_replay_3 8 rfl rfl)
theorem dX3_replay_79 : decode cX3_replay 79 = .ok (.getfield 85, 3) := dk_180 0 85 (dk_at dksX3_replay_3 9 rfl rfl)
theorem dX3_replay_82 : decode cX3_replay 82 = .ok (.iload_n 2, 1) := dk_28 (dk_at dksX3_replay_3 12 rfl rfl)
theorem dX3_replay_83 : decode cX3_replay 83 = .ok (.iaload, 1) := dk_46 (dk_at dksX3_replay_3 13 rfl rfl)
theorem dX3_replay_84 : decode cX3_replay 84 = .ok (.invokevirtual 449, 3) := dk_182 1 193 (dk_at dksX3_replay_3 14 rfl rfl)
theorem dX3_replay_87 : decode cX3_replay 87 = .ok (.ifCond .ne 7, 3) := dk_154 0 7 (dk_at dksX3_replay_3 17 rfl rfl)
theorem dX3_replay_90 : decode cX3_replay 90 = .ok (.iconst 1, 1) := dk_4 (dk_at dksX3_replay_3 20 rfl rfl)
theorem dX3_replay_91 : decode cX3_replay 91 = .ok (.goto 4, 3) := dk_167 0 4 (dk_at dksX3_replay_3 21 rfl rfl)
theorem dX3_replay_94 : decode cX3_replay 94 = .ok (.iconst 0, 1) := dk_3 (dk_at dksX3_replay_4 0 rfl rfl)
theorem dX3_replay_95 : decode cX3_replay 95 = .ok (.iadd, 1) := dk_96 (dk_at dksX3_replay_4 1 rfl rfl)
theorem dX3_replay_96 : decode cX3_replay 96 = .ok (.istore_n 1, 1) := dk_60 (dk_at dksX3_replay_4 2 rfl rfl)
theorem dX3_replay_97 : decode cX3_replay 97 = .ok (.iinc 2 1, 3) := dk_132 2 1 (dk_at dksX3_replay_4 3 rfl rfl)
theorem dX3_replay_100 : decode cX3_replay 100 = .ok (.goto (-74), 3) := dk_167 255 182 (dk_at dksX3_replay_4 6 rfl rfl)
theorem dX3_replay_103 : decode cX3_replay 103 = .ok (.iload_n 1, 1) := dk_27 (dk_at dksX3_replay_4 9 rfl rfl)
theorem dX3_replay_104 : decode cX3_replay 104 = .ok (.ireturn, 1) := dk_172 (dk_at dksX3_replay_4 10 rfl rfl)
abbrev cX3_time : ByteArray := prog_34_method_79_code
def yX3_time : MethodName := ⟨RX3, "time", "(I)I"⟩
def dkwX3_time_1 : List UInt8 := [182, 0, 97, 172]
abbrev dktX3_time_1 : List UInt8 := dkwX3_time_1 ++ []
def dkwX3_time_0 : List UInt8 := [42, 3, 181, 0, 91, 42, 27, 182, 1, 206, 153, 0, 12, 42, 180, 0, 76, 27, 46, 167, 0, 8, 42, 4]
abbrev dktX3_time_0 : List UInt8 := dkwX3_time_0 ++ dktX3_time_1
theorem dksX3_time_0 : cX3_time.data.toList.drop 0 = dktX3_time_0 := by decide +kernel
theorem dksX3_time_1 : cX3_time.data.toList.drop 24 = dktX3_time_1 := dk_seg dksX3_time_0 24 rfl rfl
theorem dX3_time_0 : decode cX3_time 0 = .ok (.aload_n 0, 1) := dk_42 (dk_at dksX3_time_0 0 rfl rfl)
theorem dX3_time_1 : decode cX3_time 1 = .ok (.iconst 0, 1) := dk_3 (dk_at dksX3_time_0 1 rfl rfl)
theorem dX3_time_2 : decode cX3_time 2 = .ok (.putfield 91, 3) := dk_181 0 91 (dk_at dksX3_time_0 2 rfl rfl)
theorem dX3_time_5 : decode cX3_time 5 = .ok (.aload_n 0, 1) := dk_42 (dk_at dksX3_time_0 5 rfl rfl)
theorem dX3_time_6 : decode cX3_time 6 = .ok (.iload_n 1, 1) := dk_27 (dk_at dksX3_time_0 6 rfl rfl)
theorem dX3_time_7 : decode cX3_time 7 = .ok (.invokevirtual 462, 3) := dk_182 1 206 (dk_at dksX3_time_0 7 rfl rfl)
theorem dX3_time_10 : decode cX3_time 10 = .ok (.ifCond .eq 12, 3) := dk_153 0 12 (dk_at dksX3_time_0 10 rfl rfl)
theorem dX3_time_13 : decode cX3_time 13 = .ok (.aload_n 0, 1) := dk_42 (dk_at dksX3_time_0 13 rfl rfl)
theorem dX3_time_14 : decode cX3_time 14 = .ok (.getfield 76, 3) := dk_180 0 76 (dk_at dksX3_time_0 14 rfl rfl)
theorem dX3_time_17 : decode cX3_time 17 = .ok (.iload_n 1, 1) := dk_27 (dk_at dksX3_time_0 17 rfl rfl)
theorem dX3_time_18 : decode cX3_time 18 = .ok (.iaload, 1) := dk_46 (dk_at dksX3_time_0 18 rfl rfl)
theorem dX3_time_19 : decode cX3_time 19 = .ok (.goto 8, 3) := dk_167 0 8 (dk_at dksX3_time_0 19 rfl rfl)
theorem dX3_time_22 : decode cX3_time 22 = .ok (.aload_n 0, 1) := dk_42 (dk_at dksX3_time_0 22 rfl rfl)
theorem dX3_time_23 : decode cX3_time 23 = .ok (.iconst 1, 1) := dk_4 (dk_at dksX3_time_0 23 rfl rfl)
theorem dX3_time_24 : decode cX3_time 24 = .ok (.invokevirtual 97, 3) := dk_182 0 97 (dk_at dksX3_time_1 0 rfl rfl)
theorem dX3_time_27 : decode cX3_time 27 = .ok (.ireturn, 1) := dk_172 (dk_at dksX3_time_1 3 rfl rfl)
abbrev cX3_isStep : ByteArray := prog_34_method_78_code
def yX3_isStep : MethodName := ⟨RX3, "isStep", "(I)Z"⟩
def dkwX3_isStep_0 : List UInt8 := [27, 3, 42, 180, 1, 113, 4, 100, 184, 0, 101, 172]
abbrev dktX3_isStep_0 : List UInt8 := dkwX3_isStep_0 ++ []
theorem dksX3_isStep_0 : cX3_isStep.data.toList.drop 0 = dktX3_isStep_0 := by decide +kernel
theorem dX3_isStep_0 : decode cX3_isStep 0 = .ok (.iload_n 1, 1) := dk_27 (dk_at dksX3_isStep_0 0 rfl rfl)
theorem dX3_isStep_1 : decode cX3_isStep 1 = .ok (.iconst 0, 1) := dk_3 (dk_at dksX3_isStep_0 1 rfl rfl)
theorem dX3_isStep_2 : decode cX3_isStep 2 = .ok (.aload_n 0, 1) := dk_42 (dk_at dksX3_isStep_0 2 rfl rfl)
theorem dX3_isStep_3 : decode cX3_isStep 3 = .ok (.getfield 369, 3) := dk_180 1 113 (dk_at dksX3_isStep_0 3 rfl rfl)
theorem dX3_isStep_6 : decode cX3_isStep 6 = .ok (.iconst 1, 1) := dk_4 (dk_at dksX3_isStep_0 6 rfl rfl)
theorem dX3_isStep_7 : decode cX3_isStep 7 = .ok (.isub, 1) := dk_100 (dk_at dksX3_isStep_0 7 rfl rfl)
theorem dX3_isStep_8 : decode cX3_isStep 8 = .ok (.invokestatic 101, 3) := dk_184 0 101 (dk_at dksX3_isStep_0 8 rfl rfl)
theorem dX3_isStep_11 : decode cX3_isStep 11 = .ok (.ireturn, 1) := dk_172 (dk_at dksX3_isStep_0 11 rfl rfl)
abbrev cX3_signal : ByteArray := prog_34_method_80_code
def yX3_signal : MethodName := ⟨RX3, "signal", "(II)J"⟩
def dkwX3_signal_2 : List UInt8 := [28, 104, 27, 96, 47, 167, 0, 4, 9, 173]
abbrev dktX3_signal_2 : List UInt8 := dkwX3_signal_2 ++ []
def dkwX3_signal_1 : List UInt8 := [153, 0, 7, 3, 167, 0, 4, 4, 181, 0, 91, 42, 180, 0, 91, 154, 0, 17, 42, 180, 0, 79, 16, 8]
abbrev dktX3_signal_1 : List UInt8 := dkwX3_signal_1 ++ dktX3_signal_2
def dkwX3_signal_0 : List UInt8 := [42, 27, 3, 42, 180, 0, 61, 3, 46, 4, 100, 184, 0, 101, 153, 0, 15, 42, 28, 182, 1, 206]
abbrev dktX3_signal_0 : List UInt8 := dkwX3_signal_0 ++ dktX3_signal_1
theorem dksX3_signal_0 : cX3_signal.data.toList.drop 0 = dktX3_signal_0 := by decide +kernel
theorem dksX3_signal_1 : cX3_signal.data.toList.drop 22 = dktX3_signal_1 := dk_seg dksX3_signal_0 22 rfl rfl
theorem dksX3_signal_2 : cX3_signal.data.toList.drop 46 = dktX3_signal_2 := dk_seg dksX3_signal_1 24 rfl rfl
theorem dX3_signal_0 : decode cX3_signal 0 = .ok (.aload_n 0, 1) := dk_42 (dk_at dksX3_signal_0 0 rfl rfl)
theorem dX3_signal_1 : decode cX3_signal 1 = .ok (.iload_n 1, 1) := dk_27 (dk_at dksX3_signal_0 1 rfl rfl)
theorem dX3_signal_2 : decode cX3_signal 2 = .ok (.iconst 0, 1) := dk_3 (dk_at dksX3_signal_0 2 rfl rfl)
theorem dX3_signal_3 : decode cX3_signal 3 = .ok (.aload_n 0, 1) := dk_42 (dk_at dksX3_signal_0 3 rfl rfl)
theorem dX3_signal_4 : decode cX3_signal 4 = .ok (.getfield 61, 3) := dk_180 0 61 (dk_at dksX3_signal_0 4 rfl rfl)
theorem dX3_signal_7 : decode cX3_signal 7 = .ok (.iconst 0, 1) := dk_3 (dk_at dksX3_signal_0 7 rfl rfl)
theorem dX3_signal_8 : decode cX3_signal 8 = .ok (.iaload, 1) := dk_46 (dk_at dksX3_signal_0 8 rfl rfl)
theorem dX3_signal_9 : decode cX3_signal 9 = .ok (.iconst 1, 1) := dk_4 (dk_at dksX3_signal_0 9 rfl rfl)
theorem dX3_signal_10 : decode cX3_signal 10 = .ok (.isub, 1) := dk_100 (dk_at dksX3_signal_0 10 rfl rfl)
theorem dX3_signal_11 : decode cX3_signal 11 = .ok (.invokestatic 101, 3) := dk_184 0 101 (dk_at dksX3_signal_0 11 rfl rfl)
theorem dX3_signal_14 : decode cX3_signal 14 = .ok (.ifCond .eq 15, 3) := dk_153 0 15 (dk_at dksX3_signal_0 14 rfl rfl)
theorem dX3_signal_17 : decode cX3_signal 17 = .ok (.aload_n 0, 1) := dk_42 (dk_at dksX3_signal_0 17 rfl rfl)
theorem dX3_signal_18 : decode cX3_signal 18 = .ok (.iload_n 2, 1) := dk_28 (dk_at dksX3_signal_0 18 rfl rfl)
theorem dX3_signal_19 : decode cX3_signal 19 = .ok (.invokevirtual 462, 3) := dk_182 1 206 (dk_at dksX3_signal_0 19 rfl rfl)
theorem dX3_signal_22 : decode cX3_signal 22 = .ok (.ifCond .eq 7, 3) := dk_153 0 7 (dk_at dksX3_signal_1 0 rfl rfl)
theorem dX3_signal_25 : decode cX3_signal 25 = .ok (.iconst 0, 1) := dk_3 (dk_at dksX3_signal_1 3 rfl rfl)
theorem dX3_signal_26 : decode cX3_signal 26 = .ok (.goto 4, 3) := dk_167 0 4 (dk_at dksX3_signal_1 4 rfl rfl)
theorem dX3_signal_29 : decode cX3_signal 29 = .ok (.iconst 1, 1) := dk_4 (dk_at dksX3_signal_1 7 rfl rfl)
theorem dX3_signal_30 : decode cX3_signal 30 = .ok (.putfield 91, 3) := dk_181 0 91 (dk_at dksX3_signal_1 8 rfl rfl)
theorem dX3_signal_33 : decode cX3_signal 33 = .ok (.aload_n 0, 1) := dk_42 (dk_at dksX3_signal_1 11 rfl rfl)
theorem dX3_signal_34 : decode cX3_signal 34 = .ok (.getfield 91, 3) := dk_180 0 91 (dk_at dksX3_signal_1 12 rfl rfl)
theorem dX3_signal_37 : decode cX3_signal 37 = .ok (.ifCond .ne 17, 3) := dk_154 0 17 (dk_at dksX3_signal_1 15 rfl rfl)
theorem dX3_signal_40 : decode cX3_signal 40 = .ok (.aload_n 0, 1) := dk_42 (dk_at dksX3_signal_1 18 rfl rfl)
theorem dX3_signal_41 : decode cX3_signal 41 = .ok (.getfield 79, 3) := dk_180 0 79 (dk_at dksX3_signal_1 19 rfl rfl)
theorem dX3_signal_44 : decode cX3_signal 44 = .ok (.bipush 8, 2) := dk_16 8 (dk_at dksX3_signal_1 22 rfl rfl)
theorem dX3_signal_46 : decode cX3_signal 46 = .ok (.iload_n 2, 1) := dk_28 (dk_at dksX3_signal_2 0 rfl rfl)
theorem dX3_signal_47 : decode cX3_signal 47 = .ok (.imul, 1) := dk_104 (dk_at dksX3_signal_2 1 rfl rfl)
theorem dX3_signal_48 : decode cX3_signal 48 = .ok (.iload_n 1, 1) := dk_27 (dk_at dksX3_signal_2 2 rfl rfl)
theorem dX3_signal_49 : decode cX3_signal 49 = .ok (.iadd, 1) := dk_96 (dk_at dksX3_signal_2 3 rfl rfl)
theorem dX3_signal_50 : decode cX3_signal 50 = .ok (.laload, 1) := dk_47 (dk_at dksX3_signal_2 4 rfl rfl)
theorem dX3_signal_51 : decode cX3_signal 51 = .ok (.goto 4, 3) := dk_167 0 4 (dk_at dksX3_signal_2 5 rfl rfl)
theorem dX3_signal_54 : decode cX3_signal 54 = .ok (.lconst 0, 1) := dk_9 (dk_at dksX3_signal_2 8 rfl rfl)
theorem dX3_signal_55 : decode cX3_signal 55 = .ok (.lreturn, 1) := dk_173 (dk_at dksX3_signal_2 9 rfl rfl)
abbrev cX3_value : ByteArray := prog_34_method_81_code
def yX3_value : MethodName := ⟨RX3, "value", "(II)J"⟩
def dkwX3_value_2 : List UInt8 := [16, 24, 27, 96, 46, 28, 182, 1, 137, 167, 0, 4, 9, 173]
abbrev dktX3_value_2 : List UInt8 := dkwX3_value_2 ++ []
def dkwX3_value_1 : List UInt8 := [153, 0, 7, 3, 167, 0, 4, 4, 181, 0, 91, 42, 180, 0, 91, 154, 0, 20, 42, 42, 180, 0, 67]
abbrev dktX3_value_1 : List UInt8 := dkwX3_value_1 ++ dktX3_value_2
def dkwX3_value_0 : List UInt8 := [42, 27, 3, 42, 180, 0, 61, 5, 46, 4, 100, 184, 0, 101, 153, 0, 15, 42, 28, 182, 1, 206]
abbrev dktX3_value_0 : List UInt8 := dkwX3_value_0 ++ dktX3_value_1
theorem dksX3_value_0 : cX3_value.data.toList.drop 0 = dktX3_value_0 := by decide +kernel
theorem dksX3_value_1 : cX3_value.data.toList.drop 22 = dktX3_value_1 := dk_seg dksX3_value_0 22 rfl rfl
theorem dksX3_value_2 : cX3_value.data.toList.drop 45 = dktX3_value_2 := dk_seg dksX3_value_1 23 rfl rfl
theorem dX3_value_0 : decode cX3_value 0 = .ok (.aload_n 0, 1) := dk_42 (dk_at dksX3_value_0 0 rfl rfl)
theorem dX3_value_1 : decode cX3_value 1 = .ok (.iload_n 1, 1) := dk_27 (dk_at dksX3_value_0 1 rfl rfl)
theorem dX3_value_2 : decode cX3_value 2 = .ok (.iconst 0, 1) := dk_3 (dk_at dksX3_value_0 2 rfl rfl)
theorem dX3_value_3 : decode cX3_value 3 = .ok (.aload_n 0, 1) := dk_42 (dk_at dksX3_value_0 3 rfl rfl)
theorem dX3_value_4 : decode cX3_value 4 = .ok (.getfield 61, 3) := dk_180 0 61 (dk_at dksX3_value_0 4 rfl rfl)
theorem dX3_value_7 : decode cX3_value 7 = .ok (.iconst 2, 1) := dk_5 (dk_at dksX3_value_0 7 rfl rfl)
theorem dX3_value_8 : decode cX3_value 8 = .ok (.iaload, 1) := dk_46 (dk_at dksX3_value_0 8 rfl rfl)
theorem dX3_value_9 : decode cX3_value 9 = .ok (.iconst 1, 1) := dk_4 (dk_at dksX3_value_0 9 rfl rfl)
theorem dX3_value_10 : decode cX3_value 10 = .ok (.isub, 1) := dk_100 (dk_at dksX3_value_0 10 rfl rfl)
theorem dX3_value_11 : decode cX3_value 11 = .ok (.invokestatic 101, 3) := dk_184 0 101 (dk_at dksX3_value_0 11 rfl rfl)
theorem dX3_value_14 : decode cX3_value 14 = .ok (.ifCond .eq 15, 3) := dk_153 0 15 (dk_at dksX3_value_0 14 rfl rfl)
theorem dX3_value_17 : decode cX3_value 17 = .ok (.aload_n 0, 1) := dk_42 (dk_at dksX3_value_0 17 rfl rfl)
theorem dX3_value_18 : decode cX3_value 18 = .ok (.iload_n 2, 1) := dk_28 (dk_at dksX3_value_0 18 rfl rfl)
theorem dX3_value_19 : decode cX3_value 19 = .ok (.invokevirtual 462, 3) := dk_182 1 206 (dk_at dksX3_value_0 19 rfl rfl)
theorem dX3_value_22 : decode cX3_value 22 = .ok (.ifCond .eq 7, 3) := dk_153 0 7 (dk_at dksX3_value_1 0 rfl rfl)
theorem dX3_value_25 : decode cX3_value 25 = .ok (.iconst 0, 1) := dk_3 (dk_at dksX3_value_1 3 rfl rfl)
theorem dX3_value_26 : decode cX3_value 26 = .ok (.goto 4, 3) := dk_167 0 4 (dk_at dksX3_value_1 4 rfl rfl)
theorem dX3_value_29 : decode cX3_value 29 = .ok (.iconst 1, 1) := dk_4 (dk_at dksX3_value_1 7 rfl rfl)
theorem dX3_value_30 : decode cX3_value 30 = .ok (.putfield 91, 3) := dk_181 0 91 (dk_at dksX3_value_1 8 rfl rfl)
theorem dX3_value_33 : decode cX3_value 33 = .ok (.aload_n 0, 1) := dk_42 (dk_at dksX3_value_1 11 rfl rfl)
theorem dX3_value_34 : decode cX3_value 34 = .ok (.getfield 91, 3) := dk_180 0 91 (dk_at dksX3_value_1 12 rfl rfl)
theorem dX3_value_37 : decode cX3_value 37 = .ok (.ifCond .ne 20, 3) := dk_154 0 20 (dk_at dksX3_value_1 15 rfl rfl)
theorem dX3_value_40 : decode cX3_value 40 = .ok (.aload_n 0, 1) := dk_42 (dk_at dksX3_value_1 18 rfl rfl)
theorem dX3_value_41 : decode cX3_value 41 = .ok (.aload_n 0, 1) := dk_42 (dk_at dksX3_value_1 19 rfl rfl)
theorem dX3_value_42 : decode cX3_value 42 = .ok (.getfield 67, 3) := dk_180 0 67 (dk_at dksX3_value_1 20 rfl rfl)
theorem dX3_value_45 : decode cX3_value 45 = .ok (.bipush 24, 2) := dk_16 24 (dk_at dksX3_value_2 0 rfl rfl)
theorem dX3_value_47 : decode cX3_value 47 = .ok (.iload_n 1, 1) := dk_27 (dk_at dksX3_value_2 2 rfl rfl)
theorem dX3_value_48 : decode cX3_value 48 = .ok (.iadd, 1) := dk_96 (dk_at dksX3_value_2 3 rfl rfl)
theorem dX3_value_49 : decode cX3_value 49 = .ok (.iaload, 1) := dk_46 (dk_at dksX3_value_2 4 rfl rfl)
theorem dX3_value_50 : decode cX3_value 50 = .ok (.iload_n 2, 1) := dk_28 (dk_at dksX3_value_2 5 rfl rfl)
theorem dX3_value_51 : decode cX3_value 51 = .ok (.invokevirtual 393, 3) := dk_182 1 137 (dk_at dksX3_value_2 6 rfl rfl)
theorem dX3_value_54 : decode cX3_value 54 = .ok (.goto 4, 3) := dk_167 0 4 (dk_at dksX3_value_2 9 rfl rfl)
theorem dX3_value_57 : decode cX3_value 57 = .ok (.lconst 0, 1) := dk_9 (dk_at dksX3_value_2 12 rfl rfl)
theorem dX3_value_58 : decode cX3_value 58 = .ok (.lreturn, 1) := dk_173 (dk_at dksX3_value_2 13 rfl rfl)
abbrev cX3_let : ByteArray := prog_34_method_82_code
def yX3_let : MethodName := ⟨RX3, "let", "(II)Z"⟩
def dkwX3_let_2 : List UInt8 := [16, 12, 27, 96, 46, 28, 182, 1, 151, 153, 0, 7, 4, 167, 0, 4, 3, 172]
abbrev dktX3_let_2 : List UInt8 := dkwX3_let_2 ++ []
def dkwX3_let_1 : List UInt8 := [153, 0, 7, 3, 167, 0, 4, 4, 181, 0, 91, 42, 180, 0, 91, 154, 0, 24, 42, 42, 180, 0, 67]
abbrev dktX3_let_1 : List UInt8 := dkwX3_let_1 ++ dktX3_let_2
def dkwX3_let_0 : List UInt8 := [42, 27, 3, 42, 180, 0, 61, 4, 46, 4, 100, 184, 0, 101, 153, 0, 15, 42, 28, 182, 1, 206]
abbrev dktX3_let_0 : List UInt8 := dkwX3_let_0 ++ dktX3_let_1
theorem dksX3_let_0 : cX3_let.data.toList.drop 0 = dktX3_let_0 := by decide +kernel
theorem dksX3_let_1 : cX3_let.data.toList.drop 22 = dktX3_let_1 := dk_seg dksX3_let_0 22 rfl rfl
theorem dksX3_let_2 : cX3_let.data.toList.drop 45 = dktX3_let_2 := dk_seg dksX3_let_1 23 rfl rfl
theorem dX3_let_0 : decode cX3_let 0 = .ok (.aload_n 0, 1) := dk_42 (dk_at dksX3_let_0 0 rfl rfl)
theorem dX3_let_1 : decode cX3_let 1 = .ok (.iload_n 1, 1) := dk_27 (dk_at dksX3_let_0 1 rfl rfl)
theorem dX3_let_2 : decode cX3_let 2 = .ok (.iconst 0, 1) := dk_3 (dk_at dksX3_let_0 2 rfl rfl)
theorem dX3_let_3 : decode cX3_let 3 = .ok (.aload_n 0, 1) := dk_42 (dk_at dksX3_let_0 3 rfl rfl)
theorem dX3_let_4 : decode cX3_let 4 = .ok (.getfield 61, 3) := dk_180 0 61 (dk_at dksX3_let_0 4 rfl rfl)
theorem dX3_let_7 : decode cX3_let 7 = .ok (.iconst 1, 1) := dk_4 (dk_at dksX3_let_0 7 rfl rfl)
theorem dX3_let_8 : decode cX3_let 8 = .ok (.iaload, 1) := dk_46 (dk_at dksX3_let_0 8 rfl rfl)
theorem dX3_let_9 : decode cX3_let 9 = .ok (.iconst 1, 1) := dk_4 (dk_at dksX3_let_0 9 rfl rfl)
theorem dX3_let_10 : decode cX3_let 10 = .ok (.isub, 1) := dk_100 (dk_at dksX3_let_0 10 rfl rfl)
theorem dX3_let_11 : decode cX3_let 11 = .ok (.invokestatic 101, 3) := dk_184 0 101 (dk_at dksX3_let_0 11 rfl rfl)
theorem dX3_let_14 : decode cX3_let 14 = .ok (.ifCond .eq 15, 3) := dk_153 0 15 (dk_at dksX3_let_0 14 rfl rfl)
theorem dX3_let_17 : decode cX3_let 17 = .ok (.aload_n 0, 1) := dk_42 (dk_at dksX3_let_0 17 rfl rfl)
theorem dX3_let_18 : decode cX3_let 18 = .ok (.iload_n 2, 1) := dk_28 (dk_at dksX3_let_0 18 rfl rfl)
theorem dX3_let_19 : decode cX3_let 19 = .ok (.invokevirtual 462, 3) := dk_182 1 206 (dk_at dksX3_let_0 19 rfl rfl)
theorem dX3_let_22 : decode cX3_let 22 = .ok (.ifCond .eq 7, 3) := dk_153 0 7 (dk_at dksX3_let_1 0 rfl rfl)
theorem dX3_let_25 : decode cX3_let 25 = .ok (.iconst 0, 1) := dk_3 (dk_at dksX3_let_1 3 rfl rfl)
theorem dX3_let_26 : decode cX3_let 26 = .ok (.goto 4, 3) := dk_167 0 4 (dk_at dksX3_let_1 4 rfl rfl)
theorem dX3_let_29 : decode cX3_let 29 = .ok (.iconst 1, 1) := dk_4 (dk_at dksX3_let_1 7 rfl rfl)
theorem dX3_let_30 : decode cX3_let 30 = .ok (.putfield 91, 3) := dk_181 0 91 (dk_at dksX3_let_1 8 rfl rfl)
theorem dX3_let_33 : decode cX3_let 33 = .ok (.aload_n 0, 1) := dk_42 (dk_at dksX3_let_1 11 rfl rfl)
theorem dX3_let_34 : decode cX3_let 34 = .ok (.getfield 91, 3) := dk_180 0 91 (dk_at dksX3_let_1 12 rfl rfl)
theorem dX3_let_37 : decode cX3_let 37 = .ok (.ifCond .ne 24, 3) := dk_154 0 24 (dk_at dksX3_let_1 15 rfl rfl)
theorem dX3_let_40 : decode cX3_let 40 = .ok (.aload_n 0, 1) := dk_42 (dk_at dksX3_let_1 18 rfl rfl)
theorem dX3_let_41 : decode cX3_let 41 = .ok (.aload_n 0, 1) := dk_42 (dk_at dksX3_let_1 19 rfl rfl)
theorem dX3_let_42 : decode cX3_let 42 = .ok (.getfield 67, 3) := dk_180 0 67 (dk_at dksX3_let_1 20 rfl rfl)
theorem dX3_let_45 : decode cX3_let 45 = .ok (.bipush 12, 2) := dk_16 12 (dk_at dksX3_let_2 0 rfl rfl)
theorem dX3_let_47 : decode cX3_let 47 = .ok (.iload_n 1, 1) := dk_27 (dk_at dksX3_let_2 2 rfl rfl)
theorem dX3_let_48 : decode cX3_let 48 = .ok (.iadd, 1) := dk_96 (dk_at dksX3_let_2 3 rfl rfl)
theorem dX3_let_49 : decode cX3_let 49 = .ok (.iaload, 1) := dk_46 (dk_at dksX3_let_2 4 rfl rfl)
theorem dX3_let_50 : decode cX3_let 50 = .ok (.iload_n 2, 1) := dk_28 (dk_at dksX3_let_2 5 rfl rfl)
theorem dX3_let_51 : decode cX3_let 51 = .ok (.invokevirtual 407, 3) := dk_182 1 151 (dk_at dksX3_let_2 6 rfl rfl)
theorem dX3_let_54 : decode cX3_let 54 = .ok (.ifCond .eq 7, 3) := dk_153 0 7 (dk_at dksX3_let_2 9 rfl rfl)
theorem dX3_let_57 : decode cX3_let 57 = .ok (.iconst 1, 1) := dk_4 (dk_at dksX3_let_2 12 rfl rfl)
theorem dX3_let_58 : decode cX3_let 58 = .ok (.goto 4, 3) := dk_167 0 4 (dk_at dksX3_let_2 13 rfl rfl)
theorem dX3_let_61 : decode cX3_let 61 = .ok (.iconst 0, 1) := dk_3 (dk_at dksX3_let_2 16 rfl rfl)
theorem dX3_let_62 : decode cX3_let 62 = .ok (.ireturn, 1) := dk_172 (dk_at dksX3_let_2 17 rfl rfl)
abbrev cX3_watch : ByteArray := prog_34_method_84_code
def yX3_watch : MethodName := ⟨RX3, "watch", "(II)Z"⟩
def dkwX3_watch_2 : List UInt8 := [172]
abbrev dktX3_watch_2 : List UInt8 := dkwX3_watch_2 ++ []
def dkwX3_watch_1 : List UInt8 := [181, 0, 91, 42, 180, 0, 91, 154, 0, 16, 42, 27, 28, 182, 1, 190, 153, 0, 7, 4, 167, 0, 4, 3]
abbrev dktX3_watch_1 : List UInt8 := dkwX3_watch_1 ++ dktX3_watch_2
def dkwX3_watch_0 : List UInt8 := [42, 42, 27, 182, 1, 209, 153, 0, 15, 42, 28, 182, 1, 206, 153, 0, 7, 3, 167, 0, 4, 4]
abbrev dktX3_watch_0 : List UInt8 := dkwX3_watch_0 ++ dktX3_watch_1
theorem dksX3_watch_0 : cX3_watch.data.toList.drop 0 = dktX3_watch_0 := by decide +kernel
theorem dksX3_watch_1 : cX3_watch.data.toList.drop 22 = dktX3_watch_1 := dk_seg dksX3_watch_0 22 rfl rfl
theorem dksX3_watch_2 : cX3_watch.data.toList.drop 46 = dktX3_watch_2 := dk_seg dksX3_watch_1 24 rfl rfl
theorem dX3_watch_0 : decode cX3_watch 0 = .ok (.aload_n 0, 1) := dk_42 (dk_at dksX3_watch_0 0 rfl rfl)
theorem dX3_watch_1 : decode cX3_watch 1 = .ok (.aload_n 0, 1) := dk_42 (dk_at dksX3_watch_0 1 rfl rfl)
theorem dX3_watch_2 : decode cX3_watch 2 = .ok (.iload_n 1, 1) := dk_27 (dk_at dksX3_watch_0 2 rfl rfl)
theorem dX3_watch_3 : decode cX3_watch 3 = .ok (.invokevirtual 465, 3) := dk_182 1 209 (dk_at dksX3_watch_0 3 rfl rfl)
theorem dX3_watch_6 : decode cX3_watch 6 = .ok (.ifCond .eq 15, 3) := dk_153 0 15 (dk_at dksX3_watch_0 6 rfl rfl)
theorem dX3_watch_9 : decode cX3_watch 9 = .ok (.aload_n 0, 1) := dk_42 (dk_at dksX3_watch_0 9 rfl rfl)
theorem dX3_watch_10 : decode cX3_watch 10 = .ok (.iload_n 2, 1) := dk_28 (dk_at dksX3_watch_0 10 rfl rfl)
theorem dX3_watch_11 : decode cX3_watch 11 = .ok (.invokevirtual 462, 3) := dk_182 1 206 (dk_at dksX3_watch_0 11 rfl rfl)
theorem dX3_watch_14 : decode cX3_watch 14 = .ok (.ifCond .eq 7, 3) := dk_153 0 7 (dk_at dksX3_watch_0 14 rfl rfl)
theorem dX3_watch_17 : decode cX3_watch 17 = .ok (.iconst 0, 1) := dk_3 (dk_at dksX3_watch_0 17 rfl rfl)
theorem dX3_watch_18 : decode cX3_watch 18 = .ok (.goto 4, 3) := dk_167 0 4 (dk_at dksX3_watch_0 18 rfl rfl)
theorem dX3_watch_21 : decode cX3_watch 21 = .ok (.iconst 1, 1) := dk_4 (dk_at dksX3_watch_0 21 rfl rfl)
theorem dX3_watch_22 : decode cX3_watch 22 = .ok (.putfield 91, 3) := dk_181 0 91 (dk_at dksX3_watch_1 0 rfl rfl)
theorem dX3_watch_25 : decode cX3_watch 25 = .ok (.aload_n 0, 1) := dk_42 (dk_at dksX3_watch_1 3 rfl rfl)
theorem dX3_watch_26 : decode cX3_watch 26 = .ok (.getfield 91, 3) := dk_180 0 91 (dk_at dksX3_watch_1 4 rfl rfl)
theorem dX3_watch_29 : decode cX3_watch 29 = .ok (.ifCond .ne 16, 3) := dk_154 0 16 (dk_at dksX3_watch_1 7 rfl rfl)
theorem dX3_watch_32 : decode cX3_watch 32 = .ok (.aload_n 0, 1) := dk_42 (dk_at dksX3_watch_1 10 rfl rfl)
theorem dX3_watch_33 : decode cX3_watch 33 = .ok (.iload_n 1, 1) := dk_27 (dk_at dksX3_watch_1 11 rfl rfl)
theorem dX3_watch_34 : decode cX3_watch 34 = .ok (.iload_n 2, 1) := dk_28 (dk_at dksX3_watch_1 12 rfl rfl)
theorem dX3_watch_35 : decode cX3_watch 35 = .ok (.invokevirtual 446, 3) := dk_182 1 190 (dk_at dksX3_watch_1 13 rfl rfl)
theorem dX3_watch_38 : decode cX3_watch 38 = .ok (.ifCond .eq 7, 3) := dk_153 0 7 (dk_at dksX3_watch_1 16 rfl rfl)
theorem dX3_watch_41 : decode cX3_watch 41 = .ok (.iconst 1, 1) := dk_4 (dk_at dksX3_watch_1 19 rfl rfl)
theorem dX3_watch_42 : decode cX3_watch 42 = .ok (.goto 4, 3) := dk_167 0 4 (dk_at dksX3_watch_1 20 rfl rfl)
theorem dX3_watch_45 : decode cX3_watch 45 = .ok (.iconst 0, 1) := dk_3 (dk_at dksX3_watch_1 23 rfl rfl)
theorem dX3_watch_46 : decode cX3_watch 46 = .ok (.ireturn, 1) := dk_172 (dk_at dksX3_watch_2 0 rfl rfl)
abbrev cX3_isWatch : ByteArray := prog_34_method_83_code
def yX3_isWatch : MethodName := ⟨RX3, "isWatch", "(I)Z"⟩
def dkwX3_isWatch_0 : List UInt8 := [27, 3, 42, 180, 0, 61, 6, 46, 4, 100, 184, 0, 101, 172]
abbrev dktX3_isWatch_0 : List UInt8 := dkwX3_isWatch_0 ++ []
theorem dksX3_isWatch_0 : cX3_isWatch.data.toList.drop 0 = dktX3_isWatch_0 := by decide +kernel
theorem dX3_isWatch_0 : decode cX3_isWatch 0 = .ok (.iload_n 1, 1) := dk_27 (dk_at dksX3_isWatch_0 0 rfl rfl)
theorem dX3_isWatch_1 : decode cX3_isWatch 1 = .ok (.iconst 0, 1) := dk_3 (dk_at dksX3_isWatch_0 1 rfl rfl)
theorem dX3_isWatch_2 : decode cX3_isWatch 2 = .ok (.aload_n 0, 1) := dk_42 (dk_at dksX3_isWatch_0 2 rfl rfl)
theorem dX3_isWatch_3 : decode cX3_isWatch 3 = .ok (.getfield 61, 3) := dk_180 0 61 (dk_at dksX3_isWatch_0 3 rfl rfl)
theorem dX3_isWatch_6 : decode cX3_isWatch 6 = .ok (.iconst 3, 1) := dk_6 (dk_at dksX3_isWatch_0 6 rfl rfl)
theorem dX3_isWatch_7 : decode cX3_isWatch 7 = .ok (.iaload, 1) := dk_46 (dk_at dksX3_isWatch_0 7 rfl rfl)
theorem dX3_isWatch_8 : decode cX3_isWatch 8 = .ok (.iconst 1, 1) := dk_4 (dk_at dksX3_isWatch_0 8 rfl rfl)
theorem dX3_isWatch_9 : decode cX3_isWatch 9 = .ok (.isub, 1) := dk_100 (dk_at dksX3_isWatch_0 9 rfl rfl)
theorem dX3_isWatch_10 : decode cX3_isWatch 10 = .ok (.invokestatic 101, 3) := dk_184 0 101 (dk_at dksX3_isWatch_0 10 rfl rfl)
theorem dX3_isWatch_13 : decode cX3_isWatch 13 = .ok (.ireturn, 1) := dk_172 (dk_at dksX3_isWatch_0 13 rfl rfl)
abbrev cX3_told : ByteArray := prog_34_method_86_code
def yX3_told : MethodName := ⟨RX3, "told", "(II)I"⟩
def dkwX3_told_1 : List UInt8 := [28, 182, 1, 212, 167, 0, 8, 42, 4, 182, 0, 97, 172]
abbrev dktX3_told_1 : List UInt8 := dkwX3_told_1 ++ []
def dkwX3_told_0 : List UInt8 := [42, 3, 181, 0, 91, 42, 27, 182, 1, 209, 153, 0, 21, 28, 3, 7, 184, 0, 101, 153, 0, 12, 42, 27]
abbrev dktX3_told_0 : List UInt8 := dkwX3_told_0 ++ dktX3_told_1
theorem dksX3_told_0 : cX3_told.data.toList.drop 0 = dktX3_told_0 := by decide +kernel
theorem dksX3_told_1 : cX3_told.data.toList.drop 24 = dktX3_told_1 := dk_seg dksX3_told_0 24 rfl rfl
theorem dX3_told_0 : decode cX3_told 0 = .ok (.aload_n 0, 1) := dk_42 (dk_at dksX3_told_0 0 rfl rfl)
theorem dX3_told_1 : decode cX3_told 1 = .ok (.iconst 0, 1) := dk_3 (dk_at dksX3_told_0 1 rfl rfl)
theorem dX3_told_2 : decode cX3_told 2 = .ok (.putfield 91, 3) := dk_181 0 91 (dk_at dksX3_told_0 2 rfl rfl)
theorem dX3_told_5 : decode cX3_told 5 = .ok (.aload_n 0, 1) := dk_42 (dk_at dksX3_told_0 5 rfl rfl)
theorem dX3_told_6 : decode cX3_told 6 = .ok (.iload_n 1, 1) := dk_27 (dk_at dksX3_told_0 6 rfl rfl)
theorem dX3_told_7 : decode cX3_told 7 = .ok (.invokevirtual 465, 3) := dk_182 1 209 (dk_at dksX3_told_0 7 rfl rfl)
theorem dX3_told_10 : decode cX3_told 10 = .ok (.ifCond .eq 21, 3) := dk_153 0 21 (dk_at dksX3_told_0 10 rfl rfl)
theorem dX3_told_13 : decode cX3_told 13 = .ok (.iload_n 2, 1) := dk_28 (dk_at dksX3_told_0 13 rfl rfl)
theorem dX3_told_14 : decode cX3_told 14 = .ok (.iconst 0, 1) := dk_3 (dk_at dksX3_told_0 14 rfl rfl)
theorem dX3_told_15 : decode cX3_told 15 = .ok (.iconst 4, 1) := dk_7 (dk_at dksX3_told_0 15 rfl rfl)
theorem dX3_told_16 : decode cX3_told 16 = .ok (.invokestatic 101, 3) := dk_184 0 101 (dk_at dksX3_told_0 16 rfl rfl)
theorem dX3_told_19 : decode cX3_told 19 = .ok (.ifCond .eq 12, 3) := dk_153 0 12 (dk_at dksX3_told_0 19 rfl rfl)
theorem dX3_told_22 : decode cX3_told 22 = .ok (.aload_n 0, 1) := dk_42 (dk_at dksX3_told_0 22 rfl rfl)
theorem dX3_told_23 : decode cX3_told 23 = .ok (.iload_n 1, 1) := dk_27 (dk_at dksX3_told_0 23 rfl rfl)
theorem dX3_told_24 : decode cX3_told 24 = .ok (.iload_n 2, 1) := dk_28 (dk_at dksX3_told_1 0 rfl rfl)
theorem dX3_told_25 : decode cX3_told 25 = .ok (.invokevirtual 468, 3) := dk_182 1 212 (dk_at dksX3_told_1 1 rfl rfl)
theorem dX3_told_28 : decode cX3_told 28 = .ok (.goto 8, 3) := dk_167 0 8 (dk_at dksX3_told_1 4 rfl rfl)
theorem dX3_told_31 : decode cX3_told 31 = .ok (.aload_n 0, 1) := dk_42 (dk_at dksX3_told_1 7 rfl rfl)
theorem dX3_told_32 : decode cX3_told 32 = .ok (.iconst 1, 1) := dk_4 (dk_at dksX3_told_1 8 rfl rfl)
theorem dX3_told_33 : decode cX3_told 33 = .ok (.invokevirtual 97, 3) := dk_182 0 97 (dk_at dksX3_told_1 9 rfl rfl)
theorem dX3_told_36 : decode cX3_told 36 = .ok (.ireturn, 1) := dk_172 (dk_at dksX3_told_1 12 rfl rfl)
abbrev cX3_toldOf : ByteArray := prog_34_method_85_code
def yX3_toldOf : MethodName := ⟨RX3, "toldOf", "(II)I"⟩
def dkwX3_toldOf_5 : List UInt8 := [167, 0, 15, 28, 6, 160, 0, 8, 21, 6, 167, 0, 5, 21, 5, 172]
abbrev dktX3_toldOf_5 : List UInt8 := dkwX3_toldOf_5 ++ []
def dkwX3_toldOf_4 : List UInt8 := [180, 0, 70, 27, 46, 167, 0, 34, 28, 4, 160, 0, 7, 29, 167, 0, 25, 28, 5, 160, 0, 8, 21, 4]
abbrev dktX3_toldOf_4 : List UInt8 := dkwX3_toldOf_4 ++ dktX3_toldOf_5
def dkwX3_toldOf_3 : List UInt8 := [154, 0, 13, 21, 4, 2, 160, 0, 7, 21, 7, 54, 4, 132, 7, 1, 167, 255, 183, 28, 154, 0, 12, 42]
abbrev dktX3_toldOf_3 : List UInt8 := dkwX3_toldOf_3 ++ dktX3_toldOf_4
def dkwX3_toldOf_2 : List UInt8 := [21, 6, 21, 5, 184, 0, 125, 54, 6, 29, 21, 8, 153, 0, 7, 3, 167, 0, 4, 4, 96, 62, 21, 8]
abbrev dktX3_toldOf_2 : List UInt8 := dkwX3_toldOf_2 ++ dktX3_toldOf_3
def dkwX3_toldOf_1 : List UInt8 := [27, 21, 7, 182, 1, 190, 54, 8, 21, 8, 153, 0, 7, 3, 167, 0, 7, 21, 5, 4, 96, 54, 5]
abbrev dktX3_toldOf_1 : List UInt8 := dkwX3_toldOf_1 ++ dktX3_toldOf_2
def dkwX3_toldOf_0 : List UInt8 := [3, 62, 2, 54, 4, 3, 54, 5, 3, 54, 6, 3, 54, 7, 21, 7, 42, 180, 1, 113, 162, 0, 70, 42]
abbrev dktX3_toldOf_0 : List UInt8 := dkwX3_toldOf_0 ++ dktX3_toldOf_1
theorem dksX3_toldOf_0 : cX3_toldOf.data.toList.drop 0 = dktX3_toldOf_0 := by decide +kernel
theorem dksX3_toldOf_1 : cX3_toldOf.data.toList.drop 24 = dktX3_toldOf_1 := dk_seg dksX3_toldOf_0 24 rfl rfl
theorem dksX3_toldOf_2 : cX3_toldOf.data.toList.drop 47 = dktX3_toldOf_2 := dk_seg dksX3_toldOf_1 23 rfl rfl
theorem dksX3_toldOf_3 : cX3_toldOf.data.toList.drop 71 = dktX3_toldOf_3 := dk_seg dksX3_toldOf_2 24 rfl rfl
theorem dksX3_toldOf_4 : cX3_toldOf.data.toList.drop 95 = dktX3_toldOf_4 := dk_seg dksX3_toldOf_3 24 rfl rfl
theorem dksX3_toldOf_5 : cX3_toldOf.data.toList.drop 119 = dktX3_toldOf_5 := dk_seg dksX3_toldOf_4 24 rfl rfl
theorem dX3_toldOf_0 : decode cX3_toldOf 0 = .ok (.iconst 0, 1) := dk_3 (dk_at dksX3_toldOf_0 0 rfl rfl)
theorem dX3_toldOf_1 : decode cX3_toldOf 1 = .ok (.istore_n 3, 1) := dk_62 (dk_at dksX3_toldOf_0 1 rfl rfl)
theorem dX3_toldOf_2 : decode cX3_toldOf 2 = .ok (.iconst (-1), 1) := dk_2 (dk_at dksX3_toldOf_0 2 rfl rfl)
theorem dX3_toldOf_3 : decode cX3_toldOf 3 = .ok (.istore 4, 2) := dk_54 4 (dk_at dksX3_toldOf_0 3 rfl rfl)
theorem dX3_toldOf_5 : decode cX3_toldOf 5 = .ok (.iconst 0, 1) := dk_3 (dk_at dksX3_toldOf_0 5 rfl rfl)
theorem dX3_toldOf_6 : decode cX3_toldOf 6 = .ok (.istore 5, 2) := dk_54 5 (dk_at dksX3_toldOf_0 6 rfl rfl)
theorem dX3_toldOf_8 : decode cX3_toldOf 8 = .ok (.iconst 0, 1) := dk_3 (dk_at dksX3_toldOf_0 8 rfl rfl)
theorem dX3_toldOf_9 : decode cX3_toldOf 9 = .ok (.istore 6, 2) := dk_54 6 (dk_at dksX3_toldOf_0 9 rfl rfl)
theorem dX3_toldOf_11 : decode cX3_toldOf 11 = .ok (.iconst 0, 1) := dk_3 (dk_at dksX3_toldOf_0 11 rfl rfl)
theorem dX3_toldOf_12 : decode cX3_toldOf 12 = .ok (.istore 7, 2) := dk_54 7 (dk_at dksX3_toldOf_0 12 rfl rfl)
theorem dX3_toldOf_14 : decode cX3_toldOf 14 = .ok (.iload 7, 2) := dk_21 7 (dk_at dksX3_toldOf_0 14 rfl rfl)
theorem dX3_toldOf_16 : decode cX3_toldOf 16 = .ok (.aload_n 0, 1) := dk_42 (dk_at dksX3_toldOf_0 16 rfl rfl)
theorem dX3_toldOf_17 : decode cX3_toldOf 17 = .ok (.getfield 369, 3) := dk_180 1 113 (dk_at dksX3_toldOf_0 17 rfl rfl)
theorem dX3_toldOf_20 : decode cX3_toldOf 20 = .ok (.if_icmp .ge 70, 3) := dk_162 0 70 (dk_at dksX3_toldOf_0 20 rfl rfl)
theorem dX3_toldOf_23 : decode cX3_toldOf 23 = .ok (.aload_n 0, 1) := dk_42 (dk_at dksX3_toldOf_0 23 rfl rfl)
theorem dX3_toldOf_24 : decode cX3_toldOf 24 = .ok (.iload_n 1, 1) := dk_27 (dk_at dksX3_toldOf_1 0 rfl rfl)
theorem dX3_toldOf_25 : decode cX3_toldOf 25 = .ok (.iload 7, 2) := dk_21 7 (dk_at dksX3_toldOf_1 1 rfl rfl)
theorem dX3_toldOf_27 : decode cX3_toldOf 27 = .ok (.invokevirtual 446, 3) := dk_182 1 190 (dk_at dksX3_toldOf_1 3 rfl rfl)
theorem dX3_toldOf_30 : decode cX3_toldOf 30 = .ok (.istore 8, 2) := dk_54 8 (dk_at dksX3_toldOf_1 6 rfl rfl)
theorem dX3_toldOf_32 : decode cX3_toldOf 32 = .ok (.iload 8, 2) := dk_21 8 (dk_at dksX3_toldOf_1 8 rfl rfl)
theorem dX3_toldOf_34 : decode cX3_toldOf 34 = .ok (.ifCond .eq 7, 3) := dk_153 0 7 (dk_at dksX3_toldOf_1 10 rfl rfl)
theorem dX3_toldOf_37 : decode cX3_toldOf 37 = .ok (.iconst 0, 1) := dk_3 (dk_at dksX3_toldOf_1 13 rfl rfl)
theorem dX3_toldOf_38 : decode cX3_toldOf 38 = .ok (.goto 7, 3) := dk_167 0 7 (dk_at dksX3_toldOf_1 14 rfl rfl)
theorem dX3_toldOf_41 : decode cX3_toldOf 41 = .ok (.iload 5, 2) := dk_21 5 (dk_at dksX3_toldOf_1 17 rfl rfl)
theorem dX3_toldOf_43 : decode cX3_toldOf 43 = .ok (.iconst 1, 1) := dk_4 (dk_at dksX3_toldOf_1 19 rfl rfl)
theorem dX3_toldOf_44 : decode cX3_toldOf 44 = .ok (.iadd, 1) := dk_96 (dk_at dksX3_toldOf_1 20 rfl rfl)
theorem dX3_toldOf_45 : decode cX3_toldOf 45 = .ok (.istore 5, 2) := dk_54 5 (dk_at dksX3_toldOf_1 21 rfl rfl)
theorem dX3_toldOf_47 : decode cX3_toldOf 47 = .ok (.iload 6, 2) := dk_21 6 (dk_at dksX3_toldOf_2 0 rfl rfl)
theorem dX3_toldOf_49 : decode cX3_toldOf 49 = .ok (.iload 5, 2) := dk_21 5 (dk_at dksX3_toldOf_2 2 rfl rfl)
theorem dX3_toldOf_51 : decode cX3_toldOf 51 = .ok (.invokestatic 125, 3) := dk_184 0 125 (dk_at dksX3_toldOf_2 4 rfl rfl)
theorem dX3_toldOf_54 : decode cX3_toldOf 54 = .ok (.istore 6, 2) := dk_54 6 (dk_at dksX3_toldOf_2 7 rfl rfl)
theorem dX3_toldOf_56 : decode cX3_toldOf 56 = .ok (.iload_n 3, 1) := dk_29 (dk_at dksX3_toldOf_2 9 rfl rfl)
theorem dX3_toldOf_57 : decode cX3_toldOf 57 = .ok (.iload 8, 2) := dk_21 8 (dk_at dksX3_toldOf_2 10 rfl rfl)
theorem dX3_toldOf_59 : decode cX3_toldOf 59 = .ok (.ifCond .eq 7, 3) := dk_153 0 7 (dk_at dksX3_toldOf_2 12 rfl rfl)
theorem dX3_toldOf_62 : decode cX3_toldOf 62 = .ok (.iconst 0, 1) := dk_3 (dk_at dksX3_toldOf_2 15 rfl rfl)
theorem dX3_toldOf_63 : decode cX3_toldOf 63 = .ok (.goto 4, 3) := dk_167 0 4 (dk_at dksX3_toldOf_2 16 rfl rfl)
theorem dX3_toldOf_66 : decode cX3_toldOf 66 = .ok (.iconst 1, 1) := dk_4 (dk_at dksX3_toldOf_2 19 rfl rfl)
theorem dX3_toldOf_67 : decode cX3_toldOf 67 = .ok (.iadd, 1) := dk_96 (dk_at dksX3_toldOf_2 20 rfl rfl)
theorem dX3_toldOf_68 : decode cX3_toldOf 68 = .ok (.istore_n 3, 1) := dk_62 (dk_at dksX3_toldOf_2 21 rfl rfl)
theorem dX3_toldOf_69 : decode cX3_toldOf 69 = .ok (.iload 8, 2) := dk_21 8 (dk_at dksX3_toldOf_2 22 rfl rfl)
theorem dX3_toldOf_71 : decode cX3_toldOf 71 = .ok (.ifCond .ne 13, 3) := dk_154 0 13 (dk_at dksX3_toldOf_3 0 rfl rfl)
theorem dX3_toldOf_74 : decode cX3_toldOf 74 = .ok (.iload 4, 2) := dk_21 4 (dk_at dksX3_toldOf_3 3 rfl rfl)
theorem dX3_toldOf_76 : decode cX3_toldOf 76 = .ok (.iconst (-1), 1) := dk_2 (dk_at dksX3_toldOf_3 5 rfl rfl)
theorem dX3_toldOf_77 : decode cX3_toldOf 77 = .ok (.if_icmp .ne 7, 3) := dk_160 0 7 (dk_at dksX3_toldOf_3 6 rfl rfl)
theorem dX3_toldOf_80 : decode cX3_toldOf 80 = .ok (.iload 7, 2) := dk_21 7 (dk_at dksX3_toldOf_3 9 rfl rfl)
theorem dX3_toldOf_82 : decode cX3_toldOf 82 = .ok (.istore 4, 2) := dk_54 4 (dk_at dksX3_toldOf_3 11 rfl rfl)
theorem dX3_toldOf_84 : decode cX3_toldOf 84 = .ok (.iinc 7 1, 3) := dk_132 7 1 (dk_at dksX3_toldOf_3 13 rfl rfl)
theorem dX3_toldOf_87 : decode cX3_toldOf 87 = .ok (.goto (-73), 3) := dk_167 255 183 (dk_at dksX3_toldOf_3 16 rfl rfl)
theorem dX3_toldOf_90 : decode cX3_toldOf 90 = .ok (.iload_n 2, 1) := dk_28 (dk_at dksX3_toldOf_3 19 rfl rfl)
theorem dX3_toldOf_91 : decode cX3_toldOf 91 = .ok (.ifCond .ne 12, 3) := dk_154 0 12 (dk_at dksX3_toldOf_3 20 rfl rfl)
theorem dX3_toldOf_94 : decode cX3_toldOf 94 = .ok (.aload_n 0, 1) := dk_42 (dk_at dksX3_toldOf_3 23 rfl rfl)
theorem dX3_toldOf_95 : decode cX3_toldOf 95 = .ok (.getfield 70, 3) := dk_180 0 70 (dk_at dksX3_toldOf_4 0 rfl rfl)
theorem dX3_toldOf_98 : decode cX3_toldOf 98 = .ok (.iload_n 1, 1) := dk_27 (dk_at dksX3_toldOf_4 3 rfl rfl)
theorem dX3_toldOf_99 : decode cX3_toldOf 99 = .ok (.iaload, 1) := dk_46 (dk_at dksX3_toldOf_4 4 rfl rfl)
theorem dX3_toldOf_100 : decode cX3_toldOf 100 = .ok (.goto 34, 3) := dk_167 0 34 (dk_at dksX3_toldOf_4 5 rfl rfl)
theorem dX3_toldOf_103 : decode cX3_toldOf 103 = .ok (.iload_n 2, 1) := dk_28 (dk_at dksX3_toldOf_4 8 rfl rfl)
theorem dX3_toldOf_104 : decode cX3_toldOf 104 = .ok (.iconst 1, 1) := dk_4 (dk_at dksX3_toldOf_4 9 rfl rfl)
theorem dX3_toldOf_105 : decode cX3_toldOf 105 = .ok (.if_icmp .ne 7, 3) := dk_160 0 7 (dk_at dksX3_toldOf_4 10 rfl rfl)
theorem dX3_toldOf_108 : decode cX3_toldOf 108 = .ok (.iload_n 3, 1) := dk_29 (dk_at dksX3_toldOf_4 13 rfl rfl)
theorem dX3_toldOf_109 : decode cX3_toldOf 109 = .ok (.goto 25, 3) := dk_167 0 25 (dk_at dksX3_toldOf_4 14 rfl rfl)
theorem dX3_toldOf_112 : decode cX3_toldOf 112 = .ok (.iload_n 2, 1) := dk_28 (dk_at dksX3_toldOf_4 17 rfl rfl)
theorem dX3_toldOf_113 : decode cX3_toldOf 113 = .ok (.iconst 2, 1) := dk_5 (dk_at dksX3_toldOf_4 18 rfl rfl)
theorem dX3_toldOf_114 : decode cX3_toldOf 114 = .ok (.if_icmp .ne 8, 3) := dk_160 0 8 (dk_at dksX3_toldOf_4 19 rfl rfl)
theorem dX3_toldOf_117 : decode cX3_toldOf 117 = .ok (.iload 4, 2) := dk_21 4 (dk_at dksX3_toldOf_4 22 rfl rfl)
theorem dX3_toldOf_119 : decode cX3_toldOf 119 = .ok (.goto 15, 3) := dk_167 0 15 (dk_at dksX3_toldOf_5 0 rfl rfl)
theorem dX3_toldOf_122 : decode cX3_toldOf 122 = .ok (.iload_n 2, 1) := dk_28 (dk_at dksX3_toldOf_5 3 rfl rfl)
theorem dX3_toldOf_123 : decode cX3_toldOf 123 = .ok (.iconst 3, 1) := dk_6 (dk_at dksX3_toldOf_5 4 rfl rfl)
theorem dX3_toldOf_124 : decode cX3_toldOf 124 = .ok (.if_icmp .ne 8, 3) := dk_160 0 8 (dk_at dksX3_toldOf_5 5 rfl rfl)
theorem dX3_toldOf_127 : decode cX3_toldOf 127 = .ok (.iload 6, 2) := dk_21 6 (dk_at dksX3_toldOf_5 8 rfl rfl)
theorem dX3_toldOf_129 : decode cX3_toldOf 129 = .ok (.goto 5, 3) := dk_167 0 5 (dk_at dksX3_toldOf_5 10 rfl rfl)
theorem dX3_toldOf_132 : decode cX3_toldOf 132 = .ok (.iload 5, 2) := dk_21 5 (dk_at dksX3_toldOf_5 13 rfl rfl)
theorem dX3_toldOf_134 : decode cX3_toldOf 134 = .ok (.ireturn, 1) := dk_172 (dk_at dksX3_toldOf_5 15 rfl rfl)
abbrev cX3_alarms : ByteArray := prog_34_method_87_code
def yX3_alarms : MethodName := ⟨RX3, "alarms", "(I)I"⟩
def dkwX3_alarms_3 : List UInt8 := [96, 61, 132, 3, 1, 167, 255, 204, 28, 172]
abbrev dktX3_alarms_3 : List UInt8 := dkwX3_alarms_3 ++ []
def dkwX3_alarms_2 : List UInt8 := [46, 27, 161, 0, 21, 42, 29, 42, 180, 1, 113, 4, 100, 182, 1, 190, 154, 0, 7, 4, 167, 0, 4, 3]
abbrev dktX3_alarms_2 : List UInt8 := dkwX3_alarms_2 ++ dktX3_alarms_3
def dkwX3_alarms_1 : List UInt8 := [62, 29, 42, 180, 0, 61, 6, 46, 162, 0, 48, 28, 42, 180, 1, 113, 158, 0, 31, 42, 180, 0, 70, 29]
abbrev dktX3_alarms_1 : List UInt8 := dkwX3_alarms_1 ++ dktX3_alarms_2
def dkwX3_alarms_0 : List UInt8 := [42, 3, 181, 0, 91, 27, 3, 16, 9, 184, 0, 101, 154, 0, 9, 42, 4, 182, 0, 97, 172, 3, 61, 3]
abbrev dktX3_alarms_0 : List UInt8 := dkwX3_alarms_0 ++ dktX3_alarms_1
theorem dksX3_alarms_0 : cX3_alarms.data.toList.drop 0 = dktX3_alarms_0 := by decide +kernel
theorem dksX3_alarms_1 : cX3_alarms.data.toList.drop 24 = dktX3_alarms_1 := dk_seg dksX3_alarms_0 24 rfl rfl
theorem dksX3_alarms_2 : cX3_alarms.data.toList.drop 48 = dktX3_alarms_2 := dk_seg dksX3_alarms_1 24 rfl rfl
theorem dksX3_alarms_3 : cX3_alarms.data.toList.drop 72 = dktX3_alarms_3 := dk_seg dksX3_alarms_2 24 rfl rfl
theorem dX3_alarms_0 : decode cX3_alarms 0 = .ok (.aload_n 0, 1) := dk_42 (dk_at dksX3_alarms_0 0 rfl rfl)
theorem dX3_alarms_1 : decode cX3_alarms 1 = .ok (.iconst 0, 1) := dk_3 (dk_at dksX3_alarms_0 1 rfl rfl)
theorem dX3_alarms_2 : decode cX3_alarms 2 = .ok (.putfield 91, 3) := dk_181 0 91 (dk_at dksX3_alarms_0 2 rfl rfl)
theorem dX3_alarms_5 : decode cX3_alarms 5 = .ok (.iload_n 1, 1) := dk_27 (dk_at dksX3_alarms_0 5 rfl rfl)
theorem dX3_alarms_6 : decode cX3_alarms 6 = .ok (.iconst 0, 1) := dk_3 (dk_at dksX3_alarms_0 6 rfl rfl)
theorem dX3_alarms_7 : decode cX3_alarms 7 = .ok (.bipush 9, 2) := dk_16 9 (dk_at dksX3_alarms_0 7 rfl rfl)
theorem dX3_alarms_9 : decode cX3_alarms 9 = .ok (.invokestatic 101, 3) := dk_184 0 101 (dk_at dksX3_alarms_0 9 rfl rfl)
theorem dX3_alarms_12 : decode cX3_alarms 12 = .ok (.ifCond .ne 9, 3) := dk_154 0 9 (dk_at dksX3_alarms_0 12 rfl rfl)
theorem dX3_alarms_15 : decode cX3_alarms 15 = .ok (.aload_n 0, 1) := dk_42 (dk_at dksX3_alarms_0 15 rfl rfl)
theorem dX3_alarms_16 : decode cX3_alarms 16 = .ok (.iconst 1, 1) := dk_4 (dk_at dksX3_alarms_0 16 rfl rfl)
theorem dX3_alarms_17 : decode cX3_alarms 17 = .ok (.invokevirtual 97, 3) := dk_182 0 97 (dk_at dksX3_alarms_0 17 rfl rfl)
theorem dX3_alarms_20 : decode cX3_alarms 20 = .ok (.ireturn, 1) := dk_172 (dk_at dksX3_alarms_0 20 rfl rfl)
theorem dX3_alarms_21 : decode cX3_alarms 21 = .ok (.iconst 0, 1) := dk_3 (dk_at dksX3_alarms_0 21 rfl rfl)
theorem dX3_alarms_22 : decode cX3_alarms 22 = .ok (.istore_n 2, 1) := dk_61 (dk_at dksX3_alarms_0 22 rfl rfl)
theorem dX3_alarms_23 : decode cX3_alarms 23 = .ok (.iconst 0, 1) := dk_3 (dk_at dksX3_alarms_0 23 rfl rfl)
theorem dX3_alarms_24 : decode cX3_alarms 24 = .ok (.istore_n 3, 1) := dk_62 (dk_at dksX3_alarms_1 0 rfl rfl)
theorem dX3_alarms_25 : decode cX3_alarms 25 = .ok (.iload_n 3, 1) := dk_29 (dk_at dksX3_alarms_1 1 rfl rfl)
theorem dX3_alarms_26 : decode cX3_alarms 26 = .ok (.aload_n 0, 1) := dk_42 (dk_at dksX3_alarms_1 2 rfl rfl)
theorem dX3_alarms_27 : decode cX3_alarms 27 = .ok (.getfield 61, 3) := dk_180 0 61 (dk_at dksX3_alarms_1 3 rfl rfl)
theorem dX3_alarms_30 : decode cX3_alarms 30 = .ok (.iconst 3, 1) := dk_6 (dk_at dksX3_alarms_1 6 rfl rfl)
theorem dX3_alarms_31 : decode cX3_alarms 31 = .ok (.iaload, 1) := dk_46 (dk_at dksX3_alarms_1 7 rfl rfl)
theorem dX3_alarms_32 : decode cX3_alarms 32 = .ok (.if_icmp .ge 48, 3) := dk_162 0 48 (dk_at dksX3_alarms_1 8 rfl rfl)
theorem dX3_alarms_35 : decode cX3_alarms 35 = .ok (.iload_n 2, 1) := dk_28 (dk_at dksX3_alarms_1 11 rfl rfl)
theorem dX3_alarms_36 : decode cX3_alarms 36 = .ok (.aload_n 0, 1) := dk_42 (dk_at dksX3_alarms_1 12 rfl rfl)
theorem dX3_alarms_37 : decode cX3_alarms 37 = .ok (.getfield 369, 3) := dk_180 1 113 (dk_at dksX3_alarms_1 13 rfl rfl)
theorem dX3_alarms_40 : decode cX3_alarms 40 = .ok (.ifCond .le 31, 3) := dk_158 0 31 (dk_at dksX3_alarms_1 16 rfl rfl)
theorem dX3_alarms_43 : decode cX3_alarms 43 = .ok (.aload_n 0, 1) := dk_42 (dk_at dksX3_alarms_1 19 rfl rfl)
theorem dX3_alarms_44 : decode cX3_alarms 44 = .ok (.getfield 70, 3) := dk_180 0 70 (dk_at dksX3_alarms_1 20 rfl rfl)
theorem dX3_alarms_47 : decode cX3_alarms 47 = .ok (.iload_n 3, 1) := dk_29 (dk_at dksX3_alarms_1 23 rfl rfl)
theorem dX3_alarms_48 : decode cX3_alarms 48 = .ok (.iaload, 1) := dk_46 (dk_at dksX3_alarms_2 0 rfl rfl)
theorem dX3_alarms_49 : decode cX3_alarms 49 = .ok (.iload_n 1, 1) := dk_27 (dk_at dksX3_alarms_2 1 rfl rfl)
theorem dX3_alarms_50 : decode cX3_alarms 50 = .ok (.if_icmp .lt 21, 3) := dk_161 0 21 (dk_at dksX3_alarms_2 2 rfl rfl)
theorem dX3_alarms_53 : decode cX3_alarms 53 = .ok (.aload_n 0, 1) := dk_42 (dk_at dksX3_alarms_2 5 rfl rfl)
theorem dX3_alarms_54 : decode cX3_alarms 54 = .ok (.iload_n 3, 1) := dk_29 (dk_at dksX3_alarms_2 6 rfl rfl)
theorem dX3_alarms_55 : decode cX3_alarms 55 = .ok (.aload_n 0, 1) := dk_42 (dk_at dksX3_alarms_2 7 rfl rfl)
theorem dX3_alarms_56 : decode cX3_alarms 56 = .ok (.getfield 369, 3) := dk_180 1 113 (dk_at dksX3_alarms_2 8 rfl rfl)
theorem dX3_alarms_59 : decode cX3_alarms 59 = .ok (.iconst 1, 1) := dk_4 (dk_at dksX3_alarms_2 11 rfl rfl)
theorem dX3_alarms_60 : decode cX3_alarms 60 = .ok (.isub, 1) := dk_100 (dk_at dksX3_alarms_2 12 rfl rfl)
theorem dX3_alarms_61 : decode cX3_alarms 61 = .ok (.invokevirtual 446, 3) := dk_182 1 190 (dk_at dksX3_alarms_2 13 rfl rfl)
theorem dX3_alarms_64 : decode cX3_alarms 64 = .ok (.ifCond .ne 7, 3) := dk_154 0 7 (dk_at dksX3_alarms_2 16 rfl rfl)
theorem dX3_alarms_67 : decode cX3_alarms 67 = .ok (.iconst 1, 1) := dk_4 (dk_at dksX3_alarms_2 19 rfl rfl)
theorem dX3_alarms_68 : decode cX3_alarms 68 = .ok (.goto 4, 3) := dk_167 0 4 (dk_at dksX3_alarms_2 20 rfl rfl)
theorem dX3_alarms_71 : decode cX3_alarms 71 = .ok (.iconst 0, 1) := dk_3 (dk_at dksX3_alarms_2 23 rfl rfl)
theorem dX3_alarms_72 : decode cX3_alarms 72 = .ok (.iadd, 1) := dk_96 (dk_at dksX3_alarms_3 0 rfl rfl)
theorem dX3_alarms_73 : decode cX3_alarms 73 = .ok (.istore_n 2, 1) := dk_61 (dk_at dksX3_alarms_3 1 rfl rfl)
theorem dX3_alarms_74 : decode cX3_alarms 74 = .ok (.iinc 3 1, 3) := dk_132 3 1 (dk_at dksX3_alarms_3 2 rfl rfl)
theorem dX3_alarms_77 : decode cX3_alarms 77 = .ok (.goto (-52), 3) := dk_167 255 204 (dk_at dksX3_alarms_3 5 rfl rfl)
theorem dX3_alarms_80 : decode cX3_alarms 80 = .ok (.iload_n 2, 1) := dk_28 (dk_at dksX3_alarms_3 8 rfl rfl)
theorem dX3_alarms_81 : decode cX3_alarms 81 = .ok (.ireturn, 1) := dk_172 (dk_at dksX3_alarms_3 9 rfl rfl)
abbrev cX3_why : ByteArray := prog_34_method_89_code
def yX3_why : MethodName := ⟨RX3, "why", "(IIZ)I"⟩
def dkwX3_why_3 : List UInt8 := [172]
abbrev dktX3_why_3 : List UInt8 := dkwX3_why_3 ++ []
def dkwX3_why_2 : List UInt8 := [16, 36, 27, 96, 46, 28, 182, 1, 215, 54, 4, 29, 153, 0, 10, 42, 180, 1, 218, 167, 0, 5, 21, 4]
abbrev dktX3_why_2 : List UInt8 := dkwX3_why_2 ++ dktX3_why_3
def dkwX3_why_1 : List UInt8 := [182, 0, 97, 172, 42, 27, 28, 182, 1, 190, 153, 0, 9, 42, 5, 182, 0, 97, 172, 42, 42, 180, 0, 67]
abbrev dktX3_why_1 : List UInt8 := dkwX3_why_1 ++ dktX3_why_2
def dkwX3_why_0 : List UInt8 := [42, 3, 181, 0, 91, 42, 27, 182, 1, 209, 153, 0, 11, 42, 28, 182, 1, 206, 154, 0, 9, 42, 4]
abbrev dktX3_why_0 : List UInt8 := dkwX3_why_0 ++ dktX3_why_1
theorem dksX3_why_0 : cX3_why.data.toList.drop 0 = dktX3_why_0 := by decide +kernel
theorem dksX3_why_1 : cX3_why.data.toList.drop 23 = dktX3_why_1 := dk_seg dksX3_why_0 23 rfl rfl
theorem dksX3_why_2 : cX3_why.data.toList.drop 47 = dktX3_why_2 := dk_seg dksX3_why_1 24 rfl rfl
theorem dksX3_why_3 : cX3_why.data.toList.drop 71 = dktX3_why_3 := dk_seg dksX3_why_2 24 rfl rfl
theorem dX3_why_0 : decode cX3_why 0 = .ok (.aload_n 0, 1) := dk_42 (dk_at dksX3_why_0 0 rfl rfl)
theorem dX3_why_1 : decode cX3_why 1 = .ok (.iconst 0, 1) := dk_3 (dk_at dksX3_why_0 1 rfl rfl)
theorem dX3_why_2 : decode cX3_why 2 = .ok (.putfield 91, 3) := dk_181 0 91 (dk_at dksX3_why_0 2 rfl rfl)
theorem dX3_why_5 : decode cX3_why 5 = .ok (.aload_n 0, 1) := dk_42 (dk_at dksX3_why_0 5 rfl rfl)
theorem dX3_why_6 : decode cX3_why 6 = .ok (.iload_n 1, 1) := dk_27 (dk_at dksX3_why_0 6 rfl rfl)
theorem dX3_why_7 : decode cX3_why 7 = .ok (.invokevirtual 465, 3) := dk_182 1 209 (dk_at dksX3_why_0 7 rfl rfl)
theorem dX3_why_10 : decode cX3_why 10 = .ok (.ifCond .eq 11, 3) := dk_153 0 11 (dk_at dksX3_why_0 10 rfl rfl)
theorem dX3_why_13 : decode cX3_why 13 = .ok (.aload_n 0, 1) := dk_42 (dk_at dksX3_why_0 13 rfl rfl)
theorem dX3_why_14 : decode cX3_why 14 = .ok (.iload_n 2, 1) := dk_28 (dk_at dksX3_why_0 14 rfl rfl)
theorem dX3_why_15 : decode cX3_why 15 = .ok (.invokevirtual 462, 3) := dk_182 1 206 (dk_at dksX3_why_0 15 rfl rfl)
theorem dX3_why_18 : decode cX3_why 18 = .ok (.ifCond .ne 9, 3) := dk_154 0 9 (dk_at dksX3_why_0 18 rfl rfl)
theorem dX3_why_21 : decode cX3_why 21 = .ok (.aload_n 0, 1) := dk_42 (dk_at dksX3_why_0 21 rfl rfl)
theorem dX3_why_22 : decode cX3_why 22 = .ok (.iconst 1, 1) := dk_4 (dk_at dksX3_why_0 22 rfl rfl)
theorem dX3_why_23 : decode cX3_why 23 = .ok (.invokevirtual 97, 3) := dk_182 0 97 (dk_at dksX3_why_1 0 rfl rfl)
theorem dX3_why_26 : decode cX3_why 26 = .ok (.ireturn, 1) := dk_172 (dk_at dksX3_why_1 3 rfl rfl)
theorem dX3_why_27 : decode cX3_why 27 = .ok (.aload_n 0, 1) := dk_42 (dk_at dksX3_why_1 4 rfl rfl)
theorem dX3_why_28 : decode cX3_why 28 = .ok (.iload_n 1, 1) := dk_27 (dk_at dksX3_why_1 5 rfl rfl)
theorem dX3_why_29 : decode cX3_why 29 = .ok (.iload_n 2, 1) := dk_28 (dk_at dksX3_why_1 6 rfl rfl)
theorem dX3_why_30 : decode cX3_why 30 = .ok (.invokevirtual 446, 3) := dk_182 1 190 (dk_at dksX3_why_1 7 rfl rfl)
theorem dX3_why_33 : decode cX3_why 33 = .ok (.ifCond .eq 9, 3) := dk_153 0 9 (dk_at dksX3_why_1 10 rfl rfl)
theorem dX3_why_36 : decode cX3_why 36 = .ok (.aload_n 0, 1) := dk_42 (dk_at dksX3_why_1 13 rfl rfl)
theorem dX3_why_37 : decode cX3_why 37 = .ok (.iconst 2, 1) := dk_5 (dk_at dksX3_why_1 14 rfl rfl)
theorem dX3_why_38 : decode cX3_why 38 = .ok (.invokevirtual 97, 3) := dk_182 0 97 (dk_at dksX3_why_1 15 rfl rfl)
theorem dX3_why_41 : decode cX3_why 41 = .ok (.ireturn, 1) := dk_172 (dk_at dksX3_why_1 18 rfl rfl)
theorem dX3_why_42 : decode cX3_why 42 = .ok (.aload_n 0, 1) := dk_42 (dk_at dksX3_why_1 19 rfl rfl)
theorem dX3_why_43 : decode cX3_why 43 = .ok (.aload_n 0, 1) := dk_42 (dk_at dksX3_why_1 20 rfl rfl)
theorem dX3_why_44 : decode cX3_why 44 = .ok (.getfield 67, 3) := dk_180 0 67 (dk_at dksX3_why_1 21 rfl rfl)
theorem dX3_why_47 : decode cX3_why 47 = .ok (.bipush 36, 2) := dk_16 36 (dk_at dksX3_why_2 0 rfl rfl)
theorem dX3_why_49 : decode cX3_why 49 = .ok (.iload_n 1, 1) := dk_27 (dk_at dksX3_why_2 2 rfl rfl)
theorem dX3_why_50 : decode cX3_why 50 = .ok (.iadd, 1) := dk_96 (dk_at dksX3_why_2 3 rfl rfl)
theorem dX3_why_51 : decode cX3_why 51 = .ok (.iaload, 1) := dk_46 (dk_at dksX3_why_2 4 rfl rfl)
theorem dX3_why_52 : decode cX3_why 52 = .ok (.iload_n 2, 1) := dk_28 (dk_at dksX3_why_2 5 rfl rfl)
theorem dX3_why_53 : decode cX3_why 53 = .ok (.invokevirtual 471, 3) := dk_182 1 215 (dk_at dksX3_why_2 6 rfl rfl)
theorem dX3_why_56 : decode cX3_why 56 = .ok (.istore 4, 2) := dk_54 4 (dk_at dksX3_why_2 9 rfl rfl)
theorem dX3_why_58 : decode cX3_why 58 = .ok (.iload_n 3, 1) := dk_29 (dk_at dksX3_why_2 11 rfl rfl)
theorem dX3_why_59 : decode cX3_why 59 = .ok (.ifCond .eq 10, 3) := dk_153 0 10 (dk_at dksX3_why_2 12 rfl rfl)
theorem dX3_why_62 : decode cX3_why 62 = .ok (.aload_n 0, 1) := dk_42 (dk_at dksX3_why_2 15 rfl rfl)
theorem dX3_why_63 : decode cX3_why 63 = .ok (.getfield 474, 3) := dk_180 1 218 (dk_at dksX3_why_2 16 rfl rfl)
theorem dX3_why_66 : decode cX3_why 66 = .ok (.goto 5, 3) := dk_167 0 5 (dk_at dksX3_why_2 19 rfl rfl)
theorem dX3_why_69 : decode cX3_why 69 = .ok (.iload 4, 2) := dk_21 4 (dk_at dksX3_why_2 22 rfl rfl)
theorem dX3_why_71 : decode cX3_why 71 = .ok (.ireturn, 1) := dk_172 (dk_at dksX3_why_3 0 rfl rfl)
abbrev cX3_reason : ByteArray := prog_34_method_88_code
def yX3_reason : MethodName := ⟨RX3, "reason", "(II)I"⟩
def dkwX3_reason_5 : List UInt8 := [28, 181, 1, 218, 42, 180, 0, 44, 27, 46, 172]
abbrev dktX3_reason_5 : List UInt8 := dkwX3_reason_5 ++ []
def dkwX3_reason_4 : List UInt8 := [42, 180, 0, 26, 27, 46, 4, 160, 0, 16, 28, 158, 0, 12, 42, 29, 28, 4, 100, 182, 1, 215, 172, 42]
abbrev dktX3_reason_4 : List UInt8 := dkwX3_reason_4 ++ dktX3_reason_5
def dkwX3_reason_3 : List UInt8 := [28, 182, 1, 215, 172, 42, 29, 42, 27, 28, 182, 1, 157, 182, 1, 215, 172, 42, 29, 28, 182, 1, 215, 172]
abbrev dktX3_reason_3 : List UInt8 := dkwX3_reason_3 ++ dktX3_reason_4
def dkwX3_reason_2 : List UInt8 := [42, 42, 29, 28, 182, 1, 151, 153, 0, 8, 21, 4, 167, 0, 4, 29, 28, 182, 1, 215, 172, 42, 21, 4]
abbrev dktX3_reason_2 : List UInt8 := dkwX3_reason_2 ++ dktX3_reason_3
def dkwX3_reason_1 : List UInt8 := [170, 0, 0, 0, 0, 0, 99, 0, 0, 0, 5, 0, 0, 0, 13, 0, 0, 0, 80, 0, 0, 0, 99, 0, 0, 0, 99, 0, 0, 0, 92, 0, 0, 0, 99, 0, 0, 0, 99, 0, 0, 0, 51, 0, 0, 0, 72, 0, 0, 0, 72]
abbrev dktX3_reason_1 : List UInt8 := dkwX3_reason_1 ++ dktX3_reason_2
def dkwX3_reason_0 : List UInt8 := [42, 180, 0, 29, 27, 46, 62, 42, 180, 0, 32, 27, 46, 54, 4, 42, 180, 0, 26, 27, 46]
abbrev dktX3_reason_0 : List UInt8 := dkwX3_reason_0 ++ dktX3_reason_1
theorem dksX3_reason_0 : cX3_reason.data.toList.drop 0 = dktX3_reason_0 := by decide +kernel
theorem dksX3_reason_1 : cX3_reason.data.toList.drop 21 = dktX3_reason_1 := dk_seg dksX3_reason_0 21 rfl rfl
theorem dksX3_reason_2 : cX3_reason.data.toList.drop 72 = dktX3_reason_2 := dk_seg dksX3_reason_1 51 rfl rfl
theorem dksX3_reason_3 : cX3_reason.data.toList.drop 96 = dktX3_reason_3 := dk_seg dksX3_reason_2 24 rfl rfl
theorem dksX3_reason_4 : cX3_reason.data.toList.drop 120 = dktX3_reason_4 := dk_seg dksX3_reason_3 24 rfl rfl
theorem dksX3_reason_5 : cX3_reason.data.toList.drop 144 = dktX3_reason_5 := dk_seg dksX3_reason_4 24 rfl rfl
theorem dX3_reason_0 : decode cX3_reason 0 = .ok (.aload_n 0, 1) := dk_42 (dk_at dksX3_reason_0 0 rfl rfl)
theorem dX3_reason_1 : decode cX3_reason 1 = .ok (.getfield 29, 3) := dk_180 0 29 (dk_at dksX3_reason_0 1 rfl rfl)
theorem dX3_reason_4 : decode cX3_reason 4 = .ok (.iload_n 1, 1) := dk_27 (dk_at dksX3_reason_0 4 rfl rfl)
theorem dX3_reason_5 : decode cX3_reason 5 = .ok (.iaload, 1) := dk_46 (dk_at dksX3_reason_0 5 rfl rfl)
theorem dX3_reason_6 : decode cX3_reason 6 = .ok (.istore_n 3, 1) := dk_62 (dk_at dksX3_reason_0 6 rfl rfl)
theorem dX3_reason_7 : decode cX3_reason 7 = .ok (.aload_n 0, 1) := dk_42 (dk_at dksX3_reason_0 7 rfl rfl)
theorem dX3_reason_8 : decode cX3_reason 8 = .ok (.getfield 32, 3) := dk_180 0 32 (dk_at dksX3_reason_0 8 rfl rfl)
theorem dX3_reason_11 : decode cX3_reason 11 = .ok (.iload_n 1, 1) := dk_27 (dk_at dksX3_reason_0 11 rfl rfl)
theorem dX3_reason_12 : decode cX3_reason 12 = .ok (.iaload, 1) := dk_46 (dk_at dksX3_reason_0 12 rfl rfl)
theorem dX3_reason_13 : decode cX3_reason 13 = .ok (.istore 4, 2) := dk_54 4 (dk_at dksX3_reason_0 13 rfl rfl)
theorem dX3_reason_15 : decode cX3_reason 15 = .ok (.aload_n 0, 1) := dk_42 (dk_at dksX3_reason_0 15 rfl rfl)
theorem dX3_reason_16 : decode cX3_reason 16 = .ok (.getfield 26, 3) := dk_180 0 26 (dk_at dksX3_reason_0 16 rfl rfl)
theorem dX3_reason_19 : decode cX3_reason 19 = .ok (.iload_n 1, 1) := dk_27 (dk_at dksX3_reason_0 19 rfl rfl)
theorem dX3_reason_20 : decode cX3_reason 20 = .ok (.iaload, 1) := dk_46 (dk_at dksX3_reason_0 20 rfl rfl)
theorem dX3_reason_21 : decode cX3_reason 21 = .ok (.tableswitch 99 5 13 #[80, 99, 99, 92, 99, 99, 51, 72, 72], 51) := by decide +kernel
theorem dX3_reason_72 : decode cX3_reason 72 = .ok (.aload_n 0, 1) := dk_42 (dk_at dksX3_reason_2 0 rfl rfl)
theorem dX3_reason_73 : decode cX3_reason 73 = .ok (.aload_n 0, 1) := dk_42 (dk_at dksX3_reason_2 1 rfl rfl)
theorem dX3_reason_74 : decode cX3_reason 74 = .ok (.iload_n 3, 1) := dk_29 (dk_at dksX3_reason_2 2 rfl rfl)
theorem dX3_reason_75 : decode cX3_reason 75 = .ok (.iload_n 2, 1) := dk_28 (dk_at dksX3_reason_2 3 rfl rfl)
theorem dX3_reason_76 : decode cX3_reason 76 = .ok (.invokevirtual 407, 3) := dk_182 1 151 (dk_at dksX3_reason_2 4 rfl rfl)
theorem dX3_reason_79 : decode cX3_reason 79 = .ok (.ifCond .eq 8, 3) := dk_153 0 8 (dk_at dksX3_reason_2 7 rfl rfl)
theorem dX3_reason_82 : decode cX3_reason 82 = .ok (.iload 4, 2) := dk_21 4 (dk_at dksX3_reason_2 10 rfl rfl)
theorem dX3_reason_84 : decode cX3_reason 84 = .ok (.goto 4, 3) := dk_167 0 4 (dk_at dksX3_reason_2 12 rfl rfl)
theorem dX3_reason_87 : decode cX3_reason 87 = .ok (.iload_n 3, 1) := dk_29 (dk_at dksX3_reason_2 15 rfl rfl)
theorem dX3_reason_88 : decode cX3_reason 88 = .ok (.iload_n 2, 1) := dk_28 (dk_at dksX3_reason_2 16 rfl rfl)
theorem dX3_reason_89 : decode cX3_reason 89 = .ok (.invokevirtual 471, 3) := dk_182 1 215 (dk_at dksX3_reason_2 17 rfl rfl)
theorem dX3_reason_92 : decode cX3_reason 92 = .ok (.ireturn, 1) := dk_172 (dk_at dksX3_reason_2 20 rfl rfl)
theorem dX3_reason_93 : decode cX3_reason 93 = .ok (.aload_n 0, 1) := dk_42 (dk_at dksX3_reason_2 21 rfl rfl)
theorem dX3_reason_94 : decode cX3_reason 94 = .ok (.iload 4, 2) := dk_21 4 (dk_at dksX3_reason_2 22 rfl rfl)
theorem dX3_reason_96 : decode cX3_reason 96 = .ok (.iload_n 2, 1) := dk_28 (dk_at dksX3_reason_3 0 rfl rfl)
theorem dX3_reason_97 : decode cX3_reason 97 = .ok (.invokevirtual 471, 3) := dk_182 1 215 (dk_at dksX3_reason_3 1 rfl rfl)
theorem dX3_reason_100 : decode cX3_reason 100 = .ok (.ireturn, 1) := dk_172 (dk_at dksX3_reason_3 4 rfl rfl)
theorem dX3_reason_101 : decode cX3_reason 101 = .ok (.aload_n 0, 1) := dk_42 (dk_at dksX3_reason_3 5 rfl rfl)
theorem dX3_reason_102 : decode cX3_reason 102 = .ok (.iload_n 3, 1) := dk_29 (dk_at dksX3_reason_3 6 rfl rfl)
theorem dX3_reason_103 : decode cX3_reason 103 = .ok (.aload_n 0, 1) := dk_42 (dk_at dksX3_reason_3 7 rfl rfl)
theorem dX3_reason_104 : decode cX3_reason 104 = .ok (.iload_n 1, 1) := dk_27 (dk_at dksX3_reason_3 8 rfl rfl)
theorem dX3_reason_105 : decode cX3_reason 105 = .ok (.iload_n 2, 1) := dk_28 (dk_at dksX3_reason_3 9 rfl rfl)
theorem dX3_reason_106 : decode cX3_reason 106 = .ok (.invokevirtual 413, 3) := dk_182 1 157 (dk_at dksX3_reason_3 10 rfl rfl)
theorem dX3_reason_109 : decode cX3_reason 109 = .ok (.invokevirtual 471, 3) := dk_182 1 215 (dk_at dksX3_reason_3 13 rfl rfl)
theorem dX3_reason_112 : decode cX3_reason 112 = .ok (.ireturn, 1) := dk_172 (dk_at dksX3_reason_3 16 rfl rfl)
theorem dX3_reason_113 : decode cX3_reason 113 = .ok (.aload_n 0, 1) := dk_42 (dk_at dksX3_reason_3 17 rfl rfl)
theorem dX3_reason_114 : decode cX3_reason 114 = .ok (.iload_n 3, 1) := dk_29 (dk_at dksX3_reason_3 18 rfl rfl)
theorem dX3_reason_115 : decode cX3_reason 115 = .ok (.iload_n 2, 1) := dk_28 (dk_at dksX3_reason_3 19 rfl rfl)
theorem dX3_reason_116 : decode cX3_reason 116 = .ok (.invokevirtual 471, 3) := dk_182 1 215 (dk_at dksX3_reason_3 20 rfl rfl)
theorem dX3_reason_119 : decode cX3_reason 119 = .ok (.ireturn, 1) := dk_172 (dk_at dksX3_reason_3 23 rfl rfl)
theorem dX3_reason_120 : decode cX3_reason 120 = .ok (.aload_n 0, 1) := dk_42 (dk_at dksX3_reason_4 0 rfl rfl)
theorem dX3_reason_121 : decode cX3_reason 121 = .ok (.getfield 26, 3) := dk_180 0 26 (dk_at dksX3_reason_4 1 rfl rfl)
theorem dX3_reason_124 : decode cX3_reason 124 = .ok (.iload_n 1, 1) := dk_27 (dk_at dksX3_reason_4 4 rfl rfl)
theorem dX3_reason_125 : decode cX3_reason 125 = .ok (.iaload, 1) := dk_46 (dk_at dksX3_reason_4 5 rfl rfl)
theorem dX3_reason_126 : decode cX3_reason 126 = .ok (.iconst 1, 1) := dk_4 (dk_at dksX3_reason_4 6 rfl rfl)
theorem dX3_reason_127 : decode cX3_reason 127 = .ok (.if_icmp .ne 16, 3) := dk_160 0 16 (dk_at dksX3_reason_4 7 rfl rfl)
theorem dX3_reason_130 : decode cX3_reason 130 = .ok (.iload_n 2, 1) := dk_28 (dk_at dksX3_reason_4 10 rfl rfl)
theorem dX3_reason_131 : decode cX3_reason 131 = .ok (.ifCond .le 12, 3) := dk_158 0 12 (dk_at dksX3_reason_4 11 rfl rfl)
theorem dX3_reason_134 : decode cX3_reason 134 = .ok (.aload_n 0, 1) := dk_42 (dk_at dksX3_reason_4 14 rfl rfl)
theorem dX3_reason_135 : decode cX3_reason 135 = .ok (.iload_n 3, 1) := dk_29 (dk_at dksX3_reason_4 15 rfl rfl)
theorem dX3_reason_136 : decode cX3_reason 136 = .ok (.iload_n 2, 1) := dk_28 (dk_at dksX3_reason_4 16 rfl rfl)
theorem dX3_reason_137 : decode cX3_reason 137 = .ok (.iconst 1, 1) := dk_4 (dk_at dksX3_reason_4 17 rfl rfl)
theorem dX3_reason_138 : decode cX3_reason 138 = .ok (.isub, 1) := dk_100 (dk_at dksX3_reason_4 18 rfl rfl)
theorem dX3_reason_139 : decode cX3_reason 139 = .ok (.invokevirtual 471, 3) := dk_182 1 215 (dk_at dksX3_reason_4 19 rfl rfl)
theorem dX3_reason_142 : decode cX3_reason 142 = .ok (.ireturn, 1) := dk_172 (dk_at dksX3_reason_4 22 rfl rfl)
theorem dX3_reason_143 : decode cX3_reason 143 = .ok (.aload_n 0, 1) := dk_42 (dk_at dksX3_reason_4 23 rfl rfl)
theorem dX3_reason_144 : decode cX3_reason 144 = .ok (.iload_n 2, 1) := dk_28 (dk_at dksX3_reason_5 0 rfl rfl)
theorem dX3_reason_145 : decode cX3_reason 145 = .ok (.putfield 474, 3) := dk_181 1 218 (dk_at dksX3_reason_5 1 rfl rfl)
theorem dX3_reason_148 : decode cX3_reason 148 = .ok (.aload_n 0, 1) := dk_42 (dk_at dksX3_reason_5 4 rfl rfl)
theorem dX3_reason_149 : decode cX3_reason 149 = .ok (.getfield 44, 3) := dk_180 0 44 (dk_at dksX3_reason_5 5 rfl rfl)
theorem dX3_reason_152 : decode cX3_reason 152 = .ok (.iload_n 1, 1) := dk_27 (dk_at dksX3_reason_5 8 rfl rfl)
theorem dX3_reason_153 : decode cX3_reason 153 = .ok (.iaload, 1) := dk_46 (dk_at dksX3_reason_5 9 rfl rfl)
theorem dX3_reason_154 : decode cX3_reason 154 = .ok (.ireturn, 1) := dk_172 (dk_at dksX3_reason_5 10 rfl rfl)
abbrev cX3_differ : ByteArray := prog_34_method_90_code
def yX3_differ : MethodName := ⟨RX3, "differ", "(II)I"⟩
def dkwX3_differ_2 : List UInt8 := [182, 1, 190, 159, 0, 5, 29, 172, 132, 3, 1, 167, 255, 228, 2, 172]
abbrev dktX3_differ_2 : List UInt8 := dkwX3_differ_2 ++ []
def dkwX3_differ_1 : List UInt8 := [182, 0, 97, 172, 3, 62, 29, 42, 180, 1, 113, 162, 0, 26, 42, 27, 29, 182, 1, 190, 42, 28, 29]
abbrev dktX3_differ_1 : List UInt8 := dkwX3_differ_1 ++ dktX3_differ_2
def dkwX3_differ_0 : List UInt8 := [42, 3, 181, 0, 91, 42, 27, 182, 1, 209, 153, 0, 11, 42, 28, 182, 1, 209, 154, 0, 9, 42, 4]
abbrev dktX3_differ_0 : List UInt8 := dkwX3_differ_0 ++ dktX3_differ_1
theorem dksX3_differ_0 : cX3_differ.data.toList.drop 0 = dktX3_differ_0 := by decide +kernel
theorem dksX3_differ_1 : cX3_differ.data.toList.drop 23 = dktX3_differ_1 := dk_seg dksX3_differ_0 23 rfl rfl
theorem dksX3_differ_2 : cX3_differ.data.toList.drop 46 = dktX3_differ_2 := dk_seg dksX3_differ_1 23 rfl rfl
theorem dX3_differ_0 : decode cX3_differ 0 = .ok (.aload_n 0, 1) := dk_42 (dk_at dksX3_differ_0 0 rfl rfl)
theorem dX3_differ_1 : decode cX3_differ 1 = .ok (.iconst 0, 1) := dk_3 (dk_at dksX3_differ_0 1 rfl rfl)
theorem dX3_differ_2 : decode cX3_differ 2 = .ok (.putfield 91, 3) := dk_181 0 91 (dk_at dksX3_differ_0 2 rfl rfl)
theorem dX3_differ_5 : decode cX3_differ 5 = .ok (.aload_n 0, 1) := dk_42 (dk_at dksX3_differ_0 5 rfl rfl)
theorem dX3_differ_6 : decode cX3_differ 6 = .ok (.iload_n 1, 1) := dk_27 (dk_at dksX3_differ_0 6 rfl rfl)
theorem dX3_differ_7 : decode cX3_differ 7 = .ok (.invokevirtual 465, 3) := dk_182 1 209 (dk_at dksX3_differ_0 7 rfl rfl)
theorem dX3_differ_10 : decode cX3_differ 10 = .ok (.ifCond .eq 11, 3) := dk_153 0 11 (dk_at dksX3_differ_0 10 rfl rfl)
theorem dX3_differ_13 : decode cX3_differ 13 = .ok (.aload_n 0, 1) := dk_42 (dk_at dksX3_differ_0 13 rfl rfl)
theorem dX3_differ_14 : decode cX3_differ 14 = .ok (.iload_n 2, 1) := dk_28 (dk_at dksX3_differ_0 14 rfl rfl)
theorem dX3_differ_15 : decode cX3_differ 15 = .ok (.invokevirtual 465, 3) := dk_182 1 209 (dk_at dksX3_differ_0 15 rfl rfl)
theorem dX3_differ_18 : decode cX3_differ 18 = .ok (.ifCond .ne 9, 3) := dk_154 0 9 (dk_at dksX3_differ_0 18 rfl rfl)
theorem dX3_differ_21 : decode cX3_differ 21 = .ok (.aload_n 0, 1) := dk_42 (dk_at dksX3_differ_0 21 rfl rfl)
theorem dX3_differ_22 : decode cX3_differ 22 = .ok (.iconst 1, 1) := dk_4 (dk_at dksX3_differ_0 22 rfl rfl)
theorem dX3_differ_23 : decode cX3_differ 23 = .ok (.invokevirtual 97, 3) := dk_182 0 97 (dk_at dksX3_differ_1 0 rfl rfl)
theorem dX3_differ_26 : decode cX3_differ 26 = .ok (.ireturn, 1) := dk_172 (dk_at dksX3_differ_1 3 rfl rfl)
theorem dX3_differ_27 : decode cX3_differ 27 = .ok (.iconst 0, 1) := dk_3 (dk_at dksX3_differ_1 4 rfl rfl)
theorem dX3_differ_28 : decode cX3_differ 28 = .ok (.istore_n 3, 1) := dk_62 (dk_at dksX3_differ_1 5 rfl rfl)
theorem dX3_differ_29 : decode cX3_differ 29 = .ok (.iload_n 3, 1) := dk_29 (dk_at dksX3_differ_1 6 rfl rfl)
theorem dX3_differ_30 : decode cX3_differ 30 = .ok (.aload_n 0, 1) := dk_42 (dk_at dksX3_differ_1 7 rfl rfl)
theorem dX3_differ_31 : decode cX3_differ 31 = .ok (.getfield 369, 3) := dk_180 1 113 (dk_at dksX3_differ_1 8 rfl rfl)
theorem dX3_differ_34 : decode cX3_differ 34 = .ok (.if_icmp .ge 26, 3) := dk_162 0 26 (dk_at dksX3_differ_1 11 rfl rfl)
theorem dX3_differ_37 : decode cX3_differ 37 = .ok (.aload_n 0, 1) := dk_42 (dk_at dksX3_differ_1 14 rfl rfl)
theorem dX3_differ_38 : decode cX3_differ 38 = .ok (.iload_n 1, 1) := dk_27 (dk_at dksX3_differ_1 15 rfl rfl)
theorem dX3_differ_39 : decode cX3_differ 39 = .ok (.iload_n 3, 1) := dk_29 (dk_at dksX3_differ_1 16 rfl rfl)
theorem dX3_differ_40 : decode cX3_differ 40 = .ok (.invokevirtual 446, 3) := dk_182 1 190 (dk_at dksX3_differ_1 17 rfl rfl)
theorem dX3_differ_43 : decode cX3_differ 43 = .ok (.aload_n 0, 1) := dk_42 (dk_at dksX3_differ_1 20 rfl rfl)
theorem dX3_differ_44 : decode cX3_differ 44 = .ok (.iload_n 2, 1) := dk_28 (dk_at dksX3_differ_1 21 rfl rfl)
theorem dX3_differ_45 : decode cX3_differ 45 = .ok (.iload_n 3, 1) := dk_29 (dk_at dksX3_differ_1 22 rfl rfl)
theorem dX3_differ_46 : decode cX3_differ 46 = .ok (.invokevirtual 446, 3) := dk_182 1 190 (dk_at dksX3_differ_2 0 rfl rfl)
theorem dX3_differ_49 : decode cX3_differ 49 = .ok (.if_icmp .eq 5, 3) := dk_159 0 5 (dk_at dksX3_differ_2 3 rfl rfl)
theorem dX3_differ_52 : decode cX3_differ 52 = .ok (.iload_n 3, 1) := dk_29 (dk_at dksX3_differ_2 6 rfl rfl)
theorem dX3_differ_53 : decode cX3_differ 53 = .ok (.ireturn, 1) := dk_172 (dk_at dksX3_differ_2 7 rfl rfl)
theorem dX3_differ_54 : decode cX3_differ 54 = .ok (.iinc 3 1, 3) := dk_132 3 1 (dk_at dksX3_differ_2 8 rfl rfl)
theorem dX3_differ_57 : decode cX3_differ 57 = .ok (.goto (-28), 3) := dk_167 255 228 (dk_at dksX3_differ_2 11 rfl rfl)
theorem dX3_differ_60 : decode cX3_differ 60 = .ok (.iconst (-1), 1) := dk_2 (dk_at dksX3_differ_2 14 rfl rfl)
theorem dX3_differ_61 : decode cX3_differ 61 = .ok (.ireturn, 1) := dk_172 (dk_at dksX3_differ_2 15 rfl rfl)
abbrev cX3_share : ByteArray := prog_34_method_91_code
def yX3_share : MethodName := ⟨RX3, "share", "(I)D"⟩
def dkwX3_share_2 : List UInt8 := [135, 42, 180, 1, 113, 135, 111, 175]
abbrev dktX3_share_2 : List UInt8 := dkwX3_share_2 ++ []
def dkwX3_share_1 : List UInt8 := [14, 175, 42, 180, 1, 113, 154, 0, 7, 15, 167, 0, 21, 42, 180, 1, 113, 42, 27, 4, 182, 1, 212, 100]
abbrev dktX3_share_1 : List UInt8 := dkwX3_share_1 ++ dktX3_share_2
def dkwX3_share_0 : List UInt8 := [42, 42, 27, 182, 1, 209, 153, 0, 7, 3, 167, 0, 4, 4, 181, 0, 91, 42, 180, 0, 91, 153, 0, 5]
abbrev dktX3_share_0 : List UInt8 := dkwX3_share_0 ++ dktX3_share_1
theorem dksX3_share_0 : cX3_share.data.toList.drop 0 = dktX3_share_0 := by decide +kernel
theorem dksX3_share_1 : cX3_share.data.toList.drop 24 = dktX3_share_1 := dk_seg dksX3_share_0 24 rfl rfl
theorem dksX3_share_2 : cX3_share.data.toList.drop 48 = dktX3_share_2 := dk_seg dksX3_share_1 24 rfl rfl
theorem dX3_share_0 : decode cX3_share 0 = .ok (.aload_n 0, 1) := dk_42 (dk_at dksX3_share_0 0 rfl rfl)
theorem dX3_share_1 : decode cX3_share 1 = .ok (.aload_n 0, 1) := dk_42 (dk_at dksX3_share_0 1 rfl rfl)
theorem dX3_share_2 : decode cX3_share 2 = .ok (.iload_n 1, 1) := dk_27 (dk_at dksX3_share_0 2 rfl rfl)
theorem dX3_share_3 : decode cX3_share 3 = .ok (.invokevirtual 465, 3) := dk_182 1 209 (dk_at dksX3_share_0 3 rfl rfl)
theorem dX3_share_6 : decode cX3_share 6 = .ok (.ifCond .eq 7, 3) := dk_153 0 7 (dk_at dksX3_share_0 6 rfl rfl)
theorem dX3_share_9 : decode cX3_share 9 = .ok (.iconst 0, 1) := dk_3 (dk_at dksX3_share_0 9 rfl rfl)
theorem dX3_share_10 : decode cX3_share 10 = .ok (.goto 4, 3) := dk_167 0 4 (dk_at dksX3_share_0 10 rfl rfl)
theorem dX3_share_13 : decode cX3_share 13 = .ok (.iconst 1, 1) := dk_4 (dk_at dksX3_share_0 13 rfl rfl)
theorem dX3_share_14 : decode cX3_share 14 = .ok (.putfield 91, 3) := dk_181 0 91 (dk_at dksX3_share_0 14 rfl rfl)
theorem dX3_share_17 : decode cX3_share 17 = .ok (.aload_n 0, 1) := dk_42 (dk_at dksX3_share_0 17 rfl rfl)
theorem dX3_share_18 : decode cX3_share 18 = .ok (.getfield 91, 3) := dk_180 0 91 (dk_at dksX3_share_0 18 rfl rfl)
theorem dX3_share_21 : decode cX3_share 21 = .ok (.ifCond .eq 5, 3) := dk_153 0 5 (dk_at dksX3_share_0 21 rfl rfl)
theorem dX3_share_24 : decode cX3_share 24 = .ok (.dconst 0, 1) := dk_14 (dk_at dksX3_share_1 0 rfl rfl)
theorem dX3_share_25 : decode cX3_share 25 = .ok (.dreturn, 1) := dk_175 (dk_at dksX3_share_1 1 rfl rfl)
theorem dX3_share_26 : decode cX3_share 26 = .ok (.aload_n 0, 1) := dk_42 (dk_at dksX3_share_1 2 rfl rfl)
theorem dX3_share_27 : decode cX3_share 27 = .ok (.getfield 369, 3) := dk_180 1 113 (dk_at dksX3_share_1 3 rfl rfl)
theorem dX3_share_30 : decode cX3_share 30 = .ok (.ifCond .ne 7, 3) := dk_154 0 7 (dk_at dksX3_share_1 6 rfl rfl)
theorem dX3_share_33 : decode cX3_share 33 = .ok (.dconst 1, 1) := dk_15 (dk_at dksX3_share_1 9 rfl rfl)
theorem dX3_share_34 : decode cX3_share 34 = .ok (.goto 21, 3) := dk_167 0 21 (dk_at dksX3_share_1 10 rfl rfl)
theorem dX3_share_37 : decode cX3_share 37 = .ok (.aload_n 0, 1) := dk_42 (dk_at dksX3_share_1 13 rfl rfl)
theorem dX3_share_38 : decode cX3_share 38 = .ok (.getfield 369, 3) := dk_180 1 113 (dk_at dksX3_share_1 14 rfl rfl)
theorem dX3_share_41 : decode cX3_share 41 = .ok (.aload_n 0, 1) := dk_42 (dk_at dksX3_share_1 17 rfl rfl)
theorem dX3_share_42 : decode cX3_share 42 = .ok (.iload_n 1, 1) := dk_27 (dk_at dksX3_share_1 18 rfl rfl)
theorem dX3_share_43 : decode cX3_share 43 = .ok (.iconst 1, 1) := dk_4 (dk_at dksX3_share_1 19 rfl rfl)
theorem dX3_share_44 : decode cX3_share 44 = .ok (.invokevirtual 468, 3) := dk_182 1 212 (dk_at dksX3_share_1 20 rfl rfl)
theorem dX3_share_47 : decode cX3_share 47 = .ok (.isub, 1) := dk_100 (dk_at dksX3_share_1 23 rfl rfl)
theorem dX3_share_48 : decode cX3_share 48 = .ok (.i2d, 1) := dk_135 (dk_at dksX3_share_2 0 rfl rfl)
theorem dX3_share_49 : decode cX3_share 49 = .ok (.aload_n 0, 1) := dk_42 (dk_at dksX3_share_2 1 rfl rfl)
theorem dX3_share_50 : decode cX3_share 50 = .ok (.getfield 369, 3) := dk_180 1 113 (dk_at dksX3_share_2 2 rfl rfl)
theorem dX3_share_53 : decode cX3_share 53 = .ok (.i2d, 1) := dk_135 (dk_at dksX3_share_2 5 rfl rfl)
theorem dX3_share_54 : decode cX3_share 54 = .ok (.ddiv, 1) := dk_111 (dk_at dksX3_share_2 6 rfl rfl)
theorem dX3_share_55 : decode cX3_share 55 = .ok (.dreturn, 1) := dk_175 (dk_at dksX3_share_2 7 rfl rfl)
abbrev cX3_ask : ByteArray := prog_34_method_92_code
def yX3_ask : MethodName := ⟨RX3, "ask", "()I"⟩
def dkwX3_ask_5 : List UInt8 := [181, 1, 221, 3, 172]
abbrev dktX3_ask_5 : List UInt8 := dkwX3_ask_5 ++ []
def dkwX3_ask_4 : List UInt8 := [181, 0, 94, 27, 153, 0, 5, 27, 172, 42, 42, 28, 182, 1, 224, 181, 0, 73, 42, 42, 180, 1, 56]
abbrev dktX3_ask_4 : List UInt8 := dkwX3_ask_4 ++ dktX3_ask_5
def dkwX3_ask_3 : List UInt8 := [167, 0, 7, 42, 180, 1, 221, 61, 42, 28, 181, 1, 56, 27, 154, 0, 8, 42, 182, 1, 50, 60, 42, 3]
abbrev dktX3_ask_3 : List UInt8 := dkwX3_ask_3 ++ dktX3_ask_4
def dkwX3_ask_2 : List UInt8 := [180, 0, 152, 182, 1, 38, 60, 42, 3, 181, 0, 152, 42, 180, 0, 73, 2, 160, 0, 10, 42, 180, 1, 110]
abbrev dktX3_ask_2 : List UInt8 := dkwX3_ask_2 ++ dktX3_ask_3
def dkwX3_ask_1 : List UInt8 := [153, 0, 19, 42, 180, 0, 17, 42, 180, 0, 152, 46, 154, 0, 7, 3, 167, 0, 12, 42, 4, 42]
abbrev dktX3_ask_1 : List UInt8 := dkwX3_ask_1 ++ dktX3_ask_2
def dkwX3_ask_0 : List UInt8 := [42, 3, 181, 0, 91, 42, 2, 181, 0, 13, 42, 182, 1, 119, 42, 3, 181, 0, 152, 42, 3, 182, 0, 190]
abbrev dktX3_ask_0 : List UInt8 := dkwX3_ask_0 ++ dktX3_ask_1
theorem dksX3_ask_0 : cX3_ask.data.toList.drop 0 = dktX3_ask_0 := by decide +kernel
theorem dksX3_ask_1 : cX3_ask.data.toList.drop 24 = dktX3_ask_1 := dk_seg dksX3_ask_0 24 rfl rfl
theorem dksX3_ask_2 : cX3_ask.data.toList.drop 46 = dktX3_ask_2 := dk_seg dksX3_ask_1 22 rfl rfl
theorem dksX3_ask_3 : cX3_ask.data.toList.drop 70 = dktX3_ask_3 := dk_seg dksX3_ask_2 24 rfl rfl
theorem dksX3_ask_4 : cX3_ask.data.toList.drop 94 = dktX3_ask_4 := dk_seg dksX3_ask_3 24 rfl rfl
theorem dksX3_ask_5 : cX3_ask.data.toList.drop 117 = dktX3_ask_5 := dk_seg dksX3_ask_4 23 rfl rfl
theorem dX3_ask_0 : decode cX3_ask 0 = .ok (.aload_n 0, 1) := dk_42 (dk_at dksX3_ask_0 0 rfl rfl)
theorem dX3_ask_1 : decode cX3_ask 1 = .ok (.iconst 0, 1) := dk_3 (dk_at dksX3_ask_0 1 rfl rfl)
theorem dX3_ask_2 : decode cX3_ask 2 = .ok (.putfield 91, 3) := dk_181 0 91 (dk_at dksX3_ask_0 2 rfl rfl)
theorem dX3_ask_5 : decode cX3_ask 5 = .ok (.aload_n 0, 1) := dk_42 (dk_at dksX3_ask_0 5 rfl rfl)
theorem dX3_ask_6 : decode cX3_ask 6 = .ok (.iconst (-1), 1) := dk_2 (dk_at dksX3_ask_0 6 rfl rfl)
theorem dX3_ask_7 : decode cX3_ask 7 = .ok (.putfield 13, 3) := dk_181 0 13 (dk_at dksX3_ask_0 7 rfl rfl)
theorem dX3_ask_10 : decode cX3_ask 10 = .ok (.aload_n 0, 1) := dk_42 (dk_at dksX3_ask_0 10 rfl rfl)
theorem dX3_ask_11 : decode cX3_ask 11 = .ok (.invokevirtual 375, 3) := dk_182 1 119 (dk_at dksX3_ask_0 11 rfl rfl)
theorem dX3_ask_14 : decode cX3_ask 14 = .ok (.aload_n 0, 1) := dk_42 (dk_at dksX3_ask_0 14 rfl rfl)
theorem dX3_ask_15 : decode cX3_ask 15 = .ok (.iconst 0, 1) := dk_3 (dk_at dksX3_ask_0 15 rfl rfl)
theorem dX3_ask_16 : decode cX3_ask 16 = .ok (.putfield 152, 3) := dk_181 0 152 (dk_at dksX3_ask_0 16 rfl rfl)
theorem dX3_ask_19 : decode cX3_ask 19 = .ok (.aload_n 0, 1) := dk_42 (dk_at dksX3_ask_0 19 rfl rfl)
theorem dX3_ask_20 : decode cX3_ask 20 = .ok (.iconst 0, 1) := dk_3 (dk_at dksX3_ask_0 20 rfl rfl)
theorem dX3_ask_21 : decode cX3_ask 21 = .ok (.invokevirtual 190, 3) := dk_182 0 190 (dk_at dksX3_ask_0 21 rfl rfl)
theorem dX3_ask_24 : decode cX3_ask 24 = .ok (.ifCond .eq 19, 3) := dk_153 0 19 (dk_at dksX3_ask_1 0 rfl rfl)
theorem dX3_ask_27 : decode cX3_ask 27 = .ok (.aload_n 0, 1) := dk_42 (dk_at dksX3_ask_1 3 rfl rfl)
theorem dX3_ask_28 : decode cX3_ask 28 = .ok (.getfield 17, 3) := dk_180 0 17 (dk_at dksX3_ask_1 4 rfl rfl)
theorem dX3_ask_31 : decode cX3_ask 31 = .ok (.aload_n 0, 1) := dk_42 (dk_at dksX3_ask_1 7 rfl rfl)
theorem dX3_ask_32 : decode cX3_ask 32 = .ok (.getfield 152, 3) := dk_180 0 152 (dk_at dksX3_ask_1 8 rfl rfl)
theorem dX3_ask_35 : decode cX3_ask 35 = .ok (.iaload, 1) := dk_46 (dk_at dksX3_ask_1 11 rfl rfl)
theorem dX3_ask_36 : decode cX3_ask 36 = .ok (.ifCond .ne 7, 3) := dk_154 0 7 (dk_at dksX3_ask_1 12 rfl rfl)
theorem dX3_ask_39 : decode cX3_ask 39 = .ok (.iconst 0, 1) := dk_3 (dk_at dksX3_ask_1 15 rfl rfl)
theorem dX3_ask_40 : decode cX3_ask 40 = .ok (.goto 12, 3) := dk_167 0 12 (dk_at dksX3_ask_1 16 rfl rfl)
theorem dX3_ask_43 : decode cX3_ask 43 = .ok (.aload_n 0, 1) := dk_42 (dk_at dksX3_ask_1 19 rfl rfl)
theorem dX3_ask_44 : decode cX3_ask 44 = .ok (.iconst 1, 1) := dk_4 (dk_at dksX3_ask_1 20 rfl rfl)
theorem dX3_ask_45 : decode cX3_ask 45 = .ok (.aload_n 0, 1) := dk_42 (dk_at dksX3_ask_1 21 rfl rfl)
theorem dX3_ask_46 : decode cX3_ask 46 = .ok (.getfield 152, 3) := dk_180 0 152 (dk_at dksX3_ask_2 0 rfl rfl)
theorem dX3_ask_49 : decode cX3_ask 49 = .ok (.invokevirtual 294, 3) := dk_182 1 38 (dk_at dksX3_ask_2 3 rfl rfl)
theorem dX3_ask_52 : decode cX3_ask 52 = .ok (.istore_n 1, 1) := dk_60 (dk_at dksX3_ask_2 6 rfl rfl)
theorem dX3_ask_53 : decode cX3_ask 53 = .ok (.aload_n 0, 1) := dk_42 (dk_at dksX3_ask_2 7 rfl rfl)
theorem dX3_ask_54 : decode cX3_ask 54 = .ok (.iconst 0, 1) := dk_3 (dk_at dksX3_ask_2 8 rfl rfl)
theorem dX3_ask_55 : decode cX3_ask 55 = .ok (.putfield 152, 3) := dk_181 0 152 (dk_at dksX3_ask_2 9 rfl rfl)
theorem dX3_ask_58 : decode cX3_ask 58 = .ok (.aload_n 0, 1) := dk_42 (dk_at dksX3_ask_2 12 rfl rfl)
theorem dX3_ask_59 : decode cX3_ask 59 = .ok (.getfield 73, 3) := dk_180 0 73 (dk_at dksX3_ask_2 13 rfl rfl)
theorem dX3_ask_62 : decode cX3_ask 62 = .ok (.iconst (-1), 1) := dk_2 (dk_at dksX3_ask_2 16 rfl rfl)
theorem dX3_ask_63 : decode cX3_ask 63 = .ok (.if_icmp .ne 10, 3) := dk_160 0 10 (dk_at dksX3_ask_2 17 rfl rfl)
theorem dX3_ask_66 : decode cX3_ask 66 = .ok (.aload_n 0, 1) := dk_42 (dk_at dksX3_ask_2 20 rfl rfl)
theorem dX3_ask_67 : decode cX3_ask 67 = .ok (.getfield 366, 3) := dk_180 1 110 (dk_at dksX3_ask_2 21 rfl rfl)
theorem dX3_ask_70 : decode cX3_ask 70 = .ok (.goto 7, 3) := dk_167 0 7 (dk_at dksX3_ask_3 0 rfl rfl)
theorem dX3_ask_73 : decode cX3_ask 73 = .ok (.aload_n 0, 1) := dk_42 (dk_at dksX3_ask_3 3 rfl rfl)
theorem dX3_ask_74 : decode cX3_ask 74 = .ok (.getfield 477, 3) := dk_180 1 221 (dk_at dksX3_ask_3 4 rfl rfl)
theorem dX3_ask_77 : decode cX3_ask 77 = .ok (.istore_n 2, 1) := dk_61 (dk_at dksX3_ask_3 7 rfl rfl)
theorem dX3_ask_78 : decode cX3_ask 78 = .ok (.aload_n 0, 1) := dk_42 (dk_at dksX3_ask_3 8 rfl rfl)
theorem dX3_ask_79 : decode cX3_ask 79 = .ok (.iload_n 2, 1) := dk_28 (dk_at dksX3_ask_3 9 rfl rfl)
theorem dX3_ask_80 : decode cX3_ask 80 = .ok (.putfield 312, 3) := dk_181 1 56 (dk_at dksX3_ask_3 10 rfl rfl)
theorem dX3_ask_83 : decode cX3_ask 83 = .ok (.iload_n 1, 1) := dk_27 (dk_at dksX3_ask_3 13 rfl rfl)
theorem dX3_ask_84 : decode cX3_ask 84 = .ok (.ifCond .ne 8, 3) := dk_154 0 8 (dk_at dksX3_ask_3 14 rfl rfl)
theorem dX3_ask_87 : decode cX3_ask 87 = .ok (.aload_n 0, 1) := dk_42 (dk_at dksX3_ask_3 17 rfl rfl)
theorem dX3_ask_88 : decode cX3_ask 88 = .ok (.invokevirtual 306, 3) := dk_182 1 50 (dk_at dksX3_ask_3 18 rfl rfl)
theorem dX3_ask_91 : decode cX3_ask 91 = .ok (.istore_n 1, 1) := dk_60 (dk_at dksX3_ask_3 21 rfl rfl)
theorem dX3_ask_92 : decode cX3_ask 92 = .ok (.aload_n 0, 1) := dk_42 (dk_at dksX3_ask_3 22 rfl rfl)
theorem dX3_ask_93 : decode cX3_ask 93 = .ok (.iconst 0, 1) := dk_3 (dk_at dksX3_ask_3 23 rfl rfl)
theorem dX3_ask_94 : decode cX3_ask 94 = .ok (.putfield 94, 3) := dk_181 0 94 (dk_at dksX3_ask_4 0 rfl rfl)
theorem dX3_ask_97 : decode cX3_ask 97 = .ok (.iload_n 1, 1) := dk_27 (dk_at dksX3_ask_4 3 rfl rfl)
theorem dX3_ask_98 : decode cX3_ask 98 = .ok (.ifCond .eq 5, 3) := dk_153 0 5 (dk_at dksX3_ask_4 4 rfl rfl)
theorem dX3_ask_101 : decode cX3_ask 101 = .ok (.iload_n 1, 1) := dk_27 (dk_at dksX3_ask_4 7 rfl rfl)
theorem dX3_ask_102 : decode cX3_ask 102 = .ok (.ireturn, 1) := dk_172 (dk_at dksX3_ask_4 8 rfl rfl)
theorem dX3_ask_103 : decode cX3_ask 103 = .ok (.aload_n 0, 1) := dk_42 (dk_at dksX3_ask_4 9 rfl rfl)
theorem dX3_ask_104 : decode cX3_ask 104 = .ok (.aload_n 0, 1) := dk_42 (dk_at dksX3_ask_4 10 rfl rfl)
theorem dX3_ask_105 : decode cX3_ask 105 = .ok (.iload_n 2, 1) := dk_28 (dk_at dksX3_ask_4 11 rfl rfl)
theorem dX3_ask_106 : decode cX3_ask 106 = .ok (.invokevirtual 480, 3) := dk_182 1 224 (dk_at dksX3_ask_4 12 rfl rfl)
theorem dX3_ask_109 : decode cX3_ask 109 = .ok (.putfield 73, 3) := dk_181 0 73 (dk_at dksX3_ask_4 15 rfl rfl)
theorem dX3_ask_112 : decode cX3_ask 112 = .ok (.aload_n 0, 1) := dk_42 (dk_at dksX3_ask_4 18 rfl rfl)
theorem dX3_ask_113 : decode cX3_ask 113 = .ok (.aload_n 0, 1) := dk_42 (dk_at dksX3_ask_4 19 rfl rfl)
theorem dX3_ask_114 : decode cX3_ask 114 = .ok (.getfield 312, 3) := dk_180 1 56 (dk_at dksX3_ask_4 20 rfl rfl)
theorem dX3_ask_117 : decode cX3_ask 117 = .ok (.putfield 477, 3) := dk_181 1 221 (dk_at dksX3_ask_5 0 rfl rfl)
theorem dX3_ask_120 : decode cX3_ask 120 = .ok (.iconst 0, 1) := dk_3 (dk_at dksX3_ask_5 3 rfl rfl)
theorem dX3_ask_121 : decode cX3_ask 121 = .ok (.ireturn, 1) := dk_172 (dk_at dksX3_ask_5 4 rfl rfl)
abbrev cX3_moveQuestion : ByteArray := prog_34_method_93_code
def yX3_moveQuestion : MethodName := ⟨RX3, "moveQuestion", "(I)I"⟩
def dkwX3_moveQuestion_7 : List UInt8 := [89, 180, 1, 56, 28, 100, 181, 1, 56, 42, 180, 1, 53, 28, 100, 172]
abbrev dktX3_moveQuestion_7 : List UInt8 := dkwX3_moveQuestion_7 ++ []
def dkwX3_moveQuestion_6 : List UInt8 := [29, 46, 79, 42, 180, 0, 44, 29, 28, 100, 42, 180, 0, 44, 29, 46, 79, 132, 3, 1, 167, 255, 102, 42]
abbrev dktX3_moveQuestion_6 : List UInt8 := dkwX3_moveQuestion_6 ++ dktX3_moveQuestion_7
def dkwX3_moveQuestion_5 : List UInt8 := [180, 0, 38, 29, 28, 100, 42, 180, 0, 38, 29, 46, 79, 42, 180, 0, 41, 29, 28, 100, 42, 180, 0, 41]
abbrev dktX3_moveQuestion_5 : List UInt8 := dkwX3_moveQuestion_5 ++ dktX3_moveQuestion_6
def dkwX3_moveQuestion_4 : List UInt8 := [100, 42, 180, 0, 35, 29, 46, 27, 28, 42, 180, 0, 26, 29, 46, 6, 184, 1, 227, 184, 1, 230, 79, 42]
abbrev dktX3_moveQuestion_4 : List UInt8 := dkwX3_moveQuestion_4 ++ dktX3_moveQuestion_5
def dkwX3_moveQuestion_3 : List UInt8 := [29, 46, 27, 28, 42, 180, 0, 26, 29, 46, 5, 184, 1, 227, 184, 1, 230, 79, 42, 180, 0, 35, 29, 28]
abbrev dktX3_moveQuestion_3 : List UInt8 := dkwX3_moveQuestion_3 ++ dktX3_moveQuestion_4
def dkwX3_moveQuestion_2 : List UInt8 := [180, 0, 26, 29, 46, 4, 184, 1, 227, 184, 1, 230, 79, 42, 180, 0, 32, 29, 28, 100, 42, 180, 0, 32]
abbrev dktX3_moveQuestion_2 : List UInt8 := dkwX3_moveQuestion_2 ++ dktX3_moveQuestion_3
def dkwX3_moveQuestion_1 : List UInt8 := [42, 180, 0, 26, 29, 46, 79, 42, 180, 0, 29, 29, 28, 100, 42, 180, 0, 29, 29, 46, 27, 28, 42]
abbrev dktX3_moveQuestion_1 : List UInt8 := dkwX3_moveQuestion_1 ++ dktX3_moveQuestion_2
def dkwX3_moveQuestion_0 : List UInt8 := [27, 42, 180, 1, 110, 100, 61, 27, 62, 29, 42, 180, 1, 56, 162, 0, 152, 42, 180, 0, 26, 29, 28, 100]
abbrev dktX3_moveQuestion_0 : List UInt8 := dkwX3_moveQuestion_0 ++ dktX3_moveQuestion_1
theorem dksX3_moveQuestion_0 : cX3_moveQuestion.data.toList.drop 0 = dktX3_moveQuestion_0 := by decide +kernel
theorem dksX3_moveQuestion_1 : cX3_moveQuestion.data.toList.drop 24 = dktX3_moveQuestion_1 := dk_seg dksX3_moveQuestion_0 24 rfl rfl
theorem dksX3_moveQuestion_2 : cX3_moveQuestion.data.toList.drop 47 = dktX3_moveQuestion_2 := dk_seg dksX3_moveQuestion_1 23 rfl rfl
theorem dksX3_moveQuestion_3 : cX3_moveQuestion.data.toList.drop 71 = dktX3_moveQuestion_3 := dk_seg dksX3_moveQuestion_2 24 rfl rfl
theorem dksX3_moveQuestion_4 : cX3_moveQuestion.data.toList.drop 95 = dktX3_moveQuestion_4 := dk_seg dksX3_moveQuestion_3 24 rfl rfl
theorem dksX3_moveQuestion_5 : cX3_moveQuestion.data.toList.drop 119 = dktX3_moveQuestion_5 := dk_seg dksX3_moveQuestion_4 24 rfl rfl
theorem dksX3_moveQuestion_6 : cX3_moveQuestion.data.toList.drop 143 = dktX3_moveQuestion_6 := dk_seg dksX3_moveQuestion_5 24 rfl rfl
theorem dksX3_moveQuestion_7 : cX3_moveQuestion.data.toList.drop 167 = dktX3_moveQuestion_7 := dk_seg dksX3_moveQuestion_6 24 rfl rfl
theorem dX3_moveQuestion_0 : decode cX3_moveQuestion 0 = .ok (.iload_n 1, 1) := dk_27 (dk_at dksX3_moveQuestion_0 0 rfl rfl)
theorem dX3_moveQuestion_1 : decode cX3_moveQuestion 1 = .ok (.aload_n 0, 1) := dk_42 (dk_at dksX3_moveQuestion_0 1 rfl rfl)
theorem dX3_moveQuestion_2 : decode cX3_moveQuestion 2 = .ok (.getfield 366, 3) := dk_180 1 110 (dk_at dksX3_moveQuestion_0 2 rfl rfl)
theorem dX3_moveQuestion_5 : decode cX3_moveQuestion 5 = .ok (.isub, 1) := dk_100 (dk_at dksX3_moveQuestion_0 5 rfl rfl)
theorem dX3_moveQuestion_6 : decode cX3_moveQuestion 6 = .ok (.istore_n 2, 1) := dk_61 (dk_at dksX3_moveQuestion_0 6 rfl rfl)
theorem dX3_moveQuestion_7 : decode cX3_moveQuestion 7 = .ok (.iload_n 1, 1) := dk_27 (dk_at dksX3_moveQuestion_0 7 rfl rfl)
theorem dX3_moveQuestion_8 : decode cX3_moveQuestion 8 = .ok (.istore_n 3, 1) := dk_62 (dk_at dksX3_moveQuestion_0 8 rfl rfl)
theorem dX3_moveQuestion_9 : decode cX3_moveQuestion 9 = .ok (.iload_n 3, 1) := dk_29 (dk_at dksX3_moveQuestion_0 9 rfl rfl)
theorem dX3_moveQuestion_10 : decode cX3_moveQuestion 10 = .ok (.aload_n 0, 1) := dk_42 (dk_at dksX3_moveQuestion_0 10 rfl rfl)
theorem dX3_moveQuestion_11 : decode cX3_moveQuestion 11 = .ok (.getfield 312, 3) := dk_180 1 56 (dk_at dksX3_moveQuestion_0 11 rfl rfl)
theorem dX3_moveQuestion_14 : decode cX3_moveQuestion 14 = .ok (.if_icmp .ge 152, 3) := dk_162 0 152 (dk_at dksX3_moveQuestion_0 14 rfl rfl)
theorem dX3_moveQuestion_17 : decode cX3_moveQuestion 17 = .ok (.aload_n 0, 1) := dk_42 (dk_at dksX3_moveQuestion_0 17 rfl rfl)
theorem dX3_moveQuestion_18 : decode cX3_moveQuestion 18 = .ok (.getfield 26, 3) := dk_180 0 26 (dk_at dksX3_moveQuestion_0 18 rfl rfl)
theorem dX3_moveQuestion_21 : decode cX3_moveQuestion 21 = .ok (.iload_n 3, 1) := dk_29 (dk_at dksX3_moveQuestion_0 21 rfl rfl)
theorem dX3_moveQuestion_22 : decode cX3_moveQuestion 22 = .ok (.iload_n 2, 1) := dk_28 (dk_at dksX3_moveQuestion_0 22 rfl rfl)
theorem dX3_moveQuestion_23 : decode cX3_moveQuestion 23 = .ok (.isub, 1) := dk_100 (dk_at dksX3_moveQuestion_0 23 rfl rfl)
theorem dX3_moveQuestion_24 : decode cX3_moveQuestion 24 = .ok (.aload_n 0, 1) := dk_42 (dk_at dksX3_moveQuestion_1 0 rfl rfl)
theorem dX3_moveQuestion_25 : decode cX3_moveQuestion 25 = .ok (.getfield 26, 3) := dk_180 0 26 (dk_at dksX3_moveQuestion_1 1 rfl rfl)
theorem dX3_moveQuestion_28 : decode cX3_moveQuestion 28 = .ok (.iload_n 3, 1) := dk_29 (dk_at dksX3_moveQuestion_1 4 rfl rfl)
theorem dX3_moveQuestion_29 : decode cX3_moveQuestion 29 = .ok (.iaload, 1) := dk_46 (dk_at dksX3_moveQuestion_1 5 rfl rfl)
theorem dX3_moveQuestion_30 : decode cX3_moveQuestion 30 = .ok (.iastore, 1) := dk_79 (dk_at dksX3_moveQuestion_1 6 rfl rfl)
theorem dX3_moveQuestion_31 : decode cX3_moveQuestion 31 = .ok (.aload_n 0, 1) := dk_42 (dk_at dksX3_moveQuestion_1 7 rfl rfl)
theorem dX3_moveQuestion_32 : decode cX3_moveQuestion 32 = .ok (.getfield 29, 3) := dk_180 0 29 (dk_at dksX3_moveQuestion_1 8 rfl rfl)
theorem dX3_moveQuestion_35 : decode cX3_moveQuestion 35 = .ok (.iload_n 3, 1) := dk_29 (dk_at dksX3_moveQuestion_1 11 rfl rfl)
theorem dX3_moveQuestion_36 : decode cX3_moveQuestion 36 = .ok (.iload_n 2, 1) := dk_28 (dk_at dksX3_moveQuestion_1 12 rfl rfl)
theorem dX3_moveQuestion_37 : decode cX3_moveQuestion 37 = .ok (.isub, 1) := dk_100 (dk_at dksX3_moveQuestion_1 13 rfl rfl)
theorem dX3_moveQuestion_38 : decode cX3_moveQuestion 38 = .ok (.aload_n 0, 1) := dk_42 (dk_at dksX3_moveQuestion_1 14 rfl rfl)
theorem dX3_moveQuestion_39 : decode cX3_moveQuestion 39 = .ok (.getfield 29, 3) := dk_180 0 29 (dk_at dksX3_moveQuestion_1 15 rfl rfl)
theorem dX3_moveQuestion_42 : decode cX3_moveQuestion 42 = .ok (.iload_n 3, 1) := dk_29 (dk_at dksX3_moveQuestion_1 18 rfl rfl)
theorem dX3_moveQuestion_43 : decode cX3_moveQuestion 43 = .ok (.iaload, 1) := dk_46 (dk_at dksX3_moveQuestion_1 19 rfl rfl)
theorem dX3_moveQuestion_44 : decode cX3_moveQuestion 44 = .ok (.iload_n 1, 1) := dk_27 (dk_at dksX3_moveQuestion_1 20 rfl rfl)
theorem dX3_moveQuestion_45 : decode cX3_moveQuestion 45 = .ok (.iload_n 2, 1) := dk_28 (dk_at dksX3_moveQuestion_1 21 rfl rfl)
theorem dX3_moveQuestion_46 : decode cX3_moveQuestion 46 = .ok (.aload_n 0, 1) := dk_42 (dk_at dksX3_moveQuestion_1 22 rfl rfl)
theorem dX3_moveQuestion_47 : decode cX3_moveQuestion 47 = .ok (.getfield 26, 3) := dk_180 0 26 (dk_at dksX3_moveQuestion_2 0 rfl rfl)
theorem dX3_moveQuestion_50 : decode cX3_moveQuestion 50 = .ok (.iload_n 3, 1) := dk_29 (dk_at dksX3_moveQuestion_2 3 rfl rfl)
theorem dX3_moveQuestion_51 : decode cX3_moveQuestion 51 = .ok (.iaload, 1) := dk_46 (dk_at dksX3_moveQuestion_2 4 rfl rfl)
theorem dX3_moveQuestion_52 : decode cX3_moveQuestion 52 = .ok (.iconst 1, 1) := dk_4 (dk_at dksX3_moveQuestion_2 5 rfl rfl)
theorem dX3_moveQuestion_53 : decode cX3_moveQuestion 53 = .ok (.invokestatic 483, 3) := dk_184 1 227 (dk_at dksX3_moveQuestion_2 6 rfl rfl)
theorem dX3_moveQuestion_56 : decode cX3_moveQuestion 56 = .ok (.invokestatic 486, 3) := dk_184 1 230 (dk_at dksX3_moveQuestion_2 9 rfl rfl)
theorem dX3_moveQuestion_59 : decode cX3_moveQuestion 59 = .ok (.iastore, 1) := dk_79 (dk_at dksX3_moveQuestion_2 12 rfl rfl)
theorem dX3_moveQuestion_60 : decode cX3_moveQuestion 60 = .ok (.aload_n 0, 1) := dk_42 (dk_at dksX3_moveQuestion_2 13 rfl rfl)
theorem dX3_moveQuestion_61 : decode cX3_moveQuestion 61 = .ok (.getfield 32, 3) := dk_180 0 32 (dk_at dksX3_moveQuestion_2 14 rfl rfl)
theorem dX3_moveQuestion_64 : decode cX3_moveQuestion 64 = .ok (.iload_n 3, 1) := dk_29 (dk_at dksX3_moveQuestion_2 17 rfl rfl)
theorem dX3_moveQuestion_65 : decode cX3_moveQuestion 65 = .ok (.iload_n 2, 1) := dk_28 (dk_at dksX3_moveQuestion_2 18 rfl rfl)
theorem dX3_moveQuestion_66 : decode cX3_moveQuestion 66 = .ok (.isub, 1) := dk_100 (dk_at dksX3_moveQuestion_2 19 rfl rfl)
theorem dX3_moveQuestion_67 : decode cX3_moveQuestion 67 = .ok (.aload_n 0, 1) := dk_42 (dk_at dksX3_moveQuestion_2 20 rfl rfl)
theorem dX3_moveQuestion_68 : decode cX3_moveQuestion 68 = .ok (.getfield 32, 3) := dk_180 0 32 (dk_at dksX3_moveQuestion_2 21 rfl rfl)
theorem dX3_moveQuestion_71 : decode cX3_moveQuestion 71 = .ok (.iload_n 3, 1) := dk_29 (dk_at dksX3_moveQuestion_3 0 rfl rfl)
theorem dX3_moveQuestion_72 : decode cX3_moveQuestion 72 = .ok (.iaload, 1) := dk_46 (dk_at dksX3_moveQuestion_3 1 rfl rfl)
theorem dX3_moveQuestion_73 : decode cX3_moveQuestion 73 = .ok (.iload_n 1, 1) := dk_27 (dk_at dksX3_moveQuestion_3 2 rfl rfl)
theorem dX3_moveQuestion_74 : decode cX3_moveQuestion 74 = .ok (.iload_n 2, 1) := dk_28 (dk_at dksX3_moveQuestion_3 3 rfl rfl)
theorem dX3_moveQuestion_75 : decode cX3_moveQuestion 75 = .ok (.aload_n 0, 1) := dk_42 (dk_at dksX3_moveQuestion_3 4 rfl rfl)
theorem dX3_moveQuestion_76 : decode cX3_moveQuestion 76 = .ok (.getfield 26, 3) := dk_180 0 26 (dk_at dksX3_moveQuestion_3 5 rfl rfl)
theorem dX3_moveQuestion_79 : decode cX3_moveQuestion 79 = .ok (.iload_n 3, 1) := dk_29 (dk_at dksX3_moveQuestion_3 8 rfl rfl)
theorem dX3_moveQuestion_80 : decode cX3_moveQuestion 80 = .ok (.iaload, 1) := dk_46 (dk_at dksX3_moveQuestion_3 9 rfl rfl)
theorem dX3_moveQuestion_81 : decode cX3_moveQuestion 81 = .ok (.iconst 2, 1) := dk_5 (dk_at dksX3_moveQuestion_3 10 rfl rfl)
theorem dX3_moveQuestion_82 : decode cX3_moveQuestion 82 = .ok (.invokestatic 483, 3) := dk_184 1 227 (dk_at dksX3_moveQuestion_3 11 rfl rfl)
theorem dX3_moveQuestion_85 : decode cX3_moveQuestion 85 = .ok (.invokestatic 486, 3) := dk_184 1 230 (dk_at dksX3_moveQuestion_3 14 rfl rfl)
theorem dX3_moveQuestion_88 : decode cX3_moveQuestion 88 = .ok (.iastore, 1) := dk_79 (dk_at dksX3_moveQuestion_3 17 rfl rfl)
theorem dX3_moveQuestion_89 : decode cX3_moveQuestion 89 = .ok (.aload_n 0, 1) := dk_42 (dk_at dksX3_moveQuestion_3 18 rfl rfl)
theorem dX3_moveQuestion_90 : decode cX3_moveQuestion 90 = .ok (.getfield 35, 3) := dk_180 0 35 (dk_at dksX3_moveQuestion_3 19 rfl rfl)
theorem dX3_moveQuestion_93 : decode cX3_moveQuestion 93 = .ok (.iload_n 3, 1) := dk_29 (dk_at dksX3_moveQuestion_3 22 rfl rfl)
theorem dX3_moveQuestion_94 : decode cX3_moveQuestion 94 = .ok (.iload_n 2, 1) := dk_28 (dk_at dksX3_moveQuestion_3 23 rfl rfl)
theorem dX3_moveQuestion_95 : decode cX3_moveQuestion 95 = .ok (.isub, 1) := dk_100 (dk_at dksX3_moveQuestion_4 0 rfl rfl)
theorem dX3_moveQuestion_96 : decode cX3_moveQuestion 96 = .ok (.aload_n 0, 1) := dk_42 (dk_at dksX3_moveQuestion_4 1 rfl rfl)
theorem dX3_moveQuestion_97 : decode cX3_moveQuestion 97 = .ok (.getfield 35, 3) := dk_180 0 35 (dk_at dksX3_moveQuestion_4 2 rfl rfl)
theorem dX3_moveQuestion_100 : decode cX3_moveQuestion 100 = .ok (.iload_n 3, 1) := dk_29 (dk_at dksX3_moveQuestion_4 5 rfl rfl)
theorem dX3_moveQuestion_101 : decode cX3_moveQuestion 101 = .ok (.iaload, 1) := dk_46 (dk_at dksX3_moveQuestion_4 6 rfl rfl)
theorem dX3_moveQuestion_102 : decode cX3_moveQuestion 102 = .ok (.iload_n 1, 1) := dk_27 (dk_at dksX3_moveQuestion_4 7 rfl rfl)
theorem dX3_moveQuestion_103 : decode cX3_moveQuestion 103 = .ok (.iload_n 2, 1) := dk_28 (dk_at dksX3_moveQuestion_4 8 rfl rfl)
theorem dX3_moveQuestion_104 : decode cX3_moveQuestion 104 = .ok (.aload_n 0, 1) := dk_42 (dk_at dksX3_moveQuestion_4 9 rfl rfl)
theorem dX3_moveQuestion_105 : decode cX3_moveQuestion 105 = .ok (.getfield 26, 3) := dk_180 0 26 (dk_at dksX3_moveQuestion_4 10 rfl rfl)
theorem dX3_moveQuestion_108 : decode cX3_moveQuestion 108 = .ok (.iload_n 3, 1) := dk_29 (dk_at dksX3_moveQuestion_4 13 rfl rfl)
theorem dX3_moveQuestion_109 : decode cX3_moveQuestion 109 = .ok (.iaload, 1) := dk_46 (dk_at dksX3_moveQuestion_4 14 rfl rfl)
theorem dX3_moveQuestion_110 : decode cX3_moveQuestion 110 = .ok (.iconst 3, 1) := dk_6 (dk_at dksX3_moveQuestion_4 15 rfl rfl)
theorem dX3_moveQuestion_111 : decode cX3_moveQuestion 111 = .ok (.invokestatic 483, 3) := dk_184 1 227 (dk_at dksX3_moveQuestion_4 16 rfl rfl)
theorem dX3_moveQuestion_114 : decode cX3_moveQuestion 114 = .ok (.invokestatic 486, 3) := dk_184 1 230 (dk_at dksX3_moveQuestion_4 19 rfl rfl)
theorem dX3_moveQuestion_117 : decode cX3_moveQuestion 117 = .ok (.iastore, 1) := dk_79 (dk_at dksX3_moveQuestion_4 22 rfl rfl)
theorem dX3_moveQuestion_118 : decode cX3_moveQuestion 118 = .ok (.aload_n 0, 1) := dk_42 (dk_at dksX3_moveQuestion_4 23 rfl rfl)
theorem dX3_moveQuestion_119 : decode cX3_moveQuestion 119 = .ok (.getfield 38, 3) := dk_180 0 38 (dk_at dksX3_moveQuestion_5 0 rfl rfl)
theorem dX3_moveQuestion_122 : decode cX3_moveQuestion 122 = .ok (.iload_n 3, 1) := dk_29 (dk_at dksX3_moveQuestion_5 3 rfl rfl)
theorem dX3_moveQuestion_123 : decode cX3_moveQuestion 123 = .ok (.iload_n 2, 1) := dk_28 (dk_at dksX3_moveQuestion_5 4 rfl rfl)
theorem dX3_moveQuestion_124 : decode cX3_moveQuestion 124 = .ok (.isub, 1) := dk_100 (dk_at dksX3_moveQuestion_5 5 rfl rfl)
theorem dX3_moveQuestion_125 : decode cX3_moveQuestion 125 = .ok (.aload_n 0, 1) := dk_42 (dk_at dksX3_moveQuestion_5 6 rfl rfl)
theorem dX3_moveQuestion_126 : decode cX3_moveQuestion 126 = .ok (.getfield 38, 3) := dk_180 0 38 (dk_at dksX3_moveQuestion_5 7 rfl rfl)
theorem dX3_moveQuestion_129 : decode cX3_moveQuestion 129 = .ok (.iload_n 3, 1) := dk_29 (dk_at dksX3_moveQuestion_5 10 rfl rfl)
theorem dX3_moveQuestion_130 : decode cX3_moveQuestion 130 = .ok (.iaload, 1) := dk_46 (dk_at dksX3_moveQuestion_5 11 rfl rfl)
theorem dX3_moveQuestion_131 : decode cX3_moveQuestion 131 = .ok (.iastore, 1) := dk_79 (dk_at dksX3_moveQuestion_5 12 rfl rfl)
theorem dX3_moveQuestion_132 : decode cX3_moveQuestion 132 = .ok (.aload_n 0, 1) := dk_42 (dk_at dksX3_moveQuestion_5 13 rfl rfl)
theorem dX3_moveQuestion_133 : decode cX3_moveQuestion 133 = .ok (.getfield 41, 3) := dk_180 0 41 (dk_at dksX3_moveQuestion_5 14 rfl rfl)
theorem dX3_moveQuestion_136 : decode cX3_moveQuestion 136 = .ok (.iload_n 3, 1) := dk_29 (dk_at dksX3_moveQuestion_5 17 rfl rfl)
theorem dX3_moveQuestion_137 : decode cX3_moveQuestion 137 = .ok (.iload_n 2, 1) := dk_28 (dk_at dksX3_moveQuestion_5 18 rfl rfl)
theorem dX3_moveQuestion_138 : decode cX3_moveQuestion 138 = .ok (.isub, 1) := dk_100 (dk_at dksX3_moveQuestion_5 19 rfl rfl)
theorem dX3_moveQuestion_139 : decode cX3_moveQuestion 139 = .ok (.aload_n 0, 1) := dk_42 (dk_at dksX3_moveQuestion_5 20 rfl rfl)
theorem dX3_moveQuestion_140 : decode cX3_moveQuestion 140 = .ok (.getfield 41, 3) := dk_180 0 41 (dk_at dksX3_moveQuestion_5 21 rfl rfl)
theorem dX3_moveQuestion_143 : decode cX3_moveQuestion 143 = .ok (.iload_n 3, 1) := dk_29 (dk_at dksX3_moveQuestion_6 0 rfl rfl)
theorem dX3_moveQuestion_144 : decode cX3_moveQuestion 144 = .ok (.iaload, 1) := dk_46 (dk_at dksX3_moveQuestion_6 1 rfl rfl)
theorem dX3_moveQuestion_145 : decode cX3_moveQuestion 145 = .ok (.iastore, 1) := dk_79 (dk_at dksX3_moveQuestion_6 2 rfl rfl)
theorem dX3_moveQuestion_146 : decode cX3_moveQuestion 146 = .ok (.aload_n 0, 1) := dk_42 (dk_at dksX3_moveQuestion_6 3 rfl rfl)
theorem dX3_moveQuestion_147 : decode cX3_moveQuestion 147 = .ok (.getfield 44, 3) := dk_180 0 44 (dk_at dksX3_moveQuestion_6 4 rfl rfl)
theorem dX3_moveQuestion_150 : decode cX3_moveQuestion 150 = .ok (.iload_n 3, 1) := dk_29 (dk_at dksX3_moveQuestion_6 7 rfl rfl)
theorem dX3_moveQuestion_151 : decode cX3_moveQuestion 151 = .ok (.iload_n 2, 1) := dk_28 (dk_at dksX3_moveQuestion_6 8 rfl rfl)
theorem dX3_moveQuestion_152 : decode cX3_moveQuestion 152 = .ok (.isub, 1) := dk_100 (dk_at dksX3_moveQuestion_6 9 rfl rfl)
theorem dX3_moveQuestion_153 : decode cX3_moveQuestion 153 = .ok (.aload_n 0, 1) := dk_42 (dk_at dksX3_moveQuestion_6 10 rfl rfl)
theorem dX3_moveQuestion_154 : decode cX3_moveQuestion 154 = .ok (.getfield 44, 3) := dk_180 0 44 (dk_at dksX3_moveQuestion_6 11 rfl rfl)
theorem dX3_moveQuestion_157 : decode cX3_moveQuestion 157 = .ok (.iload_n 3, 1) := dk_29 (dk_at dksX3_moveQuestion_6 14 rfl rfl)
theorem dX3_moveQuestion_158 : decode cX3_moveQuestion 158 = .ok (.iaload, 1) := dk_46 (dk_at dksX3_moveQuestion_6 15 rfl rfl)
theorem dX3_moveQuestion_159 : decode cX3_moveQuestion 159 = .ok (.iastore, 1) := dk_79 (dk_at dksX3_moveQuestion_6 16 rfl rfl)
theorem dX3_moveQuestion_160 : decode cX3_moveQuestion 160 = .ok (.iinc 3 1, 3) := dk_132 3 1 (dk_at dksX3_moveQuestion_6 17 rfl rfl)
theorem dX3_moveQuestion_163 : decode cX3_moveQuestion 163 = .ok (.goto (-154), 3) := dk_167 255 102 (dk_at dksX3_moveQuestion_6 20 rfl rfl)
theorem dX3_moveQuestion_166 : decode cX3_moveQuestion 166 = .ok (.aload_n 0, 1) := dk_42 (dk_at dksX3_moveQuestion_6 23 rfl rfl)
theorem dX3_moveQuestion_167 : decode cX3_moveQuestion 167 = .ok (.dup, 1) := dk_89 (dk_at dksX3_moveQuestion_7 0 rfl rfl)
theorem dX3_moveQuestion_168 : decode cX3_moveQuestion 168 = .ok (.getfield 312, 3) := dk_180 1 56 (dk_at dksX3_moveQuestion_7 1 rfl rfl)
theorem dX3_moveQuestion_171 : decode cX3_moveQuestion 171 = .ok (.iload_n 2, 1) := dk_28 (dk_at dksX3_moveQuestion_7 4 rfl rfl)
theorem dX3_moveQuestion_172 : decode cX3_moveQuestion 172 = .ok (.isub, 1) := dk_100 (dk_at dksX3_moveQuestion_7 5 rfl rfl)
theorem dX3_moveQuestion_173 : decode cX3_moveQuestion 173 = .ok (.putfield 312, 3) := dk_181 1 56 (dk_at dksX3_moveQuestion_7 6 rfl rfl)
theorem dX3_moveQuestion_176 : decode cX3_moveQuestion 176 = .ok (.aload_n 0, 1) := dk_42 (dk_at dksX3_moveQuestion_7 9 rfl rfl)
theorem dX3_moveQuestion_177 : decode cX3_moveQuestion 177 = .ok (.getfield 309, 3) := dk_180 1 53 (dk_at dksX3_moveQuestion_7 10 rfl rfl)
theorem dX3_moveQuestion_180 : decode cX3_moveQuestion 180 = .ok (.iload_n 2, 1) := dk_28 (dk_at dksX3_moveQuestion_7 13 rfl rfl)
theorem dX3_moveQuestion_181 : decode cX3_moveQuestion 181 = .ok (.isub, 1) := dk_100 (dk_at dksX3_moveQuestion_7 14 rfl rfl)
theorem dX3_moveQuestion_182 : decode cX3_moveQuestion 182 = .ok (.ireturn, 1) := dk_172 (dk_at dksX3_moveQuestion_7 15 rfl rfl)
abbrev cX3_isPart : ByteArray := prog_34_method_95_code
def yX3_isPart : MethodName := ⟨RX3, "isPart", "(II)Z"⟩
def dkwX3_isPart_1 : List UInt8 := [160, 0, 7, 4, 167, 0, 4, 3, 172]
abbrev dktX3_isPart_1 : List UInt8 := dkwX3_isPart_1 ++ []
def dkwX3_isPart_0 : List UInt8 := [26, 16, 20, 159, 0, 9, 26, 16, 21, 160, 0, 5, 3, 172, 27, 6, 161, 0, 9, 26, 16, 33]
abbrev dktX3_isPart_0 : List UInt8 := dkwX3_isPart_0 ++ dktX3_isPart_1
theorem dksX3_isPart_0 : cX3_isPart.data.toList.drop 0 = dktX3_isPart_0 := by decide +kernel
theorem dksX3_isPart_1 : cX3_isPart.data.toList.drop 22 = dktX3_isPart_1 := dk_seg dksX3_isPart_0 22 rfl rfl
theorem dX3_isPart_0 : decode cX3_isPart 0 = .ok (.iload_n 0, 1) := dk_26 (dk_at dksX3_isPart_0 0 rfl rfl)
theorem dX3_isPart_1 : decode cX3_isPart 1 = .ok (.bipush 20, 2) := dk_16 20 (dk_at dksX3_isPart_0 1 rfl rfl)
theorem dX3_isPart_3 : decode cX3_isPart 3 = .ok (.if_icmp .eq 9, 3) := dk_159 0 9 (dk_at dksX3_isPart_0 3 rfl rfl)
theorem dX3_isPart_6 : decode cX3_isPart 6 = .ok (.iload_n 0, 1) := dk_26 (dk_at dksX3_isPart_0 6 rfl rfl)
theorem dX3_isPart_7 : decode cX3_isPart 7 = .ok (.bipush 21, 2) := dk_16 21 (dk_at dksX3_isPart_0 7 rfl rfl)
theorem dX3_isPart_9 : decode cX3_isPart 9 = .ok (.if_icmp .ne 5, 3) := dk_160 0 5 (dk_at dksX3_isPart_0 9 rfl rfl)
theorem dX3_isPart_12 : decode cX3_isPart 12 = .ok (.iconst 0, 1) := dk_3 (dk_at dksX3_isPart_0 12 rfl rfl)
theorem dX3_isPart_13 : decode cX3_isPart 13 = .ok (.ireturn, 1) := dk_172 (dk_at dksX3_isPart_0 13 rfl rfl)
theorem dX3_isPart_14 : decode cX3_isPart 14 = .ok (.iload_n 1, 1) := dk_27 (dk_at dksX3_isPart_0 14 rfl rfl)
theorem dX3_isPart_15 : decode cX3_isPart 15 = .ok (.iconst 3, 1) := dk_6 (dk_at dksX3_isPart_0 15 rfl rfl)
theorem dX3_isPart_16 : decode cX3_isPart 16 = .ok (.if_icmp .lt 9, 3) := dk_161 0 9 (dk_at dksX3_isPart_0 16 rfl rfl)
theorem dX3_isPart_19 : decode cX3_isPart 19 = .ok (.iload_n 0, 1) := dk_26 (dk_at dksX3_isPart_0 19 rfl rfl)
theorem dX3_isPart_20 : decode cX3_isPart 20 = .ok (.bipush 33, 2) := dk_16 33 (dk_at dksX3_isPart_0 20 rfl rfl)
theorem dX3_isPart_22 : decode cX3_isPart 22 = .ok (.if_icmp .ne 7, 3) := dk_160 0 7 (dk_at dksX3_isPart_1 0 rfl rfl)
theorem dX3_isPart_25 : decode cX3_isPart 25 = .ok (.iconst 1, 1) := dk_4 (dk_at dksX3_isPart_1 3 rfl rfl)
theorem dX3_isPart_26 : decode cX3_isPart 26 = .ok (.goto 4, 3) := dk_167 0 4 (dk_at dksX3_isPart_1 4 rfl rfl)
theorem dX3_isPart_29 : decode cX3_isPart 29 = .ok (.iconst 0, 1) := dk_3 (dk_at dksX3_isPart_1 7 rfl rfl)
theorem dX3_isPart_30 : decode cX3_isPart 30 = .ok (.ireturn, 1) := dk_172 (dk_at dksX3_isPart_1 8 rfl rfl)
abbrev cX3_moved : ByteArray := prog_34_method_94_code
def yX3_moved : MethodName := ⟨RX3, "moved", "(IIIZ)I"⟩
def dkwX3_moved_0 : List UInt8 := [29, 153, 0, 14, 26, 27, 161, 0, 9, 26, 28, 100, 167, 0, 4, 26, 172]
abbrev dktX3_moved_0 : List UInt8 := dkwX3_moved_0 ++ []
theorem dksX3_moved_0 : cX3_moved.data.toList.drop 0 = dktX3_moved_0 := by decide +kernel
theorem dX3_moved_0 : decode cX3_moved 0 = .ok (.iload_n 3, 1) := dk_29 (dk_at dksX3_moved_0 0 rfl rfl)
theorem dX3_moved_1 : decode cX3_moved 1 = .ok (.ifCond .eq 14, 3) := dk_153 0 14 (dk_at dksX3_moved_0 1 rfl rfl)
theorem dX3_moved_4 : decode cX3_moved 4 = .ok (.iload_n 0, 1) := dk_26 (dk_at dksX3_moved_0 4 rfl rfl)
theorem dX3_moved_5 : decode cX3_moved 5 = .ok (.iload_n 1, 1) := dk_27 (dk_at dksX3_moved_0 5 rfl rfl)
theorem dX3_moved_6 : decode cX3_moved 6 = .ok (.if_icmp .lt 9, 3) := dk_161 0 9 (dk_at dksX3_moved_0 6 rfl rfl)
theorem dX3_moved_9 : decode cX3_moved 9 = .ok (.iload_n 0, 1) := dk_26 (dk_at dksX3_moved_0 9 rfl rfl)
theorem dX3_moved_10 : decode cX3_moved 10 = .ok (.iload_n 2, 1) := dk_28 (dk_at dksX3_moved_0 10 rfl rfl)
theorem dX3_moved_11 : decode cX3_moved 11 = .ok (.isub, 1) := dk_100 (dk_at dksX3_moved_0 11 rfl rfl)
theorem dX3_moved_12 : decode cX3_moved 12 = .ok (.goto 4, 3) := dk_167 0 4 (dk_at dksX3_moved_0 12 rfl rfl)
theorem dX3_moved_15 : decode cX3_moved 15 = .ok (.iload_n 0, 1) := dk_26 (dk_at dksX3_moved_0 15 rfl rfl)
theorem dX3_moved_16 : decode cX3_moved 16 = .ok (.ireturn, 1) := dk_172 (dk_at dksX3_moved_0 16 rfl rfl)
abbrev cX3_answer : ByteArray := prog_34_method_96_code
def yX3_answer : MethodName := ⟨RX3, "answer", "(I)Z"⟩
def dkwX3_answer_3 : List UInt8 := [182, 1, 151, 172]
abbrev dktX3_answer_3 : List UInt8 := dkwX3_answer_3 ++ []
def dkwX3_answer_2 : List UInt8 := [42, 180, 1, 110, 42, 180, 1, 221, 28, 182, 1, 186, 132, 2, 1, 167, 255, 235, 42, 42, 180, 0, 73, 27]
abbrev dktX3_answer_2 : List UInt8 := dkwX3_answer_2 ++ dktX3_answer_3
def dkwX3_answer_1 : List UInt8 := [167, 0, 4, 3, 181, 0, 91, 42, 180, 0, 91, 153, 0, 5, 3, 172, 3, 61, 28, 27, 163, 0, 22, 42]
abbrev dktX3_answer_1 : List UInt8 := dkwX3_answer_1 ++ dktX3_answer_2
def dkwX3_answer_0 : List UInt8 := [42, 42, 27, 182, 1, 206, 154, 0, 7, 4, 167, 0, 16, 42, 180, 0, 73, 2, 160, 0, 7, 5]
abbrev dktX3_answer_0 : List UInt8 := dkwX3_answer_0 ++ dktX3_answer_1
theorem dksX3_answer_0 : cX3_answer.data.toList.drop 0 = dktX3_answer_0 := by decide +kernel
theorem dksX3_answer_1 : cX3_answer.data.toList.drop 22 = dktX3_answer_1 := dk_seg dksX3_answer_0 22 rfl rfl
theorem dksX3_answer_2 : cX3_answer.data.toList.drop 46 = dktX3_answer_2 := dk_seg dksX3_answer_1 24 rfl rfl
theorem dksX3_answer_3 : cX3_answer.data.toList.drop 70 = dktX3_answer_3 := dk_seg dksX3_answer_2 24 rfl rfl
theorem dX3_answer_0 : decode cX3_answer 0 = .ok (.aload_n 0, 1) := dk_42 (dk_at dksX3_answer_0 0 rfl rfl)
theorem dX3_answer_1 : decode cX3_answer 1 = .ok (.aload_n 0, 1) := dk_42 (dk_at dksX3_answer_0 1 rfl rfl)
theorem dX3_answer_2 : decode cX3_answer 2 = .ok (.iload_n 1, 1) := dk_27 (dk_at dksX3_answer_0 2 rfl rfl)
theorem dX3_answer_3 : decode cX3_answer 3 = .ok (.invokevirtual 462, 3) := dk_182 1 206 (dk_at dksX3_answer_0 3 rfl rfl)
theorem dX3_answer_6 : decode cX3_answer 6 = .ok (.ifCond .ne 7, 3) := dk_154 0 7 (dk_at dksX3_answer_0 6 rfl rfl)
theorem dX3_answer_9 : decode cX3_answer 9 = .ok (.iconst 1, 1) := dk_4 (dk_at dksX3_answer_0 9 rfl rfl)
theorem dX3_answer_10 : decode cX3_answer 10 = .ok (.goto 16, 3) := dk_167 0 16 (dk_at dksX3_answer_0 10 rfl rfl)
theorem dX3_answer_13 : decode cX3_answer 13 = .ok (.aload_n 0, 1) := dk_42 (dk_at dksX3_answer_0 13 rfl rfl)
theorem dX3_answer_14 : decode cX3_answer 14 = .ok (.getfield 73, 3) := dk_180 0 73 (dk_at dksX3_answer_0 14 rfl rfl)
theorem dX3_answer_17 : decode cX3_answer 17 = .ok (.iconst (-1), 1) := dk_2 (dk_at dksX3_answer_0 17 rfl rfl)
theorem dX3_answer_18 : decode cX3_answer 18 = .ok (.if_icmp .ne 7, 3) := dk_160 0 7 (dk_at dksX3_answer_0 18 rfl rfl)
theorem dX3_answer_21 : decode cX3_answer 21 = .ok (.iconst 2, 1) := dk_5 (dk_at dksX3_answer_0 21 rfl rfl)
theorem dX3_answer_22 : decode cX3_answer 22 = .ok (.goto 4, 3) := dk_167 0 4 (dk_at dksX3_answer_1 0 rfl rfl)
theorem dX3_answer_25 : decode cX3_answer 25 = .ok (.iconst 0, 1) := dk_3 (dk_at dksX3_answer_1 3 rfl rfl)
theorem dX3_answer_26 : decode cX3_answer 26 = .ok (.putfield 91, 3) := dk_181 0 91 (dk_at dksX3_answer_1 4 rfl rfl)
theorem dX3_answer_29 : decode cX3_answer 29 = .ok (.aload_n 0, 1) := dk_42 (dk_at dksX3_answer_1 7 rfl rfl)
theorem dX3_answer_30 : decode cX3_answer 30 = .ok (.getfield 91, 3) := dk_180 0 91 (dk_at dksX3_answer_1 8 rfl rfl)
theorem dX3_answer_33 : decode cX3_answer 33 = .ok (.ifCond .eq 5, 3) := dk_153 0 5 (dk_at dksX3_answer_1 11 rfl rfl)
theorem dX3_answer_36 : decode cX3_answer 36 = .ok (.iconst 0, 1) := dk_3 (dk_at dksX3_answer_1 14 rfl rfl)
theorem dX3_answer_37 : decode cX3_answer 37 = .ok (.ireturn, 1) := dk_172 (dk_at dksX3_answer_1 15 rfl rfl)
theorem dX3_answer_38 : decode cX3_answer 38 = .ok (.iconst 0, 1) := dk_3 (dk_at dksX3_answer_1 16 rfl rfl)
theorem dX3_answer_39 : decode cX3_answer 39 = .ok (.istore_n 2, 1) := dk_61 (dk_at dksX3_answer_1 17 rfl rfl)
theorem dX3_answer_40 : decode cX3_answer 40 = .ok (.iload_n 2, 1) := dk_28 (dk_at dksX3_answer_1 18 rfl rfl)
theorem dX3_answer_41 : decode cX3_answer 41 = .ok (.iload_n 1, 1) := dk_27 (dk_at dksX3_answer_1 19 rfl rfl)
theorem dX3_answer_42 : decode cX3_answer 42 = .ok (.if_icmp .gt 22, 3) := dk_163 0 22 (dk_at dksX3_answer_1 20 rfl rfl)
theorem dX3_answer_45 : decode cX3_answer 45 = .ok (.aload_n 0, 1) := dk_42 (dk_at dksX3_answer_1 23 rfl rfl)
theorem dX3_answer_46 : decode cX3_answer 46 = .ok (.aload_n 0, 1) := dk_42 (dk_at dksX3_answer_2 0 rfl rfl)
theorem dX3_answer_47 : decode cX3_answer 47 = .ok (.getfield 366, 3) := dk_180 1 110 (dk_at dksX3_answer_2 1 rfl rfl)
theorem dX3_answer_50 : decode cX3_answer 50 = .ok (.aload_n 0, 1) := dk_42 (dk_at dksX3_answer_2 4 rfl rfl)
theorem dX3_answer_51 : decode cX3_answer 51 = .ok (.getfield 477, 3) := dk_180 1 221 (dk_at dksX3_answer_2 5 rfl rfl)
theorem dX3_answer_54 : decode cX3_answer 54 = .ok (.iload_n 2, 1) := dk_28 (dk_at dksX3_answer_2 8 rfl rfl)
theorem dX3_answer_55 : decode cX3_answer 55 = .ok (.invokevirtual 442, 3) := dk_182 1 186 (dk_at dksX3_answer_2 9 rfl rfl)
theorem dX3_answer_58 : decode cX3_answer 58 = .ok (.iinc 2 1, 3) := dk_132 2 1 (dk_at dksX3_answer_2 12 rfl rfl)
theorem dX3_answer_61 : decode cX3_answer 61 = .ok (.goto (-21), 3) := dk_167 255 235 (dk_at dksX3_answer_2 15 rfl rfl)
theorem dX3_answer_64 : decode cX3_answer 64 = .ok (.aload_n 0, 1) := dk_42 (dk_at dksX3_answer_2 18 rfl rfl)
theorem dX3_answer_65 : decode cX3_answer 65 = .ok (.aload_n 0, 1) := dk_42 (dk_at dksX3_answer_2 19 rfl rfl)
theorem dX3_answer_66 : decode cX3_answer 66 = .ok (.getfield 73, 3) := dk_180 0 73 (dk_at dksX3_answer_2 20 rfl rfl)
theorem dX3_answer_69 : decode cX3_answer 69 = .ok (.iload_n 1, 1) := dk_27 (dk_at dksX3_answer_2 23 rfl rfl)
theorem dX3_answer_70 : decode cX3_answer 70 = .ok (.invokevirtual 407, 3) := dk_182 1 151 (dk_at dksX3_answer_3 0 rfl rfl)
theorem dX3_answer_73 : decode cX3_answer 73 = .ok (.ireturn, 1) := dk_172 (dk_at dksX3_answer_3 3 rfl rfl)
abbrev cX3_digest : ByteArray := prog_34_method_97_code
def yX3_digest : MethodName := ⟨RX3, "digest", "()J"⟩
def dkwX3_digest_13 : List UInt8 := [167, 255, 230, 31, 173]
abbrev dktX3_digest_13 : List UInt8 := dkwX3_digest_13 ++ []
def dkwX3_digest_12 : List UInt8 := [180, 0, 61, 3, 46, 162, 0, 22, 31, 20, 1, 236, 105, 42, 180, 0, 82, 29, 47, 97, 64, 132, 3, 1]
abbrev dktX3_digest_12 : List UInt8 := dkwX3_digest_12 ++ dktX3_digest_13
def dkwX3_digest_11 : List UInt8 := [21, 4, 182, 1, 212, 133, 97, 64, 132, 4, 1, 167, 255, 232, 132, 3, 1, 167, 255, 213, 3, 62, 29, 42]
abbrev dktX3_digest_11 : List UInt8 := dkwX3_digest_11 ++ dktX3_digest_12
def dkwX3_digest_10 : List UInt8 := [180, 0, 61, 6, 46, 162, 0, 39, 3, 54, 4, 21, 4, 8, 162, 0, 24, 31, 20, 1, 236, 105, 42, 29]
abbrev dktX3_digest_10 : List UInt8 := dkwX3_digest_10 ++ dktX3_digest_11
def dkwX3_digest_9 : List UInt8 := [29, 182, 1, 137, 97, 64, 132, 4, 1, 167, 255, 220, 132, 3, 1, 167, 255, 66, 3, 62, 29, 42]
abbrev dktX3_digest_9 : List UInt8 := dkwX3_digest_9 ++ dktX3_digest_10
def dkwX3_digest_8 : List UInt8 := [180, 0, 61, 6, 46, 162, 0, 31, 31, 20, 1, 236, 105, 42, 42, 180, 0, 67, 16, 36, 21, 4, 96, 46]
abbrev dktX3_digest_8 : List UInt8 := dkwX3_digest_8 ++ dktX3_digest_9
def dkwX3_digest_7 : List UInt8 := [16, 12, 21, 4, 96, 46, 29, 182, 1, 137, 97, 64, 132, 4, 1, 167, 255, 220, 3, 54, 4, 21, 4, 42]
abbrev dktX3_digest_7 : List UInt8 := dkwX3_digest_7 ++ dktX3_digest_8
def dkwX3_digest_6 : List UInt8 := [3, 54, 4, 21, 4, 42, 180, 0, 61, 4, 46, 162, 0, 31, 31, 20, 1, 236, 105, 42, 42, 180, 0, 67]
abbrev dktX3_digest_6 : List UInt8 := dkwX3_digest_6 ++ dktX3_digest_7
def dkwX3_digest_5 : List UInt8 := [105, 42, 42, 180, 0, 67, 16, 24, 21, 4, 96, 46, 29, 182, 1, 137, 97, 64, 132, 4, 1, 167, 255, 220]
abbrev dktX3_digest_5 : List UInt8 := dkwX3_digest_5 ++ dktX3_digest_6
def dkwX3_digest_4 : List UInt8 := [132, 4, 1, 167, 255, 223, 3, 54, 4, 21, 4, 42, 180, 0, 61, 5, 46, 162, 0, 31, 31, 20, 1, 236]
abbrev dktX3_digest_4 : List UInt8 := dkwX3_digest_4 ++ dktX3_digest_5
def dkwX3_digest_3 : List UInt8 := [162, 0, 28, 31, 20, 1, 236, 105, 42, 180, 0, 79, 16, 8, 29, 104, 21, 4, 96, 47, 97, 64]
abbrev dktX3_digest_3 : List UInt8 := dkwX3_digest_3 ++ dktX3_digest_4
def dkwX3_digest_2 : List UInt8 := [20, 1, 236, 105, 42, 180, 0, 76, 29, 46, 133, 97, 64, 3, 54, 4, 21, 4, 42, 180, 0, 61, 3, 46]
abbrev dktX3_digest_2 : List UInt8 := dkwX3_digest_2 ++ dktX3_digest_3
def dkwX3_digest_1 : List UInt8 := [182, 1, 134, 133, 97, 64, 132, 3, 1, 167, 255, 234, 3, 62, 29, 42, 180, 1, 113, 162, 0, 188, 31]
abbrev dktX3_digest_1 : List UInt8 := dkwX3_digest_1 ++ dktX3_digest_2
def dkwX3_digest_0 : List UInt8 := [42, 3, 181, 0, 91, 20, 1, 234, 64, 3, 62, 29, 16, 7, 162, 0, 22, 31, 20, 1, 236, 105, 42, 29]
abbrev dktX3_digest_0 : List UInt8 := dkwX3_digest_0 ++ dktX3_digest_1
theorem dksX3_digest_0 : cX3_digest.data.toList.drop 0 = dktX3_digest_0 := by decide +kernel
theorem dksX3_digest_1 : cX3_digest.data.toList.drop 24 = dktX3_digest_1 := dk_seg dksX3_digest_0 24 rfl rfl
theorem dksX3_digest_2 : cX3_digest.data.toList.drop 47 = dktX3_digest_2 := dk_seg dksX3_digest_1 23 rfl rfl
theorem dksX3_digest_3 : cX3_digest.data.toList.drop 71 = dktX3_digest_3 := dk_seg dksX3_digest_2 24 rfl rfl
theorem dksX3_digest_4 : cX3_digest.data.toList.drop 93 = dktX3_digest_4 := dk_seg dksX3_digest_3 22 rfl rfl
theorem dksX3_digest_5 : cX3_digest.data.toList.drop 117 = dktX3_digest_5 := dk_seg dksX3_digest_4 24 rfl rfl
theorem dksX3_digest_6 : cX3_digest.data.toList.drop 141 = dktX3_digest_6 := dk_seg dksX3_digest_5 24 rfl rfl
theorem dksX3_digest_7 : cX3_digest.data.toList.drop 165 = dktX3_digest_7 := dk_seg dksX3_digest_6 24 rfl rfl
theorem dksX3_digest_8 : cX3_digest.data.toList.drop 189 = dktX3_digest_8 := dk_seg dksX3_digest_7 24 rfl rfl
theorem dksX3_digest_9 : cX3_digest.data.toList.drop 213 = dktX3_digest_9 := dk_seg dksX3_digest_8 24 rfl rfl
theorem dksX3_digest_10 : cX3_digest.data.toList.drop 235 = dktX3_digest_10 := dk_seg dksX3_digest_9 22 rfl rfl
theorem dksX3_digest_11 : cX3_digest.data.toList.drop 259 = dktX3_digest_11 := dk_seg dksX3_digest_10 24 rfl rfl
theorem dksX3_digest_12 : cX3_digest.data.toList.drop 283 = dktX3_digest_12 := dk_seg dksX3_digest_11 24 rfl rfl
theorem dksX3_digest_13 : cX3_digest.data.toList.drop 307 = dktX3_digest_13 := dk_seg dksX3_digest_12 24 rfl rfl
theorem dX3_digest_0 : decode cX3_digest 0 = .ok (.aload_n 0, 1) := dk_42 (dk_at dksX3_digest_0 0 rfl rfl)
theorem dX3_digest_1 : decode cX3_digest 1 = .ok (.iconst 0, 1) := dk_3 (dk_at dksX3_digest_0 1 rfl rfl)
theorem dX3_digest_2 : decode cX3_digest 2 = .ok (.putfield 91, 3) := dk_181 0 91 (dk_at dksX3_digest_0 2 rfl rfl)
theorem dX3_digest_5 : decode cX3_digest 5 = .ok (.ldc2_w 490, 3) := dk_20 1 234 (dk_at dksX3_digest_0 5 rfl rfl)
theorem dX3_digest_8 : decode cX3_digest 8 = .ok (.lstore_n 1, 1) := dk_64 (dk_at dksX3_digest_0 8 rfl rfl)
theorem dX3_digest_9 : decode cX3_digest 9 = .ok (.iconst 0, 1) := dk_3 (dk_at dksX3_digest_0 9 rfl rfl)
theorem dX3_digest_10 : decode cX3_digest 10 = .ok (.istore_n 3, 1) := dk_62 (dk_at dksX3_digest_0 10 rfl rfl)
theorem dX3_digest_11 : decode cX3_digest 11 = .ok (.iload_n 3, 1) := dk_29 (dk_at dksX3_digest_0 11 rfl rfl)
theorem dX3_digest_12 : decode cX3_digest 12 = .ok (.bipush 7, 2) := dk_16 7 (dk_at dksX3_digest_0 12 rfl rfl)
theorem dX3_digest_14 : decode cX3_digest 14 = .ok (.if_icmp .ge 22, 3) := dk_162 0 22 (dk_at dksX3_digest_0 14 rfl rfl)
theorem dX3_digest_17 : decode cX3_digest 17 = .ok (.lload_n 1, 1) := dk_31 (dk_at dksX3_digest_0 17 rfl rfl)
theorem dX3_digest_18 : decode cX3_digest 18 = .ok (.ldc2_w 492, 3) := dk_20 1 236 (dk_at dksX3_digest_0 18 rfl rfl)
theorem dX3_digest_21 : decode cX3_digest 21 = .ok (.lmul, 1) := dk_105 (dk_at dksX3_digest_0 21 rfl rfl)
theorem dX3_digest_22 : decode cX3_digest 22 = .ok (.aload_n 0, 1) := dk_42 (dk_at dksX3_digest_0 22 rfl rfl)
theorem dX3_digest_23 : decode cX3_digest 23 = .ok (.iload_n 3, 1) := dk_29 (dk_at dksX3_digest_0 23 rfl rfl)
theorem dX3_digest_24 : decode cX3_digest 24 = .ok (.invokevirtual 390, 3) := dk_182 1 134 (dk_at dksX3_digest_1 0 rfl rfl)
theorem dX3_digest_27 : decode cX3_digest 27 = .ok (.i2l, 1) := dk_133 (dk_at dksX3_digest_1 3 rfl rfl)
theorem dX3_digest_28 : decode cX3_digest 28 = .ok (.ladd, 1) := dk_97 (dk_at dksX3_digest_1 4 rfl rfl)
theorem dX3_digest_29 : decode cX3_digest 29 = .ok (.lstore_n 1, 1) := dk_64 (dk_at dksX3_digest_1 5 rfl rfl)
theorem dX3_digest_30 : decode cX3_digest 30 = .ok (.iinc 3 1, 3) := dk_132 3 1 (dk_at dksX3_digest_1 6 rfl rfl)
theorem dX3_digest_33 : decode cX3_digest 33 = .ok (.goto (-22), 3) := dk_167 255 234 (dk_at dksX3_digest_1 9 rfl rfl)
theorem dX3_digest_36 : decode cX3_digest 36 = .ok (.iconst 0, 1) := dk_3 (dk_at dksX3_digest_1 12 rfl rfl)
theorem dX3_digest_37 : decode cX3_digest 37 = .ok (.istore_n 3, 1) := dk_62 (dk_at dksX3_digest_1 13 rfl rfl)
theorem dX3_digest_38 : decode cX3_digest 38 = .ok (.iload_n 3, 1) := dk_29 (dk_at dksX3_digest_1 14 rfl rfl)
theorem dX3_digest_39 : decode cX3_digest 39 = .ok (.aload_n 0, 1) := dk_42 (dk_at dksX3_digest_1 15 rfl rfl)
theorem dX3_digest_40 : decode cX3_digest 40 = .ok (.getfield 369, 3) := dk_180 1 113 (dk_at dksX3_digest_1 16 rfl rfl)
theorem dX3_digest_43 : decode cX3_digest 43 = .ok (.if_icmp .ge 188, 3) := dk_162 0 188 (dk_at dksX3_digest_1 19 rfl rfl)
theorem dX3_digest_46 : decode cX3_digest 46 = .ok (.lload_n 1, 1) := dk_31 (dk_at dksX3_digest_1 22 rfl rfl)
theorem dX3_digest_47 : decode cX3_digest 47 = .ok (.ldc2_w 492, 3) := dk_20 1 236 (dk_at dksX3_digest_2 0 rfl rfl)
theorem dX3_digest_50 : decode cX3_digest 50 = .ok (.lmul, 1) := dk_105 (dk_at dksX3_digest_2 3 rfl rfl)
theorem dX3_digest_51 : decode cX3_digest 51 = .ok (.aload_n 0, 1) := dk_42 (dk_at dksX3_digest_2 4 rfl rfl)
theorem dX3_digest_52 : decode cX3_digest 52 = .ok (.getfield 76, 3) := dk_180 0 76 (dk_at dksX3_digest_2 5 rfl rfl)
theorem dX3_digest_55 : decode cX3_digest 55 = .ok (.iload_n 3, 1) := dk_29 (dk_at dksX3_digest_2 8 rfl rfl)
theorem dX3_digest_56 : decode cX3_digest 56 = .ok (.iaload, 1) := dk_46 (dk_at dksX3_digest_2 9 rfl rfl)
theorem dX3_digest_57 : decode cX3_digest 57 = .ok (.i2l, 1) := dk_133 (dk_at dksX3_digest_2 10 rfl rfl)
theorem dX3_digest_58 : decode cX3_digest 58 = .ok (.ladd, 1) := dk_97 (dk_at dksX3_digest_2 11 rfl rfl)
theorem dX3_digest_59 : decode cX3_digest 59 = .ok (.lstore_n 1, 1) := dk_64 (dk_at dksX3_digest_2 12 rfl rfl)
theorem dX3_digest_60 : decode cX3_digest 60 = .ok (.iconst 0, 1) := dk_3 (dk_at dksX3_digest_2 13 rfl rfl)
theorem dX3_digest_61 : decode cX3_digest 61 = .ok (.istore 4, 2) := dk_54 4 (dk_at dksX3_digest_2 14 rfl rfl)
theorem dX3_digest_63 : decode cX3_digest 63 = .ok (.iload 4, 2) := dk_21 4 (dk_at dksX3_digest_2 16 rfl rfl)
theorem dX3_digest_65 : decode cX3_digest 65 = .ok (.aload_n 0, 1) := dk_42 (dk_at dksX3_digest_2 18 rfl rfl)
theorem dX3_digest_66 : decode cX3_digest 66 = .ok (.getfield 61, 3) := dk_180 0 61 (dk_at dksX3_digest_2 19 rfl rfl)
theorem dX3_digest_69 : decode cX3_digest 69 = .ok (.iconst 0, 1) := dk_3 (dk_at dksX3_digest_2 22 rfl rfl)
theorem dX3_digest_70 : decode cX3_digest 70 = .ok (.iaload, 1) := dk_46 (dk_at dksX3_digest_2 23 rfl rfl)
theorem dX3_digest_71 : decode cX3_digest 71 = .ok (.if_icmp .ge 28, 3) := dk_162 0 28 (dk_at dksX3_digest_3 0 rfl rfl)
theorem dX3_digest_74 : decode cX3_digest 74 = .ok (.lload_n 1, 1) := dk_31 (dk_at dksX3_digest_3 3 rfl rfl)
theorem dX3_digest_75 : decode cX3_digest 75 = .ok (.ldc2_w 492, 3) := dk_20 1 236 (dk_at dksX3_digest_3 4 rfl rfl)
theorem dX3_digest_78 : decode cX3_digest 78 = .ok (.lmul, 1) := dk_105 (dk_at dksX3_digest_3 7 rfl rfl)
theorem dX3_digest_79 : decode cX3_digest 79 = .ok (.aload_n 0, 1) := dk_42 (dk_at dksX3_digest_3 8 rfl rfl)
theorem dX3_digest_80 : decode cX3_digest 80 = .ok (.getfield 79, 3) := dk_180 0 79 (dk_at dksX3_digest_3 9 rfl rfl)
theorem dX3_digest_83 : decode cX3_digest 83 = .ok (.bipush 8, 2) := dk_16 8 (dk_at dksX3_digest_3 12 rfl rfl)
theorem dX3_digest_85 : decode cX3_digest 85 = .ok (.iload_n 3, 1) := dk_29 (dk_at dksX3_digest_3 14 rfl rfl)
theorem dX3_digest_86 : decode cX3_digest 86 = .ok (.imul, 1) := dk_104 (dk_at dksX3_digest_3 15 rfl rfl)
theorem dX3_digest_87 : decode cX3_digest 87 = .ok (.iload 4, 2) := dk_21 4 (dk_at dksX3_digest_3 16 rfl rfl)
theorem dX3_digest_89 : decode cX3_digest 89 = .ok (.iadd, 1) := dk_96 (dk_at dksX3_digest_3 18 rfl rfl)
theorem dX3_digest_90 : decode cX3_digest 90 = .ok (.laload, 1) := dk_47 (dk_at dksX3_digest_3 19 rfl rfl)
theorem dX3_digest_91 : decode cX3_digest 91 = .ok (.ladd, 1) := dk_97 (dk_at dksX3_digest_3 20 rfl rfl)
theorem dX3_digest_92 : decode cX3_digest 92 = .ok (.lstore_n 1, 1) := dk_64 (dk_at dksX3_digest_3 21 rfl rfl)
theorem dX3_digest_93 : decode cX3_digest 93 = .ok (.iinc 4 1, 3) := dk_132 4 1 (dk_at dksX3_digest_4 0 rfl rfl)
theorem dX3_digest_96 : decode cX3_digest 96 = .ok (.goto (-33), 3) := dk_167 255 223 (dk_at dksX3_digest_4 3 rfl rfl)
theorem dX3_digest_99 : decode cX3_digest 99 = .ok (.iconst 0, 1) := dk_3 (dk_at dksX3_digest_4 6 rfl rfl)
theorem dX3_digest_100 : decode cX3_digest 100 = .ok (.istore 4, 2) := dk_54 4 (dk_at dksX3_digest_4 7 rfl rfl)
theorem dX3_digest_102 : decode cX3_digest 102 = .ok (.iload 4, 2) := dk_21 4 (dk_at dksX3_digest_4 9 rfl rfl)
theorem dX3_digest_104 : decode cX3_digest 104 = .ok (.aload_n 0, 1) := dk_42 (dk_at dksX3_digest_4 11 rfl rfl)
theorem dX3_digest_105 : decode cX3_digest 105 = .ok (.getfield 61, 3) := dk_180 0 61 (dk_at dksX3_digest_4 12 rfl rfl)
theorem dX3_digest_108 : decode cX3_digest 108 = .ok (.iconst 2, 1) := dk_5 (dk_at dksX3_digest_4 15 rfl rfl)
theorem dX3_digest_109 : decode cX3_digest 109 = .ok (.iaload, 1) := dk_46 (dk_at dksX3_digest_4 16 rfl rfl)
theorem dX3_digest_110 : decode cX3_digest 110 = .ok (.if_icmp .ge 31, 3) := dk_162 0 31 (dk_at dksX3_digest_4 17 rfl rfl)
theorem dX3_digest_113 : decode cX3_digest 113 = .ok (.lload_n 1, 1) := dk_31 (dk_at dksX3_digest_4 20 rfl rfl)
theorem dX3_digest_114 : decode cX3_digest 114 = .ok (.ldc2_w 492, 3) := dk_20 1 236 (dk_at dksX3_digest_4 21 rfl rfl)
theorem dX3_digest_117 : decode cX3_digest 117 = .ok (.lmul, 1) := dk_105 (dk_at dksX3_digest_5 0 rfl rfl)
theorem dX3_digest_118 : decode cX3_digest 118 = .ok (.aload_n 0, 1) := dk_42 (dk_at dksX3_digest_5 1 rfl rfl)
theorem dX3_digest_119 : decode cX3_digest 119 = .ok (.aload_n 0, 1) := dk_42 (dk_at dksX3_digest_5 2 rfl rfl)
theorem dX3_digest_120 : decode cX3_digest 120 = .ok (.getfield 67, 3) := dk_180 0 67 (dk_at dksX3_digest_5 3 rfl rfl)
theorem dX3_digest_123 : decode cX3_digest 123 = .ok (.bipush 24, 2) := dk_16 24 (dk_at dksX3_digest_5 6 rfl rfl)
theorem dX3_digest_125 : decode cX3_digest 125 = .ok (.iload 4, 2) := dk_21 4 (dk_at dksX3_digest_5 8 rfl rfl)
theorem dX3_digest_127 : decode cX3_digest 127 = .ok (.iadd, 1) := dk_96 (dk_at dksX3_digest_5 10 rfl rfl)
theorem dX3_digest_128 : decode cX3_digest 128 = .ok (.iaload, 1) := dk_46 (dk_at dksX3_digest_5 11 rfl rfl)
theorem dX3_digest_129 : decode cX3_digest 129 = .ok (.iload_n 3, 1) := dk_29 (dk_at dksX3_digest_5 12 rfl rfl)
theorem dX3_digest_130 : decode cX3_digest 130 = .ok (.invokevirtual 393, 3) := dk_182 1 137 (dk_at dksX3_digest_5 13 rfl rfl)
theorem dX3_digest_133 : decode cX3_digest 133 = .ok (.ladd, 1) := dk_97 (dk_at dksX3_digest_5 16 rfl rfl)
theorem dX3_digest_134 : decode cX3_digest 134 = .ok (.lstore_n 1, 1) := dk_64 (dk_at dksX3_digest_5 17 rfl rfl)
theorem dX3_digest_135 : decode cX3_digest 135 = .ok (.iinc 4 1, 3) := dk_132 4 1 (dk_at dksX3_digest_5 18 rfl rfl)
theorem dX3_digest_138 : decode cX3_digest 138 = .ok (.goto (-36), 3) := dk_167 255 220 (dk_at dksX3_digest_5 21 rfl rfl)
theorem dX3_digest_141 : decode cX3_digest 141 = .ok (.iconst 0, 1) := dk_3 (dk_at dksX3_digest_6 0 rfl rfl)
theorem dX3_digest_142 : decode cX3_digest 142 = .ok (.istore 4, 2) := dk_54 4 (dk_at dksX3_digest_6 1 rfl rfl)
theorem dX3_digest_144 : decode cX3_digest 144 = .ok (.iload 4, 2) := dk_21 4 (dk_at dksX3_digest_6 3 rfl rfl)
theorem dX3_digest_146 : decode cX3_digest 146 = .ok (.aload_n 0, 1) := dk_42 (dk_at dksX3_digest_6 5 rfl rfl)
theorem dX3_digest_147 : decode cX3_digest 147 = .ok (.getfield 61, 3) := dk_180 0 61 (dk_at dksX3_digest_6 6 rfl rfl)
theorem dX3_digest_150 : decode cX3_digest 150 = .ok (.iconst 1, 1) := dk_4 (dk_at dksX3_digest_6 9 rfl rfl)
theorem dX3_digest_151 : decode cX3_digest 151 = .ok (.iaload, 1) := dk_46 (dk_at dksX3_digest_6 10 rfl rfl)
theorem dX3_digest_152 : decode cX3_digest 152 = .ok (.if_icmp .ge 31, 3) := dk_162 0 31 (dk_at dksX3_digest_6 11 rfl rfl)
theorem dX3_digest_155 : decode cX3_digest 155 = .ok (.lload_n 1, 1) := dk_31 (dk_at dksX3_digest_6 14 rfl rfl)
theorem dX3_digest_156 : decode cX3_digest 156 = .ok (.ldc2_w 492, 3) := dk_20 1 236 (dk_at dksX3_digest_6 15 rfl rfl)
theorem dX3_digest_159 : decode cX3_digest 159 = .ok (.lmul, 1) := dk_105 (dk_at dksX3_digest_6 18 rfl rfl)
theorem dX3_digest_160 : decode cX3_digest 160 = .ok (.aload_n 0, 1) := dk_42 (dk_at dksX3_digest_6 19 rfl rfl)
theorem dX3_digest_161 : decode cX3_digest 161 = .ok (.aload_n 0, 1) := dk_42 (dk_at dksX3_digest_6 20 rfl rfl)
theorem dX3_digest_162 : decode cX3_digest 162 = .ok (.getfield 67, 3) := dk_180 0 67 (dk_at dksX3_digest_6 21 rfl rfl)
theorem dX3_digest_165 : decode cX3_digest 165 = .ok (.bipush 12, 2) := dk_16 12 (dk_at dksX3_digest_7 0 rfl rfl)
theorem dX3_digest_167 : decode cX3_digest 167 = .ok (.iload 4, 2) := dk_21 4 (dk_at dksX3_digest_7 2 rfl rfl)
theorem dX3_digest_169 : decode cX3_digest 169 = .ok (.iadd, 1) := dk_96 (dk_at dksX3_digest_7 4 rfl rfl)
theorem dX3_digest_170 : decode cX3_digest 170 = .ok (.iaload, 1) := dk_46 (dk_at dksX3_digest_7 5 rfl rfl)
theorem dX3_digest_171 : decode cX3_digest 171 = .ok (.iload_n 3, 1) := dk_29 (dk_at dksX3_digest_7 6 rfl rfl)
theorem dX3_digest_172 : decode cX3_digest 172 = .ok (.invokevirtual 393, 3) := dk_182 1 137 (dk_at dksX3_digest_7 7 rfl rfl)
theorem dX3_digest_175 : decode cX3_digest 175 = .ok (.ladd, 1) := dk_97 (dk_at dksX3_digest_7 10 rfl rfl)
theorem dX3_digest_176 : decode cX3_digest 176 = .ok (.lstore_n 1, 1) := dk_64 (dk_at dksX3_digest_7 11 rfl rfl)
theorem dX3_digest_177 : decode cX3_digest 177 = .ok (.iinc 4 1, 3) := dk_132 4 1 (dk_at dksX3_digest_7 12 rfl rfl)
theorem dX3_digest_180 : decode cX3_digest 180 = .ok (.goto (-36), 3) := dk_167 255 220 (dk_at dksX3_digest_7 15 rfl rfl)
theorem dX3_digest_183 : decode cX3_digest 183 = .ok (.iconst 0, 1) := dk_3 (dk_at dksX3_digest_7 18 rfl rfl)
theorem dX3_digest_184 : decode cX3_digest 184 = .ok (.istore 4, 2) := dk_54 4 (dk_at dksX3_digest_7 19 rfl rfl)
theorem dX3_digest_186 : decode cX3_digest 186 = .ok (.iload 4, 2) := dk_21 4 (dk_at dksX3_digest_7 21 rfl rfl)
theorem dX3_digest_188 : decode cX3_digest 188 = .ok (.aload_n 0, 1) := dk_42 (dk_at dksX3_digest_7 23 rfl rfl)
theorem dX3_digest_189 : decode cX3_digest 189 = .ok (.getfield 61, 3) := dk_180 0 61 (dk_at dksX3_digest_8 0 rfl rfl)
theorem dX3_digest_192 : decode cX3_digest 192 = .ok (.iconst 3, 1) := dk_6 (dk_at dksX3_digest_8 3 rfl rfl)
theorem dX3_digest_193 : decode cX3_digest 193 = .ok (.iaload, 1) := dk_46 (dk_at dksX3_digest_8 4 rfl rfl)
theorem dX3_digest_194 : decode cX3_digest 194 = .ok (.if_icmp .ge 31, 3) := dk_162 0 31 (dk_at dksX3_digest_8 5 rfl rfl)
theorem dX3_digest_197 : decode cX3_digest 197 = .ok (.lload_n 1, 1) := dk_31 (dk_at dksX3_digest_8 8 rfl rfl)
theorem dX3_digest_198 : decode cX3_digest 198 = .ok (.ldc2_w 492, 3) := dk_20 1 236 (dk_at dksX3_digest_8 9 rfl rfl)
theorem dX3_digest_201 : decode cX3_digest 201 = .ok (.lmul, 1) := dk_105 (dk_at dksX3_digest_8 12 rfl rfl)
theorem dX3_digest_202 : decode cX3_digest 202 = .ok (.aload_n 0, 1) := dk_42 (dk_at dksX3_digest_8 13 rfl rfl)
theorem dX3_digest_203 : decode cX3_digest 203 = .ok (.aload_n 0, 1) := dk_42 (dk_at dksX3_digest_8 14 rfl rfl)
theorem dX3_digest_204 : decode cX3_digest 204 = .ok (.getfield 67, 3) := dk_180 0 67 (dk_at dksX3_digest_8 15 rfl rfl)
theorem dX3_digest_207 : decode cX3_digest 207 = .ok (.bipush 36, 2) := dk_16 36 (dk_at dksX3_digest_8 18 rfl rfl)
theorem dX3_digest_209 : decode cX3_digest 209 = .ok (.iload 4, 2) := dk_21 4 (dk_at dksX3_digest_8 20 rfl rfl)
theorem dX3_digest_211 : decode cX3_digest 211 = .ok (.iadd, 1) := dk_96 (dk_at dksX3_digest_8 22 rfl rfl)
theorem dX3_digest_212 : decode cX3_digest 212 = .ok (.iaload, 1) := dk_46 (dk_at dksX3_digest_8 23 rfl rfl)
theorem dX3_digest_213 : decode cX3_digest 213 = .ok (.iload_n 3, 1) := dk_29 (dk_at dksX3_digest_9 0 rfl rfl)
theorem dX3_digest_214 : decode cX3_digest 214 = .ok (.invokevirtual 393, 3) := dk_182 1 137 (dk_at dksX3_digest_9 1 rfl rfl)
theorem dX3_digest_217 : decode cX3_digest 217 = .ok (.ladd, 1) := dk_97 (dk_at dksX3_digest_9 4 rfl rfl)
theorem dX3_digest_218 : decode cX3_digest 218 = .ok (.lstore_n 1, 1) := dk_64 (dk_at dksX3_digest_9 5 rfl rfl)
theorem dX3_digest_219 : decode cX3_digest 219 = .ok (.iinc 4 1, 3) := dk_132 4 1 (dk_at dksX3_digest_9 6 rfl rfl)
theorem dX3_digest_222 : decode cX3_digest 222 = .ok (.goto (-36), 3) := dk_167 255 220 (dk_at dksX3_digest_9 9 rfl rfl)
theorem dX3_digest_225 : decode cX3_digest 225 = .ok (.iinc 3 1, 3) := dk_132 3 1 (dk_at dksX3_digest_9 12 rfl rfl)
theorem dX3_digest_228 : decode cX3_digest 228 = .ok (.goto (-190), 3) := dk_167 255 66 (dk_at dksX3_digest_9 15 rfl rfl)
theorem dX3_digest_231 : decode cX3_digest 231 = .ok (.iconst 0, 1) := dk_3 (dk_at dksX3_digest_9 18 rfl rfl)
theorem dX3_digest_232 : decode cX3_digest 232 = .ok (.istore_n 3, 1) := dk_62 (dk_at dksX3_digest_9 19 rfl rfl)
theorem dX3_digest_233 : decode cX3_digest 233 = .ok (.iload_n 3, 1) := dk_29 (dk_at dksX3_digest_9 20 rfl rfl)
theorem dX3_digest_234 : decode cX3_digest 234 = .ok (.aload_n 0, 1) := dk_42 (dk_at dksX3_digest_9 21 rfl rfl)
theorem dX3_digest_235 : decode cX3_digest 235 = .ok (.getfield 61, 3) := dk_180 0 61 (dk_at dksX3_digest_10 0 rfl rfl)
theorem dX3_digest_238 : decode cX3_digest 238 = .ok (.iconst 3, 1) := dk_6 (dk_at dksX3_digest_10 3 rfl rfl)
theorem dX3_digest_239 : decode cX3_digest 239 = .ok (.iaload, 1) := dk_46 (dk_at dksX3_digest_10 4 rfl rfl)
theorem dX3_digest_240 : decode cX3_digest 240 = .ok (.if_icmp .ge 39, 3) := dk_162 0 39 (dk_at dksX3_digest_10 5 rfl rfl)
theorem dX3_digest_243 : decode cX3_digest 243 = .ok (.iconst 0, 1) := dk_3 (dk_at dksX3_digest_10 8 rfl rfl)
theorem dX3_digest_244 : decode cX3_digest 244 = .ok (.istore 4, 2) := dk_54 4 (dk_at dksX3_digest_10 9 rfl rfl)
theorem dX3_digest_246 : decode cX3_digest 246 = .ok (.iload 4, 2) := dk_21 4 (dk_at dksX3_digest_10 11 rfl rfl)
theorem dX3_digest_248 : decode cX3_digest 248 = .ok (.iconst 5, 1) := dk_8 (dk_at dksX3_digest_10 13 rfl rfl)
theorem dX3_digest_249 : decode cX3_digest 249 = .ok (.if_icmp .ge 24, 3) := dk_162 0 24 (dk_at dksX3_digest_10 14 rfl rfl)
theorem dX3_digest_252 : decode cX3_digest 252 = .ok (.lload_n 1, 1) := dk_31 (dk_at dksX3_digest_10 17 rfl rfl)
theorem dX3_digest_253 : decode cX3_digest 253 = .ok (.ldc2_w 492, 3) := dk_20 1 236 (dk_at dksX3_digest_10 18 rfl rfl)
theorem dX3_digest_256 : decode cX3_digest 256 = .ok (.lmul, 1) := dk_105 (dk_at dksX3_digest_10 21 rfl rfl)
theorem dX3_digest_257 : decode cX3_digest 257 = .ok (.aload_n 0, 1) := dk_42 (dk_at dksX3_digest_10 22 rfl rfl)
theorem dX3_digest_258 : decode cX3_digest 258 = .ok (.iload_n 3, 1) := dk_29 (dk_at dksX3_digest_10 23 rfl rfl)
theorem dX3_digest_259 : decode cX3_digest 259 = .ok (.iload 4, 2) := dk_21 4 (dk_at dksX3_digest_11 0 rfl rfl)
theorem dX3_digest_261 : decode cX3_digest 261 = .ok (.invokevirtual 468, 3) := dk_182 1 212 (dk_at dksX3_digest_11 2 rfl rfl)
theorem dX3_digest_264 : decode cX3_digest 264 = .ok (.i2l, 1) := dk_133 (dk_at dksX3_digest_11 5 rfl rfl)
theorem dX3_digest_265 : decode cX3_digest 265 = .ok (.ladd, 1) := dk_97 (dk_at dksX3_digest_11 6 rfl rfl)
theorem dX3_digest_266 : decode cX3_digest 266 = .ok (.lstore_n 1, 1) := dk_64 (dk_at dksX3_digest_11 7 rfl rfl)
theorem dX3_digest_267 : decode cX3_digest 267 = .ok (.iinc 4 1, 3) := dk_132 4 1 (dk_at dksX3_digest_11 8 rfl rfl)
theorem dX3_digest_270 : decode cX3_digest 270 = .ok (.goto (-24), 3) := dk_167 255 232 (dk_at dksX3_digest_11 11 rfl rfl)
theorem dX3_digest_273 : decode cX3_digest 273 = .ok (.iinc 3 1, 3) := dk_132 3 1 (dk_at dksX3_digest_11 14 rfl rfl)
theorem dX3_digest_276 : decode cX3_digest 276 = .ok (.goto (-43), 3) := dk_167 255 213 (dk_at dksX3_digest_11 17 rfl rfl)
theorem dX3_digest_279 : decode cX3_digest 279 = .ok (.iconst 0, 1) := dk_3 (dk_at dksX3_digest_11 20 rfl rfl)
theorem dX3_digest_280 : decode cX3_digest 280 = .ok (.istore_n 3, 1) := dk_62 (dk_at dksX3_digest_11 21 rfl rfl)
theorem dX3_digest_281 : decode cX3_digest 281 = .ok (.iload_n 3, 1) := dk_29 (dk_at dksX3_digest_11 22 rfl rfl)
theorem dX3_digest_282 : decode cX3_digest 282 = .ok (.aload_n 0, 1) := dk_42 (dk_at dksX3_digest_11 23 rfl rfl)
theorem dX3_digest_283 : decode cX3_digest 283 = .ok (.getfield 61, 3) := dk_180 0 61 (dk_at dksX3_digest_12 0 rfl rfl)
theorem dX3_digest_286 : decode cX3_digest 286 = .ok (.iconst 0, 1) := dk_3 (dk_at dksX3_digest_12 3 rfl rfl)
theorem dX3_digest_287 : decode cX3_digest 287 = .ok (.iaload, 1) := dk_46 (dk_at dksX3_digest_12 4 rfl rfl)
theorem dX3_digest_288 : decode cX3_digest 288 = .ok (.if_icmp .ge 22, 3) := dk_162 0 22 (dk_at dksX3_digest_12 5 rfl rfl)
theorem dX3_digest_291 : decode cX3_digest 291 = .ok (.lload_n 1, 1) := dk_31 (dk_at dksX3_digest_12 8 rfl rfl)
theorem dX3_digest_292 : decode cX3_digest 292 = .ok (.ldc2_w 492, 3) := dk_20 1 236 (dk_at dksX3_digest_12 9 rfl rfl)
theorem dX3_digest_295 : decode cX3_digest 295 = .ok (.lmul, 1) := dk_105 (dk_at dksX3_digest_12 12 rfl rfl)
theorem dX3_digest_296 : decode cX3_digest 296 = .ok (.aload_n 0, 1) := dk_42 (dk_at dksX3_digest_12 13 rfl rfl)
theorem dX3_digest_297 : decode cX3_digest 297 = .ok (.getfield 82, 3) := dk_180 0 82 (dk_at dksX3_digest_12 14 rfl rfl)
theorem dX3_digest_300 : decode cX3_digest 300 = .ok (.iload_n 3, 1) := dk_29 (dk_at dksX3_digest_12 17 rfl rfl)
theorem dX3_digest_301 : decode cX3_digest 301 = .ok (.laload, 1) := dk_47 (dk_at dksX3_digest_12 18 rfl rfl)
theorem dX3_digest_302 : decode cX3_digest 302 = .ok (.ladd, 1) := dk_97 (dk_at dksX3_digest_12 19 rfl rfl)
theorem dX3_digest_303 : decode cX3_digest 303 = .ok (.lstore_n 1, 1) := dk_64 (dk_at dksX3_digest_12 20 rfl rfl)
theorem dX3_digest_304 : decode cX3_digest 304 = .ok (.iinc 3 1, 3) := dk_132 3 1 (dk_at dksX3_digest_12 21 rfl rfl)
theorem dX3_digest_307 : decode cX3_digest 307 = .ok (.goto (-26), 3) := dk_167 255 230 (dk_at dksX3_digest_13 0 rfl rfl)
theorem dX3_digest_310 : decode cX3_digest 310 = .ok (.lload_n 1, 1) := dk_31 (dk_at dksX3_digest_13 3 rfl rfl)
theorem dX3_digest_311 : decode cX3_digest 311 = .ok (.lreturn, 1) := dk_173 (dk_at dksX3_digest_13 4 rfl rfl)
theorem q113 : (Jvm.Cond.initialized "PastWatchModel") ∈ lw_all := lw_g (lw_at lw_m1 8 rfl) rfl
theorem q954 : (Jvm.Cond.selects "PastWatchModel" ({ cls := "java/lang/Object", name := "getClass", desc := "()Ljava/lang/Class;" } : Jvm.MethodName) ({ cls := "java/lang/Object", name := "getClass", desc := "()Ljava/lang/Class;" } : Jvm.MethodName)) ∈ lw_all := lw_g (lw_at lw_m4 129 rfl) rfl
theorem q1155 : (Jvm.Cond.selects "PastWatchModel" ({ cls := "java/lang/Object", name := "hashCode", desc := "()I" } : Jvm.MethodName) ({ cls := "java/lang/Object", name := "hashCode", desc := "()I" } : Jvm.MethodName)) ∈ lw_all := lw_g (lw_at lw_m5 90 rfl) rfl
theorem q1201 : (Jvm.Cond.selects "PastWatchModel" ({ cls := "java/lang/Object", name := "equals", desc := "(Ljava/lang/Object;)Z" } : Jvm.MethodName) ({ cls := "java/lang/Object", name := "equals", desc := "(Ljava/lang/Object;)Z" } : Jvm.MethodName)) ∈ lw_all := lw_g (lw_at lw_m5 136 rfl) rfl
theorem q2635 : (Jvm.Cond.instantiable "PastWatchModel" (41 : Nat)) ∈ lw_all := lw_g (lw_at lw_m11 130 rfl) rfl
theorem q2637 : (Jvm.Cond.instanceMethod ({ cls := "PastWatchModel", name := "<init>", desc := "()V" } : Jvm.MethodName)) ∈ lw_all := lw_g (lw_at lw_m11 132 rfl) rfl
theorem q2638 : (Jvm.Cond.code ({ cls := "PastWatchModel", name := "<init>", desc := "()V" } : Jvm.MethodName) prog_34_method_1_code (1 : Nat) (Option.none : Option Jvm.ClassFile.FieldType)) ∈ lw_all := lw_g (lw_at lw_m11 133 rfl) rfl
theorem q2639 : (Jvm.Cond.methodLink "PastWatchModel" (3 : Nat) ({ cls := "java/lang/Object", name := "<init>", desc := "()V" } : Jvm.MethodName)) ∈ lw_all := lw_g (lw_at lw_m11 134 rfl) rfl
theorem q2640 : (Jvm.Cond.constant "PastWatchModel" (47 : Nat) (144360 : Int32)) ∈ lw_all := lw_g (lw_at lw_m11 135 rfl) rfl
theorem q2641 : (Jvm.Cond.fieldLink "PastWatchModel" (91 : Nat) "PastWatchModel" "thrown" "I") ∈ lw_all := lw_g (lw_at lw_m11 136 rfl) rfl
theorem q2642 : (Jvm.Cond.fieldLink "PastWatchModel" (9 : Nat) "PastWatchModel" "tape" "[I") ∈ lw_all := lw_g (lw_at lw_m11 137 rfl) rfl
theorem q2643 : (Jvm.Cond.fieldLink "PastWatchModel" (94 : Nat) "PastWatchModel" "length" "I") ∈ lw_all := lw_g (lw_at lw_m11 138 rfl) rfl
theorem q2644 : (Jvm.Cond.fieldLink "PastWatchModel" (13 : Nat) "PastWatchModel" "errorAt" "I") ∈ lw_all := lw_g (lw_at lw_m11 139 rfl) rfl
theorem q2645 : (Jvm.Cond.fieldLink "PastWatchModel" (17 : Nat) "PastWatchModel" "kinds" "[I") ∈ lw_all := lw_g (lw_at lw_m11 140 rfl) rfl
theorem q2646 : (Jvm.Cond.fieldLink "PastWatchModel" (20 : Nat) "PastWatchModel" "froms" "[I") ∈ lw_all := lw_g (lw_at lw_m11 141 rfl) rfl
theorem q2647 : (Jvm.Cond.fieldLink "PastWatchModel" (23 : Nat) "PastWatchModel" "ends" "[I") ∈ lw_all := lw_g (lw_at lw_m11 142 rfl) rfl
theorem q2648 : (Jvm.Cond.fieldLink "PastWatchModel" (152 : Nat) "PastWatchModel" "at" "I") ∈ lw_all := lw_g (lw_at lw_m11 143 rfl) rfl
theorem q2649 : (Jvm.Cond.fieldLink "PastWatchModel" (312 : Nat) "PastWatchModel" "nodes" "I") ∈ lw_all := lw_g (lw_at lw_m11 144 rfl) rfl
theorem q2650 : (Jvm.Cond.fieldLink "PastWatchModel" (26 : Nat) "PastWatchModel" "kind" "[I") ∈ lw_all := lw_g (lw_at lw_m11 145 rfl) rfl
theorem q2651 : (Jvm.Cond.fieldLink "PastWatchModel" (29 : Nat) "PastWatchModel" "first" "[I") ∈ lw_all := lw_g (lw_at lw_m11 146 rfl) rfl
theorem q2652 : (Jvm.Cond.fieldLink "PastWatchModel" (32 : Nat) "PastWatchModel" "second" "[I") ∈ lw_all := lw_g (lw_at lw_m11 147 rfl) rfl
theorem q2653 : (Jvm.Cond.fieldLink "PastWatchModel" (35 : Nat) "PastWatchModel" "third" "[I") ∈ lw_all := lw_g (lw_at lw_m11 148 rfl) rfl
theorem q2654 : (Jvm.Cond.fieldLink "PastWatchModel" (38 : Nat) "PastWatchModel" "low" "[I") ∈ lw_all := lw_g (lw_at lw_m11 149 rfl) rfl
theorem q2655 : (Jvm.Cond.fieldLink "PastWatchModel" (41 : Nat) "PastWatchModel" "high" "[I") ∈ lw_all := lw_g (lw_at lw_m11 150 rfl) rfl
theorem q2656 : (Jvm.Cond.fieldLink "PastWatchModel" (44 : Nat) "PastWatchModel" "place" "[I") ∈ lw_all := lw_g (lw_at lw_m11 151 rfl) rfl
theorem q2657 : (Jvm.Cond.fieldLink "PastWatchModel" (48 : Nat) "PastWatchModel" "table" "[J") ∈ lw_all := lw_g (lw_at lw_m11 152 rfl) rfl
theorem q2658 : (Jvm.Cond.fieldLink "PastWatchModel" (309 : Nat) "PastWatchModel" "made" "I") ∈ lw_all := lw_g (lw_at lw_m11 153 rfl) rfl
theorem q2659 : (Jvm.Cond.fieldLink "PastWatchModel" (362 : Nat) "PastWatchModel" "isThere" "Z") ∈ lw_all := lw_g (lw_at lw_m11 154 rfl) rfl
theorem q2660 : (Jvm.Cond.fieldLink "PastWatchModel" (284 : Nat) "PastWatchModel" "named" "I") ∈ lw_all := lw_g (lw_at lw_m11 155 rfl) rfl
theorem q2661 : (Jvm.Cond.fieldLink "PastWatchModel" (52 : Nat) "PastWatchModel" "names" "[J") ∈ lw_all := lw_g (lw_at lw_m11 156 rfl) rfl
theorem q2662 : (Jvm.Cond.fieldLink "PastWatchModel" (55 : Nat) "PastWatchModel" "sorts" "[I") ∈ lw_all := lw_g (lw_at lw_m11 157 rfl) rfl
theorem q2663 : (Jvm.Cond.fieldLink "PastWatchModel" (58 : Nat) "PastWatchModel" "numbers" "[I") ∈ lw_all := lw_g (lw_at lw_m11 158 rfl) rfl
theorem q2664 : (Jvm.Cond.fieldLink "PastWatchModel" (61 : Nat) "PastWatchModel" "many" "[I") ∈ lw_all := lw_g (lw_at lw_m11 159 rfl) rfl
theorem q2665 : (Jvm.Cond.fieldLink "PastWatchModel" (64 : Nat) "PastWatchModel" "begins" "[J") ∈ lw_all := lw_g (lw_at lw_m11 160 rfl) rfl
theorem q2666 : (Jvm.Cond.fieldLink "PastWatchModel" (67 : Nat) "PastWatchModel" "tops" "[I") ∈ lw_all := lw_g (lw_at lw_m11 161 rfl) rfl
theorem q2667 : (Jvm.Cond.fieldLink "PastWatchModel" (70 : Nat) "PastWatchModel" "levels" "[I") ∈ lw_all := lw_g (lw_at lw_m11 162 rfl) rfl
theorem q2668 : (Jvm.Cond.fieldLink "PastWatchModel" (366 : Nat) "PastWatchModel" "programNodes" "I") ∈ lw_all := lw_g (lw_at lw_m11 163 rfl) rfl
theorem q2669 : (Jvm.Cond.fieldLink "PastWatchModel" (73 : Nat) "PastWatchModel" "asked" "I") ∈ lw_all := lw_g (lw_at lw_m11 164 rfl) rfl
theorem q2670 : (Jvm.Cond.fieldLink "PastWatchModel" (369 : Nat) "PastWatchModel" "steps" "I") ∈ lw_all := lw_g (lw_at lw_m11 165 rfl) rfl
theorem q2671 : (Jvm.Cond.fieldLink "PastWatchModel" (76 : Nat) "PastWatchModel" "times" "[I") ∈ lw_all := lw_g (lw_at lw_m11 166 rfl) rfl
theorem q2672 : (Jvm.Cond.fieldLink "PastWatchModel" (79 : Nat) "PastWatchModel" "signals" "[J") ∈ lw_all := lw_g (lw_at lw_m11 167 rfl) rfl
theorem q2673 : (Jvm.Cond.fieldLink "PastWatchModel" (82 : Nat) "PastWatchModel" "now" "[J") ∈ lw_all := lw_g (lw_at lw_m11 168 rfl) rfl
theorem q2674 : (Jvm.Cond.fieldLink "PastWatchModel" (387 : Nat) "PastWatchModel" "kept" "I") ∈ lw_all := lw_g (lw_at lw_m11 169 rfl) rfl
theorem q2675 : (Jvm.Cond.fieldLink "PastWatchModel" (451 : Nat) "PastWatchModel" "keptMany" "I") ∈ lw_all := lw_g (lw_at lw_m11 170 rfl) rfl
theorem q2676 : (Jvm.Cond.fieldLink "PastWatchModel" (85 : Nat) "PastWatchModel" "keptTimes" "[I") ∈ lw_all := lw_g (lw_at lw_m11 171 rfl) rfl
theorem q2677 : (Jvm.Cond.fieldLink "PastWatchModel" (88 : Nat) "PastWatchModel" "keptSignals" "[J") ∈ lw_all := lw_g (lw_at lw_m11 172 rfl) rfl
theorem q2678 : (Jvm.Cond.fieldLink "PastWatchModel" (325 : Nat) "PastWatchModel" "boundA" "I") ∈ lw_all := lw_g (lw_at lw_m11 173 rfl) rfl
theorem q2679 : (Jvm.Cond.fieldLink "PastWatchModel" (328 : Nat) "PastWatchModel" "boundB" "I") ∈ lw_all := lw_g (lw_at lw_m11 174 rfl) rfl
theorem q2680 : (Jvm.Cond.fieldLink "PastWatchModel" (474 : Nat) "PastWatchModel" "reasonStep" "I") ∈ lw_all := lw_g (lw_at lw_m11 175 rfl) rfl
theorem q2681 : (Jvm.Cond.fieldLink "PastWatchModel" (477 : Nat) "PastWatchModel" "askedEnd" "I") ∈ lw_all := lw_g (lw_at lw_m11 176 rfl) rfl
theorem q2682 : (Jvm.Cond.lays "PastWatchModel" "PastWatchModel" "thrown" "I") ∈ lw_all := lw_g (lw_at lw_m11 177 rfl) rfl
theorem q2683 : (Jvm.Cond.soleField "PastWatchModel" "thrown") ∈ lw_all := lw_g (lw_at lw_m11 178 rfl) rfl
theorem q2684 : (Jvm.Cond.laysFinal "PastWatchModel" "PastWatchModel" "tape" "[I") ∈ lw_all := lw_g (lw_at lw_m11 179 rfl) rfl
theorem q2685 : (Jvm.Cond.soleField "PastWatchModel" "tape") ∈ lw_all := lw_g (lw_at lw_m11 180 rfl) rfl
theorem q2686 : (Jvm.Cond.lays "PastWatchModel" "PastWatchModel" "length" "I") ∈ lw_all := lw_g (lw_at lw_m11 181 rfl) rfl
theorem q2687 : (Jvm.Cond.soleField "PastWatchModel" "length") ∈ lw_all := lw_g (lw_at lw_m11 182 rfl) rfl
theorem q2688 : (Jvm.Cond.lays "PastWatchModel" "PastWatchModel" "errorAt" "I") ∈ lw_all := lw_g (lw_at lw_m11 183 rfl) rfl
theorem q2689 : (Jvm.Cond.soleField "PastWatchModel" "errorAt") ∈ lw_all := lw_g (lw_at lw_m11 184 rfl) rfl
theorem q2690 : (Jvm.Cond.laysFinal "PastWatchModel" "PastWatchModel" "kinds" "[I") ∈ lw_all := lw_g (lw_at lw_m11 185 rfl) rfl
theorem q2691 : (Jvm.Cond.soleField "PastWatchModel" "kinds") ∈ lw_all := lw_g (lw_at lw_m11 186 rfl) rfl
theorem q2692 : (Jvm.Cond.laysFinal "PastWatchModel" "PastWatchModel" "froms" "[I") ∈ lw_all := lw_g (lw_at lw_m11 187 rfl) rfl
theorem q2693 : (Jvm.Cond.soleField "PastWatchModel" "froms") ∈ lw_all := lw_g (lw_at lw_m11 188 rfl) rfl
theorem q2694 : (Jvm.Cond.laysFinal "PastWatchModel" "PastWatchModel" "ends" "[I") ∈ lw_all := lw_g (lw_at lw_m11 189 rfl) rfl
theorem q2695 : (Jvm.Cond.soleField "PastWatchModel" "ends") ∈ lw_all := lw_g (lw_at lw_m11 190 rfl) rfl
theorem q2696 : (Jvm.Cond.lays "PastWatchModel" "PastWatchModel" "at" "I") ∈ lw_all := lw_g (lw_at lw_m11 191 rfl) rfl
theorem q2697 : (Jvm.Cond.soleField "PastWatchModel" "at") ∈ lw_all := lw_g (lw_at lw_m11 192 rfl) rfl
theorem q2698 : (Jvm.Cond.lays "PastWatchModel" "PastWatchModel" "nodes" "I") ∈ lw_all := lw_g (lw_at lw_m11 193 rfl) rfl
theorem q2699 : (Jvm.Cond.soleField "PastWatchModel" "nodes") ∈ lw_all := lw_g (lw_at lw_m11 194 rfl) rfl
theorem q2700 : (Jvm.Cond.laysFinal "PastWatchModel" "PastWatchModel" "kind" "[I") ∈ lw_all := lw_g (lw_at lw_m11 195 rfl) rfl
theorem q2701 : (Jvm.Cond.soleField "PastWatchModel" "kind") ∈ lw_all := lw_g (lw_at lw_m11 196 rfl) rfl
theorem q2702 : (Jvm.Cond.laysFinal "PastWatchModel" "PastWatchModel" "first" "[I") ∈ lw_all := lw_g (lw_at lw_m11 197 rfl) rfl
theorem q2703 : (Jvm.Cond.soleField "PastWatchModel" "first") ∈ lw_all := lw_g (lw_at lw_m11 198 rfl) rfl
theorem q2704 : (Jvm.Cond.laysFinal "PastWatchModel" "PastWatchModel" "second" "[I") ∈ lw_all := lw_g (lw_at lw_m11 199 rfl) rfl
theorem q2705 : (Jvm.Cond.soleField "PastWatchModel" "second") ∈ lw_all := lw_g (lw_at lw_m11 200 rfl) rfl
theorem q2706 : (Jvm.Cond.laysFinal "PastWatchModel" "PastWatchModel" "third" "[I") ∈ lw_all := lw_g (lw_at lw_m11 201 rfl) rfl
theorem q2707 : (Jvm.Cond.soleField "PastWatchModel" "third") ∈ lw_all := lw_g (lw_at lw_m11 202 rfl) rfl
theorem q2708 : (Jvm.Cond.laysFinal "PastWatchModel" "PastWatchModel" "low" "[I") ∈ lw_all := lw_g (lw_at lw_m11 203 rfl) rfl
theorem q2709 : (Jvm.Cond.soleField "PastWatchModel" "low") ∈ lw_all := lw_g (lw_at lw_m11 204 rfl) rfl
theorem q2710 : (Jvm.Cond.laysFinal "PastWatchModel" "PastWatchModel" "high" "[I") ∈ lw_all := lw_g (lw_at lw_m11 205 rfl) rfl
theorem q2711 : (Jvm.Cond.soleField "PastWatchModel" "high") ∈ lw_all := lw_g (lw_at lw_m11 206 rfl) rfl
theorem q2712 : (Jvm.Cond.laysFinal "PastWatchModel" "PastWatchModel" "place" "[I") ∈ lw_all := lw_g (lw_at lw_m11 207 rfl) rfl
theorem q2713 : (Jvm.Cond.soleField "PastWatchModel" "place") ∈ lw_all := lw_g (lw_at lw_m11 208 rfl) rfl
theorem q2714 : (Jvm.Cond.laysFinal "PastWatchModel" "PastWatchModel" "table" "[J") ∈ lw_all := lw_g (lw_at lw_m11 209 rfl) rfl
theorem q2715 : (Jvm.Cond.soleField "PastWatchModel" "table") ∈ lw_all := lw_g (lw_at lw_m11 210 rfl) rfl
theorem q2716 : (Jvm.Cond.lays "PastWatchModel" "PastWatchModel" "made" "I") ∈ lw_all := lw_g (lw_at lw_m11 211 rfl) rfl
theorem q2717 : (Jvm.Cond.soleField "PastWatchModel" "made") ∈ lw_all := lw_g (lw_at lw_m11 212 rfl) rfl
theorem q2718 : (Jvm.Cond.lays "PastWatchModel" "PastWatchModel" "isThere" "Z") ∈ lw_all := lw_g (lw_at lw_m11 213 rfl) rfl
theorem q2719 : (Jvm.Cond.soleField "PastWatchModel" "isThere") ∈ lw_all := lw_g (lw_at lw_m11 214 rfl) rfl
theorem q2720 : (Jvm.Cond.lays "PastWatchModel" "PastWatchModel" "named" "I") ∈ lw_all := lw_g (lw_at lw_m11 215 rfl) rfl
theorem q2721 : (Jvm.Cond.soleField "PastWatchModel" "named") ∈ lw_all := lw_g (lw_at lw_m11 216 rfl) rfl
theorem q2722 : (Jvm.Cond.laysFinal "PastWatchModel" "PastWatchModel" "names" "[J") ∈ lw_all := lw_g (lw_at lw_m11 217 rfl) rfl
theorem q2723 : (Jvm.Cond.soleField "PastWatchModel" "names") ∈ lw_all := lw_g (lw_at lw_m11 218 rfl) rfl
theorem q2724 : (Jvm.Cond.laysFinal "PastWatchModel" "PastWatchModel" "sorts" "[I") ∈ lw_all := lw_g (lw_at lw_m11 219 rfl) rfl
theorem q2725 : (Jvm.Cond.soleField "PastWatchModel" "sorts") ∈ lw_all := lw_g (lw_at lw_m11 220 rfl) rfl
theorem q2726 : (Jvm.Cond.laysFinal "PastWatchModel" "PastWatchModel" "numbers" "[I") ∈ lw_all := lw_g (lw_at lw_m11 221 rfl) rfl
theorem q2727 : (Jvm.Cond.soleField "PastWatchModel" "numbers") ∈ lw_all := lw_g (lw_at lw_m11 222 rfl) rfl
theorem q2728 : (Jvm.Cond.laysFinal "PastWatchModel" "PastWatchModel" "many" "[I") ∈ lw_all := lw_g (lw_at lw_m11 223 rfl) rfl
theorem q2729 : (Jvm.Cond.soleField "PastWatchModel" "many") ∈ lw_all := lw_g (lw_at lw_m11 224 rfl) rfl
theorem q2730 : (Jvm.Cond.laysFinal "PastWatchModel" "PastWatchModel" "begins" "[J") ∈ lw_all := lw_g (lw_at lw_m11 225 rfl) rfl
theorem q2731 : (Jvm.Cond.soleField "PastWatchModel" "begins") ∈ lw_all := lw_g (lw_at lw_m11 226 rfl) rfl
theorem q2732 : (Jvm.Cond.laysFinal "PastWatchModel" "PastWatchModel" "tops" "[I") ∈ lw_all := lw_g (lw_at lw_m11 227 rfl) rfl
theorem q2733 : (Jvm.Cond.soleField "PastWatchModel" "tops") ∈ lw_all := lw_g (lw_at lw_m11 228 rfl) rfl
theorem q2734 : (Jvm.Cond.laysFinal "PastWatchModel" "PastWatchModel" "levels" "[I") ∈ lw_all := lw_g (lw_at lw_m11 229 rfl) rfl
theorem q2735 : (Jvm.Cond.soleField "PastWatchModel" "levels") ∈ lw_all := lw_g (lw_at lw_m11 230 rfl) rfl
theorem q2736 : (Jvm.Cond.lays "PastWatchModel" "PastWatchModel" "programNodes" "I") ∈ lw_all := lw_g (lw_at lw_m11 231 rfl) rfl
theorem q2737 : (Jvm.Cond.soleField "PastWatchModel" "programNodes") ∈ lw_all := lw_g (lw_at lw_m11 232 rfl) rfl
theorem q2738 : (Jvm.Cond.lays "PastWatchModel" "PastWatchModel" "asked" "I") ∈ lw_all := lw_g (lw_at lw_m11 233 rfl) rfl
theorem q2739 : (Jvm.Cond.soleField "PastWatchModel" "asked") ∈ lw_all := lw_g (lw_at lw_m11 234 rfl) rfl
theorem q2740 : (Jvm.Cond.lays "PastWatchModel" "PastWatchModel" "steps" "I") ∈ lw_all := lw_g (lw_at lw_m11 235 rfl) rfl
theorem q2741 : (Jvm.Cond.soleField "PastWatchModel" "steps") ∈ lw_all := lw_g (lw_at lw_m11 236 rfl) rfl
theorem q2742 : (Jvm.Cond.laysFinal "PastWatchModel" "PastWatchModel" "times" "[I") ∈ lw_all := lw_g (lw_at lw_m11 237 rfl) rfl
theorem q2743 : (Jvm.Cond.soleField "PastWatchModel" "times") ∈ lw_all := lw_g (lw_at lw_m11 238 rfl) rfl
theorem q2744 : (Jvm.Cond.laysFinal "PastWatchModel" "PastWatchModel" "signals" "[J") ∈ lw_all := lw_g (lw_at lw_m11 239 rfl) rfl
theorem q2745 : (Jvm.Cond.soleField "PastWatchModel" "signals") ∈ lw_all := lw_g (lw_at lw_m12 0 rfl) rfl
theorem q2746 : (Jvm.Cond.laysFinal "PastWatchModel" "PastWatchModel" "now" "[J") ∈ lw_all := lw_g (lw_at lw_m12 1 rfl) rfl
theorem q2747 : (Jvm.Cond.soleField "PastWatchModel" "now") ∈ lw_all := lw_g (lw_at lw_m12 2 rfl) rfl
theorem q2748 : (Jvm.Cond.lays "PastWatchModel" "PastWatchModel" "kept" "I") ∈ lw_all := lw_g (lw_at lw_m12 3 rfl) rfl
theorem q2749 : (Jvm.Cond.soleField "PastWatchModel" "kept") ∈ lw_all := lw_g (lw_at lw_m12 4 rfl) rfl
theorem q2750 : (Jvm.Cond.lays "PastWatchModel" "PastWatchModel" "keptMany" "I") ∈ lw_all := lw_g (lw_at lw_m12 5 rfl) rfl
theorem q2751 : (Jvm.Cond.soleField "PastWatchModel" "keptMany") ∈ lw_all := lw_g (lw_at lw_m12 6 rfl) rfl
theorem q2752 : (Jvm.Cond.laysFinal "PastWatchModel" "PastWatchModel" "keptTimes" "[I") ∈ lw_all := lw_g (lw_at lw_m12 7 rfl) rfl
theorem q2753 : (Jvm.Cond.soleField "PastWatchModel" "keptTimes") ∈ lw_all := lw_g (lw_at lw_m12 8 rfl) rfl
theorem q2754 : (Jvm.Cond.laysFinal "PastWatchModel" "PastWatchModel" "keptSignals" "[J") ∈ lw_all := lw_g (lw_at lw_m12 9 rfl) rfl
theorem q2755 : (Jvm.Cond.soleField "PastWatchModel" "keptSignals") ∈ lw_all := lw_g (lw_at lw_m12 10 rfl) rfl
theorem q2756 : (Jvm.Cond.lays "PastWatchModel" "PastWatchModel" "boundA" "I") ∈ lw_all := lw_g (lw_at lw_m12 11 rfl) rfl
theorem q2757 : (Jvm.Cond.soleField "PastWatchModel" "boundA") ∈ lw_all := lw_g (lw_at lw_m12 12 rfl) rfl
theorem q2758 : (Jvm.Cond.lays "PastWatchModel" "PastWatchModel" "boundB" "I") ∈ lw_all := lw_g (lw_at lw_m12 13 rfl) rfl
theorem q2759 : (Jvm.Cond.soleField "PastWatchModel" "boundB") ∈ lw_all := lw_g (lw_at lw_m12 14 rfl) rfl
theorem q2760 : (Jvm.Cond.lays "PastWatchModel" "PastWatchModel" "reasonStep" "I") ∈ lw_all := lw_g (lw_at lw_m12 15 rfl) rfl
theorem q2761 : (Jvm.Cond.soleField "PastWatchModel" "reasonStep") ∈ lw_all := lw_g (lw_at lw_m12 16 rfl) rfl
theorem q2762 : (Jvm.Cond.lays "PastWatchModel" "PastWatchModel" "askedEnd" "I") ∈ lw_all := lw_g (lw_at lw_m12 17 rfl) rfl
theorem q2763 : (Jvm.Cond.soleField "PastWatchModel" "askedEnd") ∈ lw_all := lw_g (lw_at lw_m12 18 rfl) rfl
theorem q2764 : (Jvm.Cond.superclass "PastWatchModel" "java/lang/Object") ∈ lw_all := lw_g (lw_at lw_m12 19 rfl) rfl
theorem q2766 : (Jvm.Cond.instanceMethod ({ cls := "PastWatchModel", name := "thrown", desc := "()I" } : Jvm.MethodName)) ∈ lw_all := lw_g (lw_at lw_m12 21 rfl) rfl
theorem q2767 : (Jvm.Cond.selects "PastWatchModel" ({ cls := "PastWatchModel", name := "thrown", desc := "()I" } : Jvm.MethodName) ({ cls := "PastWatchModel", name := "thrown", desc := "()I" } : Jvm.MethodName)) ∈ lw_all := lw_g (lw_at lw_m12 22 rfl) rfl
theorem q2768 : (Jvm.Cond.code ({ cls := "PastWatchModel", name := "thrown", desc := "()I" } : Jvm.MethodName) prog_34_method_2_code (1 : Nat) (Option.some Jvm.ClassFile.FieldType.int)) ∈ lw_all := lw_g (lw_at lw_m12 23 rfl) rfl
theorem q2770 : (Jvm.Cond.instanceMethod ({ cls := "PastWatchModel", name := "feed", desc := "(IIIII)I" } : Jvm.MethodName)) ∈ lw_all := lw_g (lw_at lw_m12 25 rfl) rfl
theorem q2771 : (Jvm.Cond.selects "PastWatchModel" ({ cls := "PastWatchModel", name := "feed", desc := "(IIIII)I" } : Jvm.MethodName) ({ cls := "PastWatchModel", name := "feed", desc := "(IIIII)I" } : Jvm.MethodName)) ∈ lw_all := lw_g (lw_at lw_m12 26 rfl) rfl
theorem q2772 : (Jvm.Cond.code ({ cls := "PastWatchModel", name := "feed", desc := "(IIIII)I" } : Jvm.MethodName) prog_34_method_5_code (12 : Nat) (Option.some Jvm.ClassFile.FieldType.int)) ∈ lw_all := lw_g (lw_at lw_m12 27 rfl) rfl
theorem q2773 : (Jvm.Cond.methodLink "PastWatchModel" (97 : Nat) ({ cls := "PastWatchModel", name := "no", desc := "(I)I" } : Jvm.MethodName)) ∈ lw_all := lw_g (lw_at lw_m12 28 rfl) rfl
theorem q2774 : (Jvm.Cond.privateMethod ({ cls := "PastWatchModel", name := "no", desc := "(I)I" } : Jvm.MethodName)) ∈ lw_tbl := lw_at lw_m12 29 rfl
theorem q2775 : (Jvm.Cond.instanceMethod ({ cls := "PastWatchModel", name := "no", desc := "(I)I" } : Jvm.MethodName)) ∈ lw_all := lw_g (lw_at lw_m12 30 rfl) rfl
theorem q2776 : (Jvm.Cond.code ({ cls := "PastWatchModel", name := "no", desc := "(I)I" } : Jvm.MethodName) prog_34_method_3_code (2 : Nat) (Option.some Jvm.ClassFile.FieldType.int)) ∈ lw_all := lw_g (lw_at lw_m12 31 rfl) rfl
theorem q2778 : (Jvm.Cond.instanceMethod ({ cls := "PastWatchModel", name := "trim", desc := "(I)I" } : Jvm.MethodName)) ∈ lw_all := lw_g (lw_at lw_m12 33 rfl) rfl
theorem q2779 : (Jvm.Cond.selects "PastWatchModel" ({ cls := "PastWatchModel", name := "trim", desc := "(I)I" } : Jvm.MethodName) ({ cls := "PastWatchModel", name := "trim", desc := "(I)I" } : Jvm.MethodName)) ∈ lw_all := lw_g (lw_at lw_m12 34 rfl) rfl
theorem q2780 : (Jvm.Cond.code ({ cls := "PastWatchModel", name := "trim", desc := "(I)I" } : Jvm.MethodName) prog_34_method_6_code (2 : Nat) (Option.some Jvm.ClassFile.FieldType.int)) ∈ lw_all := lw_g (lw_at lw_m12 35 rfl) rfl
theorem q2781 : (Jvm.Cond.methodLink "PastWatchModel" (101 : Nat) ({ cls := "PastWatchModel", name := "isIn", desc := "(III)Z" } : Jvm.MethodName)) ∈ lw_all := lw_g (lw_at lw_m12 36 rfl) rfl
theorem q2782 : (Jvm.Cond.static ({ cls := "PastWatchModel", name := "isIn", desc := "(III)Z" } : Jvm.MethodName)) ∈ lw_all := lw_g (lw_at lw_m12 37 rfl) rfl
theorem q2783 : (Jvm.Cond.code ({ cls := "PastWatchModel", name := "isIn", desc := "(III)Z" } : Jvm.MethodName) prog_34_method_4_code (3 : Nat) (Option.some Jvm.ClassFile.FieldType.boolean)) ∈ lw_all := lw_g (lw_at lw_m12 38 rfl) rfl
theorem q2785 : (Jvm.Cond.instanceMethod ({ cls := "PastWatchModel", name := "compile", desc := "()I" } : Jvm.MethodName)) ∈ lw_all := lw_g (lw_at lw_m12 40 rfl) rfl
theorem q2786 : (Jvm.Cond.selects "PastWatchModel" ({ cls := "PastWatchModel", name := "compile", desc := "()I" } : Jvm.MethodName) ({ cls := "PastWatchModel", name := "compile", desc := "()I" } : Jvm.MethodName)) ∈ lw_all := lw_g (lw_at lw_m12 41 rfl) rfl
theorem q2787 : (Jvm.Cond.code ({ cls := "PastWatchModel", name := "compile", desc := "()I" } : Jvm.MethodName) prog_34_method_52_code (2 : Nat) (Option.some Jvm.ClassFile.FieldType.int)) ∈ lw_all := lw_g (lw_at lw_m12 42 rfl) rfl
theorem q2788 : (Jvm.Cond.methodLink "PastWatchModel" (372 : Nat) ({ cls := "PastWatchModel", name := "forget", desc := "()V" } : Jvm.MethodName)) ∈ lw_all := lw_g (lw_at lw_m12 43 rfl) rfl
theorem q2789 : (Jvm.Cond.privateMethod ({ cls := "PastWatchModel", name := "forget", desc := "()V" } : Jvm.MethodName)) ∈ lw_tbl := lw_at lw_m12 44 rfl
theorem q2790 : (Jvm.Cond.instanceMethod ({ cls := "PastWatchModel", name := "forget", desc := "()V" } : Jvm.MethodName)) ∈ lw_all := lw_g (lw_at lw_m12 45 rfl) rfl
theorem q2791 : (Jvm.Cond.code ({ cls := "PastWatchModel", name := "forget", desc := "()V" } : Jvm.MethodName) prog_34_method_51_code (2 : Nat) (Option.none : Option Jvm.ClassFile.FieldType)) ∈ lw_all := lw_g (lw_at lw_m12 46 rfl) rfl
theorem q2792 : (Jvm.Cond.methodLink "PastWatchModel" (375 : Nat) ({ cls := "PastWatchModel", name := "scan", desc := "()V" } : Jvm.MethodName)) ∈ lw_all := lw_g (lw_at lw_m12 47 rfl) rfl
theorem q2793 : (Jvm.Cond.privateMethod ({ cls := "PastWatchModel", name := "scan", desc := "()V" } : Jvm.MethodName)) ∈ lw_tbl := lw_at lw_m12 48 rfl
theorem q2794 : (Jvm.Cond.instanceMethod ({ cls := "PastWatchModel", name := "scan", desc := "()V" } : Jvm.MethodName)) ∈ lw_all := lw_g (lw_at lw_m12 49 rfl) rfl
theorem q2795 : (Jvm.Cond.code ({ cls := "PastWatchModel", name := "scan", desc := "()V" } : Jvm.MethodName) prog_34_method_11_code (6 : Nat) (Option.none : Option Jvm.ClassFile.FieldType)) ∈ lw_all := lw_g (lw_at lw_m12 50 rfl) rfl
theorem q2796 : (Jvm.Cond.methodLink "PastWatchModel" (105 : Nat) ({ cls := "PastWatchModel", name := "byteAt", desc := "(I)I" } : Jvm.MethodName)) ∈ lw_all := lw_g (lw_at lw_m12 51 rfl) rfl
theorem q2797 : (Jvm.Cond.privateMethod ({ cls := "PastWatchModel", name := "byteAt", desc := "(I)I" } : Jvm.MethodName)) ∈ lw_tbl := lw_at lw_m12 52 rfl
theorem q2798 : (Jvm.Cond.instanceMethod ({ cls := "PastWatchModel", name := "byteAt", desc := "(I)I" } : Jvm.MethodName)) ∈ lw_all := lw_g (lw_at lw_m12 53 rfl) rfl
theorem q2799 : (Jvm.Cond.code ({ cls := "PastWatchModel", name := "byteAt", desc := "(I)I" } : Jvm.MethodName) prog_34_method_7_code (2 : Nat) (Option.some Jvm.ClassFile.FieldType.int)) ∈ lw_all := lw_g (lw_at lw_m12 54 rfl) rfl
theorem q2800 : (Jvm.Cond.methodLink "PastWatchModel" (115 : Nat) ({ cls := "PastWatchModel", name := "isLetter", desc := "(I)Z" } : Jvm.MethodName)) ∈ lw_all := lw_g (lw_at lw_m12 55 rfl) rfl
theorem q2801 : (Jvm.Cond.static ({ cls := "PastWatchModel", name := "isLetter", desc := "(I)Z" } : Jvm.MethodName)) ∈ lw_all := lw_g (lw_at lw_m12 56 rfl) rfl
theorem q2802 : (Jvm.Cond.code ({ cls := "PastWatchModel", name := "isLetter", desc := "(I)Z" } : Jvm.MethodName) prog_34_method_8_code (1 : Nat) (Option.some Jvm.ClassFile.FieldType.boolean)) ∈ lw_all := lw_g (lw_at lw_m12 57 rfl) rfl
theorem q2803 : (Jvm.Cond.methodLink "PastWatchModel" (119 : Nat) ({ cls := "PastWatchModel", name := "isDigit", desc := "(I)Z" } : Jvm.MethodName)) ∈ lw_all := lw_g (lw_at lw_m12 58 rfl) rfl
theorem q2804 : (Jvm.Cond.static ({ cls := "PastWatchModel", name := "isDigit", desc := "(I)Z" } : Jvm.MethodName)) ∈ lw_all := lw_g (lw_at lw_m12 59 rfl) rfl
theorem q2805 : (Jvm.Cond.code ({ cls := "PastWatchModel", name := "isDigit", desc := "(I)Z" } : Jvm.MethodName) prog_34_method_9_code (1 : Nat) (Option.some Jvm.ClassFile.FieldType.boolean)) ∈ lw_all := lw_g (lw_at lw_m12 60 rfl) rfl
theorem q2806 : (Jvm.Cond.methodLink "PastWatchModel" (122 : Nat) ({ cls := "PastWatchModel", name := "symbolAt", desc := "(I)I" } : Jvm.MethodName)) ∈ lw_all := lw_g (lw_at lw_m12 61 rfl) rfl
theorem q2807 : (Jvm.Cond.privateMethod ({ cls := "PastWatchModel", name := "symbolAt", desc := "(I)I" } : Jvm.MethodName)) ∈ lw_tbl := lw_at lw_m12 62 rfl
theorem q2808 : (Jvm.Cond.instanceMethod ({ cls := "PastWatchModel", name := "symbolAt", desc := "(I)I" } : Jvm.MethodName)) ∈ lw_all := lw_g (lw_at lw_m12 63 rfl) rfl
theorem q2809 : (Jvm.Cond.code ({ cls := "PastWatchModel", name := "symbolAt", desc := "(I)I" } : Jvm.MethodName) prog_34_method_10_code (5 : Nat) (Option.some Jvm.ClassFile.FieldType.int)) ∈ lw_all := lw_g (lw_at lw_m12 64 rfl) rfl
theorem q2810 : (Jvm.Cond.stringRef "PastWatchModel" (108 : Nat) "(){}[];:=+-*/%<>") ∈ lw_tbl := lw_at lw_m12 65 rfl
theorem q2811 : (Jvm.Cond.methodLink "PastWatchModel" (110 : Nat) ({ cls := "java/lang/String", name := "indexOf", desc := "(I)I" } : Jvm.MethodName)) ∈ lw_all := lw_g (lw_at lw_m12 66 rfl) rfl
theorem q2812 : (Jvm.Cond.methodLink "PastWatchModel" (125 : Nat) ({ cls := "java/lang/Math", name := "max", desc := "(II)I" } : Jvm.MethodName)) ∈ lw_all := lw_g (lw_at lw_m12 67 rfl) rfl
theorem q2813 : (Jvm.Cond.methodLink "PastWatchModel" (378 : Nat) ({ cls := "PastWatchModel", name := "program", desc := "()Z" } : Jvm.MethodName)) ∈ lw_all := lw_g (lw_at lw_m12 68 rfl) rfl
theorem q2814 : (Jvm.Cond.privateMethod ({ cls := "PastWatchModel", name := "program", desc := "()Z" } : Jvm.MethodName)) ∈ lw_tbl := lw_at lw_m12 69 rfl
theorem q2815 : (Jvm.Cond.instanceMethod ({ cls := "PastWatchModel", name := "program", desc := "()Z" } : Jvm.MethodName)) ∈ lw_all := lw_g (lw_at lw_m12 70 rfl) rfl
theorem q2816 : (Jvm.Cond.code ({ cls := "PastWatchModel", name := "program", desc := "()Z" } : Jvm.MethodName) prog_34_method_22_code (1 : Nat) (Option.some Jvm.ClassFile.FieldType.boolean)) ∈ lw_all := lw_g (lw_at lw_m12 71 rfl) rfl
theorem q2817 : (Jvm.Cond.methodLink "PastWatchModel" (166 : Nat) ({ cls := "PastWatchModel", name := "item", desc := "()Z" } : Jvm.MethodName)) ∈ lw_all := lw_g (lw_at lw_m12 72 rfl) rfl
theorem q2818 : (Jvm.Cond.privateMethod ({ cls := "PastWatchModel", name := "item", desc := "()Z" } : Jvm.MethodName)) ∈ lw_tbl := lw_at lw_m12 73 rfl
theorem q2819 : (Jvm.Cond.instanceMethod ({ cls := "PastWatchModel", name := "item", desc := "()Z" } : Jvm.MethodName)) ∈ lw_all := lw_g (lw_at lw_m12 74 rfl) rfl
theorem q2820 : (Jvm.Cond.code ({ cls := "PastWatchModel", name := "item", desc := "()Z" } : Jvm.MethodName) prog_34_method_23_code (1 : Nat) (Option.some Jvm.ClassFile.FieldType.boolean)) ∈ lw_all := lw_g (lw_at lw_m12 75 rfl) rfl
theorem q2821 : (Jvm.Cond.stringRef "PastWatchModel" (169 : Nat) "signal") ∈ lw_tbl := lw_at lw_m12 76 rfl
theorem q2822 : (Jvm.Cond.methodLink "PastWatchModel" (171 : Nat) ({ cls := "PastWatchModel", name := "takes", desc := "(Ljava/lang/String;)Z" } : Jvm.MethodName)) ∈ lw_all := lw_g (lw_at lw_m12 77 rfl) rfl
theorem q2823 : (Jvm.Cond.privateMethod ({ cls := "PastWatchModel", name := "takes", desc := "(Ljava/lang/String;)Z" } : Jvm.MethodName)) ∈ lw_tbl := lw_at lw_m12 78 rfl
theorem q2824 : (Jvm.Cond.instanceMethod ({ cls := "PastWatchModel", name := "takes", desc := "(Ljava/lang/String;)Z" } : Jvm.MethodName)) ∈ lw_all := lw_g (lw_at lw_m12 79 rfl) rfl
theorem q2825 : (Jvm.Cond.code ({ cls := "PastWatchModel", name := "takes", desc := "(Ljava/lang/String;)Z" } : Jvm.MethodName) prog_34_method_19_code (2 : Nat) (Option.some Jvm.ClassFile.FieldType.boolean)) ∈ lw_all := lw_g (lw_at lw_m12 80 rfl) rfl
theorem q2826 : (Jvm.Cond.methodLink "PastWatchModel" (155 : Nat) ({ cls := "PastWatchModel", name := "sees", desc := "(Ljava/lang/String;)Z" } : Jvm.MethodName)) ∈ lw_all := lw_g (lw_at lw_m12 81 rfl) rfl
theorem q2827 : (Jvm.Cond.privateMethod ({ cls := "PastWatchModel", name := "sees", desc := "(Ljava/lang/String;)Z" } : Jvm.MethodName)) ∈ lw_tbl := lw_at lw_m12 82 rfl
theorem q2828 : (Jvm.Cond.instanceMethod ({ cls := "PastWatchModel", name := "sees", desc := "(Ljava/lang/String;)Z" } : Jvm.MethodName)) ∈ lw_all := lw_g (lw_at lw_m12 83 rfl) rfl
theorem q2829 : (Jvm.Cond.code ({ cls := "PastWatchModel", name := "sees", desc := "(Ljava/lang/String;)Z" } : Jvm.MethodName) prog_34_method_17_code (2 : Nat) (Option.some Jvm.ClassFile.FieldType.boolean)) ∈ lw_all := lw_g (lw_at lw_m12 84 rfl) rfl
theorem q2830 : (Jvm.Cond.methodLink "PastWatchModel" (138 : Nat) ({ cls := "PastWatchModel", name := "is", desc := "(ILjava/lang/String;)Z" } : Jvm.MethodName)) ∈ lw_all := lw_g (lw_at lw_m12 85 rfl) rfl
theorem q2831 : (Jvm.Cond.privateMethod ({ cls := "PastWatchModel", name := "is", desc := "(ILjava/lang/String;)Z" } : Jvm.MethodName)) ∈ lw_tbl := lw_at lw_m12 86 rfl
theorem q2832 : (Jvm.Cond.instanceMethod ({ cls := "PastWatchModel", name := "is", desc := "(ILjava/lang/String;)Z" } : Jvm.MethodName)) ∈ lw_all := lw_g (lw_at lw_m12 87 rfl) rfl
theorem q2833 : (Jvm.Cond.code ({ cls := "PastWatchModel", name := "is", desc := "(ILjava/lang/String;)Z" } : Jvm.MethodName) prog_34_method_12_code (5 : Nat) (Option.some Jvm.ClassFile.FieldType.boolean)) ∈ lw_all := lw_g (lw_at lw_m12 88 rfl) rfl
theorem q2834 : (Jvm.Cond.methodLink "PastWatchModel" (131 : Nat) ({ cls := "java/lang/String", name := "length", desc := "()I" } : Jvm.MethodName)) ∈ lw_all := lw_g (lw_at lw_m12 89 rfl) rfl
theorem q2835 : (Jvm.Cond.methodLink "PastWatchModel" (134 : Nat) ({ cls := "java/lang/String", name := "charAt", desc := "(I)C" } : Jvm.MethodName)) ∈ lw_all := lw_g (lw_at lw_m12 90 rfl) rfl
theorem q2836 : (Jvm.Cond.methodLink "PastWatchModel" (159 : Nat) ({ cls := "PastWatchModel", name := "goes", desc := "()Z" } : Jvm.MethodName)) ∈ lw_all := lw_g (lw_at lw_m12 91 rfl) rfl
theorem q2837 : (Jvm.Cond.privateMethod ({ cls := "PastWatchModel", name := "goes", desc := "()Z" } : Jvm.MethodName)) ∈ lw_tbl := lw_at lw_m12 92 rfl
theorem q2838 : (Jvm.Cond.instanceMethod ({ cls := "PastWatchModel", name := "goes", desc := "()Z" } : Jvm.MethodName)) ∈ lw_all := lw_g (lw_at lw_m12 93 rfl) rfl
theorem q2839 : (Jvm.Cond.code ({ cls := "PastWatchModel", name := "goes", desc := "()Z" } : Jvm.MethodName) prog_34_method_18_code (1 : Nat) (Option.some Jvm.ClassFile.FieldType.boolean)) ∈ lw_all := lw_g (lw_at lw_m12 94 rfl) rfl
theorem q2840 : (Jvm.Cond.methodLink "PastWatchModel" (174 : Nat) ({ cls := "PastWatchModel", name := "takesName", desc := "()Z" } : Jvm.MethodName)) ∈ lw_all := lw_g (lw_at lw_m12 95 rfl) rfl
theorem q2841 : (Jvm.Cond.privateMethod ({ cls := "PastWatchModel", name := "takesName", desc := "()Z" } : Jvm.MethodName)) ∈ lw_tbl := lw_at lw_m12 96 rfl
theorem q2842 : (Jvm.Cond.instanceMethod ({ cls := "PastWatchModel", name := "takesName", desc := "()Z" } : Jvm.MethodName)) ∈ lw_all := lw_g (lw_at lw_m12 97 rfl) rfl
theorem q2843 : (Jvm.Cond.code ({ cls := "PastWatchModel", name := "takesName", desc := "()Z" } : Jvm.MethodName) prog_34_method_20_code (1 : Nat) (Option.some Jvm.ClassFile.FieldType.boolean)) ∈ lw_all := lw_g (lw_at lw_m12 98 rfl) rfl
theorem q2844 : (Jvm.Cond.methodLink "PastWatchModel" (163 : Nat) ({ cls := "PastWatchModel", name := "isName", desc := "(I)Z" } : Jvm.MethodName)) ∈ lw_all := lw_g (lw_at lw_m12 99 rfl) rfl
theorem q2845 : (Jvm.Cond.privateMethod ({ cls := "PastWatchModel", name := "isName", desc := "(I)Z" } : Jvm.MethodName)) ∈ lw_tbl := lw_at lw_m12 100 rfl
theorem q2846 : (Jvm.Cond.instanceMethod ({ cls := "PastWatchModel", name := "isName", desc := "(I)Z" } : Jvm.MethodName)) ∈ lw_all := lw_g (lw_at lw_m12 101 rfl) rfl
theorem q2847 : (Jvm.Cond.code ({ cls := "PastWatchModel", name := "isName", desc := "(I)Z" } : Jvm.MethodName) prog_34_method_14_code (2 : Nat) (Option.some Jvm.ClassFile.FieldType.boolean)) ∈ lw_all := lw_g (lw_at lw_m12 102 rfl) rfl
theorem q2848 : (Jvm.Cond.fieldLink "PastWatchModel" (142 : Nat) "PastWatchModel" "KEYWORDS" "[Ljava/lang/String;") ∈ lw_all := lw_g (lw_at lw_m12 103 rfl) rfl
theorem q2849 : (Jvm.Cond.laysStatic "PastWatchModel" "KEYWORDS" "[Ljava/lang/String;") ∈ lw_tbl := lw_at lw_m12 104 rfl
theorem q2850 : (Jvm.Cond.methodLink "PastWatchModel" (146 : Nat) ({ cls := "PastWatchModel", name := "which", desc := "(I[Ljava/lang/String;)I" } : Jvm.MethodName)) ∈ lw_all := lw_g (lw_at lw_m12 105 rfl) rfl
theorem q2851 : (Jvm.Cond.privateMethod ({ cls := "PastWatchModel", name := "which", desc := "(I[Ljava/lang/String;)I" } : Jvm.MethodName)) ∈ lw_tbl := lw_at lw_m12 106 rfl
theorem q2852 : (Jvm.Cond.instanceMethod ({ cls := "PastWatchModel", name := "which", desc := "(I[Ljava/lang/String;)I" } : Jvm.MethodName)) ∈ lw_all := lw_g (lw_at lw_m12 107 rfl) rfl
theorem q2853 : (Jvm.Cond.code ({ cls := "PastWatchModel", name := "which", desc := "(I[Ljava/lang/String;)I" } : Jvm.MethodName) prog_34_method_13_code (5 : Nat) (Option.some Jvm.ClassFile.FieldType.int)) ∈ lw_all := lw_g (lw_at lw_m12 108 rfl) rfl
theorem q2854 : (Jvm.Cond.stringRef "PastWatchModel" (177 : Nat) "=") ∈ lw_tbl := lw_at lw_m12 109 rfl
theorem q2855 : (Jvm.Cond.stringRef "PastWatchModel" (179 : Nat) "-") ∈ lw_tbl := lw_at lw_m12 110 rfl
theorem q2856 : (Jvm.Cond.methodLink "PastWatchModel" (181 : Nat) ({ cls := "PastWatchModel", name := "takesNumber", desc := "()Z" } : Jvm.MethodName)) ∈ lw_all := lw_g (lw_at lw_m12 111 rfl) rfl
theorem q2857 : (Jvm.Cond.privateMethod ({ cls := "PastWatchModel", name := "takesNumber", desc := "()Z" } : Jvm.MethodName)) ∈ lw_tbl := lw_at lw_m12 112 rfl
theorem q2858 : (Jvm.Cond.instanceMethod ({ cls := "PastWatchModel", name := "takesNumber", desc := "()Z" } : Jvm.MethodName)) ∈ lw_all := lw_g (lw_at lw_m12 113 rfl) rfl
theorem q2859 : (Jvm.Cond.code ({ cls := "PastWatchModel", name := "takesNumber", desc := "()Z" } : Jvm.MethodName) prog_34_method_21_code (1 : Nat) (Option.some Jvm.ClassFile.FieldType.boolean)) ∈ lw_all := lw_g (lw_at lw_m12 114 rfl) rfl
theorem q2860 : (Jvm.Cond.stringRef "PastWatchModel" (184 : Nat) ";") ∈ lw_tbl := lw_at lw_m12 115 rfl
theorem q2861 : (Jvm.Cond.stringRef "PastWatchModel" (186 : Nat) "let") ∈ lw_tbl := lw_at lw_m12 116 rfl
theorem q2862 : (Jvm.Cond.stringRef "PastWatchModel" (188 : Nat) ":=") ∈ lw_tbl := lw_at lw_m12 117 rfl
theorem q2863 : (Jvm.Cond.methodLink "PastWatchModel" (190 : Nat) ({ cls := "PastWatchModel", name := "formulaForm", desc := "(I)Z" } : Jvm.MethodName)) ∈ lw_all := lw_g (lw_at lw_m12 118 rfl) rfl
theorem q2864 : (Jvm.Cond.privateMethod ({ cls := "PastWatchModel", name := "formulaForm", desc := "(I)Z" } : Jvm.MethodName)) ∈ lw_tbl := lw_at lw_m12 119 rfl
theorem q2865 : (Jvm.Cond.instanceMethod ({ cls := "PastWatchModel", name := "formulaForm", desc := "(I)Z" } : Jvm.MethodName)) ∈ lw_all := lw_g (lw_at lw_m12 120 rfl) rfl
theorem q2866 : (Jvm.Cond.code ({ cls := "PastWatchModel", name := "formulaForm", desc := "(I)Z" } : Jvm.MethodName) prog_34_method_24_code (2 : Nat) (Option.some Jvm.ClassFile.FieldType.boolean)) ∈ lw_all := lw_g (lw_at lw_m12 121 rfl) rfl
theorem q2867 : (Jvm.Cond.stringRef "PastWatchModel" (204 : Nat) "or") ∈ lw_tbl := lw_at lw_m12 122 rfl
theorem q2868 : (Jvm.Cond.methodLink "PastWatchModel" (206 : Nat) ({ cls := "PastWatchModel", name := "rowForm", desc := "(ILjava/lang/String;)Z" } : Jvm.MethodName)) ∈ lw_all := lw_g (lw_at lw_m12 123 rfl) rfl
theorem q2869 : (Jvm.Cond.privateMethod ({ cls := "PastWatchModel", name := "rowForm", desc := "(ILjava/lang/String;)Z" } : Jvm.MethodName)) ∈ lw_tbl := lw_at lw_m12 124 rfl
theorem q2870 : (Jvm.Cond.instanceMethod ({ cls := "PastWatchModel", name := "rowForm", desc := "(ILjava/lang/String;)Z" } : Jvm.MethodName)) ∈ lw_all := lw_g (lw_at lw_m12 125 rfl) rfl
theorem q2871 : (Jvm.Cond.code ({ cls := "PastWatchModel", name := "rowForm", desc := "(ILjava/lang/String;)Z" } : Jvm.MethodName) prog_34_method_25_code (4 : Nat) (Option.some Jvm.ClassFile.FieldType.boolean)) ∈ lw_all := lw_g (lw_at lw_m12 126 rfl) rfl
theorem q2872 : (Jvm.Cond.stringRef "PastWatchModel" (211 : Nat) "and") ∈ lw_tbl := lw_at lw_m12 127 rfl
theorem q2873 : (Jvm.Cond.methodLink "PastWatchModel" (213 : Nat) ({ cls := "PastWatchModel", name := "sinceForm", desc := "(I)Z" } : Jvm.MethodName)) ∈ lw_all := lw_g (lw_at lw_m12 128 rfl) rfl
theorem q2874 : (Jvm.Cond.privateMethod ({ cls := "PastWatchModel", name := "sinceForm", desc := "(I)Z" } : Jvm.MethodName)) ∈ lw_tbl := lw_at lw_m12 129 rfl
theorem q2875 : (Jvm.Cond.instanceMethod ({ cls := "PastWatchModel", name := "sinceForm", desc := "(I)Z" } : Jvm.MethodName)) ∈ lw_all := lw_g (lw_at lw_m12 130 rfl) rfl
theorem q2876 : (Jvm.Cond.code ({ cls := "PastWatchModel", name := "sinceForm", desc := "(I)Z" } : Jvm.MethodName) prog_34_method_26_code (2 : Nat) (Option.some Jvm.ClassFile.FieldType.boolean)) ∈ lw_all := lw_g (lw_at lw_m12 131 rfl) rfl
theorem q2877 : (Jvm.Cond.methodLink "PastWatchModel" (216 : Nat) ({ cls := "PastWatchModel", name := "oneForm", desc := "(I)Z" } : Jvm.MethodName)) ∈ lw_all := lw_g (lw_at lw_m12 132 rfl) rfl
theorem q2878 : (Jvm.Cond.privateMethod ({ cls := "PastWatchModel", name := "oneForm", desc := "(I)Z" } : Jvm.MethodName)) ∈ lw_tbl := lw_at lw_m12 133 rfl
theorem q2879 : (Jvm.Cond.instanceMethod ({ cls := "PastWatchModel", name := "oneForm", desc := "(I)Z" } : Jvm.MethodName)) ∈ lw_all := lw_g (lw_at lw_m12 134 rfl) rfl
theorem q2880 : (Jvm.Cond.code ({ cls := "PastWatchModel", name := "oneForm", desc := "(I)Z" } : Jvm.MethodName) prog_34_method_28_code (3 : Nat) (Option.some Jvm.ClassFile.FieldType.boolean)) ∈ lw_all := lw_g (lw_at lw_m12 135 rfl) rfl
theorem q2881 : (Jvm.Cond.fieldLink "PastWatchModel" (230 : Nat) "PastWatchModel" "FRONTS" "[Ljava/lang/String;") ∈ lw_all := lw_g (lw_at lw_m12 136 rfl) rfl
theorem q2882 : (Jvm.Cond.laysStatic "PastWatchModel" "FRONTS" "[Ljava/lang/String;") ∈ lw_tbl := lw_at lw_m12 137 rfl
theorem q2883 : (Jvm.Cond.methodLink "PastWatchModel" (221 : Nat) ({ cls := "PastWatchModel", name := "boundsForm", desc := "()Z" } : Jvm.MethodName)) ∈ lw_all := lw_g (lw_at lw_m12 138 rfl) rfl
theorem q2884 : (Jvm.Cond.privateMethod ({ cls := "PastWatchModel", name := "boundsForm", desc := "()Z" } : Jvm.MethodName)) ∈ lw_tbl := lw_at lw_m12 139 rfl
theorem q2885 : (Jvm.Cond.instanceMethod ({ cls := "PastWatchModel", name := "boundsForm", desc := "()Z" } : Jvm.MethodName)) ∈ lw_all := lw_g (lw_at lw_m12 140 rfl) rfl
theorem q2886 : (Jvm.Cond.code ({ cls := "PastWatchModel", name := "boundsForm", desc := "()Z" } : Jvm.MethodName) prog_34_method_27_code (1 : Nat) (Option.some Jvm.ClassFile.FieldType.boolean)) ∈ lw_all := lw_g (lw_at lw_m12 141 rfl) rfl
theorem q2887 : (Jvm.Cond.stringRef "PastWatchModel" (224 : Nat) "[") ∈ lw_tbl := lw_at lw_m12 142 rfl
theorem q2888 : (Jvm.Cond.stringRef "PastWatchModel" (226 : Nat) "..") ∈ lw_tbl := lw_at lw_m12 143 rfl
theorem q2889 : (Jvm.Cond.stringRef "PastWatchModel" (228 : Nat) "]") ∈ lw_tbl := lw_at lw_m12 144 rfl
theorem q2890 : (Jvm.Cond.stringRef "PastWatchModel" (233 : Nat) "{") ∈ lw_tbl := lw_at lw_m12 145 rfl
theorem q2891 : (Jvm.Cond.stringRef "PastWatchModel" (235 : Nat) "}") ∈ lw_tbl := lw_at lw_m12 146 rfl
theorem q2892 : (Jvm.Cond.stringRef "PastWatchModel" (237 : Nat) "true") ∈ lw_tbl := lw_at lw_m12 147 rfl
theorem q2893 : (Jvm.Cond.stringRef "PastWatchModel" (239 : Nat) "false") ∈ lw_tbl := lw_at lw_m12 148 rfl
theorem q2894 : (Jvm.Cond.stringRef "PastWatchModel" (241 : Nat) "is") ∈ lw_tbl := lw_at lw_m12 149 rfl
theorem q2895 : (Jvm.Cond.methodLink "PastWatchModel" (195 : Nat) ({ cls := "PastWatchModel", name := "expressionForm", desc := "(I)Z" } : Jvm.MethodName)) ∈ lw_all := lw_g (lw_at lw_m12 150 rfl) rfl
theorem q2896 : (Jvm.Cond.privateMethod ({ cls := "PastWatchModel", name := "expressionForm", desc := "(I)Z" } : Jvm.MethodName)) ∈ lw_tbl := lw_at lw_m12 151 rfl
theorem q2897 : (Jvm.Cond.instanceMethod ({ cls := "PastWatchModel", name := "expressionForm", desc := "(I)Z" } : Jvm.MethodName)) ∈ lw_all := lw_g (lw_at lw_m12 152 rfl) rfl
theorem q2898 : (Jvm.Cond.code ({ cls := "PastWatchModel", name := "expressionForm", desc := "(I)Z" } : Jvm.MethodName) prog_34_method_29_code (2 : Nat) (Option.some Jvm.ClassFile.FieldType.boolean)) ∈ lw_all := lw_g (lw_at lw_m12 153 rfl) rfl
theorem q2899 : (Jvm.Cond.methodLink "PastWatchModel" (245 : Nat) ({ cls := "PastWatchModel", name := "productForm", desc := "(I)Z" } : Jvm.MethodName)) ∈ lw_all := lw_g (lw_at lw_m12 154 rfl) rfl
theorem q2900 : (Jvm.Cond.privateMethod ({ cls := "PastWatchModel", name := "productForm", desc := "(I)Z" } : Jvm.MethodName)) ∈ lw_tbl := lw_at lw_m12 155 rfl
theorem q2901 : (Jvm.Cond.instanceMethod ({ cls := "PastWatchModel", name := "productForm", desc := "(I)Z" } : Jvm.MethodName)) ∈ lw_all := lw_g (lw_at lw_m12 156 rfl) rfl
theorem q2902 : (Jvm.Cond.code ({ cls := "PastWatchModel", name := "productForm", desc := "(I)Z" } : Jvm.MethodName) prog_34_method_30_code (2 : Nat) (Option.some Jvm.ClassFile.FieldType.boolean)) ∈ lw_all := lw_g (lw_at lw_m12 157 rfl) rfl
theorem q2903 : (Jvm.Cond.methodLink "PastWatchModel" (250 : Nat) ({ cls := "PastWatchModel", name := "factorForm", desc := "(I)Z" } : Jvm.MethodName)) ∈ lw_all := lw_g (lw_at lw_m12 158 rfl) rfl
theorem q2904 : (Jvm.Cond.privateMethod ({ cls := "PastWatchModel", name := "factorForm", desc := "(I)Z" } : Jvm.MethodName)) ∈ lw_tbl := lw_at lw_m12 159 rfl
theorem q2905 : (Jvm.Cond.instanceMethod ({ cls := "PastWatchModel", name := "factorForm", desc := "(I)Z" } : Jvm.MethodName)) ∈ lw_all := lw_g (lw_at lw_m12 160 rfl) rfl
theorem q2906 : (Jvm.Cond.code ({ cls := "PastWatchModel", name := "factorForm", desc := "(I)Z" } : Jvm.MethodName) prog_34_method_32_code (2 : Nat) (Option.some Jvm.ClassFile.FieldType.boolean)) ∈ lw_all := lw_g (lw_at lw_m12 161 rfl) rfl
theorem q2907 : (Jvm.Cond.stringRef "PastWatchModel" (259 : Nat) "time") ∈ lw_tbl := lw_at lw_m12 162 rfl
theorem q2908 : (Jvm.Cond.stringRef "PastWatchModel" (261 : Nat) "step") ∈ lw_tbl := lw_at lw_m12 163 rfl
theorem q2909 : (Jvm.Cond.stringRef "PastWatchModel" (263 : Nat) "(") ∈ lw_tbl := lw_at lw_m12 164 rfl
theorem q2910 : (Jvm.Cond.stringRef "PastWatchModel" (265 : Nat) ")") ∈ lw_tbl := lw_at lw_m12 165 rfl
theorem q2911 : (Jvm.Cond.fieldLink "PastWatchModel" (267 : Nat) "PastWatchModel" "LISTS" "[Ljava/lang/String;") ∈ lw_all := lw_g (lw_at lw_m12 166 rfl) rfl
theorem q2912 : (Jvm.Cond.laysStatic "PastWatchModel" "LISTS" "[Ljava/lang/String;") ∈ lw_tbl := lw_at lw_m12 167 rfl
theorem q2913 : (Jvm.Cond.stringRef "PastWatchModel" (270 : Nat) "count") ∈ lw_tbl := lw_at lw_m12 168 rfl
theorem q2914 : (Jvm.Cond.stringRef "PastWatchModel" (272 : Nat) "last") ∈ lw_tbl := lw_at lw_m12 169 rfl
theorem q2915 : (Jvm.Cond.methodLink "PastWatchModel" (274 : Nat) ({ cls := "PastWatchModel", name := "bracesForm", desc := "(I)Z" } : Jvm.MethodName)) ∈ lw_all := lw_g (lw_at lw_m12 170 rfl) rfl
theorem q2916 : (Jvm.Cond.privateMethod ({ cls := "PastWatchModel", name := "bracesForm", desc := "(I)Z" } : Jvm.MethodName)) ∈ lw_tbl := lw_at lw_m12 171 rfl
theorem q2917 : (Jvm.Cond.instanceMethod ({ cls := "PastWatchModel", name := "bracesForm", desc := "(I)Z" } : Jvm.MethodName)) ∈ lw_all := lw_g (lw_at lw_m12 172 rfl) rfl
theorem q2918 : (Jvm.Cond.code ({ cls := "PastWatchModel", name := "bracesForm", desc := "(I)Z" } : Jvm.MethodName) prog_34_method_31_code (2 : Nat) (Option.some Jvm.ClassFile.FieldType.boolean)) ∈ lw_all := lw_g (lw_at lw_m12 173 rfl) rfl
theorem q2919 : (Jvm.Cond.stringRef "PastWatchModel" (277 : Nat) "at") ∈ lw_tbl := lw_at lw_m12 174 rfl
theorem q2920 : (Jvm.Cond.stringRef "PastWatchModel" (278 : Nat) "if") ∈ lw_tbl := lw_at lw_m12 175 rfl
theorem q2921 : (Jvm.Cond.stringRef "PastWatchModel" (280 : Nat) "then") ∈ lw_tbl := lw_at lw_m12 176 rfl
theorem q2922 : (Jvm.Cond.stringRef "PastWatchModel" (282 : Nat) "else") ∈ lw_tbl := lw_at lw_m12 177 rfl
theorem q2923 : (Jvm.Cond.stringRef "PastWatchModel" (253 : Nat) "*") ∈ lw_tbl := lw_at lw_m12 178 rfl
theorem q2924 : (Jvm.Cond.stringRef "PastWatchModel" (255 : Nat) "/") ∈ lw_tbl := lw_at lw_m12 179 rfl
theorem q2925 : (Jvm.Cond.stringRef "PastWatchModel" (257 : Nat) "%") ∈ lw_tbl := lw_at lw_m12 180 rfl
theorem q2926 : (Jvm.Cond.stringRef "PastWatchModel" (248 : Nat) "+") ∈ lw_tbl := lw_at lw_m12 181 rfl
theorem q2927 : (Jvm.Cond.fieldLink "PastWatchModel" (242 : Nat) "PastWatchModel" "COMPARES" "[Ljava/lang/String;") ∈ lw_all := lw_g (lw_at lw_m12 182 rfl) rfl
theorem q2928 : (Jvm.Cond.laysStatic "PastWatchModel" "COMPARES" "[Ljava/lang/String;") ∈ lw_tbl := lw_at lw_m12 183 rfl
theorem q2929 : (Jvm.Cond.stringRef "PastWatchModel" (219 : Nat) "since") ∈ lw_tbl := lw_at lw_m12 184 rfl
theorem q2930 : (Jvm.Cond.stringRef "PastWatchModel" (209 : Nat) "implies") ∈ lw_tbl := lw_at lw_m12 185 rfl
theorem q2931 : (Jvm.Cond.stringRef "PastWatchModel" (193 : Nat) "value") ∈ lw_tbl := lw_at lw_m12 186 rfl
theorem q2932 : (Jvm.Cond.stringRef "PastWatchModel" (198 : Nat) "watch") ∈ lw_tbl := lw_at lw_m12 187 rfl
theorem q2933 : (Jvm.Cond.stringRef "PastWatchModel" (200 : Nat) ":") ∈ lw_tbl := lw_at lw_m12 188 rfl
theorem q2934 : (Jvm.Cond.stringRef "PastWatchModel" (202 : Nat) "level") ∈ lw_tbl := lw_at lw_m12 189 rfl
theorem q2935 : (Jvm.Cond.methodLink "PastWatchModel" (294 : Nat) ({ cls := "PastWatchModel", name := "wrong", desc := "(II)I" } : Jvm.MethodName)) ∈ lw_all := lw_g (lw_at lw_m12 190 rfl) rfl
theorem q2936 : (Jvm.Cond.privateMethod ({ cls := "PastWatchModel", name := "wrong", desc := "(II)I" } : Jvm.MethodName)) ∈ lw_tbl := lw_at lw_m12 191 rfl
theorem q2937 : (Jvm.Cond.instanceMethod ({ cls := "PastWatchModel", name := "wrong", desc := "(II)I" } : Jvm.MethodName)) ∈ lw_all := lw_g (lw_at lw_m12 192 rfl) rfl
theorem q2938 : (Jvm.Cond.code ({ cls := "PastWatchModel", name := "wrong", desc := "(II)I" } : Jvm.MethodName) prog_34_method_33_code (3 : Nat) (Option.some Jvm.ClassFile.FieldType.int)) ∈ lw_all := lw_g (lw_at lw_m12 193 rfl) rfl
theorem q2939 : (Jvm.Cond.methodLink "PastWatchModel" (381 : Nat) ({ cls := "PastWatchModel", name := "meaning", desc := "()I" } : Jvm.MethodName)) ∈ lw_all := lw_g (lw_at lw_m12 194 rfl) rfl
theorem q2940 : (Jvm.Cond.privateMethod ({ cls := "PastWatchModel", name := "meaning", desc := "()I" } : Jvm.MethodName)) ∈ lw_tbl := lw_at lw_m12 195 rfl
theorem q2941 : (Jvm.Cond.instanceMethod ({ cls := "PastWatchModel", name := "meaning", desc := "()I" } : Jvm.MethodName)) ∈ lw_all := lw_g (lw_at lw_m12 196 rfl) rfl
theorem q2942 : (Jvm.Cond.code ({ cls := "PastWatchModel", name := "meaning", desc := "()I" } : Jvm.MethodName) prog_34_method_35_code (2 : Nat) (Option.some Jvm.ClassFile.FieldType.int)) ∈ lw_all := lw_g (lw_at lw_m12 197 rfl) rfl
theorem q2943 : (Jvm.Cond.methodLink "PastWatchModel" (291 : Nat) ({ cls := "PastWatchModel", name := "itemMeant", desc := "()I" } : Jvm.MethodName)) ∈ lw_all := lw_g (lw_at lw_m12 198 rfl) rfl
theorem q2944 : (Jvm.Cond.privateMethod ({ cls := "PastWatchModel", name := "itemMeant", desc := "()I" } : Jvm.MethodName)) ∈ lw_tbl := lw_at lw_m12 199 rfl
theorem q2945 : (Jvm.Cond.instanceMethod ({ cls := "PastWatchModel", name := "itemMeant", desc := "()I" } : Jvm.MethodName)) ∈ lw_all := lw_g (lw_at lw_m12 200 rfl) rfl
theorem q2946 : (Jvm.Cond.code ({ cls := "PastWatchModel", name := "itemMeant", desc := "()I" } : Jvm.MethodName) prog_34_method_36_code (7 : Nat) (Option.some Jvm.ClassFile.FieldType.int)) ∈ lw_all := lw_g (lw_at lw_m12 201 rfl) rfl
theorem q2947 : (Jvm.Cond.classLink "PastWatchModel" (111 : Nat) "java/lang/String") ∈ lw_all := lw_g (lw_at lw_m12 202 rfl) rfl
theorem q2949 : (Jvm.Cond.methodLink "PastWatchModel" (297 : Nat) ({ cls := "PastWatchModel", name := "find", desc := "(I)I" } : Jvm.MethodName)) ∈ lw_all := lw_g (lw_at lw_m12 204 rfl) rfl
theorem q2950 : (Jvm.Cond.privateMethod ({ cls := "PastWatchModel", name := "find", desc := "(I)I" } : Jvm.MethodName)) ∈ lw_tbl := lw_at lw_m12 205 rfl
theorem q2951 : (Jvm.Cond.instanceMethod ({ cls := "PastWatchModel", name := "find", desc := "(I)I" } : Jvm.MethodName)) ∈ lw_all := lw_g (lw_at lw_m12 206 rfl) rfl
theorem q2952 : (Jvm.Cond.code ({ cls := "PastWatchModel", name := "find", desc := "(I)I" } : Jvm.MethodName) prog_34_method_34_code (4 : Nat) (Option.some Jvm.ClassFile.FieldType.int)) ∈ lw_all := lw_g (lw_at lw_m12 207 rfl) rfl
theorem q2953 : (Jvm.Cond.methodLink "PastWatchModel" (287 : Nat) ({ cls := "PastWatchModel", name := "nameOf", desc := "(I)J" } : Jvm.MethodName)) ∈ lw_all := lw_g (lw_at lw_m12 208 rfl) rfl
theorem q2954 : (Jvm.Cond.privateMethod ({ cls := "PastWatchModel", name := "nameOf", desc := "(I)J" } : Jvm.MethodName)) ∈ lw_tbl := lw_at lw_m12 209 rfl
theorem q2955 : (Jvm.Cond.instanceMethod ({ cls := "PastWatchModel", name := "nameOf", desc := "(I)J" } : Jvm.MethodName)) ∈ lw_all := lw_g (lw_at lw_m12 210 rfl) rfl
theorem q2956 : (Jvm.Cond.code ({ cls := "PastWatchModel", name := "nameOf", desc := "(I)J" } : Jvm.MethodName) prog_34_method_15_code (5 : Nat) (Option.some Jvm.ClassFile.FieldType.long)) ∈ lw_all := lw_g (lw_at lw_m12 211 rfl) rfl
theorem q2957 : (Jvm.Cond.constantLong "PastWatchModel" (150 : Nat) (37 : Int64)) ∈ lw_all := lw_g (lw_at lw_m12 212 rfl) rfl
theorem q2958 : (Jvm.Cond.methodLink "PastWatchModel" (300 : Nat) ({ cls := "PastWatchModel", name := "numberOf", desc := "(I)I" } : Jvm.MethodName)) ∈ lw_all := lw_g (lw_at lw_m12 213 rfl) rfl
theorem q2959 : (Jvm.Cond.privateMethod ({ cls := "PastWatchModel", name := "numberOf", desc := "(I)I" } : Jvm.MethodName)) ∈ lw_tbl := lw_at lw_m12 214 rfl
theorem q2960 : (Jvm.Cond.instanceMethod ({ cls := "PastWatchModel", name := "numberOf", desc := "(I)I" } : Jvm.MethodName)) ∈ lw_all := lw_g (lw_at lw_m12 215 rfl) rfl
theorem q2961 : (Jvm.Cond.code ({ cls := "PastWatchModel", name := "numberOf", desc := "(I)I" } : Jvm.MethodName) prog_34_method_16_code (4 : Nat) (Option.some Jvm.ClassFile.FieldType.int)) ∈ lw_all := lw_g (lw_at lw_m12 216 rfl) rfl
theorem q2962 : (Jvm.Cond.methodLink "PastWatchModel" (303 : Nat) ({ cls := "PastWatchModel", name := "expression", desc := "()I" } : Jvm.MethodName)) ∈ lw_all := lw_g (lw_at lw_m12 217 rfl) rfl
theorem q2963 : (Jvm.Cond.privateMethod ({ cls := "PastWatchModel", name := "expression", desc := "()I" } : Jvm.MethodName)) ∈ lw_tbl := lw_at lw_m12 218 rfl
theorem q2964 : (Jvm.Cond.instanceMethod ({ cls := "PastWatchModel", name := "expression", desc := "()I" } : Jvm.MethodName)) ∈ lw_all := lw_g (lw_at lw_m12 219 rfl) rfl
theorem q2965 : (Jvm.Cond.code ({ cls := "PastWatchModel", name := "expression", desc := "()I" } : Jvm.MethodName) prog_34_method_45_code (2 : Nat) (Option.some Jvm.ClassFile.FieldType.int)) ∈ lw_all := lw_g (lw_at lw_m12 220 rfl) rfl
theorem q2966 : (Jvm.Cond.methodLink "PastWatchModel" (343 : Nat) ({ cls := "PastWatchModel", name := "product", desc := "()I" } : Jvm.MethodName)) ∈ lw_all := lw_g (lw_at lw_m12 221 rfl) rfl
theorem q2967 : (Jvm.Cond.privateMethod ({ cls := "PastWatchModel", name := "product", desc := "()I" } : Jvm.MethodName)) ∈ lw_tbl := lw_at lw_m12 222 rfl
theorem q2968 : (Jvm.Cond.instanceMethod ({ cls := "PastWatchModel", name := "product", desc := "()I" } : Jvm.MethodName)) ∈ lw_all := lw_g (lw_at lw_m12 223 rfl) rfl
theorem q2969 : (Jvm.Cond.code ({ cls := "PastWatchModel", name := "product", desc := "()I" } : Jvm.MethodName) prog_34_method_46_code (2 : Nat) (Option.some Jvm.ClassFile.FieldType.int)) ∈ lw_all := lw_g (lw_at lw_m12 224 rfl) rfl
theorem q2970 : (Jvm.Cond.methodLink "PastWatchModel" (350 : Nat) ({ cls := "PastWatchModel", name := "factor", desc := "()I" } : Jvm.MethodName)) ∈ lw_all := lw_g (lw_at lw_m12 225 rfl) rfl
theorem q2971 : (Jvm.Cond.privateMethod ({ cls := "PastWatchModel", name := "factor", desc := "()I" } : Jvm.MethodName)) ∈ lw_tbl := lw_at lw_m12 226 rfl
theorem q2972 : (Jvm.Cond.instanceMethod ({ cls := "PastWatchModel", name := "factor", desc := "()I" } : Jvm.MethodName)) ∈ lw_all := lw_g (lw_at lw_m12 227 rfl) rfl
theorem q2973 : (Jvm.Cond.code ({ cls := "PastWatchModel", name := "factor", desc := "()I" } : Jvm.MethodName) prog_34_method_49_code (7 : Nat) (Option.some Jvm.ClassFile.FieldType.int)) ∈ lw_all := lw_g (lw_at lw_m12 228 rfl) rfl
theorem q2974 : (Jvm.Cond.methodLink "PastWatchModel" (319 : Nat) ({ cls := "PastWatchModel", name := "node", desc := "(IIIII)I" } : Jvm.MethodName)) ∈ lw_all := lw_g (lw_at lw_m12 229 rfl) rfl
theorem q2975 : (Jvm.Cond.privateMethod ({ cls := "PastWatchModel", name := "node", desc := "(IIIII)I" } : Jvm.MethodName)) ∈ lw_tbl := lw_at lw_m12 230 rfl
theorem q2976 : (Jvm.Cond.instanceMethod ({ cls := "PastWatchModel", name := "node", desc := "(IIIII)I" } : Jvm.MethodName)) ∈ lw_all := lw_g (lw_at lw_m12 231 rfl) rfl
theorem q2977 : (Jvm.Cond.code ({ cls := "PastWatchModel", name := "node", desc := "(IIIII)I" } : Jvm.MethodName) prog_34_method_37_code (6 : Nat) (Option.some Jvm.ClassFile.FieldType.int)) ∈ lw_all := lw_g (lw_at lw_m12 232 rfl) rfl
theorem q2978 : (Jvm.Cond.methodLink "PastWatchModel" (356 : Nat) ({ cls := "PastWatchModel", name := "namedValue", desc := "(I)I" } : Jvm.MethodName)) ∈ lw_all := lw_g (lw_at lw_m12 233 rfl) rfl
theorem q2979 : (Jvm.Cond.privateMethod ({ cls := "PastWatchModel", name := "namedValue", desc := "(I)I" } : Jvm.MethodName)) ∈ lw_tbl := lw_at lw_m12 234 rfl
theorem q2980 : (Jvm.Cond.instanceMethod ({ cls := "PastWatchModel", name := "namedValue", desc := "(I)I" } : Jvm.MethodName)) ∈ lw_all := lw_g (lw_at lw_m12 235 rfl) rfl
theorem q2981 : (Jvm.Cond.code ({ cls := "PastWatchModel", name := "namedValue", desc := "(I)I" } : Jvm.MethodName) prog_34_method_50_code (3 : Nat) (Option.some Jvm.ClassFile.FieldType.int)) ∈ lw_all := lw_g (lw_at lw_m12 236 rfl) rfl
theorem q2982 : (Jvm.Cond.methodLink "PastWatchModel" (359 : Nat) ({ cls := "PastWatchModel", name := "braces", desc := "()I" } : Jvm.MethodName)) ∈ lw_all := lw_g (lw_at lw_m12 237 rfl) rfl
theorem q2983 : (Jvm.Cond.privateMethod ({ cls := "PastWatchModel", name := "braces", desc := "()I" } : Jvm.MethodName)) ∈ lw_tbl := lw_at lw_m12 238 rfl
theorem q2984 : (Jvm.Cond.instanceMethod ({ cls := "PastWatchModel", name := "braces", desc := "()I" } : Jvm.MethodName)) ∈ lw_all := lw_g (lw_at lw_m12 239 rfl) rfl
theorem q2985 : (Jvm.Cond.code ({ cls := "PastWatchModel", name := "braces", desc := "()I" } : Jvm.MethodName) prog_34_method_48_code (2 : Nat) (Option.some Jvm.ClassFile.FieldType.int)) ∈ lw_all := lw_g (lw_at lw_m13 0 rfl) rfl
theorem q2986 : (Jvm.Cond.methodLink "PastWatchModel" (306 : Nat) ({ cls := "PastWatchModel", name := "formula", desc := "()I" } : Jvm.MethodName)) ∈ lw_all := lw_g (lw_at lw_m13 1 rfl) rfl
theorem q2987 : (Jvm.Cond.privateMethod ({ cls := "PastWatchModel", name := "formula", desc := "()I" } : Jvm.MethodName)) ∈ lw_tbl := lw_at lw_m13 2 rfl
theorem q2988 : (Jvm.Cond.instanceMethod ({ cls := "PastWatchModel", name := "formula", desc := "()I" } : Jvm.MethodName)) ∈ lw_all := lw_g (lw_at lw_m13 3 rfl) rfl
theorem q2989 : (Jvm.Cond.code ({ cls := "PastWatchModel", name := "formula", desc := "()I" } : Jvm.MethodName) prog_34_method_38_code (3 : Nat) (Option.some Jvm.ClassFile.FieldType.int)) ∈ lw_all := lw_g (lw_at lw_m13 4 rfl) rfl
theorem q2990 : (Jvm.Cond.methodLink "PastWatchModel" (315 : Nat) ({ cls := "PastWatchModel", name := "row", desc := "(Ljava/lang/String;)I" } : Jvm.MethodName)) ∈ lw_all := lw_g (lw_at lw_m13 5 rfl) rfl
theorem q2991 : (Jvm.Cond.privateMethod ({ cls := "PastWatchModel", name := "row", desc := "(Ljava/lang/String;)I" } : Jvm.MethodName)) ∈ lw_tbl := lw_at lw_m13 6 rfl
theorem q2992 : (Jvm.Cond.instanceMethod ({ cls := "PastWatchModel", name := "row", desc := "(Ljava/lang/String;)I" } : Jvm.MethodName)) ∈ lw_all := lw_g (lw_at lw_m13 7 rfl) rfl
theorem q2993 : (Jvm.Cond.code ({ cls := "PastWatchModel", name := "row", desc := "(Ljava/lang/String;)I" } : Jvm.MethodName) prog_34_method_39_code (5 : Nat) (Option.some Jvm.ClassFile.FieldType.int)) ∈ lw_all := lw_g (lw_at lw_m13 8 rfl) rfl
theorem q2994 : (Jvm.Cond.methodLink "PastWatchModel" (323 : Nat) ({ cls := "PastWatchModel", name := "since", desc := "()I" } : Jvm.MethodName)) ∈ lw_all := lw_g (lw_at lw_m13 9 rfl) rfl
theorem q2995 : (Jvm.Cond.privateMethod ({ cls := "PastWatchModel", name := "since", desc := "()I" } : Jvm.MethodName)) ∈ lw_tbl := lw_at lw_m13 10 rfl
theorem q2996 : (Jvm.Cond.instanceMethod ({ cls := "PastWatchModel", name := "since", desc := "()I" } : Jvm.MethodName)) ∈ lw_all := lw_g (lw_at lw_m13 11 rfl) rfl
theorem q2997 : (Jvm.Cond.code ({ cls := "PastWatchModel", name := "since", desc := "()I" } : Jvm.MethodName) prog_34_method_41_code (6 : Nat) (Option.some Jvm.ClassFile.FieldType.int)) ∈ lw_all := lw_g (lw_at lw_m13 12 rfl) rfl
theorem q2998 : (Jvm.Cond.methodLink "PastWatchModel" (331 : Nat) ({ cls := "PastWatchModel", name := "one", desc := "()I" } : Jvm.MethodName)) ∈ lw_all := lw_g (lw_at lw_m13 13 rfl) rfl
theorem q2999 : (Jvm.Cond.privateMethod ({ cls := "PastWatchModel", name := "one", desc := "()I" } : Jvm.MethodName)) ∈ lw_tbl := lw_at lw_m13 14 rfl
theorem q3000 : (Jvm.Cond.instanceMethod ({ cls := "PastWatchModel", name := "one", desc := "()I" } : Jvm.MethodName)) ∈ lw_all := lw_g (lw_at lw_m13 15 rfl) rfl
theorem q3001 : (Jvm.Cond.code ({ cls := "PastWatchModel", name := "one", desc := "()I" } : Jvm.MethodName) prog_34_method_42_code (4 : Nat) (Option.some Jvm.ClassFile.FieldType.int)) ∈ lw_all := lw_g (lw_at lw_m13 16 rfl) rfl
theorem q3002 : (Jvm.Cond.methodLink "PastWatchModel" (337 : Nat) ({ cls := "PastWatchModel", name := "fronted", desc := "(II)I" } : Jvm.MethodName)) ∈ lw_all := lw_g (lw_at lw_m13 17 rfl) rfl
theorem q3003 : (Jvm.Cond.privateMethod ({ cls := "PastWatchModel", name := "fronted", desc := "(II)I" } : Jvm.MethodName)) ∈ lw_tbl := lw_at lw_m13 18 rfl
theorem q3004 : (Jvm.Cond.instanceMethod ({ cls := "PastWatchModel", name := "fronted", desc := "(II)I" } : Jvm.MethodName)) ∈ lw_all := lw_g (lw_at lw_m13 19 rfl) rfl
theorem q3005 : (Jvm.Cond.code ({ cls := "PastWatchModel", name := "fronted", desc := "(II)I" } : Jvm.MethodName) prog_34_method_43_code (6 : Nat) (Option.some Jvm.ClassFile.FieldType.int)) ∈ lw_all := lw_g (lw_at lw_m13 20 rfl) rfl
theorem q3006 : (Jvm.Cond.methodLink "PastWatchModel" (334 : Nat) ({ cls := "PastWatchModel", name := "bounds", desc := "()I" } : Jvm.MethodName)) ∈ lw_all := lw_g (lw_at lw_m13 21 rfl) rfl
theorem q3007 : (Jvm.Cond.privateMethod ({ cls := "PastWatchModel", name := "bounds", desc := "()I" } : Jvm.MethodName)) ∈ lw_tbl := lw_at lw_m13 22 rfl
theorem q3008 : (Jvm.Cond.instanceMethod ({ cls := "PastWatchModel", name := "bounds", desc := "()I" } : Jvm.MethodName)) ∈ lw_all := lw_g (lw_at lw_m13 23 rfl) rfl
theorem q3009 : (Jvm.Cond.code ({ cls := "PastWatchModel", name := "bounds", desc := "()I" } : Jvm.MethodName) prog_34_method_40_code (1 : Nat) (Option.some Jvm.ClassFile.FieldType.int)) ∈ lw_all := lw_g (lw_at lw_m13 24 rfl) rfl
theorem q3010 : (Jvm.Cond.methodLink "PastWatchModel" (340 : Nat) ({ cls := "PastWatchModel", name := "compare", desc := "(I)I" } : Jvm.MethodName)) ∈ lw_all := lw_g (lw_at lw_m13 25 rfl) rfl
theorem q3011 : (Jvm.Cond.privateMethod ({ cls := "PastWatchModel", name := "compare", desc := "(I)I" } : Jvm.MethodName)) ∈ lw_tbl := lw_at lw_m13 26 rfl
theorem q3012 : (Jvm.Cond.instanceMethod ({ cls := "PastWatchModel", name := "compare", desc := "(I)I" } : Jvm.MethodName)) ∈ lw_all := lw_g (lw_at lw_m13 27 rfl) rfl
theorem q3013 : (Jvm.Cond.code ({ cls := "PastWatchModel", name := "compare", desc := "(I)I" } : Jvm.MethodName) prog_34_method_44_code (5 : Nat) (Option.some Jvm.ClassFile.FieldType.int)) ∈ lw_all := lw_g (lw_at lw_m13 28 rfl) rfl
theorem q3014 : (Jvm.Cond.methodLink "PastWatchModel" (346 : Nat) ({ cls := "PastWatchModel", name := "twoSided", desc := "(Z)I" } : Jvm.MethodName)) ∈ lw_all := lw_g (lw_at lw_m13 29 rfl) rfl
theorem q3015 : (Jvm.Cond.privateMethod ({ cls := "PastWatchModel", name := "twoSided", desc := "(Z)I" } : Jvm.MethodName)) ∈ lw_tbl := lw_at lw_m13 30 rfl
theorem q3016 : (Jvm.Cond.instanceMethod ({ cls := "PastWatchModel", name := "twoSided", desc := "(Z)I" } : Jvm.MethodName)) ∈ lw_all := lw_g (lw_at lw_m13 31 rfl) rfl
theorem q3017 : (Jvm.Cond.code ({ cls := "PastWatchModel", name := "twoSided", desc := "(Z)I" } : Jvm.MethodName) prog_34_method_47_code (5 : Nat) (Option.some Jvm.ClassFile.FieldType.int)) ∈ lw_all := lw_g (lw_at lw_m13 32 rfl) rfl
theorem q3018 : (Jvm.Cond.fieldLink "PastWatchModel" (353 : Nat) "PastWatchModel" "SIGNS" "[Ljava/lang/String;") ∈ lw_all := lw_g (lw_at lw_m13 33 rfl) rfl
theorem q3019 : (Jvm.Cond.laysStatic "PastWatchModel" "SIGNS" "[Ljava/lang/String;") ∈ lw_tbl := lw_at lw_m13 34 rfl
theorem q3020 : (Jvm.Cond.methodLink "PastWatchModel" (384 : Nat) ({ cls := "PastWatchModel", name := "begin", desc := "()V" } : Jvm.MethodName)) ∈ lw_all := lw_g (lw_at lw_m13 35 rfl) rfl
theorem q3021 : (Jvm.Cond.privateMethod ({ cls := "PastWatchModel", name := "begin", desc := "()V" } : Jvm.MethodName)) ∈ lw_tbl := lw_at lw_m13 36 rfl
theorem q3022 : (Jvm.Cond.instanceMethod ({ cls := "PastWatchModel", name := "begin", desc := "()V" } : Jvm.MethodName)) ∈ lw_all := lw_g (lw_at lw_m13 37 rfl) rfl
theorem q3023 : (Jvm.Cond.code ({ cls := "PastWatchModel", name := "begin", desc := "()V" } : Jvm.MethodName) prog_34_method_53_code (2 : Nat) (Option.none : Option Jvm.ClassFile.FieldType)) ∈ lw_all := lw_g (lw_at lw_m13 38 rfl) rfl
theorem q3025 : (Jvm.Cond.instanceMethod ({ cls := "PastWatchModel", name := "errorAt", desc := "()I" } : Jvm.MethodName)) ∈ lw_all := lw_g (lw_at lw_m13 40 rfl) rfl
theorem q3026 : (Jvm.Cond.selects "PastWatchModel" ({ cls := "PastWatchModel", name := "errorAt", desc := "()I" } : Jvm.MethodName) ({ cls := "PastWatchModel", name := "errorAt", desc := "()I" } : Jvm.MethodName)) ∈ lw_all := lw_g (lw_at lw_m13 41 rfl) rfl
theorem q3027 : (Jvm.Cond.code ({ cls := "PastWatchModel", name := "errorAt", desc := "()I" } : Jvm.MethodName) prog_34_method_54_code (1 : Nat) (Option.some Jvm.ClassFile.FieldType.int)) ∈ lw_all := lw_g (lw_at lw_m13 42 rfl) rfl
theorem q3029 : (Jvm.Cond.instanceMethod ({ cls := "PastWatchModel", name := "count", desc := "(I)I" } : Jvm.MethodName)) ∈ lw_all := lw_g (lw_at lw_m13 44 rfl) rfl
theorem q3030 : (Jvm.Cond.selects "PastWatchModel" ({ cls := "PastWatchModel", name := "count", desc := "(I)I" } : Jvm.MethodName) ({ cls := "PastWatchModel", name := "count", desc := "(I)I" } : Jvm.MethodName)) ∈ lw_all := lw_g (lw_at lw_m13 45 rfl) rfl
theorem q3031 : (Jvm.Cond.code ({ cls := "PastWatchModel", name := "count", desc := "(I)I" } : Jvm.MethodName) prog_34_method_56_code (2 : Nat) (Option.some Jvm.ClassFile.FieldType.int)) ∈ lw_all := lw_g (lw_at lw_m13 46 rfl) rfl
theorem q3032 : (Jvm.Cond.methodLink "PastWatchModel" (390 : Nat) ({ cls := "PastWatchModel", name := "counted", desc := "(I)I" } : Jvm.MethodName)) ∈ lw_all := lw_g (lw_at lw_m13 47 rfl) rfl
theorem q3033 : (Jvm.Cond.privateMethod ({ cls := "PastWatchModel", name := "counted", desc := "(I)I" } : Jvm.MethodName)) ∈ lw_tbl := lw_at lw_m13 48 rfl
theorem q3034 : (Jvm.Cond.instanceMethod ({ cls := "PastWatchModel", name := "counted", desc := "(I)I" } : Jvm.MethodName)) ∈ lw_all := lw_g (lw_at lw_m13 49 rfl) rfl
theorem q3035 : (Jvm.Cond.code ({ cls := "PastWatchModel", name := "counted", desc := "(I)I" } : Jvm.MethodName) prog_34_method_55_code (2 : Nat) (Option.some Jvm.ClassFile.FieldType.int)) ∈ lw_all := lw_g (lw_at lw_m13 50 rfl) rfl
theorem q3037 : (Jvm.Cond.instanceMethod ({ cls := "PastWatchModel", name := "set", desc := "(IJ)J" } : Jvm.MethodName)) ∈ lw_all := lw_g (lw_at lw_m13 52 rfl) rfl
theorem q3038 : (Jvm.Cond.selects "PastWatchModel" ({ cls := "PastWatchModel", name := "set", desc := "(IJ)J" } : Jvm.MethodName) ({ cls := "PastWatchModel", name := "set", desc := "(IJ)J" } : Jvm.MethodName)) ∈ lw_all := lw_g (lw_at lw_m13 53 rfl) rfl
theorem q3039 : (Jvm.Cond.code ({ cls := "PastWatchModel", name := "set", desc := "(IJ)J" } : Jvm.MethodName) prog_34_method_70_code (6 : Nat) (Option.some Jvm.ClassFile.FieldType.long)) ∈ lw_all := lw_g (lw_at lw_m13 54 rfl) rfl
theorem q3041 : (Jvm.Cond.instanceMethod ({ cls := "PastWatchModel", name := "tick", desc := "(I)I" } : Jvm.MethodName)) ∈ lw_all := lw_g (lw_at lw_m13 56 rfl) rfl
theorem q3042 : (Jvm.Cond.selects "PastWatchModel" ({ cls := "PastWatchModel", name := "tick", desc := "(I)I" } : Jvm.MethodName) ({ cls := "PastWatchModel", name := "tick", desc := "(I)I" } : Jvm.MethodName)) ∈ lw_all := lw_g (lw_at lw_m13 57 rfl) rfl
theorem q3043 : (Jvm.Cond.code ({ cls := "PastWatchModel", name := "tick", desc := "(I)I" } : Jvm.MethodName) prog_34_method_73_code (2 : Nat) (Option.some Jvm.ClassFile.FieldType.int)) ∈ lw_all := lw_g (lw_at lw_m13 58 rfl) rfl
theorem q3044 : (Jvm.Cond.methodLink "PastWatchModel" (449 : Nat) ({ cls := "PastWatchModel", name := "step", desc := "(I)I" } : Jvm.MethodName)) ∈ lw_all := lw_g (lw_at lw_m13 59 rfl) rfl
theorem q3045 : (Jvm.Cond.privateMethod ({ cls := "PastWatchModel", name := "step", desc := "(I)I" } : Jvm.MethodName)) ∈ lw_tbl := lw_at lw_m13 60 rfl
theorem q3046 : (Jvm.Cond.instanceMethod ({ cls := "PastWatchModel", name := "step", desc := "(I)I" } : Jvm.MethodName)) ∈ lw_all := lw_g (lw_at lw_m13 61 rfl) rfl
theorem q3047 : (Jvm.Cond.code ({ cls := "PastWatchModel", name := "step", desc := "(I)I" } : Jvm.MethodName) prog_34_method_72_code (4 : Nat) (Option.some Jvm.ClassFile.FieldType.int)) ∈ lw_all := lw_g (lw_at lw_m13 62 rfl) rfl
theorem q3048 : (Jvm.Cond.methodLink "PastWatchModel" (442 : Nat) ({ cls := "PastWatchModel", name := "reckon", desc := "(III)V" } : Jvm.MethodName)) ∈ lw_all := lw_g (lw_at lw_m13 63 rfl) rfl
theorem q3049 : (Jvm.Cond.privateMethod ({ cls := "PastWatchModel", name := "reckon", desc := "(III)V" } : Jvm.MethodName)) ∈ lw_tbl := lw_at lw_m13 64 rfl
theorem q3050 : (Jvm.Cond.instanceMethod ({ cls := "PastWatchModel", name := "reckon", desc := "(III)V" } : Jvm.MethodName)) ∈ lw_all := lw_g (lw_at lw_m13 65 rfl) rfl
theorem q3051 : (Jvm.Cond.code ({ cls := "PastWatchModel", name := "reckon", desc := "(III)V" } : Jvm.MethodName) prog_34_method_60_code (5 : Nat) (Option.none : Option Jvm.ClassFile.FieldType)) ∈ lw_all := lw_g (lw_at lw_m13 66 rfl) rfl
theorem q3052 : (Jvm.Cond.methodLink "PastWatchModel" (396 : Nat) ({ cls := "PastWatchModel", name := "isTrue", desc := "(II)Z" } : Jvm.MethodName)) ∈ lw_all := lw_g (lw_at lw_m13 67 rfl) rfl
theorem q3053 : (Jvm.Cond.privateMethod ({ cls := "PastWatchModel", name := "isTrue", desc := "(II)Z" } : Jvm.MethodName)) ∈ lw_tbl := lw_at lw_m13 68 rfl
theorem q3054 : (Jvm.Cond.instanceMethod ({ cls := "PastWatchModel", name := "isTrue", desc := "(II)Z" } : Jvm.MethodName)) ∈ lw_all := lw_g (lw_at lw_m13 69 rfl) rfl
theorem q3055 : (Jvm.Cond.code ({ cls := "PastWatchModel", name := "isTrue", desc := "(II)Z" } : Jvm.MethodName) prog_34_method_62_code (7 : Nat) (Option.some Jvm.ClassFile.FieldType.boolean)) ∈ lw_all := lw_g (lw_at lw_m13 70 rfl) rfl
theorem q3056 : (Jvm.Cond.methodLink "PastWatchModel" (407 : Nat) ({ cls := "PastWatchModel", name := "holds", desc := "(II)Z" } : Jvm.MethodName)) ∈ lw_all := lw_g (lw_at lw_m13 71 rfl) rfl
theorem q3057 : (Jvm.Cond.privateMethod ({ cls := "PastWatchModel", name := "holds", desc := "(II)Z" } : Jvm.MethodName)) ∈ lw_tbl := lw_at lw_m13 72 rfl
theorem q3058 : (Jvm.Cond.instanceMethod ({ cls := "PastWatchModel", name := "holds", desc := "(II)Z" } : Jvm.MethodName)) ∈ lw_all := lw_g (lw_at lw_m13 73 rfl) rfl
theorem q3059 : (Jvm.Cond.code ({ cls := "PastWatchModel", name := "holds", desc := "(II)Z" } : Jvm.MethodName) prog_34_method_58_code (3 : Nat) (Option.some Jvm.ClassFile.FieldType.boolean)) ∈ lw_all := lw_g (lw_at lw_m13 74 rfl) rfl
theorem q3060 : (Jvm.Cond.methodLink "PastWatchModel" (393 : Nat) ({ cls := "PastWatchModel", name := "at", desc := "(II)J" } : Jvm.MethodName)) ∈ lw_all := lw_g (lw_at lw_m13 75 rfl) rfl
theorem q3061 : (Jvm.Cond.privateMethod ({ cls := "PastWatchModel", name := "at", desc := "(II)J" } : Jvm.MethodName)) ∈ lw_tbl := lw_at lw_m13 76 rfl
theorem q3062 : (Jvm.Cond.instanceMethod ({ cls := "PastWatchModel", name := "at", desc := "(II)J" } : Jvm.MethodName)) ∈ lw_all := lw_g (lw_at lw_m13 77 rfl) rfl
theorem q3063 : (Jvm.Cond.code ({ cls := "PastWatchModel", name := "at", desc := "(II)J" } : Jvm.MethodName) prog_34_method_57_code (3 : Nat) (Option.some Jvm.ClassFile.FieldType.long)) ∈ lw_all := lw_g (lw_at lw_m13 78 rfl) rfl
theorem q3064 : (Jvm.Cond.methodLink "PastWatchModel" (410 : Nat) ({ cls := "PastWatchModel", name := "isWithin", desc := "(III)Z" } : Jvm.MethodName)) ∈ lw_all := lw_g (lw_at lw_m13 79 rfl) rfl
theorem q3065 : (Jvm.Cond.privateMethod ({ cls := "PastWatchModel", name := "isWithin", desc := "(III)Z" } : Jvm.MethodName)) ∈ lw_tbl := lw_at lw_m13 80 rfl
theorem q3066 : (Jvm.Cond.instanceMethod ({ cls := "PastWatchModel", name := "isWithin", desc := "(III)Z" } : Jvm.MethodName)) ∈ lw_all := lw_g (lw_at lw_m13 81 rfl) rfl
theorem q3067 : (Jvm.Cond.code ({ cls := "PastWatchModel", name := "isWithin", desc := "(III)Z" } : Jvm.MethodName) prog_34_method_59_code (4 : Nat) (Option.some Jvm.ClassFile.FieldType.boolean)) ∈ lw_all := lw_g (lw_at lw_m13 82 rfl) rfl
theorem q3068 : (Jvm.Cond.methodLink "PastWatchModel" (413 : Nat) ({ cls := "PastWatchModel", name := "firstMiss", desc := "(II)I" } : Jvm.MethodName)) ∈ lw_all := lw_g (lw_at lw_m13 83 rfl) rfl
theorem q3069 : (Jvm.Cond.privateMethod ({ cls := "PastWatchModel", name := "firstMiss", desc := "(II)I" } : Jvm.MethodName)) ∈ lw_tbl := lw_at lw_m13 84 rfl
theorem q3070 : (Jvm.Cond.instanceMethod ({ cls := "PastWatchModel", name := "firstMiss", desc := "(II)I" } : Jvm.MethodName)) ∈ lw_all := lw_g (lw_at lw_m13 85 rfl) rfl
theorem q3071 : (Jvm.Cond.code ({ cls := "PastWatchModel", name := "firstMiss", desc := "(II)I" } : Jvm.MethodName) prog_34_method_63_code (5 : Nat) (Option.some Jvm.ClassFile.FieldType.int)) ∈ lw_all := lw_g (lw_at lw_m13 86 rfl) rfl
theorem q3072 : (Jvm.Cond.methodLink "PastWatchModel" (416 : Nat) ({ cls := "PastWatchModel", name := "compared", desc := "(IJJ)Z" } : Jvm.MethodName)) ∈ lw_all := lw_g (lw_at lw_m13 87 rfl) rfl
theorem q3073 : (Jvm.Cond.static ({ cls := "PastWatchModel", name := "compared", desc := "(IJJ)Z" } : Jvm.MethodName)) ∈ lw_all := lw_g (lw_at lw_m13 88 rfl) rfl
theorem q3074 : (Jvm.Cond.code ({ cls := "PastWatchModel", name := "compared", desc := "(IJJ)Z" } : Jvm.MethodName) prog_34_method_65_code (5 : Nat) (Option.some Jvm.ClassFile.FieldType.boolean)) ∈ lw_all := lw_g (lw_at lw_m13 89 rfl) rfl
theorem q3075 : (Jvm.Cond.methodLink "PastWatchModel" (420 : Nat) ({ cls := "PastWatchModel", name := "isSince", desc := "(II)Z" } : Jvm.MethodName)) ∈ lw_all := lw_g (lw_at lw_m13 90 rfl) rfl
theorem q3076 : (Jvm.Cond.privateMethod ({ cls := "PastWatchModel", name := "isSince", desc := "(II)Z" } : Jvm.MethodName)) ∈ lw_tbl := lw_at lw_m13 91 rfl
theorem q3077 : (Jvm.Cond.instanceMethod ({ cls := "PastWatchModel", name := "isSince", desc := "(II)Z" } : Jvm.MethodName)) ∈ lw_all := lw_g (lw_at lw_m13 92 rfl) rfl
theorem q3078 : (Jvm.Cond.code ({ cls := "PastWatchModel", name := "isSince", desc := "(II)Z" } : Jvm.MethodName) prog_34_method_64_code (6 : Nat) (Option.some Jvm.ClassFile.FieldType.boolean)) ∈ lw_all := lw_g (lw_at lw_m13 93 rfl) rfl
theorem q3079 : (Jvm.Cond.methodLink "PastWatchModel" (400 : Nat) ({ cls := "PastWatchModel", name := "truth", desc := "(Z)J" } : Jvm.MethodName)) ∈ lw_all := lw_g (lw_at lw_m13 94 rfl) rfl
theorem q3080 : (Jvm.Cond.static ({ cls := "PastWatchModel", name := "truth", desc := "(Z)J" } : Jvm.MethodName)) ∈ lw_all := lw_g (lw_at lw_m13 95 rfl) rfl
theorem q3081 : (Jvm.Cond.code ({ cls := "PastWatchModel", name := "truth", desc := "(Z)J" } : Jvm.MethodName) prog_34_method_61_code (1 : Nat) (Option.some Jvm.ClassFile.FieldType.long)) ∈ lw_all := lw_g (lw_at lw_m13 96 rfl) rfl
theorem q3082 : (Jvm.Cond.methodLink "PastWatchModel" (404 : Nat) ({ cls := "PastWatchModel", name := "worth", desc := "(II)J" } : Jvm.MethodName)) ∈ lw_all := lw_g (lw_at lw_m13 97 rfl) rfl
theorem q3083 : (Jvm.Cond.privateMethod ({ cls := "PastWatchModel", name := "worth", desc := "(II)J" } : Jvm.MethodName)) ∈ lw_tbl := lw_at lw_m13 98 rfl
theorem q3084 : (Jvm.Cond.instanceMethod ({ cls := "PastWatchModel", name := "worth", desc := "(II)J" } : Jvm.MethodName)) ∈ lw_all := lw_g (lw_at lw_m13 99 rfl) rfl
theorem q3085 : (Jvm.Cond.code ({ cls := "PastWatchModel", name := "worth", desc := "(II)J" } : Jvm.MethodName) prog_34_method_67_code (7 : Nat) (Option.some Jvm.ClassFile.FieldType.long)) ∈ lw_all := lw_g (lw_at lw_m13 100 rfl) rfl
theorem q3086 : (Jvm.Cond.methodLink "PastWatchModel" (423 : Nat) ({ cls := "PastWatchModel", name := "overAll", desc := "(III)J" } : Jvm.MethodName)) ∈ lw_all := lw_g (lw_at lw_m13 101 rfl) rfl
theorem q3087 : (Jvm.Cond.privateMethod ({ cls := "PastWatchModel", name := "overAll", desc := "(III)J" } : Jvm.MethodName)) ∈ lw_tbl := lw_at lw_m13 102 rfl
theorem q3088 : (Jvm.Cond.instanceMethod ({ cls := "PastWatchModel", name := "overAll", desc := "(III)J" } : Jvm.MethodName)) ∈ lw_all := lw_g (lw_at lw_m13 103 rfl) rfl
theorem q3089 : (Jvm.Cond.code ({ cls := "PastWatchModel", name := "overAll", desc := "(III)J" } : Jvm.MethodName) prog_34_method_68_code (7 : Nat) (Option.some Jvm.ClassFile.FieldType.long)) ∈ lw_all := lw_g (lw_at lw_m13 104 rfl) rfl
theorem q3090 : (Jvm.Cond.methodLink "PastWatchModel" (436 : Nat) ({ cls := "java/lang/Math", name := "max", desc := "(JJ)J" } : Jvm.MethodName)) ∈ lw_all := lw_g (lw_at lw_m13 105 rfl) rfl
theorem q3091 : (Jvm.Cond.methodLink "PastWatchModel" (439 : Nat) ({ cls := "java/lang/Math", name := "min", desc := "(JJ)J" } : Jvm.MethodName)) ∈ lw_all := lw_g (lw_at lw_m13 106 rfl) rfl
theorem q3092 : (Jvm.Cond.methodLink "PastWatchModel" (427 : Nat) ({ cls := "PastWatchModel", name := "lastHolding", desc := "(II)I" } : Jvm.MethodName)) ∈ lw_all := lw_g (lw_at lw_m13 107 rfl) rfl
theorem q3093 : (Jvm.Cond.privateMethod ({ cls := "PastWatchModel", name := "lastHolding", desc := "(II)I" } : Jvm.MethodName)) ∈ lw_tbl := lw_at lw_m13 108 rfl
theorem q3094 : (Jvm.Cond.instanceMethod ({ cls := "PastWatchModel", name := "lastHolding", desc := "(II)I" } : Jvm.MethodName)) ∈ lw_all := lw_g (lw_at lw_m13 109 rfl) rfl
theorem q3095 : (Jvm.Cond.code ({ cls := "PastWatchModel", name := "lastHolding", desc := "(II)I" } : Jvm.MethodName) prog_34_method_66_code (5 : Nat) (Option.some Jvm.ClassFile.FieldType.int)) ∈ lw_all := lw_g (lw_at lw_m13 110 rfl) rfl
theorem q3096 : (Jvm.Cond.constantLong "PastWatchModel" (430 : Nat) (-1 : Int64)) ∈ lw_all := lw_g (lw_at lw_m13 111 rfl) rfl
theorem q3097 : (Jvm.Cond.methodLink "PastWatchModel" (432 : Nat) ({ cls := "PastWatchModel", name := "both", desc := "(IJJ)J" } : Jvm.MethodName)) ∈ lw_all := lw_g (lw_at lw_m13 112 rfl) rfl
theorem q3098 : (Jvm.Cond.static ({ cls := "PastWatchModel", name := "both", desc := "(IJJ)J" } : Jvm.MethodName)) ∈ lw_all := lw_g (lw_at lw_m13 113 rfl) rfl
theorem q3099 : (Jvm.Cond.code ({ cls := "PastWatchModel", name := "both", desc := "(IJJ)J" } : Jvm.MethodName) prog_34_method_69_code (5 : Nat) (Option.some Jvm.ClassFile.FieldType.long)) ∈ lw_all := lw_g (lw_at lw_m13 114 rfl) rfl
theorem q3100 : (Jvm.Cond.methodLink "PastWatchModel" (446 : Nat) ({ cls := "PastWatchModel", name := "watches", desc := "(II)Z" } : Jvm.MethodName)) ∈ lw_all := lw_g (lw_at lw_m13 115 rfl) rfl
theorem q3101 : (Jvm.Cond.privateMethod ({ cls := "PastWatchModel", name := "watches", desc := "(II)Z" } : Jvm.MethodName)) ∈ lw_tbl := lw_at lw_m13 116 rfl
theorem q3102 : (Jvm.Cond.instanceMethod ({ cls := "PastWatchModel", name := "watches", desc := "(II)Z" } : Jvm.MethodName)) ∈ lw_all := lw_g (lw_at lw_m13 117 rfl) rfl
theorem q3103 : (Jvm.Cond.code ({ cls := "PastWatchModel", name := "watches", desc := "(II)Z" } : Jvm.MethodName) prog_34_method_71_code (3 : Nat) (Option.some Jvm.ClassFile.FieldType.boolean)) ∈ lw_all := lw_g (lw_at lw_m13 118 rfl) rfl
theorem q3105 : (Jvm.Cond.instanceMethod ({ cls := "PastWatchModel", name := "back", desc := "(I)I" } : Jvm.MethodName)) ∈ lw_all := lw_g (lw_at lw_m13 120 rfl) rfl
theorem q3106 : (Jvm.Cond.selects "PastWatchModel" ({ cls := "PastWatchModel", name := "back", desc := "(I)I" } : Jvm.MethodName) ({ cls := "PastWatchModel", name := "back", desc := "(I)I" } : Jvm.MethodName)) ∈ lw_all := lw_g (lw_at lw_m13 121 rfl) rfl
theorem q3107 : (Jvm.Cond.code ({ cls := "PastWatchModel", name := "back", desc := "(I)I" } : Jvm.MethodName) prog_34_method_74_code (2 : Nat) (Option.some Jvm.ClassFile.FieldType.int)) ∈ lw_all := lw_g (lw_at lw_m13 122 rfl) rfl
theorem q3109 : (Jvm.Cond.instanceMethod ({ cls := "PastWatchModel", name := "restart", desc := "()I" } : Jvm.MethodName)) ∈ lw_all := lw_g (lw_at lw_m13 124 rfl) rfl
theorem q3110 : (Jvm.Cond.selects "PastWatchModel" ({ cls := "PastWatchModel", name := "restart", desc := "()I" } : Jvm.MethodName) ({ cls := "PastWatchModel", name := "restart", desc := "()I" } : Jvm.MethodName)) ∈ lw_all := lw_g (lw_at lw_m13 125 rfl) rfl
theorem q3111 : (Jvm.Cond.code ({ cls := "PastWatchModel", name := "restart", desc := "()I" } : Jvm.MethodName) prog_34_method_75_code (1 : Nat) (Option.some Jvm.ClassFile.FieldType.int)) ∈ lw_all := lw_g (lw_at lw_m13 126 rfl) rfl
theorem q3113 : (Jvm.Cond.instanceMethod ({ cls := "PastWatchModel", name := "keep", desc := "()I" } : Jvm.MethodName)) ∈ lw_all := lw_g (lw_at lw_m13 128 rfl) rfl
theorem q3114 : (Jvm.Cond.selects "PastWatchModel" ({ cls := "PastWatchModel", name := "keep", desc := "()I" } : Jvm.MethodName) ({ cls := "PastWatchModel", name := "keep", desc := "()I" } : Jvm.MethodName)) ∈ lw_all := lw_g (lw_at lw_m13 129 rfl) rfl
theorem q3115 : (Jvm.Cond.code ({ cls := "PastWatchModel", name := "keep", desc := "()I" } : Jvm.MethodName) prog_34_method_76_code (1 : Nat) (Option.some Jvm.ClassFile.FieldType.int)) ∈ lw_all := lw_g (lw_at lw_m13 130 rfl) rfl
theorem q3116 : (Jvm.Cond.methodLink "PastWatchModel" (454 : Nat) ({ cls := "java/lang/System", name := "arraycopy", desc := "(Ljava/lang/Object;ILjava/lang/Object;II)V" } : Jvm.MethodName)) ∈ lw_all := lw_g (lw_at lw_m13 131 rfl) rfl
theorem q3118 : (Jvm.Cond.instanceMethod ({ cls := "PastWatchModel", name := "replay", desc := "()I" } : Jvm.MethodName)) ∈ lw_all := lw_g (lw_at lw_m13 133 rfl) rfl
theorem q3119 : (Jvm.Cond.selects "PastWatchModel" ({ cls := "PastWatchModel", name := "replay", desc := "()I" } : Jvm.MethodName) ({ cls := "PastWatchModel", name := "replay", desc := "()I" } : Jvm.MethodName)) ∈ lw_all := lw_g (lw_at lw_m13 134 rfl) rfl
theorem q3120 : (Jvm.Cond.code ({ cls := "PastWatchModel", name := "replay", desc := "()I" } : Jvm.MethodName) prog_34_method_77_code (4 : Nat) (Option.some Jvm.ClassFile.FieldType.int)) ∈ lw_all := lw_g (lw_at lw_m13 135 rfl) rfl
theorem q3121 : (Jvm.Cond.methodLink "PastWatchModel" (460 : Nat) ({ cls := "java/lang/Math", name := "min", desc := "(II)I" } : Jvm.MethodName)) ∈ lw_all := lw_g (lw_at lw_m13 136 rfl) rfl
theorem q3123 : (Jvm.Cond.instanceMethod ({ cls := "PastWatchModel", name := "time", desc := "(I)I" } : Jvm.MethodName)) ∈ lw_all := lw_g (lw_at lw_m13 138 rfl) rfl
theorem q3124 : (Jvm.Cond.selects "PastWatchModel" ({ cls := "PastWatchModel", name := "time", desc := "(I)I" } : Jvm.MethodName) ({ cls := "PastWatchModel", name := "time", desc := "(I)I" } : Jvm.MethodName)) ∈ lw_all := lw_g (lw_at lw_m13 139 rfl) rfl
theorem q3125 : (Jvm.Cond.code ({ cls := "PastWatchModel", name := "time", desc := "(I)I" } : Jvm.MethodName) prog_34_method_79_code (2 : Nat) (Option.some Jvm.ClassFile.FieldType.int)) ∈ lw_all := lw_g (lw_at lw_m13 140 rfl) rfl
theorem q3126 : (Jvm.Cond.methodLink "PastWatchModel" (462 : Nat) ({ cls := "PastWatchModel", name := "isStep", desc := "(I)Z" } : Jvm.MethodName)) ∈ lw_all := lw_g (lw_at lw_m13 141 rfl) rfl
theorem q3127 : (Jvm.Cond.privateMethod ({ cls := "PastWatchModel", name := "isStep", desc := "(I)Z" } : Jvm.MethodName)) ∈ lw_tbl := lw_at lw_m13 142 rfl
theorem q3128 : (Jvm.Cond.instanceMethod ({ cls := "PastWatchModel", name := "isStep", desc := "(I)Z" } : Jvm.MethodName)) ∈ lw_all := lw_g (lw_at lw_m13 143 rfl) rfl
theorem q3129 : (Jvm.Cond.code ({ cls := "PastWatchModel", name := "isStep", desc := "(I)Z" } : Jvm.MethodName) prog_34_method_78_code (2 : Nat) (Option.some Jvm.ClassFile.FieldType.boolean)) ∈ lw_all := lw_g (lw_at lw_m13 144 rfl) rfl
theorem q3131 : (Jvm.Cond.instanceMethod ({ cls := "PastWatchModel", name := "signal", desc := "(II)J" } : Jvm.MethodName)) ∈ lw_all := lw_g (lw_at lw_m13 146 rfl) rfl
theorem q3132 : (Jvm.Cond.selects "PastWatchModel" ({ cls := "PastWatchModel", name := "signal", desc := "(II)J" } : Jvm.MethodName) ({ cls := "PastWatchModel", name := "signal", desc := "(II)J" } : Jvm.MethodName)) ∈ lw_all := lw_g (lw_at lw_m13 147 rfl) rfl
theorem q3133 : (Jvm.Cond.code ({ cls := "PastWatchModel", name := "signal", desc := "(II)J" } : Jvm.MethodName) prog_34_method_80_code (3 : Nat) (Option.some Jvm.ClassFile.FieldType.long)) ∈ lw_all := lw_g (lw_at lw_m13 148 rfl) rfl
theorem q3135 : (Jvm.Cond.instanceMethod ({ cls := "PastWatchModel", name := "value", desc := "(II)J" } : Jvm.MethodName)) ∈ lw_all := lw_g (lw_at lw_m13 150 rfl) rfl
theorem q3136 : (Jvm.Cond.selects "PastWatchModel" ({ cls := "PastWatchModel", name := "value", desc := "(II)J" } : Jvm.MethodName) ({ cls := "PastWatchModel", name := "value", desc := "(II)J" } : Jvm.MethodName)) ∈ lw_all := lw_g (lw_at lw_m13 151 rfl) rfl
theorem q3137 : (Jvm.Cond.code ({ cls := "PastWatchModel", name := "value", desc := "(II)J" } : Jvm.MethodName) prog_34_method_81_code (3 : Nat) (Option.some Jvm.ClassFile.FieldType.long)) ∈ lw_all := lw_g (lw_at lw_m13 152 rfl) rfl
theorem q3139 : (Jvm.Cond.instanceMethod ({ cls := "PastWatchModel", name := "let", desc := "(II)Z" } : Jvm.MethodName)) ∈ lw_all := lw_g (lw_at lw_m13 154 rfl) rfl
theorem q3140 : (Jvm.Cond.selects "PastWatchModel" ({ cls := "PastWatchModel", name := "let", desc := "(II)Z" } : Jvm.MethodName) ({ cls := "PastWatchModel", name := "let", desc := "(II)Z" } : Jvm.MethodName)) ∈ lw_all := lw_g (lw_at lw_m13 155 rfl) rfl
theorem q3141 : (Jvm.Cond.code ({ cls := "PastWatchModel", name := "let", desc := "(II)Z" } : Jvm.MethodName) prog_34_method_82_code (3 : Nat) (Option.some Jvm.ClassFile.FieldType.boolean)) ∈ lw_all := lw_g (lw_at lw_m13 156 rfl) rfl
theorem q3143 : (Jvm.Cond.instanceMethod ({ cls := "PastWatchModel", name := "watch", desc := "(II)Z" } : Jvm.MethodName)) ∈ lw_all := lw_g (lw_at lw_m13 158 rfl) rfl
theorem q3144 : (Jvm.Cond.selects "PastWatchModel" ({ cls := "PastWatchModel", name := "watch", desc := "(II)Z" } : Jvm.MethodName) ({ cls := "PastWatchModel", name := "watch", desc := "(II)Z" } : Jvm.MethodName)) ∈ lw_all := lw_g (lw_at lw_m13 159 rfl) rfl
theorem q3145 : (Jvm.Cond.code ({ cls := "PastWatchModel", name := "watch", desc := "(II)Z" } : Jvm.MethodName) prog_34_method_84_code (3 : Nat) (Option.some Jvm.ClassFile.FieldType.boolean)) ∈ lw_all := lw_g (lw_at lw_m13 160 rfl) rfl
theorem q3146 : (Jvm.Cond.methodLink "PastWatchModel" (465 : Nat) ({ cls := "PastWatchModel", name := "isWatch", desc := "(I)Z" } : Jvm.MethodName)) ∈ lw_all := lw_g (lw_at lw_m13 161 rfl) rfl
theorem q3147 : (Jvm.Cond.privateMethod ({ cls := "PastWatchModel", name := "isWatch", desc := "(I)Z" } : Jvm.MethodName)) ∈ lw_tbl := lw_at lw_m13 162 rfl
theorem q3148 : (Jvm.Cond.instanceMethod ({ cls := "PastWatchModel", name := "isWatch", desc := "(I)Z" } : Jvm.MethodName)) ∈ lw_all := lw_g (lw_at lw_m13 163 rfl) rfl
theorem q3149 : (Jvm.Cond.code ({ cls := "PastWatchModel", name := "isWatch", desc := "(I)Z" } : Jvm.MethodName) prog_34_method_83_code (2 : Nat) (Option.some Jvm.ClassFile.FieldType.boolean)) ∈ lw_all := lw_g (lw_at lw_m13 164 rfl) rfl
theorem q3151 : (Jvm.Cond.instanceMethod ({ cls := "PastWatchModel", name := "told", desc := "(II)I" } : Jvm.MethodName)) ∈ lw_all := lw_g (lw_at lw_m13 166 rfl) rfl
theorem q3152 : (Jvm.Cond.selects "PastWatchModel" ({ cls := "PastWatchModel", name := "told", desc := "(II)I" } : Jvm.MethodName) ({ cls := "PastWatchModel", name := "told", desc := "(II)I" } : Jvm.MethodName)) ∈ lw_all := lw_g (lw_at lw_m13 167 rfl) rfl
theorem q3153 : (Jvm.Cond.code ({ cls := "PastWatchModel", name := "told", desc := "(II)I" } : Jvm.MethodName) prog_34_method_86_code (3 : Nat) (Option.some Jvm.ClassFile.FieldType.int)) ∈ lw_all := lw_g (lw_at lw_m13 168 rfl) rfl
theorem q3154 : (Jvm.Cond.methodLink "PastWatchModel" (468 : Nat) ({ cls := "PastWatchModel", name := "toldOf", desc := "(II)I" } : Jvm.MethodName)) ∈ lw_all := lw_g (lw_at lw_m13 169 rfl) rfl
theorem q3155 : (Jvm.Cond.privateMethod ({ cls := "PastWatchModel", name := "toldOf", desc := "(II)I" } : Jvm.MethodName)) ∈ lw_tbl := lw_at lw_m13 170 rfl
theorem q3156 : (Jvm.Cond.instanceMethod ({ cls := "PastWatchModel", name := "toldOf", desc := "(II)I" } : Jvm.MethodName)) ∈ lw_all := lw_g (lw_at lw_m13 171 rfl) rfl
theorem q3157 : (Jvm.Cond.code ({ cls := "PastWatchModel", name := "toldOf", desc := "(II)I" } : Jvm.MethodName) prog_34_method_85_code (9 : Nat) (Option.some Jvm.ClassFile.FieldType.int)) ∈ lw_all := lw_g (lw_at lw_m13 172 rfl) rfl
theorem q3159 : (Jvm.Cond.instanceMethod ({ cls := "PastWatchModel", name := "alarms", desc := "(I)I" } : Jvm.MethodName)) ∈ lw_all := lw_g (lw_at lw_m13 174 rfl) rfl
theorem q3160 : (Jvm.Cond.selects "PastWatchModel" ({ cls := "PastWatchModel", name := "alarms", desc := "(I)I" } : Jvm.MethodName) ({ cls := "PastWatchModel", name := "alarms", desc := "(I)I" } : Jvm.MethodName)) ∈ lw_all := lw_g (lw_at lw_m13 175 rfl) rfl
theorem q3161 : (Jvm.Cond.code ({ cls := "PastWatchModel", name := "alarms", desc := "(I)I" } : Jvm.MethodName) prog_34_method_87_code (4 : Nat) (Option.some Jvm.ClassFile.FieldType.int)) ∈ lw_all := lw_g (lw_at lw_m13 176 rfl) rfl
theorem q3163 : (Jvm.Cond.instanceMethod ({ cls := "PastWatchModel", name := "why", desc := "(IIZ)I" } : Jvm.MethodName)) ∈ lw_all := lw_g (lw_at lw_m13 178 rfl) rfl
theorem q3164 : (Jvm.Cond.selects "PastWatchModel" ({ cls := "PastWatchModel", name := "why", desc := "(IIZ)I" } : Jvm.MethodName) ({ cls := "PastWatchModel", name := "why", desc := "(IIZ)I" } : Jvm.MethodName)) ∈ lw_all := lw_g (lw_at lw_m13 179 rfl) rfl
theorem q3165 : (Jvm.Cond.code ({ cls := "PastWatchModel", name := "why", desc := "(IIZ)I" } : Jvm.MethodName) prog_34_method_89_code (5 : Nat) (Option.some Jvm.ClassFile.FieldType.int)) ∈ lw_all := lw_g (lw_at lw_m13 180 rfl) rfl
theorem q3166 : (Jvm.Cond.methodLink "PastWatchModel" (471 : Nat) ({ cls := "PastWatchModel", name := "reason", desc := "(II)I" } : Jvm.MethodName)) ∈ lw_all := lw_g (lw_at lw_m13 181 rfl) rfl
theorem q3167 : (Jvm.Cond.privateMethod ({ cls := "PastWatchModel", name := "reason", desc := "(II)I" } : Jvm.MethodName)) ∈ lw_tbl := lw_at lw_m13 182 rfl
theorem q3168 : (Jvm.Cond.instanceMethod ({ cls := "PastWatchModel", name := "reason", desc := "(II)I" } : Jvm.MethodName)) ∈ lw_all := lw_g (lw_at lw_m13 183 rfl) rfl
theorem q3169 : (Jvm.Cond.code ({ cls := "PastWatchModel", name := "reason", desc := "(II)I" } : Jvm.MethodName) prog_34_method_88_code (5 : Nat) (Option.some Jvm.ClassFile.FieldType.int)) ∈ lw_all := lw_g (lw_at lw_m13 184 rfl) rfl
theorem q3171 : (Jvm.Cond.instanceMethod ({ cls := "PastWatchModel", name := "differ", desc := "(II)I" } : Jvm.MethodName)) ∈ lw_all := lw_g (lw_at lw_m13 186 rfl) rfl
theorem q3172 : (Jvm.Cond.selects "PastWatchModel" ({ cls := "PastWatchModel", name := "differ", desc := "(II)I" } : Jvm.MethodName) ({ cls := "PastWatchModel", name := "differ", desc := "(II)I" } : Jvm.MethodName)) ∈ lw_all := lw_g (lw_at lw_m13 187 rfl) rfl
theorem q3173 : (Jvm.Cond.code ({ cls := "PastWatchModel", name := "differ", desc := "(II)I" } : Jvm.MethodName) prog_34_method_90_code (4 : Nat) (Option.some Jvm.ClassFile.FieldType.int)) ∈ lw_all := lw_g (lw_at lw_m13 188 rfl) rfl
theorem q3175 : (Jvm.Cond.instanceMethod ({ cls := "PastWatchModel", name := "share", desc := "(I)D" } : Jvm.MethodName)) ∈ lw_all := lw_g (lw_at lw_m13 190 rfl) rfl
theorem q3176 : (Jvm.Cond.selects "PastWatchModel" ({ cls := "PastWatchModel", name := "share", desc := "(I)D" } : Jvm.MethodName) ({ cls := "PastWatchModel", name := "share", desc := "(I)D" } : Jvm.MethodName)) ∈ lw_all := lw_g (lw_at lw_m13 191 rfl) rfl
theorem q3177 : (Jvm.Cond.code ({ cls := "PastWatchModel", name := "share", desc := "(I)D" } : Jvm.MethodName) prog_34_method_91_code (2 : Nat) (Option.some Jvm.ClassFile.FieldType.double)) ∈ lw_all := lw_g (lw_at lw_m13 192 rfl) rfl
theorem q3179 : (Jvm.Cond.instanceMethod ({ cls := "PastWatchModel", name := "ask", desc := "()I" } : Jvm.MethodName)) ∈ lw_all := lw_g (lw_at lw_m13 194 rfl) rfl
theorem q3180 : (Jvm.Cond.selects "PastWatchModel" ({ cls := "PastWatchModel", name := "ask", desc := "()I" } : Jvm.MethodName) ({ cls := "PastWatchModel", name := "ask", desc := "()I" } : Jvm.MethodName)) ∈ lw_all := lw_g (lw_at lw_m13 195 rfl) rfl
theorem q3181 : (Jvm.Cond.code ({ cls := "PastWatchModel", name := "ask", desc := "()I" } : Jvm.MethodName) prog_34_method_92_code (3 : Nat) (Option.some Jvm.ClassFile.FieldType.int)) ∈ lw_all := lw_g (lw_at lw_m13 196 rfl) rfl
theorem q3182 : (Jvm.Cond.methodLink "PastWatchModel" (480 : Nat) ({ cls := "PastWatchModel", name := "moveQuestion", desc := "(I)I" } : Jvm.MethodName)) ∈ lw_all := lw_g (lw_at lw_m13 197 rfl) rfl
theorem q3183 : (Jvm.Cond.privateMethod ({ cls := "PastWatchModel", name := "moveQuestion", desc := "(I)I" } : Jvm.MethodName)) ∈ lw_tbl := lw_at lw_m13 198 rfl
theorem q3184 : (Jvm.Cond.instanceMethod ({ cls := "PastWatchModel", name := "moveQuestion", desc := "(I)I" } : Jvm.MethodName)) ∈ lw_all := lw_g (lw_at lw_m13 199 rfl) rfl
theorem q3185 : (Jvm.Cond.code ({ cls := "PastWatchModel", name := "moveQuestion", desc := "(I)I" } : Jvm.MethodName) prog_34_method_93_code (4 : Nat) (Option.some Jvm.ClassFile.FieldType.int)) ∈ lw_all := lw_g (lw_at lw_m13 200 rfl) rfl
theorem q3186 : (Jvm.Cond.methodLink "PastWatchModel" (483 : Nat) ({ cls := "PastWatchModel", name := "isPart", desc := "(II)Z" } : Jvm.MethodName)) ∈ lw_all := lw_g (lw_at lw_m13 201 rfl) rfl
theorem q3187 : (Jvm.Cond.static ({ cls := "PastWatchModel", name := "isPart", desc := "(II)Z" } : Jvm.MethodName)) ∈ lw_all := lw_g (lw_at lw_m13 202 rfl) rfl
theorem q3188 : (Jvm.Cond.code ({ cls := "PastWatchModel", name := "isPart", desc := "(II)Z" } : Jvm.MethodName) prog_34_method_95_code (2 : Nat) (Option.some Jvm.ClassFile.FieldType.boolean)) ∈ lw_all := lw_g (lw_at lw_m13 203 rfl) rfl
theorem q3189 : (Jvm.Cond.methodLink "PastWatchModel" (486 : Nat) ({ cls := "PastWatchModel", name := "moved", desc := "(IIIZ)I" } : Jvm.MethodName)) ∈ lw_all := lw_g (lw_at lw_m13 204 rfl) rfl
theorem q3190 : (Jvm.Cond.static ({ cls := "PastWatchModel", name := "moved", desc := "(IIIZ)I" } : Jvm.MethodName)) ∈ lw_all := lw_g (lw_at lw_m13 205 rfl) rfl
theorem q3191 : (Jvm.Cond.code ({ cls := "PastWatchModel", name := "moved", desc := "(IIIZ)I" } : Jvm.MethodName) prog_34_method_94_code (4 : Nat) (Option.some Jvm.ClassFile.FieldType.int)) ∈ lw_all := lw_g (lw_at lw_m13 206 rfl) rfl
theorem q3193 : (Jvm.Cond.instanceMethod ({ cls := "PastWatchModel", name := "answer", desc := "(I)Z" } : Jvm.MethodName)) ∈ lw_all := lw_g (lw_at lw_m13 208 rfl) rfl
theorem q3194 : (Jvm.Cond.selects "PastWatchModel" ({ cls := "PastWatchModel", name := "answer", desc := "(I)Z" } : Jvm.MethodName) ({ cls := "PastWatchModel", name := "answer", desc := "(I)Z" } : Jvm.MethodName)) ∈ lw_all := lw_g (lw_at lw_m13 209 rfl) rfl
theorem q3195 : (Jvm.Cond.code ({ cls := "PastWatchModel", name := "answer", desc := "(I)Z" } : Jvm.MethodName) prog_34_method_96_code (3 : Nat) (Option.some Jvm.ClassFile.FieldType.boolean)) ∈ lw_all := lw_g (lw_at lw_m13 210 rfl) rfl
theorem q3197 : (Jvm.Cond.instanceMethod ({ cls := "PastWatchModel", name := "digest", desc := "()J" } : Jvm.MethodName)) ∈ lw_all := lw_g (lw_at lw_m13 212 rfl) rfl
theorem q3198 : (Jvm.Cond.selects "PastWatchModel" ({ cls := "PastWatchModel", name := "digest", desc := "()J" } : Jvm.MethodName) ({ cls := "PastWatchModel", name := "digest", desc := "()J" } : Jvm.MethodName)) ∈ lw_all := lw_g (lw_at lw_m13 213 rfl) rfl
theorem q3199 : (Jvm.Cond.code ({ cls := "PastWatchModel", name := "digest", desc := "()J" } : Jvm.MethodName) prog_34_method_97_code (5 : Nat) (Option.some Jvm.ClassFile.FieldType.long)) ∈ lw_all := lw_g (lw_at lw_m13 214 rfl) rfl
theorem q3200 : (Jvm.Cond.constantLong "PastWatchModel" (490 : Nat) (383 : Int64)) ∈ lw_all := lw_g (lw_at lw_m13 215 rfl) rfl
theorem q3201 : (Jvm.Cond.constantLong "PastWatchModel" (492 : Nat) (31 : Int64)) ∈ lw_all := lw_g (lw_at lw_m13 216 rfl) rfl
theorem q3263 : (Jvm.Cond.castable "PastWatchModel" "java/lang/Object") ∈ lw_tbl := lw_at lw_m14 38 rfl
theorem q3330 : (Jvm.Cond.stringRef "PastWatchModel" (494 : Nat) "not") ∈ lw_tbl := lw_at lw_m14 105 rfl
theorem q3331 : (Jvm.Cond.stringRef "PastWatchModel" (496 : Nat) "prev") ∈ lw_tbl := lw_at lw_m14 106 rfl
theorem q3332 : (Jvm.Cond.stringRef "PastWatchModel" (498 : Nat) "rise") ∈ lw_tbl := lw_at lw_m14 107 rfl
theorem q3333 : (Jvm.Cond.stringRef "PastWatchModel" (500 : Nat) "fall") ∈ lw_tbl := lw_at lw_m14 108 rfl
theorem q3334 : (Jvm.Cond.stringRef "PastWatchModel" (502 : Nat) "once") ∈ lw_tbl := lw_at lw_m14 109 rfl
theorem q3335 : (Jvm.Cond.stringRef "PastWatchModel" (504 : Nat) "always") ∈ lw_tbl := lw_at lw_m14 110 rfl
theorem q3336 : (Jvm.Cond.stringRef "PastWatchModel" (506 : Nat) "old") ∈ lw_tbl := lw_at lw_m14 111 rfl
theorem q3337 : (Jvm.Cond.stringRef "PastWatchModel" (508 : Nat) "max") ∈ lw_tbl := lw_at lw_m14 112 rfl
theorem q3338 : (Jvm.Cond.stringRef "PastWatchModel" (509 : Nat) "min") ∈ lw_tbl := lw_at lw_m14 113 rfl
theorem q3339 : (Jvm.Cond.stringRef "PastWatchModel" (510 : Nat) "sum") ∈ lw_tbl := lw_at lw_m14 114 rfl
theorem q3340 : (Jvm.Cond.stringRef "PastWatchModel" (512 : Nat) "<>") ∈ lw_tbl := lw_at lw_m14 115 rfl
theorem q3341 : (Jvm.Cond.stringRef "PastWatchModel" (514 : Nat) "<") ∈ lw_tbl := lw_at lw_m14 116 rfl
theorem q3342 : (Jvm.Cond.stringRef "PastWatchModel" (516 : Nat) ">") ∈ lw_tbl := lw_at lw_m14 117 rfl
theorem q3343 : (Jvm.Cond.stringRef "PastWatchModel" (518 : Nat) "<=") ∈ lw_tbl := lw_at lw_m14 118 rfl
theorem q3344 : (Jvm.Cond.stringRef "PastWatchModel" (520 : Nat) ">=") ∈ lw_tbl := lw_at lw_m14 119 rfl
theorem in_X3 : ∀ w ∈ wsX30, w ∈ lw_all := lw_in wsX30 [2682, 2684, 2686, 2688, 2690, 2692, 2694, 2696, 2698, 2700, 2702, 2704, 2706, 2708, 2710, 2712, 2714, 2716, 2718, 2720, 2722, 2724, 2726, 2728, 2730, 2732, 2734, 2736, 2738, 2740, 2742, 2744, 2746, 2748, 2750, 2752, 2754, 2756, 2758, 2760, 2762] (by decide +kernel) (by decide +kernel)

