set_option maxRecDepth 100000
/-! PastWatch -/

def RX1 : String := "PastWatch"
def TX1 : u_T := fun k => match k with
  | 0 => ("PastWatch", "tape", "[B", true)
  | 1 => ("PastWatch", "taped", "I", false)
  | 2 => ("PastWatch", "program", "LPastWatch$Program;", false)
  | 3 => ("PastWatch", "errorAt", "I", false)
  | 4 => ("PastWatch", "steps", "I", false)
  | 5 => ("PastWatch", "times", "[I", true)
  | 6 => ("PastWatch", "keptSteps", "I", false)
  | 7 => ("PastWatch", "keptTimes", "[I", false)
  | 8 => ("PastWatch", "kept", "Ljava/util/ArrayList;", true)
  | 9 => ("PastWatch", "asked", "LPastWatch$Node;", false)
  | _ => ("PastWatch", "askedNodes", "Ljava/util/ArrayList;", true)
def tyX1 : Nat → FieldType := fun k => match k with
  | 0 => .array .byte
  | 1 => .int
  | 2 => .object "PastWatch$Program"
  | 3 => .int
  | 4 => .int
  | 5 => .array .int
  | 6 => .int
  | 7 => .array .int
  | 8 => .object "java/util/ArrayList"
  | 9 => .object "PastWatch$Node"
  | _ => .object "java/util/ArrayList"
abbrev wsX10 : List Cond := u_ws RX1 TX1 11
theorem nmX1 : ∀ a, a < 11 → ∀ b, b < 11 → a ≠ b → (TX1 a).2.1 ≠ (TX1 b).2.1 := by decide +kernel
theorem tyX1_ok : ∀ k, k < 11 → parseFieldDescriptor (TX1 k).2.2.1 = some (tyX1 k) := by decide +kernel
abbrev cX1_init : ByteArray := prog_1_method_14_code
def yX1_init : MethodName := ⟨RX1, "<init>", "()V"⟩
def dkwX1_init_2 : List UInt8 := [89, 183, 0, 153, 181, 0, 218, 42, 187, 0, 151, 89, 183, 0, 153, 181, 0, 222, 177]
abbrev dktX1_init_2 : List UInt8 := dkwX1_init_2 ++ []
def dkwX1_init_1 : List UInt8 := [42, 2, 181, 0, 207, 42, 16, 120, 188, 10, 181, 0, 211, 42, 3, 188, 10, 181, 0, 215, 42, 187, 0, 151]
abbrev dktX1_init_1 : List UInt8 := dkwX1_init_1 ++ dktX1_init_2
def dkwX1_init_0 : List UInt8 := [42, 183, 0, 193, 42, 17, 7, 8, 188, 8, 181, 0, 196, 42, 187, 0, 200, 89, 183, 0, 202, 181, 0, 203]
abbrev dktX1_init_0 : List UInt8 := dkwX1_init_0 ++ dktX1_init_1
theorem dksX1_init_0 : cX1_init.data.toList.drop 0 = dktX1_init_0 := by decide +kernel
theorem dksX1_init_1 : cX1_init.data.toList.drop 24 = dktX1_init_1 := dk_seg dksX1_init_0 24 rfl rfl
theorem dksX1_init_2 : cX1_init.data.toList.drop 48 = dktX1_init_2 := dk_seg dksX1_init_1 24 rfl rfl
theorem dX1_init_0 : decode cX1_init 0 = .ok (.aload_n 0, 1) := dk_42 (dk_at dksX1_init_0 0 rfl rfl)
theorem dX1_init_1 : decode cX1_init 1 = .ok (.invokespecial 193, 3) := dk_183 0 193 (dk_at dksX1_init_0 1 rfl rfl)
theorem dX1_init_4 : decode cX1_init 4 = .ok (.aload_n 0, 1) := dk_42 (dk_at dksX1_init_0 4 rfl rfl)
theorem dX1_init_5 : decode cX1_init 5 = .ok (.sipush 1800, 3) := dk_17 7 8 (dk_at dksX1_init_0 5 rfl rfl)
theorem dX1_init_8 : decode cX1_init 8 = .ok (.newarray .byte, 2) := dk_188_8 (dk_at dksX1_init_0 8 rfl rfl)
theorem dX1_init_10 : decode cX1_init 10 = .ok (.putfield 196, 3) := dk_181 0 196 (dk_at dksX1_init_0 10 rfl rfl)
theorem dX1_init_13 : decode cX1_init 13 = .ok (.aload_n 0, 1) := dk_42 (dk_at dksX1_init_0 13 rfl rfl)
theorem dX1_init_14 : decode cX1_init 14 = .ok (.new 200, 3) := dk_187 0 200 (dk_at dksX1_init_0 14 rfl rfl)
theorem dX1_init_17 : decode cX1_init 17 = .ok (.dup, 1) := dk_89 (dk_at dksX1_init_0 17 rfl rfl)
theorem dX1_init_18 : decode cX1_init 18 = .ok (.invokespecial 202, 3) := dk_183 0 202 (dk_at dksX1_init_0 18 rfl rfl)
theorem dX1_init_21 : decode cX1_init 21 = .ok (.putfield 203, 3) := dk_181 0 203 (dk_at dksX1_init_0 21 rfl rfl)
theorem dX1_init_24 : decode cX1_init 24 = .ok (.aload_n 0, 1) := dk_42 (dk_at dksX1_init_1 0 rfl rfl)
theorem dX1_init_25 : decode cX1_init 25 = .ok (.iconst (-1), 1) := dk_2 (dk_at dksX1_init_1 1 rfl rfl)
theorem dX1_init_26 : decode cX1_init 26 = .ok (.putfield 207, 3) := dk_181 0 207 (dk_at dksX1_init_1 2 rfl rfl)
theorem dX1_init_29 : decode cX1_init 29 = .ok (.aload_n 0, 1) := dk_42 (dk_at dksX1_init_1 5 rfl rfl)
theorem dX1_init_30 : decode cX1_init 30 = .ok (.bipush 120, 2) := dk_16 120 (dk_at dksX1_init_1 6 rfl rfl)
theorem dX1_init_32 : decode cX1_init 32 = .ok (.newarray .int, 2) := dk_188_10 (dk_at dksX1_init_1 8 rfl rfl)
theorem dX1_init_34 : decode cX1_init 34 = .ok (.putfield 211, 3) := dk_181 0 211 (dk_at dksX1_init_1 10 rfl rfl)
theorem dX1_init_37 : decode cX1_init 37 = .ok (.aload_n 0, 1) := dk_42 (dk_at dksX1_init_1 13 rfl rfl)
theorem dX1_init_38 : decode cX1_init 38 = .ok (.iconst 0, 1) := dk_3 (dk_at dksX1_init_1 14 rfl rfl)
theorem dX1_init_39 : decode cX1_init 39 = .ok (.newarray .int, 2) := dk_188_10 (dk_at dksX1_init_1 15 rfl rfl)
theorem dX1_init_41 : decode cX1_init 41 = .ok (.putfield 215, 3) := dk_181 0 215 (dk_at dksX1_init_1 17 rfl rfl)
theorem dX1_init_44 : decode cX1_init 44 = .ok (.aload_n 0, 1) := dk_42 (dk_at dksX1_init_1 20 rfl rfl)
theorem dX1_init_45 : decode cX1_init 45 = .ok (.new 151, 3) := dk_187 0 151 (dk_at dksX1_init_1 21 rfl rfl)
theorem dX1_init_48 : decode cX1_init 48 = .ok (.dup, 1) := dk_89 (dk_at dksX1_init_2 0 rfl rfl)
theorem dX1_init_49 : decode cX1_init 49 = .ok (.invokespecial 153, 3) := dk_183 0 153 (dk_at dksX1_init_2 1 rfl rfl)
theorem dX1_init_52 : decode cX1_init 52 = .ok (.putfield 218, 3) := dk_181 0 218 (dk_at dksX1_init_2 4 rfl rfl)
theorem dX1_init_55 : decode cX1_init 55 = .ok (.aload_n 0, 1) := dk_42 (dk_at dksX1_init_2 7 rfl rfl)
theorem dX1_init_56 : decode cX1_init 56 = .ok (.new 151, 3) := dk_187 0 151 (dk_at dksX1_init_2 8 rfl rfl)
theorem dX1_init_59 : decode cX1_init 59 = .ok (.dup, 1) := dk_89 (dk_at dksX1_init_2 11 rfl rfl)
theorem dX1_init_60 : decode cX1_init 60 = .ok (.invokespecial 153, 3) := dk_183 0 153 (dk_at dksX1_init_2 12 rfl rfl)
theorem dX1_init_63 : decode cX1_init 63 = .ok (.putfield 222, 3) := dk_181 0 222 (dk_at dksX1_init_2 15 rfl rfl)
theorem dX1_init_66 : decode cX1_init 66 = .ok (.return_, 1) := dk_177 (dk_at dksX1_init_2 18 rfl rfl)
abbrev cX1_compile : ByteArray := prog_1_method_19_code
def yX1_compile : MethodName := ⟨RX1, "compile", "()I"⟩
def dkwX1_compile_3 : List UInt8 := [181, 0, 207, 44, 180, 1, 23, 172]
abbrev dktX1_compile_3 : List UInt8 := dkwX1_compile_3 ++ []
def dkwX1_compile_2 : List UInt8 := [180, 1, 9, 183, 1, 12, 182, 1, 15, 42, 43, 181, 0, 203, 3, 172, 77, 42, 44, 180, 1, 20]
abbrev dktX1_compile_2 : List UInt8 := dkwX1_compile_2 ++ dktX1_compile_3
def dkwX1_compile_1 : List UInt8 := [181, 0, 207, 187, 0, 200, 89, 183, 0, 202, 76, 187, 1, 1, 89, 42, 182, 1, 3, 184, 1, 5, 43, 43]
abbrev dktX1_compile_1 : List UInt8 := dkwX1_compile_1 ++ dktX1_compile_2
def dkwX1_compile_0 : List UInt8 := [42, 187, 0, 200, 89, 183, 0, 202, 181, 0, 203, 42, 3, 181, 0, 250, 42, 1, 181, 0, 253, 42, 2]
abbrev dktX1_compile_0 : List UInt8 := dkwX1_compile_0 ++ dktX1_compile_1
theorem dksX1_compile_0 : cX1_compile.data.toList.drop 0 = dktX1_compile_0 := by decide +kernel
theorem dksX1_compile_1 : cX1_compile.data.toList.drop 23 = dktX1_compile_1 := dk_seg dksX1_compile_0 23 rfl rfl
theorem dksX1_compile_2 : cX1_compile.data.toList.drop 47 = dktX1_compile_2 := dk_seg dksX1_compile_1 24 rfl rfl
theorem dksX1_compile_3 : cX1_compile.data.toList.drop 69 = dktX1_compile_3 := dk_seg dksX1_compile_2 22 rfl rfl
theorem dX1_compile_0 : decode cX1_compile 0 = .ok (.aload_n 0, 1) := dk_42 (dk_at dksX1_compile_0 0 rfl rfl)
theorem dX1_compile_1 : decode cX1_compile 1 = .ok (.new 200, 3) := dk_187 0 200 (dk_at dksX1_compile_0 1 rfl rfl)
theorem dX1_compile_4 : decode cX1_compile 4 = .ok (.dup, 1) := dk_89 (dk_at dksX1_compile_0 4 rfl rfl)
theorem dX1_compile_5 : decode cX1_compile 5 = .ok (.invokespecial 202, 3) := dk_183 0 202 (dk_at dksX1_compile_0 5 rfl rfl)
theorem dX1_compile_8 : decode cX1_compile 8 = .ok (.putfield 203, 3) := dk_181 0 203 (dk_at dksX1_compile_0 8 rfl rfl)
theorem dX1_compile_11 : decode cX1_compile 11 = .ok (.aload_n 0, 1) := dk_42 (dk_at dksX1_compile_0 11 rfl rfl)
theorem dX1_compile_12 : decode cX1_compile 12 = .ok (.iconst 0, 1) := dk_3 (dk_at dksX1_compile_0 12 rfl rfl)
theorem dX1_compile_13 : decode cX1_compile 13 = .ok (.putfield 250, 3) := dk_181 0 250 (dk_at dksX1_compile_0 13 rfl rfl)
theorem dX1_compile_16 : decode cX1_compile 16 = .ok (.aload_n 0, 1) := dk_42 (dk_at dksX1_compile_0 16 rfl rfl)
theorem dX1_compile_17 : decode cX1_compile 17 = .ok (.aconst_null, 1) := dk_1 (dk_at dksX1_compile_0 17 rfl rfl)
theorem dX1_compile_18 : decode cX1_compile 18 = .ok (.putfield 253, 3) := dk_181 0 253 (dk_at dksX1_compile_0 18 rfl rfl)
theorem dX1_compile_21 : decode cX1_compile 21 = .ok (.aload_n 0, 1) := dk_42 (dk_at dksX1_compile_0 21 rfl rfl)
theorem dX1_compile_22 : decode cX1_compile 22 = .ok (.iconst (-1), 1) := dk_2 (dk_at dksX1_compile_0 22 rfl rfl)
theorem dX1_compile_23 : decode cX1_compile 23 = .ok (.putfield 207, 3) := dk_181 0 207 (dk_at dksX1_compile_1 0 rfl rfl)
theorem dX1_compile_26 : decode cX1_compile 26 = .ok (.new 200, 3) := dk_187 0 200 (dk_at dksX1_compile_1 3 rfl rfl)
theorem dX1_compile_29 : decode cX1_compile 29 = .ok (.dup, 1) := dk_89 (dk_at dksX1_compile_1 6 rfl rfl)
theorem dX1_compile_30 : decode cX1_compile 30 = .ok (.invokespecial 202, 3) := dk_183 0 202 (dk_at dksX1_compile_1 7 rfl rfl)
theorem dX1_compile_33 : decode cX1_compile 33 = .ok (.astore_n 1, 1) := dk_76 (dk_at dksX1_compile_1 10 rfl rfl)
theorem dX1_compile_34 : decode cX1_compile 34 = .ok (.new 257, 3) := dk_187 1 1 (dk_at dksX1_compile_1 11 rfl rfl)
theorem dX1_compile_37 : decode cX1_compile 37 = .ok (.dup, 1) := dk_89 (dk_at dksX1_compile_1 14 rfl rfl)
theorem dX1_compile_38 : decode cX1_compile 38 = .ok (.aload_n 0, 1) := dk_42 (dk_at dksX1_compile_1 15 rfl rfl)
theorem dX1_compile_39 : decode cX1_compile 39 = .ok (.invokevirtual 259, 3) := dk_182 1 3 (dk_at dksX1_compile_1 16 rfl rfl)
theorem dX1_compile_42 : decode cX1_compile 42 = .ok (.invokestatic 261, 3) := dk_184 1 5 (dk_at dksX1_compile_1 19 rfl rfl)
theorem dX1_compile_45 : decode cX1_compile 45 = .ok (.aload_n 1, 1) := dk_43 (dk_at dksX1_compile_1 22 rfl rfl)
theorem dX1_compile_46 : decode cX1_compile 46 = .ok (.aload_n 1, 1) := dk_43 (dk_at dksX1_compile_1 23 rfl rfl)
theorem dX1_compile_47 : decode cX1_compile 47 = .ok (.getfield 265, 3) := dk_180 1 9 (dk_at dksX1_compile_2 0 rfl rfl)
theorem dX1_compile_50 : decode cX1_compile 50 = .ok (.invokespecial 268, 3) := dk_183 1 12 (dk_at dksX1_compile_2 3 rfl rfl)
theorem dX1_compile_53 : decode cX1_compile 53 = .ok (.invokevirtual 271, 3) := dk_182 1 15 (dk_at dksX1_compile_2 6 rfl rfl)
theorem dX1_compile_56 : decode cX1_compile 56 = .ok (.aload_n 0, 1) := dk_42 (dk_at dksX1_compile_2 9 rfl rfl)
theorem dX1_compile_57 : decode cX1_compile 57 = .ok (.aload_n 1, 1) := dk_43 (dk_at dksX1_compile_2 10 rfl rfl)
theorem dX1_compile_58 : decode cX1_compile 58 = .ok (.putfield 203, 3) := dk_181 0 203 (dk_at dksX1_compile_2 11 rfl rfl)
theorem dX1_compile_61 : decode cX1_compile 61 = .ok (.iconst 0, 1) := dk_3 (dk_at dksX1_compile_2 14 rfl rfl)
theorem dX1_compile_62 : decode cX1_compile 62 = .ok (.ireturn, 1) := dk_172 (dk_at dksX1_compile_2 15 rfl rfl)
theorem dX1_compile_63 : decode cX1_compile 63 = .ok (.astore_n 2, 1) := dk_77 (dk_at dksX1_compile_2 16 rfl rfl)
theorem dX1_compile_64 : decode cX1_compile 64 = .ok (.aload_n 0, 1) := dk_42 (dk_at dksX1_compile_2 17 rfl rfl)
theorem dX1_compile_65 : decode cX1_compile 65 = .ok (.aload_n 2, 1) := dk_44 (dk_at dksX1_compile_2 18 rfl rfl)
theorem dX1_compile_66 : decode cX1_compile 66 = .ok (.getfield 276, 3) := dk_180 1 20 (dk_at dksX1_compile_2 19 rfl rfl)
theorem dX1_compile_69 : decode cX1_compile 69 = .ok (.putfield 207, 3) := dk_181 0 207 (dk_at dksX1_compile_3 0 rfl rfl)
theorem dX1_compile_72 : decode cX1_compile 72 = .ok (.aload_n 2, 1) := dk_44 (dk_at dksX1_compile_3 3 rfl rfl)
theorem dX1_compile_73 : decode cX1_compile 73 = .ok (.getfield 279, 3) := dk_180 1 23 (dk_at dksX1_compile_3 4 rfl rfl)
theorem dX1_compile_76 : decode cX1_compile 76 = .ok (.ireturn, 1) := dk_172 (dk_at dksX1_compile_3 7 rfl rfl)
abbrev cX1_text : ByteArray := prog_1_method_18_code
def yX1_text : MethodName := ⟨RX1, "text", "()Ljava/lang/String;"⟩
def dkwX1_text_2 : List UInt8 := [182, 0, 246, 176]
abbrev dktX1_text_2 : List UInt8 := dkwX1_text_2 ++ []
def dkwX1_text_1 : List UInt8 := [51, 17, 0, 255, 126, 146, 182, 0, 242, 87, 132, 2, 1, 167, 255, 229, 42, 3, 181, 0, 225, 43]
abbrev dktX1_text_1 : List UInt8 := dkwX1_text_1 ++ dktX1_text_2
def dkwX1_text_0 : List UInt8 := [187, 0, 239, 89, 183, 0, 241, 76, 3, 61, 28, 42, 180, 0, 225, 162, 0, 25, 43, 42, 180, 0, 196, 28]
abbrev dktX1_text_0 : List UInt8 := dkwX1_text_0 ++ dktX1_text_1
theorem dksX1_text_0 : cX1_text.data.toList.drop 0 = dktX1_text_0 := by decide +kernel
theorem dksX1_text_1 : cX1_text.data.toList.drop 24 = dktX1_text_1 := dk_seg dksX1_text_0 24 rfl rfl
theorem dksX1_text_2 : cX1_text.data.toList.drop 46 = dktX1_text_2 := dk_seg dksX1_text_1 22 rfl rfl
theorem dX1_text_0 : decode cX1_text 0 = .ok (.new 239, 3) := dk_187 0 239 (dk_at dksX1_text_0 0 rfl rfl)
theorem dX1_text_3 : decode cX1_text 3 = .ok (.dup, 1) := dk_89 (dk_at dksX1_text_0 3 rfl rfl)
theorem dX1_text_4 : decode cX1_text 4 = .ok (.invokespecial 241, 3) := dk_183 0 241 (dk_at dksX1_text_0 4 rfl rfl)
theorem dX1_text_7 : decode cX1_text 7 = .ok (.astore_n 1, 1) := dk_76 (dk_at dksX1_text_0 7 rfl rfl)
theorem dX1_text_8 : decode cX1_text 8 = .ok (.iconst 0, 1) := dk_3 (dk_at dksX1_text_0 8 rfl rfl)
theorem dX1_text_9 : decode cX1_text 9 = .ok (.istore_n 2, 1) := dk_61 (dk_at dksX1_text_0 9 rfl rfl)
theorem dX1_text_10 : decode cX1_text 10 = .ok (.iload_n 2, 1) := dk_28 (dk_at dksX1_text_0 10 rfl rfl)
theorem dX1_text_11 : decode cX1_text 11 = .ok (.aload_n 0, 1) := dk_42 (dk_at dksX1_text_0 11 rfl rfl)
theorem dX1_text_12 : decode cX1_text 12 = .ok (.getfield 225, 3) := dk_180 0 225 (dk_at dksX1_text_0 12 rfl rfl)
theorem dX1_text_15 : decode cX1_text 15 = .ok (.if_icmp .ge 25, 3) := dk_162 0 25 (dk_at dksX1_text_0 15 rfl rfl)
theorem dX1_text_18 : decode cX1_text 18 = .ok (.aload_n 1, 1) := dk_43 (dk_at dksX1_text_0 18 rfl rfl)
theorem dX1_text_19 : decode cX1_text 19 = .ok (.aload_n 0, 1) := dk_42 (dk_at dksX1_text_0 19 rfl rfl)
theorem dX1_text_20 : decode cX1_text 20 = .ok (.getfield 196, 3) := dk_180 0 196 (dk_at dksX1_text_0 20 rfl rfl)
theorem dX1_text_23 : decode cX1_text 23 = .ok (.iload_n 2, 1) := dk_28 (dk_at dksX1_text_0 23 rfl rfl)
theorem dX1_text_24 : decode cX1_text 24 = .ok (.baload, 1) := dk_51 (dk_at dksX1_text_1 0 rfl rfl)
theorem dX1_text_25 : decode cX1_text 25 = .ok (.sipush 255, 3) := dk_17 0 255 (dk_at dksX1_text_1 1 rfl rfl)
theorem dX1_text_28 : decode cX1_text 28 = .ok (.iand, 1) := dk_126 (dk_at dksX1_text_1 4 rfl rfl)
theorem dX1_text_29 : decode cX1_text 29 = .ok (.i2c, 1) := dk_146 (dk_at dksX1_text_1 5 rfl rfl)
theorem dX1_text_30 : decode cX1_text 30 = .ok (.invokevirtual 242, 3) := dk_182 0 242 (dk_at dksX1_text_1 6 rfl rfl)
theorem dX1_text_33 : decode cX1_text 33 = .ok (.pop, 1) := dk_87 (dk_at dksX1_text_1 9 rfl rfl)
theorem dX1_text_34 : decode cX1_text 34 = .ok (.iinc 2 1, 3) := dk_132 2 1 (dk_at dksX1_text_1 10 rfl rfl)
theorem dX1_text_37 : decode cX1_text 37 = .ok (.goto (-27), 3) := dk_167 255 229 (dk_at dksX1_text_1 13 rfl rfl)
theorem dX1_text_40 : decode cX1_text 40 = .ok (.aload_n 0, 1) := dk_42 (dk_at dksX1_text_1 16 rfl rfl)
theorem dX1_text_41 : decode cX1_text 41 = .ok (.iconst 0, 1) := dk_3 (dk_at dksX1_text_1 17 rfl rfl)
theorem dX1_text_42 : decode cX1_text 42 = .ok (.putfield 225, 3) := dk_181 0 225 (dk_at dksX1_text_1 18 rfl rfl)
theorem dX1_text_45 : decode cX1_text 45 = .ok (.aload_n 1, 1) := dk_43 (dk_at dksX1_text_1 21 rfl rfl)
theorem dX1_text_46 : decode cX1_text 46 = .ok (.invokevirtual 246, 3) := dk_182 0 246 (dk_at dksX1_text_2 0 rfl rfl)
theorem dX1_text_49 : decode cX1_text 49 = .ok (.areturn, 1) := dk_176 (dk_at dksX1_text_2 3 rfl rfl)
abbrev cX1_tokensOf : ByteArray := prog_1_method_10_code
def yX1_tokensOf : MethodName := ⟨RX1, "tokensOf", "(Ljava/lang/String;)Ljava/util/List;"⟩
def dkwX1_tokensOf_7 : List UInt8 := [43, 176]
abbrev dktX1_tokensOf_7 : List UInt8 := dkwX1_tokensOf_7 ++ []
def dkwX1_tokensOf_6 : List UInt8 := [167, 255, 128, 43, 187, 0, 103, 89, 178, 0, 177, 18, 180, 42, 182, 0, 83, 183, 0, 121, 182, 0, 171, 87]
abbrev dktX1_tokensOf_6 : List UInt8 := dkwX1_tokensOf_6 ++ dktX1_tokensOf_7
def dkwX1_tokensOf_5 : List UInt8 := [180, 0, 174, 178, 0, 105, 166, 0, 5, 43, 176, 28, 25, 4, 180, 0, 167, 182, 0, 83, 96, 61]
abbrev dktX1_tokensOf_5 : List UInt8 := dkwX1_tokensOf_5 ++ dktX1_tokensOf_6
def dkwX1_tokensOf_4 : List UInt8 := [178, 0, 105, 25, 4, 180, 0, 167, 28, 183, 0, 121, 58, 4, 43, 25, 4, 182, 0, 171, 87, 25, 4]
abbrev dktX1_tokensOf_4 : List UInt8 := dkwX1_tokensOf_4 ++ dktX1_tokensOf_5
def dkwX1_tokensOf_3 : List UInt8 := [167, 0, 8, 42, 28, 184, 0, 161, 58, 4, 43, 182, 0, 164, 17, 1, 144, 160, 0, 21, 187, 0, 103, 89]
abbrev dktX1_tokensOf_3 : List UInt8 := dkwX1_tokensOf_3 ++ dktX1_tokensOf_4
def dkwX1_tokensOf_2 : List UInt8 := [153, 0, 11, 42, 28, 184, 0, 154, 167, 0, 23, 29, 184, 0, 96, 153, 0, 11, 42, 28, 184, 0, 158]
abbrev dktX1_tokensOf_2 : List UInt8 := dkwX1_tokensOf_2 ++ dktX1_tokensOf_3
def dkwX1_tokensOf_1 : List UInt8 := [29, 16, 32, 159, 0, 9, 29, 16, 10, 160, 0, 9, 132, 2, 1, 167, 255, 227, 29, 184, 0, 90]
abbrev dktX1_tokensOf_1 : List UInt8 := dkwX1_tokensOf_1 ++ dktX1_tokensOf_2
def dkwX1_tokensOf_0 : List UInt8 := [187, 0, 151, 89, 183, 0, 153, 76, 3, 61, 28, 42, 182, 0, 83, 162, 0, 126, 42, 28, 182, 0, 86, 62]
abbrev dktX1_tokensOf_0 : List UInt8 := dkwX1_tokensOf_0 ++ dktX1_tokensOf_1
theorem dksX1_tokensOf_0 : cX1_tokensOf.data.toList.drop 0 = dktX1_tokensOf_0 := by decide +kernel
theorem dksX1_tokensOf_1 : cX1_tokensOf.data.toList.drop 24 = dktX1_tokensOf_1 := dk_seg dksX1_tokensOf_0 24 rfl rfl
theorem dksX1_tokensOf_2 : cX1_tokensOf.data.toList.drop 46 = dktX1_tokensOf_2 := dk_seg dksX1_tokensOf_1 22 rfl rfl
theorem dksX1_tokensOf_3 : cX1_tokensOf.data.toList.drop 69 = dktX1_tokensOf_3 := dk_seg dksX1_tokensOf_2 23 rfl rfl
theorem dksX1_tokensOf_4 : cX1_tokensOf.data.toList.drop 93 = dktX1_tokensOf_4 := dk_seg dksX1_tokensOf_3 24 rfl rfl
theorem dksX1_tokensOf_5 : cX1_tokensOf.data.toList.drop 116 = dktX1_tokensOf_5 := dk_seg dksX1_tokensOf_4 23 rfl rfl
theorem dksX1_tokensOf_6 : cX1_tokensOf.data.toList.drop 138 = dktX1_tokensOf_6 := dk_seg dksX1_tokensOf_5 22 rfl rfl
theorem dksX1_tokensOf_7 : cX1_tokensOf.data.toList.drop 162 = dktX1_tokensOf_7 := dk_seg dksX1_tokensOf_6 24 rfl rfl
theorem dX1_tokensOf_0 : decode cX1_tokensOf 0 = .ok (.new 151, 3) := dk_187 0 151 (dk_at dksX1_tokensOf_0 0 rfl rfl)
theorem dX1_tokensOf_3 : decode cX1_tokensOf 3 = .ok (.dup, 1) := dk_89 (dk_at dksX1_tokensOf_0 3 rfl rfl)
theorem dX1_tokensOf_4 : decode cX1_tokensOf 4 = .ok (.invokespecial 153, 3) := dk_183 0 153 (dk_at dksX1_tokensOf_0 4 rfl rfl)
theorem dX1_tokensOf_7 : decode cX1_tokensOf 7 = .ok (.astore_n 1, 1) := dk_76 (dk_at dksX1_tokensOf_0 7 rfl rfl)
theorem dX1_tokensOf_8 : decode cX1_tokensOf 8 = .ok (.iconst 0, 1) := dk_3 (dk_at dksX1_tokensOf_0 8 rfl rfl)
theorem dX1_tokensOf_9 : decode cX1_tokensOf 9 = .ok (.istore_n 2, 1) := dk_61 (dk_at dksX1_tokensOf_0 9 rfl rfl)
theorem dX1_tokensOf_10 : decode cX1_tokensOf 10 = .ok (.iload_n 2, 1) := dk_28 (dk_at dksX1_tokensOf_0 10 rfl rfl)
theorem dX1_tokensOf_11 : decode cX1_tokensOf 11 = .ok (.aload_n 0, 1) := dk_42 (dk_at dksX1_tokensOf_0 11 rfl rfl)
theorem dX1_tokensOf_12 : decode cX1_tokensOf 12 = .ok (.invokevirtual 83, 3) := dk_182 0 83 (dk_at dksX1_tokensOf_0 12 rfl rfl)
theorem dX1_tokensOf_15 : decode cX1_tokensOf 15 = .ok (.if_icmp .ge 126, 3) := dk_162 0 126 (dk_at dksX1_tokensOf_0 15 rfl rfl)
theorem dX1_tokensOf_18 : decode cX1_tokensOf 18 = .ok (.aload_n 0, 1) := dk_42 (dk_at dksX1_tokensOf_0 18 rfl rfl)
theorem dX1_tokensOf_19 : decode cX1_tokensOf 19 = .ok (.iload_n 2, 1) := dk_28 (dk_at dksX1_tokensOf_0 19 rfl rfl)
theorem dX1_tokensOf_20 : decode cX1_tokensOf 20 = .ok (.invokevirtual 86, 3) := dk_182 0 86 (dk_at dksX1_tokensOf_0 20 rfl rfl)
theorem dX1_tokensOf_23 : decode cX1_tokensOf 23 = .ok (.istore_n 3, 1) := dk_62 (dk_at dksX1_tokensOf_0 23 rfl rfl)
theorem dX1_tokensOf_24 : decode cX1_tokensOf 24 = .ok (.iload_n 3, 1) := dk_29 (dk_at dksX1_tokensOf_1 0 rfl rfl)
theorem dX1_tokensOf_25 : decode cX1_tokensOf 25 = .ok (.bipush 32, 2) := dk_16 32 (dk_at dksX1_tokensOf_1 1 rfl rfl)
theorem dX1_tokensOf_27 : decode cX1_tokensOf 27 = .ok (.if_icmp .eq 9, 3) := dk_159 0 9 (dk_at dksX1_tokensOf_1 3 rfl rfl)
theorem dX1_tokensOf_30 : decode cX1_tokensOf 30 = .ok (.iload_n 3, 1) := dk_29 (dk_at dksX1_tokensOf_1 6 rfl rfl)
theorem dX1_tokensOf_31 : decode cX1_tokensOf 31 = .ok (.bipush 10, 2) := dk_16 10 (dk_at dksX1_tokensOf_1 7 rfl rfl)
theorem dX1_tokensOf_33 : decode cX1_tokensOf 33 = .ok (.if_icmp .ne 9, 3) := dk_160 0 9 (dk_at dksX1_tokensOf_1 9 rfl rfl)
theorem dX1_tokensOf_36 : decode cX1_tokensOf 36 = .ok (.iinc 2 1, 3) := dk_132 2 1 (dk_at dksX1_tokensOf_1 12 rfl rfl)
theorem dX1_tokensOf_39 : decode cX1_tokensOf 39 = .ok (.goto (-29), 3) := dk_167 255 227 (dk_at dksX1_tokensOf_1 15 rfl rfl)
theorem dX1_tokensOf_42 : decode cX1_tokensOf 42 = .ok (.iload_n 3, 1) := dk_29 (dk_at dksX1_tokensOf_1 18 rfl rfl)
theorem dX1_tokensOf_43 : decode cX1_tokensOf 43 = .ok (.invokestatic 90, 3) := dk_184 0 90 (dk_at dksX1_tokensOf_1 19 rfl rfl)
theorem dX1_tokensOf_46 : decode cX1_tokensOf 46 = .ok (.ifCond .eq 11, 3) := dk_153 0 11 (dk_at dksX1_tokensOf_2 0 rfl rfl)
theorem dX1_tokensOf_49 : decode cX1_tokensOf 49 = .ok (.aload_n 0, 1) := dk_42 (dk_at dksX1_tokensOf_2 3 rfl rfl)
theorem dX1_tokensOf_50 : decode cX1_tokensOf 50 = .ok (.iload_n 2, 1) := dk_28 (dk_at dksX1_tokensOf_2 4 rfl rfl)
theorem dX1_tokensOf_51 : decode cX1_tokensOf 51 = .ok (.invokestatic 154, 3) := dk_184 0 154 (dk_at dksX1_tokensOf_2 5 rfl rfl)
theorem dX1_tokensOf_54 : decode cX1_tokensOf 54 = .ok (.goto 23, 3) := dk_167 0 23 (dk_at dksX1_tokensOf_2 8 rfl rfl)
theorem dX1_tokensOf_57 : decode cX1_tokensOf 57 = .ok (.iload_n 3, 1) := dk_29 (dk_at dksX1_tokensOf_2 11 rfl rfl)
theorem dX1_tokensOf_58 : decode cX1_tokensOf 58 = .ok (.invokestatic 96, 3) := dk_184 0 96 (dk_at dksX1_tokensOf_2 12 rfl rfl)
theorem dX1_tokensOf_61 : decode cX1_tokensOf 61 = .ok (.ifCond .eq 11, 3) := dk_153 0 11 (dk_at dksX1_tokensOf_2 15 rfl rfl)
theorem dX1_tokensOf_64 : decode cX1_tokensOf 64 = .ok (.aload_n 0, 1) := dk_42 (dk_at dksX1_tokensOf_2 18 rfl rfl)
theorem dX1_tokensOf_65 : decode cX1_tokensOf 65 = .ok (.iload_n 2, 1) := dk_28 (dk_at dksX1_tokensOf_2 19 rfl rfl)
theorem dX1_tokensOf_66 : decode cX1_tokensOf 66 = .ok (.invokestatic 158, 3) := dk_184 0 158 (dk_at dksX1_tokensOf_2 20 rfl rfl)
theorem dX1_tokensOf_69 : decode cX1_tokensOf 69 = .ok (.goto 8, 3) := dk_167 0 8 (dk_at dksX1_tokensOf_3 0 rfl rfl)
theorem dX1_tokensOf_72 : decode cX1_tokensOf 72 = .ok (.aload_n 0, 1) := dk_42 (dk_at dksX1_tokensOf_3 3 rfl rfl)
theorem dX1_tokensOf_73 : decode cX1_tokensOf 73 = .ok (.iload_n 2, 1) := dk_28 (dk_at dksX1_tokensOf_3 4 rfl rfl)
theorem dX1_tokensOf_74 : decode cX1_tokensOf 74 = .ok (.invokestatic 161, 3) := dk_184 0 161 (dk_at dksX1_tokensOf_3 5 rfl rfl)
theorem dX1_tokensOf_77 : decode cX1_tokensOf 77 = .ok (.astore 4, 2) := dk_58 4 (dk_at dksX1_tokensOf_3 8 rfl rfl)
theorem dX1_tokensOf_79 : decode cX1_tokensOf 79 = .ok (.aload_n 1, 1) := dk_43 (dk_at dksX1_tokensOf_3 10 rfl rfl)
theorem dX1_tokensOf_80 : decode cX1_tokensOf 80 = .ok (.invokevirtual 164, 3) := dk_182 0 164 (dk_at dksX1_tokensOf_3 11 rfl rfl)
theorem dX1_tokensOf_83 : decode cX1_tokensOf 83 = .ok (.sipush 400, 3) := dk_17 1 144 (dk_at dksX1_tokensOf_3 14 rfl rfl)
theorem dX1_tokensOf_86 : decode cX1_tokensOf 86 = .ok (.if_icmp .ne 21, 3) := dk_160 0 21 (dk_at dksX1_tokensOf_3 17 rfl rfl)
theorem dX1_tokensOf_89 : decode cX1_tokensOf 89 = .ok (.new 103, 3) := dk_187 0 103 (dk_at dksX1_tokensOf_3 20 rfl rfl)
theorem dX1_tokensOf_92 : decode cX1_tokensOf 92 = .ok (.dup, 1) := dk_89 (dk_at dksX1_tokensOf_3 23 rfl rfl)
theorem dX1_tokensOf_93 : decode cX1_tokensOf 93 = .ok (.getstatic 105, 3) := dk_178 0 105 (dk_at dksX1_tokensOf_4 0 rfl rfl)
theorem dX1_tokensOf_96 : decode cX1_tokensOf 96 = .ok (.aload 4, 2) := dk_25 4 (dk_at dksX1_tokensOf_4 3 rfl rfl)
theorem dX1_tokensOf_98 : decode cX1_tokensOf 98 = .ok (.getfield 167, 3) := dk_180 0 167 (dk_at dksX1_tokensOf_4 5 rfl rfl)
theorem dX1_tokensOf_101 : decode cX1_tokensOf 101 = .ok (.iload_n 2, 1) := dk_28 (dk_at dksX1_tokensOf_4 8 rfl rfl)
theorem dX1_tokensOf_102 : decode cX1_tokensOf 102 = .ok (.invokespecial 121, 3) := dk_183 0 121 (dk_at dksX1_tokensOf_4 9 rfl rfl)
theorem dX1_tokensOf_105 : decode cX1_tokensOf 105 = .ok (.astore 4, 2) := dk_58 4 (dk_at dksX1_tokensOf_4 12 rfl rfl)
theorem dX1_tokensOf_107 : decode cX1_tokensOf 107 = .ok (.aload_n 1, 1) := dk_43 (dk_at dksX1_tokensOf_4 14 rfl rfl)
theorem dX1_tokensOf_108 : decode cX1_tokensOf 108 = .ok (.aload 4, 2) := dk_25 4 (dk_at dksX1_tokensOf_4 15 rfl rfl)
theorem dX1_tokensOf_110 : decode cX1_tokensOf 110 = .ok (.invokevirtual 171, 3) := dk_182 0 171 (dk_at dksX1_tokensOf_4 17 rfl rfl)
theorem dX1_tokensOf_113 : decode cX1_tokensOf 113 = .ok (.pop, 1) := dk_87 (dk_at dksX1_tokensOf_4 20 rfl rfl)
theorem dX1_tokensOf_114 : decode cX1_tokensOf 114 = .ok (.aload 4, 2) := dk_25 4 (dk_at dksX1_tokensOf_4 21 rfl rfl)
theorem dX1_tokensOf_116 : decode cX1_tokensOf 116 = .ok (.getfield 174, 3) := dk_180 0 174 (dk_at dksX1_tokensOf_5 0 rfl rfl)
theorem dX1_tokensOf_119 : decode cX1_tokensOf 119 = .ok (.getstatic 105, 3) := dk_178 0 105 (dk_at dksX1_tokensOf_5 3 rfl rfl)
theorem dX1_tokensOf_122 : decode cX1_tokensOf 122 = .ok (.if_acmp .ne 5, 3) := dk_166 0 5 (dk_at dksX1_tokensOf_5 6 rfl rfl)
theorem dX1_tokensOf_125 : decode cX1_tokensOf 125 = .ok (.aload_n 1, 1) := dk_43 (dk_at dksX1_tokensOf_5 9 rfl rfl)
theorem dX1_tokensOf_126 : decode cX1_tokensOf 126 = .ok (.areturn, 1) := dk_176 (dk_at dksX1_tokensOf_5 10 rfl rfl)
theorem dX1_tokensOf_127 : decode cX1_tokensOf 127 = .ok (.iload_n 2, 1) := dk_28 (dk_at dksX1_tokensOf_5 11 rfl rfl)
theorem dX1_tokensOf_128 : decode cX1_tokensOf 128 = .ok (.aload 4, 2) := dk_25 4 (dk_at dksX1_tokensOf_5 12 rfl rfl)
theorem dX1_tokensOf_130 : decode cX1_tokensOf 130 = .ok (.getfield 167, 3) := dk_180 0 167 (dk_at dksX1_tokensOf_5 14 rfl rfl)
theorem dX1_tokensOf_133 : decode cX1_tokensOf 133 = .ok (.invokevirtual 83, 3) := dk_182 0 83 (dk_at dksX1_tokensOf_5 17 rfl rfl)
theorem dX1_tokensOf_136 : decode cX1_tokensOf 136 = .ok (.iadd, 1) := dk_96 (dk_at dksX1_tokensOf_5 20 rfl rfl)
theorem dX1_tokensOf_137 : decode cX1_tokensOf 137 = .ok (.istore_n 2, 1) := dk_61 (dk_at dksX1_tokensOf_5 21 rfl rfl)
theorem dX1_tokensOf_138 : decode cX1_tokensOf 138 = .ok (.goto (-128), 3) := dk_167 255 128 (dk_at dksX1_tokensOf_6 0 rfl rfl)
theorem dX1_tokensOf_141 : decode cX1_tokensOf 141 = .ok (.aload_n 1, 1) := dk_43 (dk_at dksX1_tokensOf_6 3 rfl rfl)
theorem dX1_tokensOf_142 : decode cX1_tokensOf 142 = .ok (.new 103, 3) := dk_187 0 103 (dk_at dksX1_tokensOf_6 4 rfl rfl)
theorem dX1_tokensOf_145 : decode cX1_tokensOf 145 = .ok (.dup, 1) := dk_89 (dk_at dksX1_tokensOf_6 7 rfl rfl)
theorem dX1_tokensOf_146 : decode cX1_tokensOf 146 = .ok (.getstatic 177, 3) := dk_178 0 177 (dk_at dksX1_tokensOf_6 8 rfl rfl)
theorem dX1_tokensOf_149 : decode cX1_tokensOf 149 = .ok (.ldc 180, 2) := dk_18 180 (dk_at dksX1_tokensOf_6 11 rfl rfl)
theorem dX1_tokensOf_151 : decode cX1_tokensOf 151 = .ok (.aload_n 0, 1) := dk_42 (dk_at dksX1_tokensOf_6 13 rfl rfl)
theorem dX1_tokensOf_152 : decode cX1_tokensOf 152 = .ok (.invokevirtual 83, 3) := dk_182 0 83 (dk_at dksX1_tokensOf_6 14 rfl rfl)
theorem dX1_tokensOf_155 : decode cX1_tokensOf 155 = .ok (.invokespecial 121, 3) := dk_183 0 121 (dk_at dksX1_tokensOf_6 17 rfl rfl)
theorem dX1_tokensOf_158 : decode cX1_tokensOf 158 = .ok (.invokevirtual 171, 3) := dk_182 0 171 (dk_at dksX1_tokensOf_6 20 rfl rfl)
theorem dX1_tokensOf_161 : decode cX1_tokensOf 161 = .ok (.pop, 1) := dk_87 (dk_at dksX1_tokensOf_6 23 rfl rfl)
theorem dX1_tokensOf_162 : decode cX1_tokensOf 162 = .ok (.aload_n 1, 1) := dk_43 (dk_at dksX1_tokensOf_7 0 rfl rfl)
theorem dX1_tokensOf_163 : decode cX1_tokensOf 163 = .ok (.areturn, 1) := dk_176 (dk_at dksX1_tokensOf_7 1 rfl rfl)
abbrev cX1_isLetter : ByteArray := prog_1_method_4_code
def yX1_isLetter : MethodName := ⟨RX1, "isLetter", "(C)Z"⟩
def dkwX1_isLetter_0 : List UInt8 := [26, 16, 97, 161, 0, 13, 26, 16, 122, 163, 0, 7, 4, 167, 0, 4, 3, 172]
abbrev dktX1_isLetter_0 : List UInt8 := dkwX1_isLetter_0 ++ []
theorem dksX1_isLetter_0 : cX1_isLetter.data.toList.drop 0 = dktX1_isLetter_0 := by decide +kernel
theorem dX1_isLetter_0 : decode cX1_isLetter 0 = .ok (.iload_n 0, 1) := dk_26 (dk_at dksX1_isLetter_0 0 rfl rfl)
theorem dX1_isLetter_1 : decode cX1_isLetter 1 = .ok (.bipush 97, 2) := dk_16 97 (dk_at dksX1_isLetter_0 1 rfl rfl)
theorem dX1_isLetter_3 : decode cX1_isLetter 3 = .ok (.if_icmp .lt 13, 3) := dk_161 0 13 (dk_at dksX1_isLetter_0 3 rfl rfl)
theorem dX1_isLetter_6 : decode cX1_isLetter 6 = .ok (.iload_n 0, 1) := dk_26 (dk_at dksX1_isLetter_0 6 rfl rfl)
theorem dX1_isLetter_7 : decode cX1_isLetter 7 = .ok (.bipush 122, 2) := dk_16 122 (dk_at dksX1_isLetter_0 7 rfl rfl)
theorem dX1_isLetter_9 : decode cX1_isLetter 9 = .ok (.if_icmp .gt 7, 3) := dk_163 0 7 (dk_at dksX1_isLetter_0 9 rfl rfl)
theorem dX1_isLetter_12 : decode cX1_isLetter 12 = .ok (.iconst 1, 1) := dk_4 (dk_at dksX1_isLetter_0 12 rfl rfl)
theorem dX1_isLetter_13 : decode cX1_isLetter 13 = .ok (.goto 4, 3) := dk_167 0 4 (dk_at dksX1_isLetter_0 13 rfl rfl)
theorem dX1_isLetter_16 : decode cX1_isLetter 16 = .ok (.iconst 0, 1) := dk_3 (dk_at dksX1_isLetter_0 16 rfl rfl)
theorem dX1_isLetter_17 : decode cX1_isLetter 17 = .ok (.ireturn, 1) := dk_172 (dk_at dksX1_isLetter_0 17 rfl rfl)
abbrev cX1_wordAt : ByteArray := prog_1_method_7_code
def yX1_wordAt : MethodName := ⟨RX1, "wordAt", "(Ljava/lang/String;I)LPastWatch$Token;"⟩
def dkwX1_wordAt_3 : List UInt8 := [153, 0, 9, 178, 0, 115, 167, 0, 6, 178, 0, 118, 45, 27, 183, 0, 121, 176]
abbrev dktX1_wordAt_3 : List UInt8 := dkwX1_wordAt_3 ++ []
def dkwX1_wordAt_2 : List UInt8 := [187, 0, 103, 89, 28, 27, 100, 16, 8, 164, 0, 9, 178, 0, 105, 167, 0, 19, 45, 184, 0, 111]
abbrev dktX1_wordAt_2 : List UInt8 := dkwX1_wordAt_2 ++ dktX1_wordAt_3
def dkwX1_wordAt_1 : List UInt8 := [182, 0, 86, 184, 0, 96, 153, 0, 9, 132, 2, 1, 167, 255, 223, 42, 27, 28, 182, 0, 99, 78]
abbrev dktX1_wordAt_1 : List UInt8 := dkwX1_wordAt_1 ++ dktX1_wordAt_2
def dkwX1_wordAt_0 : List UInt8 := [27, 61, 28, 42, 182, 0, 83, 162, 0, 31, 42, 28, 182, 0, 86, 184, 0, 90, 154, 0, 14, 42, 28]
abbrev dktX1_wordAt_0 : List UInt8 := dkwX1_wordAt_0 ++ dktX1_wordAt_1
theorem dksX1_wordAt_0 : cX1_wordAt.data.toList.drop 0 = dktX1_wordAt_0 := by decide +kernel
theorem dksX1_wordAt_1 : cX1_wordAt.data.toList.drop 23 = dktX1_wordAt_1 := dk_seg dksX1_wordAt_0 23 rfl rfl
theorem dksX1_wordAt_2 : cX1_wordAt.data.toList.drop 45 = dktX1_wordAt_2 := dk_seg dksX1_wordAt_1 22 rfl rfl
theorem dksX1_wordAt_3 : cX1_wordAt.data.toList.drop 67 = dktX1_wordAt_3 := dk_seg dksX1_wordAt_2 22 rfl rfl
theorem dX1_wordAt_0 : decode cX1_wordAt 0 = .ok (.iload_n 1, 1) := dk_27 (dk_at dksX1_wordAt_0 0 rfl rfl)
theorem dX1_wordAt_1 : decode cX1_wordAt 1 = .ok (.istore_n 2, 1) := dk_61 (dk_at dksX1_wordAt_0 1 rfl rfl)
theorem dX1_wordAt_2 : decode cX1_wordAt 2 = .ok (.iload_n 2, 1) := dk_28 (dk_at dksX1_wordAt_0 2 rfl rfl)
theorem dX1_wordAt_3 : decode cX1_wordAt 3 = .ok (.aload_n 0, 1) := dk_42 (dk_at dksX1_wordAt_0 3 rfl rfl)
theorem dX1_wordAt_4 : decode cX1_wordAt 4 = .ok (.invokevirtual 83, 3) := dk_182 0 83 (dk_at dksX1_wordAt_0 4 rfl rfl)
theorem dX1_wordAt_7 : decode cX1_wordAt 7 = .ok (.if_icmp .ge 31, 3) := dk_162 0 31 (dk_at dksX1_wordAt_0 7 rfl rfl)
theorem dX1_wordAt_10 : decode cX1_wordAt 10 = .ok (.aload_n 0, 1) := dk_42 (dk_at dksX1_wordAt_0 10 rfl rfl)
theorem dX1_wordAt_11 : decode cX1_wordAt 11 = .ok (.iload_n 2, 1) := dk_28 (dk_at dksX1_wordAt_0 11 rfl rfl)
theorem dX1_wordAt_12 : decode cX1_wordAt 12 = .ok (.invokevirtual 86, 3) := dk_182 0 86 (dk_at dksX1_wordAt_0 12 rfl rfl)
theorem dX1_wordAt_15 : decode cX1_wordAt 15 = .ok (.invokestatic 90, 3) := dk_184 0 90 (dk_at dksX1_wordAt_0 15 rfl rfl)
theorem dX1_wordAt_18 : decode cX1_wordAt 18 = .ok (.ifCond .ne 14, 3) := dk_154 0 14 (dk_at dksX1_wordAt_0 18 rfl rfl)
theorem dX1_wordAt_21 : decode cX1_wordAt 21 = .ok (.aload_n 0, 1) := dk_42 (dk_at dksX1_wordAt_0 21 rfl rfl)
theorem dX1_wordAt_22 : decode cX1_wordAt 22 = .ok (.iload_n 2, 1) := dk_28 (dk_at dksX1_wordAt_0 22 rfl rfl)
theorem dX1_wordAt_23 : decode cX1_wordAt 23 = .ok (.invokevirtual 86, 3) := dk_182 0 86 (dk_at dksX1_wordAt_1 0 rfl rfl)
theorem dX1_wordAt_26 : decode cX1_wordAt 26 = .ok (.invokestatic 96, 3) := dk_184 0 96 (dk_at dksX1_wordAt_1 3 rfl rfl)
theorem dX1_wordAt_29 : decode cX1_wordAt 29 = .ok (.ifCond .eq 9, 3) := dk_153 0 9 (dk_at dksX1_wordAt_1 6 rfl rfl)
theorem dX1_wordAt_32 : decode cX1_wordAt 32 = .ok (.iinc 2 1, 3) := dk_132 2 1 (dk_at dksX1_wordAt_1 9 rfl rfl)
theorem dX1_wordAt_35 : decode cX1_wordAt 35 = .ok (.goto (-33), 3) := dk_167 255 223 (dk_at dksX1_wordAt_1 12 rfl rfl)
theorem dX1_wordAt_38 : decode cX1_wordAt 38 = .ok (.aload_n 0, 1) := dk_42 (dk_at dksX1_wordAt_1 15 rfl rfl)
theorem dX1_wordAt_39 : decode cX1_wordAt 39 = .ok (.iload_n 1, 1) := dk_27 (dk_at dksX1_wordAt_1 16 rfl rfl)
theorem dX1_wordAt_40 : decode cX1_wordAt 40 = .ok (.iload_n 2, 1) := dk_28 (dk_at dksX1_wordAt_1 17 rfl rfl)
theorem dX1_wordAt_41 : decode cX1_wordAt 41 = .ok (.invokevirtual 99, 3) := dk_182 0 99 (dk_at dksX1_wordAt_1 18 rfl rfl)
theorem dX1_wordAt_44 : decode cX1_wordAt 44 = .ok (.astore_n 3, 1) := dk_78 (dk_at dksX1_wordAt_1 21 rfl rfl)
theorem dX1_wordAt_45 : decode cX1_wordAt 45 = .ok (.new 103, 3) := dk_187 0 103 (dk_at dksX1_wordAt_2 0 rfl rfl)
theorem dX1_wordAt_48 : decode cX1_wordAt 48 = .ok (.dup, 1) := dk_89 (dk_at dksX1_wordAt_2 3 rfl rfl)
theorem dX1_wordAt_49 : decode cX1_wordAt 49 = .ok (.iload_n 2, 1) := dk_28 (dk_at dksX1_wordAt_2 4 rfl rfl)
theorem dX1_wordAt_50 : decode cX1_wordAt 50 = .ok (.iload_n 1, 1) := dk_27 (dk_at dksX1_wordAt_2 5 rfl rfl)
theorem dX1_wordAt_51 : decode cX1_wordAt 51 = .ok (.isub, 1) := dk_100 (dk_at dksX1_wordAt_2 6 rfl rfl)
theorem dX1_wordAt_52 : decode cX1_wordAt 52 = .ok (.bipush 8, 2) := dk_16 8 (dk_at dksX1_wordAt_2 7 rfl rfl)
theorem dX1_wordAt_54 : decode cX1_wordAt 54 = .ok (.if_icmp .le 9, 3) := dk_164 0 9 (dk_at dksX1_wordAt_2 9 rfl rfl)
theorem dX1_wordAt_57 : decode cX1_wordAt 57 = .ok (.getstatic 105, 3) := dk_178 0 105 (dk_at dksX1_wordAt_2 12 rfl rfl)
theorem dX1_wordAt_60 : decode cX1_wordAt 60 = .ok (.goto 19, 3) := dk_167 0 19 (dk_at dksX1_wordAt_2 15 rfl rfl)
theorem dX1_wordAt_63 : decode cX1_wordAt 63 = .ok (.aload_n 3, 1) := dk_45 (dk_at dksX1_wordAt_2 18 rfl rfl)
theorem dX1_wordAt_64 : decode cX1_wordAt 64 = .ok (.invokestatic 111, 3) := dk_184 0 111 (dk_at dksX1_wordAt_2 19 rfl rfl)
theorem dX1_wordAt_67 : decode cX1_wordAt 67 = .ok (.ifCond .eq 9, 3) := dk_153 0 9 (dk_at dksX1_wordAt_3 0 rfl rfl)
theorem dX1_wordAt_70 : decode cX1_wordAt 70 = .ok (.getstatic 115, 3) := dk_178 0 115 (dk_at dksX1_wordAt_3 3 rfl rfl)
theorem dX1_wordAt_73 : decode cX1_wordAt 73 = .ok (.goto 6, 3) := dk_167 0 6 (dk_at dksX1_wordAt_3 6 rfl rfl)
theorem dX1_wordAt_76 : decode cX1_wordAt 76 = .ok (.getstatic 118, 3) := dk_178 0 118 (dk_at dksX1_wordAt_3 9 rfl rfl)
theorem dX1_wordAt_79 : decode cX1_wordAt 79 = .ok (.aload_n 3, 1) := dk_45 (dk_at dksX1_wordAt_3 12 rfl rfl)
theorem dX1_wordAt_80 : decode cX1_wordAt 80 = .ok (.iload_n 1, 1) := dk_27 (dk_at dksX1_wordAt_3 13 rfl rfl)
theorem dX1_wordAt_81 : decode cX1_wordAt 81 = .ok (.invokespecial 121, 3) := dk_183 0 121 (dk_at dksX1_wordAt_3 14 rfl rfl)
theorem dX1_wordAt_84 : decode cX1_wordAt 84 = .ok (.areturn, 1) := dk_176 (dk_at dksX1_wordAt_3 17 rfl rfl)
abbrev cX1_isDigit : ByteArray := prog_1_method_5_code
def yX1_isDigit : MethodName := ⟨RX1, "isDigit", "(C)Z"⟩
def dkwX1_isDigit_0 : List UInt8 := [26, 16, 48, 161, 0, 13, 26, 16, 57, 163, 0, 7, 4, 167, 0, 4, 3, 172]
abbrev dktX1_isDigit_0 : List UInt8 := dkwX1_isDigit_0 ++ []
theorem dksX1_isDigit_0 : cX1_isDigit.data.toList.drop 0 = dktX1_isDigit_0 := by decide +kernel
theorem dX1_isDigit_0 : decode cX1_isDigit 0 = .ok (.iload_n 0, 1) := dk_26 (dk_at dksX1_isDigit_0 0 rfl rfl)
theorem dX1_isDigit_1 : decode cX1_isDigit 1 = .ok (.bipush 48, 2) := dk_16 48 (dk_at dksX1_isDigit_0 1 rfl rfl)
theorem dX1_isDigit_3 : decode cX1_isDigit 3 = .ok (.if_icmp .lt 13, 3) := dk_161 0 13 (dk_at dksX1_isDigit_0 3 rfl rfl)
theorem dX1_isDigit_6 : decode cX1_isDigit 6 = .ok (.iload_n 0, 1) := dk_26 (dk_at dksX1_isDigit_0 6 rfl rfl)
theorem dX1_isDigit_7 : decode cX1_isDigit 7 = .ok (.bipush 57, 2) := dk_16 57 (dk_at dksX1_isDigit_0 7 rfl rfl)
theorem dX1_isDigit_9 : decode cX1_isDigit 9 = .ok (.if_icmp .gt 7, 3) := dk_163 0 7 (dk_at dksX1_isDigit_0 9 rfl rfl)
theorem dX1_isDigit_12 : decode cX1_isDigit 12 = .ok (.iconst 1, 1) := dk_4 (dk_at dksX1_isDigit_0 12 rfl rfl)
theorem dX1_isDigit_13 : decode cX1_isDigit 13 = .ok (.goto 4, 3) := dk_167 0 4 (dk_at dksX1_isDigit_0 13 rfl rfl)
theorem dX1_isDigit_16 : decode cX1_isDigit 16 = .ok (.iconst 0, 1) := dk_3 (dk_at dksX1_isDigit_0 16 rfl rfl)
theorem dX1_isDigit_17 : decode cX1_isDigit 17 = .ok (.ireturn, 1) := dk_172 (dk_at dksX1_isDigit_0 17 rfl rfl)
abbrev cX1_isKeyword : ByteArray := prog_1_method_6_code
def yX1_isKeyword : MethodName := ⟨RX1, "isKeyword", "(Ljava/lang/String;)Z"⟩
def dkwX1_isKeyword_22 : List UInt8 := [4, 172, 4, 172, 3, 172]
abbrev dktX1_isKeyword_22 : List UInt8 := dkwX1_isKeyword_22 ++ []
def dkwX1_isKeyword_21 : List UInt8 := [170, 0, 0, 0, 0, 138, 0, 0, 0, 0, 0, 0, 0, 29, 0, 0, 0, 134, 0, 0, 0, 134, 0, 0, 0, 134, 0, 0, 0, 134, 0, 0, 0, 134, 0, 0, 0, 134, 0, 0, 0, 134, 0, 0, 0, 134, 0, 0, 0, 134, 0, 0, 0, 134, 0, 0, 0, 134, 0, 0, 0, 134, 0, 0, 0, 134, 0, 0, 0, 134, 0, 0, 0, 134, 0, 0, 0, 134, 0, 0, 0, 134, 0, 0, 0, 134, 0, 0, 0, 136, 0, 0, 0, 136, 0, 0, 0, 136, 0, 0, 0, 136, 0, 0, 0, 136, 0, 0, 0, 136, 0, 0, 0, 136, 0, 0, 0, 136, 0, 0, 0, 136, 0, 0, 0, 136, 0, 0, 0, 136, 0, 0, 0, 136]
abbrev dktX1_isKeyword_21 : List UInt8 := dkwX1_isKeyword_21 ++ dktX1_isKeyword_22
def dkwX1_isKeyword_20 : List UInt8 := [43, 18, 81, 182, 0, 21, 153, 0, 6, 16, 29, 61, 28]
abbrev dktX1_isKeyword_20 : List UInt8 := dkwX1_isKeyword_20 ++ dktX1_isKeyword_21
def dkwX1_isKeyword_19 : List UInt8 := [153, 0, 36, 16, 27, 61, 167, 0, 30, 43, 18, 79, 182, 0, 21, 153, 0, 21, 16, 28, 61, 167, 0, 15]
abbrev dktX1_isKeyword_19 : List UInt8 := dkwX1_isKeyword_19 ++ dktX1_isKeyword_20
def dkwX1_isKeyword_18 : List UInt8 := [167, 0, 60, 43, 18, 75, 182, 0, 21, 153, 0, 51, 16, 26, 61, 167, 0, 45, 43, 18, 77, 182, 0, 21]
abbrev dktX1_isKeyword_18 : List UInt8 := dkwX1_isKeyword_18 ++ dktX1_isKeyword_19
def dkwX1_isKeyword_17 : List UInt8 := [182, 0, 21, 153, 0, 81, 16, 24, 61, 167, 0, 75, 43, 18, 73, 182, 0, 21, 153, 0, 66, 16, 25, 61]
abbrev dktX1_isKeyword_17 : List UInt8 := dkwX1_isKeyword_17 ++ dktX1_isKeyword_18
def dkwX1_isKeyword_16 : List UInt8 := [16, 22, 61, 167, 0, 105, 43, 18, 69, 182, 0, 21, 153, 0, 96, 16, 23, 61, 167, 0, 90, 43, 18, 71]
abbrev dktX1_isKeyword_16 : List UInt8 := dkwX1_isKeyword_16 ++ dktX1_isKeyword_17
def dkwX1_isKeyword_15 : List UInt8 := [43, 18, 65, 182, 0, 21, 153, 0, 126, 16, 21, 61, 167, 0, 120, 43, 18, 67, 182, 0, 21, 153, 0, 111]
abbrev dktX1_isKeyword_15 : List UInt8 := dkwX1_isKeyword_15 ++ dktX1_isKeyword_16
def dkwX1_isKeyword_14 : List UInt8 := [153, 0, 156, 16, 19, 61, 167, 0, 150, 43, 18, 63, 182, 0, 21, 153, 0, 141, 16, 20, 61, 167, 0, 135]
abbrev dktX1_isKeyword_14 : List UInt8 := dkwX1_isKeyword_14 ++ dktX1_isKeyword_15
def dkwX1_isKeyword_13 : List UInt8 := [167, 0, 180, 43, 18, 59, 182, 0, 21, 153, 0, 171, 16, 18, 61, 167, 0, 165, 43, 18, 61, 182, 0, 21]
abbrev dktX1_isKeyword_13 : List UInt8 := dkwX1_isKeyword_13 ++ dktX1_isKeyword_14
def dkwX1_isKeyword_12 : List UInt8 := [182, 0, 21, 153, 0, 201, 16, 16, 61, 167, 0, 195, 43, 18, 57, 182, 0, 21, 153, 0, 186, 16, 17, 61]
abbrev dktX1_isKeyword_12 : List UInt8 := dkwX1_isKeyword_12 ++ dktX1_isKeyword_13
def dkwX1_isKeyword_11 : List UInt8 := [16, 14, 61, 167, 0, 225, 43, 18, 53, 182, 0, 21, 153, 0, 216, 16, 15, 61, 167, 0, 210, 43, 18, 55]
abbrev dktX1_isKeyword_11 : List UInt8 := dkwX1_isKeyword_11 ++ dktX1_isKeyword_12
def dkwX1_isKeyword_10 : List UInt8 := [43, 18, 49, 182, 0, 21, 153, 0, 246, 16, 13, 61, 167, 0, 240, 43, 18, 51, 182, 0, 21, 153, 0, 231]
abbrev dktX1_isKeyword_10 : List UInt8 := dkwX1_isKeyword_10 ++ dktX1_isKeyword_11
def dkwX1_isKeyword_9 : List UInt8 := [153, 1, 20, 16, 11, 61, 167, 1, 14, 43, 18, 47, 182, 0, 21, 153, 1, 5, 16, 12, 61, 167, 0, 255]
abbrev dktX1_isKeyword_9 : List UInt8 := dkwX1_isKeyword_9 ++ dktX1_isKeyword_10
def dkwX1_isKeyword_8 : List UInt8 := [167, 1, 44, 43, 18, 43, 182, 0, 21, 153, 1, 35, 16, 10, 61, 167, 1, 29, 43, 18, 45, 182, 0, 21]
abbrev dktX1_isKeyword_8 : List UInt8 := dkwX1_isKeyword_8 ++ dktX1_isKeyword_9
def dkwX1_isKeyword_7 : List UInt8 := [182, 0, 21, 153, 1, 65, 16, 8, 61, 167, 1, 59, 43, 18, 41, 182, 0, 21, 153, 1, 50, 16, 9, 61]
abbrev dktX1_isKeyword_7 : List UInt8 := dkwX1_isKeyword_7 ++ dktX1_isKeyword_8
def dkwX1_isKeyword_6 : List UInt8 := [61, 167, 1, 89, 43, 18, 37, 182, 0, 21, 153, 1, 80, 16, 7, 61, 167, 1, 74, 43, 18, 39]
abbrev dktX1_isKeyword_6 : List UInt8 := dkwX1_isKeyword_6 ++ dktX1_isKeyword_7
def dkwX1_isKeyword_5 : List UInt8 := [18, 33, 182, 0, 21, 153, 1, 109, 8, 61, 167, 1, 104, 43, 18, 35, 182, 0, 21, 153, 1, 95, 16, 6]
abbrev dktX1_isKeyword_5 : List UInt8 := dkwX1_isKeyword_5 ++ dktX1_isKeyword_6
def dkwX1_isKeyword_4 : List UInt8 := [153, 1, 137, 6, 61, 167, 1, 132, 43, 18, 31, 182, 0, 21, 153, 1, 123, 7, 61, 167, 1, 118, 43]
abbrev dktX1_isKeyword_4 : List UInt8 := dkwX1_isKeyword_4 ++ dktX1_isKeyword_5
def dkwX1_isKeyword_3 : List UInt8 := [61, 167, 1, 160, 43, 18, 27, 182, 0, 21, 153, 1, 151, 5, 61, 167, 1, 146, 43, 18, 29, 182, 0, 21]
abbrev dktX1_isKeyword_3 : List UInt8 := dkwX1_isKeyword_3 ++ dktX1_isKeyword_4
def dkwX1_isKeyword_2 : List UInt8 := [43, 18, 19, 182, 0, 21, 153, 1, 179, 3, 61, 167, 1, 174, 43, 18, 25, 182, 0, 21, 153, 1, 165, 4]
abbrev dktX1_isKeyword_2 : List UInt8 := dkwX1_isKeyword_2 ++ dktX1_isKeyword_3
def dkwX1_isKeyword_1 : List UInt8 := [171, 0, 0, 0, 0, 0, 2, 181, 0, 0, 0, 30, 171, 175, 146, 15, 0, 0, 1, 140, 202, 53, 110, 168, 0, 0, 0, 252, 0, 0, 12, 51, 0, 0, 2, 124, 0, 0, 13, 29, 0, 0, 2, 4, 0, 0, 13, 42, 0, 0, 1, 215, 0, 0, 13, 227, 0, 0, 1, 185, 0, 1, 121, 215, 0, 0, 1, 170, 0, 1, 162, 27, 0, 0, 1, 10, 0, 1, 165, 100, 0, 0, 2, 64, 0, 1, 166, 82, 0, 0, 2, 79, 0, 1, 170, 211, 0, 0, 1, 66, 0, 1, 174, 39, 0, 0, 2, 49, 0, 1, 190, 75, 0, 0, 2, 94, 0, 47, 141, 57, 0, 0, 2, 34, 0, 47, 215, 123, 0, 0, 1, 110, 0, 50, 146, 150, 0, 0, 2, 139, 0, 52, 30, 129, 0, 0, 1, 125, 0, 52, 162, 51, 0, 0, 1, 80, 0, 53, 106, 201, 0, 0, 1, 95, 0, 54, 6, 204, 0, 0, 2, 169, 0, 54, 78, 29, 0, 0, 2, 19, 0, 54, 82, 205, 0, 0, 2, 154, 0, 54, 117, 142, 0, 0, 1, 230, 5, 167, 81, 15, 0, 0, 2, 109, 5, 203, 25, 35, 0, 0, 1, 245, 6, 33, 155, 132, 0, 0, 1, 52, 6, 133, 243, 58, 0, 0, 1, 155, 6, 172, 145, 113, 0, 0, 1, 24, 6, 186, 196, 207, 0, 0, 1, 38, 114, 203, 128, 183, 0, 0, 1, 200]
abbrev dktX1_isKeyword_1 : List UInt8 := dkwX1_isKeyword_1 ++ dktX1_isKeyword_2
def dkwX1_isKeyword_0 : List UInt8 := [42, 76, 2, 61, 43, 182, 0, 13]
abbrev dktX1_isKeyword_0 : List UInt8 := dkwX1_isKeyword_0 ++ dktX1_isKeyword_1
theorem dksX1_isKeyword_0 : cX1_isKeyword.data.toList.drop 0 = dktX1_isKeyword_0 := by decide +kernel
theorem dksX1_isKeyword_1 : cX1_isKeyword.data.toList.drop 8 = dktX1_isKeyword_1 := dk_seg dksX1_isKeyword_0 8 rfl rfl
theorem dksX1_isKeyword_2 : cX1_isKeyword.data.toList.drop 260 = dktX1_isKeyword_2 := dk_seg dksX1_isKeyword_1 252 rfl rfl
theorem dksX1_isKeyword_3 : cX1_isKeyword.data.toList.drop 284 = dktX1_isKeyword_3 := dk_seg dksX1_isKeyword_2 24 rfl rfl
theorem dksX1_isKeyword_4 : cX1_isKeyword.data.toList.drop 308 = dktX1_isKeyword_4 := dk_seg dksX1_isKeyword_3 24 rfl rfl
theorem dksX1_isKeyword_5 : cX1_isKeyword.data.toList.drop 331 = dktX1_isKeyword_5 := dk_seg dksX1_isKeyword_4 23 rfl rfl
theorem dksX1_isKeyword_6 : cX1_isKeyword.data.toList.drop 355 = dktX1_isKeyword_6 := dk_seg dksX1_isKeyword_5 24 rfl rfl
theorem dksX1_isKeyword_7 : cX1_isKeyword.data.toList.drop 377 = dktX1_isKeyword_7 := dk_seg dksX1_isKeyword_6 22 rfl rfl
theorem dksX1_isKeyword_8 : cX1_isKeyword.data.toList.drop 401 = dktX1_isKeyword_8 := dk_seg dksX1_isKeyword_7 24 rfl rfl
theorem dksX1_isKeyword_9 : cX1_isKeyword.data.toList.drop 425 = dktX1_isKeyword_9 := dk_seg dksX1_isKeyword_8 24 rfl rfl
theorem dksX1_isKeyword_10 : cX1_isKeyword.data.toList.drop 449 = dktX1_isKeyword_10 := dk_seg dksX1_isKeyword_9 24 rfl rfl
theorem dksX1_isKeyword_11 : cX1_isKeyword.data.toList.drop 473 = dktX1_isKeyword_11 := dk_seg dksX1_isKeyword_10 24 rfl rfl
theorem dksX1_isKeyword_12 : cX1_isKeyword.data.toList.drop 497 = dktX1_isKeyword_12 := dk_seg dksX1_isKeyword_11 24 rfl rfl
theorem dksX1_isKeyword_13 : cX1_isKeyword.data.toList.drop 521 = dktX1_isKeyword_13 := dk_seg dksX1_isKeyword_12 24 rfl rfl
theorem dksX1_isKeyword_14 : cX1_isKeyword.data.toList.drop 545 = dktX1_isKeyword_14 := dk_seg dksX1_isKeyword_13 24 rfl rfl
theorem dksX1_isKeyword_15 : cX1_isKeyword.data.toList.drop 569 = dktX1_isKeyword_15 := dk_seg dksX1_isKeyword_14 24 rfl rfl
theorem dksX1_isKeyword_16 : cX1_isKeyword.data.toList.drop 593 = dktX1_isKeyword_16 := dk_seg dksX1_isKeyword_15 24 rfl rfl
theorem dksX1_isKeyword_17 : cX1_isKeyword.data.toList.drop 617 = dktX1_isKeyword_17 := dk_seg dksX1_isKeyword_16 24 rfl rfl
theorem dksX1_isKeyword_18 : cX1_isKeyword.data.toList.drop 641 = dktX1_isKeyword_18 := dk_seg dksX1_isKeyword_17 24 rfl rfl
theorem dksX1_isKeyword_19 : cX1_isKeyword.data.toList.drop 665 = dktX1_isKeyword_19 := dk_seg dksX1_isKeyword_18 24 rfl rfl
theorem dksX1_isKeyword_20 : cX1_isKeyword.data.toList.drop 689 = dktX1_isKeyword_20 := dk_seg dksX1_isKeyword_19 24 rfl rfl
theorem dksX1_isKeyword_21 : cX1_isKeyword.data.toList.drop 702 = dktX1_isKeyword_21 := dk_seg dksX1_isKeyword_20 13 rfl rfl
theorem dksX1_isKeyword_22 : cX1_isKeyword.data.toList.drop 836 = dktX1_isKeyword_22 := dk_seg dksX1_isKeyword_21 134 rfl rfl
theorem dX1_isKeyword_0 : decode cX1_isKeyword 0 = .ok (.aload_n 0, 1) := dk_42 (dk_at dksX1_isKeyword_0 0 rfl rfl)
theorem dX1_isKeyword_1 : decode cX1_isKeyword 1 = .ok (.astore_n 1, 1) := dk_76 (dk_at dksX1_isKeyword_0 1 rfl rfl)
theorem dX1_isKeyword_2 : decode cX1_isKeyword 2 = .ok (.iconst (-1), 1) := dk_2 (dk_at dksX1_isKeyword_0 2 rfl rfl)
theorem dX1_isKeyword_3 : decode cX1_isKeyword 3 = .ok (.istore_n 2, 1) := dk_61 (dk_at dksX1_isKeyword_0 3 rfl rfl)
theorem dX1_isKeyword_4 : decode cX1_isKeyword 4 = .ok (.aload_n 1, 1) := dk_43 (dk_at dksX1_isKeyword_0 4 rfl rfl)
theorem dX1_isKeyword_5 : decode cX1_isKeyword 5 = .ok (.invokevirtual 13, 3) := dk_182 0 13 (dk_at dksX1_isKeyword_0 5 rfl rfl)
theorem dX1_isKeyword_8 : decode cX1_isKeyword 8 = .ok (.lookupswitch 693 #[(-1414557169, 396), (-902467928, 252), (3123, 636), (3357, 516), (3370, 471), (3555, 441), (96727, 426), (107035, 266), (107876, 576), (108114, 591), (109267, 322), (110119, 561), (114251, 606), (3116345, 546), (3135355, 366), (3314326, 651), (3415681, 381), (3449395, 336), (3500745, 351), (3540684, 681), (3558941, 531), (3560141, 666), (3569038, 486), (94851343, 621), (97196323, 501), (102865796, 308), (109441850, 411), (111972721, 280), (112903375, 294), (1925939383, 456)], 252) := by decide +kernel
theorem dX1_isKeyword_260 : decode cX1_isKeyword 260 = .ok (.aload_n 1, 1) := dk_43 (dk_at dksX1_isKeyword_2 0 rfl rfl)
theorem dX1_isKeyword_261 : decode cX1_isKeyword 261 = .ok (.ldc 19, 2) := dk_18 19 (dk_at dksX1_isKeyword_2 1 rfl rfl)
theorem dX1_isKeyword_263 : decode cX1_isKeyword 263 = .ok (.invokevirtual 21, 3) := dk_182 0 21 (dk_at dksX1_isKeyword_2 3 rfl rfl)
theorem dX1_isKeyword_266 : decode cX1_isKeyword 266 = .ok (.ifCond .eq 435, 3) := dk_153 1 179 (dk_at dksX1_isKeyword_2 6 rfl rfl)
theorem dX1_isKeyword_269 : decode cX1_isKeyword 269 = .ok (.iconst 0, 1) := dk_3 (dk_at dksX1_isKeyword_2 9 rfl rfl)
theorem dX1_isKeyword_270 : decode cX1_isKeyword 270 = .ok (.istore_n 2, 1) := dk_61 (dk_at dksX1_isKeyword_2 10 rfl rfl)
theorem dX1_isKeyword_271 : decode cX1_isKeyword 271 = .ok (.goto 430, 3) := dk_167 1 174 (dk_at dksX1_isKeyword_2 11 rfl rfl)
theorem dX1_isKeyword_274 : decode cX1_isKeyword 274 = .ok (.aload_n 1, 1) := dk_43 (dk_at dksX1_isKeyword_2 14 rfl rfl)
theorem dX1_isKeyword_275 : decode cX1_isKeyword 275 = .ok (.ldc 25, 2) := dk_18 25 (dk_at dksX1_isKeyword_2 15 rfl rfl)
theorem dX1_isKeyword_277 : decode cX1_isKeyword 277 = .ok (.invokevirtual 21, 3) := dk_182 0 21 (dk_at dksX1_isKeyword_2 17 rfl rfl)
theorem dX1_isKeyword_280 : decode cX1_isKeyword 280 = .ok (.ifCond .eq 421, 3) := dk_153 1 165 (dk_at dksX1_isKeyword_2 20 rfl rfl)
theorem dX1_isKeyword_283 : decode cX1_isKeyword 283 = .ok (.iconst 1, 1) := dk_4 (dk_at dksX1_isKeyword_2 23 rfl rfl)
theorem dX1_isKeyword_284 : decode cX1_isKeyword 284 = .ok (.istore_n 2, 1) := dk_61 (dk_at dksX1_isKeyword_3 0 rfl rfl)
theorem dX1_isKeyword_285 : decode cX1_isKeyword 285 = .ok (.goto 416, 3) := dk_167 1 160 (dk_at dksX1_isKeyword_3 1 rfl rfl)
theorem dX1_isKeyword_288 : decode cX1_isKeyword 288 = .ok (.aload_n 1, 1) := dk_43 (dk_at dksX1_isKeyword_3 4 rfl rfl)
theorem dX1_isKeyword_289 : decode cX1_isKeyword 289 = .ok (.ldc 27, 2) := dk_18 27 (dk_at dksX1_isKeyword_3 5 rfl rfl)
theorem dX1_isKeyword_291 : decode cX1_isKeyword 291 = .ok (.invokevirtual 21, 3) := dk_182 0 21 (dk_at dksX1_isKeyword_3 7 rfl rfl)
theorem dX1_isKeyword_294 : decode cX1_isKeyword 294 = .ok (.ifCond .eq 407, 3) := dk_153 1 151 (dk_at dksX1_isKeyword_3 10 rfl rfl)
theorem dX1_isKeyword_297 : decode cX1_isKeyword 297 = .ok (.iconst 2, 1) := dk_5 (dk_at dksX1_isKeyword_3 13 rfl rfl)
theorem dX1_isKeyword_298 : decode cX1_isKeyword 298 = .ok (.istore_n 2, 1) := dk_61 (dk_at dksX1_isKeyword_3 14 rfl rfl)
theorem dX1_isKeyword_299 : decode cX1_isKeyword 299 = .ok (.goto 402, 3) := dk_167 1 146 (dk_at dksX1_isKeyword_3 15 rfl rfl)
theorem dX1_isKeyword_302 : decode cX1_isKeyword 302 = .ok (.aload_n 1, 1) := dk_43 (dk_at dksX1_isKeyword_3 18 rfl rfl)
theorem dX1_isKeyword_303 : decode cX1_isKeyword 303 = .ok (.ldc 29, 2) := dk_18 29 (dk_at dksX1_isKeyword_3 19 rfl rfl)
theorem dX1_isKeyword_305 : decode cX1_isKeyword 305 = .ok (.invokevirtual 21, 3) := dk_182 0 21 (dk_at dksX1_isKeyword_3 21 rfl rfl)
theorem dX1_isKeyword_308 : decode cX1_isKeyword 308 = .ok (.ifCond .eq 393, 3) := dk_153 1 137 (dk_at dksX1_isKeyword_4 0 rfl rfl)
theorem dX1_isKeyword_311 : decode cX1_isKeyword 311 = .ok (.iconst 3, 1) := dk_6 (dk_at dksX1_isKeyword_4 3 rfl rfl)
theorem dX1_isKeyword_312 : decode cX1_isKeyword 312 = .ok (.istore_n 2, 1) := dk_61 (dk_at dksX1_isKeyword_4 4 rfl rfl)
theorem dX1_isKeyword_313 : decode cX1_isKeyword 313 = .ok (.goto 388, 3) := dk_167 1 132 (dk_at dksX1_isKeyword_4 5 rfl rfl)
theorem dX1_isKeyword_316 : decode cX1_isKeyword 316 = .ok (.aload_n 1, 1) := dk_43 (dk_at dksX1_isKeyword_4 8 rfl rfl)
theorem dX1_isKeyword_317 : decode cX1_isKeyword 317 = .ok (.ldc 31, 2) := dk_18 31 (dk_at dksX1_isKeyword_4 9 rfl rfl)
theorem dX1_isKeyword_319 : decode cX1_isKeyword 319 = .ok (.invokevirtual 21, 3) := dk_182 0 21 (dk_at dksX1_isKeyword_4 11 rfl rfl)
theorem dX1_isKeyword_322 : decode cX1_isKeyword 322 = .ok (.ifCond .eq 379, 3) := dk_153 1 123 (dk_at dksX1_isKeyword_4 14 rfl rfl)
theorem dX1_isKeyword_325 : decode cX1_isKeyword 325 = .ok (.iconst 4, 1) := dk_7 (dk_at dksX1_isKeyword_4 17 rfl rfl)
theorem dX1_isKeyword_326 : decode cX1_isKeyword 326 = .ok (.istore_n 2, 1) := dk_61 (dk_at dksX1_isKeyword_4 18 rfl rfl)
theorem dX1_isKeyword_327 : decode cX1_isKeyword 327 = .ok (.goto 374, 3) := dk_167 1 118 (dk_at dksX1_isKeyword_4 19 rfl rfl)
theorem dX1_isKeyword_330 : decode cX1_isKeyword 330 = .ok (.aload_n 1, 1) := dk_43 (dk_at dksX1_isKeyword_4 22 rfl rfl)
theorem dX1_isKeyword_331 : decode cX1_isKeyword 331 = .ok (.ldc 33, 2) := dk_18 33 (dk_at dksX1_isKeyword_5 0 rfl rfl)
theorem dX1_isKeyword_333 : decode cX1_isKeyword 333 = .ok (.invokevirtual 21, 3) := dk_182 0 21 (dk_at dksX1_isKeyword_5 2 rfl rfl)
theorem dX1_isKeyword_336 : decode cX1_isKeyword 336 = .ok (.ifCond .eq 365, 3) := dk_153 1 109 (dk_at dksX1_isKeyword_5 5 rfl rfl)
theorem dX1_isKeyword_339 : decode cX1_isKeyword 339 = .ok (.iconst 5, 1) := dk_8 (dk_at dksX1_isKeyword_5 8 rfl rfl)
theorem dX1_isKeyword_340 : decode cX1_isKeyword 340 = .ok (.istore_n 2, 1) := dk_61 (dk_at dksX1_isKeyword_5 9 rfl rfl)
theorem dX1_isKeyword_341 : decode cX1_isKeyword 341 = .ok (.goto 360, 3) := dk_167 1 104 (dk_at dksX1_isKeyword_5 10 rfl rfl)
theorem dX1_isKeyword_344 : decode cX1_isKeyword 344 = .ok (.aload_n 1, 1) := dk_43 (dk_at dksX1_isKeyword_5 13 rfl rfl)
theorem dX1_isKeyword_345 : decode cX1_isKeyword 345 = .ok (.ldc 35, 2) := dk_18 35 (dk_at dksX1_isKeyword_5 14 rfl rfl)
theorem dX1_isKeyword_347 : decode cX1_isKeyword 347 = .ok (.invokevirtual 21, 3) := dk_182 0 21 (dk_at dksX1_isKeyword_5 16 rfl rfl)
theorem dX1_isKeyword_350 : decode cX1_isKeyword 350 = .ok (.ifCond .eq 351, 3) := dk_153 1 95 (dk_at dksX1_isKeyword_5 19 rfl rfl)
theorem dX1_isKeyword_353 : decode cX1_isKeyword 353 = .ok (.bipush 6, 2) := dk_16 6 (dk_at dksX1_isKeyword_5 22 rfl rfl)
theorem dX1_isKeyword_355 : decode cX1_isKeyword 355 = .ok (.istore_n 2, 1) := dk_61 (dk_at dksX1_isKeyword_6 0 rfl rfl)
theorem dX1_isKeyword_356 : decode cX1_isKeyword 356 = .ok (.goto 345, 3) := dk_167 1 89 (dk_at dksX1_isKeyword_6 1 rfl rfl)
theorem dX1_isKeyword_359 : decode cX1_isKeyword 359 = .ok (.aload_n 1, 1) := dk_43 (dk_at dksX1_isKeyword_6 4 rfl rfl)
theorem dX1_isKeyword_360 : decode cX1_isKeyword 360 = .ok (.ldc 37, 2) := dk_18 37 (dk_at dksX1_isKeyword_6 5 rfl rfl)
theorem dX1_isKeyword_362 : decode cX1_isKeyword 362 = .ok (.invokevirtual 21, 3) := dk_182 0 21 (dk_at dksX1_isKeyword_6 7 rfl rfl)
theorem dX1_isKeyword_365 : decode cX1_isKeyword 365 = .ok (.ifCond .eq 336, 3) := dk_153 1 80 (dk_at dksX1_isKeyword_6 10 rfl rfl)
theorem dX1_isKeyword_368 : decode cX1_isKeyword 368 = .ok (.bipush 7, 2) := dk_16 7 (dk_at dksX1_isKeyword_6 13 rfl rfl)
theorem dX1_isKeyword_370 : decode cX1_isKeyword 370 = .ok (.istore_n 2, 1) := dk_61 (dk_at dksX1_isKeyword_6 15 rfl rfl)
theorem dX1_isKeyword_371 : decode cX1_isKeyword 371 = .ok (.goto 330, 3) := dk_167 1 74 (dk_at dksX1_isKeyword_6 16 rfl rfl)
theorem dX1_isKeyword_374 : decode cX1_isKeyword 374 = .ok (.aload_n 1, 1) := dk_43 (dk_at dksX1_isKeyword_6 19 rfl rfl)
theorem dX1_isKeyword_375 : decode cX1_isKeyword 375 = .ok (.ldc 39, 2) := dk_18 39 (dk_at dksX1_isKeyword_6 20 rfl rfl)
theorem dX1_isKeyword_377 : decode cX1_isKeyword 377 = .ok (.invokevirtual 21, 3) := dk_182 0 21 (dk_at dksX1_isKeyword_7 0 rfl rfl)
theorem dX1_isKeyword_380 : decode cX1_isKeyword 380 = .ok (.ifCond .eq 321, 3) := dk_153 1 65 (dk_at dksX1_isKeyword_7 3 rfl rfl)
theorem dX1_isKeyword_383 : decode cX1_isKeyword 383 = .ok (.bipush 8, 2) := dk_16 8 (dk_at dksX1_isKeyword_7 6 rfl rfl)
theorem dX1_isKeyword_385 : decode cX1_isKeyword 385 = .ok (.istore_n 2, 1) := dk_61 (dk_at dksX1_isKeyword_7 8 rfl rfl)
theorem dX1_isKeyword_386 : decode cX1_isKeyword 386 = .ok (.goto 315, 3) := dk_167 1 59 (dk_at dksX1_isKeyword_7 9 rfl rfl)
theorem dX1_isKeyword_389 : decode cX1_isKeyword 389 = .ok (.aload_n 1, 1) := dk_43 (dk_at dksX1_isKeyword_7 12 rfl rfl)
theorem dX1_isKeyword_390 : decode cX1_isKeyword 390 = .ok (.ldc 41, 2) := dk_18 41 (dk_at dksX1_isKeyword_7 13 rfl rfl)
theorem dX1_isKeyword_392 : decode cX1_isKeyword 392 = .ok (.invokevirtual 21, 3) := dk_182 0 21 (dk_at dksX1_isKeyword_7 15 rfl rfl)
theorem dX1_isKeyword_395 : decode cX1_isKeyword 395 = .ok (.ifCond .eq 306, 3) := dk_153 1 50 (dk_at dksX1_isKeyword_7 18 rfl rfl)
theorem dX1_isKeyword_398 : decode cX1_isKeyword 398 = .ok (.bipush 9, 2) := dk_16 9 (dk_at dksX1_isKeyword_7 21 rfl rfl)
theorem dX1_isKeyword_400 : decode cX1_isKeyword 400 = .ok (.istore_n 2, 1) := dk_61 (dk_at dksX1_isKeyword_7 23 rfl rfl)
theorem dX1_isKeyword_401 : decode cX1_isKeyword 401 = .ok (.goto 300, 3) := dk_167 1 44 (dk_at dksX1_isKeyword_8 0 rfl rfl)
theorem dX1_isKeyword_404 : decode cX1_isKeyword 404 = .ok (.aload_n 1, 1) := dk_43 (dk_at dksX1_isKeyword_8 3 rfl rfl)
theorem dX1_isKeyword_405 : decode cX1_isKeyword 405 = .ok (.ldc 43, 2) := dk_18 43 (dk_at dksX1_isKeyword_8 4 rfl rfl)
theorem dX1_isKeyword_407 : decode cX1_isKeyword 407 = .ok (.invokevirtual 21, 3) := dk_182 0 21 (dk_at dksX1_isKeyword_8 6 rfl rfl)
theorem dX1_isKeyword_410 : decode cX1_isKeyword 410 = .ok (.ifCond .eq 291, 3) := dk_153 1 35 (dk_at dksX1_isKeyword_8 9 rfl rfl)
theorem dX1_isKeyword_413 : decode cX1_isKeyword 413 = .ok (.bipush 10, 2) := dk_16 10 (dk_at dksX1_isKeyword_8 12 rfl rfl)
theorem dX1_isKeyword_415 : decode cX1_isKeyword 415 = .ok (.istore_n 2, 1) := dk_61 (dk_at dksX1_isKeyword_8 14 rfl rfl)
theorem dX1_isKeyword_416 : decode cX1_isKeyword 416 = .ok (.goto 285, 3) := dk_167 1 29 (dk_at dksX1_isKeyword_8 15 rfl rfl)
theorem dX1_isKeyword_419 : decode cX1_isKeyword 419 = .ok (.aload_n 1, 1) := dk_43 (dk_at dksX1_isKeyword_8 18 rfl rfl)
theorem dX1_isKeyword_420 : decode cX1_isKeyword 420 = .ok (.ldc 45, 2) := dk_18 45 (dk_at dksX1_isKeyword_8 19 rfl rfl)
theorem dX1_isKeyword_422 : decode cX1_isKeyword 422 = .ok (.invokevirtual 21, 3) := dk_182 0 21 (dk_at dksX1_isKeyword_8 21 rfl rfl)
theorem dX1_isKeyword_425 : decode cX1_isKeyword 425 = .ok (.ifCond .eq 276, 3) := dk_153 1 20 (dk_at dksX1_isKeyword_9 0 rfl rfl)
theorem dX1_isKeyword_428 : decode cX1_isKeyword 428 = .ok (.bipush 11, 2) := dk_16 11 (dk_at dksX1_isKeyword_9 3 rfl rfl)
theorem dX1_isKeyword_430 : decode cX1_isKeyword 430 = .ok (.istore_n 2, 1) := dk_61 (dk_at dksX1_isKeyword_9 5 rfl rfl)
theorem dX1_isKeyword_431 : decode cX1_isKeyword 431 = .ok (.goto 270, 3) := dk_167 1 14 (dk_at dksX1_isKeyword_9 6 rfl rfl)
theorem dX1_isKeyword_434 : decode cX1_isKeyword 434 = .ok (.aload_n 1, 1) := dk_43 (dk_at dksX1_isKeyword_9 9 rfl rfl)
theorem dX1_isKeyword_435 : decode cX1_isKeyword 435 = .ok (.ldc 47, 2) := dk_18 47 (dk_at dksX1_isKeyword_9 10 rfl rfl)
theorem dX1_isKeyword_437 : decode cX1_isKeyword 437 = .ok (.invokevirtual 21, 3) := dk_182 0 21 (dk_at dksX1_isKeyword_9 12 rfl rfl)
theorem dX1_isKeyword_440 : decode cX1_isKeyword 440 = .ok (.ifCond .eq 261, 3) := dk_153 1 5 (dk_at dksX1_isKeyword_9 15 rfl rfl)
theorem dX1_isKeyword_443 : decode cX1_isKeyword 443 = .ok (.bipush 12, 2) := dk_16 12 (dk_at dksX1_isKeyword_9 18 rfl rfl)
theorem dX1_isKeyword_445 : decode cX1_isKeyword 445 = .ok (.istore_n 2, 1) := dk_61 (dk_at dksX1_isKeyword_9 20 rfl rfl)
theorem dX1_isKeyword_446 : decode cX1_isKeyword 446 = .ok (.goto 255, 3) := dk_167 0 255 (dk_at dksX1_isKeyword_9 21 rfl rfl)
theorem dX1_isKeyword_449 : decode cX1_isKeyword 449 = .ok (.aload_n 1, 1) := dk_43 (dk_at dksX1_isKeyword_10 0 rfl rfl)
theorem dX1_isKeyword_450 : decode cX1_isKeyword 450 = .ok (.ldc 49, 2) := dk_18 49 (dk_at dksX1_isKeyword_10 1 rfl rfl)
theorem dX1_isKeyword_452 : decode cX1_isKeyword 452 = .ok (.invokevirtual 21, 3) := dk_182 0 21 (dk_at dksX1_isKeyword_10 3 rfl rfl)
theorem dX1_isKeyword_455 : decode cX1_isKeyword 455 = .ok (.ifCond .eq 246, 3) := dk_153 0 246 (dk_at dksX1_isKeyword_10 6 rfl rfl)
theorem dX1_isKeyword_458 : decode cX1_isKeyword 458 = .ok (.bipush 13, 2) := dk_16 13 (dk_at dksX1_isKeyword_10 9 rfl rfl)
theorem dX1_isKeyword_460 : decode cX1_isKeyword 460 = .ok (.istore_n 2, 1) := dk_61 (dk_at dksX1_isKeyword_10 11 rfl rfl)
theorem dX1_isKeyword_461 : decode cX1_isKeyword 461 = .ok (.goto 240, 3) := dk_167 0 240 (dk_at dksX1_isKeyword_10 12 rfl rfl)
theorem dX1_isKeyword_464 : decode cX1_isKeyword 464 = .ok (.aload_n 1, 1) := dk_43 (dk_at dksX1_isKeyword_10 15 rfl rfl)
theorem dX1_isKeyword_465 : decode cX1_isKeyword 465 = .ok (.ldc 51, 2) := dk_18 51 (dk_at dksX1_isKeyword_10 16 rfl rfl)
theorem dX1_isKeyword_467 : decode cX1_isKeyword 467 = .ok (.invokevirtual 21, 3) := dk_182 0 21 (dk_at dksX1_isKeyword_10 18 rfl rfl)
theorem dX1_isKeyword_470 : decode cX1_isKeyword 470 = .ok (.ifCond .eq 231, 3) := dk_153 0 231 (dk_at dksX1_isKeyword_10 21 rfl rfl)
theorem dX1_isKeyword_473 : decode cX1_isKeyword 473 = .ok (.bipush 14, 2) := dk_16 14 (dk_at dksX1_isKeyword_11 0 rfl rfl)
theorem dX1_isKeyword_475 : decode cX1_isKeyword 475 = .ok (.istore_n 2, 1) := dk_61 (dk_at dksX1_isKeyword_11 2 rfl rfl)
theorem dX1_isKeyword_476 : decode cX1_isKeyword 476 = .ok (.goto 225, 3) := dk_167 0 225 (dk_at dksX1_isKeyword_11 3 rfl rfl)
theorem dX1_isKeyword_479 : decode cX1_isKeyword 479 = .ok (.aload_n 1, 1) := dk_43 (dk_at dksX1_isKeyword_11 6 rfl rfl)
theorem dX1_isKeyword_480 : decode cX1_isKeyword 480 = .ok (.ldc 53, 2) := dk_18 53 (dk_at dksX1_isKeyword_11 7 rfl rfl)
theorem dX1_isKeyword_482 : decode cX1_isKeyword 482 = .ok (.invokevirtual 21, 3) := dk_182 0 21 (dk_at dksX1_isKeyword_11 9 rfl rfl)
theorem dX1_isKeyword_485 : decode cX1_isKeyword 485 = .ok (.ifCond .eq 216, 3) := dk_153 0 216 (dk_at dksX1_isKeyword_11 12 rfl rfl)
theorem dX1_isKeyword_488 : decode cX1_isKeyword 488 = .ok (.bipush 15, 2) := dk_16 15 (dk_at dksX1_isKeyword_11 15 rfl rfl)
theorem dX1_isKeyword_490 : decode cX1_isKeyword 490 = .ok (.istore_n 2, 1) := dk_61 (dk_at dksX1_isKeyword_11 17 rfl rfl)
theorem dX1_isKeyword_491 : decode cX1_isKeyword 491 = .ok (.goto 210, 3) := dk_167 0 210 (dk_at dksX1_isKeyword_11 18 rfl rfl)
theorem dX1_isKeyword_494 : decode cX1_isKeyword 494 = .ok (.aload_n 1, 1) := dk_43 (dk_at dksX1_isKeyword_11 21 rfl rfl)
theorem dX1_isKeyword_495 : decode cX1_isKeyword 495 = .ok (.ldc 55, 2) := dk_18 55 (dk_at dksX1_isKeyword_11 22 rfl rfl)
theorem dX1_isKeyword_497 : decode cX1_isKeyword 497 = .ok (.invokevirtual 21, 3) := dk_182 0 21 (dk_at dksX1_isKeyword_12 0 rfl rfl)
theorem dX1_isKeyword_500 : decode cX1_isKeyword 500 = .ok (.ifCond .eq 201, 3) := dk_153 0 201 (dk_at dksX1_isKeyword_12 3 rfl rfl)
theorem dX1_isKeyword_503 : decode cX1_isKeyword 503 = .ok (.bipush 16, 2) := dk_16 16 (dk_at dksX1_isKeyword_12 6 rfl rfl)
theorem dX1_isKeyword_505 : decode cX1_isKeyword 505 = .ok (.istore_n 2, 1) := dk_61 (dk_at dksX1_isKeyword_12 8 rfl rfl)
theorem dX1_isKeyword_506 : decode cX1_isKeyword 506 = .ok (.goto 195, 3) := dk_167 0 195 (dk_at dksX1_isKeyword_12 9 rfl rfl)
theorem dX1_isKeyword_509 : decode cX1_isKeyword 509 = .ok (.aload_n 1, 1) := dk_43 (dk_at dksX1_isKeyword_12 12 rfl rfl)
theorem dX1_isKeyword_510 : decode cX1_isKeyword 510 = .ok (.ldc 57, 2) := dk_18 57 (dk_at dksX1_isKeyword_12 13 rfl rfl)
theorem dX1_isKeyword_512 : decode cX1_isKeyword 512 = .ok (.invokevirtual 21, 3) := dk_182 0 21 (dk_at dksX1_isKeyword_12 15 rfl rfl)
theorem dX1_isKeyword_515 : decode cX1_isKeyword 515 = .ok (.ifCond .eq 186, 3) := dk_153 0 186 (dk_at dksX1_isKeyword_12 18 rfl rfl)
theorem dX1_isKeyword_518 : decode cX1_isKeyword 518 = .ok (.bipush 17, 2) := dk_16 17 (dk_at dksX1_isKeyword_12 21 rfl rfl)
theorem dX1_isKeyword_520 : decode cX1_isKeyword 520 = .ok (.istore_n 2, 1) := dk_61 (dk_at dksX1_isKeyword_12 23 rfl rfl)
theorem dX1_isKeyword_521 : decode cX1_isKeyword 521 = .ok (.goto 180, 3) := dk_167 0 180 (dk_at dksX1_isKeyword_13 0 rfl rfl)
theorem dX1_isKeyword_524 : decode cX1_isKeyword 524 = .ok (.aload_n 1, 1) := dk_43 (dk_at dksX1_isKeyword_13 3 rfl rfl)
theorem dX1_isKeyword_525 : decode cX1_isKeyword 525 = .ok (.ldc 59, 2) := dk_18 59 (dk_at dksX1_isKeyword_13 4 rfl rfl)
theorem dX1_isKeyword_527 : decode cX1_isKeyword 527 = .ok (.invokevirtual 21, 3) := dk_182 0 21 (dk_at dksX1_isKeyword_13 6 rfl rfl)
theorem dX1_isKeyword_530 : decode cX1_isKeyword 530 = .ok (.ifCond .eq 171, 3) := dk_153 0 171 (dk_at dksX1_isKeyword_13 9 rfl rfl)
theorem dX1_isKeyword_533 : decode cX1_isKeyword 533 = .ok (.bipush 18, 2) := dk_16 18 (dk_at dksX1_isKeyword_13 12 rfl rfl)
theorem dX1_isKeyword_535 : decode cX1_isKeyword 535 = .ok (.istore_n 2, 1) := dk_61 (dk_at dksX1_isKeyword_13 14 rfl rfl)
theorem dX1_isKeyword_536 : decode cX1_isKeyword 536 = .ok (.goto 165, 3) := dk_167 0 165 (dk_at dksX1_isKeyword_13 15 rfl rfl)
theorem dX1_isKeyword_539 : decode cX1_isKeyword 539 = .ok (.aload_n 1, 1) := dk_43 (dk_at dksX1_isKeyword_13 18 rfl rfl)
theorem dX1_isKeyword_540 : decode cX1_isKeyword 540 = .ok (.ldc 61, 2) := dk_18 61 (dk_at dksX1_isKeyword_13 19 rfl rfl)
theorem dX1_isKeyword_542 : decode cX1_isKeyword 542 = .ok (.invokevirtual 21, 3) := dk_182 0 21 (dk_at dksX1_isKeyword_13 21 rfl rfl)
theorem dX1_isKeyword_545 : decode cX1_isKeyword 545 = .ok (.ifCond .eq 156, 3) := dk_153 0 156 (dk_at dksX1_isKeyword_14 0 rfl rfl)
theorem dX1_isKeyword_548 : decode cX1_isKeyword 548 = .ok (.bipush 19, 2) := dk_16 19 (dk_at dksX1_isKeyword_14 3 rfl rfl)
theorem dX1_isKeyword_550 : decode cX1_isKeyword 550 = .ok (.istore_n 2, 1) := dk_61 (dk_at dksX1_isKeyword_14 5 rfl rfl)
theorem dX1_isKeyword_551 : decode cX1_isKeyword 551 = .ok (.goto 150, 3) := dk_167 0 150 (dk_at dksX1_isKeyword_14 6 rfl rfl)
theorem dX1_isKeyword_554 : decode cX1_isKeyword 554 = .ok (.aload_n 1, 1) := dk_43 (dk_at dksX1_isKeyword_14 9 rfl rfl)
theorem dX1_isKeyword_555 : decode cX1_isKeyword 555 = .ok (.ldc 63, 2) := dk_18 63 (dk_at dksX1_isKeyword_14 10 rfl rfl)
theorem dX1_isKeyword_557 : decode cX1_isKeyword 557 = .ok (.invokevirtual 21, 3) := dk_182 0 21 (dk_at dksX1_isKeyword_14 12 rfl rfl)
theorem dX1_isKeyword_560 : decode cX1_isKeyword 560 = .ok (.ifCond .eq 141, 3) := dk_153 0 141 (dk_at dksX1_isKeyword_14 15 rfl rfl)
theorem dX1_isKeyword_563 : decode cX1_isKeyword 563 = .ok (.bipush 20, 2) := dk_16 20 (dk_at dksX1_isKeyword_14 18 rfl rfl)
theorem dX1_isKeyword_565 : decode cX1_isKeyword 565 = .ok (.istore_n 2, 1) := dk_61 (dk_at dksX1_isKeyword_14 20 rfl rfl)
theorem dX1_isKeyword_566 : decode cX1_isKeyword 566 = .ok (.goto 135, 3) := dk_167 0 135 (dk_at dksX1_isKeyword_14 21 rfl rfl)
theorem dX1_isKeyword_569 : decode cX1_isKeyword 569 = .ok (.aload_n 1, 1) := dk_43 (dk_at dksX1_isKeyword_15 0 rfl rfl)
theorem dX1_isKeyword_570 : decode cX1_isKeyword 570 = .ok (.ldc 65, 2) := dk_18 65 (dk_at dksX1_isKeyword_15 1 rfl rfl)
theorem dX1_isKeyword_572 : decode cX1_isKeyword 572 = .ok (.invokevirtual 21, 3) := dk_182 0 21 (dk_at dksX1_isKeyword_15 3 rfl rfl)
theorem dX1_isKeyword_575 : decode cX1_isKeyword 575 = .ok (.ifCond .eq 126, 3) := dk_153 0 126 (dk_at dksX1_isKeyword_15 6 rfl rfl)
theorem dX1_isKeyword_578 : decode cX1_isKeyword 578 = .ok (.bipush 21, 2) := dk_16 21 (dk_at dksX1_isKeyword_15 9 rfl rfl)
theorem dX1_isKeyword_580 : decode cX1_isKeyword 580 = .ok (.istore_n 2, 1) := dk_61 (dk_at dksX1_isKeyword_15 11 rfl rfl)
theorem dX1_isKeyword_581 : decode cX1_isKeyword 581 = .ok (.goto 120, 3) := dk_167 0 120 (dk_at dksX1_isKeyword_15 12 rfl rfl)
theorem dX1_isKeyword_584 : decode cX1_isKeyword 584 = .ok (.aload_n 1, 1) := dk_43 (dk_at dksX1_isKeyword_15 15 rfl rfl)
theorem dX1_isKeyword_585 : decode cX1_isKeyword 585 = .ok (.ldc 67, 2) := dk_18 67 (dk_at dksX1_isKeyword_15 16 rfl rfl)
theorem dX1_isKeyword_587 : decode cX1_isKeyword 587 = .ok (.invokevirtual 21, 3) := dk_182 0 21 (dk_at dksX1_isKeyword_15 18 rfl rfl)
theorem dX1_isKeyword_590 : decode cX1_isKeyword 590 = .ok (.ifCond .eq 111, 3) := dk_153 0 111 (dk_at dksX1_isKeyword_15 21 rfl rfl)
theorem dX1_isKeyword_593 : decode cX1_isKeyword 593 = .ok (.bipush 22, 2) := dk_16 22 (dk_at dksX1_isKeyword_16 0 rfl rfl)
theorem dX1_isKeyword_595 : decode cX1_isKeyword 595 = .ok (.istore_n 2, 1) := dk_61 (dk_at dksX1_isKeyword_16 2 rfl rfl)
theorem dX1_isKeyword_596 : decode cX1_isKeyword 596 = .ok (.goto 105, 3) := dk_167 0 105 (dk_at dksX1_isKeyword_16 3 rfl rfl)
theorem dX1_isKeyword_599 : decode cX1_isKeyword 599 = .ok (.aload_n 1, 1) := dk_43 (dk_at dksX1_isKeyword_16 6 rfl rfl)
theorem dX1_isKeyword_600 : decode cX1_isKeyword 600 = .ok (.ldc 69, 2) := dk_18 69 (dk_at dksX1_isKeyword_16 7 rfl rfl)
theorem dX1_isKeyword_602 : decode cX1_isKeyword 602 = .ok (.invokevirtual 21, 3) := dk_182 0 21 (dk_at dksX1_isKeyword_16 9 rfl rfl)
theorem dX1_isKeyword_605 : decode cX1_isKeyword 605 = .ok (.ifCond .eq 96, 3) := dk_153 0 96 (dk_at dksX1_isKeyword_16 12 rfl rfl)
theorem dX1_isKeyword_608 : decode cX1_isKeyword 608 = .ok (.bipush 23, 2) := dk_16 23 (dk_at dksX1_isKeyword_16 15 rfl rfl)
theorem dX1_isKeyword_610 : decode cX1_isKeyword 610 = .ok (.istore_n 2, 1) := dk_61 (dk_at dksX1_isKeyword_16 17 rfl rfl)
theorem dX1_isKeyword_611 : decode cX1_isKeyword 611 = .ok (.goto 90, 3) := dk_167 0 90 (dk_at dksX1_isKeyword_16 18 rfl rfl)
theorem dX1_isKeyword_614 : decode cX1_isKeyword 614 = .ok (.aload_n 1, 1) := dk_43 (dk_at dksX1_isKeyword_16 21 rfl rfl)
theorem dX1_isKeyword_615 : decode cX1_isKeyword 615 = .ok (.ldc 71, 2) := dk_18 71 (dk_at dksX1_isKeyword_16 22 rfl rfl)
theorem dX1_isKeyword_617 : decode cX1_isKeyword 617 = .ok (.invokevirtual 21, 3) := dk_182 0 21 (dk_at dksX1_isKeyword_17 0 rfl rfl)
theorem dX1_isKeyword_620 : decode cX1_isKeyword 620 = .ok (.ifCond .eq 81, 3) := dk_153 0 81 (dk_at dksX1_isKeyword_17 3 rfl rfl)
theorem dX1_isKeyword_623 : decode cX1_isKeyword 623 = .ok (.bipush 24, 2) := dk_16 24 (dk_at dksX1_isKeyword_17 6 rfl rfl)
theorem dX1_isKeyword_625 : decode cX1_isKeyword 625 = .ok (.istore_n 2, 1) := dk_61 (dk_at dksX1_isKeyword_17 8 rfl rfl)
theorem dX1_isKeyword_626 : decode cX1_isKeyword 626 = .ok (.goto 75, 3) := dk_167 0 75 (dk_at dksX1_isKeyword_17 9 rfl rfl)
theorem dX1_isKeyword_629 : decode cX1_isKeyword 629 = .ok (.aload_n 1, 1) := dk_43 (dk_at dksX1_isKeyword_17 12 rfl rfl)
theorem dX1_isKeyword_630 : decode cX1_isKeyword 630 = .ok (.ldc 73, 2) := dk_18 73 (dk_at dksX1_isKeyword_17 13 rfl rfl)
theorem dX1_isKeyword_632 : decode cX1_isKeyword 632 = .ok (.invokevirtual 21, 3) := dk_182 0 21 (dk_at dksX1_isKeyword_17 15 rfl rfl)
theorem dX1_isKeyword_635 : decode cX1_isKeyword 635 = .ok (.ifCond .eq 66, 3) := dk_153 0 66 (dk_at dksX1_isKeyword_17 18 rfl rfl)
theorem dX1_isKeyword_638 : decode cX1_isKeyword 638 = .ok (.bipush 25, 2) := dk_16 25 (dk_at dksX1_isKeyword_17 21 rfl rfl)
theorem dX1_isKeyword_640 : decode cX1_isKeyword 640 = .ok (.istore_n 2, 1) := dk_61 (dk_at dksX1_isKeyword_17 23 rfl rfl)
theorem dX1_isKeyword_641 : decode cX1_isKeyword 641 = .ok (.goto 60, 3) := dk_167 0 60 (dk_at dksX1_isKeyword_18 0 rfl rfl)
theorem dX1_isKeyword_644 : decode cX1_isKeyword 644 = .ok (.aload_n 1, 1) := dk_43 (dk_at dksX1_isKeyword_18 3 rfl rfl)
theorem dX1_isKeyword_645 : decode cX1_isKeyword 645 = .ok (.ldc 75, 2) := dk_18 75 (dk_at dksX1_isKeyword_18 4 rfl rfl)
theorem dX1_isKeyword_647 : decode cX1_isKeyword 647 = .ok (.invokevirtual 21, 3) := dk_182 0 21 (dk_at dksX1_isKeyword_18 6 rfl rfl)
theorem dX1_isKeyword_650 : decode cX1_isKeyword 650 = .ok (.ifCond .eq 51, 3) := dk_153 0 51 (dk_at dksX1_isKeyword_18 9 rfl rfl)
theorem dX1_isKeyword_653 : decode cX1_isKeyword 653 = .ok (.bipush 26, 2) := dk_16 26 (dk_at dksX1_isKeyword_18 12 rfl rfl)
theorem dX1_isKeyword_655 : decode cX1_isKeyword 655 = .ok (.istore_n 2, 1) := dk_61 (dk_at dksX1_isKeyword_18 14 rfl rfl)
theorem dX1_isKeyword_656 : decode cX1_isKeyword 656 = .ok (.goto 45, 3) := dk_167 0 45 (dk_at dksX1_isKeyword_18 15 rfl rfl)
theorem dX1_isKeyword_659 : decode cX1_isKeyword 659 = .ok (.aload_n 1, 1) := dk_43 (dk_at dksX1_isKeyword_18 18 rfl rfl)
theorem dX1_isKeyword_660 : decode cX1_isKeyword 660 = .ok (.ldc 77, 2) := dk_18 77 (dk_at dksX1_isKeyword_18 19 rfl rfl)
theorem dX1_isKeyword_662 : decode cX1_isKeyword 662 = .ok (.invokevirtual 21, 3) := dk_182 0 21 (dk_at dksX1_isKeyword_18 21 rfl rfl)
theorem dX1_isKeyword_665 : decode cX1_isKeyword 665 = .ok (.ifCond .eq 36, 3) := dk_153 0 36 (dk_at dksX1_isKeyword_19 0 rfl rfl)
theorem dX1_isKeyword_668 : decode cX1_isKeyword 668 = .ok (.bipush 27, 2) := dk_16 27 (dk_at dksX1_isKeyword_19 3 rfl rfl)
theorem dX1_isKeyword_670 : decode cX1_isKeyword 670 = .ok (.istore_n 2, 1) := dk_61 (dk_at dksX1_isKeyword_19 5 rfl rfl)
theorem dX1_isKeyword_671 : decode cX1_isKeyword 671 = .ok (.goto 30, 3) := dk_167 0 30 (dk_at dksX1_isKeyword_19 6 rfl rfl)
theorem dX1_isKeyword_674 : decode cX1_isKeyword 674 = .ok (.aload_n 1, 1) := dk_43 (dk_at dksX1_isKeyword_19 9 rfl rfl)
theorem dX1_isKeyword_675 : decode cX1_isKeyword 675 = .ok (.ldc 79, 2) := dk_18 79 (dk_at dksX1_isKeyword_19 10 rfl rfl)
theorem dX1_isKeyword_677 : decode cX1_isKeyword 677 = .ok (.invokevirtual 21, 3) := dk_182 0 21 (dk_at dksX1_isKeyword_19 12 rfl rfl)
theorem dX1_isKeyword_680 : decode cX1_isKeyword 680 = .ok (.ifCond .eq 21, 3) := dk_153 0 21 (dk_at dksX1_isKeyword_19 15 rfl rfl)
theorem dX1_isKeyword_683 : decode cX1_isKeyword 683 = .ok (.bipush 28, 2) := dk_16 28 (dk_at dksX1_isKeyword_19 18 rfl rfl)
theorem dX1_isKeyword_685 : decode cX1_isKeyword 685 = .ok (.istore_n 2, 1) := dk_61 (dk_at dksX1_isKeyword_19 20 rfl rfl)
theorem dX1_isKeyword_686 : decode cX1_isKeyword 686 = .ok (.goto 15, 3) := dk_167 0 15 (dk_at dksX1_isKeyword_19 21 rfl rfl)
theorem dX1_isKeyword_689 : decode cX1_isKeyword 689 = .ok (.aload_n 1, 1) := dk_43 (dk_at dksX1_isKeyword_20 0 rfl rfl)
theorem dX1_isKeyword_690 : decode cX1_isKeyword 690 = .ok (.ldc 81, 2) := dk_18 81 (dk_at dksX1_isKeyword_20 1 rfl rfl)
theorem dX1_isKeyword_692 : decode cX1_isKeyword 692 = .ok (.invokevirtual 21, 3) := dk_182 0 21 (dk_at dksX1_isKeyword_20 3 rfl rfl)
theorem dX1_isKeyword_695 : decode cX1_isKeyword 695 = .ok (.ifCond .eq 6, 3) := dk_153 0 6 (dk_at dksX1_isKeyword_20 6 rfl rfl)
theorem dX1_isKeyword_698 : decode cX1_isKeyword 698 = .ok (.bipush 29, 2) := dk_16 29 (dk_at dksX1_isKeyword_20 9 rfl rfl)
theorem dX1_isKeyword_700 : decode cX1_isKeyword 700 = .ok (.istore_n 2, 1) := dk_61 (dk_at dksX1_isKeyword_20 11 rfl rfl)
theorem dX1_isKeyword_701 : decode cX1_isKeyword 701 = .ok (.iload_n 2, 1) := dk_28 (dk_at dksX1_isKeyword_20 12 rfl rfl)
theorem dX1_isKeyword_702 : decode cX1_isKeyword 702 = .ok (.tableswitch 138 0 29 #[134, 134, 134, 134, 134, 134, 134, 134, 134, 134, 134, 134, 134, 134, 134, 134, 134, 134, 136, 136, 136, 136, 136, 136, 136, 136, 136, 136, 136, 136], 134) := by decide +kernel
theorem dX1_isKeyword_836 : decode cX1_isKeyword 836 = .ok (.iconst 1, 1) := dk_4 (dk_at dksX1_isKeyword_22 0 rfl rfl)
theorem dX1_isKeyword_837 : decode cX1_isKeyword 837 = .ok (.ireturn, 1) := dk_172 (dk_at dksX1_isKeyword_22 1 rfl rfl)
theorem dX1_isKeyword_838 : decode cX1_isKeyword 838 = .ok (.iconst 1, 1) := dk_4 (dk_at dksX1_isKeyword_22 2 rfl rfl)
theorem dX1_isKeyword_839 : decode cX1_isKeyword 839 = .ok (.ireturn, 1) := dk_172 (dk_at dksX1_isKeyword_22 3 rfl rfl)
theorem dX1_isKeyword_840 : decode cX1_isKeyword 840 = .ok (.iconst 0, 1) := dk_3 (dk_at dksX1_isKeyword_22 4 rfl rfl)
theorem dX1_isKeyword_841 : decode cX1_isKeyword 841 = .ok (.ireturn, 1) := dk_172 (dk_at dksX1_isKeyword_22 5 rfl rfl)
abbrev cX1_numberAt : ByteArray := prog_1_method_8_code
def yX1_numberAt : MethodName := ⟨RX1, "numberAt", "(Ljava/lang/String;I)LPastWatch$Token;"⟩
def dkwX1_numberAt_2 : List UInt8 := [42, 27, 28, 182, 0, 99, 27, 183, 0, 121, 176]
abbrev dktX1_numberAt_2 : List UInt8 := dkwX1_numberAt_2 ++ []
def dkwX1_numberAt_1 : List UInt8 := [167, 255, 234, 187, 0, 103, 89, 28, 27, 100, 16, 6, 164, 0, 9, 178, 0, 105, 167, 0, 6, 178, 0, 124]
abbrev dktX1_numberAt_1 : List UInt8 := dkwX1_numberAt_1 ++ dktX1_numberAt_2
def dkwX1_numberAt_0 : List UInt8 := [27, 61, 28, 42, 182, 0, 83, 162, 0, 20, 42, 28, 182, 0, 86, 184, 0, 96, 153, 0, 9, 132, 2, 1]
abbrev dktX1_numberAt_0 : List UInt8 := dkwX1_numberAt_0 ++ dktX1_numberAt_1
theorem dksX1_numberAt_0 : cX1_numberAt.data.toList.drop 0 = dktX1_numberAt_0 := by decide +kernel
theorem dksX1_numberAt_1 : cX1_numberAt.data.toList.drop 24 = dktX1_numberAt_1 := dk_seg dksX1_numberAt_0 24 rfl rfl
theorem dksX1_numberAt_2 : cX1_numberAt.data.toList.drop 48 = dktX1_numberAt_2 := dk_seg dksX1_numberAt_1 24 rfl rfl
theorem dX1_numberAt_0 : decode cX1_numberAt 0 = .ok (.iload_n 1, 1) := dk_27 (dk_at dksX1_numberAt_0 0 rfl rfl)
theorem dX1_numberAt_1 : decode cX1_numberAt 1 = .ok (.istore_n 2, 1) := dk_61 (dk_at dksX1_numberAt_0 1 rfl rfl)
theorem dX1_numberAt_2 : decode cX1_numberAt 2 = .ok (.iload_n 2, 1) := dk_28 (dk_at dksX1_numberAt_0 2 rfl rfl)
theorem dX1_numberAt_3 : decode cX1_numberAt 3 = .ok (.aload_n 0, 1) := dk_42 (dk_at dksX1_numberAt_0 3 rfl rfl)
theorem dX1_numberAt_4 : decode cX1_numberAt 4 = .ok (.invokevirtual 83, 3) := dk_182 0 83 (dk_at dksX1_numberAt_0 4 rfl rfl)
theorem dX1_numberAt_7 : decode cX1_numberAt 7 = .ok (.if_icmp .ge 20, 3) := dk_162 0 20 (dk_at dksX1_numberAt_0 7 rfl rfl)
theorem dX1_numberAt_10 : decode cX1_numberAt 10 = .ok (.aload_n 0, 1) := dk_42 (dk_at dksX1_numberAt_0 10 rfl rfl)
theorem dX1_numberAt_11 : decode cX1_numberAt 11 = .ok (.iload_n 2, 1) := dk_28 (dk_at dksX1_numberAt_0 11 rfl rfl)
theorem dX1_numberAt_12 : decode cX1_numberAt 12 = .ok (.invokevirtual 86, 3) := dk_182 0 86 (dk_at dksX1_numberAt_0 12 rfl rfl)
theorem dX1_numberAt_15 : decode cX1_numberAt 15 = .ok (.invokestatic 96, 3) := dk_184 0 96 (dk_at dksX1_numberAt_0 15 rfl rfl)
theorem dX1_numberAt_18 : decode cX1_numberAt 18 = .ok (.ifCond .eq 9, 3) := dk_153 0 9 (dk_at dksX1_numberAt_0 18 rfl rfl)
theorem dX1_numberAt_21 : decode cX1_numberAt 21 = .ok (.iinc 2 1, 3) := dk_132 2 1 (dk_at dksX1_numberAt_0 21 rfl rfl)
theorem dX1_numberAt_24 : decode cX1_numberAt 24 = .ok (.goto (-22), 3) := dk_167 255 234 (dk_at dksX1_numberAt_1 0 rfl rfl)
theorem dX1_numberAt_27 : decode cX1_numberAt 27 = .ok (.new 103, 3) := dk_187 0 103 (dk_at dksX1_numberAt_1 3 rfl rfl)
theorem dX1_numberAt_30 : decode cX1_numberAt 30 = .ok (.dup, 1) := dk_89 (dk_at dksX1_numberAt_1 6 rfl rfl)
theorem dX1_numberAt_31 : decode cX1_numberAt 31 = .ok (.iload_n 2, 1) := dk_28 (dk_at dksX1_numberAt_1 7 rfl rfl)
theorem dX1_numberAt_32 : decode cX1_numberAt 32 = .ok (.iload_n 1, 1) := dk_27 (dk_at dksX1_numberAt_1 8 rfl rfl)
theorem dX1_numberAt_33 : decode cX1_numberAt 33 = .ok (.isub, 1) := dk_100 (dk_at dksX1_numberAt_1 9 rfl rfl)
theorem dX1_numberAt_34 : decode cX1_numberAt 34 = .ok (.bipush 6, 2) := dk_16 6 (dk_at dksX1_numberAt_1 10 rfl rfl)
theorem dX1_numberAt_36 : decode cX1_numberAt 36 = .ok (.if_icmp .le 9, 3) := dk_164 0 9 (dk_at dksX1_numberAt_1 12 rfl rfl)
theorem dX1_numberAt_39 : decode cX1_numberAt 39 = .ok (.getstatic 105, 3) := dk_178 0 105 (dk_at dksX1_numberAt_1 15 rfl rfl)
theorem dX1_numberAt_42 : decode cX1_numberAt 42 = .ok (.goto 6, 3) := dk_167 0 6 (dk_at dksX1_numberAt_1 18 rfl rfl)
theorem dX1_numberAt_45 : decode cX1_numberAt 45 = .ok (.getstatic 124, 3) := dk_178 0 124 (dk_at dksX1_numberAt_1 21 rfl rfl)
theorem dX1_numberAt_48 : decode cX1_numberAt 48 = .ok (.aload_n 0, 1) := dk_42 (dk_at dksX1_numberAt_2 0 rfl rfl)
theorem dX1_numberAt_49 : decode cX1_numberAt 49 = .ok (.iload_n 1, 1) := dk_27 (dk_at dksX1_numberAt_2 1 rfl rfl)
theorem dX1_numberAt_50 : decode cX1_numberAt 50 = .ok (.iload_n 2, 1) := dk_28 (dk_at dksX1_numberAt_2 2 rfl rfl)
theorem dX1_numberAt_51 : decode cX1_numberAt 51 = .ok (.invokevirtual 99, 3) := dk_182 0 99 (dk_at dksX1_numberAt_2 3 rfl rfl)
theorem dX1_numberAt_54 : decode cX1_numberAt 54 = .ok (.iload_n 1, 1) := dk_27 (dk_at dksX1_numberAt_2 6 rfl rfl)
theorem dX1_numberAt_55 : decode cX1_numberAt 55 = .ok (.invokespecial 121, 3) := dk_183 0 121 (dk_at dksX1_numberAt_2 7 rfl rfl)
theorem dX1_numberAt_58 : decode cX1_numberAt 58 = .ok (.areturn, 1) := dk_176 (dk_at dksX1_numberAt_2 10 rfl rfl)
abbrev cX1_symbolAt : ByteArray := prog_1_method_9_code
def yX1_symbolAt : MethodName := ⟨RX1, "symbolAt", "(Ljava/lang/String;I)LPastWatch$Token;"⟩
def dkwX1_symbolAt_10 : List UInt8 := [183, 0, 121, 176]
abbrev dktX1_symbolAt_10 : List UInt8 := dkwX1_symbolAt_10 ++ []
def dkwX1_symbolAt_9 : List UInt8 := [182, 0, 147, 155, 0, 9, 178, 0, 142, 167, 0, 6, 178, 0, 105, 42, 27, 27, 4, 96, 182, 0, 99, 27]
abbrev dktX1_symbolAt_9 : List UInt8 := dkwX1_symbolAt_9 ++ dktX1_symbolAt_10
def dkwX1_symbolAt_8 : List UInt8 := [187, 0, 103, 89, 178, 0, 142, 44, 27, 183, 0, 121, 176, 187, 0, 103, 89, 18, 145, 42, 27, 182, 0, 86]
abbrev dktX1_symbolAt_8 : List UInt8 := dkwX1_symbolAt_8 ++ dktX1_symbolAt_9
def dkwX1_symbolAt_7 : List UInt8 := [170, 0, 0, 0, 0, 47, 0, 0, 0, 0, 0, 0, 0, 4, 0, 0, 0, 34, 0, 0, 0, 34, 0, 0, 0, 34, 0, 0, 0, 34, 0, 0, 0, 34]
abbrev dktX1_symbolAt_7 : List UInt8 := dkwX1_symbolAt_7 ++ dktX1_symbolAt_8
def dkwX1_symbolAt_6 : List UInt8 := [21, 4]
abbrev dktX1_symbolAt_6 : List UInt8 := dkwX1_symbolAt_6 ++ dktX1_symbolAt_7
def dkwX1_symbolAt_5 : List UInt8 := [182, 0, 21, 153, 0, 21, 6, 54, 4, 167, 0, 15, 45, 18, 140, 182, 0, 21, 153, 0, 6, 7, 54, 4]
abbrev dktX1_symbolAt_5 : List UInt8 := dkwX1_symbolAt_5 ++ dktX1_symbolAt_6
def dkwX1_symbolAt_4 : List UInt8 := [4, 54, 4, 167, 0, 45, 45, 18, 136, 182, 0, 21, 153, 0, 36, 5, 54, 4, 167, 0, 30, 45, 18, 138]
abbrev dktX1_symbolAt_4 : List UInt8 := dkwX1_symbolAt_4 ++ dktX1_symbolAt_5
def dkwX1_symbolAt_3 : List UInt8 := [45, 18, 132, 182, 0, 21, 153, 0, 66, 3, 54, 4, 167, 0, 60, 45, 18, 134, 182, 0, 21, 153, 0, 51]
abbrev dktX1_symbolAt_3 : List UInt8 := dkwX1_symbolAt_3 ++ dktX1_symbolAt_4
def dkwX1_symbolAt_2 : List UInt8 := [171, 0, 0, 0, 0, 0, 123, 0, 0, 0, 5, 0, 0, 5, 192, 0, 0, 0, 111, 0, 0, 7, 67, 0, 0, 0, 51, 0, 0, 7, 129, 0, 0, 0, 66, 0, 0, 7, 130, 0, 0, 0, 96, 0, 0, 7, 191, 0, 0, 0, 81]
abbrev dktX1_symbolAt_2 : List UInt8 := dkwX1_symbolAt_2 ++ dktX1_symbolAt_3
def dkwX1_symbolAt_1 : List UInt8 := [182, 0, 13]
abbrev dktX1_symbolAt_1 : List UInt8 := dkwX1_symbolAt_1 ++ dktX1_symbolAt_2
def dkwX1_symbolAt_0 : List UInt8 := [42, 27, 42, 182, 0, 83, 27, 5, 96, 184, 0, 127, 182, 0, 99, 77, 44, 78, 2, 54, 4, 45]
abbrev dktX1_symbolAt_0 : List UInt8 := dkwX1_symbolAt_0 ++ dktX1_symbolAt_1
theorem dksX1_symbolAt_0 : cX1_symbolAt.data.toList.drop 0 = dktX1_symbolAt_0 := by decide +kernel
theorem dksX1_symbolAt_1 : cX1_symbolAt.data.toList.drop 22 = dktX1_symbolAt_1 := dk_seg dksX1_symbolAt_0 22 rfl rfl
theorem dksX1_symbolAt_2 : cX1_symbolAt.data.toList.drop 25 = dktX1_symbolAt_2 := dk_seg dksX1_symbolAt_1 3 rfl rfl
theorem dksX1_symbolAt_3 : cX1_symbolAt.data.toList.drop 76 = dktX1_symbolAt_3 := dk_seg dksX1_symbolAt_2 51 rfl rfl
theorem dksX1_symbolAt_4 : cX1_symbolAt.data.toList.drop 100 = dktX1_symbolAt_4 := dk_seg dksX1_symbolAt_3 24 rfl rfl
theorem dksX1_symbolAt_5 : cX1_symbolAt.data.toList.drop 124 = dktX1_symbolAt_5 := dk_seg dksX1_symbolAt_4 24 rfl rfl
theorem dksX1_symbolAt_6 : cX1_symbolAt.data.toList.drop 148 = dktX1_symbolAt_6 := dk_seg dksX1_symbolAt_5 24 rfl rfl
theorem dksX1_symbolAt_7 : cX1_symbolAt.data.toList.drop 150 = dktX1_symbolAt_7 := dk_seg dksX1_symbolAt_6 2 rfl rfl
theorem dksX1_symbolAt_8 : cX1_symbolAt.data.toList.drop 184 = dktX1_symbolAt_8 := dk_seg dksX1_symbolAt_7 34 rfl rfl
theorem dksX1_symbolAt_9 : cX1_symbolAt.data.toList.drop 208 = dktX1_symbolAt_9 := dk_seg dksX1_symbolAt_8 24 rfl rfl
theorem dksX1_symbolAt_10 : cX1_symbolAt.data.toList.drop 232 = dktX1_symbolAt_10 := dk_seg dksX1_symbolAt_9 24 rfl rfl
theorem dX1_symbolAt_0 : decode cX1_symbolAt 0 = .ok (.aload_n 0, 1) := dk_42 (dk_at dksX1_symbolAt_0 0 rfl rfl)
theorem dX1_symbolAt_1 : decode cX1_symbolAt 1 = .ok (.iload_n 1, 1) := dk_27 (dk_at dksX1_symbolAt_0 1 rfl rfl)
theorem dX1_symbolAt_2 : decode cX1_symbolAt 2 = .ok (.aload_n 0, 1) := dk_42 (dk_at dksX1_symbolAt_0 2 rfl rfl)
theorem dX1_symbolAt_3 : decode cX1_symbolAt 3 = .ok (.invokevirtual 83, 3) := dk_182 0 83 (dk_at dksX1_symbolAt_0 3 rfl rfl)
theorem dX1_symbolAt_6 : decode cX1_symbolAt 6 = .ok (.iload_n 1, 1) := dk_27 (dk_at dksX1_symbolAt_0 6 rfl rfl)
theorem dX1_symbolAt_7 : decode cX1_symbolAt 7 = .ok (.iconst 2, 1) := dk_5 (dk_at dksX1_symbolAt_0 7 rfl rfl)
theorem dX1_symbolAt_8 : decode cX1_symbolAt 8 = .ok (.iadd, 1) := dk_96 (dk_at dksX1_symbolAt_0 8 rfl rfl)
theorem dX1_symbolAt_9 : decode cX1_symbolAt 9 = .ok (.invokestatic 127, 3) := dk_184 0 127 (dk_at dksX1_symbolAt_0 9 rfl rfl)
theorem dX1_symbolAt_12 : decode cX1_symbolAt 12 = .ok (.invokevirtual 99, 3) := dk_182 0 99 (dk_at dksX1_symbolAt_0 12 rfl rfl)
theorem dX1_symbolAt_15 : decode cX1_symbolAt 15 = .ok (.astore_n 2, 1) := dk_77 (dk_at dksX1_symbolAt_0 15 rfl rfl)
theorem dX1_symbolAt_16 : decode cX1_symbolAt 16 = .ok (.aload_n 2, 1) := dk_44 (dk_at dksX1_symbolAt_0 16 rfl rfl)
theorem dX1_symbolAt_17 : decode cX1_symbolAt 17 = .ok (.astore_n 3, 1) := dk_78 (dk_at dksX1_symbolAt_0 17 rfl rfl)
theorem dX1_symbolAt_18 : decode cX1_symbolAt 18 = .ok (.iconst (-1), 1) := dk_2 (dk_at dksX1_symbolAt_0 18 rfl rfl)
theorem dX1_symbolAt_19 : decode cX1_symbolAt 19 = .ok (.istore 4, 2) := dk_54 4 (dk_at dksX1_symbolAt_0 19 rfl rfl)
theorem dX1_symbolAt_21 : decode cX1_symbolAt 21 = .ok (.aload_n 3, 1) := dk_45 (dk_at dksX1_symbolAt_0 21 rfl rfl)
theorem dX1_symbolAt_22 : decode cX1_symbolAt 22 = .ok (.invokevirtual 13, 3) := dk_182 0 13 (dk_at dksX1_symbolAt_1 0 rfl rfl)
theorem dX1_symbolAt_25 : decode cX1_symbolAt 25 = .ok (.lookupswitch 123 #[(1472, 111), (1859, 51), (1921, 66), (1922, 96), (1983, 81)], 51) := by decide +kernel
theorem dX1_symbolAt_76 : decode cX1_symbolAt 76 = .ok (.aload_n 3, 1) := dk_45 (dk_at dksX1_symbolAt_3 0 rfl rfl)
theorem dX1_symbolAt_77 : decode cX1_symbolAt 77 = .ok (.ldc 132, 2) := dk_18 132 (dk_at dksX1_symbolAt_3 1 rfl rfl)
theorem dX1_symbolAt_79 : decode cX1_symbolAt 79 = .ok (.invokevirtual 21, 3) := dk_182 0 21 (dk_at dksX1_symbolAt_3 3 rfl rfl)
theorem dX1_symbolAt_82 : decode cX1_symbolAt 82 = .ok (.ifCond .eq 66, 3) := dk_153 0 66 (dk_at dksX1_symbolAt_3 6 rfl rfl)
theorem dX1_symbolAt_85 : decode cX1_symbolAt 85 = .ok (.iconst 0, 1) := dk_3 (dk_at dksX1_symbolAt_3 9 rfl rfl)
theorem dX1_symbolAt_86 : decode cX1_symbolAt 86 = .ok (.istore 4, 2) := dk_54 4 (dk_at dksX1_symbolAt_3 10 rfl rfl)
theorem dX1_symbolAt_88 : decode cX1_symbolAt 88 = .ok (.goto 60, 3) := dk_167 0 60 (dk_at dksX1_symbolAt_3 12 rfl rfl)
theorem dX1_symbolAt_91 : decode cX1_symbolAt 91 = .ok (.aload_n 3, 1) := dk_45 (dk_at dksX1_symbolAt_3 15 rfl rfl)
theorem dX1_symbolAt_92 : decode cX1_symbolAt 92 = .ok (.ldc 134, 2) := dk_18 134 (dk_at dksX1_symbolAt_3 16 rfl rfl)
theorem dX1_symbolAt_94 : decode cX1_symbolAt 94 = .ok (.invokevirtual 21, 3) := dk_182 0 21 (dk_at dksX1_symbolAt_3 18 rfl rfl)
theorem dX1_symbolAt_97 : decode cX1_symbolAt 97 = .ok (.ifCond .eq 51, 3) := dk_153 0 51 (dk_at dksX1_symbolAt_3 21 rfl rfl)
theorem dX1_symbolAt_100 : decode cX1_symbolAt 100 = .ok (.iconst 1, 1) := dk_4 (dk_at dksX1_symbolAt_4 0 rfl rfl)
theorem dX1_symbolAt_101 : decode cX1_symbolAt 101 = .ok (.istore 4, 2) := dk_54 4 (dk_at dksX1_symbolAt_4 1 rfl rfl)
theorem dX1_symbolAt_103 : decode cX1_symbolAt 103 = .ok (.goto 45, 3) := dk_167 0 45 (dk_at dksX1_symbolAt_4 3 rfl rfl)
theorem dX1_symbolAt_106 : decode cX1_symbolAt 106 = .ok (.aload_n 3, 1) := dk_45 (dk_at dksX1_symbolAt_4 6 rfl rfl)
theorem dX1_symbolAt_107 : decode cX1_symbolAt 107 = .ok (.ldc 136, 2) := dk_18 136 (dk_at dksX1_symbolAt_4 7 rfl rfl)
theorem dX1_symbolAt_109 : decode cX1_symbolAt 109 = .ok (.invokevirtual 21, 3) := dk_182 0 21 (dk_at dksX1_symbolAt_4 9 rfl rfl)
theorem dX1_symbolAt_112 : decode cX1_symbolAt 112 = .ok (.ifCond .eq 36, 3) := dk_153 0 36 (dk_at dksX1_symbolAt_4 12 rfl rfl)
theorem dX1_symbolAt_115 : decode cX1_symbolAt 115 = .ok (.iconst 2, 1) := dk_5 (dk_at dksX1_symbolAt_4 15 rfl rfl)
theorem dX1_symbolAt_116 : decode cX1_symbolAt 116 = .ok (.istore 4, 2) := dk_54 4 (dk_at dksX1_symbolAt_4 16 rfl rfl)
theorem dX1_symbolAt_118 : decode cX1_symbolAt 118 = .ok (.goto 30, 3) := dk_167 0 30 (dk_at dksX1_symbolAt_4 18 rfl rfl)
theorem dX1_symbolAt_121 : decode cX1_symbolAt 121 = .ok (.aload_n 3, 1) := dk_45 (dk_at dksX1_symbolAt_4 21 rfl rfl)
theorem dX1_symbolAt_122 : decode cX1_symbolAt 122 = .ok (.ldc 138, 2) := dk_18 138 (dk_at dksX1_symbolAt_4 22 rfl rfl)
theorem dX1_symbolAt_124 : decode cX1_symbolAt 124 = .ok (.invokevirtual 21, 3) := dk_182 0 21 (dk_at dksX1_symbolAt_5 0 rfl rfl)
theorem dX1_symbolAt_127 : decode cX1_symbolAt 127 = .ok (.ifCond .eq 21, 3) := dk_153 0 21 (dk_at dksX1_symbolAt_5 3 rfl rfl)
theorem dX1_symbolAt_130 : decode cX1_symbolAt 130 = .ok (.iconst 3, 1) := dk_6 (dk_at dksX1_symbolAt_5 6 rfl rfl)
theorem dX1_symbolAt_131 : decode cX1_symbolAt 131 = .ok (.istore 4, 2) := dk_54 4 (dk_at dksX1_symbolAt_5 7 rfl rfl)
theorem dX1_symbolAt_133 : decode cX1_symbolAt 133 = .ok (.goto 15, 3) := dk_167 0 15 (dk_at dksX1_symbolAt_5 9 rfl rfl)
theorem dX1_symbolAt_136 : decode cX1_symbolAt 136 = .ok (.aload_n 3, 1) := dk_45 (dk_at dksX1_symbolAt_5 12 rfl rfl)
theorem dX1_symbolAt_137 : decode cX1_symbolAt 137 = .ok (.ldc 140, 2) := dk_18 140 (dk_at dksX1_symbolAt_5 13 rfl rfl)
theorem dX1_symbolAt_139 : decode cX1_symbolAt 139 = .ok (.invokevirtual 21, 3) := dk_182 0 21 (dk_at dksX1_symbolAt_5 15 rfl rfl)
theorem dX1_symbolAt_142 : decode cX1_symbolAt 142 = .ok (.ifCond .eq 6, 3) := dk_153 0 6 (dk_at dksX1_symbolAt_5 18 rfl rfl)
theorem dX1_symbolAt_145 : decode cX1_symbolAt 145 = .ok (.iconst 4, 1) := dk_7 (dk_at dksX1_symbolAt_5 21 rfl rfl)
theorem dX1_symbolAt_146 : decode cX1_symbolAt 146 = .ok (.istore 4, 2) := dk_54 4 (dk_at dksX1_symbolAt_5 22 rfl rfl)
theorem dX1_symbolAt_148 : decode cX1_symbolAt 148 = .ok (.iload 4, 2) := dk_21 4 (dk_at dksX1_symbolAt_6 0 rfl rfl)
theorem dX1_symbolAt_150 : decode cX1_symbolAt 150 = .ok (.tableswitch 47 0 4 #[34, 34, 34, 34, 34], 34) := by decide +kernel
theorem dX1_symbolAt_184 : decode cX1_symbolAt 184 = .ok (.new 103, 3) := dk_187 0 103 (dk_at dksX1_symbolAt_8 0 rfl rfl)
theorem dX1_symbolAt_187 : decode cX1_symbolAt 187 = .ok (.dup, 1) := dk_89 (dk_at dksX1_symbolAt_8 3 rfl rfl)
theorem dX1_symbolAt_188 : decode cX1_symbolAt 188 = .ok (.getstatic 142, 3) := dk_178 0 142 (dk_at dksX1_symbolAt_8 4 rfl rfl)
theorem dX1_symbolAt_191 : decode cX1_symbolAt 191 = .ok (.aload_n 2, 1) := dk_44 (dk_at dksX1_symbolAt_8 7 rfl rfl)
theorem dX1_symbolAt_192 : decode cX1_symbolAt 192 = .ok (.iload_n 1, 1) := dk_27 (dk_at dksX1_symbolAt_8 8 rfl rfl)
theorem dX1_symbolAt_193 : decode cX1_symbolAt 193 = .ok (.invokespecial 121, 3) := dk_183 0 121 (dk_at dksX1_symbolAt_8 9 rfl rfl)
theorem dX1_symbolAt_196 : decode cX1_symbolAt 196 = .ok (.areturn, 1) := dk_176 (dk_at dksX1_symbolAt_8 12 rfl rfl)
theorem dX1_symbolAt_197 : decode cX1_symbolAt 197 = .ok (.new 103, 3) := dk_187 0 103 (dk_at dksX1_symbolAt_8 13 rfl rfl)
theorem dX1_symbolAt_200 : decode cX1_symbolAt 200 = .ok (.dup, 1) := dk_89 (dk_at dksX1_symbolAt_8 16 rfl rfl)
theorem dX1_symbolAt_201 : decode cX1_symbolAt 201 = .ok (.ldc 145, 2) := dk_18 145 (dk_at dksX1_symbolAt_8 17 rfl rfl)
theorem dX1_symbolAt_203 : decode cX1_symbolAt 203 = .ok (.aload_n 0, 1) := dk_42 (dk_at dksX1_symbolAt_8 19 rfl rfl)
theorem dX1_symbolAt_204 : decode cX1_symbolAt 204 = .ok (.iload_n 1, 1) := dk_27 (dk_at dksX1_symbolAt_8 20 rfl rfl)
theorem dX1_symbolAt_205 : decode cX1_symbolAt 205 = .ok (.invokevirtual 86, 3) := dk_182 0 86 (dk_at dksX1_symbolAt_8 21 rfl rfl)
theorem dX1_symbolAt_208 : decode cX1_symbolAt 208 = .ok (.invokevirtual 147, 3) := dk_182 0 147 (dk_at dksX1_symbolAt_9 0 rfl rfl)
theorem dX1_symbolAt_211 : decode cX1_symbolAt 211 = .ok (.ifCond .lt 9, 3) := dk_155 0 9 (dk_at dksX1_symbolAt_9 3 rfl rfl)
theorem dX1_symbolAt_214 : decode cX1_symbolAt 214 = .ok (.getstatic 142, 3) := dk_178 0 142 (dk_at dksX1_symbolAt_9 6 rfl rfl)
theorem dX1_symbolAt_217 : decode cX1_symbolAt 217 = .ok (.goto 6, 3) := dk_167 0 6 (dk_at dksX1_symbolAt_9 9 rfl rfl)
theorem dX1_symbolAt_220 : decode cX1_symbolAt 220 = .ok (.getstatic 105, 3) := dk_178 0 105 (dk_at dksX1_symbolAt_9 12 rfl rfl)
theorem dX1_symbolAt_223 : decode cX1_symbolAt 223 = .ok (.aload_n 0, 1) := dk_42 (dk_at dksX1_symbolAt_9 15 rfl rfl)
theorem dX1_symbolAt_224 : decode cX1_symbolAt 224 = .ok (.iload_n 1, 1) := dk_27 (dk_at dksX1_symbolAt_9 16 rfl rfl)
theorem dX1_symbolAt_225 : decode cX1_symbolAt 225 = .ok (.iload_n 1, 1) := dk_27 (dk_at dksX1_symbolAt_9 17 rfl rfl)
theorem dX1_symbolAt_226 : decode cX1_symbolAt 226 = .ok (.iconst 1, 1) := dk_4 (dk_at dksX1_symbolAt_9 18 rfl rfl)
theorem dX1_symbolAt_227 : decode cX1_symbolAt 227 = .ok (.iadd, 1) := dk_96 (dk_at dksX1_symbolAt_9 19 rfl rfl)
theorem dX1_symbolAt_228 : decode cX1_symbolAt 228 = .ok (.invokevirtual 99, 3) := dk_182 0 99 (dk_at dksX1_symbolAt_9 20 rfl rfl)
theorem dX1_symbolAt_231 : decode cX1_symbolAt 231 = .ok (.iload_n 1, 1) := dk_27 (dk_at dksX1_symbolAt_9 23 rfl rfl)
theorem dX1_symbolAt_232 : decode cX1_symbolAt 232 = .ok (.invokespecial 121, 3) := dk_183 0 121 (dk_at dksX1_symbolAt_10 0 rfl rfl)
theorem dX1_symbolAt_235 : decode cX1_symbolAt 235 = .ok (.areturn, 1) := dk_176 (dk_at dksX1_symbolAt_10 3 rfl rfl)
abbrev cX1_errorAt : ByteArray := prog_1_method_20_code
def yX1_errorAt : MethodName := ⟨RX1, "errorAt", "()I"⟩
theorem dX1_errorAt_0 : decode cX1_errorAt 0 = .ok (.aload_n 0, 1) := by decide +kernel
theorem dX1_errorAt_1 : decode cX1_errorAt 1 = .ok (.getfield 207, 3) := by decide +kernel
theorem dX1_errorAt_4 : decode cX1_errorAt 4 = .ok (.ireturn, 1) := by decide +kernel
abbrev cX1_keep : ByteArray := prog_1_method_32_code
def yX1_keep : MethodName := ⟨RX1, "keep", "()I"⟩
def dkwX1_keep_4 : List UInt8 := [167, 255, 234, 42, 180, 0, 218, 45, 182, 0, 171, 87, 167, 255, 193, 42, 180, 1, 42, 172]
abbrev dktX1_keep_4 : List UInt8 := dkwX1_keep_4 ++ []
def dkwX1_keep_3 : List UInt8 := [21, 4, 42, 180, 0, 250, 162, 0, 19, 45, 21, 4, 44, 21, 4, 182, 1, 112, 80, 132, 4, 1]
abbrev dktX1_keep_3 : List UInt8 := dkwX1_keep_3 ++ dktX1_keep_4
def dkwX1_keep_2 : List UInt8 := [153, 0, 60, 43, 185, 1, 96, 1, 0, 192, 1, 53, 77, 42, 180, 0, 250, 188, 11, 78, 3, 54, 4]
abbrev dktX1_keep_2 : List UInt8 := dkwX1_keep_2 ++ dktX1_keep_3
def dkwX1_keep_1 : List UInt8 := [180, 0, 218, 182, 1, 109, 42, 180, 0, 203, 180, 1, 30, 182, 1, 87, 76, 43, 185, 1, 91, 1, 0]
abbrev dktX1_keep_1 : List UInt8 := dkwX1_keep_1 ++ dktX1_keep_2
def dkwX1_keep_0 : List UInt8 := [42, 42, 180, 0, 250, 181, 1, 42, 42, 42, 180, 0, 211, 182, 1, 105, 192, 1, 106, 181, 0, 215, 42]
abbrev dktX1_keep_0 : List UInt8 := dkwX1_keep_0 ++ dktX1_keep_1
theorem dksX1_keep_0 : cX1_keep.data.toList.drop 0 = dktX1_keep_0 := by decide +kernel
theorem dksX1_keep_1 : cX1_keep.data.toList.drop 23 = dktX1_keep_1 := dk_seg dksX1_keep_0 23 rfl rfl
theorem dksX1_keep_2 : cX1_keep.data.toList.drop 46 = dktX1_keep_2 := dk_seg dksX1_keep_1 23 rfl rfl
theorem dksX1_keep_3 : cX1_keep.data.toList.drop 69 = dktX1_keep_3 := dk_seg dksX1_keep_2 23 rfl rfl
theorem dksX1_keep_4 : cX1_keep.data.toList.drop 91 = dktX1_keep_4 := dk_seg dksX1_keep_3 22 rfl rfl
theorem dX1_keep_0 : decode cX1_keep 0 = .ok (.aload_n 0, 1) := dk_42 (dk_at dksX1_keep_0 0 rfl rfl)
theorem dX1_keep_1 : decode cX1_keep 1 = .ok (.aload_n 0, 1) := dk_42 (dk_at dksX1_keep_0 1 rfl rfl)
theorem dX1_keep_2 : decode cX1_keep 2 = .ok (.getfield 250, 3) := dk_180 0 250 (dk_at dksX1_keep_0 2 rfl rfl)
theorem dX1_keep_5 : decode cX1_keep 5 = .ok (.putfield 298, 3) := dk_181 1 42 (dk_at dksX1_keep_0 5 rfl rfl)
theorem dX1_keep_8 : decode cX1_keep 8 = .ok (.aload_n 0, 1) := dk_42 (dk_at dksX1_keep_0 8 rfl rfl)
theorem dX1_keep_9 : decode cX1_keep 9 = .ok (.aload_n 0, 1) := dk_42 (dk_at dksX1_keep_0 9 rfl rfl)
theorem dX1_keep_10 : decode cX1_keep 10 = .ok (.getfield 211, 3) := dk_180 0 211 (dk_at dksX1_keep_0 10 rfl rfl)
theorem dX1_keep_13 : decode cX1_keep 13 = .ok (.invokevirtual 361, 3) := dk_182 1 105 (dk_at dksX1_keep_0 13 rfl rfl)
theorem dX1_keep_16 : decode cX1_keep 16 = .ok (.checkcast 362, 3) := dk_192 1 106 (dk_at dksX1_keep_0 16 rfl rfl)
theorem dX1_keep_19 : decode cX1_keep 19 = .ok (.putfield 215, 3) := dk_181 0 215 (dk_at dksX1_keep_0 19 rfl rfl)
theorem dX1_keep_22 : decode cX1_keep 22 = .ok (.aload_n 0, 1) := dk_42 (dk_at dksX1_keep_0 22 rfl rfl)
theorem dX1_keep_23 : decode cX1_keep 23 = .ok (.getfield 218, 3) := dk_180 0 218 (dk_at dksX1_keep_1 0 rfl rfl)
theorem dX1_keep_26 : decode cX1_keep 26 = .ok (.invokevirtual 365, 3) := dk_182 1 109 (dk_at dksX1_keep_1 3 rfl rfl)
theorem dX1_keep_29 : decode cX1_keep 29 = .ok (.aload_n 0, 1) := dk_42 (dk_at dksX1_keep_1 6 rfl rfl)
theorem dX1_keep_30 : decode cX1_keep 30 = .ok (.getfield 203, 3) := dk_180 0 203 (dk_at dksX1_keep_1 7 rfl rfl)
theorem dX1_keep_33 : decode cX1_keep 33 = .ok (.getfield 286, 3) := dk_180 1 30 (dk_at dksX1_keep_1 10 rfl rfl)
theorem dX1_keep_36 : decode cX1_keep 36 = .ok (.invokevirtual 343, 3) := dk_182 1 87 (dk_at dksX1_keep_1 13 rfl rfl)
theorem dX1_keep_39 : decode cX1_keep 39 = .ok (.astore_n 1, 1) := dk_76 (dk_at dksX1_keep_1 16 rfl rfl)
theorem dX1_keep_40 : decode cX1_keep 40 = .ok (.aload_n 1, 1) := dk_43 (dk_at dksX1_keep_1 17 rfl rfl)
theorem dX1_keep_41 : decode cX1_keep 41 = .ok (.invokeinterface 347 1, 5) := by decide +kernel
theorem dX1_keep_46 : decode cX1_keep 46 = .ok (.ifCond .eq 60, 3) := dk_153 0 60 (dk_at dksX1_keep_2 0 rfl rfl)
theorem dX1_keep_49 : decode cX1_keep 49 = .ok (.aload_n 1, 1) := dk_43 (dk_at dksX1_keep_2 3 rfl rfl)
theorem dX1_keep_50 : decode cX1_keep 50 = .ok (.invokeinterface 352 1, 5) := by decide +kernel
theorem dX1_keep_55 : decode cX1_keep 55 = .ok (.checkcast 309, 3) := dk_192 1 53 (dk_at dksX1_keep_2 9 rfl rfl)
theorem dX1_keep_58 : decode cX1_keep 58 = .ok (.astore_n 2, 1) := dk_77 (dk_at dksX1_keep_2 12 rfl rfl)
theorem dX1_keep_59 : decode cX1_keep 59 = .ok (.aload_n 0, 1) := dk_42 (dk_at dksX1_keep_2 13 rfl rfl)
theorem dX1_keep_60 : decode cX1_keep 60 = .ok (.getfield 250, 3) := dk_180 0 250 (dk_at dksX1_keep_2 14 rfl rfl)
theorem dX1_keep_63 : decode cX1_keep 63 = .ok (.newarray .long, 2) := dk_188_11 (dk_at dksX1_keep_2 17 rfl rfl)
theorem dX1_keep_65 : decode cX1_keep 65 = .ok (.astore_n 3, 1) := dk_78 (dk_at dksX1_keep_2 19 rfl rfl)
theorem dX1_keep_66 : decode cX1_keep 66 = .ok (.iconst 0, 1) := dk_3 (dk_at dksX1_keep_2 20 rfl rfl)
theorem dX1_keep_67 : decode cX1_keep 67 = .ok (.istore 4, 2) := dk_54 4 (dk_at dksX1_keep_2 21 rfl rfl)
theorem dX1_keep_69 : decode cX1_keep 69 = .ok (.iload 4, 2) := dk_21 4 (dk_at dksX1_keep_3 0 rfl rfl)
theorem dX1_keep_71 : decode cX1_keep 71 = .ok (.aload_n 0, 1) := dk_42 (dk_at dksX1_keep_3 2 rfl rfl)
theorem dX1_keep_72 : decode cX1_keep 72 = .ok (.getfield 250, 3) := dk_180 0 250 (dk_at dksX1_keep_3 3 rfl rfl)
theorem dX1_keep_75 : decode cX1_keep 75 = .ok (.if_icmp .ge 19, 3) := dk_162 0 19 (dk_at dksX1_keep_3 6 rfl rfl)
theorem dX1_keep_78 : decode cX1_keep 78 = .ok (.aload_n 3, 1) := dk_45 (dk_at dksX1_keep_3 9 rfl rfl)
theorem dX1_keep_79 : decode cX1_keep 79 = .ok (.iload 4, 2) := dk_21 4 (dk_at dksX1_keep_3 10 rfl rfl)
theorem dX1_keep_81 : decode cX1_keep 81 = .ok (.aload_n 2, 1) := dk_44 (dk_at dksX1_keep_3 12 rfl rfl)
theorem dX1_keep_82 : decode cX1_keep 82 = .ok (.iload 4, 2) := dk_21 4 (dk_at dksX1_keep_3 13 rfl rfl)
theorem dX1_keep_84 : decode cX1_keep 84 = .ok (.invokevirtual 368, 3) := dk_182 1 112 (dk_at dksX1_keep_3 15 rfl rfl)
theorem dX1_keep_87 : decode cX1_keep 87 = .ok (.lastore, 1) := dk_80 (dk_at dksX1_keep_3 18 rfl rfl)
theorem dX1_keep_88 : decode cX1_keep 88 = .ok (.iinc 4 1, 3) := dk_132 4 1 (dk_at dksX1_keep_3 19 rfl rfl)
theorem dX1_keep_91 : decode cX1_keep 91 = .ok (.goto (-22), 3) := dk_167 255 234 (dk_at dksX1_keep_4 0 rfl rfl)
theorem dX1_keep_94 : decode cX1_keep 94 = .ok (.aload_n 0, 1) := dk_42 (dk_at dksX1_keep_4 3 rfl rfl)
theorem dX1_keep_95 : decode cX1_keep 95 = .ok (.getfield 218, 3) := dk_180 0 218 (dk_at dksX1_keep_4 4 rfl rfl)
theorem dX1_keep_98 : decode cX1_keep 98 = .ok (.aload_n 3, 1) := dk_45 (dk_at dksX1_keep_4 7 rfl rfl)
theorem dX1_keep_99 : decode cX1_keep 99 = .ok (.invokevirtual 171, 3) := dk_182 0 171 (dk_at dksX1_keep_4 8 rfl rfl)
theorem dX1_keep_102 : decode cX1_keep 102 = .ok (.pop, 1) := dk_87 (dk_at dksX1_keep_4 11 rfl rfl)
theorem dX1_keep_103 : decode cX1_keep 103 = .ok (.goto (-63), 3) := dk_167 255 193 (dk_at dksX1_keep_4 12 rfl rfl)
theorem dX1_keep_106 : decode cX1_keep 106 = .ok (.aload_n 0, 1) := dk_42 (dk_at dksX1_keep_4 15 rfl rfl)
theorem dX1_keep_107 : decode cX1_keep 107 = .ok (.getfield 298, 3) := dk_180 1 42 (dk_at dksX1_keep_4 16 rfl rfl)
theorem dX1_keep_110 : decode cX1_keep 110 = .ok (.ireturn, 1) := dk_172 (dk_at dksX1_keep_4 19 rfl rfl)
abbrev cX1_ask : ByteArray := prog_1_method_46_code
def yX1_ask : MethodName := ⟨RX1, "ask", "()I"⟩
def dkwX1_ask_5 : List UInt8 := [180, 1, 20, 181, 0, 207, 44, 180, 1, 23, 172]
abbrev dktX1_ask_5 : List UInt8 := dkwX1_ask_5 ++ []
def dkwX1_ask_4 : List UInt8 := [162, 0, 18, 42, 42, 180, 0, 222, 29, 182, 1, 72, 132, 3, 1, 167, 255, 236, 3, 172, 77, 42, 44]
abbrev dktX1_ask_4 : List UInt8 := dkwX1_ask_4 ++ dktX1_ask_5
def dkwX1_ask_3 : List UInt8 := [58, 4, 42, 180, 0, 222, 25, 4, 182, 0, 171, 87, 167, 255, 226, 3, 62, 29, 42, 180, 0, 250]
abbrev dktX1_ask_3 : List UInt8 := dkwX1_ask_3 ++ dktX1_ask_4
def dkwX1_ask_2 : List UInt8 := [43, 182, 1, 87, 78, 45, 185, 1, 91, 1, 0, 153, 0, 27, 45, 185, 1, 96, 1, 0, 192, 0, 189]
abbrev dktX1_ask_2 : List UInt8 := dkwX1_ask_2 ++ dktX1_ask_3
def dkwX1_ask_1 : List UInt8 := [42, 180, 0, 203, 43, 183, 1, 12, 182, 1, 138, 77, 42, 44, 181, 0, 253, 42, 180, 0, 222, 182, 1, 109]
abbrev dktX1_ask_1 : List UInt8 := dkwX1_ask_1 ++ dktX1_ask_2
def dkwX1_ask_0 : List UInt8 := [42, 2, 181, 0, 207, 187, 0, 151, 89, 183, 0, 153, 76, 187, 1, 1, 89, 42, 182, 1, 3, 184, 1, 5]
abbrev dktX1_ask_0 : List UInt8 := dkwX1_ask_0 ++ dktX1_ask_1
theorem dksX1_ask_0 : cX1_ask.data.toList.drop 0 = dktX1_ask_0 := by decide +kernel
theorem dksX1_ask_1 : cX1_ask.data.toList.drop 24 = dktX1_ask_1 := dk_seg dksX1_ask_0 24 rfl rfl
theorem dksX1_ask_2 : cX1_ask.data.toList.drop 48 = dktX1_ask_2 := dk_seg dksX1_ask_1 24 rfl rfl
theorem dksX1_ask_3 : cX1_ask.data.toList.drop 71 = dktX1_ask_3 := dk_seg dksX1_ask_2 23 rfl rfl
theorem dksX1_ask_4 : cX1_ask.data.toList.drop 93 = dktX1_ask_4 := dk_seg dksX1_ask_3 22 rfl rfl
theorem dksX1_ask_5 : cX1_ask.data.toList.drop 116 = dktX1_ask_5 := dk_seg dksX1_ask_4 23 rfl rfl
theorem dX1_ask_0 : decode cX1_ask 0 = .ok (.aload_n 0, 1) := dk_42 (dk_at dksX1_ask_0 0 rfl rfl)
theorem dX1_ask_1 : decode cX1_ask 1 = .ok (.iconst (-1), 1) := dk_2 (dk_at dksX1_ask_0 1 rfl rfl)
theorem dX1_ask_2 : decode cX1_ask 2 = .ok (.putfield 207, 3) := dk_181 0 207 (dk_at dksX1_ask_0 2 rfl rfl)
theorem dX1_ask_5 : decode cX1_ask 5 = .ok (.new 151, 3) := dk_187 0 151 (dk_at dksX1_ask_0 5 rfl rfl)
theorem dX1_ask_8 : decode cX1_ask 8 = .ok (.dup, 1) := dk_89 (dk_at dksX1_ask_0 8 rfl rfl)
theorem dX1_ask_9 : decode cX1_ask 9 = .ok (.invokespecial 153, 3) := dk_183 0 153 (dk_at dksX1_ask_0 9 rfl rfl)
theorem dX1_ask_12 : decode cX1_ask 12 = .ok (.astore_n 1, 1) := dk_76 (dk_at dksX1_ask_0 12 rfl rfl)
theorem dX1_ask_13 : decode cX1_ask 13 = .ok (.new 257, 3) := dk_187 1 1 (dk_at dksX1_ask_0 13 rfl rfl)
theorem dX1_ask_16 : decode cX1_ask 16 = .ok (.dup, 1) := dk_89 (dk_at dksX1_ask_0 16 rfl rfl)
theorem dX1_ask_17 : decode cX1_ask 17 = .ok (.aload_n 0, 1) := dk_42 (dk_at dksX1_ask_0 17 rfl rfl)
theorem dX1_ask_18 : decode cX1_ask 18 = .ok (.invokevirtual 259, 3) := dk_182 1 3 (dk_at dksX1_ask_0 18 rfl rfl)
theorem dX1_ask_21 : decode cX1_ask 21 = .ok (.invokestatic 261, 3) := dk_184 1 5 (dk_at dksX1_ask_0 21 rfl rfl)
theorem dX1_ask_24 : decode cX1_ask 24 = .ok (.aload_n 0, 1) := dk_42 (dk_at dksX1_ask_1 0 rfl rfl)
theorem dX1_ask_25 : decode cX1_ask 25 = .ok (.getfield 203, 3) := dk_180 0 203 (dk_at dksX1_ask_1 1 rfl rfl)
theorem dX1_ask_28 : decode cX1_ask 28 = .ok (.aload_n 1, 1) := dk_43 (dk_at dksX1_ask_1 4 rfl rfl)
theorem dX1_ask_29 : decode cX1_ask 29 = .ok (.invokespecial 268, 3) := dk_183 1 12 (dk_at dksX1_ask_1 5 rfl rfl)
theorem dX1_ask_32 : decode cX1_ask 32 = .ok (.invokevirtual 394, 3) := dk_182 1 138 (dk_at dksX1_ask_1 8 rfl rfl)
theorem dX1_ask_35 : decode cX1_ask 35 = .ok (.astore_n 2, 1) := dk_77 (dk_at dksX1_ask_1 11 rfl rfl)
theorem dX1_ask_36 : decode cX1_ask 36 = .ok (.aload_n 0, 1) := dk_42 (dk_at dksX1_ask_1 12 rfl rfl)
theorem dX1_ask_37 : decode cX1_ask 37 = .ok (.aload_n 2, 1) := dk_44 (dk_at dksX1_ask_1 13 rfl rfl)
theorem dX1_ask_38 : decode cX1_ask 38 = .ok (.putfield 253, 3) := dk_181 0 253 (dk_at dksX1_ask_1 14 rfl rfl)
theorem dX1_ask_41 : decode cX1_ask 41 = .ok (.aload_n 0, 1) := dk_42 (dk_at dksX1_ask_1 17 rfl rfl)
theorem dX1_ask_42 : decode cX1_ask 42 = .ok (.getfield 222, 3) := dk_180 0 222 (dk_at dksX1_ask_1 18 rfl rfl)
theorem dX1_ask_45 : decode cX1_ask 45 = .ok (.invokevirtual 365, 3) := dk_182 1 109 (dk_at dksX1_ask_1 21 rfl rfl)
theorem dX1_ask_48 : decode cX1_ask 48 = .ok (.aload_n 1, 1) := dk_43 (dk_at dksX1_ask_2 0 rfl rfl)
theorem dX1_ask_49 : decode cX1_ask 49 = .ok (.invokevirtual 343, 3) := dk_182 1 87 (dk_at dksX1_ask_2 1 rfl rfl)
theorem dX1_ask_52 : decode cX1_ask 52 = .ok (.astore_n 3, 1) := dk_78 (dk_at dksX1_ask_2 4 rfl rfl)
theorem dX1_ask_53 : decode cX1_ask 53 = .ok (.aload_n 3, 1) := dk_45 (dk_at dksX1_ask_2 5 rfl rfl)
theorem dX1_ask_54 : decode cX1_ask 54 = .ok (.invokeinterface 347 1, 5) := by decide +kernel
theorem dX1_ask_59 : decode cX1_ask 59 = .ok (.ifCond .eq 27, 3) := dk_153 0 27 (dk_at dksX1_ask_2 11 rfl rfl)
theorem dX1_ask_62 : decode cX1_ask 62 = .ok (.aload_n 3, 1) := dk_45 (dk_at dksX1_ask_2 14 rfl rfl)
theorem dX1_ask_63 : decode cX1_ask 63 = .ok (.invokeinterface 352 1, 5) := by decide +kernel
theorem dX1_ask_68 : decode cX1_ask 68 = .ok (.checkcast 189, 3) := dk_192 0 189 (dk_at dksX1_ask_2 20 rfl rfl)
theorem dX1_ask_71 : decode cX1_ask 71 = .ok (.astore 4, 2) := dk_58 4 (dk_at dksX1_ask_3 0 rfl rfl)
theorem dX1_ask_73 : decode cX1_ask 73 = .ok (.aload_n 0, 1) := dk_42 (dk_at dksX1_ask_3 2 rfl rfl)
theorem dX1_ask_74 : decode cX1_ask 74 = .ok (.getfield 222, 3) := dk_180 0 222 (dk_at dksX1_ask_3 3 rfl rfl)
theorem dX1_ask_77 : decode cX1_ask 77 = .ok (.aload 4, 2) := dk_25 4 (dk_at dksX1_ask_3 6 rfl rfl)
theorem dX1_ask_79 : decode cX1_ask 79 = .ok (.invokevirtual 171, 3) := dk_182 0 171 (dk_at dksX1_ask_3 8 rfl rfl)
theorem dX1_ask_82 : decode cX1_ask 82 = .ok (.pop, 1) := dk_87 (dk_at dksX1_ask_3 11 rfl rfl)
theorem dX1_ask_83 : decode cX1_ask 83 = .ok (.goto (-30), 3) := dk_167 255 226 (dk_at dksX1_ask_3 12 rfl rfl)
theorem dX1_ask_86 : decode cX1_ask 86 = .ok (.iconst 0, 1) := dk_3 (dk_at dksX1_ask_3 15 rfl rfl)
theorem dX1_ask_87 : decode cX1_ask 87 = .ok (.istore_n 3, 1) := dk_62 (dk_at dksX1_ask_3 16 rfl rfl)
theorem dX1_ask_88 : decode cX1_ask 88 = .ok (.iload_n 3, 1) := dk_29 (dk_at dksX1_ask_3 17 rfl rfl)
theorem dX1_ask_89 : decode cX1_ask 89 = .ok (.aload_n 0, 1) := dk_42 (dk_at dksX1_ask_3 18 rfl rfl)
theorem dX1_ask_90 : decode cX1_ask 90 = .ok (.getfield 250, 3) := dk_180 0 250 (dk_at dksX1_ask_3 19 rfl rfl)
theorem dX1_ask_93 : decode cX1_ask 93 = .ok (.if_icmp .ge 18, 3) := dk_162 0 18 (dk_at dksX1_ask_4 0 rfl rfl)
theorem dX1_ask_96 : decode cX1_ask 96 = .ok (.aload_n 0, 1) := dk_42 (dk_at dksX1_ask_4 3 rfl rfl)
theorem dX1_ask_97 : decode cX1_ask 97 = .ok (.aload_n 0, 1) := dk_42 (dk_at dksX1_ask_4 4 rfl rfl)
theorem dX1_ask_98 : decode cX1_ask 98 = .ok (.getfield 222, 3) := dk_180 0 222 (dk_at dksX1_ask_4 5 rfl rfl)
theorem dX1_ask_101 : decode cX1_ask 101 = .ok (.iload_n 3, 1) := dk_29 (dk_at dksX1_ask_4 8 rfl rfl)
theorem dX1_ask_102 : decode cX1_ask 102 = .ok (.invokevirtual 328, 3) := dk_182 1 72 (dk_at dksX1_ask_4 9 rfl rfl)
theorem dX1_ask_105 : decode cX1_ask 105 = .ok (.iinc 3 1, 3) := dk_132 3 1 (dk_at dksX1_ask_4 12 rfl rfl)
theorem dX1_ask_108 : decode cX1_ask 108 = .ok (.goto (-20), 3) := dk_167 255 236 (dk_at dksX1_ask_4 15 rfl rfl)
theorem dX1_ask_111 : decode cX1_ask 111 = .ok (.iconst 0, 1) := dk_3 (dk_at dksX1_ask_4 18 rfl rfl)
theorem dX1_ask_112 : decode cX1_ask 112 = .ok (.ireturn, 1) := dk_172 (dk_at dksX1_ask_4 19 rfl rfl)
theorem dX1_ask_113 : decode cX1_ask 113 = .ok (.astore_n 2, 1) := dk_77 (dk_at dksX1_ask_4 20 rfl rfl)
theorem dX1_ask_114 : decode cX1_ask 114 = .ok (.aload_n 0, 1) := dk_42 (dk_at dksX1_ask_4 21 rfl rfl)
theorem dX1_ask_115 : decode cX1_ask 115 = .ok (.aload_n 2, 1) := dk_44 (dk_at dksX1_ask_4 22 rfl rfl)
theorem dX1_ask_116 : decode cX1_ask 116 = .ok (.getfield 276, 3) := dk_180 1 20 (dk_at dksX1_ask_5 0 rfl rfl)
theorem dX1_ask_119 : decode cX1_ask 119 = .ok (.putfield 207, 3) := dk_181 0 207 (dk_at dksX1_ask_5 3 rfl rfl)
theorem dX1_ask_122 : decode cX1_ask 122 = .ok (.aload_n 2, 1) := dk_44 (dk_at dksX1_ask_5 6 rfl rfl)
theorem dX1_ask_123 : decode cX1_ask 123 = .ok (.getfield 279, 3) := dk_180 1 23 (dk_at dksX1_ask_5 7 rfl rfl)
theorem dX1_ask_126 : decode cX1_ask 126 = .ok (.ireturn, 1) := dk_172 (dk_at dksX1_ask_5 10 rfl rfl)
abbrev cX1_keepAll : ByteArray := prog_1_method_25_code
def yX1_keepAll : MethodName := ⟨RX1, "keepAll", "(Ljava/util/List;I)V"⟩
def dkwX1_keepAll_1 : List UInt8 := [180, 0, 211, 182, 1, 68, 132, 3, 1, 167, 255, 225, 177]
abbrev dktX1_keepAll_1 : List UInt8 := dkwX1_keepAll_1 ++ []
def dkwX1_keepAll_0 : List UInt8 := [3, 62, 29, 43, 185, 1, 64, 1, 0, 162, 0, 27, 43, 29, 185, 1, 67, 2, 0, 192, 0, 189, 28, 42]
abbrev dktX1_keepAll_0 : List UInt8 := dkwX1_keepAll_0 ++ dktX1_keepAll_1
theorem dksX1_keepAll_0 : cX1_keepAll.data.toList.drop 0 = dktX1_keepAll_0 := by decide +kernel
theorem dksX1_keepAll_1 : cX1_keepAll.data.toList.drop 24 = dktX1_keepAll_1 := dk_seg dksX1_keepAll_0 24 rfl rfl
theorem dX1_keepAll_0 : decode cX1_keepAll 0 = .ok (.iconst 0, 1) := dk_3 (dk_at dksX1_keepAll_0 0 rfl rfl)
theorem dX1_keepAll_1 : decode cX1_keepAll 1 = .ok (.istore_n 3, 1) := dk_62 (dk_at dksX1_keepAll_0 1 rfl rfl)
theorem dX1_keepAll_2 : decode cX1_keepAll 2 = .ok (.iload_n 3, 1) := dk_29 (dk_at dksX1_keepAll_0 2 rfl rfl)
theorem dX1_keepAll_3 : decode cX1_keepAll 3 = .ok (.aload_n 1, 1) := dk_43 (dk_at dksX1_keepAll_0 3 rfl rfl)
theorem dX1_keepAll_4 : decode cX1_keepAll 4 = .ok (.invokeinterface 320 1, 5) := by decide +kernel
theorem dX1_keepAll_9 : decode cX1_keepAll 9 = .ok (.if_icmp .ge 27, 3) := dk_162 0 27 (dk_at dksX1_keepAll_0 9 rfl rfl)
theorem dX1_keepAll_12 : decode cX1_keepAll 12 = .ok (.aload_n 1, 1) := dk_43 (dk_at dksX1_keepAll_0 12 rfl rfl)
theorem dX1_keepAll_13 : decode cX1_keepAll 13 = .ok (.iload_n 3, 1) := dk_29 (dk_at dksX1_keepAll_0 13 rfl rfl)
theorem dX1_keepAll_14 : decode cX1_keepAll 14 = .ok (.invokeinterface 323 2, 5) := by decide +kernel
theorem dX1_keepAll_19 : decode cX1_keepAll 19 = .ok (.checkcast 189, 3) := dk_192 0 189 (dk_at dksX1_keepAll_0 19 rfl rfl)
theorem dX1_keepAll_22 : decode cX1_keepAll 22 = .ok (.iload_n 2, 1) := dk_28 (dk_at dksX1_keepAll_0 22 rfl rfl)
theorem dX1_keepAll_23 : decode cX1_keepAll 23 = .ok (.aload_n 0, 1) := dk_42 (dk_at dksX1_keepAll_0 23 rfl rfl)
theorem dX1_keepAll_24 : decode cX1_keepAll 24 = .ok (.getfield 211, 3) := dk_180 0 211 (dk_at dksX1_keepAll_1 0 rfl rfl)
theorem dX1_keepAll_27 : decode cX1_keepAll 27 = .ok (.invokevirtual 324, 3) := dk_182 1 68 (dk_at dksX1_keepAll_1 3 rfl rfl)
theorem dX1_keepAll_30 : decode cX1_keepAll 30 = .ok (.iinc 3 1, 3) := dk_132 3 1 (dk_at dksX1_keepAll_1 6 rfl rfl)
theorem dX1_keepAll_33 : decode cX1_keepAll 33 = .ok (.goto (-31), 3) := dk_167 255 225 (dk_at dksX1_keepAll_1 9 rfl rfl)
theorem dX1_keepAll_36 : decode cX1_keepAll 36 = .ok (.return_, 1) := dk_177 (dk_at dksX1_keepAll_1 12 rfl rfl)
abbrev cX1_lastStep : ByteArray := prog_1_method_13_code
def yX1_lastStep : MethodName := ⟨RX1, "lastStep", "(LPastWatch$Node;I)I"⟩
def dkwX1_lastStep_0 : List UInt8 := [27, 61, 28, 155, 0, 17, 42, 28, 182, 0, 188, 154, 0, 9, 132, 2, 255, 167, 255, 241, 28, 172]
abbrev dktX1_lastStep_0 : List UInt8 := dkwX1_lastStep_0 ++ []
theorem dksX1_lastStep_0 : cX1_lastStep.data.toList.drop 0 = dktX1_lastStep_0 := by decide +kernel
theorem dX1_lastStep_0 : decode cX1_lastStep 0 = .ok (.iload_n 1, 1) := dk_27 (dk_at dksX1_lastStep_0 0 rfl rfl)
theorem dX1_lastStep_1 : decode cX1_lastStep 1 = .ok (.istore_n 2, 1) := dk_61 (dk_at dksX1_lastStep_0 1 rfl rfl)
theorem dX1_lastStep_2 : decode cX1_lastStep 2 = .ok (.iload_n 2, 1) := dk_28 (dk_at dksX1_lastStep_0 2 rfl rfl)
theorem dX1_lastStep_3 : decode cX1_lastStep 3 = .ok (.ifCond .lt 17, 3) := dk_155 0 17 (dk_at dksX1_lastStep_0 3 rfl rfl)
theorem dX1_lastStep_6 : decode cX1_lastStep 6 = .ok (.aload_n 0, 1) := dk_42 (dk_at dksX1_lastStep_0 6 rfl rfl)
theorem dX1_lastStep_7 : decode cX1_lastStep 7 = .ok (.iload_n 2, 1) := dk_28 (dk_at dksX1_lastStep_0 7 rfl rfl)
theorem dX1_lastStep_8 : decode cX1_lastStep 8 = .ok (.invokevirtual 188, 3) := dk_182 0 188 (dk_at dksX1_lastStep_0 8 rfl rfl)
theorem dX1_lastStep_11 : decode cX1_lastStep 11 = .ok (.ifCond .ne 9, 3) := dk_154 0 9 (dk_at dksX1_lastStep_0 11 rfl rfl)
theorem dX1_lastStep_14 : decode cX1_lastStep 14 = .ok (.iinc 2 (-1), 3) := dk_132 2 255 (dk_at dksX1_lastStep_0 14 rfl rfl)
theorem dX1_lastStep_17 : decode cX1_lastStep 17 = .ok (.goto (-15), 3) := dk_167 255 241 (dk_at dksX1_lastStep_0 17 rfl rfl)
theorem dX1_lastStep_20 : decode cX1_lastStep 20 = .ok (.iload_n 2, 1) := dk_28 (dk_at dksX1_lastStep_0 20 rfl rfl)
theorem dX1_lastStep_21 : decode cX1_lastStep 21 = .ok (.ireturn, 1) := dk_172 (dk_at dksX1_lastStep_0 21 rfl rfl)
abbrev cX1_isMeant : ByteArray := prog_1_method_12_code
def yX1_isMeant : MethodName := ⟨RX1, "isMeant", "(LPastWatch$Bounds;[III)Z"⟩
def dkwX1_isMeant_0 : List UInt8 := [42, 198, 0, 17, 42, 43, 28, 46, 43, 29, 46, 100, 182, 0, 182, 153, 0, 7, 4, 167, 0, 4, 3, 172]
abbrev dktX1_isMeant_0 : List UInt8 := dkwX1_isMeant_0 ++ []
theorem dksX1_isMeant_0 : cX1_isMeant.data.toList.drop 0 = dktX1_isMeant_0 := by decide +kernel
theorem dX1_isMeant_0 : decode cX1_isMeant 0 = .ok (.aload_n 0, 1) := dk_42 (dk_at dksX1_isMeant_0 0 rfl rfl)
theorem dX1_isMeant_1 : decode cX1_isMeant 1 = .ok (.ifnull 17, 3) := dk_198 0 17 (dk_at dksX1_isMeant_0 1 rfl rfl)
theorem dX1_isMeant_4 : decode cX1_isMeant 4 = .ok (.aload_n 0, 1) := dk_42 (dk_at dksX1_isMeant_0 4 rfl rfl)
theorem dX1_isMeant_5 : decode cX1_isMeant 5 = .ok (.aload_n 1, 1) := dk_43 (dk_at dksX1_isMeant_0 5 rfl rfl)
theorem dX1_isMeant_6 : decode cX1_isMeant 6 = .ok (.iload_n 2, 1) := dk_28 (dk_at dksX1_isMeant_0 6 rfl rfl)
theorem dX1_isMeant_7 : decode cX1_isMeant 7 = .ok (.iaload, 1) := dk_46 (dk_at dksX1_isMeant_0 7 rfl rfl)
theorem dX1_isMeant_8 : decode cX1_isMeant 8 = .ok (.aload_n 1, 1) := dk_43 (dk_at dksX1_isMeant_0 8 rfl rfl)
theorem dX1_isMeant_9 : decode cX1_isMeant 9 = .ok (.iload_n 3, 1) := dk_29 (dk_at dksX1_isMeant_0 9 rfl rfl)
theorem dX1_isMeant_10 : decode cX1_isMeant 10 = .ok (.iaload, 1) := dk_46 (dk_at dksX1_isMeant_0 10 rfl rfl)
theorem dX1_isMeant_11 : decode cX1_isMeant 11 = .ok (.isub, 1) := dk_100 (dk_at dksX1_isMeant_0 11 rfl rfl)
theorem dX1_isMeant_12 : decode cX1_isMeant 12 = .ok (.invokevirtual 182, 3) := dk_182 0 182 (dk_at dksX1_isMeant_0 12 rfl rfl)
theorem dX1_isMeant_15 : decode cX1_isMeant 15 = .ok (.ifCond .eq 7, 3) := dk_153 0 7 (dk_at dksX1_isMeant_0 15 rfl rfl)
theorem dX1_isMeant_18 : decode cX1_isMeant 18 = .ok (.iconst 1, 1) := dk_4 (dk_at dksX1_isMeant_0 18 rfl rfl)
theorem dX1_isMeant_19 : decode cX1_isMeant 19 = .ok (.goto 4, 3) := dk_167 0 4 (dk_at dksX1_isMeant_0 19 rfl rfl)
theorem dX1_isMeant_22 : decode cX1_isMeant 22 = .ok (.iconst 0, 1) := dk_3 (dk_at dksX1_isMeant_0 22 rfl rfl)
theorem dX1_isMeant_23 : decode cX1_isMeant 23 = .ok (.ireturn, 1) := dk_172 (dk_at dksX1_isMeant_0 23 rfl rfl)
abbrev cX1_asNumber : ByteArray := prog_1_method_11_code
def yX1_asNumber : MethodName := ⟨RX1, "asNumber", "(Z)J"⟩
def dkwX1_asNumber_0 : List UInt8 := [26, 153, 0, 7, 10, 167, 0, 4, 9, 173]
abbrev dktX1_asNumber_0 : List UInt8 := dkwX1_asNumber_0 ++ []
theorem dksX1_asNumber_0 : cX1_asNumber.data.toList.drop 0 = dktX1_asNumber_0 := by decide +kernel
theorem dX1_asNumber_0 : decode cX1_asNumber 0 = .ok (.iload_n 0, 1) := dk_26 (dk_at dksX1_asNumber_0 0 rfl rfl)
theorem dX1_asNumber_1 : decode cX1_asNumber 1 = .ok (.ifCond .eq 7, 3) := dk_153 0 7 (dk_at dksX1_asNumber_0 1 rfl rfl)
theorem dX1_asNumber_4 : decode cX1_asNumber 4 = .ok (.lconst 1, 1) := dk_10 (dk_at dksX1_asNumber_0 4 rfl rfl)
theorem dX1_asNumber_5 : decode cX1_asNumber 5 = .ok (.goto 4, 3) := dk_167 0 4 (dk_at dksX1_asNumber_0 5 rfl rfl)
theorem dX1_asNumber_8 : decode cX1_asNumber 8 = .ok (.lconst 0, 1) := dk_9 (dk_at dksX1_asNumber_0 8 rfl rfl)
theorem dX1_asNumber_9 : decode cX1_asNumber 9 = .ok (.lreturn, 1) := dk_173 (dk_at dksX1_asNumber_0 9 rfl rfl)
abbrev cX1_digest : ByteArray := prog_1_method_48_code
def yX1_digest : MethodName := ⟨RX1, "digest", "()J"⟩
def dkwX1_digest_16 : List UInt8 := [25, 4, 180, 1, 55, 97, 64, 167, 255, 224, 31, 173]
abbrev dktX1_digest_16 : List UInt8 := dkwX1_digest_16 ++ []
def dkwX1_digest_15 : List UInt8 := [185, 1, 91, 1, 0, 153, 0, 29, 45, 185, 1, 96, 1, 0, 192, 1, 53, 58, 4, 31, 20, 1, 144, 105]
abbrev dktX1_digest_15 : List UInt8 := dkwX1_digest_15 ++ dktX1_digest_16
def dkwX1_digest_14 : List UInt8 := [132, 5, 1, 167, 255, 228, 167, 255, 202, 42, 180, 0, 203, 180, 1, 30, 182, 1, 87, 78, 45]
abbrev dktX1_digest_14 : List UInt8 := dkwX1_digest_14 ++ dktX1_digest_15
def dkwX1_digest_13 : List UInt8 := [8, 162, 0, 28, 31, 20, 1, 144, 105, 25, 4, 21, 5, 42, 180, 0, 250, 182, 1, 125, 133, 97, 64]
abbrev dktX1_digest_13 : List UInt8 := dkwX1_digest_13 ++ dktX1_digest_14
def dkwX1_digest_12 : List UInt8 := [185, 1, 91, 1, 0, 153, 0, 51, 45, 185, 1, 96, 1, 0, 192, 1, 59, 58, 4, 3, 54, 5, 21, 5]
abbrev dktX1_digest_12 : List UInt8 := dkwX1_digest_12 ++ dktX1_digest_13
def dkwX1_digest_11 : List UInt8 := [97, 64, 167, 255, 218, 132, 3, 1, 167, 255, 28, 42, 180, 0, 203, 180, 1, 39, 182, 1, 87, 78, 45]
abbrev dktX1_digest_11 : List UInt8 := dkwX1_digest_11 ++ dktX1_digest_12
def dkwX1_digest_10 : List UInt8 := [185, 1, 96, 1, 0, 192, 1, 59, 58, 5, 31, 20, 1, 144, 105, 25, 5, 180, 1, 61, 29, 182, 1, 120]
abbrev dktX1_digest_10 : List UInt8 := dkwX1_digest_10 ++ dktX1_digest_11
def dkwX1_digest_9 : List UInt8 := [180, 0, 203, 180, 1, 39, 182, 1, 87, 58, 4, 25, 4, 185, 1, 91, 1, 0, 153, 0, 34, 25, 4]
abbrev dktX1_digest_9 : List UInt8 := dkwX1_digest_9 ++ dktX1_digest_10
def dkwX1_digest_8 : List UInt8 := [192, 0, 189, 58, 5, 31, 20, 1, 144, 105, 25, 5, 29, 182, 1, 120, 97, 64, 167, 255, 221, 42]
abbrev dktX1_digest_8 : List UInt8 := dkwX1_digest_8 ++ dktX1_digest_9
def dkwX1_digest_7 : List UInt8 := [182, 1, 87, 58, 4, 25, 4, 185, 1, 91, 1, 0, 153, 0, 31, 25, 4, 185, 1, 96, 1, 0]
abbrev dktX1_digest_7 : List UInt8 := dkwX1_digest_7 ++ dktX1_digest_8
def dkwX1_digest_6 : List UInt8 := [20, 1, 144, 105, 25, 5, 29, 182, 1, 120, 97, 64, 167, 255, 221, 42, 180, 0, 203, 180, 1, 33]
abbrev dktX1_digest_6 : List UInt8 := dkwX1_digest_6 ++ dktX1_digest_7
def dkwX1_digest_5 : List UInt8 := [25, 4, 185, 1, 91, 1, 0, 153, 0, 31, 25, 4, 185, 1, 96, 1, 0, 192, 0, 189, 58, 5, 31]
abbrev dktX1_digest_5 : List UInt8 := dkwX1_digest_5 ++ dktX1_digest_6
def dkwX1_digest_4 : List UInt8 := [105, 25, 5, 29, 182, 1, 112, 97, 64, 167, 255, 221, 42, 180, 0, 203, 180, 1, 36, 182, 1, 87, 58, 4]
abbrev dktX1_digest_4 : List UInt8 := dkwX1_digest_4 ++ dktX1_digest_5
def dkwX1_digest_3 : List UInt8 := [185, 1, 91, 1, 0, 153, 0, 31, 25, 4, 185, 1, 96, 1, 0, 192, 1, 53, 58, 5, 31, 20, 1, 144]
abbrev dktX1_digest_3 : List UInt8 := dkwX1_digest_3 ++ dktX1_digest_4
def dkwX1_digest_2 : List UInt8 := [180, 0, 211, 29, 46, 133, 97, 64, 42, 180, 0, 203, 180, 1, 30, 182, 1, 87, 58, 4, 25, 4]
abbrev dktX1_digest_2 : List UInt8 := dkwX1_digest_2 ++ dktX1_digest_3
def dkwX1_digest_1 : List UInt8 := [64, 132, 3, 1, 167, 255, 234, 3, 62, 29, 42, 180, 0, 250, 162, 0, 226, 31, 20, 1, 144, 105, 42]
abbrev dktX1_digest_1 : List UInt8 := dkwX1_digest_1 ++ dktX1_digest_2
def dkwX1_digest_0 : List UInt8 := [20, 1, 142, 64, 3, 62, 29, 16, 7, 162, 0, 22, 31, 20, 1, 144, 105, 42, 29, 182, 1, 146, 133, 97]
abbrev dktX1_digest_0 : List UInt8 := dkwX1_digest_0 ++ dktX1_digest_1
theorem dksX1_digest_0 : cX1_digest.data.toList.drop 0 = dktX1_digest_0 := by decide +kernel
theorem dksX1_digest_1 : cX1_digest.data.toList.drop 24 = dktX1_digest_1 := dk_seg dksX1_digest_0 24 rfl rfl
theorem dksX1_digest_2 : cX1_digest.data.toList.drop 47 = dktX1_digest_2 := dk_seg dksX1_digest_1 23 rfl rfl
theorem dksX1_digest_3 : cX1_digest.data.toList.drop 69 = dktX1_digest_3 := dk_seg dksX1_digest_2 22 rfl rfl
theorem dksX1_digest_4 : cX1_digest.data.toList.drop 93 = dktX1_digest_4 := dk_seg dksX1_digest_3 24 rfl rfl
theorem dksX1_digest_5 : cX1_digest.data.toList.drop 117 = dktX1_digest_5 := dk_seg dksX1_digest_4 24 rfl rfl
theorem dksX1_digest_6 : cX1_digest.data.toList.drop 140 = dktX1_digest_6 := dk_seg dksX1_digest_5 23 rfl rfl
theorem dksX1_digest_7 : cX1_digest.data.toList.drop 162 = dktX1_digest_7 := dk_seg dksX1_digest_6 22 rfl rfl
theorem dksX1_digest_8 : cX1_digest.data.toList.drop 184 = dktX1_digest_8 := dk_seg dksX1_digest_7 22 rfl rfl
theorem dksX1_digest_9 : cX1_digest.data.toList.drop 206 = dktX1_digest_9 := dk_seg dksX1_digest_8 22 rfl rfl
theorem dksX1_digest_10 : cX1_digest.data.toList.drop 229 = dktX1_digest_10 := dk_seg dksX1_digest_9 23 rfl rfl
theorem dksX1_digest_11 : cX1_digest.data.toList.drop 253 = dktX1_digest_11 := dk_seg dksX1_digest_10 24 rfl rfl
theorem dksX1_digest_12 : cX1_digest.data.toList.drop 276 = dktX1_digest_12 := dk_seg dksX1_digest_11 23 rfl rfl
theorem dksX1_digest_13 : cX1_digest.data.toList.drop 300 = dktX1_digest_13 := dk_seg dksX1_digest_12 24 rfl rfl
theorem dksX1_digest_14 : cX1_digest.data.toList.drop 323 = dktX1_digest_14 := dk_seg dksX1_digest_13 23 rfl rfl
theorem dksX1_digest_15 : cX1_digest.data.toList.drop 344 = dktX1_digest_15 := dk_seg dksX1_digest_14 21 rfl rfl
theorem dksX1_digest_16 : cX1_digest.data.toList.drop 368 = dktX1_digest_16 := dk_seg dksX1_digest_15 24 rfl rfl
theorem dX1_digest_0 : decode cX1_digest 0 = .ok (.ldc2_w 398, 3) := dk_20 1 142 (dk_at dksX1_digest_0 0 rfl rfl)
theorem dX1_digest_3 : decode cX1_digest 3 = .ok (.lstore_n 1, 1) := dk_64 (dk_at dksX1_digest_0 3 rfl rfl)
theorem dX1_digest_4 : decode cX1_digest 4 = .ok (.iconst 0, 1) := dk_3 (dk_at dksX1_digest_0 4 rfl rfl)
theorem dX1_digest_5 : decode cX1_digest 5 = .ok (.istore_n 3, 1) := dk_62 (dk_at dksX1_digest_0 5 rfl rfl)
theorem dX1_digest_6 : decode cX1_digest 6 = .ok (.iload_n 3, 1) := dk_29 (dk_at dksX1_digest_0 6 rfl rfl)
theorem dX1_digest_7 : decode cX1_digest 7 = .ok (.bipush 7, 2) := dk_16 7 (dk_at dksX1_digest_0 7 rfl rfl)
theorem dX1_digest_9 : decode cX1_digest 9 = .ok (.if_icmp .ge 22, 3) := dk_162 0 22 (dk_at dksX1_digest_0 9 rfl rfl)
theorem dX1_digest_12 : decode cX1_digest 12 = .ok (.lload_n 1, 1) := dk_31 (dk_at dksX1_digest_0 12 rfl rfl)
theorem dX1_digest_13 : decode cX1_digest 13 = .ok (.ldc2_w 400, 3) := dk_20 1 144 (dk_at dksX1_digest_0 13 rfl rfl)
theorem dX1_digest_16 : decode cX1_digest 16 = .ok (.lmul, 1) := dk_105 (dk_at dksX1_digest_0 16 rfl rfl)
theorem dX1_digest_17 : decode cX1_digest 17 = .ok (.aload_n 0, 1) := dk_42 (dk_at dksX1_digest_0 17 rfl rfl)
theorem dX1_digest_18 : decode cX1_digest 18 = .ok (.iload_n 3, 1) := dk_29 (dk_at dksX1_digest_0 18 rfl rfl)
theorem dX1_digest_19 : decode cX1_digest 19 = .ok (.invokevirtual 402, 3) := dk_182 1 146 (dk_at dksX1_digest_0 19 rfl rfl)
theorem dX1_digest_22 : decode cX1_digest 22 = .ok (.i2l, 1) := dk_133 (dk_at dksX1_digest_0 22 rfl rfl)
theorem dX1_digest_23 : decode cX1_digest 23 = .ok (.ladd, 1) := dk_97 (dk_at dksX1_digest_0 23 rfl rfl)
theorem dX1_digest_24 : decode cX1_digest 24 = .ok (.lstore_n 1, 1) := dk_64 (dk_at dksX1_digest_1 0 rfl rfl)
theorem dX1_digest_25 : decode cX1_digest 25 = .ok (.iinc 3 1, 3) := dk_132 3 1 (dk_at dksX1_digest_1 1 rfl rfl)
theorem dX1_digest_28 : decode cX1_digest 28 = .ok (.goto (-22), 3) := dk_167 255 234 (dk_at dksX1_digest_1 4 rfl rfl)
theorem dX1_digest_31 : decode cX1_digest 31 = .ok (.iconst 0, 1) := dk_3 (dk_at dksX1_digest_1 7 rfl rfl)
theorem dX1_digest_32 : decode cX1_digest 32 = .ok (.istore_n 3, 1) := dk_62 (dk_at dksX1_digest_1 8 rfl rfl)
theorem dX1_digest_33 : decode cX1_digest 33 = .ok (.iload_n 3, 1) := dk_29 (dk_at dksX1_digest_1 9 rfl rfl)
theorem dX1_digest_34 : decode cX1_digest 34 = .ok (.aload_n 0, 1) := dk_42 (dk_at dksX1_digest_1 10 rfl rfl)
theorem dX1_digest_35 : decode cX1_digest 35 = .ok (.getfield 250, 3) := dk_180 0 250 (dk_at dksX1_digest_1 11 rfl rfl)
theorem dX1_digest_38 : decode cX1_digest 38 = .ok (.if_icmp .ge 226, 3) := dk_162 0 226 (dk_at dksX1_digest_1 14 rfl rfl)
theorem dX1_digest_41 : decode cX1_digest 41 = .ok (.lload_n 1, 1) := dk_31 (dk_at dksX1_digest_1 17 rfl rfl)
theorem dX1_digest_42 : decode cX1_digest 42 = .ok (.ldc2_w 400, 3) := dk_20 1 144 (dk_at dksX1_digest_1 18 rfl rfl)
theorem dX1_digest_45 : decode cX1_digest 45 = .ok (.lmul, 1) := dk_105 (dk_at dksX1_digest_1 21 rfl rfl)
theorem dX1_digest_46 : decode cX1_digest 46 = .ok (.aload_n 0, 1) := dk_42 (dk_at dksX1_digest_1 22 rfl rfl)
theorem dX1_digest_47 : decode cX1_digest 47 = .ok (.getfield 211, 3) := dk_180 0 211 (dk_at dksX1_digest_2 0 rfl rfl)
theorem dX1_digest_50 : decode cX1_digest 50 = .ok (.iload_n 3, 1) := dk_29 (dk_at dksX1_digest_2 3 rfl rfl)
theorem dX1_digest_51 : decode cX1_digest 51 = .ok (.iaload, 1) := dk_46 (dk_at dksX1_digest_2 4 rfl rfl)
theorem dX1_digest_52 : decode cX1_digest 52 = .ok (.i2l, 1) := dk_133 (dk_at dksX1_digest_2 5 rfl rfl)
theorem dX1_digest_53 : decode cX1_digest 53 = .ok (.ladd, 1) := dk_97 (dk_at dksX1_digest_2 6 rfl rfl)
theorem dX1_digest_54 : decode cX1_digest 54 = .ok (.lstore_n 1, 1) := dk_64 (dk_at dksX1_digest_2 7 rfl rfl)
theorem dX1_digest_55 : decode cX1_digest 55 = .ok (.aload_n 0, 1) := dk_42 (dk_at dksX1_digest_2 8 rfl rfl)
theorem dX1_digest_56 : decode cX1_digest 56 = .ok (.getfield 203, 3) := dk_180 0 203 (dk_at dksX1_digest_2 9 rfl rfl)
theorem dX1_digest_59 : decode cX1_digest 59 = .ok (.getfield 286, 3) := dk_180 1 30 (dk_at dksX1_digest_2 12 rfl rfl)
theorem dX1_digest_62 : decode cX1_digest 62 = .ok (.invokevirtual 343, 3) := dk_182 1 87 (dk_at dksX1_digest_2 15 rfl rfl)
theorem dX1_digest_65 : decode cX1_digest 65 = .ok (.astore 4, 2) := dk_58 4 (dk_at dksX1_digest_2 18 rfl rfl)
theorem dX1_digest_67 : decode cX1_digest 67 = .ok (.aload 4, 2) := dk_25 4 (dk_at dksX1_digest_2 20 rfl rfl)
theorem dX1_digest_69 : decode cX1_digest 69 = .ok (.invokeinterface 347 1, 5) := by decide +kernel
theorem dX1_digest_74 : decode cX1_digest 74 = .ok (.ifCond .eq 31, 3) := dk_153 0 31 (dk_at dksX1_digest_3 5 rfl rfl)
theorem dX1_digest_77 : decode cX1_digest 77 = .ok (.aload 4, 2) := dk_25 4 (dk_at dksX1_digest_3 8 rfl rfl)
theorem dX1_digest_79 : decode cX1_digest 79 = .ok (.invokeinterface 352 1, 5) := by decide +kernel
theorem dX1_digest_84 : decode cX1_digest 84 = .ok (.checkcast 309, 3) := dk_192 1 53 (dk_at dksX1_digest_3 15 rfl rfl)
theorem dX1_digest_87 : decode cX1_digest 87 = .ok (.astore 5, 2) := dk_58 5 (dk_at dksX1_digest_3 18 rfl rfl)
theorem dX1_digest_89 : decode cX1_digest 89 = .ok (.lload_n 1, 1) := dk_31 (dk_at dksX1_digest_3 20 rfl rfl)
theorem dX1_digest_90 : decode cX1_digest 90 = .ok (.ldc2_w 400, 3) := dk_20 1 144 (dk_at dksX1_digest_3 21 rfl rfl)
theorem dX1_digest_93 : decode cX1_digest 93 = .ok (.lmul, 1) := dk_105 (dk_at dksX1_digest_4 0 rfl rfl)
theorem dX1_digest_94 : decode cX1_digest 94 = .ok (.aload 5, 2) := dk_25 5 (dk_at dksX1_digest_4 1 rfl rfl)
theorem dX1_digest_96 : decode cX1_digest 96 = .ok (.iload_n 3, 1) := dk_29 (dk_at dksX1_digest_4 3 rfl rfl)
theorem dX1_digest_97 : decode cX1_digest 97 = .ok (.invokevirtual 368, 3) := dk_182 1 112 (dk_at dksX1_digest_4 4 rfl rfl)
theorem dX1_digest_100 : decode cX1_digest 100 = .ok (.ladd, 1) := dk_97 (dk_at dksX1_digest_4 7 rfl rfl)
theorem dX1_digest_101 : decode cX1_digest 101 = .ok (.lstore_n 1, 1) := dk_64 (dk_at dksX1_digest_4 8 rfl rfl)
theorem dX1_digest_102 : decode cX1_digest 102 = .ok (.goto (-35), 3) := dk_167 255 221 (dk_at dksX1_digest_4 9 rfl rfl)
theorem dX1_digest_105 : decode cX1_digest 105 = .ok (.aload_n 0, 1) := dk_42 (dk_at dksX1_digest_4 12 rfl rfl)
theorem dX1_digest_106 : decode cX1_digest 106 = .ok (.getfield 203, 3) := dk_180 0 203 (dk_at dksX1_digest_4 13 rfl rfl)
theorem dX1_digest_109 : decode cX1_digest 109 = .ok (.getfield 292, 3) := dk_180 1 36 (dk_at dksX1_digest_4 16 rfl rfl)
theorem dX1_digest_112 : decode cX1_digest 112 = .ok (.invokevirtual 343, 3) := dk_182 1 87 (dk_at dksX1_digest_4 19 rfl rfl)
theorem dX1_digest_115 : decode cX1_digest 115 = .ok (.astore 4, 2) := dk_58 4 (dk_at dksX1_digest_4 22 rfl rfl)
theorem dX1_digest_117 : decode cX1_digest 117 = .ok (.aload 4, 2) := dk_25 4 (dk_at dksX1_digest_5 0 rfl rfl)
theorem dX1_digest_119 : decode cX1_digest 119 = .ok (.invokeinterface 347 1, 5) := by decide +kernel
theorem dX1_digest_124 : decode cX1_digest 124 = .ok (.ifCond .eq 31, 3) := dk_153 0 31 (dk_at dksX1_digest_5 7 rfl rfl)
theorem dX1_digest_127 : decode cX1_digest 127 = .ok (.aload 4, 2) := dk_25 4 (dk_at dksX1_digest_5 10 rfl rfl)
theorem dX1_digest_129 : decode cX1_digest 129 = .ok (.invokeinterface 352 1, 5) := by decide +kernel
theorem dX1_digest_134 : decode cX1_digest 134 = .ok (.checkcast 189, 3) := dk_192 0 189 (dk_at dksX1_digest_5 17 rfl rfl)
theorem dX1_digest_137 : decode cX1_digest 137 = .ok (.astore 5, 2) := dk_58 5 (dk_at dksX1_digest_5 20 rfl rfl)
theorem dX1_digest_139 : decode cX1_digest 139 = .ok (.lload_n 1, 1) := dk_31 (dk_at dksX1_digest_5 22 rfl rfl)
theorem dX1_digest_140 : decode cX1_digest 140 = .ok (.ldc2_w 400, 3) := dk_20 1 144 (dk_at dksX1_digest_6 0 rfl rfl)
theorem dX1_digest_143 : decode cX1_digest 143 = .ok (.lmul, 1) := dk_105 (dk_at dksX1_digest_6 3 rfl rfl)
theorem dX1_digest_144 : decode cX1_digest 144 = .ok (.aload 5, 2) := dk_25 5 (dk_at dksX1_digest_6 4 rfl rfl)
theorem dX1_digest_146 : decode cX1_digest 146 = .ok (.iload_n 3, 1) := dk_29 (dk_at dksX1_digest_6 6 rfl rfl)
theorem dX1_digest_147 : decode cX1_digest 147 = .ok (.invokevirtual 376, 3) := dk_182 1 120 (dk_at dksX1_digest_6 7 rfl rfl)
theorem dX1_digest_150 : decode cX1_digest 150 = .ok (.ladd, 1) := dk_97 (dk_at dksX1_digest_6 10 rfl rfl)
theorem dX1_digest_151 : decode cX1_digest 151 = .ok (.lstore_n 1, 1) := dk_64 (dk_at dksX1_digest_6 11 rfl rfl)
theorem dX1_digest_152 : decode cX1_digest 152 = .ok (.goto (-35), 3) := dk_167 255 221 (dk_at dksX1_digest_6 12 rfl rfl)
theorem dX1_digest_155 : decode cX1_digest 155 = .ok (.aload_n 0, 1) := dk_42 (dk_at dksX1_digest_6 15 rfl rfl)
theorem dX1_digest_156 : decode cX1_digest 156 = .ok (.getfield 203, 3) := dk_180 0 203 (dk_at dksX1_digest_6 16 rfl rfl)
theorem dX1_digest_159 : decode cX1_digest 159 = .ok (.getfield 289, 3) := dk_180 1 33 (dk_at dksX1_digest_6 19 rfl rfl)
theorem dX1_digest_162 : decode cX1_digest 162 = .ok (.invokevirtual 343, 3) := dk_182 1 87 (dk_at dksX1_digest_7 0 rfl rfl)
theorem dX1_digest_165 : decode cX1_digest 165 = .ok (.astore 4, 2) := dk_58 4 (dk_at dksX1_digest_7 3 rfl rfl)
theorem dX1_digest_167 : decode cX1_digest 167 = .ok (.aload 4, 2) := dk_25 4 (dk_at dksX1_digest_7 5 rfl rfl)
theorem dX1_digest_169 : decode cX1_digest 169 = .ok (.invokeinterface 347 1, 5) := by decide +kernel
theorem dX1_digest_174 : decode cX1_digest 174 = .ok (.ifCond .eq 31, 3) := dk_153 0 31 (dk_at dksX1_digest_7 12 rfl rfl)
theorem dX1_digest_177 : decode cX1_digest 177 = .ok (.aload 4, 2) := dk_25 4 (dk_at dksX1_digest_7 15 rfl rfl)
theorem dX1_digest_179 : decode cX1_digest 179 = .ok (.invokeinterface 352 1, 5) := by decide +kernel
theorem dX1_digest_184 : decode cX1_digest 184 = .ok (.checkcast 189, 3) := dk_192 0 189 (dk_at dksX1_digest_8 0 rfl rfl)
theorem dX1_digest_187 : decode cX1_digest 187 = .ok (.astore 5, 2) := dk_58 5 (dk_at dksX1_digest_8 3 rfl rfl)
theorem dX1_digest_189 : decode cX1_digest 189 = .ok (.lload_n 1, 1) := dk_31 (dk_at dksX1_digest_8 5 rfl rfl)
theorem dX1_digest_190 : decode cX1_digest 190 = .ok (.ldc2_w 400, 3) := dk_20 1 144 (dk_at dksX1_digest_8 6 rfl rfl)
theorem dX1_digest_193 : decode cX1_digest 193 = .ok (.lmul, 1) := dk_105 (dk_at dksX1_digest_8 9 rfl rfl)
theorem dX1_digest_194 : decode cX1_digest 194 = .ok (.aload 5, 2) := dk_25 5 (dk_at dksX1_digest_8 10 rfl rfl)
theorem dX1_digest_196 : decode cX1_digest 196 = .ok (.iload_n 3, 1) := dk_29 (dk_at dksX1_digest_8 12 rfl rfl)
theorem dX1_digest_197 : decode cX1_digest 197 = .ok (.invokevirtual 376, 3) := dk_182 1 120 (dk_at dksX1_digest_8 13 rfl rfl)
theorem dX1_digest_200 : decode cX1_digest 200 = .ok (.ladd, 1) := dk_97 (dk_at dksX1_digest_8 16 rfl rfl)
theorem dX1_digest_201 : decode cX1_digest 201 = .ok (.lstore_n 1, 1) := dk_64 (dk_at dksX1_digest_8 17 rfl rfl)
theorem dX1_digest_202 : decode cX1_digest 202 = .ok (.goto (-35), 3) := dk_167 255 221 (dk_at dksX1_digest_8 18 rfl rfl)
theorem dX1_digest_205 : decode cX1_digest 205 = .ok (.aload_n 0, 1) := dk_42 (dk_at dksX1_digest_8 21 rfl rfl)
theorem dX1_digest_206 : decode cX1_digest 206 = .ok (.getfield 203, 3) := dk_180 0 203 (dk_at dksX1_digest_9 0 rfl rfl)
theorem dX1_digest_209 : decode cX1_digest 209 = .ok (.getfield 295, 3) := dk_180 1 39 (dk_at dksX1_digest_9 3 rfl rfl)
theorem dX1_digest_212 : decode cX1_digest 212 = .ok (.invokevirtual 343, 3) := dk_182 1 87 (dk_at dksX1_digest_9 6 rfl rfl)
theorem dX1_digest_215 : decode cX1_digest 215 = .ok (.astore 4, 2) := dk_58 4 (dk_at dksX1_digest_9 9 rfl rfl)
theorem dX1_digest_217 : decode cX1_digest 217 = .ok (.aload 4, 2) := dk_25 4 (dk_at dksX1_digest_9 11 rfl rfl)
theorem dX1_digest_219 : decode cX1_digest 219 = .ok (.invokeinterface 347 1, 5) := by decide +kernel
theorem dX1_digest_224 : decode cX1_digest 224 = .ok (.ifCond .eq 34, 3) := dk_153 0 34 (dk_at dksX1_digest_9 18 rfl rfl)
theorem dX1_digest_227 : decode cX1_digest 227 = .ok (.aload 4, 2) := dk_25 4 (dk_at dksX1_digest_9 21 rfl rfl)
theorem dX1_digest_229 : decode cX1_digest 229 = .ok (.invokeinterface 352 1, 5) := by decide +kernel
theorem dX1_digest_234 : decode cX1_digest 234 = .ok (.checkcast 315, 3) := dk_192 1 59 (dk_at dksX1_digest_10 5 rfl rfl)
theorem dX1_digest_237 : decode cX1_digest 237 = .ok (.astore 5, 2) := dk_58 5 (dk_at dksX1_digest_10 8 rfl rfl)
theorem dX1_digest_239 : decode cX1_digest 239 = .ok (.lload_n 1, 1) := dk_31 (dk_at dksX1_digest_10 10 rfl rfl)
theorem dX1_digest_240 : decode cX1_digest 240 = .ok (.ldc2_w 400, 3) := dk_20 1 144 (dk_at dksX1_digest_10 11 rfl rfl)
theorem dX1_digest_243 : decode cX1_digest 243 = .ok (.lmul, 1) := dk_105 (dk_at dksX1_digest_10 14 rfl rfl)
theorem dX1_digest_244 : decode cX1_digest 244 = .ok (.aload 5, 2) := dk_25 5 (dk_at dksX1_digest_10 15 rfl rfl)
theorem dX1_digest_246 : decode cX1_digest 246 = .ok (.getfield 317, 3) := dk_180 1 61 (dk_at dksX1_digest_10 17 rfl rfl)
theorem dX1_digest_249 : decode cX1_digest 249 = .ok (.iload_n 3, 1) := dk_29 (dk_at dksX1_digest_10 20 rfl rfl)
theorem dX1_digest_250 : decode cX1_digest 250 = .ok (.invokevirtual 376, 3) := dk_182 1 120 (dk_at dksX1_digest_10 21 rfl rfl)
theorem dX1_digest_253 : decode cX1_digest 253 = .ok (.ladd, 1) := dk_97 (dk_at dksX1_digest_11 0 rfl rfl)
theorem dX1_digest_254 : decode cX1_digest 254 = .ok (.lstore_n 1, 1) := dk_64 (dk_at dksX1_digest_11 1 rfl rfl)
theorem dX1_digest_255 : decode cX1_digest 255 = .ok (.goto (-38), 3) := dk_167 255 218 (dk_at dksX1_digest_11 2 rfl rfl)
theorem dX1_digest_258 : decode cX1_digest 258 = .ok (.iinc 3 1, 3) := dk_132 3 1 (dk_at dksX1_digest_11 5 rfl rfl)
theorem dX1_digest_261 : decode cX1_digest 261 = .ok (.goto (-228), 3) := dk_167 255 28 (dk_at dksX1_digest_11 8 rfl rfl)
theorem dX1_digest_264 : decode cX1_digest 264 = .ok (.aload_n 0, 1) := dk_42 (dk_at dksX1_digest_11 11 rfl rfl)
theorem dX1_digest_265 : decode cX1_digest 265 = .ok (.getfield 203, 3) := dk_180 0 203 (dk_at dksX1_digest_11 12 rfl rfl)
theorem dX1_digest_268 : decode cX1_digest 268 = .ok (.getfield 295, 3) := dk_180 1 39 (dk_at dksX1_digest_11 15 rfl rfl)
theorem dX1_digest_271 : decode cX1_digest 271 = .ok (.invokevirtual 343, 3) := dk_182 1 87 (dk_at dksX1_digest_11 18 rfl rfl)
theorem dX1_digest_274 : decode cX1_digest 274 = .ok (.astore_n 3, 1) := dk_78 (dk_at dksX1_digest_11 21 rfl rfl)
theorem dX1_digest_275 : decode cX1_digest 275 = .ok (.aload_n 3, 1) := dk_45 (dk_at dksX1_digest_11 22 rfl rfl)
theorem dX1_digest_276 : decode cX1_digest 276 = .ok (.invokeinterface 347 1, 5) := by decide +kernel
theorem dX1_digest_281 : decode cX1_digest 281 = .ok (.ifCond .eq 51, 3) := dk_153 0 51 (dk_at dksX1_digest_12 5 rfl rfl)
theorem dX1_digest_284 : decode cX1_digest 284 = .ok (.aload_n 3, 1) := dk_45 (dk_at dksX1_digest_12 8 rfl rfl)
theorem dX1_digest_285 : decode cX1_digest 285 = .ok (.invokeinterface 352 1, 5) := by decide +kernel
theorem dX1_digest_290 : decode cX1_digest 290 = .ok (.checkcast 315, 3) := dk_192 1 59 (dk_at dksX1_digest_12 14 rfl rfl)
theorem dX1_digest_293 : decode cX1_digest 293 = .ok (.astore 4, 2) := dk_58 4 (dk_at dksX1_digest_12 17 rfl rfl)
theorem dX1_digest_295 : decode cX1_digest 295 = .ok (.iconst 0, 1) := dk_3 (dk_at dksX1_digest_12 19 rfl rfl)
theorem dX1_digest_296 : decode cX1_digest 296 = .ok (.istore 5, 2) := dk_54 5 (dk_at dksX1_digest_12 20 rfl rfl)
theorem dX1_digest_298 : decode cX1_digest 298 = .ok (.iload 5, 2) := dk_21 5 (dk_at dksX1_digest_12 22 rfl rfl)
theorem dX1_digest_300 : decode cX1_digest 300 = .ok (.iconst 5, 1) := dk_8 (dk_at dksX1_digest_13 0 rfl rfl)
theorem dX1_digest_301 : decode cX1_digest 301 = .ok (.if_icmp .ge 28, 3) := dk_162 0 28 (dk_at dksX1_digest_13 1 rfl rfl)
theorem dX1_digest_304 : decode cX1_digest 304 = .ok (.lload_n 1, 1) := dk_31 (dk_at dksX1_digest_13 4 rfl rfl)
theorem dX1_digest_305 : decode cX1_digest 305 = .ok (.ldc2_w 400, 3) := dk_20 1 144 (dk_at dksX1_digest_13 5 rfl rfl)
theorem dX1_digest_308 : decode cX1_digest 308 = .ok (.lmul, 1) := dk_105 (dk_at dksX1_digest_13 8 rfl rfl)
theorem dX1_digest_309 : decode cX1_digest 309 = .ok (.aload 4, 2) := dk_25 4 (dk_at dksX1_digest_13 9 rfl rfl)
theorem dX1_digest_311 : decode cX1_digest 311 = .ok (.iload 5, 2) := dk_21 5 (dk_at dksX1_digest_13 11 rfl rfl)
theorem dX1_digest_313 : decode cX1_digest 313 = .ok (.aload_n 0, 1) := dk_42 (dk_at dksX1_digest_13 13 rfl rfl)
theorem dX1_digest_314 : decode cX1_digest 314 = .ok (.getfield 250, 3) := dk_180 0 250 (dk_at dksX1_digest_13 14 rfl rfl)
theorem dX1_digest_317 : decode cX1_digest 317 = .ok (.invokevirtual 381, 3) := dk_182 1 125 (dk_at dksX1_digest_13 17 rfl rfl)
theorem dX1_digest_320 : decode cX1_digest 320 = .ok (.i2l, 1) := dk_133 (dk_at dksX1_digest_13 20 rfl rfl)
theorem dX1_digest_321 : decode cX1_digest 321 = .ok (.ladd, 1) := dk_97 (dk_at dksX1_digest_13 21 rfl rfl)
theorem dX1_digest_322 : decode cX1_digest 322 = .ok (.lstore_n 1, 1) := dk_64 (dk_at dksX1_digest_13 22 rfl rfl)
theorem dX1_digest_323 : decode cX1_digest 323 = .ok (.iinc 5 1, 3) := dk_132 5 1 (dk_at dksX1_digest_14 0 rfl rfl)
theorem dX1_digest_326 : decode cX1_digest 326 = .ok (.goto (-28), 3) := dk_167 255 228 (dk_at dksX1_digest_14 3 rfl rfl)
theorem dX1_digest_329 : decode cX1_digest 329 = .ok (.goto (-54), 3) := dk_167 255 202 (dk_at dksX1_digest_14 6 rfl rfl)
theorem dX1_digest_332 : decode cX1_digest 332 = .ok (.aload_n 0, 1) := dk_42 (dk_at dksX1_digest_14 9 rfl rfl)
theorem dX1_digest_333 : decode cX1_digest 333 = .ok (.getfield 203, 3) := dk_180 0 203 (dk_at dksX1_digest_14 10 rfl rfl)
theorem dX1_digest_336 : decode cX1_digest 336 = .ok (.getfield 286, 3) := dk_180 1 30 (dk_at dksX1_digest_14 13 rfl rfl)
theorem dX1_digest_339 : decode cX1_digest 339 = .ok (.invokevirtual 343, 3) := dk_182 1 87 (dk_at dksX1_digest_14 16 rfl rfl)
theorem dX1_digest_342 : decode cX1_digest 342 = .ok (.astore_n 3, 1) := dk_78 (dk_at dksX1_digest_14 19 rfl rfl)
theorem dX1_digest_343 : decode cX1_digest 343 = .ok (.aload_n 3, 1) := dk_45 (dk_at dksX1_digest_14 20 rfl rfl)
theorem dX1_digest_344 : decode cX1_digest 344 = .ok (.invokeinterface 347 1, 5) := by decide +kernel
theorem dX1_digest_349 : decode cX1_digest 349 = .ok (.ifCond .eq 29, 3) := dk_153 0 29 (dk_at dksX1_digest_15 5 rfl rfl)
theorem dX1_digest_352 : decode cX1_digest 352 = .ok (.aload_n 3, 1) := dk_45 (dk_at dksX1_digest_15 8 rfl rfl)
theorem dX1_digest_353 : decode cX1_digest 353 = .ok (.invokeinterface 352 1, 5) := by decide +kernel
theorem dX1_digest_358 : decode cX1_digest 358 = .ok (.checkcast 309, 3) := dk_192 1 53 (dk_at dksX1_digest_15 14 rfl rfl)
theorem dX1_digest_361 : decode cX1_digest 361 = .ok (.astore 4, 2) := dk_58 4 (dk_at dksX1_digest_15 17 rfl rfl)
theorem dX1_digest_363 : decode cX1_digest 363 = .ok (.lload_n 1, 1) := dk_31 (dk_at dksX1_digest_15 19 rfl rfl)
theorem dX1_digest_364 : decode cX1_digest 364 = .ok (.ldc2_w 400, 3) := dk_20 1 144 (dk_at dksX1_digest_15 20 rfl rfl)
theorem dX1_digest_367 : decode cX1_digest 367 = .ok (.lmul, 1) := dk_105 (dk_at dksX1_digest_15 23 rfl rfl)
theorem dX1_digest_368 : decode cX1_digest 368 = .ok (.aload 4, 2) := dk_25 4 (dk_at dksX1_digest_16 0 rfl rfl)
theorem dX1_digest_370 : decode cX1_digest 370 = .ok (.getfield 311, 3) := dk_180 1 55 (dk_at dksX1_digest_16 2 rfl rfl)
theorem dX1_digest_373 : decode cX1_digest 373 = .ok (.ladd, 1) := dk_97 (dk_at dksX1_digest_16 5 rfl rfl)
theorem dX1_digest_374 : decode cX1_digest 374 = .ok (.lstore_n 1, 1) := dk_64 (dk_at dksX1_digest_16 6 rfl rfl)
theorem dX1_digest_375 : decode cX1_digest 375 = .ok (.goto (-32), 3) := dk_167 255 224 (dk_at dksX1_digest_16 7 rfl rfl)
theorem dX1_digest_378 : decode cX1_digest 378 = .ok (.lload_n 1, 1) := dk_31 (dk_at dksX1_digest_16 10 rfl rfl)
theorem dX1_digest_379 : decode cX1_digest 379 = .ok (.lreturn, 1) := dk_173 (dk_at dksX1_digest_16 11 rfl rfl)
abbrev cX1_count : ByteArray := prog_1_method_21_code
def yX1_count : MethodName := ⟨RX1, "count", "(I)I"⟩
def dkwX1_count_4 : List UInt8 := [180, 0, 250, 172, 42, 180, 1, 42, 172, 42, 180, 0, 225, 172]
abbrev dktX1_count_4 : List UInt8 := dkwX1_count_4 ++ []
def dkwX1_count_3 : List UInt8 := [180, 0, 203, 180, 1, 36, 182, 0, 164, 172, 42, 180, 0, 203, 180, 1, 39, 182, 0, 164, 172, 42]
abbrev dktX1_count_3 : List UInt8 := dkwX1_count_3 ++ dktX1_count_4
def dkwX1_count_2 : List UInt8 := [42, 180, 0, 203, 180, 1, 30, 182, 0, 164, 172, 42, 180, 0, 203, 180, 1, 33, 182, 0, 164, 172, 42]
abbrev dktX1_count_2 : List UInt8 := dkwX1_count_2 ++ dktX1_count_3
def dkwX1_count_1 : List UInt8 := [170, 0, 0, 0, 91, 0, 0, 0, 0, 0, 0, 0, 5, 0, 0, 0, 37, 0, 0, 0, 48, 0, 0, 0, 59, 0, 0, 0, 70, 0, 0, 0, 81, 0, 0, 0, 86]
abbrev dktX1_count_1 : List UInt8 := dkwX1_count_1 ++ dktX1_count_2
def dkwX1_count_0 : List UInt8 := [27, 16, 7, 184, 1, 26, 27]
abbrev dktX1_count_0 : List UInt8 := dkwX1_count_0 ++ dktX1_count_1
theorem dksX1_count_0 : cX1_count.data.toList.drop 0 = dktX1_count_0 := by decide +kernel
theorem dksX1_count_1 : cX1_count.data.toList.drop 7 = dktX1_count_1 := dk_seg dksX1_count_0 7 rfl rfl
theorem dksX1_count_2 : cX1_count.data.toList.drop 44 = dktX1_count_2 := dk_seg dksX1_count_1 37 rfl rfl
theorem dksX1_count_3 : cX1_count.data.toList.drop 67 = dktX1_count_3 := dk_seg dksX1_count_2 23 rfl rfl
theorem dksX1_count_4 : cX1_count.data.toList.drop 89 = dktX1_count_4 := dk_seg dksX1_count_3 22 rfl rfl
theorem dX1_count_0 : decode cX1_count 0 = .ok (.iload_n 1, 1) := dk_27 (dk_at dksX1_count_0 0 rfl rfl)
theorem dX1_count_1 : decode cX1_count 1 = .ok (.bipush 7, 2) := dk_16 7 (dk_at dksX1_count_0 1 rfl rfl)
theorem dX1_count_3 : decode cX1_count 3 = .ok (.invokestatic 282, 3) := dk_184 1 26 (dk_at dksX1_count_0 3 rfl rfl)
theorem dX1_count_6 : decode cX1_count 6 = .ok (.iload_n 1, 1) := dk_27 (dk_at dksX1_count_0 6 rfl rfl)
theorem dX1_count_7 : decode cX1_count 7 = .ok (.tableswitch 91 0 5 #[37, 48, 59, 70, 81, 86], 37) := by decide +kernel
theorem dX1_count_44 : decode cX1_count 44 = .ok (.aload_n 0, 1) := dk_42 (dk_at dksX1_count_2 0 rfl rfl)
theorem dX1_count_45 : decode cX1_count 45 = .ok (.getfield 203, 3) := dk_180 0 203 (dk_at dksX1_count_2 1 rfl rfl)
theorem dX1_count_48 : decode cX1_count 48 = .ok (.getfield 286, 3) := dk_180 1 30 (dk_at dksX1_count_2 4 rfl rfl)
theorem dX1_count_51 : decode cX1_count 51 = .ok (.invokevirtual 164, 3) := dk_182 0 164 (dk_at dksX1_count_2 7 rfl rfl)
theorem dX1_count_54 : decode cX1_count 54 = .ok (.ireturn, 1) := dk_172 (dk_at dksX1_count_2 10 rfl rfl)
theorem dX1_count_55 : decode cX1_count 55 = .ok (.aload_n 0, 1) := dk_42 (dk_at dksX1_count_2 11 rfl rfl)
theorem dX1_count_56 : decode cX1_count 56 = .ok (.getfield 203, 3) := dk_180 0 203 (dk_at dksX1_count_2 12 rfl rfl)
theorem dX1_count_59 : decode cX1_count 59 = .ok (.getfield 289, 3) := dk_180 1 33 (dk_at dksX1_count_2 15 rfl rfl)
theorem dX1_count_62 : decode cX1_count 62 = .ok (.invokevirtual 164, 3) := dk_182 0 164 (dk_at dksX1_count_2 18 rfl rfl)
theorem dX1_count_65 : decode cX1_count 65 = .ok (.ireturn, 1) := dk_172 (dk_at dksX1_count_2 21 rfl rfl)
theorem dX1_count_66 : decode cX1_count 66 = .ok (.aload_n 0, 1) := dk_42 (dk_at dksX1_count_2 22 rfl rfl)
theorem dX1_count_67 : decode cX1_count 67 = .ok (.getfield 203, 3) := dk_180 0 203 (dk_at dksX1_count_3 0 rfl rfl)
theorem dX1_count_70 : decode cX1_count 70 = .ok (.getfield 292, 3) := dk_180 1 36 (dk_at dksX1_count_3 3 rfl rfl)
theorem dX1_count_73 : decode cX1_count 73 = .ok (.invokevirtual 164, 3) := dk_182 0 164 (dk_at dksX1_count_3 6 rfl rfl)
theorem dX1_count_76 : decode cX1_count 76 = .ok (.ireturn, 1) := dk_172 (dk_at dksX1_count_3 9 rfl rfl)
theorem dX1_count_77 : decode cX1_count 77 = .ok (.aload_n 0, 1) := dk_42 (dk_at dksX1_count_3 10 rfl rfl)
theorem dX1_count_78 : decode cX1_count 78 = .ok (.getfield 203, 3) := dk_180 0 203 (dk_at dksX1_count_3 11 rfl rfl)
theorem dX1_count_81 : decode cX1_count 81 = .ok (.getfield 295, 3) := dk_180 1 39 (dk_at dksX1_count_3 14 rfl rfl)
theorem dX1_count_84 : decode cX1_count 84 = .ok (.invokevirtual 164, 3) := dk_182 0 164 (dk_at dksX1_count_3 17 rfl rfl)
theorem dX1_count_87 : decode cX1_count 87 = .ok (.ireturn, 1) := dk_172 (dk_at dksX1_count_3 20 rfl rfl)
theorem dX1_count_88 : decode cX1_count 88 = .ok (.aload_n 0, 1) := dk_42 (dk_at dksX1_count_3 21 rfl rfl)
theorem dX1_count_89 : decode cX1_count 89 = .ok (.getfield 250, 3) := dk_180 0 250 (dk_at dksX1_count_4 0 rfl rfl)
theorem dX1_count_92 : decode cX1_count 92 = .ok (.ireturn, 1) := dk_172 (dk_at dksX1_count_4 3 rfl rfl)
theorem dX1_count_93 : decode cX1_count 93 = .ok (.aload_n 0, 1) := dk_42 (dk_at dksX1_count_4 4 rfl rfl)
theorem dX1_count_94 : decode cX1_count 94 = .ok (.getfield 298, 3) := dk_180 1 42 (dk_at dksX1_count_4 5 rfl rfl)
theorem dX1_count_97 : decode cX1_count 97 = .ok (.ireturn, 1) := dk_172 (dk_at dksX1_count_4 8 rfl rfl)
theorem dX1_count_98 : decode cX1_count 98 = .ok (.aload_n 0, 1) := dk_42 (dk_at dksX1_count_4 9 rfl rfl)
theorem dX1_count_99 : decode cX1_count 99 = .ok (.getfield 225, 3) := dk_180 0 225 (dk_at dksX1_count_4 10 rfl rfl)
theorem dX1_count_102 : decode cX1_count 102 = .ok (.ireturn, 1) := dk_172 (dk_at dksX1_count_4 13 rfl rfl)
abbrev cX1_requireIndex : ByteArray := prog_1_method_3_code
def yX1_requireIndex : MethodName := ⟨RX1, "requireIndex", "(II)V"⟩
def dkwX1_requireIndex_0 : List UInt8 := [26, 155, 0, 8, 26, 27, 161, 0, 11, 187, 0, 10, 89, 183, 0, 12, 191, 177]
abbrev dktX1_requireIndex_0 : List UInt8 := dkwX1_requireIndex_0 ++ []
theorem dksX1_requireIndex_0 : cX1_requireIndex.data.toList.drop 0 = dktX1_requireIndex_0 := by decide +kernel
theorem dX1_requireIndex_0 : decode cX1_requireIndex 0 = .ok (.iload_n 0, 1) := dk_26 (dk_at dksX1_requireIndex_0 0 rfl rfl)
theorem dX1_requireIndex_1 : decode cX1_requireIndex 1 = .ok (.ifCond .lt 8, 3) := dk_155 0 8 (dk_at dksX1_requireIndex_0 1 rfl rfl)
theorem dX1_requireIndex_4 : decode cX1_requireIndex 4 = .ok (.iload_n 0, 1) := dk_26 (dk_at dksX1_requireIndex_0 4 rfl rfl)
theorem dX1_requireIndex_5 : decode cX1_requireIndex 5 = .ok (.iload_n 1, 1) := dk_27 (dk_at dksX1_requireIndex_0 5 rfl rfl)
theorem dX1_requireIndex_6 : decode cX1_requireIndex 6 = .ok (.if_icmp .lt 11, 3) := dk_161 0 11 (dk_at dksX1_requireIndex_0 6 rfl rfl)
theorem dX1_requireIndex_9 : decode cX1_requireIndex 9 = .ok (.new 10, 3) := dk_187 0 10 (dk_at dksX1_requireIndex_0 9 rfl rfl)
theorem dX1_requireIndex_12 : decode cX1_requireIndex 12 = .ok (.dup, 1) := dk_89 (dk_at dksX1_requireIndex_0 12 rfl rfl)
theorem dX1_requireIndex_13 : decode cX1_requireIndex 13 = .ok (.invokespecial 12, 3) := dk_183 0 12 (dk_at dksX1_requireIndex_0 13 rfl rfl)
theorem dX1_requireIndex_16 : decode cX1_requireIndex 16 = .ok (.athrow, 1) := dk_191 (dk_at dksX1_requireIndex_0 16 rfl rfl)
theorem dX1_requireIndex_17 : decode cX1_requireIndex 17 = .ok (.return_, 1) := dk_177 (dk_at dksX1_requireIndex_0 17 rfl rfl)
abbrev cX1_feed : ByteArray := prog_1_method_16_code
def yX1_feed : MethodName := ⟨RX1, "feed", "(IIIII)I"⟩
def dkwX1_feed_2 : List UInt8 := [182, 0, 232, 42, 180, 0, 225, 172]
abbrev dktX1_feed_2 : List UInt8 := dkwX1_feed_2 ++ []
def dkwX1_feed_1 : List UInt8 := [182, 0, 232, 42, 28, 182, 0, 232, 42, 29, 182, 0, 232, 42, 21, 4, 182, 0, 232, 42, 21, 5]
abbrev dktX1_feed_1 : List UInt8 := dkwX1_feed_1 ++ dktX1_feed_2
def dkwX1_feed_0 : List UInt8 := [42, 180, 0, 225, 16, 20, 96, 17, 7, 8, 163, 0, 7, 4, 167, 0, 4, 3, 184, 0, 228, 42, 27]
abbrev dktX1_feed_0 : List UInt8 := dkwX1_feed_0 ++ dktX1_feed_1
theorem dksX1_feed_0 : cX1_feed.data.toList.drop 0 = dktX1_feed_0 := by decide +kernel
theorem dksX1_feed_1 : cX1_feed.data.toList.drop 23 = dktX1_feed_1 := dk_seg dksX1_feed_0 23 rfl rfl
theorem dksX1_feed_2 : cX1_feed.data.toList.drop 45 = dktX1_feed_2 := dk_seg dksX1_feed_1 22 rfl rfl
theorem dX1_feed_0 : decode cX1_feed 0 = .ok (.aload_n 0, 1) := dk_42 (dk_at dksX1_feed_0 0 rfl rfl)
theorem dX1_feed_1 : decode cX1_feed 1 = .ok (.getfield 225, 3) := dk_180 0 225 (dk_at dksX1_feed_0 1 rfl rfl)
theorem dX1_feed_4 : decode cX1_feed 4 = .ok (.bipush 20, 2) := dk_16 20 (dk_at dksX1_feed_0 4 rfl rfl)
theorem dX1_feed_6 : decode cX1_feed 6 = .ok (.iadd, 1) := dk_96 (dk_at dksX1_feed_0 6 rfl rfl)
theorem dX1_feed_7 : decode cX1_feed 7 = .ok (.sipush 1800, 3) := dk_17 7 8 (dk_at dksX1_feed_0 7 rfl rfl)
theorem dX1_feed_10 : decode cX1_feed 10 = .ok (.if_icmp .gt 7, 3) := dk_163 0 7 (dk_at dksX1_feed_0 10 rfl rfl)
theorem dX1_feed_13 : decode cX1_feed 13 = .ok (.iconst 1, 1) := dk_4 (dk_at dksX1_feed_0 13 rfl rfl)
theorem dX1_feed_14 : decode cX1_feed 14 = .ok (.goto 4, 3) := dk_167 0 4 (dk_at dksX1_feed_0 14 rfl rfl)
theorem dX1_feed_17 : decode cX1_feed 17 = .ok (.iconst 0, 1) := dk_3 (dk_at dksX1_feed_0 17 rfl rfl)
theorem dX1_feed_18 : decode cX1_feed 18 = .ok (.invokestatic 228, 3) := dk_184 0 228 (dk_at dksX1_feed_0 18 rfl rfl)
theorem dX1_feed_21 : decode cX1_feed 21 = .ok (.aload_n 0, 1) := dk_42 (dk_at dksX1_feed_0 21 rfl rfl)
theorem dX1_feed_22 : decode cX1_feed 22 = .ok (.iload_n 1, 1) := dk_27 (dk_at dksX1_feed_0 22 rfl rfl)
theorem dX1_feed_23 : decode cX1_feed 23 = .ok (.invokevirtual 232, 3) := dk_182 0 232 (dk_at dksX1_feed_1 0 rfl rfl)
theorem dX1_feed_26 : decode cX1_feed 26 = .ok (.aload_n 0, 1) := dk_42 (dk_at dksX1_feed_1 3 rfl rfl)
theorem dX1_feed_27 : decode cX1_feed 27 = .ok (.iload_n 2, 1) := dk_28 (dk_at dksX1_feed_1 4 rfl rfl)
theorem dX1_feed_28 : decode cX1_feed 28 = .ok (.invokevirtual 232, 3) := dk_182 0 232 (dk_at dksX1_feed_1 5 rfl rfl)
theorem dX1_feed_31 : decode cX1_feed 31 = .ok (.aload_n 0, 1) := dk_42 (dk_at dksX1_feed_1 8 rfl rfl)
theorem dX1_feed_32 : decode cX1_feed 32 = .ok (.iload_n 3, 1) := dk_29 (dk_at dksX1_feed_1 9 rfl rfl)
theorem dX1_feed_33 : decode cX1_feed 33 = .ok (.invokevirtual 232, 3) := dk_182 0 232 (dk_at dksX1_feed_1 10 rfl rfl)
theorem dX1_feed_36 : decode cX1_feed 36 = .ok (.aload_n 0, 1) := dk_42 (dk_at dksX1_feed_1 13 rfl rfl)
theorem dX1_feed_37 : decode cX1_feed 37 = .ok (.iload 4, 2) := dk_21 4 (dk_at dksX1_feed_1 14 rfl rfl)
theorem dX1_feed_39 : decode cX1_feed 39 = .ok (.invokevirtual 232, 3) := dk_182 0 232 (dk_at dksX1_feed_1 16 rfl rfl)
theorem dX1_feed_42 : decode cX1_feed 42 = .ok (.aload_n 0, 1) := dk_42 (dk_at dksX1_feed_1 19 rfl rfl)
theorem dX1_feed_43 : decode cX1_feed 43 = .ok (.iload 5, 2) := dk_21 5 (dk_at dksX1_feed_1 20 rfl rfl)
theorem dX1_feed_45 : decode cX1_feed 45 = .ok (.invokevirtual 232, 3) := dk_182 0 232 (dk_at dksX1_feed_2 0 rfl rfl)
theorem dX1_feed_48 : decode cX1_feed 48 = .ok (.aload_n 0, 1) := dk_42 (dk_at dksX1_feed_2 3 rfl rfl)
theorem dX1_feed_49 : decode cX1_feed 49 = .ok (.getfield 225, 3) := dk_180 0 225 (dk_at dksX1_feed_2 4 rfl rfl)
theorem dX1_feed_52 : decode cX1_feed 52 = .ok (.ireturn, 1) := dk_172 (dk_at dksX1_feed_2 7 rfl rfl)
abbrev cX1_requireState : ByteArray := prog_1_method_2_code
def yX1_requireState : MethodName := ⟨RX1, "requireState", "(Z)V"⟩
def dkwX1_requireState_0 : List UInt8 := [26, 154, 0, 11, 187, 0, 7, 89, 183, 0, 9, 191, 177]
abbrev dktX1_requireState_0 : List UInt8 := dkwX1_requireState_0 ++ []
theorem dksX1_requireState_0 : cX1_requireState.data.toList.drop 0 = dktX1_requireState_0 := by decide +kernel
theorem dX1_requireState_0 : decode cX1_requireState 0 = .ok (.iload_n 0, 1) := dk_26 (dk_at dksX1_requireState_0 0 rfl rfl)
theorem dX1_requireState_1 : decode cX1_requireState 1 = .ok (.ifCond .ne 11, 3) := dk_154 0 11 (dk_at dksX1_requireState_0 1 rfl rfl)
theorem dX1_requireState_4 : decode cX1_requireState 4 = .ok (.new 7, 3) := dk_187 0 7 (dk_at dksX1_requireState_0 4 rfl rfl)
theorem dX1_requireState_7 : decode cX1_requireState 7 = .ok (.dup, 1) := dk_89 (dk_at dksX1_requireState_0 7 rfl rfl)
theorem dX1_requireState_8 : decode cX1_requireState 8 = .ok (.invokespecial 9, 3) := dk_183 0 9 (dk_at dksX1_requireState_0 8 rfl rfl)
theorem dX1_requireState_11 : decode cX1_requireState 11 = .ok (.athrow, 1) := dk_191 (dk_at dksX1_requireState_0 11 rfl rfl)
theorem dX1_requireState_12 : decode cX1_requireState 12 = .ok (.return_, 1) := dk_177 (dk_at dksX1_requireState_0 12 rfl rfl)
abbrev cX1_put : ByteArray := prog_1_method_15_code
def yX1_put : MethodName := ⟨RX1, "put", "(I)V"⟩
def dkwX1_put_1 : List UInt8 := [180, 0, 225, 4, 96, 181, 0, 225, 132, 2, 248, 167, 255, 226, 177]
abbrev dktX1_put_1 : List UInt8 := dkwX1_put_1 ++ []
def dkwX1_put_0 : List UInt8 := [16, 24, 61, 28, 155, 0, 32, 42, 180, 0, 196, 42, 180, 0, 225, 27, 28, 122, 145, 84, 42, 89]
abbrev dktX1_put_0 : List UInt8 := dkwX1_put_0 ++ dktX1_put_1
theorem dksX1_put_0 : cX1_put.data.toList.drop 0 = dktX1_put_0 := by decide +kernel
theorem dksX1_put_1 : cX1_put.data.toList.drop 22 = dktX1_put_1 := dk_seg dksX1_put_0 22 rfl rfl
theorem dX1_put_0 : decode cX1_put 0 = .ok (.bipush 24, 2) := dk_16 24 (dk_at dksX1_put_0 0 rfl rfl)
theorem dX1_put_2 : decode cX1_put 2 = .ok (.istore_n 2, 1) := dk_61 (dk_at dksX1_put_0 2 rfl rfl)
theorem dX1_put_3 : decode cX1_put 3 = .ok (.iload_n 2, 1) := dk_28 (dk_at dksX1_put_0 3 rfl rfl)
theorem dX1_put_4 : decode cX1_put 4 = .ok (.ifCond .lt 32, 3) := dk_155 0 32 (dk_at dksX1_put_0 4 rfl rfl)
theorem dX1_put_7 : decode cX1_put 7 = .ok (.aload_n 0, 1) := dk_42 (dk_at dksX1_put_0 7 rfl rfl)
theorem dX1_put_8 : decode cX1_put 8 = .ok (.getfield 196, 3) := dk_180 0 196 (dk_at dksX1_put_0 8 rfl rfl)
theorem dX1_put_11 : decode cX1_put 11 = .ok (.aload_n 0, 1) := dk_42 (dk_at dksX1_put_0 11 rfl rfl)
theorem dX1_put_12 : decode cX1_put 12 = .ok (.getfield 225, 3) := dk_180 0 225 (dk_at dksX1_put_0 12 rfl rfl)
theorem dX1_put_15 : decode cX1_put 15 = .ok (.iload_n 1, 1) := dk_27 (dk_at dksX1_put_0 15 rfl rfl)
theorem dX1_put_16 : decode cX1_put 16 = .ok (.iload_n 2, 1) := dk_28 (dk_at dksX1_put_0 16 rfl rfl)
theorem dX1_put_17 : decode cX1_put 17 = .ok (.ishr, 1) := dk_122 (dk_at dksX1_put_0 17 rfl rfl)
theorem dX1_put_18 : decode cX1_put 18 = .ok (.i2b, 1) := dk_145 (dk_at dksX1_put_0 18 rfl rfl)
theorem dX1_put_19 : decode cX1_put 19 = .ok (.bastore, 1) := dk_84 (dk_at dksX1_put_0 19 rfl rfl)
theorem dX1_put_20 : decode cX1_put 20 = .ok (.aload_n 0, 1) := dk_42 (dk_at dksX1_put_0 20 rfl rfl)
theorem dX1_put_21 : decode cX1_put 21 = .ok (.dup, 1) := dk_89 (dk_at dksX1_put_0 21 rfl rfl)
theorem dX1_put_22 : decode cX1_put 22 = .ok (.getfield 225, 3) := dk_180 0 225 (dk_at dksX1_put_1 0 rfl rfl)
theorem dX1_put_25 : decode cX1_put 25 = .ok (.iconst 1, 1) := dk_4 (dk_at dksX1_put_1 3 rfl rfl)
theorem dX1_put_26 : decode cX1_put 26 = .ok (.iadd, 1) := dk_96 (dk_at dksX1_put_1 4 rfl rfl)
theorem dX1_put_27 : decode cX1_put 27 = .ok (.putfield 225, 3) := dk_181 0 225 (dk_at dksX1_put_1 5 rfl rfl)
theorem dX1_put_30 : decode cX1_put 30 = .ok (.iinc 2 (-8), 3) := dk_132 2 248 (dk_at dksX1_put_1 8 rfl rfl)
theorem dX1_put_33 : decode cX1_put 33 = .ok (.goto (-30), 3) := dk_167 255 226 (dk_at dksX1_put_1 11 rfl rfl)
theorem dX1_put_36 : decode cX1_put 36 = .ok (.return_, 1) := dk_177 (dk_at dksX1_put_1 14 rfl rfl)
abbrev cX1_trim : ByteArray := prog_1_method_17_code
def yX1_trim : MethodName := ⟨RX1, "trim", "(I)I"⟩
def dkwX1_trim_1 : List UInt8 := [181, 0, 225, 27, 172]
abbrev dktX1_trim_1 : List UInt8 := dkwX1_trim_1 ++ []
def dkwX1_trim_0 : List UInt8 := [27, 155, 0, 15, 27, 42, 180, 0, 225, 163, 0, 7, 4, 167, 0, 4, 3, 184, 0, 236, 42, 27]
abbrev dktX1_trim_0 : List UInt8 := dkwX1_trim_0 ++ dktX1_trim_1
theorem dksX1_trim_0 : cX1_trim.data.toList.drop 0 = dktX1_trim_0 := by decide +kernel
theorem dksX1_trim_1 : cX1_trim.data.toList.drop 22 = dktX1_trim_1 := dk_seg dksX1_trim_0 22 rfl rfl
theorem dX1_trim_0 : decode cX1_trim 0 = .ok (.iload_n 1, 1) := dk_27 (dk_at dksX1_trim_0 0 rfl rfl)
theorem dX1_trim_1 : decode cX1_trim 1 = .ok (.ifCond .lt 15, 3) := dk_155 0 15 (dk_at dksX1_trim_0 1 rfl rfl)
theorem dX1_trim_4 : decode cX1_trim 4 = .ok (.iload_n 1, 1) := dk_27 (dk_at dksX1_trim_0 4 rfl rfl)
theorem dX1_trim_5 : decode cX1_trim 5 = .ok (.aload_n 0, 1) := dk_42 (dk_at dksX1_trim_0 5 rfl rfl)
theorem dX1_trim_6 : decode cX1_trim 6 = .ok (.getfield 225, 3) := dk_180 0 225 (dk_at dksX1_trim_0 6 rfl rfl)
theorem dX1_trim_9 : decode cX1_trim 9 = .ok (.if_icmp .gt 7, 3) := dk_163 0 7 (dk_at dksX1_trim_0 9 rfl rfl)
theorem dX1_trim_12 : decode cX1_trim 12 = .ok (.iconst 1, 1) := dk_4 (dk_at dksX1_trim_0 12 rfl rfl)
theorem dX1_trim_13 : decode cX1_trim 13 = .ok (.goto 4, 3) := dk_167 0 4 (dk_at dksX1_trim_0 13 rfl rfl)
theorem dX1_trim_16 : decode cX1_trim 16 = .ok (.iconst 0, 1) := dk_3 (dk_at dksX1_trim_0 16 rfl rfl)
theorem dX1_trim_17 : decode cX1_trim 17 = .ok (.invokestatic 236, 3) := dk_184 0 236 (dk_at dksX1_trim_0 17 rfl rfl)
theorem dX1_trim_20 : decode cX1_trim 20 = .ok (.aload_n 0, 1) := dk_42 (dk_at dksX1_trim_0 20 rfl rfl)
theorem dX1_trim_21 : decode cX1_trim 21 = .ok (.iload_n 1, 1) := dk_27 (dk_at dksX1_trim_0 21 rfl rfl)
theorem dX1_trim_22 : decode cX1_trim 22 = .ok (.putfield 225, 3) := dk_181 0 225 (dk_at dksX1_trim_1 0 rfl rfl)
theorem dX1_trim_25 : decode cX1_trim 25 = .ok (.iload_n 1, 1) := dk_27 (dk_at dksX1_trim_1 3 rfl rfl)
theorem dX1_trim_26 : decode cX1_trim 26 = .ok (.ireturn, 1) := dk_172 (dk_at dksX1_trim_1 4 rfl rfl)
abbrev cX1_require : ByteArray := prog_1_method_1_code
def yX1_require : MethodName := ⟨RX1, "require", "(Z)V"⟩
def dkwX1_require_0 : List UInt8 := [26, 154, 0, 11, 187, 0, 1, 89, 183, 0, 3, 191, 177]
abbrev dktX1_require_0 : List UInt8 := dkwX1_require_0 ++ []
theorem dksX1_require_0 : cX1_require.data.toList.drop 0 = dktX1_require_0 := by decide +kernel
theorem dX1_require_0 : decode cX1_require 0 = .ok (.iload_n 0, 1) := dk_26 (dk_at dksX1_require_0 0 rfl rfl)
theorem dX1_require_1 : decode cX1_require 1 = .ok (.ifCond .ne 11, 3) := dk_154 0 11 (dk_at dksX1_require_0 1 rfl rfl)
theorem dX1_require_4 : decode cX1_require 4 = .ok (.new 1, 3) := dk_187 0 1 (dk_at dksX1_require_0 4 rfl rfl)
theorem dX1_require_7 : decode cX1_require 7 = .ok (.dup, 1) := dk_89 (dk_at dksX1_require_0 7 rfl rfl)
theorem dX1_require_8 : decode cX1_require 8 = .ok (.invokespecial 3, 3) := dk_183 0 3 (dk_at dksX1_require_0 8 rfl rfl)
theorem dX1_require_11 : decode cX1_require 11 = .ok (.athrow, 1) := dk_191 (dk_at dksX1_require_0 11 rfl rfl)
theorem dX1_require_12 : decode cX1_require 12 = .ok (.return_, 1) := dk_177 (dk_at dksX1_require_0 12 rfl rfl)
abbrev cX1_set : ByteArray := prog_1_method_23_code
def yX1_set : MethodName := ⟨RX1, "set", "(IJ)J"⟩
def dkwX1_set_1 : List UInt8 := [182, 1, 49, 192, 1, 53, 58, 4, 25, 4, 180, 1, 55, 55, 5, 25, 4, 32, 181, 1, 55, 22, 5, 173]
abbrev dktX1_set_1 : List UInt8 := dkwX1_set_1 ++ []
def dkwX1_set_0 : List UInt8 := [27, 42, 180, 0, 203, 180, 1, 30, 182, 0, 164, 184, 1, 26, 42, 180, 0, 203, 180, 1, 30, 27]
abbrev dktX1_set_0 : List UInt8 := dkwX1_set_0 ++ dktX1_set_1
theorem dksX1_set_0 : cX1_set.data.toList.drop 0 = dktX1_set_0 := by decide +kernel
theorem dksX1_set_1 : cX1_set.data.toList.drop 22 = dktX1_set_1 := dk_seg dksX1_set_0 22 rfl rfl
theorem dX1_set_0 : decode cX1_set 0 = .ok (.iload_n 1, 1) := dk_27 (dk_at dksX1_set_0 0 rfl rfl)
theorem dX1_set_1 : decode cX1_set 1 = .ok (.aload_n 0, 1) := dk_42 (dk_at dksX1_set_0 1 rfl rfl)
theorem dX1_set_2 : decode cX1_set 2 = .ok (.getfield 203, 3) := dk_180 0 203 (dk_at dksX1_set_0 2 rfl rfl)
theorem dX1_set_5 : decode cX1_set 5 = .ok (.getfield 286, 3) := dk_180 1 30 (dk_at dksX1_set_0 5 rfl rfl)
theorem dX1_set_8 : decode cX1_set 8 = .ok (.invokevirtual 164, 3) := dk_182 0 164 (dk_at dksX1_set_0 8 rfl rfl)
theorem dX1_set_11 : decode cX1_set 11 = .ok (.invokestatic 282, 3) := dk_184 1 26 (dk_at dksX1_set_0 11 rfl rfl)
theorem dX1_set_14 : decode cX1_set 14 = .ok (.aload_n 0, 1) := dk_42 (dk_at dksX1_set_0 14 rfl rfl)
theorem dX1_set_15 : decode cX1_set 15 = .ok (.getfield 203, 3) := dk_180 0 203 (dk_at dksX1_set_0 15 rfl rfl)
theorem dX1_set_18 : decode cX1_set 18 = .ok (.getfield 286, 3) := dk_180 1 30 (dk_at dksX1_set_0 18 rfl rfl)
theorem dX1_set_21 : decode cX1_set 21 = .ok (.iload_n 1, 1) := dk_27 (dk_at dksX1_set_0 21 rfl rfl)
theorem dX1_set_22 : decode cX1_set 22 = .ok (.invokevirtual 305, 3) := dk_182 1 49 (dk_at dksX1_set_1 0 rfl rfl)
theorem dX1_set_25 : decode cX1_set 25 = .ok (.checkcast 309, 3) := dk_192 1 53 (dk_at dksX1_set_1 3 rfl rfl)
theorem dX1_set_28 : decode cX1_set 28 = .ok (.astore 4, 2) := dk_58 4 (dk_at dksX1_set_1 6 rfl rfl)
theorem dX1_set_30 : decode cX1_set 30 = .ok (.aload 4, 2) := dk_25 4 (dk_at dksX1_set_1 8 rfl rfl)
theorem dX1_set_32 : decode cX1_set 32 = .ok (.getfield 311, 3) := dk_180 1 55 (dk_at dksX1_set_1 10 rfl rfl)
theorem dX1_set_35 : decode cX1_set 35 = .ok (.lstore 5, 2) := dk_55 5 (dk_at dksX1_set_1 13 rfl rfl)
theorem dX1_set_37 : decode cX1_set 37 = .ok (.aload 4, 2) := dk_25 4 (dk_at dksX1_set_1 15 rfl rfl)
theorem dX1_set_39 : decode cX1_set 39 = .ok (.lload_n 2, 1) := dk_32 (dk_at dksX1_set_1 17 rfl rfl)
theorem dX1_set_40 : decode cX1_set 40 = .ok (.putfield 311, 3) := dk_181 1 55 (dk_at dksX1_set_1 18 rfl rfl)
theorem dX1_set_43 : decode cX1_set 43 = .ok (.lload 5, 2) := dk_22 5 (dk_at dksX1_set_1 21 rfl rfl)
theorem dX1_set_45 : decode cX1_set 45 = .ok (.lreturn, 1) := dk_173 (dk_at dksX1_set_1 23 rfl rfl)
abbrev cX1_tick : ByteArray := prog_1_method_28_code
def yX1_tick : MethodName := ⟨RX1, "tick", "(I)I"⟩
def dkwX1_tick_2 : List UInt8 := [182, 1, 82, 27, 96, 182, 1, 85, 172]
abbrev dktX1_tick_2 : List UInt8 := dkwX1_tick_2 ++ []
def dkwX1_tick_1 : List UInt8 := [153, 0, 16, 42, 180, 0, 250, 16, 120, 162, 0, 7, 4, 167, 0, 4, 3, 184, 0, 228, 42, 42]
abbrev dktX1_tick_1 : List UInt8 := dkwX1_tick_1 ++ dktX1_tick_2
def dkwX1_tick_0 : List UInt8 := [27, 155, 0, 14, 27, 17, 3, 232, 163, 0, 7, 4, 167, 0, 4, 3, 184, 0, 236, 42, 182, 1, 79]
abbrev dktX1_tick_0 : List UInt8 := dkwX1_tick_0 ++ dktX1_tick_1
theorem dksX1_tick_0 : cX1_tick.data.toList.drop 0 = dktX1_tick_0 := by decide +kernel
theorem dksX1_tick_1 : cX1_tick.data.toList.drop 23 = dktX1_tick_1 := dk_seg dksX1_tick_0 23 rfl rfl
theorem dksX1_tick_2 : cX1_tick.data.toList.drop 45 = dktX1_tick_2 := dk_seg dksX1_tick_1 22 rfl rfl
theorem dX1_tick_0 : decode cX1_tick 0 = .ok (.iload_n 1, 1) := dk_27 (dk_at dksX1_tick_0 0 rfl rfl)
theorem dX1_tick_1 : decode cX1_tick 1 = .ok (.ifCond .lt 14, 3) := dk_155 0 14 (dk_at dksX1_tick_0 1 rfl rfl)
theorem dX1_tick_4 : decode cX1_tick 4 = .ok (.iload_n 1, 1) := dk_27 (dk_at dksX1_tick_0 4 rfl rfl)
theorem dX1_tick_5 : decode cX1_tick 5 = .ok (.sipush 1000, 3) := dk_17 3 232 (dk_at dksX1_tick_0 5 rfl rfl)
theorem dX1_tick_8 : decode cX1_tick 8 = .ok (.if_icmp .gt 7, 3) := dk_163 0 7 (dk_at dksX1_tick_0 8 rfl rfl)
theorem dX1_tick_11 : decode cX1_tick 11 = .ok (.iconst 1, 1) := dk_4 (dk_at dksX1_tick_0 11 rfl rfl)
theorem dX1_tick_12 : decode cX1_tick 12 = .ok (.goto 4, 3) := dk_167 0 4 (dk_at dksX1_tick_0 12 rfl rfl)
theorem dX1_tick_15 : decode cX1_tick 15 = .ok (.iconst 0, 1) := dk_3 (dk_at dksX1_tick_0 15 rfl rfl)
theorem dX1_tick_16 : decode cX1_tick 16 = .ok (.invokestatic 236, 3) := dk_184 0 236 (dk_at dksX1_tick_0 16 rfl rfl)
theorem dX1_tick_19 : decode cX1_tick 19 = .ok (.aload_n 0, 1) := dk_42 (dk_at dksX1_tick_0 19 rfl rfl)
theorem dX1_tick_20 : decode cX1_tick 20 = .ok (.invokevirtual 335, 3) := dk_182 1 79 (dk_at dksX1_tick_0 20 rfl rfl)
theorem dX1_tick_23 : decode cX1_tick 23 = .ok (.ifCond .eq 16, 3) := dk_153 0 16 (dk_at dksX1_tick_1 0 rfl rfl)
theorem dX1_tick_26 : decode cX1_tick 26 = .ok (.aload_n 0, 1) := dk_42 (dk_at dksX1_tick_1 3 rfl rfl)
theorem dX1_tick_27 : decode cX1_tick 27 = .ok (.getfield 250, 3) := dk_180 0 250 (dk_at dksX1_tick_1 4 rfl rfl)
theorem dX1_tick_30 : decode cX1_tick 30 = .ok (.bipush 120, 2) := dk_16 120 (dk_at dksX1_tick_1 7 rfl rfl)
theorem dX1_tick_32 : decode cX1_tick 32 = .ok (.if_icmp .ge 7, 3) := dk_162 0 7 (dk_at dksX1_tick_1 9 rfl rfl)
theorem dX1_tick_35 : decode cX1_tick 35 = .ok (.iconst 1, 1) := dk_4 (dk_at dksX1_tick_1 12 rfl rfl)
theorem dX1_tick_36 : decode cX1_tick 36 = .ok (.goto 4, 3) := dk_167 0 4 (dk_at dksX1_tick_1 13 rfl rfl)
theorem dX1_tick_39 : decode cX1_tick 39 = .ok (.iconst 0, 1) := dk_3 (dk_at dksX1_tick_1 16 rfl rfl)
theorem dX1_tick_40 : decode cX1_tick 40 = .ok (.invokestatic 228, 3) := dk_184 0 228 (dk_at dksX1_tick_1 17 rfl rfl)
theorem dX1_tick_43 : decode cX1_tick 43 = .ok (.aload_n 0, 1) := dk_42 (dk_at dksX1_tick_1 20 rfl rfl)
theorem dX1_tick_44 : decode cX1_tick 44 = .ok (.aload_n 0, 1) := dk_42 (dk_at dksX1_tick_1 21 rfl rfl)
theorem dX1_tick_45 : decode cX1_tick 45 = .ok (.invokevirtual 338, 3) := dk_182 1 82 (dk_at dksX1_tick_2 0 rfl rfl)
theorem dX1_tick_48 : decode cX1_tick 48 = .ok (.iload_n 1, 1) := dk_27 (dk_at dksX1_tick_2 3 rfl rfl)
theorem dX1_tick_49 : decode cX1_tick 49 = .ok (.iadd, 1) := dk_96 (dk_at dksX1_tick_2 4 rfl rfl)
theorem dX1_tick_50 : decode cX1_tick 50 = .ok (.invokevirtual 341, 3) := dk_182 1 85 (dk_at dksX1_tick_2 5 rfl rfl)
theorem dX1_tick_53 : decode cX1_tick 53 = .ok (.ireturn, 1) := dk_172 (dk_at dksX1_tick_2 8 rfl rfl)
abbrev cX1_isProgram : ByteArray := prog_1_method_22_code
def yX1_isProgram : MethodName := ⟨RX1, "isProgram", "()Z"⟩
def dkwX1_isProgram_0 : List UInt8 := [42, 180, 0, 203, 180, 1, 39, 182, 1, 45, 154, 0, 7, 4, 167, 0, 4, 3, 172]
abbrev dktX1_isProgram_0 : List UInt8 := dkwX1_isProgram_0 ++ []
theorem dksX1_isProgram_0 : cX1_isProgram.data.toList.drop 0 = dktX1_isProgram_0 := by decide +kernel
theorem dX1_isProgram_0 : decode cX1_isProgram 0 = .ok (.aload_n 0, 1) := dk_42 (dk_at dksX1_isProgram_0 0 rfl rfl)
theorem dX1_isProgram_1 : decode cX1_isProgram 1 = .ok (.getfield 203, 3) := dk_180 0 203 (dk_at dksX1_isProgram_0 1 rfl rfl)
theorem dX1_isProgram_4 : decode cX1_isProgram 4 = .ok (.getfield 295, 3) := dk_180 1 39 (dk_at dksX1_isProgram_0 4 rfl rfl)
theorem dX1_isProgram_7 : decode cX1_isProgram 7 = .ok (.invokevirtual 301, 3) := dk_182 1 45 (dk_at dksX1_isProgram_0 7 rfl rfl)
theorem dX1_isProgram_10 : decode cX1_isProgram 10 = .ok (.ifCond .ne 7, 3) := dk_154 0 7 (dk_at dksX1_isProgram_0 10 rfl rfl)
theorem dX1_isProgram_13 : decode cX1_isProgram 13 = .ok (.iconst 1, 1) := dk_4 (dk_at dksX1_isProgram_0 13 rfl rfl)
theorem dX1_isProgram_14 : decode cX1_isProgram 14 = .ok (.goto 4, 3) := dk_167 0 4 (dk_at dksX1_isProgram_0 14 rfl rfl)
theorem dX1_isProgram_17 : decode cX1_isProgram 17 = .ok (.iconst 0, 1) := dk_3 (dk_at dksX1_isProgram_0 17 rfl rfl)
theorem dX1_isProgram_18 : decode cX1_isProgram 18 = .ok (.ireturn, 1) := dk_172 (dk_at dksX1_isProgram_0 18 rfl rfl)
abbrev cX1_lastTime : ByteArray := prog_1_method_27_code
def yX1_lastTime : MethodName := ⟨RX1, "lastTime", "()I"⟩
def dkwX1_lastTime_0 : List UInt8 := [42, 180, 0, 250, 154, 0, 7, 3, 167, 0, 14, 42, 180, 0, 211, 42, 180, 0, 250, 4, 100, 46, 172]
abbrev dktX1_lastTime_0 : List UInt8 := dkwX1_lastTime_0 ++ []
theorem dksX1_lastTime_0 : cX1_lastTime.data.toList.drop 0 = dktX1_lastTime_0 := by decide +kernel
theorem dX1_lastTime_0 : decode cX1_lastTime 0 = .ok (.aload_n 0, 1) := dk_42 (dk_at dksX1_lastTime_0 0 rfl rfl)
theorem dX1_lastTime_1 : decode cX1_lastTime 1 = .ok (.getfield 250, 3) := dk_180 0 250 (dk_at dksX1_lastTime_0 1 rfl rfl)
theorem dX1_lastTime_4 : decode cX1_lastTime 4 = .ok (.ifCond .ne 7, 3) := dk_154 0 7 (dk_at dksX1_lastTime_0 4 rfl rfl)
theorem dX1_lastTime_7 : decode cX1_lastTime 7 = .ok (.iconst 0, 1) := dk_3 (dk_at dksX1_lastTime_0 7 rfl rfl)
theorem dX1_lastTime_8 : decode cX1_lastTime 8 = .ok (.goto 14, 3) := dk_167 0 14 (dk_at dksX1_lastTime_0 8 rfl rfl)
theorem dX1_lastTime_11 : decode cX1_lastTime 11 = .ok (.aload_n 0, 1) := dk_42 (dk_at dksX1_lastTime_0 11 rfl rfl)
theorem dX1_lastTime_12 : decode cX1_lastTime 12 = .ok (.getfield 211, 3) := dk_180 0 211 (dk_at dksX1_lastTime_0 12 rfl rfl)
theorem dX1_lastTime_15 : decode cX1_lastTime 15 = .ok (.aload_n 0, 1) := dk_42 (dk_at dksX1_lastTime_0 15 rfl rfl)
theorem dX1_lastTime_16 : decode cX1_lastTime 16 = .ok (.getfield 250, 3) := dk_180 0 250 (dk_at dksX1_lastTime_0 16 rfl rfl)
theorem dX1_lastTime_19 : decode cX1_lastTime 19 = .ok (.iconst 1, 1) := dk_4 (dk_at dksX1_lastTime_0 19 rfl rfl)
theorem dX1_lastTime_20 : decode cX1_lastTime 20 = .ok (.isub, 1) := dk_100 (dk_at dksX1_lastTime_0 20 rfl rfl)
theorem dX1_lastTime_21 : decode cX1_lastTime 21 = .ok (.iaload, 1) := dk_46 (dk_at dksX1_lastTime_0 21 rfl rfl)
theorem dX1_lastTime_22 : decode cX1_lastTime 22 = .ok (.ireturn, 1) := dk_172 (dk_at dksX1_lastTime_0 22 rfl rfl)
abbrev cX1_step : ByteArray := prog_1_method_26_code
def yX1_step : MethodName := ⟨RX1, "step", "(I)I"⟩
def dkwX1_step_2 : List UInt8 := [180, 0, 250, 4, 96, 181, 0, 250, 42, 182, 1, 76, 172]
abbrev dktX1_step_2 : List UInt8 := dkwX1_step_2 ++ []
def dkwX1_step_1 : List UInt8 := [182, 1, 72, 42, 180, 0, 253, 198, 0, 15, 42, 42, 180, 0, 222, 42, 180, 0, 250, 182, 1, 72, 42, 89]
abbrev dktX1_step_1 : List UInt8 := dkwX1_step_1 ++ dktX1_step_2
def dkwX1_step_0 : List UInt8 := [42, 180, 0, 211, 42, 180, 0, 250, 27, 79, 42, 42, 180, 0, 203, 180, 1, 9, 42, 180, 0, 250]
abbrev dktX1_step_0 : List UInt8 := dkwX1_step_0 ++ dktX1_step_1
theorem dksX1_step_0 : cX1_step.data.toList.drop 0 = dktX1_step_0 := by decide +kernel
theorem dksX1_step_1 : cX1_step.data.toList.drop 22 = dktX1_step_1 := dk_seg dksX1_step_0 22 rfl rfl
theorem dksX1_step_2 : cX1_step.data.toList.drop 46 = dktX1_step_2 := dk_seg dksX1_step_1 24 rfl rfl
theorem dX1_step_0 : decode cX1_step 0 = .ok (.aload_n 0, 1) := dk_42 (dk_at dksX1_step_0 0 rfl rfl)
theorem dX1_step_1 : decode cX1_step 1 = .ok (.getfield 211, 3) := dk_180 0 211 (dk_at dksX1_step_0 1 rfl rfl)
theorem dX1_step_4 : decode cX1_step 4 = .ok (.aload_n 0, 1) := dk_42 (dk_at dksX1_step_0 4 rfl rfl)
theorem dX1_step_5 : decode cX1_step 5 = .ok (.getfield 250, 3) := dk_180 0 250 (dk_at dksX1_step_0 5 rfl rfl)
theorem dX1_step_8 : decode cX1_step 8 = .ok (.iload_n 1, 1) := dk_27 (dk_at dksX1_step_0 8 rfl rfl)
theorem dX1_step_9 : decode cX1_step 9 = .ok (.iastore, 1) := dk_79 (dk_at dksX1_step_0 9 rfl rfl)
theorem dX1_step_10 : decode cX1_step 10 = .ok (.aload_n 0, 1) := dk_42 (dk_at dksX1_step_0 10 rfl rfl)
theorem dX1_step_11 : decode cX1_step 11 = .ok (.aload_n 0, 1) := dk_42 (dk_at dksX1_step_0 11 rfl rfl)
theorem dX1_step_12 : decode cX1_step 12 = .ok (.getfield 203, 3) := dk_180 0 203 (dk_at dksX1_step_0 12 rfl rfl)
theorem dX1_step_15 : decode cX1_step 15 = .ok (.getfield 265, 3) := dk_180 1 9 (dk_at dksX1_step_0 15 rfl rfl)
theorem dX1_step_18 : decode cX1_step 18 = .ok (.aload_n 0, 1) := dk_42 (dk_at dksX1_step_0 18 rfl rfl)
theorem dX1_step_19 : decode cX1_step 19 = .ok (.getfield 250, 3) := dk_180 0 250 (dk_at dksX1_step_0 19 rfl rfl)
theorem dX1_step_22 : decode cX1_step 22 = .ok (.invokevirtual 328, 3) := dk_182 1 72 (dk_at dksX1_step_1 0 rfl rfl)
theorem dX1_step_25 : decode cX1_step 25 = .ok (.aload_n 0, 1) := dk_42 (dk_at dksX1_step_1 3 rfl rfl)
theorem dX1_step_26 : decode cX1_step 26 = .ok (.getfield 253, 3) := dk_180 0 253 (dk_at dksX1_step_1 4 rfl rfl)
theorem dX1_step_29 : decode cX1_step 29 = .ok (.ifnull 15, 3) := dk_198 0 15 (dk_at dksX1_step_1 7 rfl rfl)
theorem dX1_step_32 : decode cX1_step 32 = .ok (.aload_n 0, 1) := dk_42 (dk_at dksX1_step_1 10 rfl rfl)
theorem dX1_step_33 : decode cX1_step 33 = .ok (.aload_n 0, 1) := dk_42 (dk_at dksX1_step_1 11 rfl rfl)
theorem dX1_step_34 : decode cX1_step 34 = .ok (.getfield 222, 3) := dk_180 0 222 (dk_at dksX1_step_1 12 rfl rfl)
theorem dX1_step_37 : decode cX1_step 37 = .ok (.aload_n 0, 1) := dk_42 (dk_at dksX1_step_1 15 rfl rfl)
theorem dX1_step_38 : decode cX1_step 38 = .ok (.getfield 250, 3) := dk_180 0 250 (dk_at dksX1_step_1 16 rfl rfl)
theorem dX1_step_41 : decode cX1_step 41 = .ok (.invokevirtual 328, 3) := dk_182 1 72 (dk_at dksX1_step_1 19 rfl rfl)
theorem dX1_step_44 : decode cX1_step 44 = .ok (.aload_n 0, 1) := dk_42 (dk_at dksX1_step_1 22 rfl rfl)
theorem dX1_step_45 : decode cX1_step 45 = .ok (.dup, 1) := dk_89 (dk_at dksX1_step_1 23 rfl rfl)
theorem dX1_step_46 : decode cX1_step 46 = .ok (.getfield 250, 3) := dk_180 0 250 (dk_at dksX1_step_2 0 rfl rfl)
theorem dX1_step_49 : decode cX1_step 49 = .ok (.iconst 1, 1) := dk_4 (dk_at dksX1_step_2 3 rfl rfl)
theorem dX1_step_50 : decode cX1_step 50 = .ok (.iadd, 1) := dk_96 (dk_at dksX1_step_2 4 rfl rfl)
theorem dX1_step_51 : decode cX1_step 51 = .ok (.putfield 250, 3) := dk_181 0 250 (dk_at dksX1_step_2 5 rfl rfl)
theorem dX1_step_54 : decode cX1_step 54 = .ok (.aload_n 0, 1) := dk_42 (dk_at dksX1_step_2 8 rfl rfl)
theorem dX1_step_55 : decode cX1_step 55 = .ok (.invokevirtual 332, 3) := dk_182 1 76 (dk_at dksX1_step_2 9 rfl rfl)
theorem dX1_step_58 : decode cX1_step 58 = .ok (.ireturn, 1) := dk_172 (dk_at dksX1_step_2 12 rfl rfl)
abbrev cX1_fails : ByteArray := prog_1_method_24_code
def yX1_fails : MethodName := ⟨RX1, "fails", "()I"⟩
def dkwX1_fails_2 : List UInt8 := [153, 0, 7, 3, 167, 0, 4, 4, 96, 60, 132, 2, 1, 167, 255, 202, 27, 172]
abbrev dktX1_fails_2 : List UInt8 := dkwX1_fails_2 ++ []
def dkwX1_fails_1 : List UInt8 := [180, 1, 39, 28, 182, 1, 49, 192, 1, 59, 180, 1, 61, 42, 180, 0, 250, 4, 100, 182, 0, 188]
abbrev dktX1_fails_1 : List UInt8 := dkwX1_fails_1 ++ dktX1_fails_2
def dkwX1_fails_0 : List UInt8 := [3, 60, 3, 61, 28, 42, 180, 0, 203, 180, 1, 39, 182, 0, 164, 162, 0, 46, 27, 42, 180, 0, 203]
abbrev dktX1_fails_0 : List UInt8 := dkwX1_fails_0 ++ dktX1_fails_1
theorem dksX1_fails_0 : cX1_fails.data.toList.drop 0 = dktX1_fails_0 := by decide +kernel
theorem dksX1_fails_1 : cX1_fails.data.toList.drop 23 = dktX1_fails_1 := dk_seg dksX1_fails_0 23 rfl rfl
theorem dksX1_fails_2 : cX1_fails.data.toList.drop 45 = dktX1_fails_2 := dk_seg dksX1_fails_1 22 rfl rfl
theorem dX1_fails_0 : decode cX1_fails 0 = .ok (.iconst 0, 1) := dk_3 (dk_at dksX1_fails_0 0 rfl rfl)
theorem dX1_fails_1 : decode cX1_fails 1 = .ok (.istore_n 1, 1) := dk_60 (dk_at dksX1_fails_0 1 rfl rfl)
theorem dX1_fails_2 : decode cX1_fails 2 = .ok (.iconst 0, 1) := dk_3 (dk_at dksX1_fails_0 2 rfl rfl)
theorem dX1_fails_3 : decode cX1_fails 3 = .ok (.istore_n 2, 1) := dk_61 (dk_at dksX1_fails_0 3 rfl rfl)
theorem dX1_fails_4 : decode cX1_fails 4 = .ok (.iload_n 2, 1) := dk_28 (dk_at dksX1_fails_0 4 rfl rfl)
theorem dX1_fails_5 : decode cX1_fails 5 = .ok (.aload_n 0, 1) := dk_42 (dk_at dksX1_fails_0 5 rfl rfl)
theorem dX1_fails_6 : decode cX1_fails 6 = .ok (.getfield 203, 3) := dk_180 0 203 (dk_at dksX1_fails_0 6 rfl rfl)
theorem dX1_fails_9 : decode cX1_fails 9 = .ok (.getfield 295, 3) := dk_180 1 39 (dk_at dksX1_fails_0 9 rfl rfl)
theorem dX1_fails_12 : decode cX1_fails 12 = .ok (.invokevirtual 164, 3) := dk_182 0 164 (dk_at dksX1_fails_0 12 rfl rfl)
theorem dX1_fails_15 : decode cX1_fails 15 = .ok (.if_icmp .ge 46, 3) := dk_162 0 46 (dk_at dksX1_fails_0 15 rfl rfl)
theorem dX1_fails_18 : decode cX1_fails 18 = .ok (.iload_n 1, 1) := dk_27 (dk_at dksX1_fails_0 18 rfl rfl)
theorem dX1_fails_19 : decode cX1_fails 19 = .ok (.aload_n 0, 1) := dk_42 (dk_at dksX1_fails_0 19 rfl rfl)
theorem dX1_fails_20 : decode cX1_fails 20 = .ok (.getfield 203, 3) := dk_180 0 203 (dk_at dksX1_fails_0 20 rfl rfl)
theorem dX1_fails_23 : decode cX1_fails 23 = .ok (.getfield 295, 3) := dk_180 1 39 (dk_at dksX1_fails_1 0 rfl rfl)
theorem dX1_fails_26 : decode cX1_fails 26 = .ok (.iload_n 2, 1) := dk_28 (dk_at dksX1_fails_1 3 rfl rfl)
theorem dX1_fails_27 : decode cX1_fails 27 = .ok (.invokevirtual 305, 3) := dk_182 1 49 (dk_at dksX1_fails_1 4 rfl rfl)
theorem dX1_fails_30 : decode cX1_fails 30 = .ok (.checkcast 315, 3) := dk_192 1 59 (dk_at dksX1_fails_1 7 rfl rfl)
theorem dX1_fails_33 : decode cX1_fails 33 = .ok (.getfield 317, 3) := dk_180 1 61 (dk_at dksX1_fails_1 10 rfl rfl)
theorem dX1_fails_36 : decode cX1_fails 36 = .ok (.aload_n 0, 1) := dk_42 (dk_at dksX1_fails_1 13 rfl rfl)
theorem dX1_fails_37 : decode cX1_fails 37 = .ok (.getfield 250, 3) := dk_180 0 250 (dk_at dksX1_fails_1 14 rfl rfl)
theorem dX1_fails_40 : decode cX1_fails 40 = .ok (.iconst 1, 1) := dk_4 (dk_at dksX1_fails_1 17 rfl rfl)
theorem dX1_fails_41 : decode cX1_fails 41 = .ok (.isub, 1) := dk_100 (dk_at dksX1_fails_1 18 rfl rfl)
theorem dX1_fails_42 : decode cX1_fails 42 = .ok (.invokevirtual 188, 3) := dk_182 0 188 (dk_at dksX1_fails_1 19 rfl rfl)
theorem dX1_fails_45 : decode cX1_fails 45 = .ok (.ifCond .eq 7, 3) := dk_153 0 7 (dk_at dksX1_fails_2 0 rfl rfl)
theorem dX1_fails_48 : decode cX1_fails 48 = .ok (.iconst 0, 1) := dk_3 (dk_at dksX1_fails_2 3 rfl rfl)
theorem dX1_fails_49 : decode cX1_fails 49 = .ok (.goto 4, 3) := dk_167 0 4 (dk_at dksX1_fails_2 4 rfl rfl)
theorem dX1_fails_52 : decode cX1_fails 52 = .ok (.iconst 1, 1) := dk_4 (dk_at dksX1_fails_2 7 rfl rfl)
theorem dX1_fails_53 : decode cX1_fails 53 = .ok (.iadd, 1) := dk_96 (dk_at dksX1_fails_2 8 rfl rfl)
theorem dX1_fails_54 : decode cX1_fails 54 = .ok (.istore_n 1, 1) := dk_60 (dk_at dksX1_fails_2 9 rfl rfl)
theorem dX1_fails_55 : decode cX1_fails 55 = .ok (.iinc 2 1, 3) := dk_132 2 1 (dk_at dksX1_fails_2 10 rfl rfl)
theorem dX1_fails_58 : decode cX1_fails 58 = .ok (.goto (-54), 3) := dk_167 255 202 (dk_at dksX1_fails_2 13 rfl rfl)
theorem dX1_fails_61 : decode cX1_fails 61 = .ok (.iload_n 1, 1) := dk_27 (dk_at dksX1_fails_2 16 rfl rfl)
theorem dX1_fails_62 : decode cX1_fails 62 = .ok (.ireturn, 1) := dk_172 (dk_at dksX1_fails_2 17 rfl rfl)
abbrev cX1_back : ByteArray := prog_1_method_29_code
def yX1_back : MethodName := ⟨RX1, "back", "(I)I"⟩
def dkwX1_back_1 : List UInt8 := [181, 0, 250, 42, 182, 1, 82, 172]
abbrev dktX1_back_1 : List UInt8 := dkwX1_back_1 ++ []
def dkwX1_back_0 : List UInt8 := [27, 155, 0, 15, 27, 42, 180, 0, 250, 163, 0, 7, 4, 167, 0, 4, 3, 184, 0, 236, 42, 27]
abbrev dktX1_back_0 : List UInt8 := dkwX1_back_0 ++ dktX1_back_1
theorem dksX1_back_0 : cX1_back.data.toList.drop 0 = dktX1_back_0 := by decide +kernel
theorem dksX1_back_1 : cX1_back.data.toList.drop 22 = dktX1_back_1 := dk_seg dksX1_back_0 22 rfl rfl
theorem dX1_back_0 : decode cX1_back 0 = .ok (.iload_n 1, 1) := dk_27 (dk_at dksX1_back_0 0 rfl rfl)
theorem dX1_back_1 : decode cX1_back 1 = .ok (.ifCond .lt 15, 3) := dk_155 0 15 (dk_at dksX1_back_0 1 rfl rfl)
theorem dX1_back_4 : decode cX1_back 4 = .ok (.iload_n 1, 1) := dk_27 (dk_at dksX1_back_0 4 rfl rfl)
theorem dX1_back_5 : decode cX1_back 5 = .ok (.aload_n 0, 1) := dk_42 (dk_at dksX1_back_0 5 rfl rfl)
theorem dX1_back_6 : decode cX1_back 6 = .ok (.getfield 250, 3) := dk_180 0 250 (dk_at dksX1_back_0 6 rfl rfl)
theorem dX1_back_9 : decode cX1_back 9 = .ok (.if_icmp .gt 7, 3) := dk_163 0 7 (dk_at dksX1_back_0 9 rfl rfl)
theorem dX1_back_12 : decode cX1_back 12 = .ok (.iconst 1, 1) := dk_4 (dk_at dksX1_back_0 12 rfl rfl)
theorem dX1_back_13 : decode cX1_back 13 = .ok (.goto 4, 3) := dk_167 0 4 (dk_at dksX1_back_0 13 rfl rfl)
theorem dX1_back_16 : decode cX1_back 16 = .ok (.iconst 0, 1) := dk_3 (dk_at dksX1_back_0 16 rfl rfl)
theorem dX1_back_17 : decode cX1_back 17 = .ok (.invokestatic 236, 3) := dk_184 0 236 (dk_at dksX1_back_0 17 rfl rfl)
theorem dX1_back_20 : decode cX1_back 20 = .ok (.aload_n 0, 1) := dk_42 (dk_at dksX1_back_0 20 rfl rfl)
theorem dX1_back_21 : decode cX1_back 21 = .ok (.iload_n 1, 1) := dk_27 (dk_at dksX1_back_0 21 rfl rfl)
theorem dX1_back_22 : decode cX1_back 22 = .ok (.putfield 250, 3) := dk_181 0 250 (dk_at dksX1_back_1 0 rfl rfl)
theorem dX1_back_25 : decode cX1_back 25 = .ok (.aload_n 0, 1) := dk_42 (dk_at dksX1_back_1 3 rfl rfl)
theorem dX1_back_26 : decode cX1_back 26 = .ok (.invokevirtual 338, 3) := dk_182 1 82 (dk_at dksX1_back_1 4 rfl rfl)
theorem dX1_back_29 : decode cX1_back 29 = .ok (.ireturn, 1) := dk_172 (dk_at dksX1_back_1 7 rfl rfl)
abbrev cX1_restart : ByteArray := prog_1_method_31_code
def yX1_restart : MethodName := ⟨RX1, "restart", "()I"⟩
def dkwX1_restart_0 : List UInt8 := [42, 182, 1, 79, 184, 0, 228, 42, 182, 1, 102, 42, 180, 0, 203, 180, 1, 39, 182, 0, 164, 172]
abbrev dktX1_restart_0 : List UInt8 := dkwX1_restart_0 ++ []
theorem dksX1_restart_0 : cX1_restart.data.toList.drop 0 = dktX1_restart_0 := by decide +kernel
theorem dX1_restart_0 : decode cX1_restart 0 = .ok (.aload_n 0, 1) := dk_42 (dk_at dksX1_restart_0 0 rfl rfl)
theorem dX1_restart_1 : decode cX1_restart 1 = .ok (.invokevirtual 335, 3) := dk_182 1 79 (dk_at dksX1_restart_0 1 rfl rfl)
theorem dX1_restart_4 : decode cX1_restart 4 = .ok (.invokestatic 228, 3) := dk_184 0 228 (dk_at dksX1_restart_0 4 rfl rfl)
theorem dX1_restart_7 : decode cX1_restart 7 = .ok (.aload_n 0, 1) := dk_42 (dk_at dksX1_restart_0 7 rfl rfl)
theorem dX1_restart_8 : decode cX1_restart 8 = .ok (.invokevirtual 358, 3) := dk_182 1 102 (dk_at dksX1_restart_0 8 rfl rfl)
theorem dX1_restart_11 : decode cX1_restart 11 = .ok (.aload_n 0, 1) := dk_42 (dk_at dksX1_restart_0 11 rfl rfl)
theorem dX1_restart_12 : decode cX1_restart 12 = .ok (.getfield 203, 3) := dk_180 0 203 (dk_at dksX1_restart_0 12 rfl rfl)
theorem dX1_restart_15 : decode cX1_restart 15 = .ok (.getfield 295, 3) := dk_180 1 39 (dk_at dksX1_restart_0 15 rfl rfl)
theorem dX1_restart_18 : decode cX1_restart 18 = .ok (.invokevirtual 164, 3) := dk_182 0 164 (dk_at dksX1_restart_0 18 rfl rfl)
theorem dX1_restart_21 : decode cX1_restart 21 = .ok (.ireturn, 1) := dk_172 (dk_at dksX1_restart_0 21 rfl rfl)
abbrev cX1_begin : ByteArray := prog_1_method_30_code
def yX1_begin : MethodName := ⟨RX1, "begin", "()V"⟩
def dkwX1_begin_2 : List UInt8 := [177]
abbrev dktX1_begin_2 : List UInt8 := dkwX1_begin_2 ++ []
def dkwX1_begin_1 : List UInt8 := [153, 0, 24, 43, 185, 1, 96, 1, 0, 192, 1, 53, 77, 44, 44, 180, 1, 99, 181, 1, 55, 167, 255, 229]
abbrev dktX1_begin_1 : List UInt8 := dkwX1_begin_1 ++ dktX1_begin_2
def dkwX1_begin_0 : List UInt8 := [42, 3, 181, 0, 250, 42, 180, 0, 203, 180, 1, 30, 182, 1, 87, 76, 43, 185, 1, 91, 1, 0]
abbrev dktX1_begin_0 : List UInt8 := dkwX1_begin_0 ++ dktX1_begin_1
theorem dksX1_begin_0 : cX1_begin.data.toList.drop 0 = dktX1_begin_0 := by decide +kernel
theorem dksX1_begin_1 : cX1_begin.data.toList.drop 22 = dktX1_begin_1 := dk_seg dksX1_begin_0 22 rfl rfl
theorem dksX1_begin_2 : cX1_begin.data.toList.drop 46 = dktX1_begin_2 := dk_seg dksX1_begin_1 24 rfl rfl
theorem dX1_begin_0 : decode cX1_begin 0 = .ok (.aload_n 0, 1) := dk_42 (dk_at dksX1_begin_0 0 rfl rfl)
theorem dX1_begin_1 : decode cX1_begin 1 = .ok (.iconst 0, 1) := dk_3 (dk_at dksX1_begin_0 1 rfl rfl)
theorem dX1_begin_2 : decode cX1_begin 2 = .ok (.putfield 250, 3) := dk_181 0 250 (dk_at dksX1_begin_0 2 rfl rfl)
theorem dX1_begin_5 : decode cX1_begin 5 = .ok (.aload_n 0, 1) := dk_42 (dk_at dksX1_begin_0 5 rfl rfl)
theorem dX1_begin_6 : decode cX1_begin 6 = .ok (.getfield 203, 3) := dk_180 0 203 (dk_at dksX1_begin_0 6 rfl rfl)
theorem dX1_begin_9 : decode cX1_begin 9 = .ok (.getfield 286, 3) := dk_180 1 30 (dk_at dksX1_begin_0 9 rfl rfl)
theorem dX1_begin_12 : decode cX1_begin 12 = .ok (.invokevirtual 343, 3) := dk_182 1 87 (dk_at dksX1_begin_0 12 rfl rfl)
theorem dX1_begin_15 : decode cX1_begin 15 = .ok (.astore_n 1, 1) := dk_76 (dk_at dksX1_begin_0 15 rfl rfl)
theorem dX1_begin_16 : decode cX1_begin 16 = .ok (.aload_n 1, 1) := dk_43 (dk_at dksX1_begin_0 16 rfl rfl)
theorem dX1_begin_17 : decode cX1_begin 17 = .ok (.invokeinterface 347 1, 5) := by decide +kernel
theorem dX1_begin_22 : decode cX1_begin 22 = .ok (.ifCond .eq 24, 3) := dk_153 0 24 (dk_at dksX1_begin_1 0 rfl rfl)
theorem dX1_begin_25 : decode cX1_begin 25 = .ok (.aload_n 1, 1) := dk_43 (dk_at dksX1_begin_1 3 rfl rfl)
theorem dX1_begin_26 : decode cX1_begin 26 = .ok (.invokeinterface 352 1, 5) := by decide +kernel
theorem dX1_begin_31 : decode cX1_begin 31 = .ok (.checkcast 309, 3) := dk_192 1 53 (dk_at dksX1_begin_1 9 rfl rfl)
theorem dX1_begin_34 : decode cX1_begin 34 = .ok (.astore_n 2, 1) := dk_77 (dk_at dksX1_begin_1 12 rfl rfl)
theorem dX1_begin_35 : decode cX1_begin 35 = .ok (.aload_n 2, 1) := dk_44 (dk_at dksX1_begin_1 13 rfl rfl)
theorem dX1_begin_36 : decode cX1_begin 36 = .ok (.aload_n 2, 1) := dk_44 (dk_at dksX1_begin_1 14 rfl rfl)
theorem dX1_begin_37 : decode cX1_begin 37 = .ok (.getfield 355, 3) := dk_180 1 99 (dk_at dksX1_begin_1 15 rfl rfl)
theorem dX1_begin_40 : decode cX1_begin 40 = .ok (.putfield 311, 3) := dk_181 1 55 (dk_at dksX1_begin_1 18 rfl rfl)
theorem dX1_begin_43 : decode cX1_begin 43 = .ok (.goto (-27), 3) := dk_167 255 229 (dk_at dksX1_begin_1 21 rfl rfl)
theorem dX1_begin_46 : decode cX1_begin 46 = .ok (.return_, 1) := dk_177 (dk_at dksX1_begin_2 0 rfl rfl)
abbrev cX1_replay : ByteArray := prog_1_method_33_code
def yX1_replay : MethodName := ⟨RX1, "replay", "()I"⟩
def dkwX1_replay_4 : List UInt8 := [46, 182, 1, 85, 154, 0, 7, 4, 167, 0, 4, 3, 96, 60, 132, 2, 1, 167, 255, 161, 27, 172]
abbrev dktX1_replay_4 : List UInt8 := dkwX1_replay_4 ++ []
def dkwX1_replay_3 : List UInt8 := [182, 1, 49, 192, 1, 115, 28, 47, 181, 1, 55, 132, 3, 1, 167, 255, 198, 27, 42, 42, 180, 0, 215, 28]
abbrev dktX1_replay_3 : List UInt8 := dkwX1_replay_3 ++ dktX1_replay_4
def dkwX1_replay_2 : List UInt8 := [162, 0, 39, 42, 180, 0, 203, 180, 1, 30, 29, 182, 1, 49, 192, 1, 53, 42, 180, 0, 218, 29]
abbrev dktX1_replay_2 : List UInt8 := dkwX1_replay_2 ++ dktX1_replay_3
def dkwX1_replay_1 : List UInt8 := [62, 29, 42, 180, 0, 218, 182, 0, 164, 162, 0, 53, 29, 42, 180, 0, 203, 180, 1, 30, 182, 0, 164]
abbrev dktX1_replay_1 : List UInt8 := dkwX1_replay_1 ++ dktX1_replay_2
def dkwX1_replay_0 : List UInt8 := [42, 182, 1, 79, 184, 0, 228, 42, 182, 1, 102, 3, 60, 3, 61, 28, 42, 180, 1, 42, 162, 0, 93, 3]
abbrev dktX1_replay_0 : List UInt8 := dkwX1_replay_0 ++ dktX1_replay_1
theorem dksX1_replay_0 : cX1_replay.data.toList.drop 0 = dktX1_replay_0 := by decide +kernel
theorem dksX1_replay_1 : cX1_replay.data.toList.drop 24 = dktX1_replay_1 := dk_seg dksX1_replay_0 24 rfl rfl
theorem dksX1_replay_2 : cX1_replay.data.toList.drop 47 = dktX1_replay_2 := dk_seg dksX1_replay_1 23 rfl rfl
theorem dksX1_replay_3 : cX1_replay.data.toList.drop 69 = dktX1_replay_3 := dk_seg dksX1_replay_2 22 rfl rfl
theorem dksX1_replay_4 : cX1_replay.data.toList.drop 93 = dktX1_replay_4 := dk_seg dksX1_replay_3 24 rfl rfl
theorem dX1_replay_0 : decode cX1_replay 0 = .ok (.aload_n 0, 1) := dk_42 (dk_at dksX1_replay_0 0 rfl rfl)
theorem dX1_replay_1 : decode cX1_replay 1 = .ok (.invokevirtual 335, 3) := dk_182 1 79 (dk_at dksX1_replay_0 1 rfl rfl)
theorem dX1_replay_4 : decode cX1_replay 4 = .ok (.invokestatic 228, 3) := dk_184 0 228 (dk_at dksX1_replay_0 4 rfl rfl)
theorem dX1_replay_7 : decode cX1_replay 7 = .ok (.aload_n 0, 1) := dk_42 (dk_at dksX1_replay_0 7 rfl rfl)
theorem dX1_replay_8 : decode cX1_replay 8 = .ok (.invokevirtual 358, 3) := dk_182 1 102 (dk_at dksX1_replay_0 8 rfl rfl)
theorem dX1_replay_11 : decode cX1_replay 11 = .ok (.iconst 0, 1) := dk_3 (dk_at dksX1_replay_0 11 rfl rfl)
theorem dX1_replay_12 : decode cX1_replay 12 = .ok (.istore_n 1, 1) := dk_60 (dk_at dksX1_replay_0 12 rfl rfl)
theorem dX1_replay_13 : decode cX1_replay 13 = .ok (.iconst 0, 1) := dk_3 (dk_at dksX1_replay_0 13 rfl rfl)
theorem dX1_replay_14 : decode cX1_replay 14 = .ok (.istore_n 2, 1) := dk_61 (dk_at dksX1_replay_0 14 rfl rfl)
theorem dX1_replay_15 : decode cX1_replay 15 = .ok (.iload_n 2, 1) := dk_28 (dk_at dksX1_replay_0 15 rfl rfl)
theorem dX1_replay_16 : decode cX1_replay 16 = .ok (.aload_n 0, 1) := dk_42 (dk_at dksX1_replay_0 16 rfl rfl)
theorem dX1_replay_17 : decode cX1_replay 17 = .ok (.getfield 298, 3) := dk_180 1 42 (dk_at dksX1_replay_0 17 rfl rfl)
theorem dX1_replay_20 : decode cX1_replay 20 = .ok (.if_icmp .ge 93, 3) := dk_162 0 93 (dk_at dksX1_replay_0 20 rfl rfl)
theorem dX1_replay_23 : decode cX1_replay 23 = .ok (.iconst 0, 1) := dk_3 (dk_at dksX1_replay_0 23 rfl rfl)
theorem dX1_replay_24 : decode cX1_replay 24 = .ok (.istore_n 3, 1) := dk_62 (dk_at dksX1_replay_1 0 rfl rfl)
theorem dX1_replay_25 : decode cX1_replay 25 = .ok (.iload_n 3, 1) := dk_29 (dk_at dksX1_replay_1 1 rfl rfl)
theorem dX1_replay_26 : decode cX1_replay 26 = .ok (.aload_n 0, 1) := dk_42 (dk_at dksX1_replay_1 2 rfl rfl)
theorem dX1_replay_27 : decode cX1_replay 27 = .ok (.getfield 218, 3) := dk_180 0 218 (dk_at dksX1_replay_1 3 rfl rfl)
theorem dX1_replay_30 : decode cX1_replay 30 = .ok (.invokevirtual 164, 3) := dk_182 0 164 (dk_at dksX1_replay_1 6 rfl rfl)
theorem dX1_replay_33 : decode cX1_replay 33 = .ok (.if_icmp .ge 53, 3) := dk_162 0 53 (dk_at dksX1_replay_1 9 rfl rfl)
theorem dX1_replay_36 : decode cX1_replay 36 = .ok (.iload_n 3, 1) := dk_29 (dk_at dksX1_replay_1 12 rfl rfl)
theorem dX1_replay_37 : decode cX1_replay 37 = .ok (.aload_n 0, 1) := dk_42 (dk_at dksX1_replay_1 13 rfl rfl)
theorem dX1_replay_38 : decode cX1_replay 38 = .ok (.getfield 203, 3) := dk_180 0 203 (dk_at dksX1_replay_1 14 rfl rfl)
theorem dX1_replay_41 : decode cX1_replay 41 = .ok (.getfield 286, 3) := dk_180 1 30 (dk_at dksX1_replay_1 17 rfl rfl)
theorem dX1_replay_44 : decode cX1_replay 44 = .ok (.invokevirtual 164, 3) := dk_182 0 164 (dk_at dksX1_replay_1 20 rfl rfl)
theorem dX1_replay_47 : decode cX1_replay 47 = .ok (.if_icmp .ge 39, 3) := dk_162 0 39 (dk_at dksX1_replay_2 0 rfl rfl)
theorem dX1_replay_50 : decode cX1_replay 50 = .ok (.aload_n 0, 1) := dk_42 (dk_at dksX1_replay_2 3 rfl rfl)
theorem dX1_replay_51 : decode cX1_replay 51 = .ok (.getfield 203, 3) := dk_180 0 203 (dk_at dksX1_replay_2 4 rfl rfl)
theorem dX1_replay_54 : decode cX1_replay 54 = .ok (.getfield 286, 3) := dk_180 1 30 (dk_at dksX1_replay_2 7 rfl rfl)
theorem dX1_replay_57 : decode cX1_replay 57 = .ok (.iload_n 3, 1) := dk_29 (dk_at dksX1_replay_2 10 rfl rfl)
theorem dX1_replay_58 : decode cX1_replay 58 = .ok (.invokevirtual 305, 3) := dk_182 1 49 (dk_at dksX1_replay_2 11 rfl rfl)
theorem dX1_replay_61 : decode cX1_replay 61 = .ok (.checkcast 309, 3) := dk_192 1 53 (dk_at dksX1_replay_2 14 rfl rfl)
theorem dX1_replay_64 : decode cX1_replay 64 = .ok (.aload_n 0, 1) := dk_42 (dk_at dksX1_replay_2 17 rfl rfl)
theorem dX1_replay_65 : decode cX1_replay 65 = .ok (.getfield 218, 3) := dk_180 0 218 (dk_at dksX1_replay_2 18 rfl rfl)
theorem dX1_replay_68 : decode cX1_replay 68 = .ok (.iload_n 3, 1) := dk_29 (dk_at dksX1_replay_2 21 rfl rfl)
theorem dX1_replay_69 : decode cX1_replay 69 = .ok (.invokevirtual 305, 3) := dk_182 1 49 (dk_at dksX1_replay_3 0 rfl rfl)
theorem dX1_replay_72 : decode cX1_replay 72 = .ok (.checkcast 371, 3) := dk_192 1 115 (dk_at dksX1_replay_3 3 rfl rfl)
theorem dX1_replay_75 : decode cX1_replay 75 = .ok (.iload_n 2, 1) := dk_28 (dk_at dksX1_replay_3 6 rfl rfl)
theorem dX1_replay_76 : decode cX1_replay 76 = .ok (.laload, 1) := dk_47 (dk_at dksX1_replay_3 7 rfl rfl)
theorem dX1_replay_77 : decode cX1_replay 77 = .ok (.putfield 311, 3) := dk_181 1 55 (dk_at dksX1_replay_3 8 rfl rfl)
theorem dX1_replay_80 : decode cX1_replay 80 = .ok (.iinc 3 1, 3) := dk_132 3 1 (dk_at dksX1_replay_3 11 rfl rfl)
theorem dX1_replay_83 : decode cX1_replay 83 = .ok (.goto (-58), 3) := dk_167 255 198 (dk_at dksX1_replay_3 14 rfl rfl)
theorem dX1_replay_86 : decode cX1_replay 86 = .ok (.iload_n 1, 1) := dk_27 (dk_at dksX1_replay_3 17 rfl rfl)
theorem dX1_replay_87 : decode cX1_replay 87 = .ok (.aload_n 0, 1) := dk_42 (dk_at dksX1_replay_3 18 rfl rfl)
theorem dX1_replay_88 : decode cX1_replay 88 = .ok (.aload_n 0, 1) := dk_42 (dk_at dksX1_replay_3 19 rfl rfl)
theorem dX1_replay_89 : decode cX1_replay 89 = .ok (.getfield 215, 3) := dk_180 0 215 (dk_at dksX1_replay_3 20 rfl rfl)
theorem dX1_replay_92 : decode cX1_replay 92 = .ok (.iload_n 2, 1) := dk_28 (dk_at dksX1_replay_3 23 rfl rfl)
theorem dX1_replay_93 : decode cX1_replay 93 = .ok (.iaload, 1) := dk_46 (dk_at dksX1_replay_4 0 rfl rfl)
theorem dX1_replay_94 : decode cX1_replay 94 = .ok (.invokevirtual 341, 3) := dk_182 1 85 (dk_at dksX1_replay_4 1 rfl rfl)
theorem dX1_replay_97 : decode cX1_replay 97 = .ok (.ifCond .ne 7, 3) := dk_154 0 7 (dk_at dksX1_replay_4 4 rfl rfl)
theorem dX1_replay_100 : decode cX1_replay 100 = .ok (.iconst 1, 1) := dk_4 (dk_at dksX1_replay_4 7 rfl rfl)
theorem dX1_replay_101 : decode cX1_replay 101 = .ok (.goto 4, 3) := dk_167 0 4 (dk_at dksX1_replay_4 8 rfl rfl)
theorem dX1_replay_104 : decode cX1_replay 104 = .ok (.iconst 0, 1) := dk_3 (dk_at dksX1_replay_4 11 rfl rfl)
theorem dX1_replay_105 : decode cX1_replay 105 = .ok (.iadd, 1) := dk_96 (dk_at dksX1_replay_4 12 rfl rfl)
theorem dX1_replay_106 : decode cX1_replay 106 = .ok (.istore_n 1, 1) := dk_60 (dk_at dksX1_replay_4 13 rfl rfl)
theorem dX1_replay_107 : decode cX1_replay 107 = .ok (.iinc 2 1, 3) := dk_132 2 1 (dk_at dksX1_replay_4 14 rfl rfl)
theorem dX1_replay_110 : decode cX1_replay 110 = .ok (.goto (-95), 3) := dk_167 255 161 (dk_at dksX1_replay_4 17 rfl rfl)
theorem dX1_replay_113 : decode cX1_replay 113 = .ok (.iload_n 1, 1) := dk_27 (dk_at dksX1_replay_4 20 rfl rfl)
theorem dX1_replay_114 : decode cX1_replay 114 = .ok (.ireturn, 1) := dk_172 (dk_at dksX1_replay_4 21 rfl rfl)
abbrev cX1_time : ByteArray := prog_1_method_35_code
def yX1_time : MethodName := ⟨RX1, "time", "(I)I"⟩
def dkwX1_time_0 : List UInt8 := [42, 27, 182, 1, 117, 42, 180, 0, 211, 27, 46, 172]
abbrev dktX1_time_0 : List UInt8 := dkwX1_time_0 ++ []
theorem dksX1_time_0 : cX1_time.data.toList.drop 0 = dktX1_time_0 := by decide +kernel
theorem dX1_time_0 : decode cX1_time 0 = .ok (.aload_n 0, 1) := dk_42 (dk_at dksX1_time_0 0 rfl rfl)
theorem dX1_time_1 : decode cX1_time 1 = .ok (.iload_n 1, 1) := dk_27 (dk_at dksX1_time_0 1 rfl rfl)
theorem dX1_time_2 : decode cX1_time 2 = .ok (.invokevirtual 373, 3) := dk_182 1 117 (dk_at dksX1_time_0 2 rfl rfl)
theorem dX1_time_5 : decode cX1_time 5 = .ok (.aload_n 0, 1) := dk_42 (dk_at dksX1_time_0 5 rfl rfl)
theorem dX1_time_6 : decode cX1_time 6 = .ok (.getfield 211, 3) := dk_180 0 211 (dk_at dksX1_time_0 6 rfl rfl)
theorem dX1_time_9 : decode cX1_time 9 = .ok (.iload_n 1, 1) := dk_27 (dk_at dksX1_time_0 9 rfl rfl)
theorem dX1_time_10 : decode cX1_time 10 = .ok (.iaload, 1) := dk_46 (dk_at dksX1_time_0 10 rfl rfl)
theorem dX1_time_11 : decode cX1_time 11 = .ok (.ireturn, 1) := dk_172 (dk_at dksX1_time_0 11 rfl rfl)
abbrev cX1_requireStep : ByteArray := prog_1_method_34_code
def yX1_requireStep : MethodName := ⟨RX1, "requireStep", "(I)V"⟩
def dkwX1_requireStep_0 : List UInt8 := [27, 42, 180, 0, 250, 184, 1, 26, 177]
abbrev dktX1_requireStep_0 : List UInt8 := dkwX1_requireStep_0 ++ []
theorem dksX1_requireStep_0 : cX1_requireStep.data.toList.drop 0 = dktX1_requireStep_0 := by decide +kernel
theorem dX1_requireStep_0 : decode cX1_requireStep 0 = .ok (.iload_n 1, 1) := dk_27 (dk_at dksX1_requireStep_0 0 rfl rfl)
theorem dX1_requireStep_1 : decode cX1_requireStep 1 = .ok (.aload_n 0, 1) := dk_42 (dk_at dksX1_requireStep_0 1 rfl rfl)
theorem dX1_requireStep_2 : decode cX1_requireStep 2 = .ok (.getfield 250, 3) := dk_180 0 250 (dk_at dksX1_requireStep_0 2 rfl rfl)
theorem dX1_requireStep_5 : decode cX1_requireStep 5 = .ok (.invokestatic 282, 3) := dk_184 1 26 (dk_at dksX1_requireStep_0 5 rfl rfl)
theorem dX1_requireStep_8 : decode cX1_requireStep 8 = .ok (.return_, 1) := dk_177 (dk_at dksX1_requireStep_0 8 rfl rfl)
abbrev cX1_signal : ByteArray := prog_1_method_36_code
def yX1_signal : MethodName := ⟨RX1, "signal", "(II)J"⟩
def dkwX1_signal_1 : List UInt8 := [180, 1, 30, 27, 182, 1, 49, 192, 1, 53, 28, 182, 1, 112, 173]
abbrev dktX1_signal_1 : List UInt8 := dkwX1_signal_1 ++ []
def dkwX1_signal_0 : List UInt8 := [27, 42, 180, 0, 203, 180, 1, 30, 182, 0, 164, 184, 1, 26, 42, 28, 182, 1, 117, 42, 180, 0, 203]
abbrev dktX1_signal_0 : List UInt8 := dkwX1_signal_0 ++ dktX1_signal_1
theorem dksX1_signal_0 : cX1_signal.data.toList.drop 0 = dktX1_signal_0 := by decide +kernel
theorem dksX1_signal_1 : cX1_signal.data.toList.drop 23 = dktX1_signal_1 := dk_seg dksX1_signal_0 23 rfl rfl
theorem dX1_signal_0 : decode cX1_signal 0 = .ok (.iload_n 1, 1) := dk_27 (dk_at dksX1_signal_0 0 rfl rfl)
theorem dX1_signal_1 : decode cX1_signal 1 = .ok (.aload_n 0, 1) := dk_42 (dk_at dksX1_signal_0 1 rfl rfl)
theorem dX1_signal_2 : decode cX1_signal 2 = .ok (.getfield 203, 3) := dk_180 0 203 (dk_at dksX1_signal_0 2 rfl rfl)
theorem dX1_signal_5 : decode cX1_signal 5 = .ok (.getfield 286, 3) := dk_180 1 30 (dk_at dksX1_signal_0 5 rfl rfl)
theorem dX1_signal_8 : decode cX1_signal 8 = .ok (.invokevirtual 164, 3) := dk_182 0 164 (dk_at dksX1_signal_0 8 rfl rfl)
theorem dX1_signal_11 : decode cX1_signal 11 = .ok (.invokestatic 282, 3) := dk_184 1 26 (dk_at dksX1_signal_0 11 rfl rfl)
theorem dX1_signal_14 : decode cX1_signal 14 = .ok (.aload_n 0, 1) := dk_42 (dk_at dksX1_signal_0 14 rfl rfl)
theorem dX1_signal_15 : decode cX1_signal 15 = .ok (.iload_n 2, 1) := dk_28 (dk_at dksX1_signal_0 15 rfl rfl)
theorem dX1_signal_16 : decode cX1_signal 16 = .ok (.invokevirtual 373, 3) := dk_182 1 117 (dk_at dksX1_signal_0 16 rfl rfl)
theorem dX1_signal_19 : decode cX1_signal 19 = .ok (.aload_n 0, 1) := dk_42 (dk_at dksX1_signal_0 19 rfl rfl)
theorem dX1_signal_20 : decode cX1_signal 20 = .ok (.getfield 203, 3) := dk_180 0 203 (dk_at dksX1_signal_0 20 rfl rfl)
theorem dX1_signal_23 : decode cX1_signal 23 = .ok (.getfield 286, 3) := dk_180 1 30 (dk_at dksX1_signal_1 0 rfl rfl)
theorem dX1_signal_26 : decode cX1_signal 26 = .ok (.iload_n 1, 1) := dk_27 (dk_at dksX1_signal_1 3 rfl rfl)
theorem dX1_signal_27 : decode cX1_signal 27 = .ok (.invokevirtual 305, 3) := dk_182 1 49 (dk_at dksX1_signal_1 4 rfl rfl)
theorem dX1_signal_30 : decode cX1_signal 30 = .ok (.checkcast 309, 3) := dk_192 1 53 (dk_at dksX1_signal_1 7 rfl rfl)
theorem dX1_signal_33 : decode cX1_signal 33 = .ok (.iload_n 2, 1) := dk_28 (dk_at dksX1_signal_1 10 rfl rfl)
theorem dX1_signal_34 : decode cX1_signal 34 = .ok (.invokevirtual 368, 3) := dk_182 1 112 (dk_at dksX1_signal_1 11 rfl rfl)
theorem dX1_signal_37 : decode cX1_signal 37 = .ok (.lreturn, 1) := dk_173 (dk_at dksX1_signal_1 14 rfl rfl)
abbrev cX1_value : ByteArray := prog_1_method_37_code
def yX1_value : MethodName := ⟨RX1, "value", "(II)J"⟩
def dkwX1_value_1 : List UInt8 := [180, 1, 36, 27, 182, 1, 49, 192, 0, 189, 28, 182, 1, 120, 173]
abbrev dktX1_value_1 : List UInt8 := dkwX1_value_1 ++ []
def dkwX1_value_0 : List UInt8 := [27, 42, 180, 0, 203, 180, 1, 36, 182, 0, 164, 184, 1, 26, 42, 28, 182, 1, 117, 42, 180, 0, 203]
abbrev dktX1_value_0 : List UInt8 := dkwX1_value_0 ++ dktX1_value_1
theorem dksX1_value_0 : cX1_value.data.toList.drop 0 = dktX1_value_0 := by decide +kernel
theorem dksX1_value_1 : cX1_value.data.toList.drop 23 = dktX1_value_1 := dk_seg dksX1_value_0 23 rfl rfl
theorem dX1_value_0 : decode cX1_value 0 = .ok (.iload_n 1, 1) := dk_27 (dk_at dksX1_value_0 0 rfl rfl)
theorem dX1_value_1 : decode cX1_value 1 = .ok (.aload_n 0, 1) := dk_42 (dk_at dksX1_value_0 1 rfl rfl)
theorem dX1_value_2 : decode cX1_value 2 = .ok (.getfield 203, 3) := dk_180 0 203 (dk_at dksX1_value_0 2 rfl rfl)
theorem dX1_value_5 : decode cX1_value 5 = .ok (.getfield 292, 3) := dk_180 1 36 (dk_at dksX1_value_0 5 rfl rfl)
theorem dX1_value_8 : decode cX1_value 8 = .ok (.invokevirtual 164, 3) := dk_182 0 164 (dk_at dksX1_value_0 8 rfl rfl)
theorem dX1_value_11 : decode cX1_value 11 = .ok (.invokestatic 282, 3) := dk_184 1 26 (dk_at dksX1_value_0 11 rfl rfl)
theorem dX1_value_14 : decode cX1_value 14 = .ok (.aload_n 0, 1) := dk_42 (dk_at dksX1_value_0 14 rfl rfl)
theorem dX1_value_15 : decode cX1_value 15 = .ok (.iload_n 2, 1) := dk_28 (dk_at dksX1_value_0 15 rfl rfl)
theorem dX1_value_16 : decode cX1_value 16 = .ok (.invokevirtual 373, 3) := dk_182 1 117 (dk_at dksX1_value_0 16 rfl rfl)
theorem dX1_value_19 : decode cX1_value 19 = .ok (.aload_n 0, 1) := dk_42 (dk_at dksX1_value_0 19 rfl rfl)
theorem dX1_value_20 : decode cX1_value 20 = .ok (.getfield 203, 3) := dk_180 0 203 (dk_at dksX1_value_0 20 rfl rfl)
theorem dX1_value_23 : decode cX1_value 23 = .ok (.getfield 292, 3) := dk_180 1 36 (dk_at dksX1_value_1 0 rfl rfl)
theorem dX1_value_26 : decode cX1_value 26 = .ok (.iload_n 1, 1) := dk_27 (dk_at dksX1_value_1 3 rfl rfl)
theorem dX1_value_27 : decode cX1_value 27 = .ok (.invokevirtual 305, 3) := dk_182 1 49 (dk_at dksX1_value_1 4 rfl rfl)
theorem dX1_value_30 : decode cX1_value 30 = .ok (.checkcast 189, 3) := dk_192 0 189 (dk_at dksX1_value_1 7 rfl rfl)
theorem dX1_value_33 : decode cX1_value 33 = .ok (.iload_n 2, 1) := dk_28 (dk_at dksX1_value_1 10 rfl rfl)
theorem dX1_value_34 : decode cX1_value 34 = .ok (.invokevirtual 376, 3) := dk_182 1 120 (dk_at dksX1_value_1 11 rfl rfl)
theorem dX1_value_37 : decode cX1_value 37 = .ok (.lreturn, 1) := dk_173 (dk_at dksX1_value_1 14 rfl rfl)
abbrev cX1_let : ByteArray := prog_1_method_38_code
def yX1_let : MethodName := ⟨RX1, "let", "(II)Z"⟩
def dkwX1_let_1 : List UInt8 := [180, 1, 33, 27, 182, 1, 49, 192, 0, 189, 28, 182, 0, 188, 172]
abbrev dktX1_let_1 : List UInt8 := dkwX1_let_1 ++ []
def dkwX1_let_0 : List UInt8 := [27, 42, 180, 0, 203, 180, 1, 33, 182, 0, 164, 184, 1, 26, 42, 28, 182, 1, 117, 42, 180, 0, 203]
abbrev dktX1_let_0 : List UInt8 := dkwX1_let_0 ++ dktX1_let_1
theorem dksX1_let_0 : cX1_let.data.toList.drop 0 = dktX1_let_0 := by decide +kernel
theorem dksX1_let_1 : cX1_let.data.toList.drop 23 = dktX1_let_1 := dk_seg dksX1_let_0 23 rfl rfl
theorem dX1_let_0 : decode cX1_let 0 = .ok (.iload_n 1, 1) := dk_27 (dk_at dksX1_let_0 0 rfl rfl)
theorem dX1_let_1 : decode cX1_let 1 = .ok (.aload_n 0, 1) := dk_42 (dk_at dksX1_let_0 1 rfl rfl)
theorem dX1_let_2 : decode cX1_let 2 = .ok (.getfield 203, 3) := dk_180 0 203 (dk_at dksX1_let_0 2 rfl rfl)
theorem dX1_let_5 : decode cX1_let 5 = .ok (.getfield 289, 3) := dk_180 1 33 (dk_at dksX1_let_0 5 rfl rfl)
theorem dX1_let_8 : decode cX1_let 8 = .ok (.invokevirtual 164, 3) := dk_182 0 164 (dk_at dksX1_let_0 8 rfl rfl)
theorem dX1_let_11 : decode cX1_let 11 = .ok (.invokestatic 282, 3) := dk_184 1 26 (dk_at dksX1_let_0 11 rfl rfl)
theorem dX1_let_14 : decode cX1_let 14 = .ok (.aload_n 0, 1) := dk_42 (dk_at dksX1_let_0 14 rfl rfl)
theorem dX1_let_15 : decode cX1_let 15 = .ok (.iload_n 2, 1) := dk_28 (dk_at dksX1_let_0 15 rfl rfl)
theorem dX1_let_16 : decode cX1_let 16 = .ok (.invokevirtual 373, 3) := dk_182 1 117 (dk_at dksX1_let_0 16 rfl rfl)
theorem dX1_let_19 : decode cX1_let 19 = .ok (.aload_n 0, 1) := dk_42 (dk_at dksX1_let_0 19 rfl rfl)
theorem dX1_let_20 : decode cX1_let 20 = .ok (.getfield 203, 3) := dk_180 0 203 (dk_at dksX1_let_0 20 rfl rfl)
theorem dX1_let_23 : decode cX1_let 23 = .ok (.getfield 289, 3) := dk_180 1 33 (dk_at dksX1_let_1 0 rfl rfl)
theorem dX1_let_26 : decode cX1_let 26 = .ok (.iload_n 1, 1) := dk_27 (dk_at dksX1_let_1 3 rfl rfl)
theorem dX1_let_27 : decode cX1_let 27 = .ok (.invokevirtual 305, 3) := dk_182 1 49 (dk_at dksX1_let_1 4 rfl rfl)
theorem dX1_let_30 : decode cX1_let 30 = .ok (.checkcast 189, 3) := dk_192 0 189 (dk_at dksX1_let_1 7 rfl rfl)
theorem dX1_let_33 : decode cX1_let 33 = .ok (.iload_n 2, 1) := dk_28 (dk_at dksX1_let_1 10 rfl rfl)
theorem dX1_let_34 : decode cX1_let 34 = .ok (.invokevirtual 188, 3) := dk_182 0 188 (dk_at dksX1_let_1 11 rfl rfl)
theorem dX1_let_37 : decode cX1_let 37 = .ok (.ireturn, 1) := dk_172 (dk_at dksX1_let_1 14 rfl rfl)
abbrev cX1_watch : ByteArray := prog_1_method_40_code
def yX1_watch : MethodName := ⟨RX1, "watch", "(II)Z"⟩
def dkwX1_watch_0 : List UInt8 := [42, 27, 182, 1, 121, 78, 42, 28, 182, 1, 117, 45, 180, 1, 61, 28, 182, 0, 188, 172]
abbrev dktX1_watch_0 : List UInt8 := dkwX1_watch_0 ++ []
theorem dksX1_watch_0 : cX1_watch.data.toList.drop 0 = dktX1_watch_0 := by decide +kernel
theorem dX1_watch_0 : decode cX1_watch 0 = .ok (.aload_n 0, 1) := dk_42 (dk_at dksX1_watch_0 0 rfl rfl)
theorem dX1_watch_1 : decode cX1_watch 1 = .ok (.iload_n 1, 1) := dk_27 (dk_at dksX1_watch_0 1 rfl rfl)
theorem dX1_watch_2 : decode cX1_watch 2 = .ok (.invokevirtual 377, 3) := dk_182 1 121 (dk_at dksX1_watch_0 2 rfl rfl)
theorem dX1_watch_5 : decode cX1_watch 5 = .ok (.astore_n 3, 1) := dk_78 (dk_at dksX1_watch_0 5 rfl rfl)
theorem dX1_watch_6 : decode cX1_watch 6 = .ok (.aload_n 0, 1) := dk_42 (dk_at dksX1_watch_0 6 rfl rfl)
theorem dX1_watch_7 : decode cX1_watch 7 = .ok (.iload_n 2, 1) := dk_28 (dk_at dksX1_watch_0 7 rfl rfl)
theorem dX1_watch_8 : decode cX1_watch 8 = .ok (.invokevirtual 373, 3) := dk_182 1 117 (dk_at dksX1_watch_0 8 rfl rfl)
theorem dX1_watch_11 : decode cX1_watch 11 = .ok (.aload_n 3, 1) := dk_45 (dk_at dksX1_watch_0 11 rfl rfl)
theorem dX1_watch_12 : decode cX1_watch 12 = .ok (.getfield 317, 3) := dk_180 1 61 (dk_at dksX1_watch_0 12 rfl rfl)
theorem dX1_watch_15 : decode cX1_watch 15 = .ok (.iload_n 2, 1) := dk_28 (dk_at dksX1_watch_0 15 rfl rfl)
theorem dX1_watch_16 : decode cX1_watch 16 = .ok (.invokevirtual 188, 3) := dk_182 0 188 (dk_at dksX1_watch_0 16 rfl rfl)
theorem dX1_watch_19 : decode cX1_watch 19 = .ok (.ireturn, 1) := dk_172 (dk_at dksX1_watch_0 19 rfl rfl)
abbrev cX1_known : ByteArray := prog_1_method_39_code
def yX1_known : MethodName := ⟨RX1, "known", "(I)LPastWatch$Watch;"⟩
def dkwX1_known_1 : List UInt8 := [182, 1, 49, 192, 1, 59, 176]
abbrev dktX1_known_1 : List UInt8 := dkwX1_known_1 ++ []
def dkwX1_known_0 : List UInt8 := [27, 42, 180, 0, 203, 180, 1, 39, 182, 0, 164, 184, 1, 26, 42, 180, 0, 203, 180, 1, 39, 27]
abbrev dktX1_known_0 : List UInt8 := dkwX1_known_0 ++ dktX1_known_1
theorem dksX1_known_0 : cX1_known.data.toList.drop 0 = dktX1_known_0 := by decide +kernel
theorem dksX1_known_1 : cX1_known.data.toList.drop 22 = dktX1_known_1 := dk_seg dksX1_known_0 22 rfl rfl
theorem dX1_known_0 : decode cX1_known 0 = .ok (.iload_n 1, 1) := dk_27 (dk_at dksX1_known_0 0 rfl rfl)
theorem dX1_known_1 : decode cX1_known 1 = .ok (.aload_n 0, 1) := dk_42 (dk_at dksX1_known_0 1 rfl rfl)
theorem dX1_known_2 : decode cX1_known 2 = .ok (.getfield 203, 3) := dk_180 0 203 (dk_at dksX1_known_0 2 rfl rfl)
theorem dX1_known_5 : decode cX1_known 5 = .ok (.getfield 295, 3) := dk_180 1 39 (dk_at dksX1_known_0 5 rfl rfl)
theorem dX1_known_8 : decode cX1_known 8 = .ok (.invokevirtual 164, 3) := dk_182 0 164 (dk_at dksX1_known_0 8 rfl rfl)
theorem dX1_known_11 : decode cX1_known 11 = .ok (.invokestatic 282, 3) := dk_184 1 26 (dk_at dksX1_known_0 11 rfl rfl)
theorem dX1_known_14 : decode cX1_known 14 = .ok (.aload_n 0, 1) := dk_42 (dk_at dksX1_known_0 14 rfl rfl)
theorem dX1_known_15 : decode cX1_known 15 = .ok (.getfield 203, 3) := dk_180 0 203 (dk_at dksX1_known_0 15 rfl rfl)
theorem dX1_known_18 : decode cX1_known 18 = .ok (.getfield 295, 3) := dk_180 1 39 (dk_at dksX1_known_0 18 rfl rfl)
theorem dX1_known_21 : decode cX1_known 21 = .ok (.iload_n 1, 1) := dk_27 (dk_at dksX1_known_0 21 rfl rfl)
theorem dX1_known_22 : decode cX1_known 22 = .ok (.invokevirtual 305, 3) := dk_182 1 49 (dk_at dksX1_known_1 0 rfl rfl)
theorem dX1_known_25 : decode cX1_known 25 = .ok (.checkcast 315, 3) := dk_192 1 59 (dk_at dksX1_known_1 3 rfl rfl)
theorem dX1_known_28 : decode cX1_known 28 = .ok (.areturn, 1) := dk_176 (dk_at dksX1_known_1 6 rfl rfl)
abbrev cX1_told : ByteArray := prog_1_method_41_code
def yX1_told : MethodName := ⟨RX1, "told", "(II)I"⟩
def dkwX1_told_0 : List UInt8 := [42, 27, 182, 1, 121, 78, 28, 8, 184, 1, 26, 45, 28, 42, 180, 0, 250, 182, 1, 125, 172]
abbrev dktX1_told_0 : List UInt8 := dkwX1_told_0 ++ []
theorem dksX1_told_0 : cX1_told.data.toList.drop 0 = dktX1_told_0 := by decide +kernel
theorem dX1_told_0 : decode cX1_told 0 = .ok (.aload_n 0, 1) := dk_42 (dk_at dksX1_told_0 0 rfl rfl)
theorem dX1_told_1 : decode cX1_told 1 = .ok (.iload_n 1, 1) := dk_27 (dk_at dksX1_told_0 1 rfl rfl)
theorem dX1_told_2 : decode cX1_told 2 = .ok (.invokevirtual 377, 3) := dk_182 1 121 (dk_at dksX1_told_0 2 rfl rfl)
theorem dX1_told_5 : decode cX1_told 5 = .ok (.astore_n 3, 1) := dk_78 (dk_at dksX1_told_0 5 rfl rfl)
theorem dX1_told_6 : decode cX1_told 6 = .ok (.iload_n 2, 1) := dk_28 (dk_at dksX1_told_0 6 rfl rfl)
theorem dX1_told_7 : decode cX1_told 7 = .ok (.iconst 5, 1) := dk_8 (dk_at dksX1_told_0 7 rfl rfl)
theorem dX1_told_8 : decode cX1_told 8 = .ok (.invokestatic 282, 3) := dk_184 1 26 (dk_at dksX1_told_0 8 rfl rfl)
theorem dX1_told_11 : decode cX1_told 11 = .ok (.aload_n 3, 1) := dk_45 (dk_at dksX1_told_0 11 rfl rfl)
theorem dX1_told_12 : decode cX1_told 12 = .ok (.iload_n 2, 1) := dk_28 (dk_at dksX1_told_0 12 rfl rfl)
theorem dX1_told_13 : decode cX1_told 13 = .ok (.aload_n 0, 1) := dk_42 (dk_at dksX1_told_0 13 rfl rfl)
theorem dX1_told_14 : decode cX1_told 14 = .ok (.getfield 250, 3) := dk_180 0 250 (dk_at dksX1_told_0 14 rfl rfl)
theorem dX1_told_17 : decode cX1_told 17 = .ok (.invokevirtual 381, 3) := dk_182 1 125 (dk_at dksX1_told_0 17 rfl rfl)
theorem dX1_told_20 : decode cX1_told 20 = .ok (.ireturn, 1) := dk_172 (dk_at dksX1_told_0 20 rfl rfl)
abbrev cX1_alarms : ByteArray := prog_1_method_42_code
def yX1_alarms : MethodName := ⟨RX1, "alarms", "(I)I"⟩
def dkwX1_alarms_4 : List UInt8 := [167, 255, 195, 28, 172]
abbrev dktX1_alarms_4 : List UInt8 := dkwX1_alarms_4 ++ []
def dkwX1_alarms_3 : List UInt8 := [180, 1, 61, 42, 180, 0, 250, 4, 100, 182, 0, 188, 154, 0, 7, 4, 167, 0, 4, 3, 96, 61]
abbrev dktX1_alarms_3 : List UInt8 := dkwX1_alarms_3 ++ dktX1_alarms_4
def dkwX1_alarms_2 : List UInt8 := [192, 1, 59, 58, 4, 28, 42, 180, 0, 250, 158, 0, 33, 25, 4, 180, 1, 127, 27, 161, 0, 24, 25, 4]
abbrev dktX1_alarms_2 : List UInt8 := dkwX1_alarms_2 ++ dktX1_alarms_3
def dkwX1_alarms_1 : List UInt8 := [180, 1, 39, 182, 1, 87, 78, 45, 185, 1, 91, 1, 0, 153, 0, 58, 45, 185, 1, 96, 1, 0]
abbrev dktX1_alarms_1 : List UInt8 := dkwX1_alarms_1 ++ dktX1_alarms_2
def dkwX1_alarms_0 : List UInt8 := [27, 155, 0, 13, 27, 16, 10, 162, 0, 7, 4, 167, 0, 4, 3, 184, 0, 236, 3, 61, 42, 180, 0, 203]
abbrev dktX1_alarms_0 : List UInt8 := dkwX1_alarms_0 ++ dktX1_alarms_1
theorem dksX1_alarms_0 : cX1_alarms.data.toList.drop 0 = dktX1_alarms_0 := by decide +kernel
theorem dksX1_alarms_1 : cX1_alarms.data.toList.drop 24 = dktX1_alarms_1 := dk_seg dksX1_alarms_0 24 rfl rfl
theorem dksX1_alarms_2 : cX1_alarms.data.toList.drop 46 = dktX1_alarms_2 := dk_seg dksX1_alarms_1 22 rfl rfl
theorem dksX1_alarms_3 : cX1_alarms.data.toList.drop 70 = dktX1_alarms_3 := dk_seg dksX1_alarms_2 24 rfl rfl
theorem dksX1_alarms_4 : cX1_alarms.data.toList.drop 92 = dktX1_alarms_4 := dk_seg dksX1_alarms_3 22 rfl rfl
theorem dX1_alarms_0 : decode cX1_alarms 0 = .ok (.iload_n 1, 1) := dk_27 (dk_at dksX1_alarms_0 0 rfl rfl)
theorem dX1_alarms_1 : decode cX1_alarms 1 = .ok (.ifCond .lt 13, 3) := dk_155 0 13 (dk_at dksX1_alarms_0 1 rfl rfl)
theorem dX1_alarms_4 : decode cX1_alarms 4 = .ok (.iload_n 1, 1) := dk_27 (dk_at dksX1_alarms_0 4 rfl rfl)
theorem dX1_alarms_5 : decode cX1_alarms 5 = .ok (.bipush 10, 2) := dk_16 10 (dk_at dksX1_alarms_0 5 rfl rfl)
theorem dX1_alarms_7 : decode cX1_alarms 7 = .ok (.if_icmp .ge 7, 3) := dk_162 0 7 (dk_at dksX1_alarms_0 7 rfl rfl)
theorem dX1_alarms_10 : decode cX1_alarms 10 = .ok (.iconst 1, 1) := dk_4 (dk_at dksX1_alarms_0 10 rfl rfl)
theorem dX1_alarms_11 : decode cX1_alarms 11 = .ok (.goto 4, 3) := dk_167 0 4 (dk_at dksX1_alarms_0 11 rfl rfl)
theorem dX1_alarms_14 : decode cX1_alarms 14 = .ok (.iconst 0, 1) := dk_3 (dk_at dksX1_alarms_0 14 rfl rfl)
theorem dX1_alarms_15 : decode cX1_alarms 15 = .ok (.invokestatic 236, 3) := dk_184 0 236 (dk_at dksX1_alarms_0 15 rfl rfl)
theorem dX1_alarms_18 : decode cX1_alarms 18 = .ok (.iconst 0, 1) := dk_3 (dk_at dksX1_alarms_0 18 rfl rfl)
theorem dX1_alarms_19 : decode cX1_alarms 19 = .ok (.istore_n 2, 1) := dk_61 (dk_at dksX1_alarms_0 19 rfl rfl)
theorem dX1_alarms_20 : decode cX1_alarms 20 = .ok (.aload_n 0, 1) := dk_42 (dk_at dksX1_alarms_0 20 rfl rfl)
theorem dX1_alarms_21 : decode cX1_alarms 21 = .ok (.getfield 203, 3) := dk_180 0 203 (dk_at dksX1_alarms_0 21 rfl rfl)
theorem dX1_alarms_24 : decode cX1_alarms 24 = .ok (.getfield 295, 3) := dk_180 1 39 (dk_at dksX1_alarms_1 0 rfl rfl)
theorem dX1_alarms_27 : decode cX1_alarms 27 = .ok (.invokevirtual 343, 3) := dk_182 1 87 (dk_at dksX1_alarms_1 3 rfl rfl)
theorem dX1_alarms_30 : decode cX1_alarms 30 = .ok (.astore_n 3, 1) := dk_78 (dk_at dksX1_alarms_1 6 rfl rfl)
theorem dX1_alarms_31 : decode cX1_alarms 31 = .ok (.aload_n 3, 1) := dk_45 (dk_at dksX1_alarms_1 7 rfl rfl)
theorem dX1_alarms_32 : decode cX1_alarms 32 = .ok (.invokeinterface 347 1, 5) := by decide +kernel
theorem dX1_alarms_37 : decode cX1_alarms 37 = .ok (.ifCond .eq 58, 3) := dk_153 0 58 (dk_at dksX1_alarms_1 13 rfl rfl)
theorem dX1_alarms_40 : decode cX1_alarms 40 = .ok (.aload_n 3, 1) := dk_45 (dk_at dksX1_alarms_1 16 rfl rfl)
theorem dX1_alarms_41 : decode cX1_alarms 41 = .ok (.invokeinterface 352 1, 5) := by decide +kernel
theorem dX1_alarms_46 : decode cX1_alarms 46 = .ok (.checkcast 315, 3) := dk_192 1 59 (dk_at dksX1_alarms_2 0 rfl rfl)
theorem dX1_alarms_49 : decode cX1_alarms 49 = .ok (.astore 4, 2) := dk_58 4 (dk_at dksX1_alarms_2 3 rfl rfl)
theorem dX1_alarms_51 : decode cX1_alarms 51 = .ok (.iload_n 2, 1) := dk_28 (dk_at dksX1_alarms_2 5 rfl rfl)
theorem dX1_alarms_52 : decode cX1_alarms 52 = .ok (.aload_n 0, 1) := dk_42 (dk_at dksX1_alarms_2 6 rfl rfl)
theorem dX1_alarms_53 : decode cX1_alarms 53 = .ok (.getfield 250, 3) := dk_180 0 250 (dk_at dksX1_alarms_2 7 rfl rfl)
theorem dX1_alarms_56 : decode cX1_alarms 56 = .ok (.ifCond .le 33, 3) := dk_158 0 33 (dk_at dksX1_alarms_2 10 rfl rfl)
theorem dX1_alarms_59 : decode cX1_alarms 59 = .ok (.aload 4, 2) := dk_25 4 (dk_at dksX1_alarms_2 13 rfl rfl)
theorem dX1_alarms_61 : decode cX1_alarms 61 = .ok (.getfield 383, 3) := dk_180 1 127 (dk_at dksX1_alarms_2 15 rfl rfl)
theorem dX1_alarms_64 : decode cX1_alarms 64 = .ok (.iload_n 1, 1) := dk_27 (dk_at dksX1_alarms_2 18 rfl rfl)
theorem dX1_alarms_65 : decode cX1_alarms 65 = .ok (.if_icmp .lt 24, 3) := dk_161 0 24 (dk_at dksX1_alarms_2 19 rfl rfl)
theorem dX1_alarms_68 : decode cX1_alarms 68 = .ok (.aload 4, 2) := dk_25 4 (dk_at dksX1_alarms_2 22 rfl rfl)
theorem dX1_alarms_70 : decode cX1_alarms 70 = .ok (.getfield 317, 3) := dk_180 1 61 (dk_at dksX1_alarms_3 0 rfl rfl)
theorem dX1_alarms_73 : decode cX1_alarms 73 = .ok (.aload_n 0, 1) := dk_42 (dk_at dksX1_alarms_3 3 rfl rfl)
theorem dX1_alarms_74 : decode cX1_alarms 74 = .ok (.getfield 250, 3) := dk_180 0 250 (dk_at dksX1_alarms_3 4 rfl rfl)
theorem dX1_alarms_77 : decode cX1_alarms 77 = .ok (.iconst 1, 1) := dk_4 (dk_at dksX1_alarms_3 7 rfl rfl)
theorem dX1_alarms_78 : decode cX1_alarms 78 = .ok (.isub, 1) := dk_100 (dk_at dksX1_alarms_3 8 rfl rfl)
theorem dX1_alarms_79 : decode cX1_alarms 79 = .ok (.invokevirtual 188, 3) := dk_182 0 188 (dk_at dksX1_alarms_3 9 rfl rfl)
theorem dX1_alarms_82 : decode cX1_alarms 82 = .ok (.ifCond .ne 7, 3) := dk_154 0 7 (dk_at dksX1_alarms_3 12 rfl rfl)
theorem dX1_alarms_85 : decode cX1_alarms 85 = .ok (.iconst 1, 1) := dk_4 (dk_at dksX1_alarms_3 15 rfl rfl)
theorem dX1_alarms_86 : decode cX1_alarms 86 = .ok (.goto 4, 3) := dk_167 0 4 (dk_at dksX1_alarms_3 16 rfl rfl)
theorem dX1_alarms_89 : decode cX1_alarms 89 = .ok (.iconst 0, 1) := dk_3 (dk_at dksX1_alarms_3 19 rfl rfl)
theorem dX1_alarms_90 : decode cX1_alarms 90 = .ok (.iadd, 1) := dk_96 (dk_at dksX1_alarms_3 20 rfl rfl)
theorem dX1_alarms_91 : decode cX1_alarms 91 = .ok (.istore_n 2, 1) := dk_61 (dk_at dksX1_alarms_3 21 rfl rfl)
theorem dX1_alarms_92 : decode cX1_alarms 92 = .ok (.goto (-61), 3) := dk_167 255 195 (dk_at dksX1_alarms_4 0 rfl rfl)
theorem dX1_alarms_95 : decode cX1_alarms 95 = .ok (.iload_n 2, 1) := dk_28 (dk_at dksX1_alarms_4 3 rfl rfl)
theorem dX1_alarms_96 : decode cX1_alarms 96 = .ok (.ireturn, 1) := dk_172 (dk_at dksX1_alarms_4 4 rfl rfl)
abbrev cX1_why : ByteArray := prog_1_method_43_code
def yX1_why : MethodName := ⟨RX1, "why", "(IIZ)I"⟩
def dkwX1_why_2 : List UInt8 := [153, 0, 11, 25, 5, 180, 1, 133, 167, 0, 8, 25, 5, 180, 1, 137, 172]
abbrev dktX1_why_2 : List UInt8 := dkwX1_why_2 ++ []
def dkwX1_why_1 : List UInt8 := [4, 167, 0, 4, 3, 184, 0, 228, 25, 4, 180, 1, 61, 28, 42, 180, 0, 211, 182, 1, 129, 58, 5, 29]
abbrev dktX1_why_1 : List UInt8 := dkwX1_why_1 ++ dktX1_why_2
def dkwX1_why_0 : List UInt8 := [42, 27, 182, 1, 121, 58, 4, 42, 28, 182, 1, 117, 25, 4, 180, 1, 61, 28, 182, 0, 188, 154, 0, 7]
abbrev dktX1_why_0 : List UInt8 := dkwX1_why_0 ++ dktX1_why_1
theorem dksX1_why_0 : cX1_why.data.toList.drop 0 = dktX1_why_0 := by decide +kernel
theorem dksX1_why_1 : cX1_why.data.toList.drop 24 = dktX1_why_1 := dk_seg dksX1_why_0 24 rfl rfl
theorem dksX1_why_2 : cX1_why.data.toList.drop 48 = dktX1_why_2 := dk_seg dksX1_why_1 24 rfl rfl
theorem dX1_why_0 : decode cX1_why 0 = .ok (.aload_n 0, 1) := dk_42 (dk_at dksX1_why_0 0 rfl rfl)
theorem dX1_why_1 : decode cX1_why 1 = .ok (.iload_n 1, 1) := dk_27 (dk_at dksX1_why_0 1 rfl rfl)
theorem dX1_why_2 : decode cX1_why 2 = .ok (.invokevirtual 377, 3) := dk_182 1 121 (dk_at dksX1_why_0 2 rfl rfl)
theorem dX1_why_5 : decode cX1_why 5 = .ok (.astore 4, 2) := dk_58 4 (dk_at dksX1_why_0 5 rfl rfl)
theorem dX1_why_7 : decode cX1_why 7 = .ok (.aload_n 0, 1) := dk_42 (dk_at dksX1_why_0 7 rfl rfl)
theorem dX1_why_8 : decode cX1_why 8 = .ok (.iload_n 2, 1) := dk_28 (dk_at dksX1_why_0 8 rfl rfl)
theorem dX1_why_9 : decode cX1_why 9 = .ok (.invokevirtual 373, 3) := dk_182 1 117 (dk_at dksX1_why_0 9 rfl rfl)
theorem dX1_why_12 : decode cX1_why 12 = .ok (.aload 4, 2) := dk_25 4 (dk_at dksX1_why_0 12 rfl rfl)
theorem dX1_why_14 : decode cX1_why 14 = .ok (.getfield 317, 3) := dk_180 1 61 (dk_at dksX1_why_0 14 rfl rfl)
theorem dX1_why_17 : decode cX1_why 17 = .ok (.iload_n 2, 1) := dk_28 (dk_at dksX1_why_0 17 rfl rfl)
theorem dX1_why_18 : decode cX1_why 18 = .ok (.invokevirtual 188, 3) := dk_182 0 188 (dk_at dksX1_why_0 18 rfl rfl)
theorem dX1_why_21 : decode cX1_why 21 = .ok (.ifCond .ne 7, 3) := dk_154 0 7 (dk_at dksX1_why_0 21 rfl rfl)
theorem dX1_why_24 : decode cX1_why 24 = .ok (.iconst 1, 1) := dk_4 (dk_at dksX1_why_1 0 rfl rfl)
theorem dX1_why_25 : decode cX1_why 25 = .ok (.goto 4, 3) := dk_167 0 4 (dk_at dksX1_why_1 1 rfl rfl)
theorem dX1_why_28 : decode cX1_why 28 = .ok (.iconst 0, 1) := dk_3 (dk_at dksX1_why_1 4 rfl rfl)
theorem dX1_why_29 : decode cX1_why 29 = .ok (.invokestatic 228, 3) := dk_184 0 228 (dk_at dksX1_why_1 5 rfl rfl)
theorem dX1_why_32 : decode cX1_why 32 = .ok (.aload 4, 2) := dk_25 4 (dk_at dksX1_why_1 8 rfl rfl)
theorem dX1_why_34 : decode cX1_why 34 = .ok (.getfield 317, 3) := dk_180 1 61 (dk_at dksX1_why_1 10 rfl rfl)
theorem dX1_why_37 : decode cX1_why 37 = .ok (.iload_n 2, 1) := dk_28 (dk_at dksX1_why_1 13 rfl rfl)
theorem dX1_why_38 : decode cX1_why 38 = .ok (.aload_n 0, 1) := dk_42 (dk_at dksX1_why_1 14 rfl rfl)
theorem dX1_why_39 : decode cX1_why 39 = .ok (.getfield 211, 3) := dk_180 0 211 (dk_at dksX1_why_1 15 rfl rfl)
theorem dX1_why_42 : decode cX1_why 42 = .ok (.invokevirtual 385, 3) := dk_182 1 129 (dk_at dksX1_why_1 18 rfl rfl)
theorem dX1_why_45 : decode cX1_why 45 = .ok (.astore 5, 2) := dk_58 5 (dk_at dksX1_why_1 21 rfl rfl)
theorem dX1_why_47 : decode cX1_why 47 = .ok (.iload_n 3, 1) := dk_29 (dk_at dksX1_why_1 23 rfl rfl)
theorem dX1_why_48 : decode cX1_why 48 = .ok (.ifCond .eq 11, 3) := dk_153 0 11 (dk_at dksX1_why_2 0 rfl rfl)
theorem dX1_why_51 : decode cX1_why 51 = .ok (.aload 5, 2) := dk_25 5 (dk_at dksX1_why_2 3 rfl rfl)
theorem dX1_why_53 : decode cX1_why 53 = .ok (.getfield 389, 3) := dk_180 1 133 (dk_at dksX1_why_2 5 rfl rfl)
theorem dX1_why_56 : decode cX1_why 56 = .ok (.goto 8, 3) := dk_167 0 8 (dk_at dksX1_why_2 8 rfl rfl)
theorem dX1_why_59 : decode cX1_why 59 = .ok (.aload 5, 2) := dk_25 5 (dk_at dksX1_why_2 11 rfl rfl)
theorem dX1_why_61 : decode cX1_why 61 = .ok (.getfield 393, 3) := dk_180 1 137 (dk_at dksX1_why_2 13 rfl rfl)
theorem dX1_why_64 : decode cX1_why 64 = .ok (.ireturn, 1) := dk_172 (dk_at dksX1_why_2 16 rfl rfl)
abbrev cX1_differ : ByteArray := prog_1_method_44_code
def yX1_differ : MethodName := ⟨RX1, "differ", "(II)I"⟩
def dkwX1_differ_2 : List UInt8 := [21, 5, 172, 132, 5, 1, 167, 255, 225, 2, 172]
abbrev dktX1_differ_2 : List UInt8 := dkwX1_differ_2 ++ []
def dkwX1_differ_1 : List UInt8 := [42, 180, 0, 250, 162, 0, 28, 45, 21, 5, 182, 0, 188, 25, 4, 21, 5, 182, 0, 188, 159, 0, 6]
abbrev dktX1_differ_1 : List UInt8 := dkwX1_differ_1 ++ dktX1_differ_2
def dkwX1_differ_0 : List UInt8 := [42, 27, 182, 1, 121, 180, 1, 61, 78, 42, 28, 182, 1, 121, 180, 1, 61, 58, 4, 3, 54, 5, 21, 5]
abbrev dktX1_differ_0 : List UInt8 := dkwX1_differ_0 ++ dktX1_differ_1
theorem dksX1_differ_0 : cX1_differ.data.toList.drop 0 = dktX1_differ_0 := by decide +kernel
theorem dksX1_differ_1 : cX1_differ.data.toList.drop 24 = dktX1_differ_1 := dk_seg dksX1_differ_0 24 rfl rfl
theorem dksX1_differ_2 : cX1_differ.data.toList.drop 47 = dktX1_differ_2 := dk_seg dksX1_differ_1 23 rfl rfl
theorem dX1_differ_0 : decode cX1_differ 0 = .ok (.aload_n 0, 1) := dk_42 (dk_at dksX1_differ_0 0 rfl rfl)
theorem dX1_differ_1 : decode cX1_differ 1 = .ok (.iload_n 1, 1) := dk_27 (dk_at dksX1_differ_0 1 rfl rfl)
theorem dX1_differ_2 : decode cX1_differ 2 = .ok (.invokevirtual 377, 3) := dk_182 1 121 (dk_at dksX1_differ_0 2 rfl rfl)
theorem dX1_differ_5 : decode cX1_differ 5 = .ok (.getfield 317, 3) := dk_180 1 61 (dk_at dksX1_differ_0 5 rfl rfl)
theorem dX1_differ_8 : decode cX1_differ 8 = .ok (.astore_n 3, 1) := dk_78 (dk_at dksX1_differ_0 8 rfl rfl)
theorem dX1_differ_9 : decode cX1_differ 9 = .ok (.aload_n 0, 1) := dk_42 (dk_at dksX1_differ_0 9 rfl rfl)
theorem dX1_differ_10 : decode cX1_differ 10 = .ok (.iload_n 2, 1) := dk_28 (dk_at dksX1_differ_0 10 rfl rfl)
theorem dX1_differ_11 : decode cX1_differ 11 = .ok (.invokevirtual 377, 3) := dk_182 1 121 (dk_at dksX1_differ_0 11 rfl rfl)
theorem dX1_differ_14 : decode cX1_differ 14 = .ok (.getfield 317, 3) := dk_180 1 61 (dk_at dksX1_differ_0 14 rfl rfl)
theorem dX1_differ_17 : decode cX1_differ 17 = .ok (.astore 4, 2) := dk_58 4 (dk_at dksX1_differ_0 17 rfl rfl)
theorem dX1_differ_19 : decode cX1_differ 19 = .ok (.iconst 0, 1) := dk_3 (dk_at dksX1_differ_0 19 rfl rfl)
theorem dX1_differ_20 : decode cX1_differ 20 = .ok (.istore 5, 2) := dk_54 5 (dk_at dksX1_differ_0 20 rfl rfl)
theorem dX1_differ_22 : decode cX1_differ 22 = .ok (.iload 5, 2) := dk_21 5 (dk_at dksX1_differ_0 22 rfl rfl)
theorem dX1_differ_24 : decode cX1_differ 24 = .ok (.aload_n 0, 1) := dk_42 (dk_at dksX1_differ_1 0 rfl rfl)
theorem dX1_differ_25 : decode cX1_differ 25 = .ok (.getfield 250, 3) := dk_180 0 250 (dk_at dksX1_differ_1 1 rfl rfl)
theorem dX1_differ_28 : decode cX1_differ 28 = .ok (.if_icmp .ge 28, 3) := dk_162 0 28 (dk_at dksX1_differ_1 4 rfl rfl)
theorem dX1_differ_31 : decode cX1_differ 31 = .ok (.aload_n 3, 1) := dk_45 (dk_at dksX1_differ_1 7 rfl rfl)
theorem dX1_differ_32 : decode cX1_differ 32 = .ok (.iload 5, 2) := dk_21 5 (dk_at dksX1_differ_1 8 rfl rfl)
theorem dX1_differ_34 : decode cX1_differ 34 = .ok (.invokevirtual 188, 3) := dk_182 0 188 (dk_at dksX1_differ_1 10 rfl rfl)
theorem dX1_differ_37 : decode cX1_differ 37 = .ok (.aload 4, 2) := dk_25 4 (dk_at dksX1_differ_1 13 rfl rfl)
theorem dX1_differ_39 : decode cX1_differ 39 = .ok (.iload 5, 2) := dk_21 5 (dk_at dksX1_differ_1 15 rfl rfl)
theorem dX1_differ_41 : decode cX1_differ 41 = .ok (.invokevirtual 188, 3) := dk_182 0 188 (dk_at dksX1_differ_1 17 rfl rfl)
theorem dX1_differ_44 : decode cX1_differ 44 = .ok (.if_icmp .eq 6, 3) := dk_159 0 6 (dk_at dksX1_differ_1 20 rfl rfl)
theorem dX1_differ_47 : decode cX1_differ 47 = .ok (.iload 5, 2) := dk_21 5 (dk_at dksX1_differ_2 0 rfl rfl)
theorem dX1_differ_49 : decode cX1_differ 49 = .ok (.ireturn, 1) := dk_172 (dk_at dksX1_differ_2 2 rfl rfl)
theorem dX1_differ_50 : decode cX1_differ 50 = .ok (.iinc 5 1, 3) := dk_132 5 1 (dk_at dksX1_differ_2 3 rfl rfl)
theorem dX1_differ_53 : decode cX1_differ 53 = .ok (.goto (-31), 3) := dk_167 255 225 (dk_at dksX1_differ_2 6 rfl rfl)
theorem dX1_differ_56 : decode cX1_differ 56 = .ok (.iconst (-1), 1) := dk_2 (dk_at dksX1_differ_2 9 rfl rfl)
theorem dX1_differ_57 : decode cX1_differ 57 = .ok (.ireturn, 1) := dk_172 (dk_at dksX1_differ_2 10 rfl rfl)
abbrev cX1_share : ByteArray := prog_1_method_45_code
def yX1_share : MethodName := ⟨RX1, "share", "(I)D"⟩
def dkwX1_share_1 : List UInt8 := [180, 0, 250, 182, 1, 125, 100, 135, 42, 180, 0, 250, 135, 111, 175]
abbrev dktX1_share_1 : List UInt8 := dkwX1_share_1 ++ []
def dkwX1_share_0 : List UInt8 := [42, 27, 182, 1, 121, 77, 42, 180, 0, 250, 154, 0, 7, 15, 167, 0, 24, 42, 180, 0, 250, 44, 4, 42]
abbrev dktX1_share_0 : List UInt8 := dkwX1_share_0 ++ dktX1_share_1
theorem dksX1_share_0 : cX1_share.data.toList.drop 0 = dktX1_share_0 := by decide +kernel
theorem dksX1_share_1 : cX1_share.data.toList.drop 24 = dktX1_share_1 := dk_seg dksX1_share_0 24 rfl rfl
theorem dX1_share_0 : decode cX1_share 0 = .ok (.aload_n 0, 1) := dk_42 (dk_at dksX1_share_0 0 rfl rfl)
theorem dX1_share_1 : decode cX1_share 1 = .ok (.iload_n 1, 1) := dk_27 (dk_at dksX1_share_0 1 rfl rfl)
theorem dX1_share_2 : decode cX1_share 2 = .ok (.invokevirtual 377, 3) := dk_182 1 121 (dk_at dksX1_share_0 2 rfl rfl)
theorem dX1_share_5 : decode cX1_share 5 = .ok (.astore_n 2, 1) := dk_77 (dk_at dksX1_share_0 5 rfl rfl)
theorem dX1_share_6 : decode cX1_share 6 = .ok (.aload_n 0, 1) := dk_42 (dk_at dksX1_share_0 6 rfl rfl)
theorem dX1_share_7 : decode cX1_share 7 = .ok (.getfield 250, 3) := dk_180 0 250 (dk_at dksX1_share_0 7 rfl rfl)
theorem dX1_share_10 : decode cX1_share 10 = .ok (.ifCond .ne 7, 3) := dk_154 0 7 (dk_at dksX1_share_0 10 rfl rfl)
theorem dX1_share_13 : decode cX1_share 13 = .ok (.dconst 1, 1) := dk_15 (dk_at dksX1_share_0 13 rfl rfl)
theorem dX1_share_14 : decode cX1_share 14 = .ok (.goto 24, 3) := dk_167 0 24 (dk_at dksX1_share_0 14 rfl rfl)
theorem dX1_share_17 : decode cX1_share 17 = .ok (.aload_n 0, 1) := dk_42 (dk_at dksX1_share_0 17 rfl rfl)
theorem dX1_share_18 : decode cX1_share 18 = .ok (.getfield 250, 3) := dk_180 0 250 (dk_at dksX1_share_0 18 rfl rfl)
theorem dX1_share_21 : decode cX1_share 21 = .ok (.aload_n 2, 1) := dk_44 (dk_at dksX1_share_0 21 rfl rfl)
theorem dX1_share_22 : decode cX1_share 22 = .ok (.iconst 1, 1) := dk_4 (dk_at dksX1_share_0 22 rfl rfl)
theorem dX1_share_23 : decode cX1_share 23 = .ok (.aload_n 0, 1) := dk_42 (dk_at dksX1_share_0 23 rfl rfl)
theorem dX1_share_24 : decode cX1_share 24 = .ok (.getfield 250, 3) := dk_180 0 250 (dk_at dksX1_share_1 0 rfl rfl)
theorem dX1_share_27 : decode cX1_share 27 = .ok (.invokevirtual 381, 3) := dk_182 1 125 (dk_at dksX1_share_1 3 rfl rfl)
theorem dX1_share_30 : decode cX1_share 30 = .ok (.isub, 1) := dk_100 (dk_at dksX1_share_1 6 rfl rfl)
theorem dX1_share_31 : decode cX1_share 31 = .ok (.i2d, 1) := dk_135 (dk_at dksX1_share_1 7 rfl rfl)
theorem dX1_share_32 : decode cX1_share 32 = .ok (.aload_n 0, 1) := dk_42 (dk_at dksX1_share_1 8 rfl rfl)
theorem dX1_share_33 : decode cX1_share 33 = .ok (.getfield 250, 3) := dk_180 0 250 (dk_at dksX1_share_1 9 rfl rfl)
theorem dX1_share_36 : decode cX1_share 36 = .ok (.i2d, 1) := dk_135 (dk_at dksX1_share_1 12 rfl rfl)
theorem dX1_share_37 : decode cX1_share 37 = .ok (.ddiv, 1) := dk_111 (dk_at dksX1_share_1 13 rfl rfl)
theorem dX1_share_38 : decode cX1_share 38 = .ok (.dreturn, 1) := dk_175 (dk_at dksX1_share_1 14 rfl rfl)
abbrev cX1_answer : ByteArray := prog_1_method_47_code
def yX1_answer : MethodName := ⟨RX1, "answer", "(I)Z"⟩
def dkwX1_answer_1 : List UInt8 := [27, 182, 0, 188, 172]
abbrev dktX1_answer_1 : List UInt8 := dkwX1_answer_1 ++ []
def dkwX1_answer_0 : List UInt8 := [42, 27, 182, 1, 117, 42, 180, 0, 253, 198, 0, 7, 4, 167, 0, 4, 3, 184, 0, 228, 42, 180, 0, 253]
abbrev dktX1_answer_0 : List UInt8 := dkwX1_answer_0 ++ dktX1_answer_1
theorem dksX1_answer_0 : cX1_answer.data.toList.drop 0 = dktX1_answer_0 := by decide +kernel
theorem dksX1_answer_1 : cX1_answer.data.toList.drop 24 = dktX1_answer_1 := dk_seg dksX1_answer_0 24 rfl rfl
theorem dX1_answer_0 : decode cX1_answer 0 = .ok (.aload_n 0, 1) := dk_42 (dk_at dksX1_answer_0 0 rfl rfl)
theorem dX1_answer_1 : decode cX1_answer 1 = .ok (.iload_n 1, 1) := dk_27 (dk_at dksX1_answer_0 1 rfl rfl)
theorem dX1_answer_2 : decode cX1_answer 2 = .ok (.invokevirtual 373, 3) := dk_182 1 117 (dk_at dksX1_answer_0 2 rfl rfl)
theorem dX1_answer_5 : decode cX1_answer 5 = .ok (.aload_n 0, 1) := dk_42 (dk_at dksX1_answer_0 5 rfl rfl)
theorem dX1_answer_6 : decode cX1_answer 6 = .ok (.getfield 253, 3) := dk_180 0 253 (dk_at dksX1_answer_0 6 rfl rfl)
theorem dX1_answer_9 : decode cX1_answer 9 = .ok (.ifnull 7, 3) := dk_198 0 7 (dk_at dksX1_answer_0 9 rfl rfl)
theorem dX1_answer_12 : decode cX1_answer 12 = .ok (.iconst 1, 1) := dk_4 (dk_at dksX1_answer_0 12 rfl rfl)
theorem dX1_answer_13 : decode cX1_answer 13 = .ok (.goto 4, 3) := dk_167 0 4 (dk_at dksX1_answer_0 13 rfl rfl)
theorem dX1_answer_16 : decode cX1_answer 16 = .ok (.iconst 0, 1) := dk_3 (dk_at dksX1_answer_0 16 rfl rfl)
theorem dX1_answer_17 : decode cX1_answer 17 = .ok (.invokestatic 228, 3) := dk_184 0 228 (dk_at dksX1_answer_0 17 rfl rfl)
theorem dX1_answer_20 : decode cX1_answer 20 = .ok (.aload_n 0, 1) := dk_42 (dk_at dksX1_answer_0 20 rfl rfl)
theorem dX1_answer_21 : decode cX1_answer 21 = .ok (.getfield 253, 3) := dk_180 0 253 (dk_at dksX1_answer_0 21 rfl rfl)
theorem dX1_answer_24 : decode cX1_answer 24 = .ok (.iload_n 1, 1) := dk_27 (dk_at dksX1_answer_1 0 rfl rfl)
theorem dX1_answer_25 : decode cX1_answer 25 = .ok (.invokevirtual 188, 3) := dk_182 0 188 (dk_at dksX1_answer_1 1 rfl rfl)
theorem dX1_answer_28 : decode cX1_answer 28 = .ok (.ireturn, 1) := dk_172 (dk_at dksX1_answer_1 4 rfl rfl)
theorem q106 : (Jvm.Cond.initialized "PastWatch") ∈ lw_all := lw_g (lw_at lw_m1 1 rfl) rfl
theorem q170 : (Jvm.Cond.instantiable "PastWatch" (11 : Nat)) ∈ lw_all := lw_g (lw_at lw_m1 65 rfl) rfl
theorem q172 : (Jvm.Cond.instanceMethod ({ cls := "PastWatch", name := "<init>", desc := "()V" } : Jvm.MethodName)) ∈ lw_all := lw_g (lw_at lw_m1 67 rfl) rfl
theorem q173 : (Jvm.Cond.code ({ cls := "PastWatch", name := "<init>", desc := "()V" } : Jvm.MethodName) prog_1_method_14_code (1 : Nat) (Option.none : Option Jvm.ClassFile.FieldType)) ∈ lw_all := lw_g (lw_at lw_m1 68 rfl) rfl
theorem q174 : (Jvm.Cond.methodLink "PastWatch" (193 : Nat) ({ cls := "java/lang/Object", name := "<init>", desc := "()V" } : Jvm.MethodName)) ∈ lw_all := lw_g (lw_at lw_m1 69 rfl) rfl
theorem q177 : (Jvm.Cond.classLink "PastWatch" (200 : Nat) "PastWatch$Program") ∈ lw_all := lw_g (lw_at lw_m1 72 rfl) rfl
theorem q179 : (Jvm.Cond.methodLinkNest "PastWatch" (202 : Nat) ({ cls := "PastWatch$Program", name := "<init>", desc := "()V" } : Jvm.MethodName) "PastWatch") ∈ lw_tbl := lw_at lw_m1 74 rfl
theorem q247 : (Jvm.Cond.fieldLink "PastWatch" (286 : Nat) "PastWatch$Program" "signals" "Ljava/util/ArrayList;") ∈ lw_all := lw_g (lw_at lw_m1 142 rfl) rfl
theorem q250 : (Jvm.Cond.fieldLink "PastWatch" (289 : Nat) "PastWatch$Program" "lets" "Ljava/util/ArrayList;") ∈ lw_all := lw_g (lw_at lw_m1 145 rfl) rfl
theorem q253 : (Jvm.Cond.fieldLink "PastWatch" (292 : Nat) "PastWatch$Program" "values" "Ljava/util/ArrayList;") ∈ lw_all := lw_g (lw_at lw_m1 148 rfl) rfl
theorem q256 : (Jvm.Cond.fieldLink "PastWatch" (295 : Nat) "PastWatch$Program" "watches" "Ljava/util/ArrayList;") ∈ lw_all := lw_g (lw_at lw_m1 151 rfl) rfl
theorem q258 : (Jvm.Cond.fieldLink "PastWatch" (265 : Nat) "PastWatch$Program" "nodes" "Ljava/util/ArrayList;") ∈ lw_all := lw_g (lw_at lw_m1 153 rfl) rfl
theorem q278 : (Jvm.Cond.classLink "PastWatch" (151 : Nat) "java/util/ArrayList") ∈ lw_all := lw_g (lw_at lw_m1 173 rfl) rfl
theorem q279 : (Jvm.Cond.methodLink "PastWatch" (153 : Nat) ({ cls := "java/util/ArrayList", name := "<init>", desc := "()V" } : Jvm.MethodName)) ∈ lw_all := lw_g (lw_at lw_m1 174 rfl) rfl
theorem q280 : (Jvm.Cond.fieldLink "PastWatch" (196 : Nat) "PastWatch" "tape" "[B") ∈ lw_all := lw_g (lw_at lw_m1 175 rfl) rfl
theorem q281 : (Jvm.Cond.fieldLink "PastWatch" (225 : Nat) "PastWatch" "taped" "I") ∈ lw_all := lw_g (lw_at lw_m1 176 rfl) rfl
theorem q282 : (Jvm.Cond.fieldLink "PastWatch" (203 : Nat) "PastWatch" "program" "LPastWatch$Program;") ∈ lw_all := lw_g (lw_at lw_m1 177 rfl) rfl
theorem q283 : (Jvm.Cond.fieldLink "PastWatch" (207 : Nat) "PastWatch" "errorAt" "I") ∈ lw_all := lw_g (lw_at lw_m1 178 rfl) rfl
theorem q284 : (Jvm.Cond.fieldLink "PastWatch" (250 : Nat) "PastWatch" "steps" "I") ∈ lw_all := lw_g (lw_at lw_m1 179 rfl) rfl
theorem q285 : (Jvm.Cond.fieldLink "PastWatch" (211 : Nat) "PastWatch" "times" "[I") ∈ lw_all := lw_g (lw_at lw_m1 180 rfl) rfl
theorem q286 : (Jvm.Cond.fieldLink "PastWatch" (298 : Nat) "PastWatch" "keptSteps" "I") ∈ lw_all := lw_g (lw_at lw_m1 181 rfl) rfl
theorem q287 : (Jvm.Cond.fieldLink "PastWatch" (215 : Nat) "PastWatch" "keptTimes" "[I") ∈ lw_all := lw_g (lw_at lw_m1 182 rfl) rfl
theorem q288 : (Jvm.Cond.fieldLink "PastWatch" (218 : Nat) "PastWatch" "kept" "Ljava/util/ArrayList;") ∈ lw_all := lw_g (lw_at lw_m1 183 rfl) rfl
theorem q289 : (Jvm.Cond.fieldLink "PastWatch" (253 : Nat) "PastWatch" "asked" "LPastWatch$Node;") ∈ lw_all := lw_g (lw_at lw_m1 184 rfl) rfl
theorem q290 : (Jvm.Cond.fieldLink "PastWatch" (222 : Nat) "PastWatch" "askedNodes" "Ljava/util/ArrayList;") ∈ lw_all := lw_g (lw_at lw_m1 185 rfl) rfl
theorem q291 : (Jvm.Cond.laysFinal "PastWatch" "PastWatch" "tape" "[B") ∈ lw_all := lw_g (lw_at lw_m1 186 rfl) rfl
theorem q292 : (Jvm.Cond.soleField "PastWatch" "tape") ∈ lw_all := lw_g (lw_at lw_m1 187 rfl) rfl
theorem q293 : (Jvm.Cond.lays "PastWatch" "PastWatch" "taped" "I") ∈ lw_all := lw_g (lw_at lw_m1 188 rfl) rfl
theorem q294 : (Jvm.Cond.soleField "PastWatch" "taped") ∈ lw_all := lw_g (lw_at lw_m1 189 rfl) rfl
theorem q295 : (Jvm.Cond.lays "PastWatch" "PastWatch" "program" "LPastWatch$Program;") ∈ lw_all := lw_g (lw_at lw_m1 190 rfl) rfl
theorem q296 : (Jvm.Cond.soleField "PastWatch" "program") ∈ lw_all := lw_g (lw_at lw_m1 191 rfl) rfl
theorem q297 : (Jvm.Cond.lays "PastWatch" "PastWatch" "errorAt" "I") ∈ lw_all := lw_g (lw_at lw_m1 192 rfl) rfl
theorem q298 : (Jvm.Cond.soleField "PastWatch" "errorAt") ∈ lw_all := lw_g (lw_at lw_m1 193 rfl) rfl
theorem q299 : (Jvm.Cond.lays "PastWatch" "PastWatch" "steps" "I") ∈ lw_all := lw_g (lw_at lw_m1 194 rfl) rfl
theorem q300 : (Jvm.Cond.soleField "PastWatch" "steps") ∈ lw_all := lw_g (lw_at lw_m1 195 rfl) rfl
theorem q301 : (Jvm.Cond.laysFinal "PastWatch" "PastWatch" "times" "[I") ∈ lw_all := lw_g (lw_at lw_m1 196 rfl) rfl
theorem q302 : (Jvm.Cond.soleField "PastWatch" "times") ∈ lw_all := lw_g (lw_at lw_m1 197 rfl) rfl
theorem q303 : (Jvm.Cond.lays "PastWatch" "PastWatch" "keptSteps" "I") ∈ lw_all := lw_g (lw_at lw_m1 198 rfl) rfl
theorem q304 : (Jvm.Cond.soleField "PastWatch" "keptSteps") ∈ lw_all := lw_g (lw_at lw_m1 199 rfl) rfl
theorem q305 : (Jvm.Cond.lays "PastWatch" "PastWatch" "keptTimes" "[I") ∈ lw_all := lw_g (lw_at lw_m1 200 rfl) rfl
theorem q306 : (Jvm.Cond.soleField "PastWatch" "keptTimes") ∈ lw_all := lw_g (lw_at lw_m1 201 rfl) rfl
theorem q307 : (Jvm.Cond.laysFinal "PastWatch" "PastWatch" "kept" "Ljava/util/ArrayList;") ∈ lw_all := lw_g (lw_at lw_m1 202 rfl) rfl
theorem q308 : (Jvm.Cond.soleField "PastWatch" "kept") ∈ lw_all := lw_g (lw_at lw_m1 203 rfl) rfl
theorem q309 : (Jvm.Cond.lays "PastWatch" "PastWatch" "asked" "LPastWatch$Node;") ∈ lw_all := lw_g (lw_at lw_m1 204 rfl) rfl
theorem q310 : (Jvm.Cond.soleField "PastWatch" "asked") ∈ lw_all := lw_g (lw_at lw_m1 205 rfl) rfl
theorem q311 : (Jvm.Cond.laysFinal "PastWatch" "PastWatch" "askedNodes" "Ljava/util/ArrayList;") ∈ lw_all := lw_g (lw_at lw_m1 206 rfl) rfl
theorem q312 : (Jvm.Cond.soleField "PastWatch" "askedNodes") ∈ lw_all := lw_g (lw_at lw_m1 207 rfl) rfl
theorem q313 : (Jvm.Cond.superclass "PastWatch" "java/lang/Object") ∈ lw_all := lw_g (lw_at lw_m1 208 rfl) rfl
theorem q316 : (Jvm.Cond.instanceMethod ({ cls := "PastWatch", name := "compile", desc := "()I" } : Jvm.MethodName)) ∈ lw_all := lw_g (lw_at lw_m1 211 rfl) rfl
theorem q317 : (Jvm.Cond.selects "PastWatch" ({ cls := "PastWatch", name := "compile", desc := "()I" } : Jvm.MethodName) ({ cls := "PastWatch", name := "compile", desc := "()I" } : Jvm.MethodName)) ∈ lw_all := lw_g (lw_at lw_m1 212 rfl) rfl
theorem q318 : (Jvm.Cond.codeWith ({ cls := "PastWatch", name := "compile", desc := "()I" } : Jvm.MethodName) prog_1_method_19_code (3 : Nat) (Option.some Jvm.ClassFile.FieldType.int) [((34 : Nat), (62 : Nat), (63 : Nat), (274 : Nat))]) ∈ lw_all := lw_g (lw_at lw_m1 213 rfl) rfl
theorem q319 : (Jvm.Cond.classLink "PastWatch" (274 : Nat) "PastWatch$Wrong") ∈ lw_all := lw_g (lw_at lw_m1 214 rfl) rfl
theorem q320 : (Jvm.Cond.classLink "PastWatch" (257 : Nat) "PastWatch$Reader") ∈ lw_all := lw_g (lw_at lw_m1 215 rfl) rfl
theorem q322 : (Jvm.Cond.methodLink "PastWatch" (259 : Nat) ({ cls := "PastWatch", name := "text", desc := "()Ljava/lang/String;" } : Jvm.MethodName)) ∈ lw_all := lw_g (lw_at lw_m1 217 rfl) rfl
theorem q323 : (Jvm.Cond.privateMethod ({ cls := "PastWatch", name := "text", desc := "()Ljava/lang/String;" } : Jvm.MethodName)) ∈ lw_tbl := lw_at lw_m1 218 rfl
theorem q324 : (Jvm.Cond.instanceMethod ({ cls := "PastWatch", name := "text", desc := "()Ljava/lang/String;" } : Jvm.MethodName)) ∈ lw_all := lw_g (lw_at lw_m1 219 rfl) rfl
theorem q325 : (Jvm.Cond.code ({ cls := "PastWatch", name := "text", desc := "()Ljava/lang/String;" } : Jvm.MethodName) prog_1_method_18_code (3 : Nat) (Option.some (Jvm.ClassFile.FieldType.object "java/lang/String"))) ∈ lw_all := lw_g (lw_at lw_m1 220 rfl) rfl
theorem q326 : (Jvm.Cond.classLink "PastWatch" (239 : Nat) "java/lang/StringBuilder") ∈ lw_all := lw_g (lw_at lw_m1 221 rfl) rfl
theorem q328 : (Jvm.Cond.methodLink "PastWatch" (241 : Nat) ({ cls := "java/lang/StringBuilder", name := "<init>", desc := "()V" } : Jvm.MethodName)) ∈ lw_all := lw_g (lw_at lw_m1 223 rfl) rfl
theorem q357 : (Jvm.Cond.methodLink "PastWatch" (242 : Nat) ({ cls := "java/lang/StringBuilder", name := "append", desc := "(C)Ljava/lang/StringBuilder;" } : Jvm.MethodName)) ∈ lw_all := lw_g (lw_at lw_m2 12 rfl) rfl
theorem q452 : (Jvm.Cond.methodLink "PastWatch" (246 : Nat) ({ cls := "java/lang/StringBuilder", name := "toString", desc := "()Ljava/lang/String;" } : Jvm.MethodName)) ∈ lw_all := lw_g (lw_at lw_m2 107 rfl) rfl
theorem q658 : (Jvm.Cond.methodLink "PastWatch" (261 : Nat) ({ cls := "PastWatch", name := "tokensOf", desc := "(Ljava/lang/String;)Ljava/util/List;" } : Jvm.MethodName)) ∈ lw_all := lw_g (lw_at lw_m3 73 rfl) rfl
theorem q659 : (Jvm.Cond.static ({ cls := "PastWatch", name := "tokensOf", desc := "(Ljava/lang/String;)Ljava/util/List;" } : Jvm.MethodName)) ∈ lw_all := lw_g (lw_at lw_m3 74 rfl) rfl
theorem q660 : (Jvm.Cond.code ({ cls := "PastWatch", name := "tokensOf", desc := "(Ljava/lang/String;)Ljava/util/List;" } : Jvm.MethodName) prog_1_method_10_code (5 : Nat) (Option.some (Jvm.ClassFile.FieldType.object "java/util/List"))) ∈ lw_all := lw_g (lw_at lw_m3 75 rfl) rfl
theorem q661 : (Jvm.Cond.methodLink "PastWatch" (83 : Nat) ({ cls := "java/lang/String", name := "length", desc := "()I" } : Jvm.MethodName)) ∈ lw_all := lw_g (lw_at lw_m3 76 rfl) rfl
theorem q662 : (Jvm.Cond.methodLink "PastWatch" (86 : Nat) ({ cls := "java/lang/String", name := "charAt", desc := "(I)C" } : Jvm.MethodName)) ∈ lw_all := lw_g (lw_at lw_m3 77 rfl) rfl
theorem q677 : (Jvm.Cond.methodLink "PastWatch" (90 : Nat) ({ cls := "PastWatch", name := "isLetter", desc := "(C)Z" } : Jvm.MethodName)) ∈ lw_all := lw_g (lw_at lw_m3 92 rfl) rfl
theorem q678 : (Jvm.Cond.static ({ cls := "PastWatch", name := "isLetter", desc := "(C)Z" } : Jvm.MethodName)) ∈ lw_all := lw_g (lw_at lw_m3 93 rfl) rfl
theorem q679 : (Jvm.Cond.code ({ cls := "PastWatch", name := "isLetter", desc := "(C)Z" } : Jvm.MethodName) prog_1_method_4_code (1 : Nat) (Option.some Jvm.ClassFile.FieldType.boolean)) ∈ lw_all := lw_g (lw_at lw_m3 94 rfl) rfl
theorem q680 : (Jvm.Cond.methodLink "PastWatch" (154 : Nat) ({ cls := "PastWatch", name := "wordAt", desc := "(Ljava/lang/String;I)LPastWatch$Token;" } : Jvm.MethodName)) ∈ lw_all := lw_g (lw_at lw_m3 95 rfl) rfl
theorem q681 : (Jvm.Cond.static ({ cls := "PastWatch", name := "wordAt", desc := "(Ljava/lang/String;I)LPastWatch$Token;" } : Jvm.MethodName)) ∈ lw_all := lw_g (lw_at lw_m3 96 rfl) rfl
theorem q682 : (Jvm.Cond.code ({ cls := "PastWatch", name := "wordAt", desc := "(Ljava/lang/String;I)LPastWatch$Token;" } : Jvm.MethodName) prog_1_method_7_code (4 : Nat) (Option.some (Jvm.ClassFile.FieldType.object "PastWatch$Token"))) ∈ lw_all := lw_g (lw_at lw_m3 97 rfl) rfl
theorem q683 : (Jvm.Cond.methodLink "PastWatch" (96 : Nat) ({ cls := "PastWatch", name := "isDigit", desc := "(C)Z" } : Jvm.MethodName)) ∈ lw_all := lw_g (lw_at lw_m3 98 rfl) rfl
theorem q684 : (Jvm.Cond.static ({ cls := "PastWatch", name := "isDigit", desc := "(C)Z" } : Jvm.MethodName)) ∈ lw_all := lw_g (lw_at lw_m3 99 rfl) rfl
theorem q685 : (Jvm.Cond.code ({ cls := "PastWatch", name := "isDigit", desc := "(C)Z" } : Jvm.MethodName) prog_1_method_5_code (1 : Nat) (Option.some Jvm.ClassFile.FieldType.boolean)) ∈ lw_all := lw_g (lw_at lw_m3 100 rfl) rfl
theorem q686 : (Jvm.Cond.methodLink "PastWatch" (99 : Nat) ({ cls := "java/lang/String", name := "substring", desc := "(II)Ljava/lang/String;" } : Jvm.MethodName)) ∈ lw_all := lw_g (lw_at lw_m3 101 rfl) rfl
theorem q710 : (Jvm.Cond.classLink "PastWatch" (103 : Nat) "PastWatch$Token") ∈ lw_all := lw_g (lw_at lw_m3 125 rfl) rfl
theorem q712 : (Jvm.Cond.fieldLink "PastWatch" (105 : Nat) "PastWatch$Sort" "BAD" "LPastWatch$Sort;") ∈ lw_all := lw_g (lw_at lw_m3 127 rfl) rfl
theorem q714 : (Jvm.Cond.methodLink "PastWatch" (111 : Nat) ({ cls := "PastWatch", name := "isKeyword", desc := "(Ljava/lang/String;)Z" } : Jvm.MethodName)) ∈ lw_all := lw_g (lw_at lw_m3 129 rfl) rfl
theorem q715 : (Jvm.Cond.static ({ cls := "PastWatch", name := "isKeyword", desc := "(Ljava/lang/String;)Z" } : Jvm.MethodName)) ∈ lw_all := lw_g (lw_at lw_m3 130 rfl) rfl
theorem q716 : (Jvm.Cond.code ({ cls := "PastWatch", name := "isKeyword", desc := "(Ljava/lang/String;)Z" } : Jvm.MethodName) prog_1_method_6_code (3 : Nat) (Option.some Jvm.ClassFile.FieldType.boolean)) ∈ lw_all := lw_g (lw_at lw_m3 131 rfl) rfl
theorem q717 : (Jvm.Cond.methodLink "PastWatch" (13 : Nat) ({ cls := "java/lang/String", name := "hashCode", desc := "()I" } : Jvm.MethodName)) ∈ lw_all := lw_g (lw_at lw_m3 132 rfl) rfl
theorem q774 : (Jvm.Cond.stringRef "PastWatch" (19 : Nat) "signal") ∈ lw_tbl := lw_at lw_m3 189 rfl
theorem q775 : (Jvm.Cond.methodLink "PastWatch" (21 : Nat) ({ cls := "java/lang/String", name := "equals", desc := "(Ljava/lang/Object;)Z" } : Jvm.MethodName)) ∈ lw_all := lw_g (lw_at lw_m3 190 rfl) rfl
theorem q783 : (Jvm.Cond.stringRef "PastWatch" (25 : Nat) "let") ∈ lw_tbl := lw_at lw_m3 198 rfl
theorem q784 : (Jvm.Cond.stringRef "PastWatch" (27 : Nat) "value") ∈ lw_tbl := lw_at lw_m3 199 rfl
theorem q785 : (Jvm.Cond.stringRef "PastWatch" (29 : Nat) "watch") ∈ lw_tbl := lw_at lw_m3 200 rfl
theorem q786 : (Jvm.Cond.stringRef "PastWatch" (31 : Nat) "level") ∈ lw_tbl := lw_at lw_m3 201 rfl
theorem q787 : (Jvm.Cond.stringRef "PastWatch" (33 : Nat) "not") ∈ lw_tbl := lw_at lw_m3 202 rfl
theorem q788 : (Jvm.Cond.stringRef "PastWatch" (35 : Nat) "prev") ∈ lw_tbl := lw_at lw_m3 203 rfl
theorem q789 : (Jvm.Cond.stringRef "PastWatch" (37 : Nat) "rise") ∈ lw_tbl := lw_at lw_m3 204 rfl
theorem q790 : (Jvm.Cond.stringRef "PastWatch" (39 : Nat) "fall") ∈ lw_tbl := lw_at lw_m3 205 rfl
theorem q791 : (Jvm.Cond.stringRef "PastWatch" (41 : Nat) "once") ∈ lw_tbl := lw_at lw_m3 206 rfl
theorem q792 : (Jvm.Cond.stringRef "PastWatch" (43 : Nat) "always") ∈ lw_tbl := lw_at lw_m3 207 rfl
theorem q793 : (Jvm.Cond.stringRef "PastWatch" (45 : Nat) "since") ∈ lw_tbl := lw_at lw_m3 208 rfl
theorem q794 : (Jvm.Cond.stringRef "PastWatch" (47 : Nat) "and") ∈ lw_tbl := lw_at lw_m3 209 rfl
theorem q795 : (Jvm.Cond.stringRef "PastWatch" (49 : Nat) "or") ∈ lw_tbl := lw_at lw_m3 210 rfl
theorem q796 : (Jvm.Cond.stringRef "PastWatch" (51 : Nat) "implies") ∈ lw_tbl := lw_at lw_m3 211 rfl
theorem q797 : (Jvm.Cond.stringRef "PastWatch" (53 : Nat) "is") ∈ lw_tbl := lw_at lw_m3 212 rfl
theorem q798 : (Jvm.Cond.stringRef "PastWatch" (55 : Nat) "true") ∈ lw_tbl := lw_at lw_m3 213 rfl
theorem q799 : (Jvm.Cond.stringRef "PastWatch" (57 : Nat) "false") ∈ lw_tbl := lw_at lw_m3 214 rfl
theorem q800 : (Jvm.Cond.stringRef "PastWatch" (59 : Nat) "if") ∈ lw_tbl := lw_at lw_m3 215 rfl
theorem q801 : (Jvm.Cond.stringRef "PastWatch" (61 : Nat) "then") ∈ lw_tbl := lw_at lw_m3 216 rfl
theorem q802 : (Jvm.Cond.stringRef "PastWatch" (63 : Nat) "else") ∈ lw_tbl := lw_at lw_m3 217 rfl
theorem q803 : (Jvm.Cond.stringRef "PastWatch" (65 : Nat) "old") ∈ lw_tbl := lw_at lw_m3 218 rfl
theorem q804 : (Jvm.Cond.stringRef "PastWatch" (67 : Nat) "max") ∈ lw_tbl := lw_at lw_m3 219 rfl
theorem q805 : (Jvm.Cond.stringRef "PastWatch" (69 : Nat) "min") ∈ lw_tbl := lw_at lw_m3 220 rfl
theorem q806 : (Jvm.Cond.stringRef "PastWatch" (71 : Nat) "sum") ∈ lw_tbl := lw_at lw_m3 221 rfl
theorem q807 : (Jvm.Cond.stringRef "PastWatch" (73 : Nat) "count") ∈ lw_tbl := lw_at lw_m3 222 rfl
theorem q808 : (Jvm.Cond.stringRef "PastWatch" (75 : Nat) "at") ∈ lw_tbl := lw_at lw_m3 223 rfl
theorem q809 : (Jvm.Cond.stringRef "PastWatch" (77 : Nat) "last") ∈ lw_tbl := lw_at lw_m3 224 rfl
theorem q810 : (Jvm.Cond.stringRef "PastWatch" (79 : Nat) "time") ∈ lw_tbl := lw_at lw_m3 225 rfl
theorem q811 : (Jvm.Cond.stringRef "PastWatch" (81 : Nat) "step") ∈ lw_tbl := lw_at lw_m3 226 rfl
theorem q812 : (Jvm.Cond.fieldLink "PastWatch" (115 : Nat) "PastWatch$Sort" "KEYWORD" "LPastWatch$Sort;") ∈ lw_all := lw_g (lw_at lw_m3 227 rfl) rfl
theorem q814 : (Jvm.Cond.fieldLink "PastWatch" (118 : Nat) "PastWatch$Sort" "NAME" "LPastWatch$Sort;") ∈ lw_all := lw_g (lw_at lw_m3 229 rfl) rfl
theorem q816 : (Jvm.Cond.methodLink "PastWatch" (121 : Nat) ({ cls := "PastWatch$Token", name := "<init>", desc := "(LPastWatch$Sort;Ljava/lang/String;I)V" } : Jvm.MethodName)) ∈ lw_all := lw_g (lw_at lw_m3 231 rfl) rfl
theorem q822 : (Jvm.Cond.fieldLink "PastWatch" (174 : Nat) "PastWatch$Token" "sort" "LPastWatch$Sort;") ∈ lw_all := lw_g (lw_at lw_m3 237 rfl) rfl
theorem q824 : (Jvm.Cond.fieldLink "PastWatch" (167 : Nat) "PastWatch$Token" "text" "Ljava/lang/String;") ∈ lw_all := lw_g (lw_at lw_m3 239 rfl) rfl
theorem q835 : (Jvm.Cond.methodLink "PastWatch" (158 : Nat) ({ cls := "PastWatch", name := "numberAt", desc := "(Ljava/lang/String;I)LPastWatch$Token;" } : Jvm.MethodName)) ∈ lw_all := lw_g (lw_at lw_m4 10 rfl) rfl
theorem q836 : (Jvm.Cond.static ({ cls := "PastWatch", name := "numberAt", desc := "(Ljava/lang/String;I)LPastWatch$Token;" } : Jvm.MethodName)) ∈ lw_all := lw_g (lw_at lw_m4 11 rfl) rfl
theorem q837 : (Jvm.Cond.code ({ cls := "PastWatch", name := "numberAt", desc := "(Ljava/lang/String;I)LPastWatch$Token;" } : Jvm.MethodName) prog_1_method_8_code (3 : Nat) (Option.some (Jvm.ClassFile.FieldType.object "PastWatch$Token"))) ∈ lw_all := lw_g (lw_at lw_m4 12 rfl) rfl
theorem q838 : (Jvm.Cond.fieldLink "PastWatch" (124 : Nat) "PastWatch$Sort" "NUMBER" "LPastWatch$Sort;") ∈ lw_all := lw_g (lw_at lw_m4 13 rfl) rfl
theorem q840 : (Jvm.Cond.methodLink "PastWatch" (161 : Nat) ({ cls := "PastWatch", name := "symbolAt", desc := "(Ljava/lang/String;I)LPastWatch$Token;" } : Jvm.MethodName)) ∈ lw_all := lw_g (lw_at lw_m4 15 rfl) rfl
theorem q841 : (Jvm.Cond.static ({ cls := "PastWatch", name := "symbolAt", desc := "(Ljava/lang/String;I)LPastWatch$Token;" } : Jvm.MethodName)) ∈ lw_all := lw_g (lw_at lw_m4 16 rfl) rfl
theorem q842 : (Jvm.Cond.code ({ cls := "PastWatch", name := "symbolAt", desc := "(Ljava/lang/String;I)LPastWatch$Token;" } : Jvm.MethodName) prog_1_method_9_code (5 : Nat) (Option.some (Jvm.ClassFile.FieldType.object "PastWatch$Token"))) ∈ lw_all := lw_g (lw_at lw_m4 17 rfl) rfl
theorem q843 : (Jvm.Cond.methodLink "PastWatch" (127 : Nat) ({ cls := "java/lang/Math", name := "min", desc := "(II)I" } : Jvm.MethodName)) ∈ lw_all := lw_g (lw_at lw_m4 18 rfl) rfl
theorem q844 : (Jvm.Cond.stringRef "PastWatch" (132 : Nat) ":=") ∈ lw_tbl := lw_at lw_m4 19 rfl
theorem q845 : (Jvm.Cond.stringRef "PastWatch" (134 : Nat) "<=") ∈ lw_tbl := lw_at lw_m4 20 rfl
theorem q846 : (Jvm.Cond.stringRef "PastWatch" (136 : Nat) ">=") ∈ lw_tbl := lw_at lw_m4 21 rfl
theorem q847 : (Jvm.Cond.stringRef "PastWatch" (138 : Nat) "<>") ∈ lw_tbl := lw_at lw_m4 22 rfl
theorem q848 : (Jvm.Cond.stringRef "PastWatch" (140 : Nat) "..") ∈ lw_tbl := lw_at lw_m4 23 rfl
theorem q849 : (Jvm.Cond.fieldLink "PastWatch" (142 : Nat) "PastWatch$Sort" "SYMBOL" "LPastWatch$Sort;") ∈ lw_all := lw_g (lw_at lw_m4 24 rfl) rfl
theorem q851 : (Jvm.Cond.stringRef "PastWatch" (145 : Nat) "(){}[];:=+-*/%<>") ∈ lw_tbl := lw_at lw_m4 26 rfl
theorem q852 : (Jvm.Cond.methodLink "PastWatch" (147 : Nat) ({ cls := "java/lang/String", name := "indexOf", desc := "(I)I" } : Jvm.MethodName)) ∈ lw_all := lw_g (lw_at lw_m4 27 rfl) rfl
theorem q897 : (Jvm.Cond.methodLink "PastWatch" (164 : Nat) ({ cls := "java/util/ArrayList", name := "size", desc := "()I" } : Jvm.MethodName)) ∈ lw_all := lw_g (lw_at lw_m4 72 rfl) rfl
theorem q901 : (Jvm.Cond.methodLink "PastWatch" (171 : Nat) ({ cls := "java/util/ArrayList", name := "add", desc := "(Ljava/lang/Object;)Z" } : Jvm.MethodName)) ∈ lw_all := lw_g (lw_at lw_m4 76 rfl) rfl
theorem q924 : (Jvm.Cond.selects "PastWatch" ({ cls := "java/lang/Object", name := "getClass", desc := "()Ljava/lang/Class;" } : Jvm.MethodName) ({ cls := "java/lang/Object", name := "getClass", desc := "()Ljava/lang/Class;" } : Jvm.MethodName)) ∈ lw_all := lw_g (lw_at lw_m4 99 rfl) rfl
theorem q977 : (Jvm.Cond.fieldLink "PastWatch" (177 : Nat) "PastWatch$Sort" "END" "LPastWatch$Sort;") ∈ lw_all := lw_g (lw_at lw_m4 152 rfl) rfl
theorem q979 : (Jvm.Cond.stringRef "PastWatch" (180 : Nat) "") ∈ lw_tbl := lw_at lw_m4 154 rfl
theorem q980 : (Jvm.Cond.methodLink "PastWatch" (268 : Nat) ({ cls := "PastWatch$Reader", name := "<init>", desc := "(Ljava/util/List;LPastWatch$Program;Ljava/util/List;)V" } : Jvm.MethodName)) ∈ lw_all := lw_g (lw_at lw_m4 155 rfl) rfl
theorem q1003 : (Jvm.Cond.methodLink "PastWatch" (271 : Nat) ({ cls := "PastWatch$Reader", name := "readProgram", desc := "()V" } : Jvm.MethodName)) ∈ lw_all := lw_g (lw_at lw_m4 178 rfl) rfl
theorem q1079 : (Jvm.Cond.fieldLinkNest "PastWatch" (279 : Nat) "PastWatch$Wrong" "error" "I" "PastWatch") ∈ lw_tbl := lw_at lw_m5 14 rfl
theorem q1081 : (Jvm.Cond.fieldLinkNest "PastWatch" (276 : Nat) "PastWatch$Wrong" "place" "I" "PastWatch") ∈ lw_tbl := lw_at lw_m5 16 rfl
theorem q1120 : (Jvm.Cond.selects "PastWatch" ({ cls := "java/lang/Object", name := "hashCode", desc := "()I" } : Jvm.MethodName) ({ cls := "java/lang/Object", name := "hashCode", desc := "()I" } : Jvm.MethodName)) ∈ lw_all := lw_g (lw_at lw_m5 55 rfl) rfl
theorem q1169 : (Jvm.Cond.selects "PastWatch" ({ cls := "java/lang/Object", name := "equals", desc := "(Ljava/lang/Object;)Z" } : Jvm.MethodName) ({ cls := "java/lang/Object", name := "equals", desc := "(Ljava/lang/Object;)Z" } : Jvm.MethodName)) ∈ lw_all := lw_g (lw_at lw_m5 104 rfl) rfl
theorem q1485 : (Jvm.Cond.fieldLink "PastWatch" (355 : Nat) "PastWatch$Signal" "first" "J") ∈ lw_all := lw_g (lw_at lw_m6 180 rfl) rfl
theorem q1487 : (Jvm.Cond.fieldLinkNest "PastWatch" (311 : Nat) "PastWatch$Signal" "next" "J" "PastWatch") ∈ lw_tbl := lw_at lw_m6 182 rfl
theorem q2052 : (Jvm.Cond.fieldLink "PastWatch" (317 : Nat) "PastWatch$Watch" "formula" "LPastWatch$Node;") ∈ lw_all := lw_g (lw_at lw_m9 27 rfl) rfl
theorem q2054 : (Jvm.Cond.fieldLink "PastWatch" (383 : Nat) "PastWatch$Watch" "level" "I") ∈ lw_all := lw_g (lw_at lw_m9 29 rfl) rfl
theorem q2067 : (Jvm.Cond.instanceMethod ({ cls := "PastWatch", name := "errorAt", desc := "()I" } : Jvm.MethodName)) ∈ lw_all := lw_g (lw_at lw_m9 42 rfl) rfl
theorem q2068 : (Jvm.Cond.selects "PastWatch" ({ cls := "PastWatch", name := "errorAt", desc := "()I" } : Jvm.MethodName) ({ cls := "PastWatch", name := "errorAt", desc := "()I" } : Jvm.MethodName)) ∈ lw_all := lw_g (lw_at lw_m9 43 rfl) rfl
theorem q2069 : (Jvm.Cond.code ({ cls := "PastWatch", name := "errorAt", desc := "()I" } : Jvm.MethodName) prog_1_method_20_code (1 : Nat) (Option.some Jvm.ClassFile.FieldType.int)) ∈ lw_all := lw_g (lw_at lw_m9 44 rfl) rfl
theorem q2071 : (Jvm.Cond.instanceMethod ({ cls := "PastWatch", name := "keep", desc := "()I" } : Jvm.MethodName)) ∈ lw_all := lw_g (lw_at lw_m9 46 rfl) rfl
theorem q2072 : (Jvm.Cond.selects "PastWatch" ({ cls := "PastWatch", name := "keep", desc := "()I" } : Jvm.MethodName) ({ cls := "PastWatch", name := "keep", desc := "()I" } : Jvm.MethodName)) ∈ lw_all := lw_g (lw_at lw_m9 47 rfl) rfl
theorem q2073 : (Jvm.Cond.code ({ cls := "PastWatch", name := "keep", desc := "()I" } : Jvm.MethodName) prog_1_method_32_code (5 : Nat) (Option.some Jvm.ClassFile.FieldType.int)) ∈ lw_all := lw_g (lw_at lw_m9 48 rfl) rfl
theorem q2074 : (Jvm.Cond.methodLink "PastWatch" (361 : Nat) ({ cls := "[I", name := "clone", desc := "()Ljava/lang/Object;" } : Jvm.MethodName)) ∈ lw_all := lw_g (lw_at lw_m9 49 rfl) rfl
theorem q2078 : (Jvm.Cond.classLink "PastWatch" (362 : Nat) "[I") ∈ lw_all := lw_g (lw_at lw_m9 53 rfl) rfl
theorem q2079 : (Jvm.Cond.methodLink "PastWatch" (365 : Nat) ({ cls := "java/util/ArrayList", name := "clear", desc := "()V" } : Jvm.MethodName)) ∈ lw_all := lw_g (lw_at lw_m9 54 rfl) rfl
theorem q2083 : (Jvm.Cond.methodLink "PastWatch" (343 : Nat) ({ cls := "java/util/ArrayList", name := "iterator", desc := "()Ljava/util/Iterator;" } : Jvm.MethodName)) ∈ lw_all := lw_g (lw_at lw_m9 58 rfl) rfl
theorem q2106 : (Jvm.Cond.interfaceEntry "PastWatch" (347 : Nat)) ∈ lw_tbl := lw_at lw_m9 81 rfl
theorem q2107 : (Jvm.Cond.methodLink "PastWatch" (347 : Nat) ({ cls := "java/util/Iterator", name := "hasNext", desc := "()Z" } : Jvm.MethodName)) ∈ lw_all := lw_g (lw_at lw_m9 82 rfl) rfl
theorem q2116 : (Jvm.Cond.interfaceEntry "PastWatch" (352 : Nat)) ∈ lw_tbl := lw_at lw_m9 91 rfl
theorem q2117 : (Jvm.Cond.methodLink "PastWatch" (352 : Nat) ({ cls := "java/util/Iterator", name := "next", desc := "()Ljava/lang/Object;" } : Jvm.MethodName)) ∈ lw_all := lw_g (lw_at lw_m9 92 rfl) rfl
theorem q2129 : (Jvm.Cond.classLink "PastWatch" (309 : Nat) "PastWatch$Signal") ∈ lw_all := lw_g (lw_at lw_m9 104 rfl) rfl
theorem q2130 : (Jvm.Cond.methodLink "PastWatch" (368 : Nat) ({ cls := "PastWatch$Signal", name := "at", desc := "(I)J" } : Jvm.MethodName)) ∈ lw_all := lw_g (lw_at lw_m9 105 rfl) rfl
theorem q2138 : (Jvm.Cond.instanceMethod ({ cls := "PastWatch", name := "ask", desc := "()I" } : Jvm.MethodName)) ∈ lw_all := lw_g (lw_at lw_m9 113 rfl) rfl
theorem q2139 : (Jvm.Cond.selects "PastWatch" ({ cls := "PastWatch", name := "ask", desc := "()I" } : Jvm.MethodName) ({ cls := "PastWatch", name := "ask", desc := "()I" } : Jvm.MethodName)) ∈ lw_all := lw_g (lw_at lw_m9 114 rfl) rfl
theorem q2140 : (Jvm.Cond.codeWith ({ cls := "PastWatch", name := "ask", desc := "()I" } : Jvm.MethodName) prog_1_method_46_code (5 : Nat) (Option.some Jvm.ClassFile.FieldType.int) [((13 : Nat), (112 : Nat), (113 : Nat), (274 : Nat))]) ∈ lw_all := lw_g (lw_at lw_m9 115 rfl) rfl
theorem q2141 : (Jvm.Cond.methodLink "PastWatch" (394 : Nat) ({ cls := "PastWatch$Reader", name := "readFormula", desc := "()LPastWatch$Node;" } : Jvm.MethodName)) ∈ lw_all := lw_g (lw_at lw_m9 116 rfl) rfl
theorem q2145 : (Jvm.Cond.classLink "PastWatch" (189 : Nat) "PastWatch$Node") ∈ lw_all := lw_g (lw_at lw_m9 120 rfl) rfl
theorem q2146 : (Jvm.Cond.methodLink "PastWatch" (328 : Nat) ({ cls := "PastWatch", name := "keepAll", desc := "(Ljava/util/List;I)V" } : Jvm.MethodName)) ∈ lw_all := lw_g (lw_at lw_m9 121 rfl) rfl
theorem q2147 : (Jvm.Cond.privateMethod ({ cls := "PastWatch", name := "keepAll", desc := "(Ljava/util/List;I)V" } : Jvm.MethodName)) ∈ lw_tbl := lw_at lw_m9 122 rfl
theorem q2148 : (Jvm.Cond.instanceMethod ({ cls := "PastWatch", name := "keepAll", desc := "(Ljava/util/List;I)V" } : Jvm.MethodName)) ∈ lw_all := lw_g (lw_at lw_m9 123 rfl) rfl
theorem q2149 : (Jvm.Cond.code ({ cls := "PastWatch", name := "keepAll", desc := "(Ljava/util/List;I)V" } : Jvm.MethodName) prog_1_method_25_code (4 : Nat) (Option.none : Option Jvm.ClassFile.FieldType)) ∈ lw_all := lw_g (lw_at lw_m9 124 rfl) rfl
theorem q2150 : (Jvm.Cond.interfaceEntry "PastWatch" (320 : Nat)) ∈ lw_tbl := lw_at lw_m9 125 rfl
theorem q2151 : (Jvm.Cond.methodLink "PastWatch" (320 : Nat) ({ cls := "java/util/List", name := "size", desc := "()I" } : Jvm.MethodName)) ∈ lw_all := lw_g (lw_at lw_m9 126 rfl) rfl
theorem q2157 : (Jvm.Cond.interfaceEntry "PastWatch" (323 : Nat)) ∈ lw_tbl := lw_at lw_m9 132 rfl
theorem q2158 : (Jvm.Cond.methodLink "PastWatch" (323 : Nat) ({ cls := "java/util/List", name := "get", desc := "(I)Ljava/lang/Object;" } : Jvm.MethodName)) ∈ lw_all := lw_g (lw_at lw_m9 133 rfl) rfl
theorem q2159 : (Jvm.Cond.methodLink "PastWatch" (324 : Nat) ({ cls := "PastWatch$Node", name := "keep", desc := "(I[I)V" } : Jvm.MethodName)) ∈ lw_all := lw_g (lw_at lw_m9 134 rfl) rfl
theorem q2185 : (Jvm.Cond.static ({ cls := "PastWatch", name := "lastStep", desc := "(LPastWatch$Node;I)I" } : Jvm.MethodName)) ∈ lw_all := lw_g (lw_at lw_m9 160 rfl) rfl
theorem q2186 : (Jvm.Cond.code ({ cls := "PastWatch", name := "lastStep", desc := "(LPastWatch$Node;I)I" } : Jvm.MethodName) prog_1_method_13_code (3 : Nat) (Option.some Jvm.ClassFile.FieldType.int)) ∈ lw_all := lw_g (lw_at lw_m9 161 rfl) rfl
theorem q2187 : (Jvm.Cond.methodLink "PastWatch" (188 : Nat) ({ cls := "PastWatch$Node", name := "holds", desc := "(I)Z" } : Jvm.MethodName)) ∈ lw_all := lw_g (lw_at lw_m9 162 rfl) rfl
theorem q2215 : (Jvm.Cond.static ({ cls := "PastWatch", name := "isMeant", desc := "(LPastWatch$Bounds;[III)Z" } : Jvm.MethodName)) ∈ lw_all := lw_g (lw_at lw_m9 190 rfl) rfl
theorem q2216 : (Jvm.Cond.code ({ cls := "PastWatch", name := "isMeant", desc := "(LPastWatch$Bounds;[III)Z" } : Jvm.MethodName) prog_1_method_12_code (4 : Nat) (Option.some Jvm.ClassFile.FieldType.boolean)) ∈ lw_all := lw_g (lw_at lw_m9 191 rfl) rfl
theorem q2217 : (Jvm.Cond.methodLink "PastWatch" (182 : Nat) ({ cls := "PastWatch$Bounds", name := "isIn", desc := "(I)Z" } : Jvm.MethodName)) ∈ lw_all := lw_g (lw_at lw_m9 192 rfl) rfl
theorem q2223 : (Jvm.Cond.static ({ cls := "PastWatch", name := "asNumber", desc := "(Z)J" } : Jvm.MethodName)) ∈ lw_all := lw_g (lw_at lw_m9 198 rfl) rfl
theorem q2224 : (Jvm.Cond.code ({ cls := "PastWatch", name := "asNumber", desc := "(Z)J" } : Jvm.MethodName) prog_1_method_11_code (1 : Nat) (Option.some Jvm.ClassFile.FieldType.long)) ∈ lw_all := lw_g (lw_at lw_m9 199 rfl) rfl
theorem q2337 : (Jvm.Cond.instanceMethod ({ cls := "PastWatch", name := "digest", desc := "()J" } : Jvm.MethodName)) ∈ lw_all := lw_g (lw_at lw_m10 72 rfl) rfl
theorem q2338 : (Jvm.Cond.selects "PastWatch" ({ cls := "PastWatch", name := "digest", desc := "()J" } : Jvm.MethodName) ({ cls := "PastWatch", name := "digest", desc := "()J" } : Jvm.MethodName)) ∈ lw_all := lw_g (lw_at lw_m10 73 rfl) rfl
theorem q2339 : (Jvm.Cond.code ({ cls := "PastWatch", name := "digest", desc := "()J" } : Jvm.MethodName) prog_1_method_48_code (6 : Nat) (Option.some Jvm.ClassFile.FieldType.long)) ∈ lw_all := lw_g (lw_at lw_m10 74 rfl) rfl
theorem q2340 : (Jvm.Cond.constantLong "PastWatch" (398 : Nat) (383 : Int64)) ∈ lw_all := lw_g (lw_at lw_m10 75 rfl) rfl
theorem q2341 : (Jvm.Cond.constantLong "PastWatch" (400 : Nat) (31 : Int64)) ∈ lw_all := lw_g (lw_at lw_m10 76 rfl) rfl
theorem q2342 : (Jvm.Cond.methodLink "PastWatch" (402 : Nat) ({ cls := "PastWatch", name := "count", desc := "(I)I" } : Jvm.MethodName)) ∈ lw_all := lw_g (lw_at lw_m10 77 rfl) rfl
theorem q2343 : (Jvm.Cond.instanceMethod ({ cls := "PastWatch", name := "count", desc := "(I)I" } : Jvm.MethodName)) ∈ lw_all := lw_g (lw_at lw_m10 78 rfl) rfl
theorem q2344 : (Jvm.Cond.selects "PastWatch" ({ cls := "PastWatch", name := "count", desc := "(I)I" } : Jvm.MethodName) ({ cls := "PastWatch", name := "count", desc := "(I)I" } : Jvm.MethodName)) ∈ lw_all := lw_g (lw_at lw_m10 79 rfl) rfl
theorem q2345 : (Jvm.Cond.code ({ cls := "PastWatch", name := "count", desc := "(I)I" } : Jvm.MethodName) prog_1_method_21_code (2 : Nat) (Option.some Jvm.ClassFile.FieldType.int)) ∈ lw_all := lw_g (lw_at lw_m10 80 rfl) rfl
theorem q2346 : (Jvm.Cond.methodLink "PastWatch" (282 : Nat) ({ cls := "PastWatch", name := "requireIndex", desc := "(II)V" } : Jvm.MethodName)) ∈ lw_all := lw_g (lw_at lw_m10 81 rfl) rfl
theorem q2347 : (Jvm.Cond.static ({ cls := "PastWatch", name := "requireIndex", desc := "(II)V" } : Jvm.MethodName)) ∈ lw_all := lw_g (lw_at lw_m10 82 rfl) rfl
theorem q2348 : (Jvm.Cond.code ({ cls := "PastWatch", name := "requireIndex", desc := "(II)V" } : Jvm.MethodName) prog_1_method_3_code (2 : Nat) (Option.none : Option Jvm.ClassFile.FieldType)) ∈ lw_all := lw_g (lw_at lw_m10 83 rfl) rfl
theorem q2349 : (Jvm.Cond.classLink "PastWatch" (10 : Nat) "java/lang/IndexOutOfBoundsException") ∈ lw_all := lw_g (lw_at lw_m10 84 rfl) rfl
theorem q2358 : (Jvm.Cond.methodLink "PastWatch" (12 : Nat) ({ cls := "java/lang/IndexOutOfBoundsException", name := "<init>", desc := "()V" } : Jvm.MethodName)) ∈ lw_all := lw_g (lw_at lw_m10 93 rfl) rfl
theorem q2364 : (Jvm.Cond.methodLink "PastWatch" (376 : Nat) ({ cls := "PastWatch$Node", name := "at", desc := "(I)J" } : Jvm.MethodName)) ∈ lw_all := lw_g (lw_at lw_m10 99 rfl) rfl
theorem q2365 : (Jvm.Cond.classLink "PastWatch" (315 : Nat) "PastWatch$Watch") ∈ lw_all := lw_g (lw_at lw_m10 100 rfl) rfl
theorem q2366 : (Jvm.Cond.methodLink "PastWatch" (381 : Nat) ({ cls := "PastWatch$Watch", name := "get", desc := "(II)I" } : Jvm.MethodName)) ∈ lw_all := lw_g (lw_at lw_m10 101 rfl) rfl
theorem q2377 : (Jvm.Cond.instanceMethod ({ cls := "PastWatch", name := "feed", desc := "(IIIII)I" } : Jvm.MethodName)) ∈ lw_all := lw_g (lw_at lw_m10 112 rfl) rfl
theorem q2378 : (Jvm.Cond.selects "PastWatch" ({ cls := "PastWatch", name := "feed", desc := "(IIIII)I" } : Jvm.MethodName) ({ cls := "PastWatch", name := "feed", desc := "(IIIII)I" } : Jvm.MethodName)) ∈ lw_all := lw_g (lw_at lw_m10 113 rfl) rfl
theorem q2379 : (Jvm.Cond.code ({ cls := "PastWatch", name := "feed", desc := "(IIIII)I" } : Jvm.MethodName) prog_1_method_16_code (6 : Nat) (Option.some Jvm.ClassFile.FieldType.int)) ∈ lw_all := lw_g (lw_at lw_m10 114 rfl) rfl
theorem q2380 : (Jvm.Cond.methodLink "PastWatch" (228 : Nat) ({ cls := "PastWatch", name := "requireState", desc := "(Z)V" } : Jvm.MethodName)) ∈ lw_all := lw_g (lw_at lw_m10 115 rfl) rfl
theorem q2381 : (Jvm.Cond.static ({ cls := "PastWatch", name := "requireState", desc := "(Z)V" } : Jvm.MethodName)) ∈ lw_all := lw_g (lw_at lw_m10 116 rfl) rfl
theorem q2382 : (Jvm.Cond.code ({ cls := "PastWatch", name := "requireState", desc := "(Z)V" } : Jvm.MethodName) prog_1_method_2_code (1 : Nat) (Option.none : Option Jvm.ClassFile.FieldType)) ∈ lw_all := lw_g (lw_at lw_m10 117 rfl) rfl
theorem q2383 : (Jvm.Cond.classLink "PastWatch" (7 : Nat) "java/lang/IllegalStateException") ∈ lw_all := lw_g (lw_at lw_m10 118 rfl) rfl
theorem q2392 : (Jvm.Cond.methodLink "PastWatch" (9 : Nat) ({ cls := "java/lang/IllegalStateException", name := "<init>", desc := "()V" } : Jvm.MethodName)) ∈ lw_all := lw_g (lw_at lw_m10 127 rfl) rfl
theorem q2398 : (Jvm.Cond.methodLink "PastWatch" (232 : Nat) ({ cls := "PastWatch", name := "put", desc := "(I)V" } : Jvm.MethodName)) ∈ lw_all := lw_g (lw_at lw_m10 133 rfl) rfl
theorem q2399 : (Jvm.Cond.privateMethod ({ cls := "PastWatch", name := "put", desc := "(I)V" } : Jvm.MethodName)) ∈ lw_tbl := lw_at lw_m10 134 rfl
theorem q2400 : (Jvm.Cond.instanceMethod ({ cls := "PastWatch", name := "put", desc := "(I)V" } : Jvm.MethodName)) ∈ lw_all := lw_g (lw_at lw_m10 135 rfl) rfl
theorem q2401 : (Jvm.Cond.code ({ cls := "PastWatch", name := "put", desc := "(I)V" } : Jvm.MethodName) prog_1_method_15_code (3 : Nat) (Option.none : Option Jvm.ClassFile.FieldType)) ∈ lw_all := lw_g (lw_at lw_m10 136 rfl) rfl
theorem q2407 : (Jvm.Cond.instanceMethod ({ cls := "PastWatch", name := "trim", desc := "(I)I" } : Jvm.MethodName)) ∈ lw_all := lw_g (lw_at lw_m10 142 rfl) rfl
theorem q2408 : (Jvm.Cond.selects "PastWatch" ({ cls := "PastWatch", name := "trim", desc := "(I)I" } : Jvm.MethodName) ({ cls := "PastWatch", name := "trim", desc := "(I)I" } : Jvm.MethodName)) ∈ lw_all := lw_g (lw_at lw_m10 143 rfl) rfl
theorem q2409 : (Jvm.Cond.code ({ cls := "PastWatch", name := "trim", desc := "(I)I" } : Jvm.MethodName) prog_1_method_17_code (2 : Nat) (Option.some Jvm.ClassFile.FieldType.int)) ∈ lw_all := lw_g (lw_at lw_m10 144 rfl) rfl
theorem q2410 : (Jvm.Cond.methodLink "PastWatch" (236 : Nat) ({ cls := "PastWatch", name := "require", desc := "(Z)V" } : Jvm.MethodName)) ∈ lw_all := lw_g (lw_at lw_m10 145 rfl) rfl
theorem q2411 : (Jvm.Cond.static ({ cls := "PastWatch", name := "require", desc := "(Z)V" } : Jvm.MethodName)) ∈ lw_all := lw_g (lw_at lw_m10 146 rfl) rfl
theorem q2412 : (Jvm.Cond.code ({ cls := "PastWatch", name := "require", desc := "(Z)V" } : Jvm.MethodName) prog_1_method_1_code (1 : Nat) (Option.none : Option Jvm.ClassFile.FieldType)) ∈ lw_all := lw_g (lw_at lw_m10 147 rfl) rfl
theorem q2413 : (Jvm.Cond.classLink "PastWatch" (1 : Nat) "java/lang/IllegalArgumentException") ∈ lw_all := lw_g (lw_at lw_m10 148 rfl) rfl
theorem q2414 : (Jvm.Cond.methodLink "PastWatch" (3 : Nat) ({ cls := "java/lang/IllegalArgumentException", name := "<init>", desc := "()V" } : Jvm.MethodName)) ∈ lw_all := lw_g (lw_at lw_m10 149 rfl) rfl
theorem q2445 : (Jvm.Cond.instanceMethod ({ cls := "PastWatch", name := "set", desc := "(IJ)J" } : Jvm.MethodName)) ∈ lw_all := lw_g (lw_at lw_m10 180 rfl) rfl
theorem q2446 : (Jvm.Cond.selects "PastWatch" ({ cls := "PastWatch", name := "set", desc := "(IJ)J" } : Jvm.MethodName) ({ cls := "PastWatch", name := "set", desc := "(IJ)J" } : Jvm.MethodName)) ∈ lw_all := lw_g (lw_at lw_m10 181 rfl) rfl
theorem q2447 : (Jvm.Cond.code ({ cls := "PastWatch", name := "set", desc := "(IJ)J" } : Jvm.MethodName) prog_1_method_23_code (7 : Nat) (Option.some Jvm.ClassFile.FieldType.long)) ∈ lw_all := lw_g (lw_at lw_m10 182 rfl) rfl
theorem q2448 : (Jvm.Cond.methodLink "PastWatch" (305 : Nat) ({ cls := "java/util/ArrayList", name := "get", desc := "(I)Ljava/lang/Object;" } : Jvm.MethodName)) ∈ lw_all := lw_g (lw_at lw_m10 183 rfl) rfl
theorem q2453 : (Jvm.Cond.instanceMethod ({ cls := "PastWatch", name := "tick", desc := "(I)I" } : Jvm.MethodName)) ∈ lw_all := lw_g (lw_at lw_m10 188 rfl) rfl
theorem q2454 : (Jvm.Cond.selects "PastWatch" ({ cls := "PastWatch", name := "tick", desc := "(I)I" } : Jvm.MethodName) ({ cls := "PastWatch", name := "tick", desc := "(I)I" } : Jvm.MethodName)) ∈ lw_all := lw_g (lw_at lw_m10 189 rfl) rfl
theorem q2455 : (Jvm.Cond.code ({ cls := "PastWatch", name := "tick", desc := "(I)I" } : Jvm.MethodName) prog_1_method_28_code (2 : Nat) (Option.some Jvm.ClassFile.FieldType.int)) ∈ lw_all := lw_g (lw_at lw_m10 190 rfl) rfl
theorem q2456 : (Jvm.Cond.methodLink "PastWatch" (335 : Nat) ({ cls := "PastWatch", name := "isProgram", desc := "()Z" } : Jvm.MethodName)) ∈ lw_all := lw_g (lw_at lw_m10 191 rfl) rfl
theorem q2457 : (Jvm.Cond.privateMethod ({ cls := "PastWatch", name := "isProgram", desc := "()Z" } : Jvm.MethodName)) ∈ lw_tbl := lw_at lw_m10 192 rfl
theorem q2458 : (Jvm.Cond.instanceMethod ({ cls := "PastWatch", name := "isProgram", desc := "()Z" } : Jvm.MethodName)) ∈ lw_all := lw_g (lw_at lw_m10 193 rfl) rfl
theorem q2459 : (Jvm.Cond.code ({ cls := "PastWatch", name := "isProgram", desc := "()Z" } : Jvm.MethodName) prog_1_method_22_code (1 : Nat) (Option.some Jvm.ClassFile.FieldType.boolean)) ∈ lw_all := lw_g (lw_at lw_m10 194 rfl) rfl
theorem q2460 : (Jvm.Cond.methodLink "PastWatch" (301 : Nat) ({ cls := "java/util/ArrayList", name := "isEmpty", desc := "()Z" } : Jvm.MethodName)) ∈ lw_all := lw_g (lw_at lw_m10 195 rfl) rfl
theorem q2461 : (Jvm.Cond.methodLink "PastWatch" (338 : Nat) ({ cls := "PastWatch", name := "lastTime", desc := "()I" } : Jvm.MethodName)) ∈ lw_all := lw_g (lw_at lw_m10 196 rfl) rfl
theorem q2462 : (Jvm.Cond.privateMethod ({ cls := "PastWatch", name := "lastTime", desc := "()I" } : Jvm.MethodName)) ∈ lw_tbl := lw_at lw_m10 197 rfl
theorem q2463 : (Jvm.Cond.instanceMethod ({ cls := "PastWatch", name := "lastTime", desc := "()I" } : Jvm.MethodName)) ∈ lw_all := lw_g (lw_at lw_m10 198 rfl) rfl
theorem q2464 : (Jvm.Cond.code ({ cls := "PastWatch", name := "lastTime", desc := "()I" } : Jvm.MethodName) prog_1_method_27_code (1 : Nat) (Option.some Jvm.ClassFile.FieldType.int)) ∈ lw_all := lw_g (lw_at lw_m10 199 rfl) rfl
theorem q2465 : (Jvm.Cond.methodLink "PastWatch" (341 : Nat) ({ cls := "PastWatch", name := "step", desc := "(I)I" } : Jvm.MethodName)) ∈ lw_all := lw_g (lw_at lw_m10 200 rfl) rfl
theorem q2466 : (Jvm.Cond.privateMethod ({ cls := "PastWatch", name := "step", desc := "(I)I" } : Jvm.MethodName)) ∈ lw_tbl := lw_at lw_m10 201 rfl
theorem q2467 : (Jvm.Cond.instanceMethod ({ cls := "PastWatch", name := "step", desc := "(I)I" } : Jvm.MethodName)) ∈ lw_all := lw_g (lw_at lw_m10 202 rfl) rfl
theorem q2468 : (Jvm.Cond.code ({ cls := "PastWatch", name := "step", desc := "(I)I" } : Jvm.MethodName) prog_1_method_26_code (2 : Nat) (Option.some Jvm.ClassFile.FieldType.int)) ∈ lw_all := lw_g (lw_at lw_m10 203 rfl) rfl
theorem q2469 : (Jvm.Cond.methodLink "PastWatch" (332 : Nat) ({ cls := "PastWatch", name := "fails", desc := "()I" } : Jvm.MethodName)) ∈ lw_all := lw_g (lw_at lw_m10 204 rfl) rfl
theorem q2470 : (Jvm.Cond.privateMethod ({ cls := "PastWatch", name := "fails", desc := "()I" } : Jvm.MethodName)) ∈ lw_tbl := lw_at lw_m10 205 rfl
theorem q2471 : (Jvm.Cond.instanceMethod ({ cls := "PastWatch", name := "fails", desc := "()I" } : Jvm.MethodName)) ∈ lw_all := lw_g (lw_at lw_m10 206 rfl) rfl
theorem q2472 : (Jvm.Cond.code ({ cls := "PastWatch", name := "fails", desc := "()I" } : Jvm.MethodName) prog_1_method_24_code (3 : Nat) (Option.some Jvm.ClassFile.FieldType.int)) ∈ lw_all := lw_g (lw_at lw_m10 207 rfl) rfl
theorem q2477 : (Jvm.Cond.instanceMethod ({ cls := "PastWatch", name := "back", desc := "(I)I" } : Jvm.MethodName)) ∈ lw_all := lw_g (lw_at lw_m10 212 rfl) rfl
theorem q2478 : (Jvm.Cond.selects "PastWatch" ({ cls := "PastWatch", name := "back", desc := "(I)I" } : Jvm.MethodName) ({ cls := "PastWatch", name := "back", desc := "(I)I" } : Jvm.MethodName)) ∈ lw_all := lw_g (lw_at lw_m10 213 rfl) rfl
theorem q2479 : (Jvm.Cond.code ({ cls := "PastWatch", name := "back", desc := "(I)I" } : Jvm.MethodName) prog_1_method_29_code (2 : Nat) (Option.some Jvm.ClassFile.FieldType.int)) ∈ lw_all := lw_g (lw_at lw_m10 214 rfl) rfl
theorem q2484 : (Jvm.Cond.instanceMethod ({ cls := "PastWatch", name := "restart", desc := "()I" } : Jvm.MethodName)) ∈ lw_all := lw_g (lw_at lw_m10 219 rfl) rfl
theorem q2485 : (Jvm.Cond.selects "PastWatch" ({ cls := "PastWatch", name := "restart", desc := "()I" } : Jvm.MethodName) ({ cls := "PastWatch", name := "restart", desc := "()I" } : Jvm.MethodName)) ∈ lw_all := lw_g (lw_at lw_m10 220 rfl) rfl
theorem q2486 : (Jvm.Cond.code ({ cls := "PastWatch", name := "restart", desc := "()I" } : Jvm.MethodName) prog_1_method_31_code (1 : Nat) (Option.some Jvm.ClassFile.FieldType.int)) ∈ lw_all := lw_g (lw_at lw_m10 221 rfl) rfl
theorem q2487 : (Jvm.Cond.methodLink "PastWatch" (358 : Nat) ({ cls := "PastWatch", name := "begin", desc := "()V" } : Jvm.MethodName)) ∈ lw_all := lw_g (lw_at lw_m10 222 rfl) rfl
theorem q2488 : (Jvm.Cond.privateMethod ({ cls := "PastWatch", name := "begin", desc := "()V" } : Jvm.MethodName)) ∈ lw_tbl := lw_at lw_m10 223 rfl
theorem q2489 : (Jvm.Cond.instanceMethod ({ cls := "PastWatch", name := "begin", desc := "()V" } : Jvm.MethodName)) ∈ lw_all := lw_g (lw_at lw_m10 224 rfl) rfl
theorem q2490 : (Jvm.Cond.code ({ cls := "PastWatch", name := "begin", desc := "()V" } : Jvm.MethodName) prog_1_method_30_code (3 : Nat) (Option.none : Option Jvm.ClassFile.FieldType)) ∈ lw_all := lw_g (lw_at lw_m10 225 rfl) rfl
theorem q2495 : (Jvm.Cond.instanceMethod ({ cls := "PastWatch", name := "replay", desc := "()I" } : Jvm.MethodName)) ∈ lw_all := lw_g (lw_at lw_m10 230 rfl) rfl
theorem q2496 : (Jvm.Cond.selects "PastWatch" ({ cls := "PastWatch", name := "replay", desc := "()I" } : Jvm.MethodName) ({ cls := "PastWatch", name := "replay", desc := "()I" } : Jvm.MethodName)) ∈ lw_all := lw_g (lw_at lw_m10 231 rfl) rfl
theorem q2497 : (Jvm.Cond.code ({ cls := "PastWatch", name := "replay", desc := "()I" } : Jvm.MethodName) prog_1_method_33_code (4 : Nat) (Option.some Jvm.ClassFile.FieldType.int)) ∈ lw_all := lw_g (lw_at lw_m10 232 rfl) rfl
theorem q2498 : (Jvm.Cond.classLink "PastWatch" (371 : Nat) "[J") ∈ lw_all := lw_g (lw_at lw_m10 233 rfl) rfl
theorem q2503 : (Jvm.Cond.instanceMethod ({ cls := "PastWatch", name := "time", desc := "(I)I" } : Jvm.MethodName)) ∈ lw_all := lw_g (lw_at lw_m10 238 rfl) rfl
theorem q2504 : (Jvm.Cond.selects "PastWatch" ({ cls := "PastWatch", name := "time", desc := "(I)I" } : Jvm.MethodName) ({ cls := "PastWatch", name := "time", desc := "(I)I" } : Jvm.MethodName)) ∈ lw_all := lw_g (lw_at lw_m10 239 rfl) rfl
theorem q2505 : (Jvm.Cond.code ({ cls := "PastWatch", name := "time", desc := "(I)I" } : Jvm.MethodName) prog_1_method_35_code (2 : Nat) (Option.some Jvm.ClassFile.FieldType.int)) ∈ lw_all := lw_g (lw_at lw_m11 0 rfl) rfl
theorem q2506 : (Jvm.Cond.methodLink "PastWatch" (373 : Nat) ({ cls := "PastWatch", name := "requireStep", desc := "(I)V" } : Jvm.MethodName)) ∈ lw_all := lw_g (lw_at lw_m11 1 rfl) rfl
theorem q2507 : (Jvm.Cond.privateMethod ({ cls := "PastWatch", name := "requireStep", desc := "(I)V" } : Jvm.MethodName)) ∈ lw_tbl := lw_at lw_m11 2 rfl
theorem q2508 : (Jvm.Cond.instanceMethod ({ cls := "PastWatch", name := "requireStep", desc := "(I)V" } : Jvm.MethodName)) ∈ lw_all := lw_g (lw_at lw_m11 3 rfl) rfl
theorem q2509 : (Jvm.Cond.code ({ cls := "PastWatch", name := "requireStep", desc := "(I)V" } : Jvm.MethodName) prog_1_method_34_code (2 : Nat) (Option.none : Option Jvm.ClassFile.FieldType)) ∈ lw_all := lw_g (lw_at lw_m11 4 rfl) rfl
theorem q2514 : (Jvm.Cond.instanceMethod ({ cls := "PastWatch", name := "signal", desc := "(II)J" } : Jvm.MethodName)) ∈ lw_all := lw_g (lw_at lw_m11 9 rfl) rfl
theorem q2515 : (Jvm.Cond.selects "PastWatch" ({ cls := "PastWatch", name := "signal", desc := "(II)J" } : Jvm.MethodName) ({ cls := "PastWatch", name := "signal", desc := "(II)J" } : Jvm.MethodName)) ∈ lw_all := lw_g (lw_at lw_m11 10 rfl) rfl
theorem q2516 : (Jvm.Cond.code ({ cls := "PastWatch", name := "signal", desc := "(II)J" } : Jvm.MethodName) prog_1_method_36_code (3 : Nat) (Option.some Jvm.ClassFile.FieldType.long)) ∈ lw_all := lw_g (lw_at lw_m11 11 rfl) rfl
theorem q2521 : (Jvm.Cond.instanceMethod ({ cls := "PastWatch", name := "value", desc := "(II)J" } : Jvm.MethodName)) ∈ lw_all := lw_g (lw_at lw_m11 16 rfl) rfl
theorem q2522 : (Jvm.Cond.selects "PastWatch" ({ cls := "PastWatch", name := "value", desc := "(II)J" } : Jvm.MethodName) ({ cls := "PastWatch", name := "value", desc := "(II)J" } : Jvm.MethodName)) ∈ lw_all := lw_g (lw_at lw_m11 17 rfl) rfl
theorem q2523 : (Jvm.Cond.code ({ cls := "PastWatch", name := "value", desc := "(II)J" } : Jvm.MethodName) prog_1_method_37_code (3 : Nat) (Option.some Jvm.ClassFile.FieldType.long)) ∈ lw_all := lw_g (lw_at lw_m11 18 rfl) rfl
theorem q2528 : (Jvm.Cond.instanceMethod ({ cls := "PastWatch", name := "let", desc := "(II)Z" } : Jvm.MethodName)) ∈ lw_all := lw_g (lw_at lw_m11 23 rfl) rfl
theorem q2529 : (Jvm.Cond.selects "PastWatch" ({ cls := "PastWatch", name := "let", desc := "(II)Z" } : Jvm.MethodName) ({ cls := "PastWatch", name := "let", desc := "(II)Z" } : Jvm.MethodName)) ∈ lw_all := lw_g (lw_at lw_m11 24 rfl) rfl
theorem q2530 : (Jvm.Cond.code ({ cls := "PastWatch", name := "let", desc := "(II)Z" } : Jvm.MethodName) prog_1_method_38_code (3 : Nat) (Option.some Jvm.ClassFile.FieldType.boolean)) ∈ lw_all := lw_g (lw_at lw_m11 25 rfl) rfl
theorem q2535 : (Jvm.Cond.instanceMethod ({ cls := "PastWatch", name := "watch", desc := "(II)Z" } : Jvm.MethodName)) ∈ lw_all := lw_g (lw_at lw_m11 30 rfl) rfl
theorem q2536 : (Jvm.Cond.selects "PastWatch" ({ cls := "PastWatch", name := "watch", desc := "(II)Z" } : Jvm.MethodName) ({ cls := "PastWatch", name := "watch", desc := "(II)Z" } : Jvm.MethodName)) ∈ lw_all := lw_g (lw_at lw_m11 31 rfl) rfl
theorem q2537 : (Jvm.Cond.code ({ cls := "PastWatch", name := "watch", desc := "(II)Z" } : Jvm.MethodName) prog_1_method_40_code (4 : Nat) (Option.some Jvm.ClassFile.FieldType.boolean)) ∈ lw_all := lw_g (lw_at lw_m11 32 rfl) rfl
theorem q2538 : (Jvm.Cond.methodLink "PastWatch" (377 : Nat) ({ cls := "PastWatch", name := "known", desc := "(I)LPastWatch$Watch;" } : Jvm.MethodName)) ∈ lw_all := lw_g (lw_at lw_m11 33 rfl) rfl
theorem q2539 : (Jvm.Cond.privateMethod ({ cls := "PastWatch", name := "known", desc := "(I)LPastWatch$Watch;" } : Jvm.MethodName)) ∈ lw_tbl := lw_at lw_m11 34 rfl
theorem q2540 : (Jvm.Cond.instanceMethod ({ cls := "PastWatch", name := "known", desc := "(I)LPastWatch$Watch;" } : Jvm.MethodName)) ∈ lw_all := lw_g (lw_at lw_m11 35 rfl) rfl
theorem q2541 : (Jvm.Cond.code ({ cls := "PastWatch", name := "known", desc := "(I)LPastWatch$Watch;" } : Jvm.MethodName) prog_1_method_39_code (2 : Nat) (Option.some (Jvm.ClassFile.FieldType.object "PastWatch$Watch"))) ∈ lw_all := lw_g (lw_at lw_m11 36 rfl) rfl
theorem q2546 : (Jvm.Cond.instanceMethod ({ cls := "PastWatch", name := "told", desc := "(II)I" } : Jvm.MethodName)) ∈ lw_all := lw_g (lw_at lw_m11 41 rfl) rfl
theorem q2547 : (Jvm.Cond.selects "PastWatch" ({ cls := "PastWatch", name := "told", desc := "(II)I" } : Jvm.MethodName) ({ cls := "PastWatch", name := "told", desc := "(II)I" } : Jvm.MethodName)) ∈ lw_all := lw_g (lw_at lw_m11 42 rfl) rfl
theorem q2548 : (Jvm.Cond.code ({ cls := "PastWatch", name := "told", desc := "(II)I" } : Jvm.MethodName) prog_1_method_41_code (4 : Nat) (Option.some Jvm.ClassFile.FieldType.int)) ∈ lw_all := lw_g (lw_at lw_m11 43 rfl) rfl
theorem q2553 : (Jvm.Cond.instanceMethod ({ cls := "PastWatch", name := "alarms", desc := "(I)I" } : Jvm.MethodName)) ∈ lw_all := lw_g (lw_at lw_m11 48 rfl) rfl
theorem q2554 : (Jvm.Cond.selects "PastWatch" ({ cls := "PastWatch", name := "alarms", desc := "(I)I" } : Jvm.MethodName) ({ cls := "PastWatch", name := "alarms", desc := "(I)I" } : Jvm.MethodName)) ∈ lw_all := lw_g (lw_at lw_m11 49 rfl) rfl
theorem q2555 : (Jvm.Cond.code ({ cls := "PastWatch", name := "alarms", desc := "(I)I" } : Jvm.MethodName) prog_1_method_42_code (5 : Nat) (Option.some Jvm.ClassFile.FieldType.int)) ∈ lw_all := lw_g (lw_at lw_m11 50 rfl) rfl
theorem q2560 : (Jvm.Cond.instanceMethod ({ cls := "PastWatch", name := "why", desc := "(IIZ)I" } : Jvm.MethodName)) ∈ lw_all := lw_g (lw_at lw_m11 55 rfl) rfl
theorem q2561 : (Jvm.Cond.selects "PastWatch" ({ cls := "PastWatch", name := "why", desc := "(IIZ)I" } : Jvm.MethodName) ({ cls := "PastWatch", name := "why", desc := "(IIZ)I" } : Jvm.MethodName)) ∈ lw_all := lw_g (lw_at lw_m11 56 rfl) rfl
theorem q2562 : (Jvm.Cond.code ({ cls := "PastWatch", name := "why", desc := "(IIZ)I" } : Jvm.MethodName) prog_1_method_43_code (6 : Nat) (Option.some Jvm.ClassFile.FieldType.int)) ∈ lw_all := lw_g (lw_at lw_m11 57 rfl) rfl
theorem q2563 : (Jvm.Cond.methodLink "PastWatch" (385 : Nat) ({ cls := "PastWatch$Node", name := "reason", desc := "(I[I)LPastWatch$Reason;" } : Jvm.MethodName)) ∈ lw_all := lw_g (lw_at lw_m11 58 rfl) rfl
theorem q2592 : (Jvm.Cond.fieldLink "PastWatch" (393 : Nat) "PastWatch$Reason" "place" "I") ∈ lw_all := lw_g (lw_at lw_m11 87 rfl) rfl
theorem q2594 : (Jvm.Cond.fieldLink "PastWatch" (389 : Nat) "PastWatch$Reason" "step" "I") ∈ lw_all := lw_g (lw_at lw_m11 89 rfl) rfl
theorem q2617 : (Jvm.Cond.instanceMethod ({ cls := "PastWatch", name := "differ", desc := "(II)I" } : Jvm.MethodName)) ∈ lw_all := lw_g (lw_at lw_m11 112 rfl) rfl
theorem q2618 : (Jvm.Cond.selects "PastWatch" ({ cls := "PastWatch", name := "differ", desc := "(II)I" } : Jvm.MethodName) ({ cls := "PastWatch", name := "differ", desc := "(II)I" } : Jvm.MethodName)) ∈ lw_all := lw_g (lw_at lw_m11 113 rfl) rfl
theorem q2619 : (Jvm.Cond.code ({ cls := "PastWatch", name := "differ", desc := "(II)I" } : Jvm.MethodName) prog_1_method_44_code (6 : Nat) (Option.some Jvm.ClassFile.FieldType.int)) ∈ lw_all := lw_g (lw_at lw_m11 114 rfl) rfl
theorem q2624 : (Jvm.Cond.instanceMethod ({ cls := "PastWatch", name := "share", desc := "(I)D" } : Jvm.MethodName)) ∈ lw_all := lw_g (lw_at lw_m11 119 rfl) rfl
theorem q2625 : (Jvm.Cond.selects "PastWatch" ({ cls := "PastWatch", name := "share", desc := "(I)D" } : Jvm.MethodName) ({ cls := "PastWatch", name := "share", desc := "(I)D" } : Jvm.MethodName)) ∈ lw_all := lw_g (lw_at lw_m11 120 rfl) rfl
theorem q2626 : (Jvm.Cond.code ({ cls := "PastWatch", name := "share", desc := "(I)D" } : Jvm.MethodName) prog_1_method_45_code (3 : Nat) (Option.some Jvm.ClassFile.FieldType.double)) ∈ lw_all := lw_g (lw_at lw_m11 121 rfl) rfl
theorem q2631 : (Jvm.Cond.instanceMethod ({ cls := "PastWatch", name := "answer", desc := "(I)Z" } : Jvm.MethodName)) ∈ lw_all := lw_g (lw_at lw_m11 126 rfl) rfl
theorem q2632 : (Jvm.Cond.selects "PastWatch" ({ cls := "PastWatch", name := "answer", desc := "(I)Z" } : Jvm.MethodName) ({ cls := "PastWatch", name := "answer", desc := "(I)Z" } : Jvm.MethodName)) ∈ lw_all := lw_g (lw_at lw_m11 127 rfl) rfl
theorem q2633 : (Jvm.Cond.code ({ cls := "PastWatch", name := "answer", desc := "(I)Z" } : Jvm.MethodName) prog_1_method_47_code (2 : Nat) (Option.some Jvm.ClassFile.FieldType.boolean)) ∈ lw_all := lw_g (lw_at lw_m11 128 rfl) rfl
theorem q3259 : (Jvm.Cond.castable "PastWatch" "java/lang/Object") ∈ lw_tbl := lw_at lw_m14 34 rfl
theorem in_X1 : ∀ w ∈ wsX10, w ∈ lw_all := lw_in wsX10 [291, 293, 295, 297, 299, 301, 303, 305, 307, 309, 311] (by decide +kernel) (by decide +kernel)

/-! PastWatch$Reader -/

def RX4 : String := "PastWatch$Reader"
def TX4 : u_T := fun k => match k with
  | 0 => ("PastWatch$Reader", "tokens", "Ljava/util/List;", true)
  | 1 => ("PastWatch$Reader", "program", "LPastWatch$Program;", true)
  | 2 => ("PastWatch$Reader", "nodes", "Ljava/util/List;", true)
  | 3 => ("PastWatch$Reader", "isMeant", "Z", false)
  | 4 => ("PastWatch$Reader", "at", "I", false)
  | _ => ("PastWatch$Reader", "depth", "I", false)
def tyX4 : Nat → FieldType := fun k => match k with
  | 0 => .object "java/util/List"
  | 1 => .object "PastWatch$Program"
  | 2 => .object "java/util/List"
  | 3 => .boolean
  | 4 => .int
  | _ => .int
abbrev wsX40 : List Cond := u_ws RX4 TX4 6
theorem nmX4 : ∀ a, a < 6 → ∀ b, b < 6 → a ≠ b → (TX4 a).2.1 ≠ (TX4 b).2.1 := by decide +kernel
theorem tyX4_ok : ∀ k, k < 6 → parseFieldDescriptor (TX4 k).2.2.1 = some (tyX4 k) := by decide +kernel
abbrev cX4_init : ByteArray := prog_22_method_1_code
def yX4_init : MethodName := ⟨RX4, "<init>", "(Ljava/util/List;LPastWatch$Program;Ljava/util/List;)V"⟩
def dkwX4_init_0 : List UInt8 := [42, 183, 0, 3, 42, 43, 181, 0, 9, 42, 44, 181, 0, 15, 42, 45, 181, 0, 19, 177]
abbrev dktX4_init_0 : List UInt8 := dkwX4_init_0 ++ []
theorem dksX4_init_0 : cX4_init.data.toList.drop 0 = dktX4_init_0 := by decide +kernel
theorem dX4_init_0 : decode cX4_init 0 = .ok (.aload_n 0, 1) := dk_42 (dk_at dksX4_init_0 0 rfl rfl)
theorem dX4_init_1 : decode cX4_init 1 = .ok (.invokespecial 3, 3) := dk_183 0 3 (dk_at dksX4_init_0 1 rfl rfl)
theorem dX4_init_4 : decode cX4_init 4 = .ok (.aload_n 0, 1) := dk_42 (dk_at dksX4_init_0 4 rfl rfl)
theorem dX4_init_5 : decode cX4_init 5 = .ok (.aload_n 1, 1) := dk_43 (dk_at dksX4_init_0 5 rfl rfl)
theorem dX4_init_6 : decode cX4_init 6 = .ok (.putfield 9, 3) := dk_181 0 9 (dk_at dksX4_init_0 6 rfl rfl)
theorem dX4_init_9 : decode cX4_init 9 = .ok (.aload_n 0, 1) := dk_42 (dk_at dksX4_init_0 9 rfl rfl)
theorem dX4_init_10 : decode cX4_init 10 = .ok (.aload_n 2, 1) := dk_44 (dk_at dksX4_init_0 10 rfl rfl)
theorem dX4_init_11 : decode cX4_init 11 = .ok (.putfield 15, 3) := dk_181 0 15 (dk_at dksX4_init_0 11 rfl rfl)
theorem dX4_init_14 : decode cX4_init 14 = .ok (.aload_n 0, 1) := dk_42 (dk_at dksX4_init_0 14 rfl rfl)
theorem dX4_init_15 : decode cX4_init 15 = .ok (.aload_n 3, 1) := dk_45 (dk_at dksX4_init_0 15 rfl rfl)
theorem dX4_init_16 : decode cX4_init 16 = .ok (.putfield 19, 3) := dk_181 0 19 (dk_at dksX4_init_0 16 rfl rfl)
theorem dX4_init_19 : decode cX4_init 19 = .ok (.return_, 1) := dk_177 (dk_at dksX4_init_0 19 rfl rfl)
abbrev cX4_readProgram : ByteArray := prog_22_method_11_code
def yX4_readProgram : MethodName := ⟨RX4, "readProgram", "()V"⟩
def dkwX4_readProgram_3 : List UInt8 := [167, 0, 4, 3, 16, 6, 42, 182, 0, 36, 180, 0, 40, 182, 0, 92, 177]
abbrev dktX4_readProgram_3 : List UInt8 := dkwX4_readProgram_3 ++ []
def dkwX4_readProgram_2 : List UInt8 := [167, 255, 239, 132, 1, 1, 167, 255, 205, 42, 42, 180, 0, 15, 180, 0, 80, 182, 0, 86, 154, 0, 7, 4]
abbrev dktX4_readProgram_2 : List UInt8 := dkwX4_readProgram_2 ++ dktX4_readProgram_3
def dkwX4_readProgram_1 : List UInt8 := [181, 0, 22, 42, 182, 0, 72, 42, 182, 0, 36, 180, 0, 61, 178, 0, 75, 165, 0, 10, 42, 182, 0, 72]
abbrev dktX4_readProgram_1 : List UInt8 := dkwX4_readProgram_1 ++ dktX4_readProgram_2
def dkwX4_readProgram_0 : List UInt8 := [3, 60, 27, 5, 162, 0, 52, 42, 27, 4, 160, 0, 7, 4, 167, 0, 4, 3, 181, 0, 46, 42, 3]
abbrev dktX4_readProgram_0 : List UInt8 := dkwX4_readProgram_0 ++ dktX4_readProgram_1
theorem dksX4_readProgram_0 : cX4_readProgram.data.toList.drop 0 = dktX4_readProgram_0 := by decide +kernel
theorem dksX4_readProgram_1 : cX4_readProgram.data.toList.drop 23 = dktX4_readProgram_1 := dk_seg dksX4_readProgram_0 23 rfl rfl
theorem dksX4_readProgram_2 : cX4_readProgram.data.toList.drop 47 = dktX4_readProgram_2 := dk_seg dksX4_readProgram_1 24 rfl rfl
theorem dksX4_readProgram_3 : cX4_readProgram.data.toList.drop 71 = dktX4_readProgram_3 := dk_seg dksX4_readProgram_2 24 rfl rfl
theorem dX4_readProgram_0 : decode cX4_readProgram 0 = .ok (.iconst 0, 1) := dk_3 (dk_at dksX4_readProgram_0 0 rfl rfl)
theorem dX4_readProgram_1 : decode cX4_readProgram 1 = .ok (.istore_n 1, 1) := dk_60 (dk_at dksX4_readProgram_0 1 rfl rfl)
theorem dX4_readProgram_2 : decode cX4_readProgram 2 = .ok (.iload_n 1, 1) := dk_27 (dk_at dksX4_readProgram_0 2 rfl rfl)
theorem dX4_readProgram_3 : decode cX4_readProgram 3 = .ok (.iconst 2, 1) := dk_5 (dk_at dksX4_readProgram_0 3 rfl rfl)
theorem dX4_readProgram_4 : decode cX4_readProgram 4 = .ok (.if_icmp .ge 52, 3) := dk_162 0 52 (dk_at dksX4_readProgram_0 4 rfl rfl)
theorem dX4_readProgram_7 : decode cX4_readProgram 7 = .ok (.aload_n 0, 1) := dk_42 (dk_at dksX4_readProgram_0 7 rfl rfl)
theorem dX4_readProgram_8 : decode cX4_readProgram 8 = .ok (.iload_n 1, 1) := dk_27 (dk_at dksX4_readProgram_0 8 rfl rfl)
theorem dX4_readProgram_9 : decode cX4_readProgram 9 = .ok (.iconst 1, 1) := dk_4 (dk_at dksX4_readProgram_0 9 rfl rfl)
theorem dX4_readProgram_10 : decode cX4_readProgram 10 = .ok (.if_icmp .ne 7, 3) := dk_160 0 7 (dk_at dksX4_readProgram_0 10 rfl rfl)
theorem dX4_readProgram_13 : decode cX4_readProgram 13 = .ok (.iconst 1, 1) := dk_4 (dk_at dksX4_readProgram_0 13 rfl rfl)
theorem dX4_readProgram_14 : decode cX4_readProgram 14 = .ok (.goto 4, 3) := dk_167 0 4 (dk_at dksX4_readProgram_0 14 rfl rfl)
theorem dX4_readProgram_17 : decode cX4_readProgram 17 = .ok (.iconst 0, 1) := dk_3 (dk_at dksX4_readProgram_0 17 rfl rfl)
theorem dX4_readProgram_18 : decode cX4_readProgram 18 = .ok (.putfield 46, 3) := dk_181 0 46 (dk_at dksX4_readProgram_0 18 rfl rfl)
theorem dX4_readProgram_21 : decode cX4_readProgram 21 = .ok (.aload_n 0, 1) := dk_42 (dk_at dksX4_readProgram_0 21 rfl rfl)
theorem dX4_readProgram_22 : decode cX4_readProgram 22 = .ok (.iconst 0, 1) := dk_3 (dk_at dksX4_readProgram_0 22 rfl rfl)
theorem dX4_readProgram_23 : decode cX4_readProgram 23 = .ok (.putfield 22, 3) := dk_181 0 22 (dk_at dksX4_readProgram_1 0 rfl rfl)
theorem dX4_readProgram_26 : decode cX4_readProgram 26 = .ok (.aload_n 0, 1) := dk_42 (dk_at dksX4_readProgram_1 3 rfl rfl)
theorem dX4_readProgram_27 : decode cX4_readProgram 27 = .ok (.invokevirtual 72, 3) := dk_182 0 72 (dk_at dksX4_readProgram_1 4 rfl rfl)
theorem dX4_readProgram_30 : decode cX4_readProgram 30 = .ok (.aload_n 0, 1) := dk_42 (dk_at dksX4_readProgram_1 7 rfl rfl)
theorem dX4_readProgram_31 : decode cX4_readProgram 31 = .ok (.invokevirtual 36, 3) := dk_182 0 36 (dk_at dksX4_readProgram_1 8 rfl rfl)
theorem dX4_readProgram_34 : decode cX4_readProgram 34 = .ok (.getfield 61, 3) := dk_180 0 61 (dk_at dksX4_readProgram_1 11 rfl rfl)
theorem dX4_readProgram_37 : decode cX4_readProgram 37 = .ok (.getstatic 75, 3) := dk_178 0 75 (dk_at dksX4_readProgram_1 14 rfl rfl)
theorem dX4_readProgram_40 : decode cX4_readProgram 40 = .ok (.if_acmp .eq 10, 3) := dk_165 0 10 (dk_at dksX4_readProgram_1 17 rfl rfl)
theorem dX4_readProgram_43 : decode cX4_readProgram 43 = .ok (.aload_n 0, 1) := dk_42 (dk_at dksX4_readProgram_1 20 rfl rfl)
theorem dX4_readProgram_44 : decode cX4_readProgram 44 = .ok (.invokevirtual 72, 3) := dk_182 0 72 (dk_at dksX4_readProgram_1 21 rfl rfl)
theorem dX4_readProgram_47 : decode cX4_readProgram 47 = .ok (.goto (-17), 3) := dk_167 255 239 (dk_at dksX4_readProgram_2 0 rfl rfl)
theorem dX4_readProgram_50 : decode cX4_readProgram 50 = .ok (.iinc 1 1, 3) := dk_132 1 1 (dk_at dksX4_readProgram_2 3 rfl rfl)
theorem dX4_readProgram_53 : decode cX4_readProgram 53 = .ok (.goto (-51), 3) := dk_167 255 205 (dk_at dksX4_readProgram_2 6 rfl rfl)
theorem dX4_readProgram_56 : decode cX4_readProgram 56 = .ok (.aload_n 0, 1) := dk_42 (dk_at dksX4_readProgram_2 9 rfl rfl)
theorem dX4_readProgram_57 : decode cX4_readProgram 57 = .ok (.aload_n 0, 1) := dk_42 (dk_at dksX4_readProgram_2 10 rfl rfl)
theorem dX4_readProgram_58 : decode cX4_readProgram 58 = .ok (.getfield 15, 3) := dk_180 0 15 (dk_at dksX4_readProgram_2 11 rfl rfl)
theorem dX4_readProgram_61 : decode cX4_readProgram 61 = .ok (.getfield 80, 3) := dk_180 0 80 (dk_at dksX4_readProgram_2 14 rfl rfl)
theorem dX4_readProgram_64 : decode cX4_readProgram 64 = .ok (.invokevirtual 86, 3) := dk_182 0 86 (dk_at dksX4_readProgram_2 17 rfl rfl)
theorem dX4_readProgram_67 : decode cX4_readProgram 67 = .ok (.ifCond .ne 7, 3) := dk_154 0 7 (dk_at dksX4_readProgram_2 20 rfl rfl)
theorem dX4_readProgram_70 : decode cX4_readProgram 70 = .ok (.iconst 1, 1) := dk_4 (dk_at dksX4_readProgram_2 23 rfl rfl)
theorem dX4_readProgram_71 : decode cX4_readProgram 71 = .ok (.goto 4, 3) := dk_167 0 4 (dk_at dksX4_readProgram_3 0 rfl rfl)
theorem dX4_readProgram_74 : decode cX4_readProgram 74 = .ok (.iconst 0, 1) := dk_3 (dk_at dksX4_readProgram_3 3 rfl rfl)
theorem dX4_readProgram_75 : decode cX4_readProgram 75 = .ok (.bipush 6, 2) := dk_16 6 (dk_at dksX4_readProgram_3 4 rfl rfl)
theorem dX4_readProgram_77 : decode cX4_readProgram 77 = .ok (.aload_n 0, 1) := dk_42 (dk_at dksX4_readProgram_3 6 rfl rfl)
theorem dX4_readProgram_78 : decode cX4_readProgram 78 = .ok (.invokevirtual 36, 3) := dk_182 0 36 (dk_at dksX4_readProgram_3 7 rfl rfl)
theorem dX4_readProgram_81 : decode cX4_readProgram 81 = .ok (.getfield 40, 3) := dk_180 0 40 (dk_at dksX4_readProgram_3 10 rfl rfl)
theorem dX4_readProgram_84 : decode cX4_readProgram 84 = .ok (.invokevirtual 92, 3) := dk_182 0 92 (dk_at dksX4_readProgram_3 13 rfl rfl)
theorem dX4_readProgram_87 : decode cX4_readProgram 87 = .ok (.return_, 1) := dk_177 (dk_at dksX4_readProgram_3 16 rfl rfl)
abbrev cX4_item : ByteArray := prog_22_method_13_code
def yX4_item : MethodName := ⟨RX4, "item", "()V"⟩
def dkwX4_item_3 : List UInt8 := [43, 182, 0, 118, 167, 0, 8, 42, 182, 0, 54, 191, 42, 18, 120, 182, 0, 122, 87, 177]
abbrev dktX4_item_3 : List UInt8 := dkwX4_item_3 ++ []
def dkwX4_item_2 : List UInt8 := [182, 0, 102, 153, 0, 11, 42, 43, 182, 0, 114, 167, 0, 25, 42, 18, 116, 182, 0, 102, 153, 0, 11, 42]
abbrev dktX4_item_2 : List UInt8 := dkwX4_item_2 ++ dktX4_item_3
def dkwX4_item_1 : List UInt8 := [167, 0, 59, 42, 18, 108, 182, 0, 102, 153, 0, 11, 42, 43, 182, 0, 110, 167, 0, 42, 42, 18, 112]
abbrev dktX4_item_1 : List UInt8 := dkwX4_item_1 ++ dktX4_item_2
def dkwX4_item_0 : List UInt8 := [42, 182, 0, 36, 76, 42, 3, 181, 0, 65, 42, 18, 100, 182, 0, 102, 153, 0, 11, 42, 43, 182, 0, 105]
abbrev dktX4_item_0 : List UInt8 := dkwX4_item_0 ++ dktX4_item_1
theorem dksX4_item_0 : cX4_item.data.toList.drop 0 = dktX4_item_0 := by decide +kernel
theorem dksX4_item_1 : cX4_item.data.toList.drop 24 = dktX4_item_1 := dk_seg dksX4_item_0 24 rfl rfl
theorem dksX4_item_2 : cX4_item.data.toList.drop 47 = dktX4_item_2 := dk_seg dksX4_item_1 23 rfl rfl
theorem dksX4_item_3 : cX4_item.data.toList.drop 71 = dktX4_item_3 := dk_seg dksX4_item_2 24 rfl rfl
theorem dX4_item_0 : decode cX4_item 0 = .ok (.aload_n 0, 1) := dk_42 (dk_at dksX4_item_0 0 rfl rfl)
theorem dX4_item_1 : decode cX4_item 1 = .ok (.invokevirtual 36, 3) := dk_182 0 36 (dk_at dksX4_item_0 1 rfl rfl)
theorem dX4_item_4 : decode cX4_item 4 = .ok (.astore_n 1, 1) := dk_76 (dk_at dksX4_item_0 4 rfl rfl)
theorem dX4_item_5 : decode cX4_item 5 = .ok (.aload_n 0, 1) := dk_42 (dk_at dksX4_item_0 5 rfl rfl)
theorem dX4_item_6 : decode cX4_item 6 = .ok (.iconst 0, 1) := dk_3 (dk_at dksX4_item_0 6 rfl rfl)
theorem dX4_item_7 : decode cX4_item 7 = .ok (.putfield 65, 3) := dk_181 0 65 (dk_at dksX4_item_0 7 rfl rfl)
theorem dX4_item_10 : decode cX4_item 10 = .ok (.aload_n 0, 1) := dk_42 (dk_at dksX4_item_0 10 rfl rfl)
theorem dX4_item_11 : decode cX4_item 11 = .ok (.ldc 100, 2) := dk_18 100 (dk_at dksX4_item_0 11 rfl rfl)
theorem dX4_item_13 : decode cX4_item 13 = .ok (.invokevirtual 102, 3) := dk_182 0 102 (dk_at dksX4_item_0 13 rfl rfl)
theorem dX4_item_16 : decode cX4_item 16 = .ok (.ifCond .eq 11, 3) := dk_153 0 11 (dk_at dksX4_item_0 16 rfl rfl)
theorem dX4_item_19 : decode cX4_item 19 = .ok (.aload_n 0, 1) := dk_42 (dk_at dksX4_item_0 19 rfl rfl)
theorem dX4_item_20 : decode cX4_item 20 = .ok (.aload_n 1, 1) := dk_43 (dk_at dksX4_item_0 20 rfl rfl)
theorem dX4_item_21 : decode cX4_item 21 = .ok (.invokevirtual 105, 3) := dk_182 0 105 (dk_at dksX4_item_0 21 rfl rfl)
theorem dX4_item_24 : decode cX4_item 24 = .ok (.goto 59, 3) := dk_167 0 59 (dk_at dksX4_item_1 0 rfl rfl)
theorem dX4_item_27 : decode cX4_item 27 = .ok (.aload_n 0, 1) := dk_42 (dk_at dksX4_item_1 3 rfl rfl)
theorem dX4_item_28 : decode cX4_item 28 = .ok (.ldc 108, 2) := dk_18 108 (dk_at dksX4_item_1 4 rfl rfl)
theorem dX4_item_30 : decode cX4_item 30 = .ok (.invokevirtual 102, 3) := dk_182 0 102 (dk_at dksX4_item_1 6 rfl rfl)
theorem dX4_item_33 : decode cX4_item 33 = .ok (.ifCond .eq 11, 3) := dk_153 0 11 (dk_at dksX4_item_1 9 rfl rfl)
theorem dX4_item_36 : decode cX4_item 36 = .ok (.aload_n 0, 1) := dk_42 (dk_at dksX4_item_1 12 rfl rfl)
theorem dX4_item_37 : decode cX4_item 37 = .ok (.aload_n 1, 1) := dk_43 (dk_at dksX4_item_1 13 rfl rfl)
theorem dX4_item_38 : decode cX4_item 38 = .ok (.invokevirtual 110, 3) := dk_182 0 110 (dk_at dksX4_item_1 14 rfl rfl)
theorem dX4_item_41 : decode cX4_item 41 = .ok (.goto 42, 3) := dk_167 0 42 (dk_at dksX4_item_1 17 rfl rfl)
theorem dX4_item_44 : decode cX4_item 44 = .ok (.aload_n 0, 1) := dk_42 (dk_at dksX4_item_1 20 rfl rfl)
theorem dX4_item_45 : decode cX4_item 45 = .ok (.ldc 112, 2) := dk_18 112 (dk_at dksX4_item_1 21 rfl rfl)
theorem dX4_item_47 : decode cX4_item 47 = .ok (.invokevirtual 102, 3) := dk_182 0 102 (dk_at dksX4_item_2 0 rfl rfl)
theorem dX4_item_50 : decode cX4_item 50 = .ok (.ifCond .eq 11, 3) := dk_153 0 11 (dk_at dksX4_item_2 3 rfl rfl)
theorem dX4_item_53 : decode cX4_item 53 = .ok (.aload_n 0, 1) := dk_42 (dk_at dksX4_item_2 6 rfl rfl)
theorem dX4_item_54 : decode cX4_item 54 = .ok (.aload_n 1, 1) := dk_43 (dk_at dksX4_item_2 7 rfl rfl)
theorem dX4_item_55 : decode cX4_item 55 = .ok (.invokevirtual 114, 3) := dk_182 0 114 (dk_at dksX4_item_2 8 rfl rfl)
theorem dX4_item_58 : decode cX4_item 58 = .ok (.goto 25, 3) := dk_167 0 25 (dk_at dksX4_item_2 11 rfl rfl)
theorem dX4_item_61 : decode cX4_item 61 = .ok (.aload_n 0, 1) := dk_42 (dk_at dksX4_item_2 14 rfl rfl)
theorem dX4_item_62 : decode cX4_item 62 = .ok (.ldc 116, 2) := dk_18 116 (dk_at dksX4_item_2 15 rfl rfl)
theorem dX4_item_64 : decode cX4_item 64 = .ok (.invokevirtual 102, 3) := dk_182 0 102 (dk_at dksX4_item_2 17 rfl rfl)
theorem dX4_item_67 : decode cX4_item 67 = .ok (.ifCond .eq 11, 3) := dk_153 0 11 (dk_at dksX4_item_2 20 rfl rfl)
theorem dX4_item_70 : decode cX4_item 70 = .ok (.aload_n 0, 1) := dk_42 (dk_at dksX4_item_2 23 rfl rfl)
theorem dX4_item_71 : decode cX4_item 71 = .ok (.aload_n 1, 1) := dk_43 (dk_at dksX4_item_3 0 rfl rfl)
theorem dX4_item_72 : decode cX4_item 72 = .ok (.invokevirtual 118, 3) := dk_182 0 118 (dk_at dksX4_item_3 1 rfl rfl)
theorem dX4_item_75 : decode cX4_item 75 = .ok (.goto 8, 3) := dk_167 0 8 (dk_at dksX4_item_3 4 rfl rfl)
theorem dX4_item_78 : decode cX4_item 78 = .ok (.aload_n 0, 1) := dk_42 (dk_at dksX4_item_3 7 rfl rfl)
theorem dX4_item_79 : decode cX4_item 79 = .ok (.invokevirtual 54, 3) := dk_182 0 54 (dk_at dksX4_item_3 8 rfl rfl)
theorem dX4_item_82 : decode cX4_item 82 = .ok (.athrow, 1) := dk_191 (dk_at dksX4_item_3 11 rfl rfl)
theorem dX4_item_83 : decode cX4_item 83 = .ok (.aload_n 0, 1) := dk_42 (dk_at dksX4_item_3 12 rfl rfl)
theorem dX4_item_84 : decode cX4_item 84 = .ok (.ldc 120, 2) := dk_18 120 (dk_at dksX4_item_3 13 rfl rfl)
theorem dX4_item_86 : decode cX4_item 86 = .ok (.invokevirtual 122, 3) := dk_182 0 122 (dk_at dksX4_item_3 15 rfl rfl)
theorem dX4_item_89 : decode cX4_item 89 = .ok (.pop, 1) := dk_87 (dk_at dksX4_item_3 18 rfl rfl)
theorem dX4_item_90 : decode cX4_item 90 = .ok (.return_, 1) := dk_177 (dk_at dksX4_item_3 19 rfl rfl)
abbrev cX4_now : ByteArray := prog_22_method_2_code
def yX4_now : MethodName := ⟨RX4, "now", "()LPastWatch$Token;"⟩
def dkwX4_now_0 : List UInt8 := [42, 180, 0, 9, 42, 180, 0, 22, 185, 0, 26, 2, 0, 192, 0, 32, 176]
abbrev dktX4_now_0 : List UInt8 := dkwX4_now_0 ++ []
theorem dksX4_now_0 : cX4_now.data.toList.drop 0 = dktX4_now_0 := by decide +kernel
theorem dX4_now_0 : decode cX4_now 0 = .ok (.aload_n 0, 1) := dk_42 (dk_at dksX4_now_0 0 rfl rfl)
theorem dX4_now_1 : decode cX4_now 1 = .ok (.getfield 9, 3) := dk_180 0 9 (dk_at dksX4_now_0 1 rfl rfl)
theorem dX4_now_4 : decode cX4_now 4 = .ok (.aload_n 0, 1) := dk_42 (dk_at dksX4_now_0 4 rfl rfl)
theorem dX4_now_5 : decode cX4_now 5 = .ok (.getfield 22, 3) := dk_180 0 22 (dk_at dksX4_now_0 5 rfl rfl)
theorem dX4_now_8 : decode cX4_now 8 = .ok (.invokeinterface 26 2, 5) := by decide +kernel
theorem dX4_now_13 : decode cX4_now 13 = .ok (.checkcast 32, 3) := dk_192 0 32 (dk_at dksX4_now_0 13 rfl rfl)
theorem dX4_now_16 : decode cX4_now 16 = .ok (.areturn, 1) := dk_176 (dk_at dksX4_now_0 16 rfl rfl)
abbrev cX4_takeIf : ByteArray := prog_22_method_8_code
def yX4_takeIf : MethodName := ⟨RX4, "takeIf", "(Ljava/lang/String;)Z"⟩
def dkwX4_takeIf_0 : List UInt8 := [42, 182, 0, 36, 43, 182, 0, 50, 154, 0, 5, 3, 172, 42, 182, 0, 58, 87, 4, 172]
abbrev dktX4_takeIf_0 : List UInt8 := dkwX4_takeIf_0 ++ []
theorem dksX4_takeIf_0 : cX4_takeIf.data.toList.drop 0 = dktX4_takeIf_0 := by decide +kernel
theorem dX4_takeIf_0 : decode cX4_takeIf 0 = .ok (.aload_n 0, 1) := dk_42 (dk_at dksX4_takeIf_0 0 rfl rfl)
theorem dX4_takeIf_1 : decode cX4_takeIf 1 = .ok (.invokevirtual 36, 3) := dk_182 0 36 (dk_at dksX4_takeIf_0 1 rfl rfl)
theorem dX4_takeIf_4 : decode cX4_takeIf 4 = .ok (.aload_n 1, 1) := dk_43 (dk_at dksX4_takeIf_0 4 rfl rfl)
theorem dX4_takeIf_5 : decode cX4_takeIf 5 = .ok (.invokevirtual 50, 3) := dk_182 0 50 (dk_at dksX4_takeIf_0 5 rfl rfl)
theorem dX4_takeIf_8 : decode cX4_takeIf 8 = .ok (.ifCond .ne 5, 3) := dk_154 0 5 (dk_at dksX4_takeIf_0 8 rfl rfl)
theorem dX4_takeIf_11 : decode cX4_takeIf 11 = .ok (.iconst 0, 1) := dk_3 (dk_at dksX4_takeIf_0 11 rfl rfl)
theorem dX4_takeIf_12 : decode cX4_takeIf 12 = .ok (.ireturn, 1) := dk_172 (dk_at dksX4_takeIf_0 12 rfl rfl)
theorem dX4_takeIf_13 : decode cX4_takeIf 13 = .ok (.aload_n 0, 1) := dk_42 (dk_at dksX4_takeIf_0 13 rfl rfl)
theorem dX4_takeIf_14 : decode cX4_takeIf 14 = .ok (.invokevirtual 58, 3) := dk_182 0 58 (dk_at dksX4_takeIf_0 14 rfl rfl)
theorem dX4_takeIf_17 : decode cX4_takeIf 17 = .ok (.pop, 1) := dk_87 (dk_at dksX4_takeIf_0 17 rfl rfl)
theorem dX4_takeIf_18 : decode cX4_takeIf 18 = .ok (.iconst 1, 1) := dk_4 (dk_at dksX4_takeIf_0 18 rfl rfl)
theorem dX4_takeIf_19 : decode cX4_takeIf 19 = .ok (.ireturn, 1) := dk_172 (dk_at dksX4_takeIf_0 19 rfl rfl)
abbrev cX4_take : ByteArray := prog_22_method_5_code
def yX4_take : MethodName := ⟨RX4, "take", "()LPastWatch$Token;"⟩
def dkwX4_take_1 : List UInt8 := [185, 0, 26, 2, 0, 192, 0, 32, 176]
abbrev dktX4_take_1 : List UInt8 := dkwX4_take_1 ++ []
def dkwX4_take_0 : List UInt8 := [42, 89, 180, 0, 22, 4, 96, 181, 0, 22, 42, 180, 0, 9, 42, 180, 0, 22, 4, 100]
abbrev dktX4_take_0 : List UInt8 := dkwX4_take_0 ++ dktX4_take_1
theorem dksX4_take_0 : cX4_take.data.toList.drop 0 = dktX4_take_0 := by decide +kernel
theorem dksX4_take_1 : cX4_take.data.toList.drop 20 = dktX4_take_1 := dk_seg dksX4_take_0 20 rfl rfl
theorem dX4_take_0 : decode cX4_take 0 = .ok (.aload_n 0, 1) := dk_42 (dk_at dksX4_take_0 0 rfl rfl)
theorem dX4_take_1 : decode cX4_take 1 = .ok (.dup, 1) := dk_89 (dk_at dksX4_take_0 1 rfl rfl)
theorem dX4_take_2 : decode cX4_take 2 = .ok (.getfield 22, 3) := dk_180 0 22 (dk_at dksX4_take_0 2 rfl rfl)
theorem dX4_take_5 : decode cX4_take 5 = .ok (.iconst 1, 1) := dk_4 (dk_at dksX4_take_0 5 rfl rfl)
theorem dX4_take_6 : decode cX4_take 6 = .ok (.iadd, 1) := dk_96 (dk_at dksX4_take_0 6 rfl rfl)
theorem dX4_take_7 : decode cX4_take 7 = .ok (.putfield 22, 3) := dk_181 0 22 (dk_at dksX4_take_0 7 rfl rfl)
theorem dX4_take_10 : decode cX4_take 10 = .ok (.aload_n 0, 1) := dk_42 (dk_at dksX4_take_0 10 rfl rfl)
theorem dX4_take_11 : decode cX4_take 11 = .ok (.getfield 9, 3) := dk_180 0 9 (dk_at dksX4_take_0 11 rfl rfl)
theorem dX4_take_14 : decode cX4_take 14 = .ok (.aload_n 0, 1) := dk_42 (dk_at dksX4_take_0 14 rfl rfl)
theorem dX4_take_15 : decode cX4_take 15 = .ok (.getfield 22, 3) := dk_180 0 22 (dk_at dksX4_take_0 15 rfl rfl)
theorem dX4_take_18 : decode cX4_take 18 = .ok (.iconst 1, 1) := dk_4 (dk_at dksX4_take_0 18 rfl rfl)
theorem dX4_take_19 : decode cX4_take 19 = .ok (.isub, 1) := dk_100 (dk_at dksX4_take_0 19 rfl rfl)
theorem dX4_take_20 : decode cX4_take 20 = .ok (.invokeinterface 26 2, 5) := by decide +kernel
theorem dX4_take_25 : decode cX4_take 25 = .ok (.checkcast 32, 3) := dk_192 0 32 (dk_at dksX4_take_1 5 rfl rfl)
theorem dX4_take_28 : decode cX4_take 28 = .ok (.areturn, 1) := dk_176 (dk_at dksX4_take_1 8 rfl rfl)
abbrev cX4_signal : ByteArray := prog_22_method_15_code
def yX4_signal : MethodName := ⟨RX4, "signal", "(LPastWatch$Token;)V"⟩
def dkwX4_signal_5 : List UInt8 := [180, 0, 169, 44, 25, 5, 182, 0, 173, 87, 177]
abbrev dktX4_signal_5 : List UInt8 := dkwX4_signal_5 ++ []
def dkwX4_signal_4 : List UInt8 := [42, 25, 5, 182, 0, 164, 87, 42, 180, 0, 15, 180, 0, 138, 25, 5, 182, 0, 168, 87, 42, 180, 0, 15]
abbrev dktX4_signal_4 : List UInt8 := dkwX4_signal_4 ++ dktX4_signal_5
def dkwX4_signal_3 : List UInt8 := [89, 43, 180, 0, 40, 29, 153, 0, 10, 21, 4, 116, 133, 167, 0, 6, 21, 4, 133, 183, 0, 161, 58, 5]
abbrev dktX4_signal_3 : List UInt8 := dkwX4_signal_3 ++ dktX4_signal_4
def dkwX4_signal_2 : List UInt8 := [62, 42, 178, 0, 153, 182, 0, 128, 182, 0, 156, 54, 4, 42, 180, 0, 46, 154, 0, 4, 177, 187, 0, 159]
abbrev dktX4_signal_2 : List UInt8 := dkwX4_signal_2 ++ dktX4_signal_3
def dkwX4_signal_1 : List UInt8 := [180, 0, 40, 182, 0, 92, 42, 182, 0, 145, 77, 42, 18, 149, 182, 0, 122, 87, 42, 18, 151, 182, 0, 102]
abbrev dktX4_signal_1 : List UInt8 := dkwX4_signal_1 ++ dktX4_signal_2
def dkwX4_signal_0 : List UInt8 := [42, 42, 180, 0, 15, 180, 0, 138, 182, 0, 141, 16, 8, 162, 0, 7, 4, 167, 0, 4, 3, 7, 43]
abbrev dktX4_signal_0 : List UInt8 := dkwX4_signal_0 ++ dktX4_signal_1
theorem dksX4_signal_0 : cX4_signal.data.toList.drop 0 = dktX4_signal_0 := by decide +kernel
theorem dksX4_signal_1 : cX4_signal.data.toList.drop 23 = dktX4_signal_1 := dk_seg dksX4_signal_0 23 rfl rfl
theorem dksX4_signal_2 : cX4_signal.data.toList.drop 47 = dktX4_signal_2 := dk_seg dksX4_signal_1 24 rfl rfl
theorem dksX4_signal_3 : cX4_signal.data.toList.drop 71 = dktX4_signal_3 := dk_seg dksX4_signal_2 24 rfl rfl
theorem dksX4_signal_4 : cX4_signal.data.toList.drop 95 = dktX4_signal_4 := dk_seg dksX4_signal_3 24 rfl rfl
theorem dksX4_signal_5 : cX4_signal.data.toList.drop 119 = dktX4_signal_5 := dk_seg dksX4_signal_4 24 rfl rfl
theorem dX4_signal_0 : decode cX4_signal 0 = .ok (.aload_n 0, 1) := dk_42 (dk_at dksX4_signal_0 0 rfl rfl)
theorem dX4_signal_1 : decode cX4_signal 1 = .ok (.aload_n 0, 1) := dk_42 (dk_at dksX4_signal_0 1 rfl rfl)
theorem dX4_signal_2 : decode cX4_signal 2 = .ok (.getfield 15, 3) := dk_180 0 15 (dk_at dksX4_signal_0 2 rfl rfl)
theorem dX4_signal_5 : decode cX4_signal 5 = .ok (.getfield 138, 3) := dk_180 0 138 (dk_at dksX4_signal_0 5 rfl rfl)
theorem dX4_signal_8 : decode cX4_signal 8 = .ok (.invokevirtual 141, 3) := dk_182 0 141 (dk_at dksX4_signal_0 8 rfl rfl)
theorem dX4_signal_11 : decode cX4_signal 11 = .ok (.bipush 8, 2) := dk_16 8 (dk_at dksX4_signal_0 11 rfl rfl)
theorem dX4_signal_13 : decode cX4_signal 13 = .ok (.if_icmp .ge 7, 3) := dk_162 0 7 (dk_at dksX4_signal_0 13 rfl rfl)
theorem dX4_signal_16 : decode cX4_signal 16 = .ok (.iconst 1, 1) := dk_4 (dk_at dksX4_signal_0 16 rfl rfl)
theorem dX4_signal_17 : decode cX4_signal 17 = .ok (.goto 4, 3) := dk_167 0 4 (dk_at dksX4_signal_0 17 rfl rfl)
theorem dX4_signal_20 : decode cX4_signal 20 = .ok (.iconst 0, 1) := dk_3 (dk_at dksX4_signal_0 20 rfl rfl)
theorem dX4_signal_21 : decode cX4_signal 21 = .ok (.iconst 4, 1) := dk_7 (dk_at dksX4_signal_0 21 rfl rfl)
theorem dX4_signal_22 : decode cX4_signal 22 = .ok (.aload_n 1, 1) := dk_43 (dk_at dksX4_signal_0 22 rfl rfl)
theorem dX4_signal_23 : decode cX4_signal 23 = .ok (.getfield 40, 3) := dk_180 0 40 (dk_at dksX4_signal_1 0 rfl rfl)
theorem dX4_signal_26 : decode cX4_signal 26 = .ok (.invokevirtual 92, 3) := dk_182 0 92 (dk_at dksX4_signal_1 3 rfl rfl)
theorem dX4_signal_29 : decode cX4_signal 29 = .ok (.aload_n 0, 1) := dk_42 (dk_at dksX4_signal_1 6 rfl rfl)
theorem dX4_signal_30 : decode cX4_signal 30 = .ok (.invokevirtual 145, 3) := dk_182 0 145 (dk_at dksX4_signal_1 7 rfl rfl)
theorem dX4_signal_33 : decode cX4_signal 33 = .ok (.astore_n 2, 1) := dk_77 (dk_at dksX4_signal_1 10 rfl rfl)
theorem dX4_signal_34 : decode cX4_signal 34 = .ok (.aload_n 0, 1) := dk_42 (dk_at dksX4_signal_1 11 rfl rfl)
theorem dX4_signal_35 : decode cX4_signal 35 = .ok (.ldc 149, 2) := dk_18 149 (dk_at dksX4_signal_1 12 rfl rfl)
theorem dX4_signal_37 : decode cX4_signal 37 = .ok (.invokevirtual 122, 3) := dk_182 0 122 (dk_at dksX4_signal_1 14 rfl rfl)
theorem dX4_signal_40 : decode cX4_signal 40 = .ok (.pop, 1) := dk_87 (dk_at dksX4_signal_1 17 rfl rfl)
theorem dX4_signal_41 : decode cX4_signal 41 = .ok (.aload_n 0, 1) := dk_42 (dk_at dksX4_signal_1 18 rfl rfl)
theorem dX4_signal_42 : decode cX4_signal 42 = .ok (.ldc 151, 2) := dk_18 151 (dk_at dksX4_signal_1 19 rfl rfl)
theorem dX4_signal_44 : decode cX4_signal 44 = .ok (.invokevirtual 102, 3) := dk_182 0 102 (dk_at dksX4_signal_1 21 rfl rfl)
theorem dX4_signal_47 : decode cX4_signal 47 = .ok (.istore_n 3, 1) := dk_62 (dk_at dksX4_signal_2 0 rfl rfl)
theorem dX4_signal_48 : decode cX4_signal 48 = .ok (.aload_n 0, 1) := dk_42 (dk_at dksX4_signal_2 1 rfl rfl)
theorem dX4_signal_49 : decode cX4_signal 49 = .ok (.getstatic 153, 3) := dk_178 0 153 (dk_at dksX4_signal_2 2 rfl rfl)
theorem dX4_signal_52 : decode cX4_signal 52 = .ok (.invokevirtual 128, 3) := dk_182 0 128 (dk_at dksX4_signal_2 5 rfl rfl)
theorem dX4_signal_55 : decode cX4_signal 55 = .ok (.invokevirtual 156, 3) := dk_182 0 156 (dk_at dksX4_signal_2 8 rfl rfl)
theorem dX4_signal_58 : decode cX4_signal 58 = .ok (.istore 4, 2) := dk_54 4 (dk_at dksX4_signal_2 11 rfl rfl)
theorem dX4_signal_60 : decode cX4_signal 60 = .ok (.aload_n 0, 1) := dk_42 (dk_at dksX4_signal_2 13 rfl rfl)
theorem dX4_signal_61 : decode cX4_signal 61 = .ok (.getfield 46, 3) := dk_180 0 46 (dk_at dksX4_signal_2 14 rfl rfl)
theorem dX4_signal_64 : decode cX4_signal 64 = .ok (.ifCond .ne 4, 3) := dk_154 0 4 (dk_at dksX4_signal_2 17 rfl rfl)
theorem dX4_signal_67 : decode cX4_signal 67 = .ok (.return_, 1) := dk_177 (dk_at dksX4_signal_2 20 rfl rfl)
theorem dX4_signal_68 : decode cX4_signal 68 = .ok (.new 159, 3) := dk_187 0 159 (dk_at dksX4_signal_2 21 rfl rfl)
theorem dX4_signal_71 : decode cX4_signal 71 = .ok (.dup, 1) := dk_89 (dk_at dksX4_signal_3 0 rfl rfl)
theorem dX4_signal_72 : decode cX4_signal 72 = .ok (.aload_n 1, 1) := dk_43 (dk_at dksX4_signal_3 1 rfl rfl)
theorem dX4_signal_73 : decode cX4_signal 73 = .ok (.getfield 40, 3) := dk_180 0 40 (dk_at dksX4_signal_3 2 rfl rfl)
theorem dX4_signal_76 : decode cX4_signal 76 = .ok (.iload_n 3, 1) := dk_29 (dk_at dksX4_signal_3 5 rfl rfl)
theorem dX4_signal_77 : decode cX4_signal 77 = .ok (.ifCond .eq 10, 3) := dk_153 0 10 (dk_at dksX4_signal_3 6 rfl rfl)
theorem dX4_signal_80 : decode cX4_signal 80 = .ok (.iload 4, 2) := dk_21 4 (dk_at dksX4_signal_3 9 rfl rfl)
theorem dX4_signal_82 : decode cX4_signal 82 = .ok (.ineg, 1) := dk_116 (dk_at dksX4_signal_3 11 rfl rfl)
theorem dX4_signal_83 : decode cX4_signal 83 = .ok (.i2l, 1) := dk_133 (dk_at dksX4_signal_3 12 rfl rfl)
theorem dX4_signal_84 : decode cX4_signal 84 = .ok (.goto 6, 3) := dk_167 0 6 (dk_at dksX4_signal_3 13 rfl rfl)
theorem dX4_signal_87 : decode cX4_signal 87 = .ok (.iload 4, 2) := dk_21 4 (dk_at dksX4_signal_3 16 rfl rfl)
theorem dX4_signal_89 : decode cX4_signal 89 = .ok (.i2l, 1) := dk_133 (dk_at dksX4_signal_3 18 rfl rfl)
theorem dX4_signal_90 : decode cX4_signal 90 = .ok (.invokespecial 161, 3) := dk_183 0 161 (dk_at dksX4_signal_3 19 rfl rfl)
theorem dX4_signal_93 : decode cX4_signal 93 = .ok (.astore 5, 2) := dk_58 5 (dk_at dksX4_signal_3 22 rfl rfl)
theorem dX4_signal_95 : decode cX4_signal 95 = .ok (.aload_n 0, 1) := dk_42 (dk_at dksX4_signal_4 0 rfl rfl)
theorem dX4_signal_96 : decode cX4_signal 96 = .ok (.aload 5, 2) := dk_25 5 (dk_at dksX4_signal_4 1 rfl rfl)
theorem dX4_signal_98 : decode cX4_signal 98 = .ok (.invokevirtual 164, 3) := dk_182 0 164 (dk_at dksX4_signal_4 3 rfl rfl)
theorem dX4_signal_101 : decode cX4_signal 101 = .ok (.pop, 1) := dk_87 (dk_at dksX4_signal_4 6 rfl rfl)
theorem dX4_signal_102 : decode cX4_signal 102 = .ok (.aload_n 0, 1) := dk_42 (dk_at dksX4_signal_4 7 rfl rfl)
theorem dX4_signal_103 : decode cX4_signal 103 = .ok (.getfield 15, 3) := dk_180 0 15 (dk_at dksX4_signal_4 8 rfl rfl)
theorem dX4_signal_106 : decode cX4_signal 106 = .ok (.getfield 138, 3) := dk_180 0 138 (dk_at dksX4_signal_4 11 rfl rfl)
theorem dX4_signal_109 : decode cX4_signal 109 = .ok (.aload 5, 2) := dk_25 5 (dk_at dksX4_signal_4 14 rfl rfl)
theorem dX4_signal_111 : decode cX4_signal 111 = .ok (.invokevirtual 168, 3) := dk_182 0 168 (dk_at dksX4_signal_4 16 rfl rfl)
theorem dX4_signal_114 : decode cX4_signal 114 = .ok (.pop, 1) := dk_87 (dk_at dksX4_signal_4 19 rfl rfl)
theorem dX4_signal_115 : decode cX4_signal 115 = .ok (.aload_n 0, 1) := dk_42 (dk_at dksX4_signal_4 20 rfl rfl)
theorem dX4_signal_116 : decode cX4_signal 116 = .ok (.getfield 15, 3) := dk_180 0 15 (dk_at dksX4_signal_4 21 rfl rfl)
theorem dX4_signal_119 : decode cX4_signal 119 = .ok (.getfield 169, 3) := dk_180 0 169 (dk_at dksX4_signal_5 0 rfl rfl)
theorem dX4_signal_122 : decode cX4_signal 122 = .ok (.aload_n 2, 1) := dk_44 (dk_at dksX4_signal_5 3 rfl rfl)
theorem dX4_signal_123 : decode cX4_signal 123 = .ok (.aload 5, 2) := dk_25 5 (dk_at dksX4_signal_5 4 rfl rfl)
theorem dX4_signal_125 : decode cX4_signal 125 = .ok (.invokevirtual 173, 3) := dk_182 0 173 (dk_at dksX4_signal_5 6 rfl rfl)
theorem dX4_signal_128 : decode cX4_signal 128 = .ok (.pop, 1) := dk_87 (dk_at dksX4_signal_5 9 rfl rfl)
theorem dX4_signal_129 : decode cX4_signal 129 = .ok (.return_, 1) := dk_177 (dk_at dksX4_signal_5 10 rfl rfl)
abbrev cX4_must : ByteArray := prog_22_method_4_code
def yX4_must : MethodName := ⟨RX4, "must", "(ZII)V"⟩
def dkwX4_must_0 : List UInt8 := [42, 180, 0, 46, 153, 0, 17, 27, 154, 0, 13, 187, 0, 34, 89, 28, 29, 183, 0, 43, 191, 177]
abbrev dktX4_must_0 : List UInt8 := dkwX4_must_0 ++ []
theorem dksX4_must_0 : cX4_must.data.toList.drop 0 = dktX4_must_0 := by decide +kernel
theorem dX4_must_0 : decode cX4_must 0 = .ok (.aload_n 0, 1) := dk_42 (dk_at dksX4_must_0 0 rfl rfl)
theorem dX4_must_1 : decode cX4_must 1 = .ok (.getfield 46, 3) := dk_180 0 46 (dk_at dksX4_must_0 1 rfl rfl)
theorem dX4_must_4 : decode cX4_must 4 = .ok (.ifCond .eq 17, 3) := dk_153 0 17 (dk_at dksX4_must_0 4 rfl rfl)
theorem dX4_must_7 : decode cX4_must 7 = .ok (.iload_n 1, 1) := dk_27 (dk_at dksX4_must_0 7 rfl rfl)
theorem dX4_must_8 : decode cX4_must 8 = .ok (.ifCond .ne 13, 3) := dk_154 0 13 (dk_at dksX4_must_0 8 rfl rfl)
theorem dX4_must_11 : decode cX4_must 11 = .ok (.new 34, 3) := dk_187 0 34 (dk_at dksX4_must_0 11 rfl rfl)
theorem dX4_must_14 : decode cX4_must 14 = .ok (.dup, 1) := dk_89 (dk_at dksX4_must_0 14 rfl rfl)
theorem dX4_must_15 : decode cX4_must 15 = .ok (.iload_n 2, 1) := dk_28 (dk_at dksX4_must_0 15 rfl rfl)
theorem dX4_must_16 : decode cX4_must 16 = .ok (.iload_n 3, 1) := dk_29 (dk_at dksX4_must_0 16 rfl rfl)
theorem dX4_must_17 : decode cX4_must 17 = .ok (.invokespecial 43, 3) := dk_183 0 43 (dk_at dksX4_must_0 17 rfl rfl)
theorem dX4_must_20 : decode cX4_must 20 = .ok (.athrow, 1) := dk_191 (dk_at dksX4_must_0 20 rfl rfl)
theorem dX4_must_21 : decode cX4_must 21 = .ok (.return_, 1) := dk_177 (dk_at dksX4_must_0 21 rfl rfl)
abbrev cX4_newName : ByteArray := prog_22_method_14_code
def yX4_newName : MethodName := ⟨RX4, "newName", "()Ljava/lang/String;"⟩
def dkwX4_newName_1 : List UInt8 := [167, 0, 4, 3, 6, 43, 180, 0, 40, 182, 0, 92, 43, 180, 0, 131, 176]
abbrev dktX4_newName_1 : List UInt8 := dkwX4_newName_1 ++ []
def dkwX4_newName_0 : List UInt8 := [42, 178, 0, 125, 182, 0, 128, 76, 42, 42, 180, 0, 15, 43, 180, 0, 131, 182, 0, 135, 154, 0, 7, 4]
abbrev dktX4_newName_0 : List UInt8 := dkwX4_newName_0 ++ dktX4_newName_1
theorem dksX4_newName_0 : cX4_newName.data.toList.drop 0 = dktX4_newName_0 := by decide +kernel
theorem dksX4_newName_1 : cX4_newName.data.toList.drop 24 = dktX4_newName_1 := dk_seg dksX4_newName_0 24 rfl rfl
theorem dX4_newName_0 : decode cX4_newName 0 = .ok (.aload_n 0, 1) := dk_42 (dk_at dksX4_newName_0 0 rfl rfl)
theorem dX4_newName_1 : decode cX4_newName 1 = .ok (.getstatic 125, 3) := dk_178 0 125 (dk_at dksX4_newName_0 1 rfl rfl)
theorem dX4_newName_4 : decode cX4_newName 4 = .ok (.invokevirtual 128, 3) := dk_182 0 128 (dk_at dksX4_newName_0 4 rfl rfl)
theorem dX4_newName_7 : decode cX4_newName 7 = .ok (.astore_n 1, 1) := dk_76 (dk_at dksX4_newName_0 7 rfl rfl)
theorem dX4_newName_8 : decode cX4_newName 8 = .ok (.aload_n 0, 1) := dk_42 (dk_at dksX4_newName_0 8 rfl rfl)
theorem dX4_newName_9 : decode cX4_newName 9 = .ok (.aload_n 0, 1) := dk_42 (dk_at dksX4_newName_0 9 rfl rfl)
theorem dX4_newName_10 : decode cX4_newName 10 = .ok (.getfield 15, 3) := dk_180 0 15 (dk_at dksX4_newName_0 10 rfl rfl)
theorem dX4_newName_13 : decode cX4_newName 13 = .ok (.aload_n 1, 1) := dk_43 (dk_at dksX4_newName_0 13 rfl rfl)
theorem dX4_newName_14 : decode cX4_newName 14 = .ok (.getfield 131, 3) := dk_180 0 131 (dk_at dksX4_newName_0 14 rfl rfl)
theorem dX4_newName_17 : decode cX4_newName 17 = .ok (.invokevirtual 135, 3) := dk_182 0 135 (dk_at dksX4_newName_0 17 rfl rfl)
theorem dX4_newName_20 : decode cX4_newName 20 = .ok (.ifCond .ne 7, 3) := dk_154 0 7 (dk_at dksX4_newName_0 20 rfl rfl)
theorem dX4_newName_23 : decode cX4_newName 23 = .ok (.iconst 1, 1) := dk_4 (dk_at dksX4_newName_0 23 rfl rfl)
theorem dX4_newName_24 : decode cX4_newName 24 = .ok (.goto 4, 3) := dk_167 0 4 (dk_at dksX4_newName_1 0 rfl rfl)
theorem dX4_newName_27 : decode cX4_newName 27 = .ok (.iconst 0, 1) := dk_3 (dk_at dksX4_newName_1 3 rfl rfl)
theorem dX4_newName_28 : decode cX4_newName 28 = .ok (.iconst 3, 1) := dk_6 (dk_at dksX4_newName_1 4 rfl rfl)
theorem dX4_newName_29 : decode cX4_newName 29 = .ok (.aload_n 1, 1) := dk_43 (dk_at dksX4_newName_1 5 rfl rfl)
theorem dX4_newName_30 : decode cX4_newName 30 = .ok (.getfield 40, 3) := dk_180 0 40 (dk_at dksX4_newName_1 6 rfl rfl)
theorem dX4_newName_33 : decode cX4_newName 33 = .ok (.invokevirtual 92, 3) := dk_182 0 92 (dk_at dksX4_newName_1 9 rfl rfl)
theorem dX4_newName_36 : decode cX4_newName 36 = .ok (.aload_n 1, 1) := dk_43 (dk_at dksX4_newName_1 12 rfl rfl)
theorem dX4_newName_37 : decode cX4_newName 37 = .ok (.getfield 131, 3) := dk_180 0 131 (dk_at dksX4_newName_1 13 rfl rfl)
theorem dX4_newName_40 : decode cX4_newName 40 = .ok (.areturn, 1) := dk_176 (dk_at dksX4_newName_1 16 rfl rfl)
abbrev cX4_take_2 : ByteArray := prog_22_method_7_code
def yX4_take_2 : MethodName := ⟨RX4, "take", "(LPastWatch$Sort;)LPastWatch$Token;"⟩
def dkwX4_take_2_0 : List UInt8 := [42, 182, 0, 36, 180, 0, 61, 43, 165, 0, 8, 42, 182, 0, 54, 191, 42, 182, 0, 58, 176]
abbrev dktX4_take_2_0 : List UInt8 := dkwX4_take_2_0 ++ []
theorem dksX4_take_2_0 : cX4_take_2.data.toList.drop 0 = dktX4_take_2_0 := by decide +kernel
theorem dX4_take_2_0 : decode cX4_take_2 0 = .ok (.aload_n 0, 1) := dk_42 (dk_at dksX4_take_2_0 0 rfl rfl)
theorem dX4_take_2_1 : decode cX4_take_2 1 = .ok (.invokevirtual 36, 3) := dk_182 0 36 (dk_at dksX4_take_2_0 1 rfl rfl)
theorem dX4_take_2_4 : decode cX4_take_2 4 = .ok (.getfield 61, 3) := dk_180 0 61 (dk_at dksX4_take_2_0 4 rfl rfl)
theorem dX4_take_2_7 : decode cX4_take_2 7 = .ok (.aload_n 1, 1) := dk_43 (dk_at dksX4_take_2_0 7 rfl rfl)
theorem dX4_take_2_8 : decode cX4_take_2 8 = .ok (.if_acmp .eq 8, 3) := dk_165 0 8 (dk_at dksX4_take_2_0 8 rfl rfl)
theorem dX4_take_2_11 : decode cX4_take_2 11 = .ok (.aload_n 0, 1) := dk_42 (dk_at dksX4_take_2_0 11 rfl rfl)
theorem dX4_take_2_12 : decode cX4_take_2 12 = .ok (.invokevirtual 54, 3) := dk_182 0 54 (dk_at dksX4_take_2_0 12 rfl rfl)
theorem dX4_take_2_15 : decode cX4_take_2 15 = .ok (.athrow, 1) := dk_191 (dk_at dksX4_take_2_0 15 rfl rfl)
theorem dX4_take_2_16 : decode cX4_take_2 16 = .ok (.aload_n 0, 1) := dk_42 (dk_at dksX4_take_2_0 16 rfl rfl)
theorem dX4_take_2_17 : decode cX4_take_2 17 = .ok (.invokevirtual 58, 3) := dk_182 0 58 (dk_at dksX4_take_2_0 17 rfl rfl)
theorem dX4_take_2_20 : decode cX4_take_2 20 = .ok (.areturn, 1) := dk_176 (dk_at dksX4_take_2_0 20 rfl rfl)
abbrev cX4_wrong : ByteArray := prog_22_method_3_code
def yX4_wrong : MethodName := ⟨RX4, "wrong", "()LPastWatch$Wrong;"⟩
def dkwX4_wrong_0 : List UInt8 := [187, 0, 34, 89, 4, 42, 182, 0, 36, 180, 0, 40, 183, 0, 43, 176]
abbrev dktX4_wrong_0 : List UInt8 := dkwX4_wrong_0 ++ []
theorem dksX4_wrong_0 : cX4_wrong.data.toList.drop 0 = dktX4_wrong_0 := by decide +kernel
theorem dX4_wrong_0 : decode cX4_wrong 0 = .ok (.new 34, 3) := dk_187 0 34 (dk_at dksX4_wrong_0 0 rfl rfl)
theorem dX4_wrong_3 : decode cX4_wrong 3 = .ok (.dup, 1) := dk_89 (dk_at dksX4_wrong_0 3 rfl rfl)
theorem dX4_wrong_4 : decode cX4_wrong 4 = .ok (.iconst 1, 1) := dk_4 (dk_at dksX4_wrong_0 4 rfl rfl)
theorem dX4_wrong_5 : decode cX4_wrong 5 = .ok (.aload_n 0, 1) := dk_42 (dk_at dksX4_wrong_0 5 rfl rfl)
theorem dX4_wrong_6 : decode cX4_wrong 6 = .ok (.invokevirtual 36, 3) := dk_182 0 36 (dk_at dksX4_wrong_0 6 rfl rfl)
theorem dX4_wrong_9 : decode cX4_wrong 9 = .ok (.getfield 40, 3) := dk_180 0 40 (dk_at dksX4_wrong_0 9 rfl rfl)
theorem dX4_wrong_12 : decode cX4_wrong 12 = .ok (.invokespecial 43, 3) := dk_183 0 43 (dk_at dksX4_wrong_0 12 rfl rfl)
theorem dX4_wrong_15 : decode cX4_wrong 15 = .ok (.areturn, 1) := dk_176 (dk_at dksX4_wrong_0 15 rfl rfl)
abbrev cX4_take_3 : ByteArray := prog_22_method_6_code
def yX4_take_3 : MethodName := ⟨RX4, "take", "(Ljava/lang/String;)LPastWatch$Token;"⟩
def dkwX4_take_3_0 : List UInt8 := [42, 182, 0, 36, 43, 182, 0, 50, 154, 0, 8, 42, 182, 0, 54, 191, 42, 182, 0, 58, 176]
abbrev dktX4_take_3_0 : List UInt8 := dkwX4_take_3_0 ++ []
theorem dksX4_take_3_0 : cX4_take_3.data.toList.drop 0 = dktX4_take_3_0 := by decide +kernel
theorem dX4_take_3_0 : decode cX4_take_3 0 = .ok (.aload_n 0, 1) := dk_42 (dk_at dksX4_take_3_0 0 rfl rfl)
theorem dX4_take_3_1 : decode cX4_take_3 1 = .ok (.invokevirtual 36, 3) := dk_182 0 36 (dk_at dksX4_take_3_0 1 rfl rfl)
theorem dX4_take_3_4 : decode cX4_take_3 4 = .ok (.aload_n 1, 1) := dk_43 (dk_at dksX4_take_3_0 4 rfl rfl)
theorem dX4_take_3_5 : decode cX4_take_3 5 = .ok (.invokevirtual 50, 3) := dk_182 0 50 (dk_at dksX4_take_3_0 5 rfl rfl)
theorem dX4_take_3_8 : decode cX4_take_3 8 = .ok (.ifCond .ne 8, 3) := dk_154 0 8 (dk_at dksX4_take_3_0 8 rfl rfl)
theorem dX4_take_3_11 : decode cX4_take_3 11 = .ok (.aload_n 0, 1) := dk_42 (dk_at dksX4_take_3_0 11 rfl rfl)
theorem dX4_take_3_12 : decode cX4_take_3 12 = .ok (.invokevirtual 54, 3) := dk_182 0 54 (dk_at dksX4_take_3_0 12 rfl rfl)
theorem dX4_take_3_15 : decode cX4_take_3 15 = .ok (.athrow, 1) := dk_191 (dk_at dksX4_take_3_0 15 rfl rfl)
theorem dX4_take_3_16 : decode cX4_take_3 16 = .ok (.aload_n 0, 1) := dk_42 (dk_at dksX4_take_3_0 16 rfl rfl)
theorem dX4_take_3_17 : decode cX4_take_3 17 = .ok (.invokevirtual 58, 3) := dk_182 0 58 (dk_at dksX4_take_3_0 17 rfl rfl)
theorem dX4_take_3_20 : decode cX4_take_3 20 = .ok (.areturn, 1) := dk_176 (dk_at dksX4_take_3_0 20 rfl rfl)
abbrev cX4_keep : ByteArray := prog_22_method_10_code
def yX4_keep : MethodName := ⟨RX4, "keep", "(LPastWatch$Node;)LPastWatch$Node;"⟩
def dkwX4_keep_0 : List UInt8 := [42, 180, 0, 46, 153, 0, 14, 42, 180, 0, 19, 43, 185, 0, 68, 2, 0, 87, 43, 176]
abbrev dktX4_keep_0 : List UInt8 := dkwX4_keep_0 ++ []
theorem dksX4_keep_0 : cX4_keep.data.toList.drop 0 = dktX4_keep_0 := by decide +kernel
theorem dX4_keep_0 : decode cX4_keep 0 = .ok (.aload_n 0, 1) := dk_42 (dk_at dksX4_keep_0 0 rfl rfl)
theorem dX4_keep_1 : decode cX4_keep 1 = .ok (.getfield 46, 3) := dk_180 0 46 (dk_at dksX4_keep_0 1 rfl rfl)
theorem dX4_keep_4 : decode cX4_keep 4 = .ok (.ifCond .eq 14, 3) := dk_153 0 14 (dk_at dksX4_keep_0 4 rfl rfl)
theorem dX4_keep_7 : decode cX4_keep 7 = .ok (.aload_n 0, 1) := dk_42 (dk_at dksX4_keep_0 7 rfl rfl)
theorem dX4_keep_8 : decode cX4_keep 8 = .ok (.getfield 19, 3) := dk_180 0 19 (dk_at dksX4_keep_0 8 rfl rfl)
theorem dX4_keep_11 : decode cX4_keep 11 = .ok (.aload_n 1, 1) := dk_43 (dk_at dksX4_keep_0 11 rfl rfl)
theorem dX4_keep_12 : decode cX4_keep 12 = .ok (.invokeinterface 68 2, 5) := by decide +kernel
theorem dX4_keep_17 : decode cX4_keep 17 = .ok (.pop, 1) := dk_87 (dk_at dksX4_keep_0 17 rfl rfl)
theorem dX4_keep_18 : decode cX4_keep 18 = .ok (.aload_n 1, 1) := dk_43 (dk_at dksX4_keep_0 18 rfl rfl)
theorem dX4_keep_19 : decode cX4_keep 19 = .ok (.areturn, 1) := dk_176 (dk_at dksX4_keep_0 19 rfl rfl)
abbrev cX4_let : ByteArray := prog_22_method_16_code
def yX4_let : MethodName := ⟨RX4, "let", "(LPastWatch$Token;)V"⟩
def dkwX4_let_3 : List UInt8 := [180, 0, 184, 44, 45, 182, 0, 173, 87, 177]
abbrev dktX4_let_3 : List UInt8 := dkwX4_let_3 ++ []
def dkwX4_let_2 : List UInt8 := [180, 0, 46, 154, 0, 4, 177, 42, 180, 0, 15, 180, 0, 179, 45, 182, 0, 168, 87, 42, 180, 0, 15]
abbrev dktX4_let_2 : List UInt8 := dkwX4_let_2 ++ dktX4_let_3
def dkwX4_let_1 : List UInt8 := [180, 0, 40, 182, 0, 92, 42, 182, 0, 145, 77, 42, 18, 182, 182, 0, 122, 87, 42, 182, 0, 96, 78, 42]
abbrev dktX4_let_1 : List UInt8 := dkwX4_let_1 ++ dktX4_let_2
def dkwX4_let_0 : List UInt8 := [42, 42, 180, 0, 15, 180, 0, 179, 182, 0, 141, 16, 12, 162, 0, 7, 4, 167, 0, 4, 3, 7, 43]
abbrev dktX4_let_0 : List UInt8 := dkwX4_let_0 ++ dktX4_let_1
theorem dksX4_let_0 : cX4_let.data.toList.drop 0 = dktX4_let_0 := by decide +kernel
theorem dksX4_let_1 : cX4_let.data.toList.drop 23 = dktX4_let_1 := dk_seg dksX4_let_0 23 rfl rfl
theorem dksX4_let_2 : cX4_let.data.toList.drop 47 = dktX4_let_2 := dk_seg dksX4_let_1 24 rfl rfl
theorem dksX4_let_3 : cX4_let.data.toList.drop 70 = dktX4_let_3 := dk_seg dksX4_let_2 23 rfl rfl
theorem dX4_let_0 : decode cX4_let 0 = .ok (.aload_n 0, 1) := dk_42 (dk_at dksX4_let_0 0 rfl rfl)
theorem dX4_let_1 : decode cX4_let 1 = .ok (.aload_n 0, 1) := dk_42 (dk_at dksX4_let_0 1 rfl rfl)
theorem dX4_let_2 : decode cX4_let 2 = .ok (.getfield 15, 3) := dk_180 0 15 (dk_at dksX4_let_0 2 rfl rfl)
theorem dX4_let_5 : decode cX4_let 5 = .ok (.getfield 179, 3) := dk_180 0 179 (dk_at dksX4_let_0 5 rfl rfl)
theorem dX4_let_8 : decode cX4_let 8 = .ok (.invokevirtual 141, 3) := dk_182 0 141 (dk_at dksX4_let_0 8 rfl rfl)
theorem dX4_let_11 : decode cX4_let 11 = .ok (.bipush 12, 2) := dk_16 12 (dk_at dksX4_let_0 11 rfl rfl)
theorem dX4_let_13 : decode cX4_let 13 = .ok (.if_icmp .ge 7, 3) := dk_162 0 7 (dk_at dksX4_let_0 13 rfl rfl)
theorem dX4_let_16 : decode cX4_let 16 = .ok (.iconst 1, 1) := dk_4 (dk_at dksX4_let_0 16 rfl rfl)
theorem dX4_let_17 : decode cX4_let 17 = .ok (.goto 4, 3) := dk_167 0 4 (dk_at dksX4_let_0 17 rfl rfl)
theorem dX4_let_20 : decode cX4_let 20 = .ok (.iconst 0, 1) := dk_3 (dk_at dksX4_let_0 20 rfl rfl)
theorem dX4_let_21 : decode cX4_let 21 = .ok (.iconst 4, 1) := dk_7 (dk_at dksX4_let_0 21 rfl rfl)
theorem dX4_let_22 : decode cX4_let 22 = .ok (.aload_n 1, 1) := dk_43 (dk_at dksX4_let_0 22 rfl rfl)
theorem dX4_let_23 : decode cX4_let 23 = .ok (.getfield 40, 3) := dk_180 0 40 (dk_at dksX4_let_1 0 rfl rfl)
theorem dX4_let_26 : decode cX4_let 26 = .ok (.invokevirtual 92, 3) := dk_182 0 92 (dk_at dksX4_let_1 3 rfl rfl)
theorem dX4_let_29 : decode cX4_let 29 = .ok (.aload_n 0, 1) := dk_42 (dk_at dksX4_let_1 6 rfl rfl)
theorem dX4_let_30 : decode cX4_let 30 = .ok (.invokevirtual 145, 3) := dk_182 0 145 (dk_at dksX4_let_1 7 rfl rfl)
theorem dX4_let_33 : decode cX4_let 33 = .ok (.astore_n 2, 1) := dk_77 (dk_at dksX4_let_1 10 rfl rfl)
theorem dX4_let_34 : decode cX4_let 34 = .ok (.aload_n 0, 1) := dk_42 (dk_at dksX4_let_1 11 rfl rfl)
theorem dX4_let_35 : decode cX4_let 35 = .ok (.ldc 182, 2) := dk_18 182 (dk_at dksX4_let_1 12 rfl rfl)
theorem dX4_let_37 : decode cX4_let 37 = .ok (.invokevirtual 122, 3) := dk_182 0 122 (dk_at dksX4_let_1 14 rfl rfl)
theorem dX4_let_40 : decode cX4_let 40 = .ok (.pop, 1) := dk_87 (dk_at dksX4_let_1 17 rfl rfl)
theorem dX4_let_41 : decode cX4_let 41 = .ok (.aload_n 0, 1) := dk_42 (dk_at dksX4_let_1 18 rfl rfl)
theorem dX4_let_42 : decode cX4_let 42 = .ok (.invokevirtual 96, 3) := dk_182 0 96 (dk_at dksX4_let_1 19 rfl rfl)
theorem dX4_let_45 : decode cX4_let 45 = .ok (.astore_n 3, 1) := dk_78 (dk_at dksX4_let_1 22 rfl rfl)
theorem dX4_let_46 : decode cX4_let 46 = .ok (.aload_n 0, 1) := dk_42 (dk_at dksX4_let_1 23 rfl rfl)
theorem dX4_let_47 : decode cX4_let 47 = .ok (.getfield 46, 3) := dk_180 0 46 (dk_at dksX4_let_2 0 rfl rfl)
theorem dX4_let_50 : decode cX4_let 50 = .ok (.ifCond .ne 4, 3) := dk_154 0 4 (dk_at dksX4_let_2 3 rfl rfl)
theorem dX4_let_53 : decode cX4_let 53 = .ok (.return_, 1) := dk_177 (dk_at dksX4_let_2 6 rfl rfl)
theorem dX4_let_54 : decode cX4_let 54 = .ok (.aload_n 0, 1) := dk_42 (dk_at dksX4_let_2 7 rfl rfl)
theorem dX4_let_55 : decode cX4_let 55 = .ok (.getfield 15, 3) := dk_180 0 15 (dk_at dksX4_let_2 8 rfl rfl)
theorem dX4_let_58 : decode cX4_let 58 = .ok (.getfield 179, 3) := dk_180 0 179 (dk_at dksX4_let_2 11 rfl rfl)
theorem dX4_let_61 : decode cX4_let 61 = .ok (.aload_n 3, 1) := dk_45 (dk_at dksX4_let_2 14 rfl rfl)
theorem dX4_let_62 : decode cX4_let 62 = .ok (.invokevirtual 168, 3) := dk_182 0 168 (dk_at dksX4_let_2 15 rfl rfl)
theorem dX4_let_65 : decode cX4_let 65 = .ok (.pop, 1) := dk_87 (dk_at dksX4_let_2 18 rfl rfl)
theorem dX4_let_66 : decode cX4_let 66 = .ok (.aload_n 0, 1) := dk_42 (dk_at dksX4_let_2 19 rfl rfl)
theorem dX4_let_67 : decode cX4_let 67 = .ok (.getfield 15, 3) := dk_180 0 15 (dk_at dksX4_let_2 20 rfl rfl)
theorem dX4_let_70 : decode cX4_let 70 = .ok (.getfield 184, 3) := dk_180 0 184 (dk_at dksX4_let_3 0 rfl rfl)
theorem dX4_let_73 : decode cX4_let 73 = .ok (.aload_n 2, 1) := dk_44 (dk_at dksX4_let_3 3 rfl rfl)
theorem dX4_let_74 : decode cX4_let 74 = .ok (.aload_n 3, 1) := dk_45 (dk_at dksX4_let_3 4 rfl rfl)
theorem dX4_let_75 : decode cX4_let 75 = .ok (.invokevirtual 173, 3) := dk_182 0 173 (dk_at dksX4_let_3 5 rfl rfl)
theorem dX4_let_78 : decode cX4_let 78 = .ok (.pop, 1) := dk_87 (dk_at dksX4_let_3 8 rfl rfl)
theorem dX4_let_79 : decode cX4_let 79 = .ok (.return_, 1) := dk_177 (dk_at dksX4_let_3 9 rfl rfl)
abbrev cX4_formula : ByteArray := prog_22_method_19_code
def yX4_formula : MethodName := ⟨RX4, "formula", "()LPastWatch$Node;"⟩
def dkwX4_formula_1 : List UInt8 := [176, 42, 187, 0, 208, 89, 27, 44, 42, 182, 0, 96, 183, 0, 210, 182, 0, 164, 176]
abbrev dktX4_formula_1 : List UInt8 := dkwX4_formula_1 ++ []
def dkwX4_formula_0 : List UInt8 := [42, 182, 0, 36, 180, 0, 40, 60, 42, 3, 182, 0, 202, 77, 42, 18, 206, 182, 0, 102, 154, 0, 5, 44]
abbrev dktX4_formula_0 : List UInt8 := dkwX4_formula_0 ++ dktX4_formula_1
theorem dksX4_formula_0 : cX4_formula.data.toList.drop 0 = dktX4_formula_0 := by decide +kernel
theorem dksX4_formula_1 : cX4_formula.data.toList.drop 24 = dktX4_formula_1 := dk_seg dksX4_formula_0 24 rfl rfl
theorem dX4_formula_0 : decode cX4_formula 0 = .ok (.aload_n 0, 1) := dk_42 (dk_at dksX4_formula_0 0 rfl rfl)
theorem dX4_formula_1 : decode cX4_formula 1 = .ok (.invokevirtual 36, 3) := dk_182 0 36 (dk_at dksX4_formula_0 1 rfl rfl)
theorem dX4_formula_4 : decode cX4_formula 4 = .ok (.getfield 40, 3) := dk_180 0 40 (dk_at dksX4_formula_0 4 rfl rfl)
theorem dX4_formula_7 : decode cX4_formula 7 = .ok (.istore_n 1, 1) := dk_60 (dk_at dksX4_formula_0 7 rfl rfl)
theorem dX4_formula_8 : decode cX4_formula 8 = .ok (.aload_n 0, 1) := dk_42 (dk_at dksX4_formula_0 8 rfl rfl)
theorem dX4_formula_9 : decode cX4_formula 9 = .ok (.iconst 0, 1) := dk_3 (dk_at dksX4_formula_0 9 rfl rfl)
theorem dX4_formula_10 : decode cX4_formula 10 = .ok (.invokevirtual 202, 3) := dk_182 0 202 (dk_at dksX4_formula_0 10 rfl rfl)
theorem dX4_formula_13 : decode cX4_formula 13 = .ok (.astore_n 2, 1) := dk_77 (dk_at dksX4_formula_0 13 rfl rfl)
theorem dX4_formula_14 : decode cX4_formula 14 = .ok (.aload_n 0, 1) := dk_42 (dk_at dksX4_formula_0 14 rfl rfl)
theorem dX4_formula_15 : decode cX4_formula 15 = .ok (.ldc 206, 2) := dk_18 206 (dk_at dksX4_formula_0 15 rfl rfl)
theorem dX4_formula_17 : decode cX4_formula 17 = .ok (.invokevirtual 102, 3) := dk_182 0 102 (dk_at dksX4_formula_0 17 rfl rfl)
theorem dX4_formula_20 : decode cX4_formula 20 = .ok (.ifCond .ne 5, 3) := dk_154 0 5 (dk_at dksX4_formula_0 20 rfl rfl)
theorem dX4_formula_23 : decode cX4_formula 23 = .ok (.aload_n 2, 1) := dk_44 (dk_at dksX4_formula_0 23 rfl rfl)
theorem dX4_formula_24 : decode cX4_formula 24 = .ok (.areturn, 1) := dk_176 (dk_at dksX4_formula_1 0 rfl rfl)
theorem dX4_formula_25 : decode cX4_formula 25 = .ok (.aload_n 0, 1) := dk_42 (dk_at dksX4_formula_1 1 rfl rfl)
theorem dX4_formula_26 : decode cX4_formula 26 = .ok (.new 208, 3) := dk_187 0 208 (dk_at dksX4_formula_1 2 rfl rfl)
theorem dX4_formula_29 : decode cX4_formula 29 = .ok (.dup, 1) := dk_89 (dk_at dksX4_formula_1 5 rfl rfl)
theorem dX4_formula_30 : decode cX4_formula 30 = .ok (.iload_n 1, 1) := dk_27 (dk_at dksX4_formula_1 6 rfl rfl)
theorem dX4_formula_31 : decode cX4_formula 31 = .ok (.aload_n 2, 1) := dk_44 (dk_at dksX4_formula_1 7 rfl rfl)
theorem dX4_formula_32 : decode cX4_formula 32 = .ok (.aload_n 0, 1) := dk_42 (dk_at dksX4_formula_1 8 rfl rfl)
theorem dX4_formula_33 : decode cX4_formula 33 = .ok (.invokevirtual 96, 3) := dk_182 0 96 (dk_at dksX4_formula_1 9 rfl rfl)
theorem dX4_formula_36 : decode cX4_formula 36 = .ok (.invokespecial 210, 3) := dk_183 0 210 (dk_at dksX4_formula_1 12 rfl rfl)
theorem dX4_formula_39 : decode cX4_formula 39 = .ok (.invokevirtual 164, 3) := dk_182 0 164 (dk_at dksX4_formula_1 15 rfl rfl)
theorem dX4_formula_42 : decode cX4_formula 42 = .ok (.areturn, 1) := dk_176 (dk_at dksX4_formula_1 18 rfl rfl)
abbrev cX4_row : ByteArray := prog_22_method_20_code
def yX4_row : MethodName := ⟨RX4, "row", "(Z)LPastWatch$Node;"⟩
def dkwX4_row_4 : List UInt8 := [192, 0, 222, 167, 0, 17, 42, 187, 0, 224, 89, 28, 27, 45, 183, 0, 226, 182, 0, 164, 176]
abbrev dktX4_row_4 : List UInt8 := dkwX4_row_4 ++ []
def dkwX4_row_3 : List UInt8 := [4, 182, 0, 202, 182, 0, 168, 87, 167, 255, 217, 45, 182, 0, 141, 4, 160, 0, 14, 45, 3, 182, 0, 221]
abbrev dktX4_row_3 : List UInt8 := dkwX4_row_3 ++ dktX4_row_4
def dkwX4_row_2 : List UInt8 := [167, 0, 5, 18, 219, 182, 0, 102, 153, 0, 27, 45, 27, 153, 0, 10, 42, 182, 0, 214, 167, 0, 8, 42]
abbrev dktX4_row_2 : List UInt8 := dkwX4_row_2 ++ dktX4_row_3
def dkwX4_row_1 : List UInt8 := [182, 0, 214, 167, 0, 8, 42, 4, 182, 0, 202, 182, 0, 168, 87, 42, 27, 153, 0, 8, 18, 217]
abbrev dktX4_row_1 : List UInt8 := dkwX4_row_1 ++ dktX4_row_2
def dkwX4_row_0 : List UInt8 := [42, 182, 0, 36, 180, 0, 40, 61, 187, 0, 87, 89, 183, 0, 213, 78, 45, 27, 153, 0, 10, 42]
abbrev dktX4_row_0 : List UInt8 := dkwX4_row_0 ++ dktX4_row_1
theorem dksX4_row_0 : cX4_row.data.toList.drop 0 = dktX4_row_0 := by decide +kernel
theorem dksX4_row_1 : cX4_row.data.toList.drop 22 = dktX4_row_1 := dk_seg dksX4_row_0 22 rfl rfl
theorem dksX4_row_2 : cX4_row.data.toList.drop 44 = dktX4_row_2 := dk_seg dksX4_row_1 22 rfl rfl
theorem dksX4_row_3 : cX4_row.data.toList.drop 68 = dktX4_row_3 := dk_seg dksX4_row_2 24 rfl rfl
theorem dksX4_row_4 : cX4_row.data.toList.drop 92 = dktX4_row_4 := dk_seg dksX4_row_3 24 rfl rfl
theorem dX4_row_0 : decode cX4_row 0 = .ok (.aload_n 0, 1) := dk_42 (dk_at dksX4_row_0 0 rfl rfl)
theorem dX4_row_1 : decode cX4_row 1 = .ok (.invokevirtual 36, 3) := dk_182 0 36 (dk_at dksX4_row_0 1 rfl rfl)
theorem dX4_row_4 : decode cX4_row 4 = .ok (.getfield 40, 3) := dk_180 0 40 (dk_at dksX4_row_0 4 rfl rfl)
theorem dX4_row_7 : decode cX4_row 7 = .ok (.istore_n 2, 1) := dk_61 (dk_at dksX4_row_0 7 rfl rfl)
theorem dX4_row_8 : decode cX4_row 8 = .ok (.new 87, 3) := dk_187 0 87 (dk_at dksX4_row_0 8 rfl rfl)
theorem dX4_row_11 : decode cX4_row 11 = .ok (.dup, 1) := dk_89 (dk_at dksX4_row_0 11 rfl rfl)
theorem dX4_row_12 : decode cX4_row 12 = .ok (.invokespecial 213, 3) := dk_183 0 213 (dk_at dksX4_row_0 12 rfl rfl)
theorem dX4_row_15 : decode cX4_row 15 = .ok (.astore_n 3, 1) := dk_78 (dk_at dksX4_row_0 15 rfl rfl)
theorem dX4_row_16 : decode cX4_row 16 = .ok (.aload_n 3, 1) := dk_45 (dk_at dksX4_row_0 16 rfl rfl)
theorem dX4_row_17 : decode cX4_row 17 = .ok (.iload_n 1, 1) := dk_27 (dk_at dksX4_row_0 17 rfl rfl)
theorem dX4_row_18 : decode cX4_row 18 = .ok (.ifCond .eq 10, 3) := dk_153 0 10 (dk_at dksX4_row_0 18 rfl rfl)
theorem dX4_row_21 : decode cX4_row 21 = .ok (.aload_n 0, 1) := dk_42 (dk_at dksX4_row_0 21 rfl rfl)
theorem dX4_row_22 : decode cX4_row 22 = .ok (.invokevirtual 214, 3) := dk_182 0 214 (dk_at dksX4_row_1 0 rfl rfl)
theorem dX4_row_25 : decode cX4_row 25 = .ok (.goto 8, 3) := dk_167 0 8 (dk_at dksX4_row_1 3 rfl rfl)
theorem dX4_row_28 : decode cX4_row 28 = .ok (.aload_n 0, 1) := dk_42 (dk_at dksX4_row_1 6 rfl rfl)
theorem dX4_row_29 : decode cX4_row 29 = .ok (.iconst 1, 1) := dk_4 (dk_at dksX4_row_1 7 rfl rfl)
theorem dX4_row_30 : decode cX4_row 30 = .ok (.invokevirtual 202, 3) := dk_182 0 202 (dk_at dksX4_row_1 8 rfl rfl)
theorem dX4_row_33 : decode cX4_row 33 = .ok (.invokevirtual 168, 3) := dk_182 0 168 (dk_at dksX4_row_1 11 rfl rfl)
theorem dX4_row_36 : decode cX4_row 36 = .ok (.pop, 1) := dk_87 (dk_at dksX4_row_1 14 rfl rfl)
theorem dX4_row_37 : decode cX4_row 37 = .ok (.aload_n 0, 1) := dk_42 (dk_at dksX4_row_1 15 rfl rfl)
theorem dX4_row_38 : decode cX4_row 38 = .ok (.iload_n 1, 1) := dk_27 (dk_at dksX4_row_1 16 rfl rfl)
theorem dX4_row_39 : decode cX4_row 39 = .ok (.ifCond .eq 8, 3) := dk_153 0 8 (dk_at dksX4_row_1 17 rfl rfl)
theorem dX4_row_42 : decode cX4_row 42 = .ok (.ldc 217, 2) := dk_18 217 (dk_at dksX4_row_1 20 rfl rfl)
theorem dX4_row_44 : decode cX4_row 44 = .ok (.goto 5, 3) := dk_167 0 5 (dk_at dksX4_row_2 0 rfl rfl)
theorem dX4_row_47 : decode cX4_row 47 = .ok (.ldc 219, 2) := dk_18 219 (dk_at dksX4_row_2 3 rfl rfl)
theorem dX4_row_49 : decode cX4_row 49 = .ok (.invokevirtual 102, 3) := dk_182 0 102 (dk_at dksX4_row_2 5 rfl rfl)
theorem dX4_row_52 : decode cX4_row 52 = .ok (.ifCond .eq 27, 3) := dk_153 0 27 (dk_at dksX4_row_2 8 rfl rfl)
theorem dX4_row_55 : decode cX4_row 55 = .ok (.aload_n 3, 1) := dk_45 (dk_at dksX4_row_2 11 rfl rfl)
theorem dX4_row_56 : decode cX4_row 56 = .ok (.iload_n 1, 1) := dk_27 (dk_at dksX4_row_2 12 rfl rfl)
theorem dX4_row_57 : decode cX4_row 57 = .ok (.ifCond .eq 10, 3) := dk_153 0 10 (dk_at dksX4_row_2 13 rfl rfl)
theorem dX4_row_60 : decode cX4_row 60 = .ok (.aload_n 0, 1) := dk_42 (dk_at dksX4_row_2 16 rfl rfl)
theorem dX4_row_61 : decode cX4_row 61 = .ok (.invokevirtual 214, 3) := dk_182 0 214 (dk_at dksX4_row_2 17 rfl rfl)
theorem dX4_row_64 : decode cX4_row 64 = .ok (.goto 8, 3) := dk_167 0 8 (dk_at dksX4_row_2 20 rfl rfl)
theorem dX4_row_67 : decode cX4_row 67 = .ok (.aload_n 0, 1) := dk_42 (dk_at dksX4_row_2 23 rfl rfl)
theorem dX4_row_68 : decode cX4_row 68 = .ok (.iconst 1, 1) := dk_4 (dk_at dksX4_row_3 0 rfl rfl)
theorem dX4_row_69 : decode cX4_row 69 = .ok (.invokevirtual 202, 3) := dk_182 0 202 (dk_at dksX4_row_3 1 rfl rfl)
theorem dX4_row_72 : decode cX4_row 72 = .ok (.invokevirtual 168, 3) := dk_182 0 168 (dk_at dksX4_row_3 4 rfl rfl)
theorem dX4_row_75 : decode cX4_row 75 = .ok (.pop, 1) := dk_87 (dk_at dksX4_row_3 7 rfl rfl)
theorem dX4_row_76 : decode cX4_row 76 = .ok (.goto (-39), 3) := dk_167 255 217 (dk_at dksX4_row_3 8 rfl rfl)
theorem dX4_row_79 : decode cX4_row 79 = .ok (.aload_n 3, 1) := dk_45 (dk_at dksX4_row_3 11 rfl rfl)
theorem dX4_row_80 : decode cX4_row 80 = .ok (.invokevirtual 141, 3) := dk_182 0 141 (dk_at dksX4_row_3 12 rfl rfl)
theorem dX4_row_83 : decode cX4_row 83 = .ok (.iconst 1, 1) := dk_4 (dk_at dksX4_row_3 15 rfl rfl)
theorem dX4_row_84 : decode cX4_row 84 = .ok (.if_icmp .ne 14, 3) := dk_160 0 14 (dk_at dksX4_row_3 16 rfl rfl)
theorem dX4_row_87 : decode cX4_row 87 = .ok (.aload_n 3, 1) := dk_45 (dk_at dksX4_row_3 19 rfl rfl)
theorem dX4_row_88 : decode cX4_row 88 = .ok (.iconst 0, 1) := dk_3 (dk_at dksX4_row_3 20 rfl rfl)
theorem dX4_row_89 : decode cX4_row 89 = .ok (.invokevirtual 221, 3) := dk_182 0 221 (dk_at dksX4_row_3 21 rfl rfl)
theorem dX4_row_92 : decode cX4_row 92 = .ok (.checkcast 222, 3) := dk_192 0 222 (dk_at dksX4_row_4 0 rfl rfl)
theorem dX4_row_95 : decode cX4_row 95 = .ok (.goto 17, 3) := dk_167 0 17 (dk_at dksX4_row_4 3 rfl rfl)
theorem dX4_row_98 : decode cX4_row 98 = .ok (.aload_n 0, 1) := dk_42 (dk_at dksX4_row_4 6 rfl rfl)
theorem dX4_row_99 : decode cX4_row 99 = .ok (.new 224, 3) := dk_187 0 224 (dk_at dksX4_row_4 7 rfl rfl)
theorem dX4_row_102 : decode cX4_row 102 = .ok (.dup, 1) := dk_89 (dk_at dksX4_row_4 10 rfl rfl)
theorem dX4_row_103 : decode cX4_row 103 = .ok (.iload_n 2, 1) := dk_28 (dk_at dksX4_row_4 11 rfl rfl)
theorem dX4_row_104 : decode cX4_row 104 = .ok (.iload_n 1, 1) := dk_27 (dk_at dksX4_row_4 12 rfl rfl)
theorem dX4_row_105 : decode cX4_row 105 = .ok (.aload_n 3, 1) := dk_45 (dk_at dksX4_row_4 13 rfl rfl)
theorem dX4_row_106 : decode cX4_row 106 = .ok (.invokespecial 226, 3) := dk_183 0 226 (dk_at dksX4_row_4 14 rfl rfl)
theorem dX4_row_109 : decode cX4_row 109 = .ok (.invokevirtual 164, 3) := dk_182 0 164 (dk_at dksX4_row_4 17 rfl rfl)
theorem dX4_row_112 : decode cX4_row 112 = .ok (.areturn, 1) := dk_176 (dk_at dksX4_row_4 20 rfl rfl)
abbrev cX4_since : ByteArray := prog_22_method_21_code
def yX4_since : MethodName := ⟨RX4, "since", "()LPastWatch$Node;"⟩
def dkwX4_since_1 : List UInt8 := [42, 182, 0, 233, 78, 42, 187, 0, 237, 89, 27, 45, 44, 42, 182, 0, 229, 183, 0, 239, 182, 0, 164, 176]
abbrev dktX4_since_1 : List UInt8 := dkwX4_since_1 ++ []
def dkwX4_since_0 : List UInt8 := [42, 182, 0, 36, 180, 0, 40, 60, 42, 182, 0, 229, 77, 42, 18, 232, 182, 0, 102, 154, 0, 5, 44, 176]
abbrev dktX4_since_0 : List UInt8 := dkwX4_since_0 ++ dktX4_since_1
theorem dksX4_since_0 : cX4_since.data.toList.drop 0 = dktX4_since_0 := by decide +kernel
theorem dksX4_since_1 : cX4_since.data.toList.drop 24 = dktX4_since_1 := dk_seg dksX4_since_0 24 rfl rfl
theorem dX4_since_0 : decode cX4_since 0 = .ok (.aload_n 0, 1) := dk_42 (dk_at dksX4_since_0 0 rfl rfl)
theorem dX4_since_1 : decode cX4_since 1 = .ok (.invokevirtual 36, 3) := dk_182 0 36 (dk_at dksX4_since_0 1 rfl rfl)
theorem dX4_since_4 : decode cX4_since 4 = .ok (.getfield 40, 3) := dk_180 0 40 (dk_at dksX4_since_0 4 rfl rfl)
theorem dX4_since_7 : decode cX4_since 7 = .ok (.istore_n 1, 1) := dk_60 (dk_at dksX4_since_0 7 rfl rfl)
theorem dX4_since_8 : decode cX4_since 8 = .ok (.aload_n 0, 1) := dk_42 (dk_at dksX4_since_0 8 rfl rfl)
theorem dX4_since_9 : decode cX4_since 9 = .ok (.invokevirtual 229, 3) := dk_182 0 229 (dk_at dksX4_since_0 9 rfl rfl)
theorem dX4_since_12 : decode cX4_since 12 = .ok (.astore_n 2, 1) := dk_77 (dk_at dksX4_since_0 12 rfl rfl)
theorem dX4_since_13 : decode cX4_since 13 = .ok (.aload_n 0, 1) := dk_42 (dk_at dksX4_since_0 13 rfl rfl)
theorem dX4_since_14 : decode cX4_since 14 = .ok (.ldc 232, 2) := dk_18 232 (dk_at dksX4_since_0 14 rfl rfl)
theorem dX4_since_16 : decode cX4_since 16 = .ok (.invokevirtual 102, 3) := dk_182 0 102 (dk_at dksX4_since_0 16 rfl rfl)
theorem dX4_since_19 : decode cX4_since 19 = .ok (.ifCond .ne 5, 3) := dk_154 0 5 (dk_at dksX4_since_0 19 rfl rfl)
theorem dX4_since_22 : decode cX4_since 22 = .ok (.aload_n 2, 1) := dk_44 (dk_at dksX4_since_0 22 rfl rfl)
theorem dX4_since_23 : decode cX4_since 23 = .ok (.areturn, 1) := dk_176 (dk_at dksX4_since_0 23 rfl rfl)
theorem dX4_since_24 : decode cX4_since 24 = .ok (.aload_n 0, 1) := dk_42 (dk_at dksX4_since_1 0 rfl rfl)
theorem dX4_since_25 : decode cX4_since 25 = .ok (.invokevirtual 233, 3) := dk_182 0 233 (dk_at dksX4_since_1 1 rfl rfl)
theorem dX4_since_28 : decode cX4_since 28 = .ok (.astore_n 3, 1) := dk_78 (dk_at dksX4_since_1 4 rfl rfl)
theorem dX4_since_29 : decode cX4_since 29 = .ok (.aload_n 0, 1) := dk_42 (dk_at dksX4_since_1 5 rfl rfl)
theorem dX4_since_30 : decode cX4_since 30 = .ok (.new 237, 3) := dk_187 0 237 (dk_at dksX4_since_1 6 rfl rfl)
theorem dX4_since_33 : decode cX4_since 33 = .ok (.dup, 1) := dk_89 (dk_at dksX4_since_1 9 rfl rfl)
theorem dX4_since_34 : decode cX4_since 34 = .ok (.iload_n 1, 1) := dk_27 (dk_at dksX4_since_1 10 rfl rfl)
theorem dX4_since_35 : decode cX4_since 35 = .ok (.aload_n 3, 1) := dk_45 (dk_at dksX4_since_1 11 rfl rfl)
theorem dX4_since_36 : decode cX4_since 36 = .ok (.aload_n 2, 1) := dk_44 (dk_at dksX4_since_1 12 rfl rfl)
theorem dX4_since_37 : decode cX4_since 37 = .ok (.aload_n 0, 1) := dk_42 (dk_at dksX4_since_1 13 rfl rfl)
theorem dX4_since_38 : decode cX4_since 38 = .ok (.invokevirtual 229, 3) := dk_182 0 229 (dk_at dksX4_since_1 14 rfl rfl)
theorem dX4_since_41 : decode cX4_since 41 = .ok (.invokespecial 239, 3) := dk_183 0 239 (dk_at dksX4_since_1 17 rfl rfl)
theorem dX4_since_44 : decode cX4_since 44 = .ok (.invokevirtual 164, 3) := dk_182 0 164 (dk_at dksX4_since_1 20 rfl rfl)
theorem dX4_since_47 : decode cX4_since 47 = .ok (.areturn, 1) := dk_176 (dk_at dksX4_since_1 23 rfl rfl)
abbrev cX4_one : ByteArray := prog_22_method_23_code
def yX4_one : MethodName := ⟨RX4, "one", "()LPastWatch$Node;"⟩
def dkwX4_one_13 : List UInt8 := [87, 42, 187, 1, 47, 89, 43, 180, 0, 40, 25, 4, 45, 42, 182, 0, 190, 183, 1, 49, 182, 0, 164, 176]
abbrev dktX4_one_13 : List UInt8 := dkwX4_one_13 ++ []
def dkwX4_one_12 : List UInt8 := [58, 4, 25, 4, 198, 0, 11, 25, 4, 182, 1, 44, 154, 0, 8, 42, 182, 0, 54, 191, 42, 182, 0, 58]
abbrev dktX4_one_12 : List UInt8 := dkwX4_one_12 ++ dktX4_one_13
def dkwX4_one_11 : List UInt8 := [180, 0, 40, 25, 4, 183, 1, 36, 182, 0, 164, 176, 42, 182, 0, 190, 78, 42, 182, 0, 36, 184, 1, 39]
abbrev dktX4_one_11 : List UInt8 := dkwX4_one_11 ++ dktX4_one_12
def dkwX4_one_10 : List UInt8 := [198, 0, 7, 4, 167, 0, 4, 3, 5, 45, 180, 0, 40, 182, 0, 92, 42, 187, 1, 34, 89, 43]
abbrev dktX4_one_10 : List UInt8 := dkwX4_one_10 ++ dktX4_one_11
def dkwX4_one_9 : List UInt8 := [78, 42, 180, 0, 15, 180, 0, 184, 45, 180, 0, 131, 182, 1, 31, 192, 0, 222, 58, 4, 42, 25, 4]
abbrev dktX4_one_9 : List UInt8 := dkwX4_one_9 ++ dktX4_one_10
def dkwX4_one_8 : List UInt8 := [183, 1, 27, 182, 0, 164, 176, 42, 19, 1, 30, 182, 0, 102, 153, 0, 67, 42, 178, 0, 125, 182, 0, 128]
abbrev dktX4_one_8 : List UInt8 := dkwX4_one_8 ++ dktX4_one_9
def dkwX4_one_7 : List UInt8 := [182, 0, 164, 176, 42, 19, 1, 28, 182, 0, 102, 153, 0, 20, 42, 187, 1, 25, 89, 43, 180, 0, 40, 9]
abbrev dktX4_one_7 : List UInt8 := dkwX4_one_7 ++ dktX4_one_8
def dkwX4_one_6 : List UInt8 := [19, 1, 23, 182, 0, 102, 153, 0, 20, 42, 187, 1, 25, 89, 43, 180, 0, 40, 10, 183, 1, 27]
abbrev dktX4_one_6 : List UInt8 := dkwX4_one_6 ++ dktX4_one_7
def dkwX4_one_5 : List UInt8 := [183, 1, 15, 182, 0, 164, 176, 43, 19, 1, 18, 182, 0, 50, 153, 0, 8, 42, 182, 1, 20, 176, 42]
abbrev dktX4_one_5 : List UInt8 := dkwX4_one_5 ++ dktX4_one_6
def dkwX4_one_4 : List UInt8 := [181, 0, 65, 42, 187, 1, 13, 89, 43, 180, 0, 40, 43, 19, 1, 11, 182, 0, 50, 45, 25, 4]
abbrev dktX4_one_4 : List UInt8 := dkwX4_one_4 ++ dktX4_one_5
def dkwX4_one_3 : List UInt8 := [42, 182, 1, 1, 42, 182, 0, 233, 78, 42, 182, 0, 229, 58, 4, 42, 89, 180, 0, 65, 4, 100]
abbrev dktX4_one_3 : List UInt8 := dkwX4_one_3 ++ dktX4_one_4
def dkwX4_one_2 : List UInt8 := [182, 0, 164, 176, 43, 19, 1, 9, 182, 0, 50, 154, 0, 13, 43, 19, 1, 11, 182, 0, 50, 153, 0, 54]
abbrev dktX4_one_2 : List UInt8 := dkwX4_one_2 ++ dktX4_one_3
def dkwX4_one_1 : List UInt8 := [89, 180, 0, 65, 4, 100, 181, 0, 65, 42, 187, 1, 4, 89, 43, 180, 0, 40, 44, 45, 183, 1, 6]
abbrev dktX4_one_1 : List UInt8 := dkwX4_one_1 ++ dktX4_one_2
def dkwX4_one_0 : List UInt8 := [42, 182, 0, 36, 76, 43, 184, 0, 251, 77, 44, 198, 0, 40, 42, 182, 1, 1, 42, 182, 0, 229, 78, 42]
abbrev dktX4_one_0 : List UInt8 := dkwX4_one_0 ++ dktX4_one_1
theorem dksX4_one_0 : cX4_one.data.toList.drop 0 = dktX4_one_0 := by decide +kernel
theorem dksX4_one_1 : cX4_one.data.toList.drop 24 = dktX4_one_1 := dk_seg dksX4_one_0 24 rfl rfl
theorem dksX4_one_2 : cX4_one.data.toList.drop 47 = dktX4_one_2 := dk_seg dksX4_one_1 23 rfl rfl
theorem dksX4_one_3 : cX4_one.data.toList.drop 71 = dktX4_one_3 := dk_seg dksX4_one_2 24 rfl rfl
theorem dksX4_one_4 : cX4_one.data.toList.drop 93 = dktX4_one_4 := dk_seg dksX4_one_3 22 rfl rfl
theorem dksX4_one_5 : cX4_one.data.toList.drop 115 = dktX4_one_5 := dk_seg dksX4_one_4 22 rfl rfl
theorem dksX4_one_6 : cX4_one.data.toList.drop 138 = dktX4_one_6 := dk_seg dksX4_one_5 23 rfl rfl
theorem dksX4_one_7 : cX4_one.data.toList.drop 160 = dktX4_one_7 := dk_seg dksX4_one_6 22 rfl rfl
theorem dksX4_one_8 : cX4_one.data.toList.drop 184 = dktX4_one_8 := dk_seg dksX4_one_7 24 rfl rfl
theorem dksX4_one_9 : cX4_one.data.toList.drop 208 = dktX4_one_9 := dk_seg dksX4_one_8 24 rfl rfl
theorem dksX4_one_10 : cX4_one.data.toList.drop 231 = dktX4_one_10 := dk_seg dksX4_one_9 23 rfl rfl
theorem dksX4_one_11 : cX4_one.data.toList.drop 253 = dktX4_one_11 := dk_seg dksX4_one_10 22 rfl rfl
theorem dksX4_one_12 : cX4_one.data.toList.drop 277 = dktX4_one_12 := dk_seg dksX4_one_11 24 rfl rfl
theorem dksX4_one_13 : cX4_one.data.toList.drop 301 = dktX4_one_13 := dk_seg dksX4_one_12 24 rfl rfl
theorem dX4_one_0 : decode cX4_one 0 = .ok (.aload_n 0, 1) := dk_42 (dk_at dksX4_one_0 0 rfl rfl)
theorem dX4_one_1 : decode cX4_one 1 = .ok (.invokevirtual 36, 3) := dk_182 0 36 (dk_at dksX4_one_0 1 rfl rfl)
theorem dX4_one_4 : decode cX4_one 4 = .ok (.astore_n 1, 1) := dk_76 (dk_at dksX4_one_0 4 rfl rfl)
theorem dX4_one_5 : decode cX4_one 5 = .ok (.aload_n 1, 1) := dk_43 (dk_at dksX4_one_0 5 rfl rfl)
theorem dX4_one_6 : decode cX4_one 6 = .ok (.invokestatic 251, 3) := dk_184 0 251 (dk_at dksX4_one_0 6 rfl rfl)
theorem dX4_one_9 : decode cX4_one 9 = .ok (.astore_n 2, 1) := dk_77 (dk_at dksX4_one_0 9 rfl rfl)
theorem dX4_one_10 : decode cX4_one 10 = .ok (.aload_n 2, 1) := dk_44 (dk_at dksX4_one_0 10 rfl rfl)
theorem dX4_one_11 : decode cX4_one 11 = .ok (.ifnull 40, 3) := dk_198 0 40 (dk_at dksX4_one_0 11 rfl rfl)
theorem dX4_one_14 : decode cX4_one 14 = .ok (.aload_n 0, 1) := dk_42 (dk_at dksX4_one_0 14 rfl rfl)
theorem dX4_one_15 : decode cX4_one 15 = .ok (.invokevirtual 257, 3) := dk_182 1 1 (dk_at dksX4_one_0 15 rfl rfl)
theorem dX4_one_18 : decode cX4_one 18 = .ok (.aload_n 0, 1) := dk_42 (dk_at dksX4_one_0 18 rfl rfl)
theorem dX4_one_19 : decode cX4_one 19 = .ok (.invokevirtual 229, 3) := dk_182 0 229 (dk_at dksX4_one_0 19 rfl rfl)
theorem dX4_one_22 : decode cX4_one 22 = .ok (.astore_n 3, 1) := dk_78 (dk_at dksX4_one_0 22 rfl rfl)
theorem dX4_one_23 : decode cX4_one 23 = .ok (.aload_n 0, 1) := dk_42 (dk_at dksX4_one_0 23 rfl rfl)
theorem dX4_one_24 : decode cX4_one 24 = .ok (.dup, 1) := dk_89 (dk_at dksX4_one_1 0 rfl rfl)
theorem dX4_one_25 : decode cX4_one 25 = .ok (.getfield 65, 3) := dk_180 0 65 (dk_at dksX4_one_1 1 rfl rfl)
theorem dX4_one_28 : decode cX4_one 28 = .ok (.iconst 1, 1) := dk_4 (dk_at dksX4_one_1 4 rfl rfl)
theorem dX4_one_29 : decode cX4_one 29 = .ok (.isub, 1) := dk_100 (dk_at dksX4_one_1 5 rfl rfl)
theorem dX4_one_30 : decode cX4_one 30 = .ok (.putfield 65, 3) := dk_181 0 65 (dk_at dksX4_one_1 6 rfl rfl)
theorem dX4_one_33 : decode cX4_one 33 = .ok (.aload_n 0, 1) := dk_42 (dk_at dksX4_one_1 9 rfl rfl)
theorem dX4_one_34 : decode cX4_one 34 = .ok (.new 260, 3) := dk_187 1 4 (dk_at dksX4_one_1 10 rfl rfl)
theorem dX4_one_37 : decode cX4_one 37 = .ok (.dup, 1) := dk_89 (dk_at dksX4_one_1 13 rfl rfl)
theorem dX4_one_38 : decode cX4_one 38 = .ok (.aload_n 1, 1) := dk_43 (dk_at dksX4_one_1 14 rfl rfl)
theorem dX4_one_39 : decode cX4_one 39 = .ok (.getfield 40, 3) := dk_180 0 40 (dk_at dksX4_one_1 15 rfl rfl)
theorem dX4_one_42 : decode cX4_one 42 = .ok (.aload_n 2, 1) := dk_44 (dk_at dksX4_one_1 18 rfl rfl)
theorem dX4_one_43 : decode cX4_one 43 = .ok (.aload_n 3, 1) := dk_45 (dk_at dksX4_one_1 19 rfl rfl)
theorem dX4_one_44 : decode cX4_one 44 = .ok (.invokespecial 262, 3) := dk_183 1 6 (dk_at dksX4_one_1 20 rfl rfl)
theorem dX4_one_47 : decode cX4_one 47 = .ok (.invokevirtual 164, 3) := dk_182 0 164 (dk_at dksX4_one_2 0 rfl rfl)
theorem dX4_one_50 : decode cX4_one 50 = .ok (.areturn, 1) := dk_176 (dk_at dksX4_one_2 3 rfl rfl)
theorem dX4_one_51 : decode cX4_one 51 = .ok (.aload_n 1, 1) := dk_43 (dk_at dksX4_one_2 4 rfl rfl)
theorem dX4_one_52 : decode cX4_one 52 = .ok (.ldc_w 265, 3) := dk_19 1 9 (dk_at dksX4_one_2 5 rfl rfl)
theorem dX4_one_55 : decode cX4_one 55 = .ok (.invokevirtual 50, 3) := dk_182 0 50 (dk_at dksX4_one_2 8 rfl rfl)
theorem dX4_one_58 : decode cX4_one 58 = .ok (.ifCond .ne 13, 3) := dk_154 0 13 (dk_at dksX4_one_2 11 rfl rfl)
theorem dX4_one_61 : decode cX4_one 61 = .ok (.aload_n 1, 1) := dk_43 (dk_at dksX4_one_2 14 rfl rfl)
theorem dX4_one_62 : decode cX4_one 62 = .ok (.ldc_w 267, 3) := dk_19 1 11 (dk_at dksX4_one_2 15 rfl rfl)
theorem dX4_one_65 : decode cX4_one 65 = .ok (.invokevirtual 50, 3) := dk_182 0 50 (dk_at dksX4_one_2 18 rfl rfl)
theorem dX4_one_68 : decode cX4_one 68 = .ok (.ifCond .eq 54, 3) := dk_153 0 54 (dk_at dksX4_one_2 21 rfl rfl)
theorem dX4_one_71 : decode cX4_one 71 = .ok (.aload_n 0, 1) := dk_42 (dk_at dksX4_one_3 0 rfl rfl)
theorem dX4_one_72 : decode cX4_one 72 = .ok (.invokevirtual 257, 3) := dk_182 1 1 (dk_at dksX4_one_3 1 rfl rfl)
theorem dX4_one_75 : decode cX4_one 75 = .ok (.aload_n 0, 1) := dk_42 (dk_at dksX4_one_3 4 rfl rfl)
theorem dX4_one_76 : decode cX4_one 76 = .ok (.invokevirtual 233, 3) := dk_182 0 233 (dk_at dksX4_one_3 5 rfl rfl)
theorem dX4_one_79 : decode cX4_one 79 = .ok (.astore_n 3, 1) := dk_78 (dk_at dksX4_one_3 8 rfl rfl)
theorem dX4_one_80 : decode cX4_one 80 = .ok (.aload_n 0, 1) := dk_42 (dk_at dksX4_one_3 9 rfl rfl)
theorem dX4_one_81 : decode cX4_one 81 = .ok (.invokevirtual 229, 3) := dk_182 0 229 (dk_at dksX4_one_3 10 rfl rfl)
theorem dX4_one_84 : decode cX4_one 84 = .ok (.astore 4, 2) := dk_58 4 (dk_at dksX4_one_3 13 rfl rfl)
theorem dX4_one_86 : decode cX4_one 86 = .ok (.aload_n 0, 1) := dk_42 (dk_at dksX4_one_3 15 rfl rfl)
theorem dX4_one_87 : decode cX4_one 87 = .ok (.dup, 1) := dk_89 (dk_at dksX4_one_3 16 rfl rfl)
theorem dX4_one_88 : decode cX4_one 88 = .ok (.getfield 65, 3) := dk_180 0 65 (dk_at dksX4_one_3 17 rfl rfl)
theorem dX4_one_91 : decode cX4_one 91 = .ok (.iconst 1, 1) := dk_4 (dk_at dksX4_one_3 20 rfl rfl)
theorem dX4_one_92 : decode cX4_one 92 = .ok (.isub, 1) := dk_100 (dk_at dksX4_one_3 21 rfl rfl)
theorem dX4_one_93 : decode cX4_one 93 = .ok (.putfield 65, 3) := dk_181 0 65 (dk_at dksX4_one_4 0 rfl rfl)
theorem dX4_one_96 : decode cX4_one 96 = .ok (.aload_n 0, 1) := dk_42 (dk_at dksX4_one_4 3 rfl rfl)
theorem dX4_one_97 : decode cX4_one 97 = .ok (.new 269, 3) := dk_187 1 13 (dk_at dksX4_one_4 4 rfl rfl)
theorem dX4_one_100 : decode cX4_one 100 = .ok (.dup, 1) := dk_89 (dk_at dksX4_one_4 7 rfl rfl)
theorem dX4_one_101 : decode cX4_one 101 = .ok (.aload_n 1, 1) := dk_43 (dk_at dksX4_one_4 8 rfl rfl)
theorem dX4_one_102 : decode cX4_one 102 = .ok (.getfield 40, 3) := dk_180 0 40 (dk_at dksX4_one_4 9 rfl rfl)
theorem dX4_one_105 : decode cX4_one 105 = .ok (.aload_n 1, 1) := dk_43 (dk_at dksX4_one_4 12 rfl rfl)
theorem dX4_one_106 : decode cX4_one 106 = .ok (.ldc_w 267, 3) := dk_19 1 11 (dk_at dksX4_one_4 13 rfl rfl)
theorem dX4_one_109 : decode cX4_one 109 = .ok (.invokevirtual 50, 3) := dk_182 0 50 (dk_at dksX4_one_4 16 rfl rfl)
theorem dX4_one_112 : decode cX4_one 112 = .ok (.aload_n 3, 1) := dk_45 (dk_at dksX4_one_4 19 rfl rfl)
theorem dX4_one_113 : decode cX4_one 113 = .ok (.aload 4, 2) := dk_25 4 (dk_at dksX4_one_4 20 rfl rfl)
theorem dX4_one_115 : decode cX4_one 115 = .ok (.invokespecial 271, 3) := dk_183 1 15 (dk_at dksX4_one_5 0 rfl rfl)
theorem dX4_one_118 : decode cX4_one 118 = .ok (.invokevirtual 164, 3) := dk_182 0 164 (dk_at dksX4_one_5 3 rfl rfl)
theorem dX4_one_121 : decode cX4_one 121 = .ok (.areturn, 1) := dk_176 (dk_at dksX4_one_5 6 rfl rfl)
theorem dX4_one_122 : decode cX4_one 122 = .ok (.aload_n 1, 1) := dk_43 (dk_at dksX4_one_5 7 rfl rfl)
theorem dX4_one_123 : decode cX4_one 123 = .ok (.ldc_w 274, 3) := dk_19 1 18 (dk_at dksX4_one_5 8 rfl rfl)
theorem dX4_one_126 : decode cX4_one 126 = .ok (.invokevirtual 50, 3) := dk_182 0 50 (dk_at dksX4_one_5 11 rfl rfl)
theorem dX4_one_129 : decode cX4_one 129 = .ok (.ifCond .eq 8, 3) := dk_153 0 8 (dk_at dksX4_one_5 14 rfl rfl)
theorem dX4_one_132 : decode cX4_one 132 = .ok (.aload_n 0, 1) := dk_42 (dk_at dksX4_one_5 17 rfl rfl)
theorem dX4_one_133 : decode cX4_one 133 = .ok (.invokevirtual 276, 3) := dk_182 1 20 (dk_at dksX4_one_5 18 rfl rfl)
theorem dX4_one_136 : decode cX4_one 136 = .ok (.areturn, 1) := dk_176 (dk_at dksX4_one_5 21 rfl rfl)
theorem dX4_one_137 : decode cX4_one 137 = .ok (.aload_n 0, 1) := dk_42 (dk_at dksX4_one_5 22 rfl rfl)
theorem dX4_one_138 : decode cX4_one 138 = .ok (.ldc_w 279, 3) := dk_19 1 23 (dk_at dksX4_one_6 0 rfl rfl)
theorem dX4_one_141 : decode cX4_one 141 = .ok (.invokevirtual 102, 3) := dk_182 0 102 (dk_at dksX4_one_6 3 rfl rfl)
theorem dX4_one_144 : decode cX4_one 144 = .ok (.ifCond .eq 20, 3) := dk_153 0 20 (dk_at dksX4_one_6 6 rfl rfl)
theorem dX4_one_147 : decode cX4_one 147 = .ok (.aload_n 0, 1) := dk_42 (dk_at dksX4_one_6 9 rfl rfl)
theorem dX4_one_148 : decode cX4_one 148 = .ok (.new 281, 3) := dk_187 1 25 (dk_at dksX4_one_6 10 rfl rfl)
theorem dX4_one_151 : decode cX4_one 151 = .ok (.dup, 1) := dk_89 (dk_at dksX4_one_6 13 rfl rfl)
theorem dX4_one_152 : decode cX4_one 152 = .ok (.aload_n 1, 1) := dk_43 (dk_at dksX4_one_6 14 rfl rfl)
theorem dX4_one_153 : decode cX4_one 153 = .ok (.getfield 40, 3) := dk_180 0 40 (dk_at dksX4_one_6 15 rfl rfl)
theorem dX4_one_156 : decode cX4_one 156 = .ok (.lconst 1, 1) := dk_10 (dk_at dksX4_one_6 18 rfl rfl)
theorem dX4_one_157 : decode cX4_one 157 = .ok (.invokespecial 283, 3) := dk_183 1 27 (dk_at dksX4_one_6 19 rfl rfl)
theorem dX4_one_160 : decode cX4_one 160 = .ok (.invokevirtual 164, 3) := dk_182 0 164 (dk_at dksX4_one_7 0 rfl rfl)
theorem dX4_one_163 : decode cX4_one 163 = .ok (.areturn, 1) := dk_176 (dk_at dksX4_one_7 3 rfl rfl)
theorem dX4_one_164 : decode cX4_one 164 = .ok (.aload_n 0, 1) := dk_42 (dk_at dksX4_one_7 4 rfl rfl)
theorem dX4_one_165 : decode cX4_one 165 = .ok (.ldc_w 284, 3) := dk_19 1 28 (dk_at dksX4_one_7 5 rfl rfl)
theorem dX4_one_168 : decode cX4_one 168 = .ok (.invokevirtual 102, 3) := dk_182 0 102 (dk_at dksX4_one_7 8 rfl rfl)
theorem dX4_one_171 : decode cX4_one 171 = .ok (.ifCond .eq 20, 3) := dk_153 0 20 (dk_at dksX4_one_7 11 rfl rfl)
theorem dX4_one_174 : decode cX4_one 174 = .ok (.aload_n 0, 1) := dk_42 (dk_at dksX4_one_7 14 rfl rfl)
theorem dX4_one_175 : decode cX4_one 175 = .ok (.new 281, 3) := dk_187 1 25 (dk_at dksX4_one_7 15 rfl rfl)
theorem dX4_one_178 : decode cX4_one 178 = .ok (.dup, 1) := dk_89 (dk_at dksX4_one_7 18 rfl rfl)
theorem dX4_one_179 : decode cX4_one 179 = .ok (.aload_n 1, 1) := dk_43 (dk_at dksX4_one_7 19 rfl rfl)
theorem dX4_one_180 : decode cX4_one 180 = .ok (.getfield 40, 3) := dk_180 0 40 (dk_at dksX4_one_7 20 rfl rfl)
theorem dX4_one_183 : decode cX4_one 183 = .ok (.lconst 0, 1) := dk_9 (dk_at dksX4_one_7 23 rfl rfl)
theorem dX4_one_184 : decode cX4_one 184 = .ok (.invokespecial 283, 3) := dk_183 1 27 (dk_at dksX4_one_8 0 rfl rfl)
theorem dX4_one_187 : decode cX4_one 187 = .ok (.invokevirtual 164, 3) := dk_182 0 164 (dk_at dksX4_one_8 3 rfl rfl)
theorem dX4_one_190 : decode cX4_one 190 = .ok (.areturn, 1) := dk_176 (dk_at dksX4_one_8 6 rfl rfl)
theorem dX4_one_191 : decode cX4_one 191 = .ok (.aload_n 0, 1) := dk_42 (dk_at dksX4_one_8 7 rfl rfl)
theorem dX4_one_192 : decode cX4_one 192 = .ok (.ldc_w 286, 3) := dk_19 1 30 (dk_at dksX4_one_8 8 rfl rfl)
theorem dX4_one_195 : decode cX4_one 195 = .ok (.invokevirtual 102, 3) := dk_182 0 102 (dk_at dksX4_one_8 11 rfl rfl)
theorem dX4_one_198 : decode cX4_one 198 = .ok (.ifCond .eq 67, 3) := dk_153 0 67 (dk_at dksX4_one_8 14 rfl rfl)
theorem dX4_one_201 : decode cX4_one 201 = .ok (.aload_n 0, 1) := dk_42 (dk_at dksX4_one_8 17 rfl rfl)
theorem dX4_one_202 : decode cX4_one 202 = .ok (.getstatic 125, 3) := dk_178 0 125 (dk_at dksX4_one_8 18 rfl rfl)
theorem dX4_one_205 : decode cX4_one 205 = .ok (.invokevirtual 128, 3) := dk_182 0 128 (dk_at dksX4_one_8 21 rfl rfl)
theorem dX4_one_208 : decode cX4_one 208 = .ok (.astore_n 3, 1) := dk_78 (dk_at dksX4_one_9 0 rfl rfl)
theorem dX4_one_209 : decode cX4_one 209 = .ok (.aload_n 0, 1) := dk_42 (dk_at dksX4_one_9 1 rfl rfl)
theorem dX4_one_210 : decode cX4_one 210 = .ok (.getfield 15, 3) := dk_180 0 15 (dk_at dksX4_one_9 2 rfl rfl)
theorem dX4_one_213 : decode cX4_one 213 = .ok (.getfield 184, 3) := dk_180 0 184 (dk_at dksX4_one_9 5 rfl rfl)
theorem dX4_one_216 : decode cX4_one 216 = .ok (.aload_n 3, 1) := dk_45 (dk_at dksX4_one_9 8 rfl rfl)
theorem dX4_one_217 : decode cX4_one 217 = .ok (.getfield 131, 3) := dk_180 0 131 (dk_at dksX4_one_9 9 rfl rfl)
theorem dX4_one_220 : decode cX4_one 220 = .ok (.invokevirtual 287, 3) := dk_182 1 31 (dk_at dksX4_one_9 12 rfl rfl)
theorem dX4_one_223 : decode cX4_one 223 = .ok (.checkcast 222, 3) := dk_192 0 222 (dk_at dksX4_one_9 15 rfl rfl)
theorem dX4_one_226 : decode cX4_one 226 = .ok (.astore 4, 2) := dk_58 4 (dk_at dksX4_one_9 18 rfl rfl)
theorem dX4_one_228 : decode cX4_one 228 = .ok (.aload_n 0, 1) := dk_42 (dk_at dksX4_one_9 20 rfl rfl)
theorem dX4_one_229 : decode cX4_one 229 = .ok (.aload 4, 2) := dk_25 4 (dk_at dksX4_one_9 21 rfl rfl)
theorem dX4_one_231 : decode cX4_one 231 = .ok (.ifnull 7, 3) := dk_198 0 7 (dk_at dksX4_one_10 0 rfl rfl)
theorem dX4_one_234 : decode cX4_one 234 = .ok (.iconst 1, 1) := dk_4 (dk_at dksX4_one_10 3 rfl rfl)
theorem dX4_one_235 : decode cX4_one 235 = .ok (.goto 4, 3) := dk_167 0 4 (dk_at dksX4_one_10 4 rfl rfl)
theorem dX4_one_238 : decode cX4_one 238 = .ok (.iconst 0, 1) := dk_3 (dk_at dksX4_one_10 7 rfl rfl)
theorem dX4_one_239 : decode cX4_one 239 = .ok (.iconst 2, 1) := dk_5 (dk_at dksX4_one_10 8 rfl rfl)
theorem dX4_one_240 : decode cX4_one 240 = .ok (.aload_n 3, 1) := dk_45 (dk_at dksX4_one_10 9 rfl rfl)
theorem dX4_one_241 : decode cX4_one 241 = .ok (.getfield 40, 3) := dk_180 0 40 (dk_at dksX4_one_10 10 rfl rfl)
theorem dX4_one_244 : decode cX4_one 244 = .ok (.invokevirtual 92, 3) := dk_182 0 92 (dk_at dksX4_one_10 13 rfl rfl)
theorem dX4_one_247 : decode cX4_one 247 = .ok (.aload_n 0, 1) := dk_42 (dk_at dksX4_one_10 16 rfl rfl)
theorem dX4_one_248 : decode cX4_one 248 = .ok (.new 290, 3) := dk_187 1 34 (dk_at dksX4_one_10 17 rfl rfl)
theorem dX4_one_251 : decode cX4_one 251 = .ok (.dup, 1) := dk_89 (dk_at dksX4_one_10 20 rfl rfl)
theorem dX4_one_252 : decode cX4_one 252 = .ok (.aload_n 1, 1) := dk_43 (dk_at dksX4_one_10 21 rfl rfl)
theorem dX4_one_253 : decode cX4_one 253 = .ok (.getfield 40, 3) := dk_180 0 40 (dk_at dksX4_one_11 0 rfl rfl)
theorem dX4_one_256 : decode cX4_one 256 = .ok (.aload 4, 2) := dk_25 4 (dk_at dksX4_one_11 3 rfl rfl)
theorem dX4_one_258 : decode cX4_one 258 = .ok (.invokespecial 292, 3) := dk_183 1 36 (dk_at dksX4_one_11 5 rfl rfl)
theorem dX4_one_261 : decode cX4_one 261 = .ok (.invokevirtual 164, 3) := dk_182 0 164 (dk_at dksX4_one_11 8 rfl rfl)
theorem dX4_one_264 : decode cX4_one 264 = .ok (.areturn, 1) := dk_176 (dk_at dksX4_one_11 11 rfl rfl)
theorem dX4_one_265 : decode cX4_one 265 = .ok (.aload_n 0, 1) := dk_42 (dk_at dksX4_one_11 12 rfl rfl)
theorem dX4_one_266 : decode cX4_one 266 = .ok (.invokevirtual 190, 3) := dk_182 0 190 (dk_at dksX4_one_11 13 rfl rfl)
theorem dX4_one_269 : decode cX4_one 269 = .ok (.astore_n 3, 1) := dk_78 (dk_at dksX4_one_11 16 rfl rfl)
theorem dX4_one_270 : decode cX4_one 270 = .ok (.aload_n 0, 1) := dk_42 (dk_at dksX4_one_11 17 rfl rfl)
theorem dX4_one_271 : decode cX4_one 271 = .ok (.invokevirtual 36, 3) := dk_182 0 36 (dk_at dksX4_one_11 18 rfl rfl)
theorem dX4_one_274 : decode cX4_one 274 = .ok (.invokestatic 295, 3) := dk_184 1 39 (dk_at dksX4_one_11 21 rfl rfl)
theorem dX4_one_277 : decode cX4_one 277 = .ok (.astore 4, 2) := dk_58 4 (dk_at dksX4_one_12 0 rfl rfl)
theorem dX4_one_279 : decode cX4_one 279 = .ok (.aload 4, 2) := dk_25 4 (dk_at dksX4_one_12 2 rfl rfl)
theorem dX4_one_281 : decode cX4_one 281 = .ok (.ifnull 11, 3) := dk_198 0 11 (dk_at dksX4_one_12 4 rfl rfl)
theorem dX4_one_284 : decode cX4_one 284 = .ok (.aload 4, 2) := dk_25 4 (dk_at dksX4_one_12 7 rfl rfl)
theorem dX4_one_286 : decode cX4_one 286 = .ok (.invokevirtual 300, 3) := dk_182 1 44 (dk_at dksX4_one_12 9 rfl rfl)
theorem dX4_one_289 : decode cX4_one 289 = .ok (.ifCond .ne 8, 3) := dk_154 0 8 (dk_at dksX4_one_12 12 rfl rfl)
theorem dX4_one_292 : decode cX4_one 292 = .ok (.aload_n 0, 1) := dk_42 (dk_at dksX4_one_12 15 rfl rfl)
theorem dX4_one_293 : decode cX4_one 293 = .ok (.invokevirtual 54, 3) := dk_182 0 54 (dk_at dksX4_one_12 16 rfl rfl)
theorem dX4_one_296 : decode cX4_one 296 = .ok (.athrow, 1) := dk_191 (dk_at dksX4_one_12 19 rfl rfl)
theorem dX4_one_297 : decode cX4_one 297 = .ok (.aload_n 0, 1) := dk_42 (dk_at dksX4_one_12 20 rfl rfl)
theorem dX4_one_298 : decode cX4_one 298 = .ok (.invokevirtual 58, 3) := dk_182 0 58 (dk_at dksX4_one_12 21 rfl rfl)
theorem dX4_one_301 : decode cX4_one 301 = .ok (.pop, 1) := dk_87 (dk_at dksX4_one_13 0 rfl rfl)
theorem dX4_one_302 : decode cX4_one 302 = .ok (.aload_n 0, 1) := dk_42 (dk_at dksX4_one_13 1 rfl rfl)
theorem dX4_one_303 : decode cX4_one 303 = .ok (.new 303, 3) := dk_187 1 47 (dk_at dksX4_one_13 2 rfl rfl)
theorem dX4_one_306 : decode cX4_one 306 = .ok (.dup, 1) := dk_89 (dk_at dksX4_one_13 5 rfl rfl)
theorem dX4_one_307 : decode cX4_one 307 = .ok (.aload_n 1, 1) := dk_43 (dk_at dksX4_one_13 6 rfl rfl)
theorem dX4_one_308 : decode cX4_one 308 = .ok (.getfield 40, 3) := dk_180 0 40 (dk_at dksX4_one_13 7 rfl rfl)
theorem dX4_one_311 : decode cX4_one 311 = .ok (.aload 4, 2) := dk_25 4 (dk_at dksX4_one_13 10 rfl rfl)
theorem dX4_one_313 : decode cX4_one 313 = .ok (.aload_n 3, 1) := dk_45 (dk_at dksX4_one_13 12 rfl rfl)
theorem dX4_one_314 : decode cX4_one 314 = .ok (.aload_n 0, 1) := dk_42 (dk_at dksX4_one_13 13 rfl rfl)
theorem dX4_one_315 : decode cX4_one 315 = .ok (.invokevirtual 190, 3) := dk_182 0 190 (dk_at dksX4_one_13 14 rfl rfl)
theorem dX4_one_318 : decode cX4_one 318 = .ok (.invokespecial 305, 3) := dk_183 1 49 (dk_at dksX4_one_13 17 rfl rfl)
theorem dX4_one_321 : decode cX4_one 321 = .ok (.invokevirtual 164, 3) := dk_182 0 164 (dk_at dksX4_one_13 20 rfl rfl)
theorem dX4_one_324 : decode cX4_one 324 = .ok (.areturn, 1) := dk_176 (dk_at dksX4_one_13 23 rfl rfl)
abbrev cX4_deeper : ByteArray := prog_22_method_9_code
def yX4_deeper : MethodName := ⟨RX4, "deeper", "()V"⟩
def dkwX4_deeper_1 : List UInt8 := [42, 182, 0, 58, 87, 177]
abbrev dktX4_deeper_1 : List UInt8 := dkwX4_deeper_1 ++ []
def dkwX4_deeper_0 : List UInt8 := [42, 180, 0, 65, 16, 10, 160, 0, 8, 42, 182, 0, 54, 191, 42, 89, 180, 0, 65, 4, 96, 181, 0, 65]
abbrev dktX4_deeper_0 : List UInt8 := dkwX4_deeper_0 ++ dktX4_deeper_1
theorem dksX4_deeper_0 : cX4_deeper.data.toList.drop 0 = dktX4_deeper_0 := by decide +kernel
theorem dksX4_deeper_1 : cX4_deeper.data.toList.drop 24 = dktX4_deeper_1 := dk_seg dksX4_deeper_0 24 rfl rfl
theorem dX4_deeper_0 : decode cX4_deeper 0 = .ok (.aload_n 0, 1) := dk_42 (dk_at dksX4_deeper_0 0 rfl rfl)
theorem dX4_deeper_1 : decode cX4_deeper 1 = .ok (.getfield 65, 3) := dk_180 0 65 (dk_at dksX4_deeper_0 1 rfl rfl)
theorem dX4_deeper_4 : decode cX4_deeper 4 = .ok (.bipush 10, 2) := dk_16 10 (dk_at dksX4_deeper_0 4 rfl rfl)
theorem dX4_deeper_6 : decode cX4_deeper 6 = .ok (.if_icmp .ne 8, 3) := dk_160 0 8 (dk_at dksX4_deeper_0 6 rfl rfl)
theorem dX4_deeper_9 : decode cX4_deeper 9 = .ok (.aload_n 0, 1) := dk_42 (dk_at dksX4_deeper_0 9 rfl rfl)
theorem dX4_deeper_10 : decode cX4_deeper 10 = .ok (.invokevirtual 54, 3) := dk_182 0 54 (dk_at dksX4_deeper_0 10 rfl rfl)
theorem dX4_deeper_13 : decode cX4_deeper 13 = .ok (.athrow, 1) := dk_191 (dk_at dksX4_deeper_0 13 rfl rfl)
theorem dX4_deeper_14 : decode cX4_deeper 14 = .ok (.aload_n 0, 1) := dk_42 (dk_at dksX4_deeper_0 14 rfl rfl)
theorem dX4_deeper_15 : decode cX4_deeper 15 = .ok (.dup, 1) := dk_89 (dk_at dksX4_deeper_0 15 rfl rfl)
theorem dX4_deeper_16 : decode cX4_deeper 16 = .ok (.getfield 65, 3) := dk_180 0 65 (dk_at dksX4_deeper_0 16 rfl rfl)
theorem dX4_deeper_19 : decode cX4_deeper 19 = .ok (.iconst 1, 1) := dk_4 (dk_at dksX4_deeper_0 19 rfl rfl)
theorem dX4_deeper_20 : decode cX4_deeper 20 = .ok (.iadd, 1) := dk_96 (dk_at dksX4_deeper_0 20 rfl rfl)
theorem dX4_deeper_21 : decode cX4_deeper 21 = .ok (.putfield 65, 3) := dk_181 0 65 (dk_at dksX4_deeper_0 21 rfl rfl)
theorem dX4_deeper_24 : decode cX4_deeper 24 = .ok (.aload_n 0, 1) := dk_42 (dk_at dksX4_deeper_1 0 rfl rfl)
theorem dX4_deeper_25 : decode cX4_deeper 25 = .ok (.invokevirtual 58, 3) := dk_182 0 58 (dk_at dksX4_deeper_1 1 rfl rfl)
theorem dX4_deeper_28 : decode cX4_deeper 28 = .ok (.pop, 1) := dk_87 (dk_at dksX4_deeper_1 4 rfl rfl)
theorem dX4_deeper_29 : decode cX4_deeper 29 = .ok (.return_, 1) := dk_177 (dk_at dksX4_deeper_1 5 rfl rfl)
abbrev cX4_bounds : ByteArray := prog_22_method_22_code
def yX4_bounds : MethodName := ⟨RX4, "bounds", "()LPastWatch$Bounds;"⟩
def dkwX4_bounds_4 : List UInt8 := [18, 246, 182, 0, 122, 87, 187, 0, 248, 89, 43, 182, 0, 156, 44, 182, 0, 156, 183, 0, 250, 176]
abbrev dktX4_bounds_4 : List UInt8 := dkwX4_bounds_4 ++ []
def dkwX4_bounds_3 : List UInt8 := [44, 182, 0, 156, 17, 3, 232, 163, 0, 7, 4, 167, 0, 4, 3, 8, 44, 180, 0, 40, 182, 0, 92, 42]
abbrev dktX4_bounds_3 : List UInt8 := dkwX4_bounds_3 ++ dktX4_bounds_4
def dkwX4_bounds_2 : List UInt8 := [182, 0, 122, 87, 42, 178, 0, 153, 182, 0, 128, 77, 42, 44, 182, 0, 156, 43, 182, 0, 156, 161, 0, 17]
abbrev dktX4_bounds_2 : List UInt8 := dkwX4_bounds_2 ++ dktX4_bounds_3
def dkwX4_bounds_1 : List UInt8 := [17, 3, 232, 163, 0, 7, 4, 167, 0, 4, 3, 8, 43, 180, 0, 40, 182, 0, 92, 42, 18, 244]
abbrev dktX4_bounds_1 : List UInt8 := dkwX4_bounds_1 ++ dktX4_bounds_2
def dkwX4_bounds_0 : List UInt8 := [42, 18, 242, 182, 0, 102, 154, 0, 5, 1, 176, 42, 178, 0, 153, 182, 0, 128, 76, 42, 43, 182, 0, 156]
abbrev dktX4_bounds_0 : List UInt8 := dkwX4_bounds_0 ++ dktX4_bounds_1
theorem dksX4_bounds_0 : cX4_bounds.data.toList.drop 0 = dktX4_bounds_0 := by decide +kernel
theorem dksX4_bounds_1 : cX4_bounds.data.toList.drop 24 = dktX4_bounds_1 := dk_seg dksX4_bounds_0 24 rfl rfl
theorem dksX4_bounds_2 : cX4_bounds.data.toList.drop 46 = dktX4_bounds_2 := dk_seg dksX4_bounds_1 22 rfl rfl
theorem dksX4_bounds_3 : cX4_bounds.data.toList.drop 70 = dktX4_bounds_3 := dk_seg dksX4_bounds_2 24 rfl rfl
theorem dksX4_bounds_4 : cX4_bounds.data.toList.drop 94 = dktX4_bounds_4 := dk_seg dksX4_bounds_3 24 rfl rfl
theorem dX4_bounds_0 : decode cX4_bounds 0 = .ok (.aload_n 0, 1) := dk_42 (dk_at dksX4_bounds_0 0 rfl rfl)
theorem dX4_bounds_1 : decode cX4_bounds 1 = .ok (.ldc 242, 2) := dk_18 242 (dk_at dksX4_bounds_0 1 rfl rfl)
theorem dX4_bounds_3 : decode cX4_bounds 3 = .ok (.invokevirtual 102, 3) := dk_182 0 102 (dk_at dksX4_bounds_0 3 rfl rfl)
theorem dX4_bounds_6 : decode cX4_bounds 6 = .ok (.ifCond .ne 5, 3) := dk_154 0 5 (dk_at dksX4_bounds_0 6 rfl rfl)
theorem dX4_bounds_9 : decode cX4_bounds 9 = .ok (.aconst_null, 1) := dk_1 (dk_at dksX4_bounds_0 9 rfl rfl)
theorem dX4_bounds_10 : decode cX4_bounds 10 = .ok (.areturn, 1) := dk_176 (dk_at dksX4_bounds_0 10 rfl rfl)
theorem dX4_bounds_11 : decode cX4_bounds 11 = .ok (.aload_n 0, 1) := dk_42 (dk_at dksX4_bounds_0 11 rfl rfl)
theorem dX4_bounds_12 : decode cX4_bounds 12 = .ok (.getstatic 153, 3) := dk_178 0 153 (dk_at dksX4_bounds_0 12 rfl rfl)
theorem dX4_bounds_15 : decode cX4_bounds 15 = .ok (.invokevirtual 128, 3) := dk_182 0 128 (dk_at dksX4_bounds_0 15 rfl rfl)
theorem dX4_bounds_18 : decode cX4_bounds 18 = .ok (.astore_n 1, 1) := dk_76 (dk_at dksX4_bounds_0 18 rfl rfl)
theorem dX4_bounds_19 : decode cX4_bounds 19 = .ok (.aload_n 0, 1) := dk_42 (dk_at dksX4_bounds_0 19 rfl rfl)
theorem dX4_bounds_20 : decode cX4_bounds 20 = .ok (.aload_n 1, 1) := dk_43 (dk_at dksX4_bounds_0 20 rfl rfl)
theorem dX4_bounds_21 : decode cX4_bounds 21 = .ok (.invokevirtual 156, 3) := dk_182 0 156 (dk_at dksX4_bounds_0 21 rfl rfl)
theorem dX4_bounds_24 : decode cX4_bounds 24 = .ok (.sipush 1000, 3) := dk_17 3 232 (dk_at dksX4_bounds_1 0 rfl rfl)
theorem dX4_bounds_27 : decode cX4_bounds 27 = .ok (.if_icmp .gt 7, 3) := dk_163 0 7 (dk_at dksX4_bounds_1 3 rfl rfl)
theorem dX4_bounds_30 : decode cX4_bounds 30 = .ok (.iconst 1, 1) := dk_4 (dk_at dksX4_bounds_1 6 rfl rfl)
theorem dX4_bounds_31 : decode cX4_bounds 31 = .ok (.goto 4, 3) := dk_167 0 4 (dk_at dksX4_bounds_1 7 rfl rfl)
theorem dX4_bounds_34 : decode cX4_bounds 34 = .ok (.iconst 0, 1) := dk_3 (dk_at dksX4_bounds_1 10 rfl rfl)
theorem dX4_bounds_35 : decode cX4_bounds 35 = .ok (.iconst 5, 1) := dk_8 (dk_at dksX4_bounds_1 11 rfl rfl)
theorem dX4_bounds_36 : decode cX4_bounds 36 = .ok (.aload_n 1, 1) := dk_43 (dk_at dksX4_bounds_1 12 rfl rfl)
theorem dX4_bounds_37 : decode cX4_bounds 37 = .ok (.getfield 40, 3) := dk_180 0 40 (dk_at dksX4_bounds_1 13 rfl rfl)
theorem dX4_bounds_40 : decode cX4_bounds 40 = .ok (.invokevirtual 92, 3) := dk_182 0 92 (dk_at dksX4_bounds_1 16 rfl rfl)
theorem dX4_bounds_43 : decode cX4_bounds 43 = .ok (.aload_n 0, 1) := dk_42 (dk_at dksX4_bounds_1 19 rfl rfl)
theorem dX4_bounds_44 : decode cX4_bounds 44 = .ok (.ldc 244, 2) := dk_18 244 (dk_at dksX4_bounds_1 20 rfl rfl)
theorem dX4_bounds_46 : decode cX4_bounds 46 = .ok (.invokevirtual 122, 3) := dk_182 0 122 (dk_at dksX4_bounds_2 0 rfl rfl)
theorem dX4_bounds_49 : decode cX4_bounds 49 = .ok (.pop, 1) := dk_87 (dk_at dksX4_bounds_2 3 rfl rfl)
theorem dX4_bounds_50 : decode cX4_bounds 50 = .ok (.aload_n 0, 1) := dk_42 (dk_at dksX4_bounds_2 4 rfl rfl)
theorem dX4_bounds_51 : decode cX4_bounds 51 = .ok (.getstatic 153, 3) := dk_178 0 153 (dk_at dksX4_bounds_2 5 rfl rfl)
theorem dX4_bounds_54 : decode cX4_bounds 54 = .ok (.invokevirtual 128, 3) := dk_182 0 128 (dk_at dksX4_bounds_2 8 rfl rfl)
theorem dX4_bounds_57 : decode cX4_bounds 57 = .ok (.astore_n 2, 1) := dk_77 (dk_at dksX4_bounds_2 11 rfl rfl)
theorem dX4_bounds_58 : decode cX4_bounds 58 = .ok (.aload_n 0, 1) := dk_42 (dk_at dksX4_bounds_2 12 rfl rfl)
theorem dX4_bounds_59 : decode cX4_bounds 59 = .ok (.aload_n 2, 1) := dk_44 (dk_at dksX4_bounds_2 13 rfl rfl)
theorem dX4_bounds_60 : decode cX4_bounds 60 = .ok (.invokevirtual 156, 3) := dk_182 0 156 (dk_at dksX4_bounds_2 14 rfl rfl)
theorem dX4_bounds_63 : decode cX4_bounds 63 = .ok (.aload_n 1, 1) := dk_43 (dk_at dksX4_bounds_2 17 rfl rfl)
theorem dX4_bounds_64 : decode cX4_bounds 64 = .ok (.invokevirtual 156, 3) := dk_182 0 156 (dk_at dksX4_bounds_2 18 rfl rfl)
theorem dX4_bounds_67 : decode cX4_bounds 67 = .ok (.if_icmp .lt 17, 3) := dk_161 0 17 (dk_at dksX4_bounds_2 21 rfl rfl)
theorem dX4_bounds_70 : decode cX4_bounds 70 = .ok (.aload_n 2, 1) := dk_44 (dk_at dksX4_bounds_3 0 rfl rfl)
theorem dX4_bounds_71 : decode cX4_bounds 71 = .ok (.invokevirtual 156, 3) := dk_182 0 156 (dk_at dksX4_bounds_3 1 rfl rfl)
theorem dX4_bounds_74 : decode cX4_bounds 74 = .ok (.sipush 1000, 3) := dk_17 3 232 (dk_at dksX4_bounds_3 4 rfl rfl)
theorem dX4_bounds_77 : decode cX4_bounds 77 = .ok (.if_icmp .gt 7, 3) := dk_163 0 7 (dk_at dksX4_bounds_3 7 rfl rfl)
theorem dX4_bounds_80 : decode cX4_bounds 80 = .ok (.iconst 1, 1) := dk_4 (dk_at dksX4_bounds_3 10 rfl rfl)
theorem dX4_bounds_81 : decode cX4_bounds 81 = .ok (.goto 4, 3) := dk_167 0 4 (dk_at dksX4_bounds_3 11 rfl rfl)
theorem dX4_bounds_84 : decode cX4_bounds 84 = .ok (.iconst 0, 1) := dk_3 (dk_at dksX4_bounds_3 14 rfl rfl)
theorem dX4_bounds_85 : decode cX4_bounds 85 = .ok (.iconst 5, 1) := dk_8 (dk_at dksX4_bounds_3 15 rfl rfl)
theorem dX4_bounds_86 : decode cX4_bounds 86 = .ok (.aload_n 2, 1) := dk_44 (dk_at dksX4_bounds_3 16 rfl rfl)
theorem dX4_bounds_87 : decode cX4_bounds 87 = .ok (.getfield 40, 3) := dk_180 0 40 (dk_at dksX4_bounds_3 17 rfl rfl)
theorem dX4_bounds_90 : decode cX4_bounds 90 = .ok (.invokevirtual 92, 3) := dk_182 0 92 (dk_at dksX4_bounds_3 20 rfl rfl)
theorem dX4_bounds_93 : decode cX4_bounds 93 = .ok (.aload_n 0, 1) := dk_42 (dk_at dksX4_bounds_3 23 rfl rfl)
theorem dX4_bounds_94 : decode cX4_bounds 94 = .ok (.ldc 246, 2) := dk_18 246 (dk_at dksX4_bounds_4 0 rfl rfl)
theorem dX4_bounds_96 : decode cX4_bounds 96 = .ok (.invokevirtual 122, 3) := dk_182 0 122 (dk_at dksX4_bounds_4 2 rfl rfl)
theorem dX4_bounds_99 : decode cX4_bounds 99 = .ok (.pop, 1) := dk_87 (dk_at dksX4_bounds_4 5 rfl rfl)
theorem dX4_bounds_100 : decode cX4_bounds 100 = .ok (.new 248, 3) := dk_187 0 248 (dk_at dksX4_bounds_4 6 rfl rfl)
theorem dX4_bounds_103 : decode cX4_bounds 103 = .ok (.dup, 1) := dk_89 (dk_at dksX4_bounds_4 9 rfl rfl)
theorem dX4_bounds_104 : decode cX4_bounds 104 = .ok (.aload_n 1, 1) := dk_43 (dk_at dksX4_bounds_4 10 rfl rfl)
theorem dX4_bounds_105 : decode cX4_bounds 105 = .ok (.invokevirtual 156, 3) := dk_182 0 156 (dk_at dksX4_bounds_4 11 rfl rfl)
theorem dX4_bounds_108 : decode cX4_bounds 108 = .ok (.aload_n 2, 1) := dk_44 (dk_at dksX4_bounds_4 14 rfl rfl)
theorem dX4_bounds_109 : decode cX4_bounds 109 = .ok (.invokevirtual 156, 3) := dk_182 0 156 (dk_at dksX4_bounds_4 15 rfl rfl)
theorem dX4_bounds_112 : decode cX4_bounds 112 = .ok (.invokespecial 250, 3) := dk_183 0 250 (dk_at dksX4_bounds_4 18 rfl rfl)
theorem dX4_bounds_115 : decode cX4_bounds 115 = .ok (.areturn, 1) := dk_176 (dk_at dksX4_bounds_4 21 rfl rfl)
abbrev cX4_braced : ByteArray := prog_22_method_24_code
def yX4_braced : MethodName := ⟨RX4, "braced", "()LPastWatch$Node;"⟩
def dkwX4_braced_1 : List UInt8 := [182, 0, 96, 76, 42, 19, 1, 52, 182, 0, 122, 87, 42, 89, 180, 0, 65, 4, 100, 181, 0, 65, 43, 176]
abbrev dktX4_braced_1 : List UInt8 := dkwX4_braced_1 ++ []
def dkwX4_braced_0 : List UInt8 := [42, 182, 0, 36, 19, 1, 18, 182, 0, 50, 154, 0, 8, 42, 182, 0, 54, 191, 42, 182, 1, 1, 42]
abbrev dktX4_braced_0 : List UInt8 := dkwX4_braced_0 ++ dktX4_braced_1
theorem dksX4_braced_0 : cX4_braced.data.toList.drop 0 = dktX4_braced_0 := by decide +kernel
theorem dksX4_braced_1 : cX4_braced.data.toList.drop 23 = dktX4_braced_1 := dk_seg dksX4_braced_0 23 rfl rfl
theorem dX4_braced_0 : decode cX4_braced 0 = .ok (.aload_n 0, 1) := dk_42 (dk_at dksX4_braced_0 0 rfl rfl)
theorem dX4_braced_1 : decode cX4_braced 1 = .ok (.invokevirtual 36, 3) := dk_182 0 36 (dk_at dksX4_braced_0 1 rfl rfl)
theorem dX4_braced_4 : decode cX4_braced 4 = .ok (.ldc_w 274, 3) := dk_19 1 18 (dk_at dksX4_braced_0 4 rfl rfl)
theorem dX4_braced_7 : decode cX4_braced 7 = .ok (.invokevirtual 50, 3) := dk_182 0 50 (dk_at dksX4_braced_0 7 rfl rfl)
theorem dX4_braced_10 : decode cX4_braced 10 = .ok (.ifCond .ne 8, 3) := dk_154 0 8 (dk_at dksX4_braced_0 10 rfl rfl)
theorem dX4_braced_13 : decode cX4_braced 13 = .ok (.aload_n 0, 1) := dk_42 (dk_at dksX4_braced_0 13 rfl rfl)
theorem dX4_braced_14 : decode cX4_braced 14 = .ok (.invokevirtual 54, 3) := dk_182 0 54 (dk_at dksX4_braced_0 14 rfl rfl)
theorem dX4_braced_17 : decode cX4_braced 17 = .ok (.athrow, 1) := dk_191 (dk_at dksX4_braced_0 17 rfl rfl)
theorem dX4_braced_18 : decode cX4_braced 18 = .ok (.aload_n 0, 1) := dk_42 (dk_at dksX4_braced_0 18 rfl rfl)
theorem dX4_braced_19 : decode cX4_braced 19 = .ok (.invokevirtual 257, 3) := dk_182 1 1 (dk_at dksX4_braced_0 19 rfl rfl)
theorem dX4_braced_22 : decode cX4_braced 22 = .ok (.aload_n 0, 1) := dk_42 (dk_at dksX4_braced_0 22 rfl rfl)
theorem dX4_braced_23 : decode cX4_braced 23 = .ok (.invokevirtual 96, 3) := dk_182 0 96 (dk_at dksX4_braced_1 0 rfl rfl)
theorem dX4_braced_26 : decode cX4_braced 26 = .ok (.astore_n 1, 1) := dk_76 (dk_at dksX4_braced_1 3 rfl rfl)
theorem dX4_braced_27 : decode cX4_braced 27 = .ok (.aload_n 0, 1) := dk_42 (dk_at dksX4_braced_1 4 rfl rfl)
theorem dX4_braced_28 : decode cX4_braced 28 = .ok (.ldc_w 308, 3) := dk_19 1 52 (dk_at dksX4_braced_1 5 rfl rfl)
theorem dX4_braced_31 : decode cX4_braced 31 = .ok (.invokevirtual 122, 3) := dk_182 0 122 (dk_at dksX4_braced_1 8 rfl rfl)
theorem dX4_braced_34 : decode cX4_braced 34 = .ok (.pop, 1) := dk_87 (dk_at dksX4_braced_1 11 rfl rfl)
theorem dX4_braced_35 : decode cX4_braced 35 = .ok (.aload_n 0, 1) := dk_42 (dk_at dksX4_braced_1 12 rfl rfl)
theorem dX4_braced_36 : decode cX4_braced 36 = .ok (.dup, 1) := dk_89 (dk_at dksX4_braced_1 13 rfl rfl)
theorem dX4_braced_37 : decode cX4_braced 37 = .ok (.getfield 65, 3) := dk_180 0 65 (dk_at dksX4_braced_1 14 rfl rfl)
theorem dX4_braced_40 : decode cX4_braced 40 = .ok (.iconst 1, 1) := dk_4 (dk_at dksX4_braced_1 17 rfl rfl)
theorem dX4_braced_41 : decode cX4_braced 41 = .ok (.isub, 1) := dk_100 (dk_at dksX4_braced_1 18 rfl rfl)
theorem dX4_braced_42 : decode cX4_braced 42 = .ok (.putfield 65, 3) := dk_181 0 65 (dk_at dksX4_braced_1 19 rfl rfl)
theorem dX4_braced_45 : decode cX4_braced 45 = .ok (.aload_n 1, 1) := dk_43 (dk_at dksX4_braced_1 22 rfl rfl)
theorem dX4_braced_46 : decode cX4_braced 46 = .ok (.areturn, 1) := dk_176 (dk_at dksX4_braced_1 23 rfl rfl)
abbrev cX4_expression : ByteArray := prog_22_method_25_code
def yX4_expression : MethodName := ⟨RX4, "expression", "()LPastWatch$Node;"⟩
def dkwX4_expression_2 : List UInt8 := [182, 1, 54, 183, 1, 49, 182, 0, 164, 77, 42, 182, 0, 36, 184, 1, 39, 78, 167, 255, 213, 44, 176]
abbrev dktX4_expression_2 : List UInt8 := dkwX4_expression_2 ++ []
def dkwX4_expression_1 : List UInt8 := [198, 0, 45, 45, 182, 1, 57, 153, 0, 38, 42, 182, 0, 58, 87, 42, 187, 1, 47, 89, 27, 45, 44, 42]
abbrev dktX4_expression_1 : List UInt8 := dkwX4_expression_1 ++ dktX4_expression_2
def dkwX4_expression_0 : List UInt8 := [42, 182, 0, 36, 180, 0, 40, 60, 42, 182, 1, 54, 77, 42, 182, 0, 36, 184, 1, 39, 78, 45]
abbrev dktX4_expression_0 : List UInt8 := dkwX4_expression_0 ++ dktX4_expression_1
theorem dksX4_expression_0 : cX4_expression.data.toList.drop 0 = dktX4_expression_0 := by decide +kernel
theorem dksX4_expression_1 : cX4_expression.data.toList.drop 22 = dktX4_expression_1 := dk_seg dksX4_expression_0 22 rfl rfl
theorem dksX4_expression_2 : cX4_expression.data.toList.drop 46 = dktX4_expression_2 := dk_seg dksX4_expression_1 24 rfl rfl
theorem dX4_expression_0 : decode cX4_expression 0 = .ok (.aload_n 0, 1) := dk_42 (dk_at dksX4_expression_0 0 rfl rfl)
theorem dX4_expression_1 : decode cX4_expression 1 = .ok (.invokevirtual 36, 3) := dk_182 0 36 (dk_at dksX4_expression_0 1 rfl rfl)
theorem dX4_expression_4 : decode cX4_expression 4 = .ok (.getfield 40, 3) := dk_180 0 40 (dk_at dksX4_expression_0 4 rfl rfl)
theorem dX4_expression_7 : decode cX4_expression 7 = .ok (.istore_n 1, 1) := dk_60 (dk_at dksX4_expression_0 7 rfl rfl)
theorem dX4_expression_8 : decode cX4_expression 8 = .ok (.aload_n 0, 1) := dk_42 (dk_at dksX4_expression_0 8 rfl rfl)
theorem dX4_expression_9 : decode cX4_expression 9 = .ok (.invokevirtual 310, 3) := dk_182 1 54 (dk_at dksX4_expression_0 9 rfl rfl)
theorem dX4_expression_12 : decode cX4_expression 12 = .ok (.astore_n 2, 1) := dk_77 (dk_at dksX4_expression_0 12 rfl rfl)
theorem dX4_expression_13 : decode cX4_expression 13 = .ok (.aload_n 0, 1) := dk_42 (dk_at dksX4_expression_0 13 rfl rfl)
theorem dX4_expression_14 : decode cX4_expression 14 = .ok (.invokevirtual 36, 3) := dk_182 0 36 (dk_at dksX4_expression_0 14 rfl rfl)
theorem dX4_expression_17 : decode cX4_expression 17 = .ok (.invokestatic 295, 3) := dk_184 1 39 (dk_at dksX4_expression_0 17 rfl rfl)
theorem dX4_expression_20 : decode cX4_expression 20 = .ok (.astore_n 3, 1) := dk_78 (dk_at dksX4_expression_0 20 rfl rfl)
theorem dX4_expression_21 : decode cX4_expression 21 = .ok (.aload_n 3, 1) := dk_45 (dk_at dksX4_expression_0 21 rfl rfl)
theorem dX4_expression_22 : decode cX4_expression 22 = .ok (.ifnull 45, 3) := dk_198 0 45 (dk_at dksX4_expression_1 0 rfl rfl)
theorem dX4_expression_25 : decode cX4_expression 25 = .ok (.aload_n 3, 1) := dk_45 (dk_at dksX4_expression_1 3 rfl rfl)
theorem dX4_expression_26 : decode cX4_expression 26 = .ok (.invokevirtual 313, 3) := dk_182 1 57 (dk_at dksX4_expression_1 4 rfl rfl)
theorem dX4_expression_29 : decode cX4_expression 29 = .ok (.ifCond .eq 38, 3) := dk_153 0 38 (dk_at dksX4_expression_1 7 rfl rfl)
theorem dX4_expression_32 : decode cX4_expression 32 = .ok (.aload_n 0, 1) := dk_42 (dk_at dksX4_expression_1 10 rfl rfl)
theorem dX4_expression_33 : decode cX4_expression 33 = .ok (.invokevirtual 58, 3) := dk_182 0 58 (dk_at dksX4_expression_1 11 rfl rfl)
theorem dX4_expression_36 : decode cX4_expression 36 = .ok (.pop, 1) := dk_87 (dk_at dksX4_expression_1 14 rfl rfl)
theorem dX4_expression_37 : decode cX4_expression 37 = .ok (.aload_n 0, 1) := dk_42 (dk_at dksX4_expression_1 15 rfl rfl)
theorem dX4_expression_38 : decode cX4_expression 38 = .ok (.new 303, 3) := dk_187 1 47 (dk_at dksX4_expression_1 16 rfl rfl)
theorem dX4_expression_41 : decode cX4_expression 41 = .ok (.dup, 1) := dk_89 (dk_at dksX4_expression_1 19 rfl rfl)
theorem dX4_expression_42 : decode cX4_expression 42 = .ok (.iload_n 1, 1) := dk_27 (dk_at dksX4_expression_1 20 rfl rfl)
theorem dX4_expression_43 : decode cX4_expression 43 = .ok (.aload_n 3, 1) := dk_45 (dk_at dksX4_expression_1 21 rfl rfl)
theorem dX4_expression_44 : decode cX4_expression 44 = .ok (.aload_n 2, 1) := dk_44 (dk_at dksX4_expression_1 22 rfl rfl)
theorem dX4_expression_45 : decode cX4_expression 45 = .ok (.aload_n 0, 1) := dk_42 (dk_at dksX4_expression_1 23 rfl rfl)
theorem dX4_expression_46 : decode cX4_expression 46 = .ok (.invokevirtual 310, 3) := dk_182 1 54 (dk_at dksX4_expression_2 0 rfl rfl)
theorem dX4_expression_49 : decode cX4_expression 49 = .ok (.invokespecial 305, 3) := dk_183 1 49 (dk_at dksX4_expression_2 3 rfl rfl)
theorem dX4_expression_52 : decode cX4_expression 52 = .ok (.invokevirtual 164, 3) := dk_182 0 164 (dk_at dksX4_expression_2 6 rfl rfl)
theorem dX4_expression_55 : decode cX4_expression 55 = .ok (.astore_n 2, 1) := dk_77 (dk_at dksX4_expression_2 9 rfl rfl)
theorem dX4_expression_56 : decode cX4_expression 56 = .ok (.aload_n 0, 1) := dk_42 (dk_at dksX4_expression_2 10 rfl rfl)
theorem dX4_expression_57 : decode cX4_expression 57 = .ok (.invokevirtual 36, 3) := dk_182 0 36 (dk_at dksX4_expression_2 11 rfl rfl)
theorem dX4_expression_60 : decode cX4_expression 60 = .ok (.invokestatic 295, 3) := dk_184 1 39 (dk_at dksX4_expression_2 14 rfl rfl)
theorem dX4_expression_63 : decode cX4_expression 63 = .ok (.astore_n 3, 1) := dk_78 (dk_at dksX4_expression_2 17 rfl rfl)
theorem dX4_expression_64 : decode cX4_expression 64 = .ok (.goto (-43), 3) := dk_167 255 213 (dk_at dksX4_expression_2 18 rfl rfl)
theorem dX4_expression_67 : decode cX4_expression 67 = .ok (.aload_n 2, 1) := dk_44 (dk_at dksX4_expression_2 21 rfl rfl)
theorem dX4_expression_68 : decode cX4_expression 68 = .ok (.areturn, 1) := dk_176 (dk_at dksX4_expression_2 22 rfl rfl)
abbrev cX4_product : ByteArray := prog_22_method_26_code
def yX4_product : MethodName := ⟨RX4, "product", "()LPastWatch$Node;"⟩
def dkwX4_product_2 : List UInt8 := [182, 1, 60, 183, 1, 49, 182, 0, 164, 77, 42, 182, 0, 36, 184, 1, 39, 78, 167, 255, 213, 44, 176]
abbrev dktX4_product_2 : List UInt8 := dkwX4_product_2 ++ []
def dkwX4_product_1 : List UInt8 := [198, 0, 45, 45, 182, 1, 63, 153, 0, 38, 42, 182, 0, 58, 87, 42, 187, 1, 47, 89, 27, 45, 44, 42]
abbrev dktX4_product_1 : List UInt8 := dkwX4_product_1 ++ dktX4_product_2
def dkwX4_product_0 : List UInt8 := [42, 182, 0, 36, 180, 0, 40, 60, 42, 182, 1, 60, 77, 42, 182, 0, 36, 184, 1, 39, 78, 45]
abbrev dktX4_product_0 : List UInt8 := dkwX4_product_0 ++ dktX4_product_1
theorem dksX4_product_0 : cX4_product.data.toList.drop 0 = dktX4_product_0 := by decide +kernel
theorem dksX4_product_1 : cX4_product.data.toList.drop 22 = dktX4_product_1 := dk_seg dksX4_product_0 22 rfl rfl
theorem dksX4_product_2 : cX4_product.data.toList.drop 46 = dktX4_product_2 := dk_seg dksX4_product_1 24 rfl rfl
theorem dX4_product_0 : decode cX4_product 0 = .ok (.aload_n 0, 1) := dk_42 (dk_at dksX4_product_0 0 rfl rfl)
theorem dX4_product_1 : decode cX4_product 1 = .ok (.invokevirtual 36, 3) := dk_182 0 36 (dk_at dksX4_product_0 1 rfl rfl)
theorem dX4_product_4 : decode cX4_product 4 = .ok (.getfield 40, 3) := dk_180 0 40 (dk_at dksX4_product_0 4 rfl rfl)
theorem dX4_product_7 : decode cX4_product 7 = .ok (.istore_n 1, 1) := dk_60 (dk_at dksX4_product_0 7 rfl rfl)
theorem dX4_product_8 : decode cX4_product 8 = .ok (.aload_n 0, 1) := dk_42 (dk_at dksX4_product_0 8 rfl rfl)
theorem dX4_product_9 : decode cX4_product 9 = .ok (.invokevirtual 316, 3) := dk_182 1 60 (dk_at dksX4_product_0 9 rfl rfl)
theorem dX4_product_12 : decode cX4_product 12 = .ok (.astore_n 2, 1) := dk_77 (dk_at dksX4_product_0 12 rfl rfl)
theorem dX4_product_13 : decode cX4_product 13 = .ok (.aload_n 0, 1) := dk_42 (dk_at dksX4_product_0 13 rfl rfl)
theorem dX4_product_14 : decode cX4_product 14 = .ok (.invokevirtual 36, 3) := dk_182 0 36 (dk_at dksX4_product_0 14 rfl rfl)
theorem dX4_product_17 : decode cX4_product 17 = .ok (.invokestatic 295, 3) := dk_184 1 39 (dk_at dksX4_product_0 17 rfl rfl)
theorem dX4_product_20 : decode cX4_product 20 = .ok (.astore_n 3, 1) := dk_78 (dk_at dksX4_product_0 20 rfl rfl)
theorem dX4_product_21 : decode cX4_product 21 = .ok (.aload_n 3, 1) := dk_45 (dk_at dksX4_product_0 21 rfl rfl)
theorem dX4_product_22 : decode cX4_product 22 = .ok (.ifnull 45, 3) := dk_198 0 45 (dk_at dksX4_product_1 0 rfl rfl)
theorem dX4_product_25 : decode cX4_product 25 = .ok (.aload_n 3, 1) := dk_45 (dk_at dksX4_product_1 3 rfl rfl)
theorem dX4_product_26 : decode cX4_product 26 = .ok (.invokevirtual 319, 3) := dk_182 1 63 (dk_at dksX4_product_1 4 rfl rfl)
theorem dX4_product_29 : decode cX4_product 29 = .ok (.ifCond .eq 38, 3) := dk_153 0 38 (dk_at dksX4_product_1 7 rfl rfl)
theorem dX4_product_32 : decode cX4_product 32 = .ok (.aload_n 0, 1) := dk_42 (dk_at dksX4_product_1 10 rfl rfl)
theorem dX4_product_33 : decode cX4_product 33 = .ok (.invokevirtual 58, 3) := dk_182 0 58 (dk_at dksX4_product_1 11 rfl rfl)
theorem dX4_product_36 : decode cX4_product 36 = .ok (.pop, 1) := dk_87 (dk_at dksX4_product_1 14 rfl rfl)
theorem dX4_product_37 : decode cX4_product 37 = .ok (.aload_n 0, 1) := dk_42 (dk_at dksX4_product_1 15 rfl rfl)
theorem dX4_product_38 : decode cX4_product 38 = .ok (.new 303, 3) := dk_187 1 47 (dk_at dksX4_product_1 16 rfl rfl)
theorem dX4_product_41 : decode cX4_product 41 = .ok (.dup, 1) := dk_89 (dk_at dksX4_product_1 19 rfl rfl)
theorem dX4_product_42 : decode cX4_product 42 = .ok (.iload_n 1, 1) := dk_27 (dk_at dksX4_product_1 20 rfl rfl)
theorem dX4_product_43 : decode cX4_product 43 = .ok (.aload_n 3, 1) := dk_45 (dk_at dksX4_product_1 21 rfl rfl)
theorem dX4_product_44 : decode cX4_product 44 = .ok (.aload_n 2, 1) := dk_44 (dk_at dksX4_product_1 22 rfl rfl)
theorem dX4_product_45 : decode cX4_product 45 = .ok (.aload_n 0, 1) := dk_42 (dk_at dksX4_product_1 23 rfl rfl)
theorem dX4_product_46 : decode cX4_product 46 = .ok (.invokevirtual 316, 3) := dk_182 1 60 (dk_at dksX4_product_2 0 rfl rfl)
theorem dX4_product_49 : decode cX4_product 49 = .ok (.invokespecial 305, 3) := dk_183 1 49 (dk_at dksX4_product_2 3 rfl rfl)
theorem dX4_product_52 : decode cX4_product 52 = .ok (.invokevirtual 164, 3) := dk_182 0 164 (dk_at dksX4_product_2 6 rfl rfl)
theorem dX4_product_55 : decode cX4_product 55 = .ok (.astore_n 2, 1) := dk_77 (dk_at dksX4_product_2 9 rfl rfl)
theorem dX4_product_56 : decode cX4_product 56 = .ok (.aload_n 0, 1) := dk_42 (dk_at dksX4_product_2 10 rfl rfl)
theorem dX4_product_57 : decode cX4_product 57 = .ok (.invokevirtual 36, 3) := dk_182 0 36 (dk_at dksX4_product_2 11 rfl rfl)
theorem dX4_product_60 : decode cX4_product 60 = .ok (.invokestatic 295, 3) := dk_184 1 39 (dk_at dksX4_product_2 14 rfl rfl)
theorem dX4_product_63 : decode cX4_product 63 = .ok (.astore_n 3, 1) := dk_78 (dk_at dksX4_product_2 17 rfl rfl)
theorem dX4_product_64 : decode cX4_product 64 = .ok (.goto (-43), 3) := dk_167 255 213 (dk_at dksX4_product_2 18 rfl rfl)
theorem dX4_product_67 : decode cX4_product 67 = .ok (.aload_n 2, 1) := dk_44 (dk_at dksX4_product_2 21 rfl rfl)
theorem dX4_product_68 : decode cX4_product 68 = .ok (.areturn, 1) := dk_176 (dk_at dksX4_product_2 22 rfl rfl)
abbrev cX4_factor : ByteArray := prog_22_method_28_code
def yX4_factor : MethodName := ⟨RX4, "factor", "()LPastWatch$Node;"⟩
def dkwX4_factor_14 : List UInt8 := [25, 4, 42, 182, 1, 114, 183, 1, 142, 182, 0, 164, 176]
abbrev dktX4_factor_14 : List UInt8 := dkwX4_factor_14 ++ []
def dkwX4_factor_13 : List UInt8 := [19, 1, 138, 182, 0, 50, 154, 0, 8, 42, 182, 0, 54, 191, 42, 187, 1, 140, 89, 43, 180, 0, 40, 45]
abbrev dktX4_factor_13 : List UInt8 := dkwX4_factor_13 ++ dktX4_factor_14
def dkwX4_factor_12 : List UInt8 := [19, 1, 136, 182, 0, 50, 154, 0, 8, 42, 182, 0, 54, 191, 42, 182, 1, 114, 58, 4, 42, 182, 0, 36]
abbrev dktX4_factor_12 : List UInt8 := dkwX4_factor_12 ++ dktX4_factor_13
def dkwX4_factor_11 : List UInt8 := [19, 1, 134, 182, 0, 102, 154, 0, 8, 42, 182, 0, 54, 191, 42, 182, 1, 20, 78, 42, 182, 0, 36]
abbrev dktX4_factor_11 : List UInt8 := dkwX4_factor_11 ++ dktX4_factor_12
def dkwX4_factor_10 : List UInt8 := [183, 1, 129, 182, 0, 164, 176, 43, 19, 1, 130, 182, 0, 50, 153, 0, 9, 42, 43, 182, 1, 131, 176, 42]
abbrev dktX4_factor_10 : List UInt8 := dkwX4_factor_10 ++ dktX4_factor_11
def dkwX4_factor_9 : List UInt8 := [19, 1, 125, 182, 0, 102, 153, 0, 23, 42, 187, 1, 127, 89, 43, 180, 0, 40, 42, 182, 1, 20]
abbrev dktX4_factor_9 : List UInt8 := dkwX4_factor_9 ++ dktX4_factor_10
def dkwX4_factor_8 : List UInt8 := [153, 0, 23, 42, 187, 1, 122, 89, 43, 180, 0, 40, 42, 182, 1, 20, 183, 1, 124, 182, 0, 164, 176, 42]
abbrev dktX4_factor_8 : List UInt8 := dkwX4_factor_8 ++ dktX4_factor_9
def dkwX4_factor_7 : List UInt8 := [43, 180, 0, 40, 44, 42, 182, 1, 114, 183, 1, 117, 182, 0, 164, 176, 42, 19, 1, 120, 182, 0, 102]
abbrev dktX4_factor_7 : List UInt8 := dkwX4_factor_7 ++ dktX4_factor_8
def dkwX4_factor_6 : List UInt8 := [180, 0, 65, 4, 100, 181, 0, 65, 44, 176, 43, 184, 1, 108, 77, 44, 198, 0, 24, 42, 187, 1, 112, 89]
abbrev dktX4_factor_6 : List UInt8 := dkwX4_factor_6 ++ dktX4_factor_7
def dkwX4_factor_5 : List UInt8 := [153, 0, 32, 42, 182, 1, 1, 42, 182, 0, 190, 77, 42, 19, 1, 106, 182, 0, 122, 87, 42, 89]
abbrev dktX4_factor_5 : List UInt8 := dkwX4_factor_5 ++ dktX4_factor_6
def dkwX4_factor_4 : List UInt8 := [187, 1, 97, 89, 43, 180, 0, 40, 3, 183, 1, 99, 182, 0, 164, 176, 43, 19, 1, 104, 182, 0, 50]
abbrev dktX4_factor_4 : List UInt8 := dkwX4_factor_4 ++ dktX4_factor_5
def dkwX4_factor_3 : List UInt8 := [180, 0, 40, 4, 183, 1, 99, 182, 0, 164, 176, 42, 19, 1, 102, 182, 0, 102, 153, 0, 20, 42]
abbrev dktX4_factor_3 : List UInt8 := dkwX4_factor_3 ++ dktX4_factor_4
def dkwX4_factor_2 : List UInt8 := [166, 0, 8, 42, 182, 1, 92, 176, 42, 19, 1, 95, 182, 0, 102, 153, 0, 20, 42, 187, 1, 97, 89, 43]
abbrev dktX4_factor_2 : List UInt8 := dkwX4_factor_2 ++ dktX4_factor_3
def dkwX4_factor_1 : List UInt8 := [42, 182, 0, 58, 182, 0, 156, 133, 183, 1, 27, 182, 0, 164, 176, 43, 180, 0, 61, 178, 0, 125]
abbrev dktX4_factor_1 : List UInt8 := dkwX4_factor_1 ++ dktX4_factor_2
def dkwX4_factor_0 : List UInt8 := [42, 182, 0, 36, 76, 43, 180, 0, 61, 178, 0, 153, 166, 0, 27, 42, 187, 1, 25, 89, 43, 180, 0, 40]
abbrev dktX4_factor_0 : List UInt8 := dkwX4_factor_0 ++ dktX4_factor_1
theorem dksX4_factor_0 : cX4_factor.data.toList.drop 0 = dktX4_factor_0 := by decide +kernel
theorem dksX4_factor_1 : cX4_factor.data.toList.drop 24 = dktX4_factor_1 := dk_seg dksX4_factor_0 24 rfl rfl
theorem dksX4_factor_2 : cX4_factor.data.toList.drop 46 = dktX4_factor_2 := dk_seg dksX4_factor_1 22 rfl rfl
theorem dksX4_factor_3 : cX4_factor.data.toList.drop 70 = dktX4_factor_3 := dk_seg dksX4_factor_2 24 rfl rfl
theorem dksX4_factor_4 : cX4_factor.data.toList.drop 92 = dktX4_factor_4 := dk_seg dksX4_factor_3 22 rfl rfl
theorem dksX4_factor_5 : cX4_factor.data.toList.drop 115 = dktX4_factor_5 := dk_seg dksX4_factor_4 23 rfl rfl
theorem dksX4_factor_6 : cX4_factor.data.toList.drop 137 = dktX4_factor_6 := dk_seg dksX4_factor_5 22 rfl rfl
theorem dksX4_factor_7 : cX4_factor.data.toList.drop 161 = dktX4_factor_7 := dk_seg dksX4_factor_6 24 rfl rfl
theorem dksX4_factor_8 : cX4_factor.data.toList.drop 184 = dktX4_factor_8 := dk_seg dksX4_factor_7 23 rfl rfl
theorem dksX4_factor_9 : cX4_factor.data.toList.drop 208 = dktX4_factor_9 := dk_seg dksX4_factor_8 24 rfl rfl
theorem dksX4_factor_10 : cX4_factor.data.toList.drop 230 = dktX4_factor_10 := dk_seg dksX4_factor_9 22 rfl rfl
theorem dksX4_factor_11 : cX4_factor.data.toList.drop 254 = dktX4_factor_11 := dk_seg dksX4_factor_10 24 rfl rfl
theorem dksX4_factor_12 : cX4_factor.data.toList.drop 277 = dktX4_factor_12 := dk_seg dksX4_factor_11 23 rfl rfl
theorem dksX4_factor_13 : cX4_factor.data.toList.drop 301 = dktX4_factor_13 := dk_seg dksX4_factor_12 24 rfl rfl
theorem dksX4_factor_14 : cX4_factor.data.toList.drop 325 = dktX4_factor_14 := dk_seg dksX4_factor_13 24 rfl rfl
theorem dX4_factor_0 : decode cX4_factor 0 = .ok (.aload_n 0, 1) := dk_42 (dk_at dksX4_factor_0 0 rfl rfl)
theorem dX4_factor_1 : decode cX4_factor 1 = .ok (.invokevirtual 36, 3) := dk_182 0 36 (dk_at dksX4_factor_0 1 rfl rfl)
theorem dX4_factor_4 : decode cX4_factor 4 = .ok (.astore_n 1, 1) := dk_76 (dk_at dksX4_factor_0 4 rfl rfl)
theorem dX4_factor_5 : decode cX4_factor 5 = .ok (.aload_n 1, 1) := dk_43 (dk_at dksX4_factor_0 5 rfl rfl)
theorem dX4_factor_6 : decode cX4_factor 6 = .ok (.getfield 61, 3) := dk_180 0 61 (dk_at dksX4_factor_0 6 rfl rfl)
theorem dX4_factor_9 : decode cX4_factor 9 = .ok (.getstatic 153, 3) := dk_178 0 153 (dk_at dksX4_factor_0 9 rfl rfl)
theorem dX4_factor_12 : decode cX4_factor 12 = .ok (.if_acmp .ne 27, 3) := dk_166 0 27 (dk_at dksX4_factor_0 12 rfl rfl)
theorem dX4_factor_15 : decode cX4_factor 15 = .ok (.aload_n 0, 1) := dk_42 (dk_at dksX4_factor_0 15 rfl rfl)
theorem dX4_factor_16 : decode cX4_factor 16 = .ok (.new 281, 3) := dk_187 1 25 (dk_at dksX4_factor_0 16 rfl rfl)
theorem dX4_factor_19 : decode cX4_factor 19 = .ok (.dup, 1) := dk_89 (dk_at dksX4_factor_0 19 rfl rfl)
theorem dX4_factor_20 : decode cX4_factor 20 = .ok (.aload_n 1, 1) := dk_43 (dk_at dksX4_factor_0 20 rfl rfl)
theorem dX4_factor_21 : decode cX4_factor 21 = .ok (.getfield 40, 3) := dk_180 0 40 (dk_at dksX4_factor_0 21 rfl rfl)
theorem dX4_factor_24 : decode cX4_factor 24 = .ok (.aload_n 0, 1) := dk_42 (dk_at dksX4_factor_1 0 rfl rfl)
theorem dX4_factor_25 : decode cX4_factor 25 = .ok (.invokevirtual 58, 3) := dk_182 0 58 (dk_at dksX4_factor_1 1 rfl rfl)
theorem dX4_factor_28 : decode cX4_factor 28 = .ok (.invokevirtual 156, 3) := dk_182 0 156 (dk_at dksX4_factor_1 4 rfl rfl)
theorem dX4_factor_31 : decode cX4_factor 31 = .ok (.i2l, 1) := dk_133 (dk_at dksX4_factor_1 7 rfl rfl)
theorem dX4_factor_32 : decode cX4_factor 32 = .ok (.invokespecial 283, 3) := dk_183 1 27 (dk_at dksX4_factor_1 8 rfl rfl)
theorem dX4_factor_35 : decode cX4_factor 35 = .ok (.invokevirtual 164, 3) := dk_182 0 164 (dk_at dksX4_factor_1 11 rfl rfl)
theorem dX4_factor_38 : decode cX4_factor 38 = .ok (.areturn, 1) := dk_176 (dk_at dksX4_factor_1 14 rfl rfl)
theorem dX4_factor_39 : decode cX4_factor 39 = .ok (.aload_n 1, 1) := dk_43 (dk_at dksX4_factor_1 15 rfl rfl)
theorem dX4_factor_40 : decode cX4_factor 40 = .ok (.getfield 61, 3) := dk_180 0 61 (dk_at dksX4_factor_1 16 rfl rfl)
theorem dX4_factor_43 : decode cX4_factor 43 = .ok (.getstatic 125, 3) := dk_178 0 125 (dk_at dksX4_factor_1 19 rfl rfl)
theorem dX4_factor_46 : decode cX4_factor 46 = .ok (.if_acmp .ne 8, 3) := dk_166 0 8 (dk_at dksX4_factor_2 0 rfl rfl)
theorem dX4_factor_49 : decode cX4_factor 49 = .ok (.aload_n 0, 1) := dk_42 (dk_at dksX4_factor_2 3 rfl rfl)
theorem dX4_factor_50 : decode cX4_factor 50 = .ok (.invokevirtual 348, 3) := dk_182 1 92 (dk_at dksX4_factor_2 4 rfl rfl)
theorem dX4_factor_53 : decode cX4_factor 53 = .ok (.areturn, 1) := dk_176 (dk_at dksX4_factor_2 7 rfl rfl)
theorem dX4_factor_54 : decode cX4_factor 54 = .ok (.aload_n 0, 1) := dk_42 (dk_at dksX4_factor_2 8 rfl rfl)
theorem dX4_factor_55 : decode cX4_factor 55 = .ok (.ldc_w 351, 3) := dk_19 1 95 (dk_at dksX4_factor_2 9 rfl rfl)
theorem dX4_factor_58 : decode cX4_factor 58 = .ok (.invokevirtual 102, 3) := dk_182 0 102 (dk_at dksX4_factor_2 12 rfl rfl)
theorem dX4_factor_61 : decode cX4_factor 61 = .ok (.ifCond .eq 20, 3) := dk_153 0 20 (dk_at dksX4_factor_2 15 rfl rfl)
theorem dX4_factor_64 : decode cX4_factor 64 = .ok (.aload_n 0, 1) := dk_42 (dk_at dksX4_factor_2 18 rfl rfl)
theorem dX4_factor_65 : decode cX4_factor 65 = .ok (.new 353, 3) := dk_187 1 97 (dk_at dksX4_factor_2 19 rfl rfl)
theorem dX4_factor_68 : decode cX4_factor 68 = .ok (.dup, 1) := dk_89 (dk_at dksX4_factor_2 22 rfl rfl)
theorem dX4_factor_69 : decode cX4_factor 69 = .ok (.aload_n 1, 1) := dk_43 (dk_at dksX4_factor_2 23 rfl rfl)
theorem dX4_factor_70 : decode cX4_factor 70 = .ok (.getfield 40, 3) := dk_180 0 40 (dk_at dksX4_factor_3 0 rfl rfl)
theorem dX4_factor_73 : decode cX4_factor 73 = .ok (.iconst 1, 1) := dk_4 (dk_at dksX4_factor_3 3 rfl rfl)
theorem dX4_factor_74 : decode cX4_factor 74 = .ok (.invokespecial 355, 3) := dk_183 1 99 (dk_at dksX4_factor_3 4 rfl rfl)
theorem dX4_factor_77 : decode cX4_factor 77 = .ok (.invokevirtual 164, 3) := dk_182 0 164 (dk_at dksX4_factor_3 7 rfl rfl)
theorem dX4_factor_80 : decode cX4_factor 80 = .ok (.areturn, 1) := dk_176 (dk_at dksX4_factor_3 10 rfl rfl)
theorem dX4_factor_81 : decode cX4_factor 81 = .ok (.aload_n 0, 1) := dk_42 (dk_at dksX4_factor_3 11 rfl rfl)
theorem dX4_factor_82 : decode cX4_factor 82 = .ok (.ldc_w 358, 3) := dk_19 1 102 (dk_at dksX4_factor_3 12 rfl rfl)
theorem dX4_factor_85 : decode cX4_factor 85 = .ok (.invokevirtual 102, 3) := dk_182 0 102 (dk_at dksX4_factor_3 15 rfl rfl)
theorem dX4_factor_88 : decode cX4_factor 88 = .ok (.ifCond .eq 20, 3) := dk_153 0 20 (dk_at dksX4_factor_3 18 rfl rfl)
theorem dX4_factor_91 : decode cX4_factor 91 = .ok (.aload_n 0, 1) := dk_42 (dk_at dksX4_factor_3 21 rfl rfl)
theorem dX4_factor_92 : decode cX4_factor 92 = .ok (.new 353, 3) := dk_187 1 97 (dk_at dksX4_factor_4 0 rfl rfl)
theorem dX4_factor_95 : decode cX4_factor 95 = .ok (.dup, 1) := dk_89 (dk_at dksX4_factor_4 3 rfl rfl)
theorem dX4_factor_96 : decode cX4_factor 96 = .ok (.aload_n 1, 1) := dk_43 (dk_at dksX4_factor_4 4 rfl rfl)
theorem dX4_factor_97 : decode cX4_factor 97 = .ok (.getfield 40, 3) := dk_180 0 40 (dk_at dksX4_factor_4 5 rfl rfl)
theorem dX4_factor_100 : decode cX4_factor 100 = .ok (.iconst 0, 1) := dk_3 (dk_at dksX4_factor_4 8 rfl rfl)
theorem dX4_factor_101 : decode cX4_factor 101 = .ok (.invokespecial 355, 3) := dk_183 1 99 (dk_at dksX4_factor_4 9 rfl rfl)
theorem dX4_factor_104 : decode cX4_factor 104 = .ok (.invokevirtual 164, 3) := dk_182 0 164 (dk_at dksX4_factor_4 12 rfl rfl)
theorem dX4_factor_107 : decode cX4_factor 107 = .ok (.areturn, 1) := dk_176 (dk_at dksX4_factor_4 15 rfl rfl)
theorem dX4_factor_108 : decode cX4_factor 108 = .ok (.aload_n 1, 1) := dk_43 (dk_at dksX4_factor_4 16 rfl rfl)
theorem dX4_factor_109 : decode cX4_factor 109 = .ok (.ldc_w 360, 3) := dk_19 1 104 (dk_at dksX4_factor_4 17 rfl rfl)
theorem dX4_factor_112 : decode cX4_factor 112 = .ok (.invokevirtual 50, 3) := dk_182 0 50 (dk_at dksX4_factor_4 20 rfl rfl)
theorem dX4_factor_115 : decode cX4_factor 115 = .ok (.ifCond .eq 32, 3) := dk_153 0 32 (dk_at dksX4_factor_5 0 rfl rfl)
theorem dX4_factor_118 : decode cX4_factor 118 = .ok (.aload_n 0, 1) := dk_42 (dk_at dksX4_factor_5 3 rfl rfl)
theorem dX4_factor_119 : decode cX4_factor 119 = .ok (.invokevirtual 257, 3) := dk_182 1 1 (dk_at dksX4_factor_5 4 rfl rfl)
theorem dX4_factor_122 : decode cX4_factor 122 = .ok (.aload_n 0, 1) := dk_42 (dk_at dksX4_factor_5 7 rfl rfl)
theorem dX4_factor_123 : decode cX4_factor 123 = .ok (.invokevirtual 190, 3) := dk_182 0 190 (dk_at dksX4_factor_5 8 rfl rfl)
theorem dX4_factor_126 : decode cX4_factor 126 = .ok (.astore_n 2, 1) := dk_77 (dk_at dksX4_factor_5 11 rfl rfl)
theorem dX4_factor_127 : decode cX4_factor 127 = .ok (.aload_n 0, 1) := dk_42 (dk_at dksX4_factor_5 12 rfl rfl)
theorem dX4_factor_128 : decode cX4_factor 128 = .ok (.ldc_w 362, 3) := dk_19 1 106 (dk_at dksX4_factor_5 13 rfl rfl)
theorem dX4_factor_131 : decode cX4_factor 131 = .ok (.invokevirtual 122, 3) := dk_182 0 122 (dk_at dksX4_factor_5 16 rfl rfl)
theorem dX4_factor_134 : decode cX4_factor 134 = .ok (.pop, 1) := dk_87 (dk_at dksX4_factor_5 19 rfl rfl)
theorem dX4_factor_135 : decode cX4_factor 135 = .ok (.aload_n 0, 1) := dk_42 (dk_at dksX4_factor_5 20 rfl rfl)
theorem dX4_factor_136 : decode cX4_factor 136 = .ok (.dup, 1) := dk_89 (dk_at dksX4_factor_5 21 rfl rfl)
theorem dX4_factor_137 : decode cX4_factor 137 = .ok (.getfield 65, 3) := dk_180 0 65 (dk_at dksX4_factor_6 0 rfl rfl)
theorem dX4_factor_140 : decode cX4_factor 140 = .ok (.iconst 1, 1) := dk_4 (dk_at dksX4_factor_6 3 rfl rfl)
theorem dX4_factor_141 : decode cX4_factor 141 = .ok (.isub, 1) := dk_100 (dk_at dksX4_factor_6 4 rfl rfl)
theorem dX4_factor_142 : decode cX4_factor 142 = .ok (.putfield 65, 3) := dk_181 0 65 (dk_at dksX4_factor_6 5 rfl rfl)
theorem dX4_factor_145 : decode cX4_factor 145 = .ok (.aload_n 2, 1) := dk_44 (dk_at dksX4_factor_6 8 rfl rfl)
theorem dX4_factor_146 : decode cX4_factor 146 = .ok (.areturn, 1) := dk_176 (dk_at dksX4_factor_6 9 rfl rfl)
theorem dX4_factor_147 : decode cX4_factor 147 = .ok (.aload_n 1, 1) := dk_43 (dk_at dksX4_factor_6 10 rfl rfl)
theorem dX4_factor_148 : decode cX4_factor 148 = .ok (.invokestatic 364, 3) := dk_184 1 108 (dk_at dksX4_factor_6 11 rfl rfl)
theorem dX4_factor_151 : decode cX4_factor 151 = .ok (.astore_n 2, 1) := dk_77 (dk_at dksX4_factor_6 14 rfl rfl)
theorem dX4_factor_152 : decode cX4_factor 152 = .ok (.aload_n 2, 1) := dk_44 (dk_at dksX4_factor_6 15 rfl rfl)
theorem dX4_factor_153 : decode cX4_factor 153 = .ok (.ifnull 24, 3) := dk_198 0 24 (dk_at dksX4_factor_6 16 rfl rfl)
theorem dX4_factor_156 : decode cX4_factor 156 = .ok (.aload_n 0, 1) := dk_42 (dk_at dksX4_factor_6 19 rfl rfl)
theorem dX4_factor_157 : decode cX4_factor 157 = .ok (.new 368, 3) := dk_187 1 112 (dk_at dksX4_factor_6 20 rfl rfl)
theorem dX4_factor_160 : decode cX4_factor 160 = .ok (.dup, 1) := dk_89 (dk_at dksX4_factor_6 23 rfl rfl)
theorem dX4_factor_161 : decode cX4_factor 161 = .ok (.aload_n 1, 1) := dk_43 (dk_at dksX4_factor_7 0 rfl rfl)
theorem dX4_factor_162 : decode cX4_factor 162 = .ok (.getfield 40, 3) := dk_180 0 40 (dk_at dksX4_factor_7 1 rfl rfl)
theorem dX4_factor_165 : decode cX4_factor 165 = .ok (.aload_n 2, 1) := dk_44 (dk_at dksX4_factor_7 4 rfl rfl)
theorem dX4_factor_166 : decode cX4_factor 166 = .ok (.aload_n 0, 1) := dk_42 (dk_at dksX4_factor_7 5 rfl rfl)
theorem dX4_factor_167 : decode cX4_factor 167 = .ok (.invokevirtual 370, 3) := dk_182 1 114 (dk_at dksX4_factor_7 6 rfl rfl)
theorem dX4_factor_170 : decode cX4_factor 170 = .ok (.invokespecial 373, 3) := dk_183 1 117 (dk_at dksX4_factor_7 9 rfl rfl)
theorem dX4_factor_173 : decode cX4_factor 173 = .ok (.invokevirtual 164, 3) := dk_182 0 164 (dk_at dksX4_factor_7 12 rfl rfl)
theorem dX4_factor_176 : decode cX4_factor 176 = .ok (.areturn, 1) := dk_176 (dk_at dksX4_factor_7 15 rfl rfl)
theorem dX4_factor_177 : decode cX4_factor 177 = .ok (.aload_n 0, 1) := dk_42 (dk_at dksX4_factor_7 16 rfl rfl)
theorem dX4_factor_178 : decode cX4_factor 178 = .ok (.ldc_w 376, 3) := dk_19 1 120 (dk_at dksX4_factor_7 17 rfl rfl)
theorem dX4_factor_181 : decode cX4_factor 181 = .ok (.invokevirtual 102, 3) := dk_182 0 102 (dk_at dksX4_factor_7 20 rfl rfl)
theorem dX4_factor_184 : decode cX4_factor 184 = .ok (.ifCond .eq 23, 3) := dk_153 0 23 (dk_at dksX4_factor_8 0 rfl rfl)
theorem dX4_factor_187 : decode cX4_factor 187 = .ok (.aload_n 0, 1) := dk_42 (dk_at dksX4_factor_8 3 rfl rfl)
theorem dX4_factor_188 : decode cX4_factor 188 = .ok (.new 378, 3) := dk_187 1 122 (dk_at dksX4_factor_8 4 rfl rfl)
theorem dX4_factor_191 : decode cX4_factor 191 = .ok (.dup, 1) := dk_89 (dk_at dksX4_factor_8 7 rfl rfl)
theorem dX4_factor_192 : decode cX4_factor 192 = .ok (.aload_n 1, 1) := dk_43 (dk_at dksX4_factor_8 8 rfl rfl)
theorem dX4_factor_193 : decode cX4_factor 193 = .ok (.getfield 40, 3) := dk_180 0 40 (dk_at dksX4_factor_8 9 rfl rfl)
theorem dX4_factor_196 : decode cX4_factor 196 = .ok (.aload_n 0, 1) := dk_42 (dk_at dksX4_factor_8 12 rfl rfl)
theorem dX4_factor_197 : decode cX4_factor 197 = .ok (.invokevirtual 276, 3) := dk_182 1 20 (dk_at dksX4_factor_8 13 rfl rfl)
theorem dX4_factor_200 : decode cX4_factor 200 = .ok (.invokespecial 380, 3) := dk_183 1 124 (dk_at dksX4_factor_8 16 rfl rfl)
theorem dX4_factor_203 : decode cX4_factor 203 = .ok (.invokevirtual 164, 3) := dk_182 0 164 (dk_at dksX4_factor_8 19 rfl rfl)
theorem dX4_factor_206 : decode cX4_factor 206 = .ok (.areturn, 1) := dk_176 (dk_at dksX4_factor_8 22 rfl rfl)
theorem dX4_factor_207 : decode cX4_factor 207 = .ok (.aload_n 0, 1) := dk_42 (dk_at dksX4_factor_8 23 rfl rfl)
theorem dX4_factor_208 : decode cX4_factor 208 = .ok (.ldc_w 381, 3) := dk_19 1 125 (dk_at dksX4_factor_9 0 rfl rfl)
theorem dX4_factor_211 : decode cX4_factor 211 = .ok (.invokevirtual 102, 3) := dk_182 0 102 (dk_at dksX4_factor_9 3 rfl rfl)
theorem dX4_factor_214 : decode cX4_factor 214 = .ok (.ifCond .eq 23, 3) := dk_153 0 23 (dk_at dksX4_factor_9 6 rfl rfl)
theorem dX4_factor_217 : decode cX4_factor 217 = .ok (.aload_n 0, 1) := dk_42 (dk_at dksX4_factor_9 9 rfl rfl)
theorem dX4_factor_218 : decode cX4_factor 218 = .ok (.new 383, 3) := dk_187 1 127 (dk_at dksX4_factor_9 10 rfl rfl)
theorem dX4_factor_221 : decode cX4_factor 221 = .ok (.dup, 1) := dk_89 (dk_at dksX4_factor_9 13 rfl rfl)
theorem dX4_factor_222 : decode cX4_factor 222 = .ok (.aload_n 1, 1) := dk_43 (dk_at dksX4_factor_9 14 rfl rfl)
theorem dX4_factor_223 : decode cX4_factor 223 = .ok (.getfield 40, 3) := dk_180 0 40 (dk_at dksX4_factor_9 15 rfl rfl)
theorem dX4_factor_226 : decode cX4_factor 226 = .ok (.aload_n 0, 1) := dk_42 (dk_at dksX4_factor_9 18 rfl rfl)
theorem dX4_factor_227 : decode cX4_factor 227 = .ok (.invokevirtual 276, 3) := dk_182 1 20 (dk_at dksX4_factor_9 19 rfl rfl)
theorem dX4_factor_230 : decode cX4_factor 230 = .ok (.invokespecial 385, 3) := dk_183 1 129 (dk_at dksX4_factor_10 0 rfl rfl)
theorem dX4_factor_233 : decode cX4_factor 233 = .ok (.invokevirtual 164, 3) := dk_182 0 164 (dk_at dksX4_factor_10 3 rfl rfl)
theorem dX4_factor_236 : decode cX4_factor 236 = .ok (.areturn, 1) := dk_176 (dk_at dksX4_factor_10 6 rfl rfl)
theorem dX4_factor_237 : decode cX4_factor 237 = .ok (.aload_n 1, 1) := dk_43 (dk_at dksX4_factor_10 7 rfl rfl)
theorem dX4_factor_238 : decode cX4_factor 238 = .ok (.ldc_w 386, 3) := dk_19 1 130 (dk_at dksX4_factor_10 8 rfl rfl)
theorem dX4_factor_241 : decode cX4_factor 241 = .ok (.invokevirtual 50, 3) := dk_182 0 50 (dk_at dksX4_factor_10 11 rfl rfl)
theorem dX4_factor_244 : decode cX4_factor 244 = .ok (.ifCond .eq 9, 3) := dk_153 0 9 (dk_at dksX4_factor_10 14 rfl rfl)
theorem dX4_factor_247 : decode cX4_factor 247 = .ok (.aload_n 0, 1) := dk_42 (dk_at dksX4_factor_10 17 rfl rfl)
theorem dX4_factor_248 : decode cX4_factor 248 = .ok (.aload_n 1, 1) := dk_43 (dk_at dksX4_factor_10 18 rfl rfl)
theorem dX4_factor_249 : decode cX4_factor 249 = .ok (.invokevirtual 387, 3) := dk_182 1 131 (dk_at dksX4_factor_10 19 rfl rfl)
theorem dX4_factor_252 : decode cX4_factor 252 = .ok (.areturn, 1) := dk_176 (dk_at dksX4_factor_10 22 rfl rfl)
theorem dX4_factor_253 : decode cX4_factor 253 = .ok (.aload_n 0, 1) := dk_42 (dk_at dksX4_factor_10 23 rfl rfl)
theorem dX4_factor_254 : decode cX4_factor 254 = .ok (.ldc_w 390, 3) := dk_19 1 134 (dk_at dksX4_factor_11 0 rfl rfl)
theorem dX4_factor_257 : decode cX4_factor 257 = .ok (.invokevirtual 102, 3) := dk_182 0 102 (dk_at dksX4_factor_11 3 rfl rfl)
theorem dX4_factor_260 : decode cX4_factor 260 = .ok (.ifCond .ne 8, 3) := dk_154 0 8 (dk_at dksX4_factor_11 6 rfl rfl)
theorem dX4_factor_263 : decode cX4_factor 263 = .ok (.aload_n 0, 1) := dk_42 (dk_at dksX4_factor_11 9 rfl rfl)
theorem dX4_factor_264 : decode cX4_factor 264 = .ok (.invokevirtual 54, 3) := dk_182 0 54 (dk_at dksX4_factor_11 10 rfl rfl)
theorem dX4_factor_267 : decode cX4_factor 267 = .ok (.athrow, 1) := dk_191 (dk_at dksX4_factor_11 13 rfl rfl)
theorem dX4_factor_268 : decode cX4_factor 268 = .ok (.aload_n 0, 1) := dk_42 (dk_at dksX4_factor_11 14 rfl rfl)
theorem dX4_factor_269 : decode cX4_factor 269 = .ok (.invokevirtual 276, 3) := dk_182 1 20 (dk_at dksX4_factor_11 15 rfl rfl)
theorem dX4_factor_272 : decode cX4_factor 272 = .ok (.astore_n 3, 1) := dk_78 (dk_at dksX4_factor_11 18 rfl rfl)
theorem dX4_factor_273 : decode cX4_factor 273 = .ok (.aload_n 0, 1) := dk_42 (dk_at dksX4_factor_11 19 rfl rfl)
theorem dX4_factor_274 : decode cX4_factor 274 = .ok (.invokevirtual 36, 3) := dk_182 0 36 (dk_at dksX4_factor_11 20 rfl rfl)
theorem dX4_factor_277 : decode cX4_factor 277 = .ok (.ldc_w 392, 3) := dk_19 1 136 (dk_at dksX4_factor_12 0 rfl rfl)
theorem dX4_factor_280 : decode cX4_factor 280 = .ok (.invokevirtual 50, 3) := dk_182 0 50 (dk_at dksX4_factor_12 3 rfl rfl)
theorem dX4_factor_283 : decode cX4_factor 283 = .ok (.ifCond .ne 8, 3) := dk_154 0 8 (dk_at dksX4_factor_12 6 rfl rfl)
theorem dX4_factor_286 : decode cX4_factor 286 = .ok (.aload_n 0, 1) := dk_42 (dk_at dksX4_factor_12 9 rfl rfl)
theorem dX4_factor_287 : decode cX4_factor 287 = .ok (.invokevirtual 54, 3) := dk_182 0 54 (dk_at dksX4_factor_12 10 rfl rfl)
theorem dX4_factor_290 : decode cX4_factor 290 = .ok (.athrow, 1) := dk_191 (dk_at dksX4_factor_12 13 rfl rfl)
theorem dX4_factor_291 : decode cX4_factor 291 = .ok (.aload_n 0, 1) := dk_42 (dk_at dksX4_factor_12 14 rfl rfl)
theorem dX4_factor_292 : decode cX4_factor 292 = .ok (.invokevirtual 370, 3) := dk_182 1 114 (dk_at dksX4_factor_12 15 rfl rfl)
theorem dX4_factor_295 : decode cX4_factor 295 = .ok (.astore 4, 2) := dk_58 4 (dk_at dksX4_factor_12 18 rfl rfl)
theorem dX4_factor_297 : decode cX4_factor 297 = .ok (.aload_n 0, 1) := dk_42 (dk_at dksX4_factor_12 20 rfl rfl)
theorem dX4_factor_298 : decode cX4_factor 298 = .ok (.invokevirtual 36, 3) := dk_182 0 36 (dk_at dksX4_factor_12 21 rfl rfl)
theorem dX4_factor_301 : decode cX4_factor 301 = .ok (.ldc_w 394, 3) := dk_19 1 138 (dk_at dksX4_factor_13 0 rfl rfl)
theorem dX4_factor_304 : decode cX4_factor 304 = .ok (.invokevirtual 50, 3) := dk_182 0 50 (dk_at dksX4_factor_13 3 rfl rfl)
theorem dX4_factor_307 : decode cX4_factor 307 = .ok (.ifCond .ne 8, 3) := dk_154 0 8 (dk_at dksX4_factor_13 6 rfl rfl)
theorem dX4_factor_310 : decode cX4_factor 310 = .ok (.aload_n 0, 1) := dk_42 (dk_at dksX4_factor_13 9 rfl rfl)
theorem dX4_factor_311 : decode cX4_factor 311 = .ok (.invokevirtual 54, 3) := dk_182 0 54 (dk_at dksX4_factor_13 10 rfl rfl)
theorem dX4_factor_314 : decode cX4_factor 314 = .ok (.athrow, 1) := dk_191 (dk_at dksX4_factor_13 13 rfl rfl)
theorem dX4_factor_315 : decode cX4_factor 315 = .ok (.aload_n 0, 1) := dk_42 (dk_at dksX4_factor_13 14 rfl rfl)
theorem dX4_factor_316 : decode cX4_factor 316 = .ok (.new 396, 3) := dk_187 1 140 (dk_at dksX4_factor_13 15 rfl rfl)
theorem dX4_factor_319 : decode cX4_factor 319 = .ok (.dup, 1) := dk_89 (dk_at dksX4_factor_13 18 rfl rfl)
theorem dX4_factor_320 : decode cX4_factor 320 = .ok (.aload_n 1, 1) := dk_43 (dk_at dksX4_factor_13 19 rfl rfl)
theorem dX4_factor_321 : decode cX4_factor 321 = .ok (.getfield 40, 3) := dk_180 0 40 (dk_at dksX4_factor_13 20 rfl rfl)
theorem dX4_factor_324 : decode cX4_factor 324 = .ok (.aload_n 3, 1) := dk_45 (dk_at dksX4_factor_13 23 rfl rfl)
theorem dX4_factor_325 : decode cX4_factor 325 = .ok (.aload 4, 2) := dk_25 4 (dk_at dksX4_factor_14 0 rfl rfl)
theorem dX4_factor_327 : decode cX4_factor 327 = .ok (.aload_n 0, 1) := dk_42 (dk_at dksX4_factor_14 2 rfl rfl)
theorem dX4_factor_328 : decode cX4_factor 328 = .ok (.invokevirtual 370, 3) := dk_182 1 114 (dk_at dksX4_factor_14 3 rfl rfl)
theorem dX4_factor_331 : decode cX4_factor 331 = .ok (.invokespecial 398, 3) := dk_183 1 142 (dk_at dksX4_factor_14 6 rfl rfl)
theorem dX4_factor_334 : decode cX4_factor 334 = .ok (.invokevirtual 164, 3) := dk_182 0 164 (dk_at dksX4_factor_14 9 rfl rfl)
theorem dX4_factor_337 : decode cX4_factor 337 = .ok (.areturn, 1) := dk_176 (dk_at dksX4_factor_14 12 rfl rfl)
abbrev cX4_named : ByteArray := prog_22_method_31_code
def yX4_named : MethodName := ⟨RX4, "named", "()LPastWatch$Node;"⟩
def dkwX4_named_2 : List UInt8 := [180, 0, 40, 44, 183, 1, 36, 182, 0, 164, 176]
abbrev dktX4_named_2 : List UInt8 := dkwX4_named_2 ++ []
def dkwX4_named_1 : List UInt8 := [44, 198, 0, 7, 4, 167, 0, 4, 3, 5, 43, 180, 0, 40, 182, 0, 92, 42, 187, 1, 34, 89, 43]
abbrev dktX4_named_1 : List UInt8 := dkwX4_named_1 ++ dktX4_named_2
def dkwX4_named_0 : List UInt8 := [42, 182, 0, 58, 76, 42, 180, 0, 15, 180, 0, 169, 43, 180, 0, 131, 182, 1, 31, 192, 0, 222, 77, 42]
abbrev dktX4_named_0 : List UInt8 := dkwX4_named_0 ++ dktX4_named_1
theorem dksX4_named_0 : cX4_named.data.toList.drop 0 = dktX4_named_0 := by decide +kernel
theorem dksX4_named_1 : cX4_named.data.toList.drop 24 = dktX4_named_1 := dk_seg dksX4_named_0 24 rfl rfl
theorem dksX4_named_2 : cX4_named.data.toList.drop 47 = dktX4_named_2 := dk_seg dksX4_named_1 23 rfl rfl
theorem dX4_named_0 : decode cX4_named 0 = .ok (.aload_n 0, 1) := dk_42 (dk_at dksX4_named_0 0 rfl rfl)
theorem dX4_named_1 : decode cX4_named 1 = .ok (.invokevirtual 58, 3) := dk_182 0 58 (dk_at dksX4_named_0 1 rfl rfl)
theorem dX4_named_4 : decode cX4_named 4 = .ok (.astore_n 1, 1) := dk_76 (dk_at dksX4_named_0 4 rfl rfl)
theorem dX4_named_5 : decode cX4_named 5 = .ok (.aload_n 0, 1) := dk_42 (dk_at dksX4_named_0 5 rfl rfl)
theorem dX4_named_6 : decode cX4_named 6 = .ok (.getfield 15, 3) := dk_180 0 15 (dk_at dksX4_named_0 6 rfl rfl)
theorem dX4_named_9 : decode cX4_named 9 = .ok (.getfield 169, 3) := dk_180 0 169 (dk_at dksX4_named_0 9 rfl rfl)
theorem dX4_named_12 : decode cX4_named 12 = .ok (.aload_n 1, 1) := dk_43 (dk_at dksX4_named_0 12 rfl rfl)
theorem dX4_named_13 : decode cX4_named 13 = .ok (.getfield 131, 3) := dk_180 0 131 (dk_at dksX4_named_0 13 rfl rfl)
theorem dX4_named_16 : decode cX4_named 16 = .ok (.invokevirtual 287, 3) := dk_182 1 31 (dk_at dksX4_named_0 16 rfl rfl)
theorem dX4_named_19 : decode cX4_named 19 = .ok (.checkcast 222, 3) := dk_192 0 222 (dk_at dksX4_named_0 19 rfl rfl)
theorem dX4_named_22 : decode cX4_named 22 = .ok (.astore_n 2, 1) := dk_77 (dk_at dksX4_named_0 22 rfl rfl)
theorem dX4_named_23 : decode cX4_named 23 = .ok (.aload_n 0, 1) := dk_42 (dk_at dksX4_named_0 23 rfl rfl)
theorem dX4_named_24 : decode cX4_named 24 = .ok (.aload_n 2, 1) := dk_44 (dk_at dksX4_named_1 0 rfl rfl)
theorem dX4_named_25 : decode cX4_named 25 = .ok (.ifnull 7, 3) := dk_198 0 7 (dk_at dksX4_named_1 1 rfl rfl)
theorem dX4_named_28 : decode cX4_named 28 = .ok (.iconst 1, 1) := dk_4 (dk_at dksX4_named_1 4 rfl rfl)
theorem dX4_named_29 : decode cX4_named 29 = .ok (.goto 4, 3) := dk_167 0 4 (dk_at dksX4_named_1 5 rfl rfl)
theorem dX4_named_32 : decode cX4_named 32 = .ok (.iconst 0, 1) := dk_3 (dk_at dksX4_named_1 8 rfl rfl)
theorem dX4_named_33 : decode cX4_named 33 = .ok (.iconst 2, 1) := dk_5 (dk_at dksX4_named_1 9 rfl rfl)
theorem dX4_named_34 : decode cX4_named 34 = .ok (.aload_n 1, 1) := dk_43 (dk_at dksX4_named_1 10 rfl rfl)
theorem dX4_named_35 : decode cX4_named 35 = .ok (.getfield 40, 3) := dk_180 0 40 (dk_at dksX4_named_1 11 rfl rfl)
theorem dX4_named_38 : decode cX4_named 38 = .ok (.invokevirtual 92, 3) := dk_182 0 92 (dk_at dksX4_named_1 14 rfl rfl)
theorem dX4_named_41 : decode cX4_named 41 = .ok (.aload_n 0, 1) := dk_42 (dk_at dksX4_named_1 17 rfl rfl)
theorem dX4_named_42 : decode cX4_named 42 = .ok (.new 290, 3) := dk_187 1 34 (dk_at dksX4_named_1 18 rfl rfl)
theorem dX4_named_45 : decode cX4_named 45 = .ok (.dup, 1) := dk_89 (dk_at dksX4_named_1 21 rfl rfl)
theorem dX4_named_46 : decode cX4_named 46 = .ok (.aload_n 1, 1) := dk_43 (dk_at dksX4_named_1 22 rfl rfl)
theorem dX4_named_47 : decode cX4_named 47 = .ok (.getfield 40, 3) := dk_180 0 40 (dk_at dksX4_named_2 0 rfl rfl)
theorem dX4_named_50 : decode cX4_named 50 = .ok (.aload_n 2, 1) := dk_44 (dk_at dksX4_named_2 3 rfl rfl)
theorem dX4_named_51 : decode cX4_named 51 = .ok (.invokespecial 292, 3) := dk_183 1 36 (dk_at dksX4_named_2 4 rfl rfl)
theorem dX4_named_54 : decode cX4_named 54 = .ok (.invokevirtual 164, 3) := dk_182 0 164 (dk_at dksX4_named_2 7 rfl rfl)
theorem dX4_named_57 : decode cX4_named 57 = .ok (.areturn, 1) := dk_176 (dk_at dksX4_named_2 10 rfl rfl)
abbrev cX4_over : ByteArray := prog_22_method_27_code
def yX4_over : MethodName := ⟨RX4, "over", "(LPastWatch$Token;)LPastWatch$Over;"⟩
def dkwX4_over_3 : List UInt8 := [167, 0, 4, 1, 176]
abbrev dktX4_over_3 : List UInt8 := dkwX4_over_3 ++ []
def dkwX4_over_2 : List UInt8 := [182, 0, 50, 153, 0, 7, 178, 1, 84, 176, 42, 19, 1, 87, 182, 0, 50, 153, 0, 9, 178, 1, 89]
abbrev dktX4_over_2 : List UInt8 := dkwX4_over_2 ++ dktX4_over_3
def dkwX4_over_1 : List UInt8 := [178, 1, 74, 176, 42, 19, 1, 77, 182, 0, 50, 153, 0, 7, 178, 1, 79, 176, 42, 19, 1, 82]
abbrev dktX4_over_1 : List UInt8 := dkwX4_over_1 ++ dktX4_over_2
def dkwX4_over_0 : List UInt8 := [42, 18, 151, 182, 0, 50, 153, 0, 7, 178, 1, 66, 176, 42, 19, 1, 72, 182, 0, 50, 153, 0, 7]
abbrev dktX4_over_0 : List UInt8 := dkwX4_over_0 ++ dktX4_over_1
theorem dksX4_over_0 : cX4_over.data.toList.drop 0 = dktX4_over_0 := by decide +kernel
theorem dksX4_over_1 : cX4_over.data.toList.drop 23 = dktX4_over_1 := dk_seg dksX4_over_0 23 rfl rfl
theorem dksX4_over_2 : cX4_over.data.toList.drop 45 = dktX4_over_2 := dk_seg dksX4_over_1 22 rfl rfl
theorem dksX4_over_3 : cX4_over.data.toList.drop 68 = dktX4_over_3 := dk_seg dksX4_over_2 23 rfl rfl
theorem dX4_over_0 : decode cX4_over 0 = .ok (.aload_n 0, 1) := dk_42 (dk_at dksX4_over_0 0 rfl rfl)
theorem dX4_over_1 : decode cX4_over 1 = .ok (.ldc 151, 2) := dk_18 151 (dk_at dksX4_over_0 1 rfl rfl)
theorem dX4_over_3 : decode cX4_over 3 = .ok (.invokevirtual 50, 3) := dk_182 0 50 (dk_at dksX4_over_0 3 rfl rfl)
theorem dX4_over_6 : decode cX4_over 6 = .ok (.ifCond .eq 7, 3) := dk_153 0 7 (dk_at dksX4_over_0 6 rfl rfl)
theorem dX4_over_9 : decode cX4_over 9 = .ok (.getstatic 322, 3) := dk_178 1 66 (dk_at dksX4_over_0 9 rfl rfl)
theorem dX4_over_12 : decode cX4_over 12 = .ok (.areturn, 1) := dk_176 (dk_at dksX4_over_0 12 rfl rfl)
theorem dX4_over_13 : decode cX4_over 13 = .ok (.aload_n 0, 1) := dk_42 (dk_at dksX4_over_0 13 rfl rfl)
theorem dX4_over_14 : decode cX4_over 14 = .ok (.ldc_w 328, 3) := dk_19 1 72 (dk_at dksX4_over_0 14 rfl rfl)
theorem dX4_over_17 : decode cX4_over 17 = .ok (.invokevirtual 50, 3) := dk_182 0 50 (dk_at dksX4_over_0 17 rfl rfl)
theorem dX4_over_20 : decode cX4_over 20 = .ok (.ifCond .eq 7, 3) := dk_153 0 7 (dk_at dksX4_over_0 20 rfl rfl)
theorem dX4_over_23 : decode cX4_over 23 = .ok (.getstatic 330, 3) := dk_178 1 74 (dk_at dksX4_over_1 0 rfl rfl)
theorem dX4_over_26 : decode cX4_over 26 = .ok (.areturn, 1) := dk_176 (dk_at dksX4_over_1 3 rfl rfl)
theorem dX4_over_27 : decode cX4_over 27 = .ok (.aload_n 0, 1) := dk_42 (dk_at dksX4_over_1 4 rfl rfl)
theorem dX4_over_28 : decode cX4_over 28 = .ok (.ldc_w 333, 3) := dk_19 1 77 (dk_at dksX4_over_1 5 rfl rfl)
theorem dX4_over_31 : decode cX4_over 31 = .ok (.invokevirtual 50, 3) := dk_182 0 50 (dk_at dksX4_over_1 8 rfl rfl)
theorem dX4_over_34 : decode cX4_over 34 = .ok (.ifCond .eq 7, 3) := dk_153 0 7 (dk_at dksX4_over_1 11 rfl rfl)
theorem dX4_over_37 : decode cX4_over 37 = .ok (.getstatic 335, 3) := dk_178 1 79 (dk_at dksX4_over_1 14 rfl rfl)
theorem dX4_over_40 : decode cX4_over 40 = .ok (.areturn, 1) := dk_176 (dk_at dksX4_over_1 17 rfl rfl)
theorem dX4_over_41 : decode cX4_over 41 = .ok (.aload_n 0, 1) := dk_42 (dk_at dksX4_over_1 18 rfl rfl)
theorem dX4_over_42 : decode cX4_over 42 = .ok (.ldc_w 338, 3) := dk_19 1 82 (dk_at dksX4_over_1 19 rfl rfl)
theorem dX4_over_45 : decode cX4_over 45 = .ok (.invokevirtual 50, 3) := dk_182 0 50 (dk_at dksX4_over_2 0 rfl rfl)
theorem dX4_over_48 : decode cX4_over 48 = .ok (.ifCond .eq 7, 3) := dk_153 0 7 (dk_at dksX4_over_2 3 rfl rfl)
theorem dX4_over_51 : decode cX4_over 51 = .ok (.getstatic 340, 3) := dk_178 1 84 (dk_at dksX4_over_2 6 rfl rfl)
theorem dX4_over_54 : decode cX4_over 54 = .ok (.areturn, 1) := dk_176 (dk_at dksX4_over_2 9 rfl rfl)
theorem dX4_over_55 : decode cX4_over 55 = .ok (.aload_n 0, 1) := dk_42 (dk_at dksX4_over_2 10 rfl rfl)
theorem dX4_over_56 : decode cX4_over 56 = .ok (.ldc_w 343, 3) := dk_19 1 87 (dk_at dksX4_over_2 11 rfl rfl)
theorem dX4_over_59 : decode cX4_over 59 = .ok (.invokevirtual 50, 3) := dk_182 0 50 (dk_at dksX4_over_2 14 rfl rfl)
theorem dX4_over_62 : decode cX4_over 62 = .ok (.ifCond .eq 9, 3) := dk_153 0 9 (dk_at dksX4_over_2 17 rfl rfl)
theorem dX4_over_65 : decode cX4_over 65 = .ok (.getstatic 345, 3) := dk_178 1 89 (dk_at dksX4_over_2 20 rfl rfl)
theorem dX4_over_68 : decode cX4_over 68 = .ok (.goto 4, 3) := dk_167 0 4 (dk_at dksX4_over_3 0 rfl rfl)
theorem dX4_over_71 : decode cX4_over 71 = .ok (.aconst_null, 1) := dk_1 (dk_at dksX4_over_3 3 rfl rfl)
theorem dX4_over_72 : decode cX4_over 72 = .ok (.areturn, 1) := dk_176 (dk_at dksX4_over_3 4 rfl rfl)
abbrev cX4_operand : ByteArray := prog_22_method_29_code
def yX4_operand : MethodName := ⟨RX4, "operand", "()LPastWatch$Node;"⟩
def dkwX4_operand_0 : List UInt8 := [42, 182, 1, 1, 42, 182, 1, 60, 76, 42, 89, 180, 0, 65, 4, 100, 181, 0, 65, 43, 176]
abbrev dktX4_operand_0 : List UInt8 := dkwX4_operand_0 ++ []
theorem dksX4_operand_0 : cX4_operand.data.toList.drop 0 = dktX4_operand_0 := by decide +kernel
theorem dX4_operand_0 : decode cX4_operand 0 = .ok (.aload_n 0, 1) := dk_42 (dk_at dksX4_operand_0 0 rfl rfl)
theorem dX4_operand_1 : decode cX4_operand 1 = .ok (.invokevirtual 257, 3) := dk_182 1 1 (dk_at dksX4_operand_0 1 rfl rfl)
theorem dX4_operand_4 : decode cX4_operand 4 = .ok (.aload_n 0, 1) := dk_42 (dk_at dksX4_operand_0 4 rfl rfl)
theorem dX4_operand_5 : decode cX4_operand 5 = .ok (.invokevirtual 316, 3) := dk_182 1 60 (dk_at dksX4_operand_0 5 rfl rfl)
theorem dX4_operand_8 : decode cX4_operand 8 = .ok (.astore_n 1, 1) := dk_76 (dk_at dksX4_operand_0 8 rfl rfl)
theorem dX4_operand_9 : decode cX4_operand 9 = .ok (.aload_n 0, 1) := dk_42 (dk_at dksX4_operand_0 9 rfl rfl)
theorem dX4_operand_10 : decode cX4_operand 10 = .ok (.dup, 1) := dk_89 (dk_at dksX4_operand_0 10 rfl rfl)
theorem dX4_operand_11 : decode cX4_operand 11 = .ok (.getfield 65, 3) := dk_180 0 65 (dk_at dksX4_operand_0 11 rfl rfl)
theorem dX4_operand_14 : decode cX4_operand 14 = .ok (.iconst 1, 1) := dk_4 (dk_at dksX4_operand_0 14 rfl rfl)
theorem dX4_operand_15 : decode cX4_operand 15 = .ok (.isub, 1) := dk_100 (dk_at dksX4_operand_0 15 rfl rfl)
theorem dX4_operand_16 : decode cX4_operand 16 = .ok (.putfield 65, 3) := dk_181 0 65 (dk_at dksX4_operand_0 16 rfl rfl)
theorem dX4_operand_19 : decode cX4_operand 19 = .ok (.aload_n 1, 1) := dk_43 (dk_at dksX4_operand_0 19 rfl rfl)
theorem dX4_operand_20 : decode cX4_operand 20 = .ok (.areturn, 1) := dk_176 (dk_at dksX4_operand_0 20 rfl rfl)
abbrev cX4_at : ByteArray := prog_22_method_30_code
def yX4_at : MethodName := ⟨RX4, "at", "(LPastWatch$Token;)LPastWatch$Node;"⟩
def dkwX4_at_3 : List UInt8 := [42, 182, 1, 114, 183, 1, 147, 182, 0, 164, 176]
abbrev dktX4_at_3 : List UInt8 := dkwX4_at_3 ++ []
def dkwX4_at_2 : List UInt8 := [19, 1, 52, 182, 0, 50, 154, 0, 8, 42, 182, 0, 54, 191, 42, 187, 1, 145, 89, 43, 180, 0, 40, 44]
abbrev dktX4_at_2 : List UInt8 := dkwX4_at_2 ++ dktX4_at_3
def dkwX4_at_1 : List UInt8 := [182, 1, 1, 42, 182, 0, 96, 77, 42, 89, 180, 0, 65, 4, 100, 181, 0, 65, 42, 182, 0, 36]
abbrev dktX4_at_1 : List UInt8 := dkwX4_at_1 ++ dktX4_at_2
def dkwX4_at_0 : List UInt8 := [42, 182, 0, 58, 87, 42, 182, 0, 36, 19, 1, 18, 182, 0, 50, 154, 0, 8, 42, 182, 0, 54, 191, 42]
abbrev dktX4_at_0 : List UInt8 := dkwX4_at_0 ++ dktX4_at_1
theorem dksX4_at_0 : cX4_at.data.toList.drop 0 = dktX4_at_0 := by decide +kernel
theorem dksX4_at_1 : cX4_at.data.toList.drop 24 = dktX4_at_1 := dk_seg dksX4_at_0 24 rfl rfl
theorem dksX4_at_2 : cX4_at.data.toList.drop 46 = dktX4_at_2 := dk_seg dksX4_at_1 22 rfl rfl
theorem dksX4_at_3 : cX4_at.data.toList.drop 70 = dktX4_at_3 := dk_seg dksX4_at_2 24 rfl rfl
theorem dX4_at_0 : decode cX4_at 0 = .ok (.aload_n 0, 1) := dk_42 (dk_at dksX4_at_0 0 rfl rfl)
theorem dX4_at_1 : decode cX4_at 1 = .ok (.invokevirtual 58, 3) := dk_182 0 58 (dk_at dksX4_at_0 1 rfl rfl)
theorem dX4_at_4 : decode cX4_at 4 = .ok (.pop, 1) := dk_87 (dk_at dksX4_at_0 4 rfl rfl)
theorem dX4_at_5 : decode cX4_at 5 = .ok (.aload_n 0, 1) := dk_42 (dk_at dksX4_at_0 5 rfl rfl)
theorem dX4_at_6 : decode cX4_at 6 = .ok (.invokevirtual 36, 3) := dk_182 0 36 (dk_at dksX4_at_0 6 rfl rfl)
theorem dX4_at_9 : decode cX4_at 9 = .ok (.ldc_w 274, 3) := dk_19 1 18 (dk_at dksX4_at_0 9 rfl rfl)
theorem dX4_at_12 : decode cX4_at 12 = .ok (.invokevirtual 50, 3) := dk_182 0 50 (dk_at dksX4_at_0 12 rfl rfl)
theorem dX4_at_15 : decode cX4_at 15 = .ok (.ifCond .ne 8, 3) := dk_154 0 8 (dk_at dksX4_at_0 15 rfl rfl)
theorem dX4_at_18 : decode cX4_at 18 = .ok (.aload_n 0, 1) := dk_42 (dk_at dksX4_at_0 18 rfl rfl)
theorem dX4_at_19 : decode cX4_at 19 = .ok (.invokevirtual 54, 3) := dk_182 0 54 (dk_at dksX4_at_0 19 rfl rfl)
theorem dX4_at_22 : decode cX4_at 22 = .ok (.athrow, 1) := dk_191 (dk_at dksX4_at_0 22 rfl rfl)
theorem dX4_at_23 : decode cX4_at 23 = .ok (.aload_n 0, 1) := dk_42 (dk_at dksX4_at_0 23 rfl rfl)
theorem dX4_at_24 : decode cX4_at 24 = .ok (.invokevirtual 257, 3) := dk_182 1 1 (dk_at dksX4_at_1 0 rfl rfl)
theorem dX4_at_27 : decode cX4_at 27 = .ok (.aload_n 0, 1) := dk_42 (dk_at dksX4_at_1 3 rfl rfl)
theorem dX4_at_28 : decode cX4_at 28 = .ok (.invokevirtual 96, 3) := dk_182 0 96 (dk_at dksX4_at_1 4 rfl rfl)
theorem dX4_at_31 : decode cX4_at 31 = .ok (.astore_n 2, 1) := dk_77 (dk_at dksX4_at_1 7 rfl rfl)
theorem dX4_at_32 : decode cX4_at 32 = .ok (.aload_n 0, 1) := dk_42 (dk_at dksX4_at_1 8 rfl rfl)
theorem dX4_at_33 : decode cX4_at 33 = .ok (.dup, 1) := dk_89 (dk_at dksX4_at_1 9 rfl rfl)
theorem dX4_at_34 : decode cX4_at 34 = .ok (.getfield 65, 3) := dk_180 0 65 (dk_at dksX4_at_1 10 rfl rfl)
theorem dX4_at_37 : decode cX4_at 37 = .ok (.iconst 1, 1) := dk_4 (dk_at dksX4_at_1 13 rfl rfl)
theorem dX4_at_38 : decode cX4_at 38 = .ok (.isub, 1) := dk_100 (dk_at dksX4_at_1 14 rfl rfl)
theorem dX4_at_39 : decode cX4_at 39 = .ok (.putfield 65, 3) := dk_181 0 65 (dk_at dksX4_at_1 15 rfl rfl)
theorem dX4_at_42 : decode cX4_at 42 = .ok (.aload_n 0, 1) := dk_42 (dk_at dksX4_at_1 18 rfl rfl)
theorem dX4_at_43 : decode cX4_at 43 = .ok (.invokevirtual 36, 3) := dk_182 0 36 (dk_at dksX4_at_1 19 rfl rfl)
theorem dX4_at_46 : decode cX4_at 46 = .ok (.ldc_w 308, 3) := dk_19 1 52 (dk_at dksX4_at_2 0 rfl rfl)
theorem dX4_at_49 : decode cX4_at 49 = .ok (.invokevirtual 50, 3) := dk_182 0 50 (dk_at dksX4_at_2 3 rfl rfl)
theorem dX4_at_52 : decode cX4_at 52 = .ok (.ifCond .ne 8, 3) := dk_154 0 8 (dk_at dksX4_at_2 6 rfl rfl)
theorem dX4_at_55 : decode cX4_at 55 = .ok (.aload_n 0, 1) := dk_42 (dk_at dksX4_at_2 9 rfl rfl)
theorem dX4_at_56 : decode cX4_at 56 = .ok (.invokevirtual 54, 3) := dk_182 0 54 (dk_at dksX4_at_2 10 rfl rfl)
theorem dX4_at_59 : decode cX4_at 59 = .ok (.athrow, 1) := dk_191 (dk_at dksX4_at_2 13 rfl rfl)
theorem dX4_at_60 : decode cX4_at 60 = .ok (.aload_n 0, 1) := dk_42 (dk_at dksX4_at_2 14 rfl rfl)
theorem dX4_at_61 : decode cX4_at 61 = .ok (.new 401, 3) := dk_187 1 145 (dk_at dksX4_at_2 15 rfl rfl)
theorem dX4_at_64 : decode cX4_at 64 = .ok (.dup, 1) := dk_89 (dk_at dksX4_at_2 18 rfl rfl)
theorem dX4_at_65 : decode cX4_at 65 = .ok (.aload_n 1, 1) := dk_43 (dk_at dksX4_at_2 19 rfl rfl)
theorem dX4_at_66 : decode cX4_at 66 = .ok (.getfield 40, 3) := dk_180 0 40 (dk_at dksX4_at_2 20 rfl rfl)
theorem dX4_at_69 : decode cX4_at 69 = .ok (.aload_n 2, 1) := dk_44 (dk_at dksX4_at_2 23 rfl rfl)
theorem dX4_at_70 : decode cX4_at 70 = .ok (.aload_n 0, 1) := dk_42 (dk_at dksX4_at_3 0 rfl rfl)
theorem dX4_at_71 : decode cX4_at 71 = .ok (.invokevirtual 370, 3) := dk_182 1 114 (dk_at dksX4_at_3 1 rfl rfl)
theorem dX4_at_74 : decode cX4_at 74 = .ok (.invokespecial 403, 3) := dk_183 1 147 (dk_at dksX4_at_3 4 rfl rfl)
theorem dX4_at_77 : decode cX4_at 77 = .ok (.invokevirtual 164, 3) := dk_182 0 164 (dk_at dksX4_at_3 7 rfl rfl)
theorem dX4_at_80 : decode cX4_at 80 = .ok (.areturn, 1) := dk_176 (dk_at dksX4_at_3 10 rfl rfl)
abbrev cX4_value : ByteArray := prog_22_method_17_code
def yX4_value : MethodName := ⟨RX4, "value", "(LPastWatch$Token;)V"⟩
def dkwX4_value_3 : List UInt8 := [180, 0, 169, 44, 45, 182, 0, 173, 87, 177]
abbrev dktX4_value_3 : List UInt8 := dkwX4_value_3 ++ []
def dkwX4_value_2 : List UInt8 := [180, 0, 46, 154, 0, 4, 177, 42, 180, 0, 15, 180, 0, 187, 45, 182, 0, 168, 87, 42, 180, 0, 15]
abbrev dktX4_value_2 : List UInt8 := dkwX4_value_2 ++ dktX4_value_3
def dkwX4_value_1 : List UInt8 := [180, 0, 40, 182, 0, 92, 42, 182, 0, 145, 77, 42, 18, 149, 182, 0, 122, 87, 42, 182, 0, 190, 78, 42]
abbrev dktX4_value_1 : List UInt8 := dkwX4_value_1 ++ dktX4_value_2
def dkwX4_value_0 : List UInt8 := [42, 42, 180, 0, 15, 180, 0, 187, 182, 0, 141, 16, 12, 162, 0, 7, 4, 167, 0, 4, 3, 7, 43]
abbrev dktX4_value_0 : List UInt8 := dkwX4_value_0 ++ dktX4_value_1
theorem dksX4_value_0 : cX4_value.data.toList.drop 0 = dktX4_value_0 := by decide +kernel
theorem dksX4_value_1 : cX4_value.data.toList.drop 23 = dktX4_value_1 := dk_seg dksX4_value_0 23 rfl rfl
theorem dksX4_value_2 : cX4_value.data.toList.drop 47 = dktX4_value_2 := dk_seg dksX4_value_1 24 rfl rfl
theorem dksX4_value_3 : cX4_value.data.toList.drop 70 = dktX4_value_3 := dk_seg dksX4_value_2 23 rfl rfl
theorem dX4_value_0 : decode cX4_value 0 = .ok (.aload_n 0, 1) := dk_42 (dk_at dksX4_value_0 0 rfl rfl)
theorem dX4_value_1 : decode cX4_value 1 = .ok (.aload_n 0, 1) := dk_42 (dk_at dksX4_value_0 1 rfl rfl)
theorem dX4_value_2 : decode cX4_value 2 = .ok (.getfield 15, 3) := dk_180 0 15 (dk_at dksX4_value_0 2 rfl rfl)
theorem dX4_value_5 : decode cX4_value 5 = .ok (.getfield 187, 3) := dk_180 0 187 (dk_at dksX4_value_0 5 rfl rfl)
theorem dX4_value_8 : decode cX4_value 8 = .ok (.invokevirtual 141, 3) := dk_182 0 141 (dk_at dksX4_value_0 8 rfl rfl)
theorem dX4_value_11 : decode cX4_value 11 = .ok (.bipush 12, 2) := dk_16 12 (dk_at dksX4_value_0 11 rfl rfl)
theorem dX4_value_13 : decode cX4_value 13 = .ok (.if_icmp .ge 7, 3) := dk_162 0 7 (dk_at dksX4_value_0 13 rfl rfl)
theorem dX4_value_16 : decode cX4_value 16 = .ok (.iconst 1, 1) := dk_4 (dk_at dksX4_value_0 16 rfl rfl)
theorem dX4_value_17 : decode cX4_value 17 = .ok (.goto 4, 3) := dk_167 0 4 (dk_at dksX4_value_0 17 rfl rfl)
theorem dX4_value_20 : decode cX4_value 20 = .ok (.iconst 0, 1) := dk_3 (dk_at dksX4_value_0 20 rfl rfl)
theorem dX4_value_21 : decode cX4_value 21 = .ok (.iconst 4, 1) := dk_7 (dk_at dksX4_value_0 21 rfl rfl)
theorem dX4_value_22 : decode cX4_value 22 = .ok (.aload_n 1, 1) := dk_43 (dk_at dksX4_value_0 22 rfl rfl)
theorem dX4_value_23 : decode cX4_value 23 = .ok (.getfield 40, 3) := dk_180 0 40 (dk_at dksX4_value_1 0 rfl rfl)
theorem dX4_value_26 : decode cX4_value 26 = .ok (.invokevirtual 92, 3) := dk_182 0 92 (dk_at dksX4_value_1 3 rfl rfl)
theorem dX4_value_29 : decode cX4_value 29 = .ok (.aload_n 0, 1) := dk_42 (dk_at dksX4_value_1 6 rfl rfl)
theorem dX4_value_30 : decode cX4_value 30 = .ok (.invokevirtual 145, 3) := dk_182 0 145 (dk_at dksX4_value_1 7 rfl rfl)
theorem dX4_value_33 : decode cX4_value 33 = .ok (.astore_n 2, 1) := dk_77 (dk_at dksX4_value_1 10 rfl rfl)
theorem dX4_value_34 : decode cX4_value 34 = .ok (.aload_n 0, 1) := dk_42 (dk_at dksX4_value_1 11 rfl rfl)
theorem dX4_value_35 : decode cX4_value 35 = .ok (.ldc 149, 2) := dk_18 149 (dk_at dksX4_value_1 12 rfl rfl)
theorem dX4_value_37 : decode cX4_value 37 = .ok (.invokevirtual 122, 3) := dk_182 0 122 (dk_at dksX4_value_1 14 rfl rfl)
theorem dX4_value_40 : decode cX4_value 40 = .ok (.pop, 1) := dk_87 (dk_at dksX4_value_1 17 rfl rfl)
theorem dX4_value_41 : decode cX4_value 41 = .ok (.aload_n 0, 1) := dk_42 (dk_at dksX4_value_1 18 rfl rfl)
theorem dX4_value_42 : decode cX4_value 42 = .ok (.invokevirtual 190, 3) := dk_182 0 190 (dk_at dksX4_value_1 19 rfl rfl)
theorem dX4_value_45 : decode cX4_value 45 = .ok (.astore_n 3, 1) := dk_78 (dk_at dksX4_value_1 22 rfl rfl)
theorem dX4_value_46 : decode cX4_value 46 = .ok (.aload_n 0, 1) := dk_42 (dk_at dksX4_value_1 23 rfl rfl)
theorem dX4_value_47 : decode cX4_value 47 = .ok (.getfield 46, 3) := dk_180 0 46 (dk_at dksX4_value_2 0 rfl rfl)
theorem dX4_value_50 : decode cX4_value 50 = .ok (.ifCond .ne 4, 3) := dk_154 0 4 (dk_at dksX4_value_2 3 rfl rfl)
theorem dX4_value_53 : decode cX4_value 53 = .ok (.return_, 1) := dk_177 (dk_at dksX4_value_2 6 rfl rfl)
theorem dX4_value_54 : decode cX4_value 54 = .ok (.aload_n 0, 1) := dk_42 (dk_at dksX4_value_2 7 rfl rfl)
theorem dX4_value_55 : decode cX4_value 55 = .ok (.getfield 15, 3) := dk_180 0 15 (dk_at dksX4_value_2 8 rfl rfl)
theorem dX4_value_58 : decode cX4_value 58 = .ok (.getfield 187, 3) := dk_180 0 187 (dk_at dksX4_value_2 11 rfl rfl)
theorem dX4_value_61 : decode cX4_value 61 = .ok (.aload_n 3, 1) := dk_45 (dk_at dksX4_value_2 14 rfl rfl)
theorem dX4_value_62 : decode cX4_value 62 = .ok (.invokevirtual 168, 3) := dk_182 0 168 (dk_at dksX4_value_2 15 rfl rfl)
theorem dX4_value_65 : decode cX4_value 65 = .ok (.pop, 1) := dk_87 (dk_at dksX4_value_2 18 rfl rfl)
theorem dX4_value_66 : decode cX4_value 66 = .ok (.aload_n 0, 1) := dk_42 (dk_at dksX4_value_2 19 rfl rfl)
theorem dX4_value_67 : decode cX4_value 67 = .ok (.getfield 15, 3) := dk_180 0 15 (dk_at dksX4_value_2 20 rfl rfl)
theorem dX4_value_70 : decode cX4_value 70 = .ok (.getfield 169, 3) := dk_180 0 169 (dk_at dksX4_value_3 0 rfl rfl)
theorem dX4_value_73 : decode cX4_value 73 = .ok (.aload_n 2, 1) := dk_44 (dk_at dksX4_value_3 3 rfl rfl)
theorem dX4_value_74 : decode cX4_value 74 = .ok (.aload_n 3, 1) := dk_45 (dk_at dksX4_value_3 4 rfl rfl)
theorem dX4_value_75 : decode cX4_value 75 = .ok (.invokevirtual 173, 3) := dk_182 0 173 (dk_at dksX4_value_3 5 rfl rfl)
theorem dX4_value_78 : decode cX4_value 78 = .ok (.pop, 1) := dk_87 (dk_at dksX4_value_3 8 rfl rfl)
theorem dX4_value_79 : decode cX4_value 79 = .ok (.return_, 1) := dk_177 (dk_at dksX4_value_3 9 rfl rfl)
abbrev cX4_watch : ByteArray := prog_22_method_18_code
def yX4_watch : MethodName := ⟨RX4, "watch", "(LPastWatch$Token;)V"⟩
def dkwX4_watch_5 : List UInt8 := [21, 4, 183, 0, 199, 182, 0, 168, 87, 42, 180, 0, 15, 180, 0, 184, 44, 45, 182, 0, 173, 87, 177]
abbrev dktX4_watch_5 : List UInt8 := dkwX4_watch_5 ++ []
def dkwX4_watch_4 : List UInt8 := [182, 0, 92, 42, 180, 0, 46, 154, 0, 4, 177, 42, 180, 0, 15, 180, 0, 80, 187, 0, 197, 89, 45]
abbrev dktX4_watch_4 : List UInt8 := dkwX4_watch_4 ++ dktX4_watch_5
def dkwX4_watch_3 : List UInt8 := [182, 0, 156, 54, 4, 42, 21, 4, 16, 10, 162, 0, 7, 4, 167, 0, 4, 3, 8, 25, 5, 180, 0, 40]
abbrev dktX4_watch_3 : List UInt8 := dkwX4_watch_3 ++ dktX4_watch_4
def dkwX4_watch_2 : List UInt8 := [54, 4, 42, 18, 195, 182, 0, 102, 153, 0, 41, 42, 178, 0, 153, 182, 0, 128, 58, 5, 25, 5]
abbrev dktX4_watch_2 : List UInt8 := dkwX4_watch_2 ++ dktX4_watch_3
def dkwX4_watch_1 : List UInt8 := [180, 0, 40, 182, 0, 92, 42, 182, 0, 145, 77, 42, 18, 193, 182, 0, 122, 87, 42, 182, 0, 96, 78, 8]
abbrev dktX4_watch_1 : List UInt8 := dkwX4_watch_1 ++ dktX4_watch_2
def dkwX4_watch_0 : List UInt8 := [42, 42, 180, 0, 15, 180, 0, 80, 182, 0, 141, 16, 12, 162, 0, 7, 4, 167, 0, 4, 3, 7, 43]
abbrev dktX4_watch_0 : List UInt8 := dkwX4_watch_0 ++ dktX4_watch_1
theorem dksX4_watch_0 : cX4_watch.data.toList.drop 0 = dktX4_watch_0 := by decide +kernel
theorem dksX4_watch_1 : cX4_watch.data.toList.drop 23 = dktX4_watch_1 := dk_seg dksX4_watch_0 23 rfl rfl
theorem dksX4_watch_2 : cX4_watch.data.toList.drop 47 = dktX4_watch_2 := dk_seg dksX4_watch_1 24 rfl rfl
theorem dksX4_watch_3 : cX4_watch.data.toList.drop 69 = dktX4_watch_3 := dk_seg dksX4_watch_2 22 rfl rfl
theorem dksX4_watch_4 : cX4_watch.data.toList.drop 93 = dktX4_watch_4 := dk_seg dksX4_watch_3 24 rfl rfl
theorem dksX4_watch_5 : cX4_watch.data.toList.drop 116 = dktX4_watch_5 := dk_seg dksX4_watch_4 23 rfl rfl
theorem dX4_watch_0 : decode cX4_watch 0 = .ok (.aload_n 0, 1) := dk_42 (dk_at dksX4_watch_0 0 rfl rfl)
theorem dX4_watch_1 : decode cX4_watch 1 = .ok (.aload_n 0, 1) := dk_42 (dk_at dksX4_watch_0 1 rfl rfl)
theorem dX4_watch_2 : decode cX4_watch 2 = .ok (.getfield 15, 3) := dk_180 0 15 (dk_at dksX4_watch_0 2 rfl rfl)
theorem dX4_watch_5 : decode cX4_watch 5 = .ok (.getfield 80, 3) := dk_180 0 80 (dk_at dksX4_watch_0 5 rfl rfl)
theorem dX4_watch_8 : decode cX4_watch 8 = .ok (.invokevirtual 141, 3) := dk_182 0 141 (dk_at dksX4_watch_0 8 rfl rfl)
theorem dX4_watch_11 : decode cX4_watch 11 = .ok (.bipush 12, 2) := dk_16 12 (dk_at dksX4_watch_0 11 rfl rfl)
theorem dX4_watch_13 : decode cX4_watch 13 = .ok (.if_icmp .ge 7, 3) := dk_162 0 7 (dk_at dksX4_watch_0 13 rfl rfl)
theorem dX4_watch_16 : decode cX4_watch 16 = .ok (.iconst 1, 1) := dk_4 (dk_at dksX4_watch_0 16 rfl rfl)
theorem dX4_watch_17 : decode cX4_watch 17 = .ok (.goto 4, 3) := dk_167 0 4 (dk_at dksX4_watch_0 17 rfl rfl)
theorem dX4_watch_20 : decode cX4_watch 20 = .ok (.iconst 0, 1) := dk_3 (dk_at dksX4_watch_0 20 rfl rfl)
theorem dX4_watch_21 : decode cX4_watch 21 = .ok (.iconst 4, 1) := dk_7 (dk_at dksX4_watch_0 21 rfl rfl)
theorem dX4_watch_22 : decode cX4_watch 22 = .ok (.aload_n 1, 1) := dk_43 (dk_at dksX4_watch_0 22 rfl rfl)
theorem dX4_watch_23 : decode cX4_watch 23 = .ok (.getfield 40, 3) := dk_180 0 40 (dk_at dksX4_watch_1 0 rfl rfl)
theorem dX4_watch_26 : decode cX4_watch 26 = .ok (.invokevirtual 92, 3) := dk_182 0 92 (dk_at dksX4_watch_1 3 rfl rfl)
theorem dX4_watch_29 : decode cX4_watch 29 = .ok (.aload_n 0, 1) := dk_42 (dk_at dksX4_watch_1 6 rfl rfl)
theorem dX4_watch_30 : decode cX4_watch 30 = .ok (.invokevirtual 145, 3) := dk_182 0 145 (dk_at dksX4_watch_1 7 rfl rfl)
theorem dX4_watch_33 : decode cX4_watch 33 = .ok (.astore_n 2, 1) := dk_77 (dk_at dksX4_watch_1 10 rfl rfl)
theorem dX4_watch_34 : decode cX4_watch 34 = .ok (.aload_n 0, 1) := dk_42 (dk_at dksX4_watch_1 11 rfl rfl)
theorem dX4_watch_35 : decode cX4_watch 35 = .ok (.ldc 193, 2) := dk_18 193 (dk_at dksX4_watch_1 12 rfl rfl)
theorem dX4_watch_37 : decode cX4_watch 37 = .ok (.invokevirtual 122, 3) := dk_182 0 122 (dk_at dksX4_watch_1 14 rfl rfl)
theorem dX4_watch_40 : decode cX4_watch 40 = .ok (.pop, 1) := dk_87 (dk_at dksX4_watch_1 17 rfl rfl)
theorem dX4_watch_41 : decode cX4_watch 41 = .ok (.aload_n 0, 1) := dk_42 (dk_at dksX4_watch_1 18 rfl rfl)
theorem dX4_watch_42 : decode cX4_watch 42 = .ok (.invokevirtual 96, 3) := dk_182 0 96 (dk_at dksX4_watch_1 19 rfl rfl)
theorem dX4_watch_45 : decode cX4_watch 45 = .ok (.astore_n 3, 1) := dk_78 (dk_at dksX4_watch_1 22 rfl rfl)
theorem dX4_watch_46 : decode cX4_watch 46 = .ok (.iconst 5, 1) := dk_8 (dk_at dksX4_watch_1 23 rfl rfl)
theorem dX4_watch_47 : decode cX4_watch 47 = .ok (.istore 4, 2) := dk_54 4 (dk_at dksX4_watch_2 0 rfl rfl)
theorem dX4_watch_49 : decode cX4_watch 49 = .ok (.aload_n 0, 1) := dk_42 (dk_at dksX4_watch_2 2 rfl rfl)
theorem dX4_watch_50 : decode cX4_watch 50 = .ok (.ldc 195, 2) := dk_18 195 (dk_at dksX4_watch_2 3 rfl rfl)
theorem dX4_watch_52 : decode cX4_watch 52 = .ok (.invokevirtual 102, 3) := dk_182 0 102 (dk_at dksX4_watch_2 5 rfl rfl)
theorem dX4_watch_55 : decode cX4_watch 55 = .ok (.ifCond .eq 41, 3) := dk_153 0 41 (dk_at dksX4_watch_2 8 rfl rfl)
theorem dX4_watch_58 : decode cX4_watch 58 = .ok (.aload_n 0, 1) := dk_42 (dk_at dksX4_watch_2 11 rfl rfl)
theorem dX4_watch_59 : decode cX4_watch 59 = .ok (.getstatic 153, 3) := dk_178 0 153 (dk_at dksX4_watch_2 12 rfl rfl)
theorem dX4_watch_62 : decode cX4_watch 62 = .ok (.invokevirtual 128, 3) := dk_182 0 128 (dk_at dksX4_watch_2 15 rfl rfl)
theorem dX4_watch_65 : decode cX4_watch 65 = .ok (.astore 5, 2) := dk_58 5 (dk_at dksX4_watch_2 18 rfl rfl)
theorem dX4_watch_67 : decode cX4_watch 67 = .ok (.aload 5, 2) := dk_25 5 (dk_at dksX4_watch_2 20 rfl rfl)
theorem dX4_watch_69 : decode cX4_watch 69 = .ok (.invokevirtual 156, 3) := dk_182 0 156 (dk_at dksX4_watch_3 0 rfl rfl)
theorem dX4_watch_72 : decode cX4_watch 72 = .ok (.istore 4, 2) := dk_54 4 (dk_at dksX4_watch_3 3 rfl rfl)
theorem dX4_watch_74 : decode cX4_watch 74 = .ok (.aload_n 0, 1) := dk_42 (dk_at dksX4_watch_3 5 rfl rfl)
theorem dX4_watch_75 : decode cX4_watch 75 = .ok (.iload 4, 2) := dk_21 4 (dk_at dksX4_watch_3 6 rfl rfl)
theorem dX4_watch_77 : decode cX4_watch 77 = .ok (.bipush 10, 2) := dk_16 10 (dk_at dksX4_watch_3 8 rfl rfl)
theorem dX4_watch_79 : decode cX4_watch 79 = .ok (.if_icmp .ge 7, 3) := dk_162 0 7 (dk_at dksX4_watch_3 10 rfl rfl)
theorem dX4_watch_82 : decode cX4_watch 82 = .ok (.iconst 1, 1) := dk_4 (dk_at dksX4_watch_3 13 rfl rfl)
theorem dX4_watch_83 : decode cX4_watch 83 = .ok (.goto 4, 3) := dk_167 0 4 (dk_at dksX4_watch_3 14 rfl rfl)
theorem dX4_watch_86 : decode cX4_watch 86 = .ok (.iconst 0, 1) := dk_3 (dk_at dksX4_watch_3 17 rfl rfl)
theorem dX4_watch_87 : decode cX4_watch 87 = .ok (.iconst 5, 1) := dk_8 (dk_at dksX4_watch_3 18 rfl rfl)
theorem dX4_watch_88 : decode cX4_watch 88 = .ok (.aload 5, 2) := dk_25 5 (dk_at dksX4_watch_3 19 rfl rfl)
theorem dX4_watch_90 : decode cX4_watch 90 = .ok (.getfield 40, 3) := dk_180 0 40 (dk_at dksX4_watch_3 21 rfl rfl)
theorem dX4_watch_93 : decode cX4_watch 93 = .ok (.invokevirtual 92, 3) := dk_182 0 92 (dk_at dksX4_watch_4 0 rfl rfl)
theorem dX4_watch_96 : decode cX4_watch 96 = .ok (.aload_n 0, 1) := dk_42 (dk_at dksX4_watch_4 3 rfl rfl)
theorem dX4_watch_97 : decode cX4_watch 97 = .ok (.getfield 46, 3) := dk_180 0 46 (dk_at dksX4_watch_4 4 rfl rfl)
theorem dX4_watch_100 : decode cX4_watch 100 = .ok (.ifCond .ne 4, 3) := dk_154 0 4 (dk_at dksX4_watch_4 7 rfl rfl)
theorem dX4_watch_103 : decode cX4_watch 103 = .ok (.return_, 1) := dk_177 (dk_at dksX4_watch_4 10 rfl rfl)
theorem dX4_watch_104 : decode cX4_watch 104 = .ok (.aload_n 0, 1) := dk_42 (dk_at dksX4_watch_4 11 rfl rfl)
theorem dX4_watch_105 : decode cX4_watch 105 = .ok (.getfield 15, 3) := dk_180 0 15 (dk_at dksX4_watch_4 12 rfl rfl)
theorem dX4_watch_108 : decode cX4_watch 108 = .ok (.getfield 80, 3) := dk_180 0 80 (dk_at dksX4_watch_4 15 rfl rfl)
theorem dX4_watch_111 : decode cX4_watch 111 = .ok (.new 197, 3) := dk_187 0 197 (dk_at dksX4_watch_4 18 rfl rfl)
theorem dX4_watch_114 : decode cX4_watch 114 = .ok (.dup, 1) := dk_89 (dk_at dksX4_watch_4 21 rfl rfl)
theorem dX4_watch_115 : decode cX4_watch 115 = .ok (.aload_n 3, 1) := dk_45 (dk_at dksX4_watch_4 22 rfl rfl)
theorem dX4_watch_116 : decode cX4_watch 116 = .ok (.iload 4, 2) := dk_21 4 (dk_at dksX4_watch_5 0 rfl rfl)
theorem dX4_watch_118 : decode cX4_watch 118 = .ok (.invokespecial 199, 3) := dk_183 0 199 (dk_at dksX4_watch_5 2 rfl rfl)
theorem dX4_watch_121 : decode cX4_watch 121 = .ok (.invokevirtual 168, 3) := dk_182 0 168 (dk_at dksX4_watch_5 5 rfl rfl)
theorem dX4_watch_124 : decode cX4_watch 124 = .ok (.pop, 1) := dk_87 (dk_at dksX4_watch_5 8 rfl rfl)
theorem dX4_watch_125 : decode cX4_watch 125 = .ok (.aload_n 0, 1) := dk_42 (dk_at dksX4_watch_5 9 rfl rfl)
theorem dX4_watch_126 : decode cX4_watch 126 = .ok (.getfield 15, 3) := dk_180 0 15 (dk_at dksX4_watch_5 10 rfl rfl)
theorem dX4_watch_129 : decode cX4_watch 129 = .ok (.getfield 184, 3) := dk_180 0 184 (dk_at dksX4_watch_5 13 rfl rfl)
theorem dX4_watch_132 : decode cX4_watch 132 = .ok (.aload_n 2, 1) := dk_44 (dk_at dksX4_watch_5 16 rfl rfl)
theorem dX4_watch_133 : decode cX4_watch 133 = .ok (.aload_n 3, 1) := dk_45 (dk_at dksX4_watch_5 17 rfl rfl)
theorem dX4_watch_134 : decode cX4_watch 134 = .ok (.invokevirtual 173, 3) := dk_182 0 173 (dk_at dksX4_watch_5 18 rfl rfl)
theorem dX4_watch_137 : decode cX4_watch 137 = .ok (.pop, 1) := dk_87 (dk_at dksX4_watch_5 21 rfl rfl)
theorem dX4_watch_138 : decode cX4_watch 138 = .ok (.return_, 1) := dk_177 (dk_at dksX4_watch_5 22 rfl rfl)
abbrev cX4_readFormula : ByteArray := prog_22_method_12_code
def yX4_readFormula : MethodName := ⟨RX4, "readFormula", "()LPastWatch$Node;"⟩
def dkwX4_readFormula_2 : List UInt8 := [165, 0, 8, 42, 182, 0, 54, 191, 132, 2, 1, 167, 255, 201, 43, 176]
abbrev dktX4_readFormula_2 : List UInt8 := dkwX4_readFormula_2 ++ []
def dkwX4_readFormula_1 : List UInt8 := [3, 181, 0, 22, 42, 3, 181, 0, 65, 42, 182, 0, 96, 76, 42, 182, 0, 36, 180, 0, 61, 178, 0, 75]
abbrev dktX4_readFormula_1 : List UInt8 := dkwX4_readFormula_1 ++ dktX4_readFormula_2
def dkwX4_readFormula_0 : List UInt8 := [1, 76, 3, 61, 28, 5, 162, 0, 56, 42, 28, 4, 160, 0, 7, 4, 167, 0, 4, 3, 181, 0, 46, 42]
abbrev dktX4_readFormula_0 : List UInt8 := dkwX4_readFormula_0 ++ dktX4_readFormula_1
theorem dksX4_readFormula_0 : cX4_readFormula.data.toList.drop 0 = dktX4_readFormula_0 := by decide +kernel
theorem dksX4_readFormula_1 : cX4_readFormula.data.toList.drop 24 = dktX4_readFormula_1 := dk_seg dksX4_readFormula_0 24 rfl rfl
theorem dksX4_readFormula_2 : cX4_readFormula.data.toList.drop 48 = dktX4_readFormula_2 := dk_seg dksX4_readFormula_1 24 rfl rfl
theorem dX4_readFormula_0 : decode cX4_readFormula 0 = .ok (.aconst_null, 1) := dk_1 (dk_at dksX4_readFormula_0 0 rfl rfl)
theorem dX4_readFormula_1 : decode cX4_readFormula 1 = .ok (.astore_n 1, 1) := dk_76 (dk_at dksX4_readFormula_0 1 rfl rfl)
theorem dX4_readFormula_2 : decode cX4_readFormula 2 = .ok (.iconst 0, 1) := dk_3 (dk_at dksX4_readFormula_0 2 rfl rfl)
theorem dX4_readFormula_3 : decode cX4_readFormula 3 = .ok (.istore_n 2, 1) := dk_61 (dk_at dksX4_readFormula_0 3 rfl rfl)
theorem dX4_readFormula_4 : decode cX4_readFormula 4 = .ok (.iload_n 2, 1) := dk_28 (dk_at dksX4_readFormula_0 4 rfl rfl)
theorem dX4_readFormula_5 : decode cX4_readFormula 5 = .ok (.iconst 2, 1) := dk_5 (dk_at dksX4_readFormula_0 5 rfl rfl)
theorem dX4_readFormula_6 : decode cX4_readFormula 6 = .ok (.if_icmp .ge 56, 3) := dk_162 0 56 (dk_at dksX4_readFormula_0 6 rfl rfl)
theorem dX4_readFormula_9 : decode cX4_readFormula 9 = .ok (.aload_n 0, 1) := dk_42 (dk_at dksX4_readFormula_0 9 rfl rfl)
theorem dX4_readFormula_10 : decode cX4_readFormula 10 = .ok (.iload_n 2, 1) := dk_28 (dk_at dksX4_readFormula_0 10 rfl rfl)
theorem dX4_readFormula_11 : decode cX4_readFormula 11 = .ok (.iconst 1, 1) := dk_4 (dk_at dksX4_readFormula_0 11 rfl rfl)
theorem dX4_readFormula_12 : decode cX4_readFormula 12 = .ok (.if_icmp .ne 7, 3) := dk_160 0 7 (dk_at dksX4_readFormula_0 12 rfl rfl)
theorem dX4_readFormula_15 : decode cX4_readFormula 15 = .ok (.iconst 1, 1) := dk_4 (dk_at dksX4_readFormula_0 15 rfl rfl)
theorem dX4_readFormula_16 : decode cX4_readFormula 16 = .ok (.goto 4, 3) := dk_167 0 4 (dk_at dksX4_readFormula_0 16 rfl rfl)
theorem dX4_readFormula_19 : decode cX4_readFormula 19 = .ok (.iconst 0, 1) := dk_3 (dk_at dksX4_readFormula_0 19 rfl rfl)
theorem dX4_readFormula_20 : decode cX4_readFormula 20 = .ok (.putfield 46, 3) := dk_181 0 46 (dk_at dksX4_readFormula_0 20 rfl rfl)
theorem dX4_readFormula_23 : decode cX4_readFormula 23 = .ok (.aload_n 0, 1) := dk_42 (dk_at dksX4_readFormula_0 23 rfl rfl)
theorem dX4_readFormula_24 : decode cX4_readFormula 24 = .ok (.iconst 0, 1) := dk_3 (dk_at dksX4_readFormula_1 0 rfl rfl)
theorem dX4_readFormula_25 : decode cX4_readFormula 25 = .ok (.putfield 22, 3) := dk_181 0 22 (dk_at dksX4_readFormula_1 1 rfl rfl)
theorem dX4_readFormula_28 : decode cX4_readFormula 28 = .ok (.aload_n 0, 1) := dk_42 (dk_at dksX4_readFormula_1 4 rfl rfl)
theorem dX4_readFormula_29 : decode cX4_readFormula 29 = .ok (.iconst 0, 1) := dk_3 (dk_at dksX4_readFormula_1 5 rfl rfl)
theorem dX4_readFormula_30 : decode cX4_readFormula 30 = .ok (.putfield 65, 3) := dk_181 0 65 (dk_at dksX4_readFormula_1 6 rfl rfl)
theorem dX4_readFormula_33 : decode cX4_readFormula 33 = .ok (.aload_n 0, 1) := dk_42 (dk_at dksX4_readFormula_1 9 rfl rfl)
theorem dX4_readFormula_34 : decode cX4_readFormula 34 = .ok (.invokevirtual 96, 3) := dk_182 0 96 (dk_at dksX4_readFormula_1 10 rfl rfl)
theorem dX4_readFormula_37 : decode cX4_readFormula 37 = .ok (.astore_n 1, 1) := dk_76 (dk_at dksX4_readFormula_1 13 rfl rfl)
theorem dX4_readFormula_38 : decode cX4_readFormula 38 = .ok (.aload_n 0, 1) := dk_42 (dk_at dksX4_readFormula_1 14 rfl rfl)
theorem dX4_readFormula_39 : decode cX4_readFormula 39 = .ok (.invokevirtual 36, 3) := dk_182 0 36 (dk_at dksX4_readFormula_1 15 rfl rfl)
theorem dX4_readFormula_42 : decode cX4_readFormula 42 = .ok (.getfield 61, 3) := dk_180 0 61 (dk_at dksX4_readFormula_1 18 rfl rfl)
theorem dX4_readFormula_45 : decode cX4_readFormula 45 = .ok (.getstatic 75, 3) := dk_178 0 75 (dk_at dksX4_readFormula_1 21 rfl rfl)
theorem dX4_readFormula_48 : decode cX4_readFormula 48 = .ok (.if_acmp .eq 8, 3) := dk_165 0 8 (dk_at dksX4_readFormula_2 0 rfl rfl)
theorem dX4_readFormula_51 : decode cX4_readFormula 51 = .ok (.aload_n 0, 1) := dk_42 (dk_at dksX4_readFormula_2 3 rfl rfl)
theorem dX4_readFormula_52 : decode cX4_readFormula 52 = .ok (.invokevirtual 54, 3) := dk_182 0 54 (dk_at dksX4_readFormula_2 4 rfl rfl)
theorem dX4_readFormula_55 : decode cX4_readFormula 55 = .ok (.athrow, 1) := dk_191 (dk_at dksX4_readFormula_2 7 rfl rfl)
theorem dX4_readFormula_56 : decode cX4_readFormula 56 = .ok (.iinc 2 1, 3) := dk_132 2 1 (dk_at dksX4_readFormula_2 8 rfl rfl)
theorem dX4_readFormula_59 : decode cX4_readFormula 59 = .ok (.goto (-55), 3) := dk_167 255 201 (dk_at dksX4_readFormula_2 11 rfl rfl)
theorem dX4_readFormula_62 : decode cX4_readFormula 62 = .ok (.aload_n 1, 1) := dk_43 (dk_at dksX4_readFormula_2 14 rfl rfl)
theorem dX4_readFormula_63 : decode cX4_readFormula 63 = .ok (.areturn, 1) := dk_176 (dk_at dksX4_readFormula_2 15 rfl rfl)
theorem q119 : (Jvm.Cond.initialized "PastWatch$Reader") ∈ lw_all := lw_g (lw_at lw_m1 14 rfl) rfl
theorem q246 : (Jvm.Cond.fieldLink "PastWatch$Reader" (138 : Nat) "PastWatch$Program" "signals" "Ljava/util/ArrayList;") ∈ lw_all := lw_g (lw_at lw_m1 141 rfl) rfl
theorem q249 : (Jvm.Cond.fieldLink "PastWatch$Reader" (179 : Nat) "PastWatch$Program" "lets" "Ljava/util/ArrayList;") ∈ lw_all := lw_g (lw_at lw_m1 144 rfl) rfl
theorem q252 : (Jvm.Cond.fieldLink "PastWatch$Reader" (187 : Nat) "PastWatch$Program" "values" "Ljava/util/ArrayList;") ∈ lw_all := lw_g (lw_at lw_m1 147 rfl) rfl
theorem q255 : (Jvm.Cond.fieldLink "PastWatch$Reader" (80 : Nat) "PastWatch$Program" "watches" "Ljava/util/ArrayList;") ∈ lw_all := lw_g (lw_at lw_m1 150 rfl) rfl
theorem q260 : (Jvm.Cond.fieldLinkNest "PastWatch$Reader" (169 : Nat) "PastWatch$Program" "numbers" "Ljava/util/HashMap;" "PastWatch") ∈ lw_tbl := lw_at lw_m1 155 rfl
theorem q262 : (Jvm.Cond.fieldLinkNest "PastWatch$Reader" (184 : Nat) "PastWatch$Program" "formulas" "Ljava/util/HashMap;" "PastWatch") ∈ lw_tbl := lw_at lw_m1 157 rfl
theorem q321 : (Jvm.Cond.instantiable "PastWatch$Reader" (6 : Nat)) ∈ lw_all := lw_g (lw_at lw_m1 216 rfl) rfl
theorem q821 : (Jvm.Cond.fieldLink "PastWatch$Reader" (61 : Nat) "PastWatch$Token" "sort" "LPastWatch$Sort;") ∈ lw_all := lw_g (lw_at lw_m3 236 rfl) rfl
theorem q825 : (Jvm.Cond.fieldLink "PastWatch$Reader" (131 : Nat) "PastWatch$Token" "text" "Ljava/lang/String;") ∈ lw_all := lw_g (lw_at lw_m4 0 rfl) rfl
theorem q827 : (Jvm.Cond.fieldLink "PastWatch$Reader" (40 : Nat) "PastWatch$Token" "place" "I") ∈ lw_all := lw_g (lw_at lw_m4 2 rfl) rfl
theorem q943 : (Jvm.Cond.selects "PastWatch$Reader" ({ cls := "java/lang/Object", name := "getClass", desc := "()Ljava/lang/Class;" } : Jvm.MethodName) ({ cls := "java/lang/Object", name := "getClass", desc := "()Ljava/lang/Class;" } : Jvm.MethodName)) ∈ lw_all := lw_g (lw_at lw_m4 118 rfl) rfl
theorem q981 : (Jvm.Cond.instanceMethod ({ cls := "PastWatch$Reader", name := "<init>", desc := "(Ljava/util/List;LPastWatch$Program;Ljava/util/List;)V" } : Jvm.MethodName)) ∈ lw_all := lw_g (lw_at lw_m4 156 rfl) rfl
theorem q982 : (Jvm.Cond.code ({ cls := "PastWatch$Reader", name := "<init>", desc := "(Ljava/util/List;LPastWatch$Program;Ljava/util/List;)V" } : Jvm.MethodName) prog_22_method_1_code (4 : Nat) (Option.none : Option Jvm.ClassFile.FieldType)) ∈ lw_all := lw_g (lw_at lw_m4 157 rfl) rfl
theorem q983 : (Jvm.Cond.methodLink "PastWatch$Reader" (3 : Nat) ({ cls := "java/lang/Object", name := "<init>", desc := "()V" } : Jvm.MethodName)) ∈ lw_all := lw_g (lw_at lw_m4 158 rfl) rfl
theorem q984 : (Jvm.Cond.fieldLink "PastWatch$Reader" (9 : Nat) "PastWatch$Reader" "tokens" "Ljava/util/List;") ∈ lw_all := lw_g (lw_at lw_m4 159 rfl) rfl
theorem q985 : (Jvm.Cond.fieldLink "PastWatch$Reader" (15 : Nat) "PastWatch$Reader" "program" "LPastWatch$Program;") ∈ lw_all := lw_g (lw_at lw_m4 160 rfl) rfl
theorem q986 : (Jvm.Cond.fieldLink "PastWatch$Reader" (19 : Nat) "PastWatch$Reader" "nodes" "Ljava/util/List;") ∈ lw_all := lw_g (lw_at lw_m4 161 rfl) rfl
theorem q987 : (Jvm.Cond.fieldLink "PastWatch$Reader" (46 : Nat) "PastWatch$Reader" "isMeant" "Z") ∈ lw_all := lw_g (lw_at lw_m4 162 rfl) rfl
theorem q988 : (Jvm.Cond.fieldLink "PastWatch$Reader" (22 : Nat) "PastWatch$Reader" "at" "I") ∈ lw_all := lw_g (lw_at lw_m4 163 rfl) rfl
theorem q989 : (Jvm.Cond.fieldLink "PastWatch$Reader" (65 : Nat) "PastWatch$Reader" "depth" "I") ∈ lw_all := lw_g (lw_at lw_m4 164 rfl) rfl
theorem q990 : (Jvm.Cond.laysFinal "PastWatch$Reader" "PastWatch$Reader" "tokens" "Ljava/util/List;") ∈ lw_all := lw_g (lw_at lw_m4 165 rfl) rfl
theorem q991 : (Jvm.Cond.soleField "PastWatch$Reader" "tokens") ∈ lw_all := lw_g (lw_at lw_m4 166 rfl) rfl
theorem q992 : (Jvm.Cond.laysFinal "PastWatch$Reader" "PastWatch$Reader" "program" "LPastWatch$Program;") ∈ lw_all := lw_g (lw_at lw_m4 167 rfl) rfl
theorem q993 : (Jvm.Cond.soleField "PastWatch$Reader" "program") ∈ lw_all := lw_g (lw_at lw_m4 168 rfl) rfl
theorem q994 : (Jvm.Cond.laysFinal "PastWatch$Reader" "PastWatch$Reader" "nodes" "Ljava/util/List;") ∈ lw_all := lw_g (lw_at lw_m4 169 rfl) rfl
theorem q995 : (Jvm.Cond.soleField "PastWatch$Reader" "nodes") ∈ lw_all := lw_g (lw_at lw_m4 170 rfl) rfl
theorem q996 : (Jvm.Cond.lays "PastWatch$Reader" "PastWatch$Reader" "isMeant" "Z") ∈ lw_all := lw_g (lw_at lw_m4 171 rfl) rfl
theorem q997 : (Jvm.Cond.soleField "PastWatch$Reader" "isMeant") ∈ lw_all := lw_g (lw_at lw_m4 172 rfl) rfl
theorem q998 : (Jvm.Cond.lays "PastWatch$Reader" "PastWatch$Reader" "at" "I") ∈ lw_all := lw_g (lw_at lw_m4 173 rfl) rfl
theorem q999 : (Jvm.Cond.soleField "PastWatch$Reader" "at") ∈ lw_all := lw_g (lw_at lw_m4 174 rfl) rfl
theorem q1000 : (Jvm.Cond.lays "PastWatch$Reader" "PastWatch$Reader" "depth" "I") ∈ lw_all := lw_g (lw_at lw_m4 175 rfl) rfl
theorem q1001 : (Jvm.Cond.soleField "PastWatch$Reader" "depth") ∈ lw_all := lw_g (lw_at lw_m4 176 rfl) rfl
theorem q1002 : (Jvm.Cond.superclass "PastWatch$Reader" "java/lang/Object") ∈ lw_all := lw_g (lw_at lw_m4 177 rfl) rfl
theorem q1004 : (Jvm.Cond.instanceMethod ({ cls := "PastWatch$Reader", name := "readProgram", desc := "()V" } : Jvm.MethodName)) ∈ lw_all := lw_g (lw_at lw_m4 179 rfl) rfl
theorem q1005 : (Jvm.Cond.selects "PastWatch$Reader" ({ cls := "PastWatch$Reader", name := "readProgram", desc := "()V" } : Jvm.MethodName) ({ cls := "PastWatch$Reader", name := "readProgram", desc := "()V" } : Jvm.MethodName)) ∈ lw_all := lw_g (lw_at lw_m4 180 rfl) rfl
theorem q1006 : (Jvm.Cond.code ({ cls := "PastWatch$Reader", name := "readProgram", desc := "()V" } : Jvm.MethodName) prog_22_method_11_code (2 : Nat) (Option.none : Option Jvm.ClassFile.FieldType)) ∈ lw_all := lw_g (lw_at lw_m4 181 rfl) rfl
theorem q1007 : (Jvm.Cond.methodLink "PastWatch$Reader" (72 : Nat) ({ cls := "PastWatch$Reader", name := "item", desc := "()V" } : Jvm.MethodName)) ∈ lw_all := lw_g (lw_at lw_m4 182 rfl) rfl
theorem q1008 : (Jvm.Cond.privateMethod ({ cls := "PastWatch$Reader", name := "item", desc := "()V" } : Jvm.MethodName)) ∈ lw_tbl := lw_at lw_m4 183 rfl
theorem q1009 : (Jvm.Cond.instanceMethod ({ cls := "PastWatch$Reader", name := "item", desc := "()V" } : Jvm.MethodName)) ∈ lw_all := lw_g (lw_at lw_m4 184 rfl) rfl
theorem q1010 : (Jvm.Cond.code ({ cls := "PastWatch$Reader", name := "item", desc := "()V" } : Jvm.MethodName) prog_22_method_13_code (2 : Nat) (Option.none : Option Jvm.ClassFile.FieldType)) ∈ lw_all := lw_g (lw_at lw_m4 185 rfl) rfl
theorem q1011 : (Jvm.Cond.methodLink "PastWatch$Reader" (36 : Nat) ({ cls := "PastWatch$Reader", name := "now", desc := "()LPastWatch$Token;" } : Jvm.MethodName)) ∈ lw_all := lw_g (lw_at lw_m4 186 rfl) rfl
theorem q1012 : (Jvm.Cond.privateMethod ({ cls := "PastWatch$Reader", name := "now", desc := "()LPastWatch$Token;" } : Jvm.MethodName)) ∈ lw_tbl := lw_at lw_m4 187 rfl
theorem q1013 : (Jvm.Cond.instanceMethod ({ cls := "PastWatch$Reader", name := "now", desc := "()LPastWatch$Token;" } : Jvm.MethodName)) ∈ lw_all := lw_g (lw_at lw_m4 188 rfl) rfl
theorem q1014 : (Jvm.Cond.code ({ cls := "PastWatch$Reader", name := "now", desc := "()LPastWatch$Token;" } : Jvm.MethodName) prog_22_method_2_code (1 : Nat) (Option.some (Jvm.ClassFile.FieldType.object "PastWatch$Token"))) ∈ lw_all := lw_g (lw_at lw_m4 189 rfl) rfl
theorem q1015 : (Jvm.Cond.interfaceEntry "PastWatch$Reader" (26 : Nat)) ∈ lw_tbl := lw_at lw_m4 190 rfl
theorem q1016 : (Jvm.Cond.methodLink "PastWatch$Reader" (26 : Nat) ({ cls := "java/util/List", name := "get", desc := "(I)Ljava/lang/Object;" } : Jvm.MethodName)) ∈ lw_all := lw_g (lw_at lw_m4 191 rfl) rfl
theorem q1033 : (Jvm.Cond.classLink "PastWatch$Reader" (32 : Nat) "PastWatch$Token") ∈ lw_all := lw_g (lw_at lw_m4 208 rfl) rfl
theorem q1034 : (Jvm.Cond.stringRef "PastWatch$Reader" (100 : Nat) "signal") ∈ lw_tbl := lw_at lw_m4 209 rfl
theorem q1035 : (Jvm.Cond.methodLink "PastWatch$Reader" (102 : Nat) ({ cls := "PastWatch$Reader", name := "takeIf", desc := "(Ljava/lang/String;)Z" } : Jvm.MethodName)) ∈ lw_all := lw_g (lw_at lw_m4 210 rfl) rfl
theorem q1036 : (Jvm.Cond.privateMethod ({ cls := "PastWatch$Reader", name := "takeIf", desc := "(Ljava/lang/String;)Z" } : Jvm.MethodName)) ∈ lw_tbl := lw_at lw_m4 211 rfl
theorem q1037 : (Jvm.Cond.instanceMethod ({ cls := "PastWatch$Reader", name := "takeIf", desc := "(Ljava/lang/String;)Z" } : Jvm.MethodName)) ∈ lw_all := lw_g (lw_at lw_m4 212 rfl) rfl
theorem q1038 : (Jvm.Cond.code ({ cls := "PastWatch$Reader", name := "takeIf", desc := "(Ljava/lang/String;)Z" } : Jvm.MethodName) prog_22_method_8_code (2 : Nat) (Option.some Jvm.ClassFile.FieldType.boolean)) ∈ lw_all := lw_g (lw_at lw_m4 213 rfl) rfl
theorem q1039 : (Jvm.Cond.methodLink "PastWatch$Reader" (50 : Nat) ({ cls := "PastWatch$Token", name := "is", desc := "(Ljava/lang/String;)Z" } : Jvm.MethodName)) ∈ lw_all := lw_g (lw_at lw_m4 214 rfl) rfl
theorem q1046 : (Jvm.Cond.methodLink "PastWatch$Reader" (58 : Nat) ({ cls := "PastWatch$Reader", name := "take", desc := "()LPastWatch$Token;" } : Jvm.MethodName)) ∈ lw_all := lw_g (lw_at lw_m4 221 rfl) rfl
theorem q1047 : (Jvm.Cond.privateMethod ({ cls := "PastWatch$Reader", name := "take", desc := "()LPastWatch$Token;" } : Jvm.MethodName)) ∈ lw_tbl := lw_at lw_m4 222 rfl
theorem q1048 : (Jvm.Cond.instanceMethod ({ cls := "PastWatch$Reader", name := "take", desc := "()LPastWatch$Token;" } : Jvm.MethodName)) ∈ lw_all := lw_g (lw_at lw_m4 223 rfl) rfl
theorem q1049 : (Jvm.Cond.code ({ cls := "PastWatch$Reader", name := "take", desc := "()LPastWatch$Token;" } : Jvm.MethodName) prog_22_method_5_code (1 : Nat) (Option.some (Jvm.ClassFile.FieldType.object "PastWatch$Token"))) ∈ lw_all := lw_g (lw_at lw_m4 224 rfl) rfl
theorem q1050 : (Jvm.Cond.methodLink "PastWatch$Reader" (105 : Nat) ({ cls := "PastWatch$Reader", name := "signal", desc := "(LPastWatch$Token;)V" } : Jvm.MethodName)) ∈ lw_all := lw_g (lw_at lw_m4 225 rfl) rfl
theorem q1051 : (Jvm.Cond.privateMethod ({ cls := "PastWatch$Reader", name := "signal", desc := "(LPastWatch$Token;)V" } : Jvm.MethodName)) ∈ lw_tbl := lw_at lw_m4 226 rfl
theorem q1052 : (Jvm.Cond.instanceMethod ({ cls := "PastWatch$Reader", name := "signal", desc := "(LPastWatch$Token;)V" } : Jvm.MethodName)) ∈ lw_all := lw_g (lw_at lw_m4 227 rfl) rfl
theorem q1053 : (Jvm.Cond.code ({ cls := "PastWatch$Reader", name := "signal", desc := "(LPastWatch$Token;)V" } : Jvm.MethodName) prog_22_method_15_code (6 : Nat) (Option.none : Option Jvm.ClassFile.FieldType)) ∈ lw_all := lw_g (lw_at lw_m4 228 rfl) rfl
theorem q1054 : (Jvm.Cond.methodLink "PastWatch$Reader" (141 : Nat) ({ cls := "java/util/ArrayList", name := "size", desc := "()I" } : Jvm.MethodName)) ∈ lw_all := lw_g (lw_at lw_m4 229 rfl) rfl
theorem q1055 : (Jvm.Cond.methodLink "PastWatch$Reader" (92 : Nat) ({ cls := "PastWatch$Reader", name := "must", desc := "(ZII)V" } : Jvm.MethodName)) ∈ lw_all := lw_g (lw_at lw_m4 230 rfl) rfl
theorem q1056 : (Jvm.Cond.privateMethod ({ cls := "PastWatch$Reader", name := "must", desc := "(ZII)V" } : Jvm.MethodName)) ∈ lw_tbl := lw_at lw_m4 231 rfl
theorem q1057 : (Jvm.Cond.instanceMethod ({ cls := "PastWatch$Reader", name := "must", desc := "(ZII)V" } : Jvm.MethodName)) ∈ lw_all := lw_g (lw_at lw_m4 232 rfl) rfl
theorem q1058 : (Jvm.Cond.code ({ cls := "PastWatch$Reader", name := "must", desc := "(ZII)V" } : Jvm.MethodName) prog_22_method_4_code (4 : Nat) (Option.none : Option Jvm.ClassFile.FieldType)) ∈ lw_all := lw_g (lw_at lw_m4 233 rfl) rfl
theorem q1059 : (Jvm.Cond.classLink "PastWatch$Reader" (34 : Nat) "PastWatch$Wrong") ∈ lw_all := lw_g (lw_at lw_m4 234 rfl) rfl
theorem q1068 : (Jvm.Cond.methodLink "PastWatch$Reader" (43 : Nat) ({ cls := "PastWatch$Wrong", name := "<init>", desc := "(II)V" } : Jvm.MethodName)) ∈ lw_all := lw_g (lw_at lw_m5 3 rfl) rfl
theorem q1088 : (Jvm.Cond.methodLink "PastWatch$Reader" (145 : Nat) ({ cls := "PastWatch$Reader", name := "newName", desc := "()Ljava/lang/String;" } : Jvm.MethodName)) ∈ lw_all := lw_g (lw_at lw_m5 23 rfl) rfl
theorem q1089 : (Jvm.Cond.privateMethod ({ cls := "PastWatch$Reader", name := "newName", desc := "()Ljava/lang/String;" } : Jvm.MethodName)) ∈ lw_tbl := lw_at lw_m5 24 rfl
theorem q1090 : (Jvm.Cond.instanceMethod ({ cls := "PastWatch$Reader", name := "newName", desc := "()Ljava/lang/String;" } : Jvm.MethodName)) ∈ lw_all := lw_g (lw_at lw_m5 25 rfl) rfl
theorem q1091 : (Jvm.Cond.code ({ cls := "PastWatch$Reader", name := "newName", desc := "()Ljava/lang/String;" } : Jvm.MethodName) prog_22_method_14_code (2 : Nat) (Option.some (Jvm.ClassFile.FieldType.object "java/lang/String"))) ∈ lw_all := lw_g (lw_at lw_m5 26 rfl) rfl
theorem q1092 : (Jvm.Cond.fieldLink "PastWatch$Reader" (125 : Nat) "PastWatch$Sort" "NAME" "LPastWatch$Sort;") ∈ lw_all := lw_g (lw_at lw_m5 27 rfl) rfl
theorem q1093 : (Jvm.Cond.methodLink "PastWatch$Reader" (128 : Nat) ({ cls := "PastWatch$Reader", name := "take", desc := "(LPastWatch$Sort;)LPastWatch$Token;" } : Jvm.MethodName)) ∈ lw_all := lw_g (lw_at lw_m5 28 rfl) rfl
theorem q1094 : (Jvm.Cond.privateMethod ({ cls := "PastWatch$Reader", name := "take", desc := "(LPastWatch$Sort;)LPastWatch$Token;" } : Jvm.MethodName)) ∈ lw_tbl := lw_at lw_m5 29 rfl
theorem q1095 : (Jvm.Cond.instanceMethod ({ cls := "PastWatch$Reader", name := "take", desc := "(LPastWatch$Sort;)LPastWatch$Token;" } : Jvm.MethodName)) ∈ lw_all := lw_g (lw_at lw_m5 30 rfl) rfl
theorem q1096 : (Jvm.Cond.code ({ cls := "PastWatch$Reader", name := "take", desc := "(LPastWatch$Sort;)LPastWatch$Token;" } : Jvm.MethodName) prog_22_method_7_code (2 : Nat) (Option.some (Jvm.ClassFile.FieldType.object "PastWatch$Token"))) ∈ lw_all := lw_g (lw_at lw_m5 31 rfl) rfl
theorem q1097 : (Jvm.Cond.methodLink "PastWatch$Reader" (54 : Nat) ({ cls := "PastWatch$Reader", name := "wrong", desc := "()LPastWatch$Wrong;" } : Jvm.MethodName)) ∈ lw_all := lw_g (lw_at lw_m5 32 rfl) rfl
theorem q1098 : (Jvm.Cond.privateMethod ({ cls := "PastWatch$Reader", name := "wrong", desc := "()LPastWatch$Wrong;" } : Jvm.MethodName)) ∈ lw_tbl := lw_at lw_m5 33 rfl
theorem q1099 : (Jvm.Cond.instanceMethod ({ cls := "PastWatch$Reader", name := "wrong", desc := "()LPastWatch$Wrong;" } : Jvm.MethodName)) ∈ lw_all := lw_g (lw_at lw_m5 34 rfl) rfl
theorem q1100 : (Jvm.Cond.code ({ cls := "PastWatch$Reader", name := "wrong", desc := "()LPastWatch$Wrong;" } : Jvm.MethodName) prog_22_method_3_code (1 : Nat) (Option.some (Jvm.ClassFile.FieldType.object "PastWatch$Wrong"))) ∈ lw_all := lw_g (lw_at lw_m5 35 rfl) rfl
theorem q1101 : (Jvm.Cond.methodLink "PastWatch$Reader" (135 : Nat) ({ cls := "PastWatch$Program", name := "has", desc := "(Ljava/lang/String;)Z" } : Jvm.MethodName)) ∈ lw_all := lw_g (lw_at lw_m5 36 rfl) rfl
theorem q1144 : (Jvm.Cond.selects "PastWatch$Reader" ({ cls := "java/lang/Object", name := "hashCode", desc := "()I" } : Jvm.MethodName) ({ cls := "java/lang/Object", name := "hashCode", desc := "()I" } : Jvm.MethodName)) ∈ lw_all := lw_g (lw_at lw_m5 79 rfl) rfl
theorem q1190 : (Jvm.Cond.selects "PastWatch$Reader" ({ cls := "java/lang/Object", name := "equals", desc := "(Ljava/lang/Object;)Z" } : Jvm.MethodName) ({ cls := "java/lang/Object", name := "equals", desc := "(Ljava/lang/Object;)Z" } : Jvm.MethodName)) ∈ lw_all := lw_g (lw_at lw_m5 125 rfl) rfl
theorem q1462 : (Jvm.Cond.stringRef "PastWatch$Reader" (149 : Nat) "=") ∈ lw_tbl := lw_at lw_m6 157 rfl
theorem q1463 : (Jvm.Cond.methodLink "PastWatch$Reader" (122 : Nat) ({ cls := "PastWatch$Reader", name := "take", desc := "(Ljava/lang/String;)LPastWatch$Token;" } : Jvm.MethodName)) ∈ lw_all := lw_g (lw_at lw_m6 158 rfl) rfl
theorem q1464 : (Jvm.Cond.privateMethod ({ cls := "PastWatch$Reader", name := "take", desc := "(Ljava/lang/String;)LPastWatch$Token;" } : Jvm.MethodName)) ∈ lw_tbl := lw_at lw_m6 159 rfl
theorem q1465 : (Jvm.Cond.instanceMethod ({ cls := "PastWatch$Reader", name := "take", desc := "(Ljava/lang/String;)LPastWatch$Token;" } : Jvm.MethodName)) ∈ lw_all := lw_g (lw_at lw_m6 160 rfl) rfl
theorem q1466 : (Jvm.Cond.code ({ cls := "PastWatch$Reader", name := "take", desc := "(Ljava/lang/String;)LPastWatch$Token;" } : Jvm.MethodName) prog_22_method_6_code (2 : Nat) (Option.some (Jvm.ClassFile.FieldType.object "PastWatch$Token"))) ∈ lw_all := lw_g (lw_at lw_m6 161 rfl) rfl
theorem q1467 : (Jvm.Cond.stringRef "PastWatch$Reader" (151 : Nat) "-") ∈ lw_tbl := lw_at lw_m6 162 rfl
theorem q1468 : (Jvm.Cond.fieldLink "PastWatch$Reader" (153 : Nat) "PastWatch$Sort" "NUMBER" "LPastWatch$Sort;") ∈ lw_all := lw_g (lw_at lw_m6 163 rfl) rfl
theorem q1469 : (Jvm.Cond.methodLink "PastWatch$Reader" (156 : Nat) ({ cls := "PastWatch$Token", name := "number", desc := "()I" } : Jvm.MethodName)) ∈ lw_all := lw_g (lw_at lw_m6 164 rfl) rfl
theorem q1475 : (Jvm.Cond.classLink "PastWatch$Reader" (159 : Nat) "PastWatch$Signal") ∈ lw_all := lw_g (lw_at lw_m6 170 rfl) rfl
theorem q1477 : (Jvm.Cond.methodLink "PastWatch$Reader" (161 : Nat) ({ cls := "PastWatch$Signal", name := "<init>", desc := "(IJ)V" } : Jvm.MethodName)) ∈ lw_all := lw_g (lw_at lw_m6 172 rfl) rfl
theorem q1499 : (Jvm.Cond.methodLink "PastWatch$Reader" (164 : Nat) ({ cls := "PastWatch$Reader", name := "keep", desc := "(LPastWatch$Node;)LPastWatch$Node;" } : Jvm.MethodName)) ∈ lw_all := lw_g (lw_at lw_m6 194 rfl) rfl
theorem q1500 : (Jvm.Cond.privateMethod ({ cls := "PastWatch$Reader", name := "keep", desc := "(LPastWatch$Node;)LPastWatch$Node;" } : Jvm.MethodName)) ∈ lw_tbl := lw_at lw_m6 195 rfl
theorem q1501 : (Jvm.Cond.instanceMethod ({ cls := "PastWatch$Reader", name := "keep", desc := "(LPastWatch$Node;)LPastWatch$Node;" } : Jvm.MethodName)) ∈ lw_all := lw_g (lw_at lw_m6 196 rfl) rfl
theorem q1502 : (Jvm.Cond.code ({ cls := "PastWatch$Reader", name := "keep", desc := "(LPastWatch$Node;)LPastWatch$Node;" } : Jvm.MethodName) prog_22_method_10_code (2 : Nat) (Option.some (Jvm.ClassFile.FieldType.object "PastWatch$Node"))) ∈ lw_all := lw_g (lw_at lw_m6 197 rfl) rfl
theorem q1503 : (Jvm.Cond.interfaceEntry "PastWatch$Reader" (68 : Nat)) ∈ lw_tbl := lw_at lw_m6 198 rfl
theorem q1504 : (Jvm.Cond.methodLink "PastWatch$Reader" (68 : Nat) ({ cls := "java/util/List", name := "add", desc := "(Ljava/lang/Object;)Z" } : Jvm.MethodName)) ∈ lw_all := lw_g (lw_at lw_m6 199 rfl) rfl
theorem q1510 : (Jvm.Cond.methodLink "PastWatch$Reader" (168 : Nat) ({ cls := "java/util/ArrayList", name := "add", desc := "(Ljava/lang/Object;)Z" } : Jvm.MethodName)) ∈ lw_all := lw_g (lw_at lw_m6 205 rfl) rfl
theorem q1511 : (Jvm.Cond.methodLink "PastWatch$Reader" (173 : Nat) ({ cls := "java/util/HashMap", name := "put", desc := "(Ljava/lang/Object;Ljava/lang/Object;)Ljava/lang/Object;" } : Jvm.MethodName)) ∈ lw_all := lw_g (lw_at lw_m6 206 rfl) rfl
theorem q1651 : (Jvm.Cond.stringRef "PastWatch$Reader" (108 : Nat) "let") ∈ lw_tbl := lw_at lw_m7 106 rfl
theorem q1652 : (Jvm.Cond.methodLink "PastWatch$Reader" (110 : Nat) ({ cls := "PastWatch$Reader", name := "let", desc := "(LPastWatch$Token;)V" } : Jvm.MethodName)) ∈ lw_all := lw_g (lw_at lw_m7 107 rfl) rfl
theorem q1653 : (Jvm.Cond.privateMethod ({ cls := "PastWatch$Reader", name := "let", desc := "(LPastWatch$Token;)V" } : Jvm.MethodName)) ∈ lw_tbl := lw_at lw_m7 108 rfl
theorem q1654 : (Jvm.Cond.instanceMethod ({ cls := "PastWatch$Reader", name := "let", desc := "(LPastWatch$Token;)V" } : Jvm.MethodName)) ∈ lw_all := lw_g (lw_at lw_m7 109 rfl) rfl
theorem q1655 : (Jvm.Cond.code ({ cls := "PastWatch$Reader", name := "let", desc := "(LPastWatch$Token;)V" } : Jvm.MethodName) prog_22_method_16_code (4 : Nat) (Option.none : Option Jvm.ClassFile.FieldType)) ∈ lw_all := lw_g (lw_at lw_m7 110 rfl) rfl
theorem q1656 : (Jvm.Cond.stringRef "PastWatch$Reader" (182 : Nat) ":=") ∈ lw_tbl := lw_at lw_m7 111 rfl
theorem q1657 : (Jvm.Cond.methodLink "PastWatch$Reader" (96 : Nat) ({ cls := "PastWatch$Reader", name := "formula", desc := "()LPastWatch$Node;" } : Jvm.MethodName)) ∈ lw_all := lw_g (lw_at lw_m7 112 rfl) rfl
theorem q1658 : (Jvm.Cond.privateMethod ({ cls := "PastWatch$Reader", name := "formula", desc := "()LPastWatch$Node;" } : Jvm.MethodName)) ∈ lw_tbl := lw_at lw_m7 113 rfl
theorem q1659 : (Jvm.Cond.instanceMethod ({ cls := "PastWatch$Reader", name := "formula", desc := "()LPastWatch$Node;" } : Jvm.MethodName)) ∈ lw_all := lw_g (lw_at lw_m7 114 rfl) rfl
theorem q1660 : (Jvm.Cond.code ({ cls := "PastWatch$Reader", name := "formula", desc := "()LPastWatch$Node;" } : Jvm.MethodName) prog_22_method_19_code (3 : Nat) (Option.some (Jvm.ClassFile.FieldType.object "PastWatch$Node"))) ∈ lw_all := lw_g (lw_at lw_m7 115 rfl) rfl
theorem q1661 : (Jvm.Cond.methodLink "PastWatch$Reader" (202 : Nat) ({ cls := "PastWatch$Reader", name := "row", desc := "(Z)LPastWatch$Node;" } : Jvm.MethodName)) ∈ lw_all := lw_g (lw_at lw_m7 116 rfl) rfl
theorem q1662 : (Jvm.Cond.privateMethod ({ cls := "PastWatch$Reader", name := "row", desc := "(Z)LPastWatch$Node;" } : Jvm.MethodName)) ∈ lw_tbl := lw_at lw_m7 117 rfl
theorem q1663 : (Jvm.Cond.instanceMethod ({ cls := "PastWatch$Reader", name := "row", desc := "(Z)LPastWatch$Node;" } : Jvm.MethodName)) ∈ lw_all := lw_g (lw_at lw_m7 118 rfl) rfl
theorem q1664 : (Jvm.Cond.code ({ cls := "PastWatch$Reader", name := "row", desc := "(Z)LPastWatch$Node;" } : Jvm.MethodName) prog_22_method_20_code (4 : Nat) (Option.some (Jvm.ClassFile.FieldType.object "PastWatch$Node"))) ∈ lw_all := lw_g (lw_at lw_m7 119 rfl) rfl
theorem q1665 : (Jvm.Cond.classLink "PastWatch$Reader" (87 : Nat) "java/util/ArrayList") ∈ lw_all := lw_g (lw_at lw_m7 120 rfl) rfl
theorem q1666 : (Jvm.Cond.methodLink "PastWatch$Reader" (213 : Nat) ({ cls := "java/util/ArrayList", name := "<init>", desc := "()V" } : Jvm.MethodName)) ∈ lw_all := lw_g (lw_at lw_m7 121 rfl) rfl
theorem q1667 : (Jvm.Cond.methodLink "PastWatch$Reader" (214 : Nat) ({ cls := "PastWatch$Reader", name := "since", desc := "()LPastWatch$Node;" } : Jvm.MethodName)) ∈ lw_all := lw_g (lw_at lw_m7 122 rfl) rfl
theorem q1668 : (Jvm.Cond.privateMethod ({ cls := "PastWatch$Reader", name := "since", desc := "()LPastWatch$Node;" } : Jvm.MethodName)) ∈ lw_tbl := lw_at lw_m7 123 rfl
theorem q1669 : (Jvm.Cond.instanceMethod ({ cls := "PastWatch$Reader", name := "since", desc := "()LPastWatch$Node;" } : Jvm.MethodName)) ∈ lw_all := lw_g (lw_at lw_m7 124 rfl) rfl
theorem q1670 : (Jvm.Cond.code ({ cls := "PastWatch$Reader", name := "since", desc := "()LPastWatch$Node;" } : Jvm.MethodName) prog_22_method_21_code (4 : Nat) (Option.some (Jvm.ClassFile.FieldType.object "PastWatch$Node"))) ∈ lw_all := lw_g (lw_at lw_m7 125 rfl) rfl
theorem q1671 : (Jvm.Cond.methodLink "PastWatch$Reader" (229 : Nat) ({ cls := "PastWatch$Reader", name := "one", desc := "()LPastWatch$Node;" } : Jvm.MethodName)) ∈ lw_all := lw_g (lw_at lw_m7 126 rfl) rfl
theorem q1672 : (Jvm.Cond.privateMethod ({ cls := "PastWatch$Reader", name := "one", desc := "()LPastWatch$Node;" } : Jvm.MethodName)) ∈ lw_tbl := lw_at lw_m7 127 rfl
theorem q1673 : (Jvm.Cond.instanceMethod ({ cls := "PastWatch$Reader", name := "one", desc := "()LPastWatch$Node;" } : Jvm.MethodName)) ∈ lw_all := lw_g (lw_at lw_m7 128 rfl) rfl
theorem q1674 : (Jvm.Cond.code ({ cls := "PastWatch$Reader", name := "one", desc := "()LPastWatch$Node;" } : Jvm.MethodName) prog_22_method_23_code (5 : Nat) (Option.some (Jvm.ClassFile.FieldType.object "PastWatch$Node"))) ∈ lw_all := lw_g (lw_at lw_m7 129 rfl) rfl
theorem q1675 : (Jvm.Cond.methodLink "PastWatch$Reader" (251 : Nat) ({ cls := "PastWatch$Look", name := "of", desc := "(LPastWatch$Token;)LPastWatch$Look;" } : Jvm.MethodName)) ∈ lw_all := lw_g (lw_at lw_m7 130 rfl) rfl
theorem q1691 : (Jvm.Cond.methodLink "PastWatch$Reader" (257 : Nat) ({ cls := "PastWatch$Reader", name := "deeper", desc := "()V" } : Jvm.MethodName)) ∈ lw_all := lw_g (lw_at lw_m7 146 rfl) rfl
theorem q1692 : (Jvm.Cond.privateMethod ({ cls := "PastWatch$Reader", name := "deeper", desc := "()V" } : Jvm.MethodName)) ∈ lw_tbl := lw_at lw_m7 147 rfl
theorem q1693 : (Jvm.Cond.instanceMethod ({ cls := "PastWatch$Reader", name := "deeper", desc := "()V" } : Jvm.MethodName)) ∈ lw_all := lw_g (lw_at lw_m7 148 rfl) rfl
theorem q1694 : (Jvm.Cond.code ({ cls := "PastWatch$Reader", name := "deeper", desc := "()V" } : Jvm.MethodName) prog_22_method_9_code (1 : Nat) (Option.none : Option Jvm.ClassFile.FieldType)) ∈ lw_all := lw_g (lw_at lw_m7 149 rfl) rfl
theorem q1695 : (Jvm.Cond.classLink "PastWatch$Reader" (260 : Nat) "PastWatch$Near") ∈ lw_all := lw_g (lw_at lw_m7 150 rfl) rfl
theorem q1697 : (Jvm.Cond.methodLink "PastWatch$Reader" (262 : Nat) ({ cls := "PastWatch$Near", name := "<init>", desc := "(ILPastWatch$Look;LPastWatch$Node;)V" } : Jvm.MethodName)) ∈ lw_all := lw_g (lw_at lw_m7 152 rfl) rfl
theorem q1710 : (Jvm.Cond.stringRef "PastWatch$Reader" (265 : Nat) "once") ∈ lw_tbl := lw_at lw_m7 165 rfl
theorem q1711 : (Jvm.Cond.stringRef "PastWatch$Reader" (267 : Nat) "always") ∈ lw_tbl := lw_at lw_m7 166 rfl
theorem q1712 : (Jvm.Cond.methodLink "PastWatch$Reader" (233 : Nat) ({ cls := "PastWatch$Reader", name := "bounds", desc := "()LPastWatch$Bounds;" } : Jvm.MethodName)) ∈ lw_all := lw_g (lw_at lw_m7 167 rfl) rfl
theorem q1713 : (Jvm.Cond.privateMethod ({ cls := "PastWatch$Reader", name := "bounds", desc := "()LPastWatch$Bounds;" } : Jvm.MethodName)) ∈ lw_tbl := lw_at lw_m7 168 rfl
theorem q1714 : (Jvm.Cond.instanceMethod ({ cls := "PastWatch$Reader", name := "bounds", desc := "()LPastWatch$Bounds;" } : Jvm.MethodName)) ∈ lw_all := lw_g (lw_at lw_m7 169 rfl) rfl
theorem q1715 : (Jvm.Cond.code ({ cls := "PastWatch$Reader", name := "bounds", desc := "()LPastWatch$Bounds;" } : Jvm.MethodName) prog_22_method_22_code (3 : Nat) (Option.some (Jvm.ClassFile.FieldType.object "PastWatch$Bounds"))) ∈ lw_all := lw_g (lw_at lw_m7 170 rfl) rfl
theorem q1716 : (Jvm.Cond.stringRef "PastWatch$Reader" (242 : Nat) "[") ∈ lw_tbl := lw_at lw_m7 171 rfl
theorem q1717 : (Jvm.Cond.stringRef "PastWatch$Reader" (244 : Nat) "..") ∈ lw_tbl := lw_at lw_m7 172 rfl
theorem q1718 : (Jvm.Cond.stringRef "PastWatch$Reader" (246 : Nat) "]") ∈ lw_tbl := lw_at lw_m7 173 rfl
theorem q1719 : (Jvm.Cond.classLink "PastWatch$Reader" (248 : Nat) "PastWatch$Bounds") ∈ lw_all := lw_g (lw_at lw_m7 174 rfl) rfl
theorem q1721 : (Jvm.Cond.methodLink "PastWatch$Reader" (250 : Nat) ({ cls := "PastWatch$Bounds", name := "<init>", desc := "(II)V" } : Jvm.MethodName)) ∈ lw_all := lw_g (lw_at lw_m7 176 rfl) rfl
theorem q1732 : (Jvm.Cond.classLink "PastWatch$Reader" (269 : Nat) "PastWatch$Back") ∈ lw_all := lw_g (lw_at lw_m7 187 rfl) rfl
theorem q1734 : (Jvm.Cond.methodLink "PastWatch$Reader" (271 : Nat) ({ cls := "PastWatch$Back", name := "<init>", desc := "(IZLPastWatch$Bounds;LPastWatch$Node;)V" } : Jvm.MethodName)) ∈ lw_all := lw_g (lw_at lw_m7 189 rfl) rfl
theorem q1750 : (Jvm.Cond.stringRef "PastWatch$Reader" (274 : Nat) "{") ∈ lw_tbl := lw_at lw_m7 205 rfl
theorem q1751 : (Jvm.Cond.methodLink "PastWatch$Reader" (276 : Nat) ({ cls := "PastWatch$Reader", name := "braced", desc := "()LPastWatch$Node;" } : Jvm.MethodName)) ∈ lw_all := lw_g (lw_at lw_m7 206 rfl) rfl
theorem q1752 : (Jvm.Cond.privateMethod ({ cls := "PastWatch$Reader", name := "braced", desc := "()LPastWatch$Node;" } : Jvm.MethodName)) ∈ lw_tbl := lw_at lw_m7 207 rfl
theorem q1753 : (Jvm.Cond.instanceMethod ({ cls := "PastWatch$Reader", name := "braced", desc := "()LPastWatch$Node;" } : Jvm.MethodName)) ∈ lw_all := lw_g (lw_at lw_m7 208 rfl) rfl
theorem q1754 : (Jvm.Cond.code ({ cls := "PastWatch$Reader", name := "braced", desc := "()LPastWatch$Node;" } : Jvm.MethodName) prog_22_method_24_code (2 : Nat) (Option.some (Jvm.ClassFile.FieldType.object "PastWatch$Node"))) ∈ lw_all := lw_g (lw_at lw_m7 209 rfl) rfl
theorem q1755 : (Jvm.Cond.stringRef "PastWatch$Reader" (308 : Nat) "}") ∈ lw_tbl := lw_at lw_m7 210 rfl
theorem q1756 : (Jvm.Cond.stringRef "PastWatch$Reader" (279 : Nat) "true") ∈ lw_tbl := lw_at lw_m7 211 rfl
theorem q1757 : (Jvm.Cond.classLink "PastWatch$Reader" (281 : Nat) "PastWatch$Literal") ∈ lw_all := lw_g (lw_at lw_m7 212 rfl) rfl
theorem q1759 : (Jvm.Cond.methodLink "PastWatch$Reader" (283 : Nat) ({ cls := "PastWatch$Literal", name := "<init>", desc := "(IJ)V" } : Jvm.MethodName)) ∈ lw_all := lw_g (lw_at lw_m7 214 rfl) rfl
theorem q1769 : (Jvm.Cond.stringRef "PastWatch$Reader" (284 : Nat) "false") ∈ lw_tbl := lw_at lw_m7 224 rfl
theorem q1770 : (Jvm.Cond.stringRef "PastWatch$Reader" (286 : Nat) "is") ∈ lw_tbl := lw_at lw_m7 225 rfl
theorem q1771 : (Jvm.Cond.methodLink "PastWatch$Reader" (287 : Nat) ({ cls := "java/util/HashMap", name := "get", desc := "(Ljava/lang/Object;)Ljava/lang/Object;" } : Jvm.MethodName)) ∈ lw_all := lw_g (lw_at lw_m7 226 rfl) rfl
theorem q1775 : (Jvm.Cond.classLink "PastWatch$Reader" (222 : Nat) "PastWatch$Node") ∈ lw_all := lw_g (lw_at lw_m7 230 rfl) rfl
theorem q1776 : (Jvm.Cond.classLink "PastWatch$Reader" (290 : Nat) "PastWatch$Same") ∈ lw_all := lw_g (lw_at lw_m7 231 rfl) rfl
theorem q1778 : (Jvm.Cond.methodLink "PastWatch$Reader" (292 : Nat) ({ cls := "PastWatch$Same", name := "<init>", desc := "(ILPastWatch$Node;)V" } : Jvm.MethodName)) ∈ lw_all := lw_g (lw_at lw_m7 233 rfl) rfl
theorem q1788 : (Jvm.Cond.methodLink "PastWatch$Reader" (190 : Nat) ({ cls := "PastWatch$Reader", name := "expression", desc := "()LPastWatch$Node;" } : Jvm.MethodName)) ∈ lw_all := lw_g (lw_at lw_m8 3 rfl) rfl
theorem q1789 : (Jvm.Cond.privateMethod ({ cls := "PastWatch$Reader", name := "expression", desc := "()LPastWatch$Node;" } : Jvm.MethodName)) ∈ lw_tbl := lw_at lw_m8 4 rfl
theorem q1790 : (Jvm.Cond.instanceMethod ({ cls := "PastWatch$Reader", name := "expression", desc := "()LPastWatch$Node;" } : Jvm.MethodName)) ∈ lw_all := lw_g (lw_at lw_m8 5 rfl) rfl
theorem q1791 : (Jvm.Cond.code ({ cls := "PastWatch$Reader", name := "expression", desc := "()LPastWatch$Node;" } : Jvm.MethodName) prog_22_method_25_code (4 : Nat) (Option.some (Jvm.ClassFile.FieldType.object "PastWatch$Node"))) ∈ lw_all := lw_g (lw_at lw_m8 6 rfl) rfl
theorem q1792 : (Jvm.Cond.methodLink "PastWatch$Reader" (310 : Nat) ({ cls := "PastWatch$Reader", name := "product", desc := "()LPastWatch$Node;" } : Jvm.MethodName)) ∈ lw_all := lw_g (lw_at lw_m8 7 rfl) rfl
theorem q1793 : (Jvm.Cond.privateMethod ({ cls := "PastWatch$Reader", name := "product", desc := "()LPastWatch$Node;" } : Jvm.MethodName)) ∈ lw_tbl := lw_at lw_m8 8 rfl
theorem q1794 : (Jvm.Cond.instanceMethod ({ cls := "PastWatch$Reader", name := "product", desc := "()LPastWatch$Node;" } : Jvm.MethodName)) ∈ lw_all := lw_g (lw_at lw_m8 9 rfl) rfl
theorem q1795 : (Jvm.Cond.code ({ cls := "PastWatch$Reader", name := "product", desc := "()LPastWatch$Node;" } : Jvm.MethodName) prog_22_method_26_code (4 : Nat) (Option.some (Jvm.ClassFile.FieldType.object "PastWatch$Node"))) ∈ lw_all := lw_g (lw_at lw_m8 10 rfl) rfl
theorem q1796 : (Jvm.Cond.methodLink "PastWatch$Reader" (316 : Nat) ({ cls := "PastWatch$Reader", name := "factor", desc := "()LPastWatch$Node;" } : Jvm.MethodName)) ∈ lw_all := lw_g (lw_at lw_m8 11 rfl) rfl
theorem q1797 : (Jvm.Cond.privateMethod ({ cls := "PastWatch$Reader", name := "factor", desc := "()LPastWatch$Node;" } : Jvm.MethodName)) ∈ lw_tbl := lw_at lw_m8 12 rfl
theorem q1798 : (Jvm.Cond.instanceMethod ({ cls := "PastWatch$Reader", name := "factor", desc := "()LPastWatch$Node;" } : Jvm.MethodName)) ∈ lw_all := lw_g (lw_at lw_m8 13 rfl) rfl
theorem q1799 : (Jvm.Cond.code ({ cls := "PastWatch$Reader", name := "factor", desc := "()LPastWatch$Node;" } : Jvm.MethodName) prog_22_method_28_code (5 : Nat) (Option.some (Jvm.ClassFile.FieldType.object "PastWatch$Node"))) ∈ lw_all := lw_g (lw_at lw_m8 14 rfl) rfl
theorem q1800 : (Jvm.Cond.methodLink "PastWatch$Reader" (348 : Nat) ({ cls := "PastWatch$Reader", name := "named", desc := "()LPastWatch$Node;" } : Jvm.MethodName)) ∈ lw_all := lw_g (lw_at lw_m8 15 rfl) rfl
theorem q1801 : (Jvm.Cond.privateMethod ({ cls := "PastWatch$Reader", name := "named", desc := "()LPastWatch$Node;" } : Jvm.MethodName)) ∈ lw_tbl := lw_at lw_m8 16 rfl
theorem q1802 : (Jvm.Cond.instanceMethod ({ cls := "PastWatch$Reader", name := "named", desc := "()LPastWatch$Node;" } : Jvm.MethodName)) ∈ lw_all := lw_g (lw_at lw_m8 17 rfl) rfl
theorem q1803 : (Jvm.Cond.code ({ cls := "PastWatch$Reader", name := "named", desc := "()LPastWatch$Node;" } : Jvm.MethodName) prog_22_method_31_code (3 : Nat) (Option.some (Jvm.ClassFile.FieldType.object "PastWatch$Node"))) ∈ lw_all := lw_g (lw_at lw_m8 18 rfl) rfl
theorem q1804 : (Jvm.Cond.stringRef "PastWatch$Reader" (351 : Nat) "time") ∈ lw_tbl := lw_at lw_m8 19 rfl
theorem q1805 : (Jvm.Cond.classLink "PastWatch$Reader" (353 : Nat) "PastWatch$Clock") ∈ lw_all := lw_g (lw_at lw_m8 20 rfl) rfl
theorem q1807 : (Jvm.Cond.methodLink "PastWatch$Reader" (355 : Nat) ({ cls := "PastWatch$Clock", name := "<init>", desc := "(IZ)V" } : Jvm.MethodName)) ∈ lw_all := lw_g (lw_at lw_m8 22 rfl) rfl
theorem q1817 : (Jvm.Cond.stringRef "PastWatch$Reader" (358 : Nat) "step") ∈ lw_tbl := lw_at lw_m8 32 rfl
theorem q1818 : (Jvm.Cond.stringRef "PastWatch$Reader" (360 : Nat) "(") ∈ lw_tbl := lw_at lw_m8 33 rfl
theorem q1819 : (Jvm.Cond.stringRef "PastWatch$Reader" (362 : Nat) ")") ∈ lw_tbl := lw_at lw_m8 34 rfl
theorem q1820 : (Jvm.Cond.methodLink "PastWatch$Reader" (364 : Nat) ({ cls := "PastWatch$Reader", name := "over", desc := "(LPastWatch$Token;)LPastWatch$Over;" } : Jvm.MethodName)) ∈ lw_all := lw_g (lw_at lw_m8 35 rfl) rfl
theorem q1821 : (Jvm.Cond.static ({ cls := "PastWatch$Reader", name := "over", desc := "(LPastWatch$Token;)LPastWatch$Over;" } : Jvm.MethodName)) ∈ lw_all := lw_g (lw_at lw_m8 36 rfl) rfl
theorem q1822 : (Jvm.Cond.code ({ cls := "PastWatch$Reader", name := "over", desc := "(LPastWatch$Token;)LPastWatch$Over;" } : Jvm.MethodName) prog_22_method_27_code (1 : Nat) (Option.some (Jvm.ClassFile.FieldType.object "PastWatch$Over"))) ∈ lw_all := lw_g (lw_at lw_m8 37 rfl) rfl
theorem q1823 : (Jvm.Cond.fieldLink "PastWatch$Reader" (322 : Nat) "PastWatch$Over" "MINUS" "LPastWatch$Over;") ∈ lw_all := lw_g (lw_at lw_m8 38 rfl) rfl
theorem q1825 : (Jvm.Cond.stringRef "PastWatch$Reader" (328 : Nat) "old") ∈ lw_tbl := lw_at lw_m8 40 rfl
theorem q1826 : (Jvm.Cond.fieldLink "PastWatch$Reader" (330 : Nat) "PastWatch$Over" "OLD" "LPastWatch$Over;") ∈ lw_all := lw_g (lw_at lw_m8 41 rfl) rfl
theorem q1828 : (Jvm.Cond.stringRef "PastWatch$Reader" (333 : Nat) "max") ∈ lw_tbl := lw_at lw_m8 43 rfl
theorem q1829 : (Jvm.Cond.fieldLink "PastWatch$Reader" (335 : Nat) "PastWatch$Over" "MAX" "LPastWatch$Over;") ∈ lw_all := lw_g (lw_at lw_m8 44 rfl) rfl
theorem q1831 : (Jvm.Cond.stringRef "PastWatch$Reader" (338 : Nat) "min") ∈ lw_tbl := lw_at lw_m8 46 rfl
theorem q1832 : (Jvm.Cond.fieldLink "PastWatch$Reader" (340 : Nat) "PastWatch$Over" "MIN" "LPastWatch$Over;") ∈ lw_all := lw_g (lw_at lw_m8 47 rfl) rfl
theorem q1834 : (Jvm.Cond.stringRef "PastWatch$Reader" (343 : Nat) "sum") ∈ lw_tbl := lw_at lw_m8 49 rfl
theorem q1835 : (Jvm.Cond.fieldLink "PastWatch$Reader" (345 : Nat) "PastWatch$Over" "SUM" "LPastWatch$Over;") ∈ lw_all := lw_g (lw_at lw_m8 50 rfl) rfl
theorem q1837 : (Jvm.Cond.classLink "PastWatch$Reader" (368 : Nat) "PastWatch$Fold") ∈ lw_all := lw_g (lw_at lw_m8 52 rfl) rfl
theorem q1839 : (Jvm.Cond.methodLink "PastWatch$Reader" (370 : Nat) ({ cls := "PastWatch$Reader", name := "operand", desc := "()LPastWatch$Node;" } : Jvm.MethodName)) ∈ lw_all := lw_g (lw_at lw_m8 54 rfl) rfl
theorem q1840 : (Jvm.Cond.privateMethod ({ cls := "PastWatch$Reader", name := "operand", desc := "()LPastWatch$Node;" } : Jvm.MethodName)) ∈ lw_tbl := lw_at lw_m8 55 rfl
theorem q1841 : (Jvm.Cond.instanceMethod ({ cls := "PastWatch$Reader", name := "operand", desc := "()LPastWatch$Node;" } : Jvm.MethodName)) ∈ lw_all := lw_g (lw_at lw_m8 56 rfl) rfl
theorem q1842 : (Jvm.Cond.code ({ cls := "PastWatch$Reader", name := "operand", desc := "()LPastWatch$Node;" } : Jvm.MethodName) prog_22_method_29_code (2 : Nat) (Option.some (Jvm.ClassFile.FieldType.object "PastWatch$Node"))) ∈ lw_all := lw_g (lw_at lw_m8 57 rfl) rfl
theorem q1843 : (Jvm.Cond.methodLink "PastWatch$Reader" (373 : Nat) ({ cls := "PastWatch$Fold", name := "<init>", desc := "(ILPastWatch$Over;LPastWatch$Node;)V" } : Jvm.MethodName)) ∈ lw_all := lw_g (lw_at lw_m8 58 rfl) rfl
theorem q1856 : (Jvm.Cond.stringRef "PastWatch$Reader" (376 : Nat) "count") ∈ lw_tbl := lw_at lw_m8 71 rfl
theorem q1857 : (Jvm.Cond.classLink "PastWatch$Reader" (378 : Nat) "PastWatch$Count") ∈ lw_all := lw_g (lw_at lw_m8 72 rfl) rfl
theorem q1859 : (Jvm.Cond.methodLink "PastWatch$Reader" (380 : Nat) ({ cls := "PastWatch$Count", name := "<init>", desc := "(ILPastWatch$Node;)V" } : Jvm.MethodName)) ∈ lw_all := lw_g (lw_at lw_m8 74 rfl) rfl
theorem q1869 : (Jvm.Cond.stringRef "PastWatch$Reader" (381 : Nat) "last") ∈ lw_tbl := lw_at lw_m8 84 rfl
theorem q1870 : (Jvm.Cond.classLink "PastWatch$Reader" (383 : Nat) "PastWatch$Last") ∈ lw_all := lw_g (lw_at lw_m8 85 rfl) rfl
theorem q1872 : (Jvm.Cond.methodLink "PastWatch$Reader" (385 : Nat) ({ cls := "PastWatch$Last", name := "<init>", desc := "(ILPastWatch$Node;)V" } : Jvm.MethodName)) ∈ lw_all := lw_g (lw_at lw_m8 87 rfl) rfl
theorem q1882 : (Jvm.Cond.stringRef "PastWatch$Reader" (386 : Nat) "at") ∈ lw_tbl := lw_at lw_m8 97 rfl
theorem q1883 : (Jvm.Cond.methodLink "PastWatch$Reader" (387 : Nat) ({ cls := "PastWatch$Reader", name := "at", desc := "(LPastWatch$Token;)LPastWatch$Node;" } : Jvm.MethodName)) ∈ lw_all := lw_g (lw_at lw_m8 98 rfl) rfl
theorem q1884 : (Jvm.Cond.privateMethod ({ cls := "PastWatch$Reader", name := "at", desc := "(LPastWatch$Token;)LPastWatch$Node;" } : Jvm.MethodName)) ∈ lw_tbl := lw_at lw_m8 99 rfl
theorem q1885 : (Jvm.Cond.instanceMethod ({ cls := "PastWatch$Reader", name := "at", desc := "(LPastWatch$Token;)LPastWatch$Node;" } : Jvm.MethodName)) ∈ lw_all := lw_g (lw_at lw_m8 100 rfl) rfl
theorem q1886 : (Jvm.Cond.code ({ cls := "PastWatch$Reader", name := "at", desc := "(LPastWatch$Token;)LPastWatch$Node;" } : Jvm.MethodName) prog_22_method_30_code (3 : Nat) (Option.some (Jvm.ClassFile.FieldType.object "PastWatch$Node"))) ∈ lw_all := lw_g (lw_at lw_m8 101 rfl) rfl
theorem q1887 : (Jvm.Cond.classLink "PastWatch$Reader" (401 : Nat) "PastWatch$At") ∈ lw_all := lw_g (lw_at lw_m8 102 rfl) rfl
theorem q1889 : (Jvm.Cond.methodLink "PastWatch$Reader" (403 : Nat) ({ cls := "PastWatch$At", name := "<init>", desc := "(ILPastWatch$Node;LPastWatch$Node;)V" } : Jvm.MethodName)) ∈ lw_all := lw_g (lw_at lw_m8 104 rfl) rfl
theorem q1902 : (Jvm.Cond.stringRef "PastWatch$Reader" (390 : Nat) "if") ∈ lw_tbl := lw_at lw_m8 117 rfl
theorem q1903 : (Jvm.Cond.stringRef "PastWatch$Reader" (392 : Nat) "then") ∈ lw_tbl := lw_at lw_m8 118 rfl
theorem q1904 : (Jvm.Cond.stringRef "PastWatch$Reader" (394 : Nat) "else") ∈ lw_tbl := lw_at lw_m8 119 rfl
theorem q1905 : (Jvm.Cond.classLink "PastWatch$Reader" (396 : Nat) "PastWatch$Choice") ∈ lw_all := lw_g (lw_at lw_m8 120 rfl) rfl
theorem q1907 : (Jvm.Cond.methodLink "PastWatch$Reader" (398 : Nat) ({ cls := "PastWatch$Choice", name := "<init>", desc := "(ILPastWatch$Node;LPastWatch$Node;LPastWatch$Node;)V" } : Jvm.MethodName)) ∈ lw_all := lw_g (lw_at lw_m8 122 rfl) rfl
theorem q1923 : (Jvm.Cond.methodLink "PastWatch$Reader" (295 : Nat) ({ cls := "PastWatch$Op", name := "of", desc := "(LPastWatch$Token;)LPastWatch$Op;" } : Jvm.MethodName)) ∈ lw_all := lw_g (lw_at lw_m8 138 rfl) rfl
theorem q1938 : (Jvm.Cond.methodLink "PastWatch$Reader" (319 : Nat) ({ cls := "PastWatch$Op", name := "isProduct", desc := "()Z" } : Jvm.MethodName)) ∈ lw_all := lw_g (lw_at lw_m8 153 rfl) rfl
theorem q1948 : (Jvm.Cond.classLink "PastWatch$Reader" (303 : Nat) "PastWatch$Two") ∈ lw_all := lw_g (lw_at lw_m8 163 rfl) rfl
theorem q1950 : (Jvm.Cond.methodLink "PastWatch$Reader" (305 : Nat) ({ cls := "PastWatch$Two", name := "<init>", desc := "(ILPastWatch$Op;LPastWatch$Node;LPastWatch$Node;)V" } : Jvm.MethodName)) ∈ lw_all := lw_g (lw_at lw_m8 165 rfl) rfl
theorem q1966 : (Jvm.Cond.methodLink "PastWatch$Reader" (313 : Nat) ({ cls := "PastWatch$Op", name := "isSum", desc := "()Z" } : Jvm.MethodName)) ∈ lw_all := lw_g (lw_at lw_m8 181 rfl) rfl
theorem q1974 : (Jvm.Cond.methodLink "PastWatch$Reader" (300 : Nat) ({ cls := "PastWatch$Op", name := "isCompare", desc := "()Z" } : Jvm.MethodName)) ∈ lw_all := lw_g (lw_at lw_m8 189 rfl) rfl
theorem q1980 : (Jvm.Cond.stringRef "PastWatch$Reader" (232 : Nat) "since") ∈ lw_tbl := lw_at lw_m8 195 rfl
theorem q1981 : (Jvm.Cond.classLink "PastWatch$Reader" (237 : Nat) "PastWatch$Since") ∈ lw_all := lw_g (lw_at lw_m8 196 rfl) rfl
theorem q1983 : (Jvm.Cond.methodLink "PastWatch$Reader" (239 : Nat) ({ cls := "PastWatch$Since", name := "<init>", desc := "(ILPastWatch$Bounds;LPastWatch$Node;LPastWatch$Node;)V" } : Jvm.MethodName)) ∈ lw_all := lw_g (lw_at lw_m8 198 rfl) rfl
theorem q1999 : (Jvm.Cond.stringRef "PastWatch$Reader" (217 : Nat) "and") ∈ lw_tbl := lw_at lw_m8 214 rfl
theorem q2000 : (Jvm.Cond.stringRef "PastWatch$Reader" (219 : Nat) "or") ∈ lw_tbl := lw_at lw_m8 215 rfl
theorem q2001 : (Jvm.Cond.methodLink "PastWatch$Reader" (221 : Nat) ({ cls := "java/util/ArrayList", name := "get", desc := "(I)Ljava/lang/Object;" } : Jvm.MethodName)) ∈ lw_all := lw_g (lw_at lw_m8 216 rfl) rfl
theorem q2002 : (Jvm.Cond.classLink "PastWatch$Reader" (224 : Nat) "PastWatch$Row") ∈ lw_all := lw_g (lw_at lw_m8 217 rfl) rfl
theorem q2004 : (Jvm.Cond.methodLink "PastWatch$Reader" (226 : Nat) ({ cls := "PastWatch$Row", name := "<init>", desc := "(IZLjava/util/List;)V" } : Jvm.MethodName)) ∈ lw_all := lw_g (lw_at lw_m8 219 rfl) rfl
theorem q2017 : (Jvm.Cond.stringRef "PastWatch$Reader" (206 : Nat) "implies") ∈ lw_tbl := lw_at lw_m8 232 rfl
theorem q2018 : (Jvm.Cond.classLink "PastWatch$Reader" (208 : Nat) "PastWatch$Implies") ∈ lw_all := lw_g (lw_at lw_m8 233 rfl) rfl
theorem q2020 : (Jvm.Cond.methodLink "PastWatch$Reader" (210 : Nat) ({ cls := "PastWatch$Implies", name := "<init>", desc := "(ILPastWatch$Node;LPastWatch$Node;)V" } : Jvm.MethodName)) ∈ lw_all := lw_g (lw_at lw_m8 235 rfl) rfl
theorem q2033 : (Jvm.Cond.stringRef "PastWatch$Reader" (112 : Nat) "value") ∈ lw_tbl := lw_at lw_m9 8 rfl
theorem q2034 : (Jvm.Cond.methodLink "PastWatch$Reader" (114 : Nat) ({ cls := "PastWatch$Reader", name := "value", desc := "(LPastWatch$Token;)V" } : Jvm.MethodName)) ∈ lw_all := lw_g (lw_at lw_m9 9 rfl) rfl
theorem q2035 : (Jvm.Cond.privateMethod ({ cls := "PastWatch$Reader", name := "value", desc := "(LPastWatch$Token;)V" } : Jvm.MethodName)) ∈ lw_tbl := lw_at lw_m9 10 rfl
theorem q2036 : (Jvm.Cond.instanceMethod ({ cls := "PastWatch$Reader", name := "value", desc := "(LPastWatch$Token;)V" } : Jvm.MethodName)) ∈ lw_all := lw_g (lw_at lw_m9 11 rfl) rfl
theorem q2037 : (Jvm.Cond.code ({ cls := "PastWatch$Reader", name := "value", desc := "(LPastWatch$Token;)V" } : Jvm.MethodName) prog_22_method_17_code (4 : Nat) (Option.none : Option Jvm.ClassFile.FieldType)) ∈ lw_all := lw_g (lw_at lw_m9 12 rfl) rfl
theorem q2038 : (Jvm.Cond.stringRef "PastWatch$Reader" (116 : Nat) "watch") ∈ lw_tbl := lw_at lw_m9 13 rfl
theorem q2039 : (Jvm.Cond.methodLink "PastWatch$Reader" (118 : Nat) ({ cls := "PastWatch$Reader", name := "watch", desc := "(LPastWatch$Token;)V" } : Jvm.MethodName)) ∈ lw_all := lw_g (lw_at lw_m9 14 rfl) rfl
theorem q2040 : (Jvm.Cond.privateMethod ({ cls := "PastWatch$Reader", name := "watch", desc := "(LPastWatch$Token;)V" } : Jvm.MethodName)) ∈ lw_tbl := lw_at lw_m9 15 rfl
theorem q2041 : (Jvm.Cond.instanceMethod ({ cls := "PastWatch$Reader", name := "watch", desc := "(LPastWatch$Token;)V" } : Jvm.MethodName)) ∈ lw_all := lw_g (lw_at lw_m9 16 rfl) rfl
theorem q2042 : (Jvm.Cond.code ({ cls := "PastWatch$Reader", name := "watch", desc := "(LPastWatch$Token;)V" } : Jvm.MethodName) prog_22_method_18_code (6 : Nat) (Option.none : Option Jvm.ClassFile.FieldType)) ∈ lw_all := lw_g (lw_at lw_m9 17 rfl) rfl
theorem q2043 : (Jvm.Cond.stringRef "PastWatch$Reader" (193 : Nat) ":") ∈ lw_tbl := lw_at lw_m9 18 rfl
theorem q2044 : (Jvm.Cond.stringRef "PastWatch$Reader" (195 : Nat) "level") ∈ lw_tbl := lw_at lw_m9 19 rfl
theorem q2045 : (Jvm.Cond.classLink "PastWatch$Reader" (197 : Nat) "PastWatch$Watch") ∈ lw_all := lw_g (lw_at lw_m9 20 rfl) rfl
theorem q2047 : (Jvm.Cond.methodLink "PastWatch$Reader" (199 : Nat) ({ cls := "PastWatch$Watch", name := "<init>", desc := "(LPastWatch$Node;I)V" } : Jvm.MethodName)) ∈ lw_all := lw_g (lw_at lw_m9 22 rfl) rfl
theorem q2060 : (Jvm.Cond.stringRef "PastWatch$Reader" (120 : Nat) ";") ∈ lw_tbl := lw_at lw_m9 35 rfl
theorem q2061 : (Jvm.Cond.fieldLink "PastWatch$Reader" (75 : Nat) "PastWatch$Sort" "END" "LPastWatch$Sort;") ∈ lw_all := lw_g (lw_at lw_m9 36 rfl) rfl
theorem q2062 : (Jvm.Cond.methodLink "PastWatch$Reader" (86 : Nat) ({ cls := "java/util/ArrayList", name := "isEmpty", desc := "()Z" } : Jvm.MethodName)) ∈ lw_all := lw_g (lw_at lw_m9 37 rfl) rfl
theorem q2142 : (Jvm.Cond.instanceMethod ({ cls := "PastWatch$Reader", name := "readFormula", desc := "()LPastWatch$Node;" } : Jvm.MethodName)) ∈ lw_all := lw_g (lw_at lw_m9 117 rfl) rfl
theorem q2143 : (Jvm.Cond.selects "PastWatch$Reader" ({ cls := "PastWatch$Reader", name := "readFormula", desc := "()LPastWatch$Node;" } : Jvm.MethodName) ({ cls := "PastWatch$Reader", name := "readFormula", desc := "()LPastWatch$Node;" } : Jvm.MethodName)) ∈ lw_all := lw_g (lw_at lw_m9 118 rfl) rfl
theorem q2144 : (Jvm.Cond.code ({ cls := "PastWatch$Reader", name := "readFormula", desc := "()LPastWatch$Node;" } : Jvm.MethodName) prog_22_method_12_code (3 : Nat) (Option.some (Jvm.ClassFile.FieldType.object "PastWatch$Node"))) ∈ lw_all := lw_g (lw_at lw_m9 119 rfl) rfl
theorem q3266 : (Jvm.Cond.castable "PastWatch$Reader" "java/lang/Object") ∈ lw_tbl := lw_at lw_m14 41 rfl
theorem in_X4 : ∀ w ∈ wsX40, w ∈ lw_all := lw_in wsX40 [990, 992, 994, 996, 998, 1000] (by decide +kernel) (by decide +kernel)

