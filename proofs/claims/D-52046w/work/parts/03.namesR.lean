set_option maxRecDepth 100000
/-! PastWatch$Program -/

def RX2 : String := "PastWatch$Program"
def TX2 : u_T := fun k => match k with
  | 0 => ("PastWatch$Program", "signals", "Ljava/util/ArrayList;", true)
  | 1 => ("PastWatch$Program", "lets", "Ljava/util/ArrayList;", true)
  | 2 => ("PastWatch$Program", "values", "Ljava/util/ArrayList;", true)
  | 3 => ("PastWatch$Program", "watches", "Ljava/util/ArrayList;", true)
  | 4 => ("PastWatch$Program", "nodes", "Ljava/util/ArrayList;", true)
  | 5 => ("PastWatch$Program", "numbers", "Ljava/util/HashMap;", true)
  | _ => ("PastWatch$Program", "formulas", "Ljava/util/HashMap;", true)
def tyX2 : Nat → FieldType := fun k => match k with
  | 0 => .object "java/util/ArrayList"
  | 1 => .object "java/util/ArrayList"
  | 2 => .object "java/util/ArrayList"
  | 3 => .object "java/util/ArrayList"
  | 4 => .object "java/util/ArrayList"
  | 5 => .object "java/util/HashMap"
  | _ => .object "java/util/HashMap"
abbrev wsX20 : List Cond := u_ws RX2 TX2 7
theorem nmX2 : ∀ a, a < 7 → ∀ b, b < 7 → a ≠ b → (TX2 a).2.1 ≠ (TX2 b).2.1 := by decide +kernel
theorem tyX2_ok : ∀ k, k < 7 → parseFieldDescriptor (TX2 k).2.2.1 = some (tyX2 k) := by decide +kernel
abbrev cX2_init : ByteArray := prog_21_method_1_code
def yX2_init : MethodName := ⟨RX2, "<init>", "()V"⟩
def dkwX2_init_3 : List UInt8 := [181, 0, 31, 42, 187, 0, 28, 89, 183, 0, 30, 181, 0, 35, 177]
abbrev dktX2_init_3 : List UInt8 := dkwX2_init_3 ++ []
def dkwX2_init_2 : List UInt8 := [181, 0, 22, 42, 187, 0, 7, 89, 183, 0, 9, 181, 0, 25, 42, 187, 0, 28, 89, 183, 0, 30]
abbrev dktX2_init_2 : List UInt8 := dkwX2_init_2 ++ dktX2_init_3
def dkwX2_init_1 : List UInt8 := [181, 0, 16, 42, 187, 0, 7, 89, 183, 0, 9, 181, 0, 19, 42, 187, 0, 7, 89, 183, 0, 9]
abbrev dktX2_init_1 : List UInt8 := dkwX2_init_1 ++ dktX2_init_2
def dkwX2_init_0 : List UInt8 := [42, 183, 0, 1, 42, 187, 0, 7, 89, 183, 0, 9, 181, 0, 10, 42, 187, 0, 7, 89, 183, 0, 9]
abbrev dktX2_init_0 : List UInt8 := dkwX2_init_0 ++ dktX2_init_1
theorem dksX2_init_0 : cX2_init.data.toList.drop 0 = dktX2_init_0 := by decide +kernel
theorem dksX2_init_1 : cX2_init.data.toList.drop 23 = dktX2_init_1 := dk_seg dksX2_init_0 23 rfl rfl
theorem dksX2_init_2 : cX2_init.data.toList.drop 45 = dktX2_init_2 := dk_seg dksX2_init_1 22 rfl rfl
theorem dksX2_init_3 : cX2_init.data.toList.drop 67 = dktX2_init_3 := dk_seg dksX2_init_2 22 rfl rfl
theorem dX2_init_0 : decode cX2_init 0 = .ok (.aload_n 0, 1) := dk_42 (dk_at dksX2_init_0 0 rfl rfl)
theorem dX2_init_1 : decode cX2_init 1 = .ok (.invokespecial 1, 3) := dk_183 0 1 (dk_at dksX2_init_0 1 rfl rfl)
theorem dX2_init_4 : decode cX2_init 4 = .ok (.aload_n 0, 1) := dk_42 (dk_at dksX2_init_0 4 rfl rfl)
theorem dX2_init_5 : decode cX2_init 5 = .ok (.new 7, 3) := dk_187 0 7 (dk_at dksX2_init_0 5 rfl rfl)
theorem dX2_init_8 : decode cX2_init 8 = .ok (.dup, 1) := dk_89 (dk_at dksX2_init_0 8 rfl rfl)
theorem dX2_init_9 : decode cX2_init 9 = .ok (.invokespecial 9, 3) := dk_183 0 9 (dk_at dksX2_init_0 9 rfl rfl)
theorem dX2_init_12 : decode cX2_init 12 = .ok (.putfield 10, 3) := dk_181 0 10 (dk_at dksX2_init_0 12 rfl rfl)
theorem dX2_init_15 : decode cX2_init 15 = .ok (.aload_n 0, 1) := dk_42 (dk_at dksX2_init_0 15 rfl rfl)
theorem dX2_init_16 : decode cX2_init 16 = .ok (.new 7, 3) := dk_187 0 7 (dk_at dksX2_init_0 16 rfl rfl)
theorem dX2_init_19 : decode cX2_init 19 = .ok (.dup, 1) := dk_89 (dk_at dksX2_init_0 19 rfl rfl)
theorem dX2_init_20 : decode cX2_init 20 = .ok (.invokespecial 9, 3) := dk_183 0 9 (dk_at dksX2_init_0 20 rfl rfl)
theorem dX2_init_23 : decode cX2_init 23 = .ok (.putfield 16, 3) := dk_181 0 16 (dk_at dksX2_init_1 0 rfl rfl)
theorem dX2_init_26 : decode cX2_init 26 = .ok (.aload_n 0, 1) := dk_42 (dk_at dksX2_init_1 3 rfl rfl)
theorem dX2_init_27 : decode cX2_init 27 = .ok (.new 7, 3) := dk_187 0 7 (dk_at dksX2_init_1 4 rfl rfl)
theorem dX2_init_30 : decode cX2_init 30 = .ok (.dup, 1) := dk_89 (dk_at dksX2_init_1 7 rfl rfl)
theorem dX2_init_31 : decode cX2_init 31 = .ok (.invokespecial 9, 3) := dk_183 0 9 (dk_at dksX2_init_1 8 rfl rfl)
theorem dX2_init_34 : decode cX2_init 34 = .ok (.putfield 19, 3) := dk_181 0 19 (dk_at dksX2_init_1 11 rfl rfl)
theorem dX2_init_37 : decode cX2_init 37 = .ok (.aload_n 0, 1) := dk_42 (dk_at dksX2_init_1 14 rfl rfl)
theorem dX2_init_38 : decode cX2_init 38 = .ok (.new 7, 3) := dk_187 0 7 (dk_at dksX2_init_1 15 rfl rfl)
theorem dX2_init_41 : decode cX2_init 41 = .ok (.dup, 1) := dk_89 (dk_at dksX2_init_1 18 rfl rfl)
theorem dX2_init_42 : decode cX2_init 42 = .ok (.invokespecial 9, 3) := dk_183 0 9 (dk_at dksX2_init_1 19 rfl rfl)
theorem dX2_init_45 : decode cX2_init 45 = .ok (.putfield 22, 3) := dk_181 0 22 (dk_at dksX2_init_2 0 rfl rfl)
theorem dX2_init_48 : decode cX2_init 48 = .ok (.aload_n 0, 1) := dk_42 (dk_at dksX2_init_2 3 rfl rfl)
theorem dX2_init_49 : decode cX2_init 49 = .ok (.new 7, 3) := dk_187 0 7 (dk_at dksX2_init_2 4 rfl rfl)
theorem dX2_init_52 : decode cX2_init 52 = .ok (.dup, 1) := dk_89 (dk_at dksX2_init_2 7 rfl rfl)
theorem dX2_init_53 : decode cX2_init 53 = .ok (.invokespecial 9, 3) := dk_183 0 9 (dk_at dksX2_init_2 8 rfl rfl)
theorem dX2_init_56 : decode cX2_init 56 = .ok (.putfield 25, 3) := dk_181 0 25 (dk_at dksX2_init_2 11 rfl rfl)
theorem dX2_init_59 : decode cX2_init 59 = .ok (.aload_n 0, 1) := dk_42 (dk_at dksX2_init_2 14 rfl rfl)
theorem dX2_init_60 : decode cX2_init 60 = .ok (.new 28, 3) := dk_187 0 28 (dk_at dksX2_init_2 15 rfl rfl)
theorem dX2_init_63 : decode cX2_init 63 = .ok (.dup, 1) := dk_89 (dk_at dksX2_init_2 18 rfl rfl)
theorem dX2_init_64 : decode cX2_init 64 = .ok (.invokespecial 30, 3) := dk_183 0 30 (dk_at dksX2_init_2 19 rfl rfl)
theorem dX2_init_67 : decode cX2_init 67 = .ok (.putfield 31, 3) := dk_181 0 31 (dk_at dksX2_init_3 0 rfl rfl)
theorem dX2_init_70 : decode cX2_init 70 = .ok (.aload_n 0, 1) := dk_42 (dk_at dksX2_init_3 3 rfl rfl)
theorem dX2_init_71 : decode cX2_init 71 = .ok (.new 28, 3) := dk_187 0 28 (dk_at dksX2_init_3 4 rfl rfl)
theorem dX2_init_74 : decode cX2_init 74 = .ok (.dup, 1) := dk_89 (dk_at dksX2_init_3 7 rfl rfl)
theorem dX2_init_75 : decode cX2_init 75 = .ok (.invokespecial 30, 3) := dk_183 0 30 (dk_at dksX2_init_3 8 rfl rfl)
theorem dX2_init_78 : decode cX2_init 78 = .ok (.putfield 35, 3) := dk_181 0 35 (dk_at dksX2_init_3 11 rfl rfl)
theorem dX2_init_81 : decode cX2_init 81 = .ok (.return_, 1) := dk_177 (dk_at dksX2_init_3 14 rfl rfl)
abbrev cX2_has : ByteArray := prog_21_method_2_code
def yX2_has : MethodName := ⟨RX2, "has", "(Ljava/lang/String;)Z"⟩
def dkwX2_has_1 : List UInt8 := [167, 0, 4, 3, 172]
abbrev dktX2_has_1 : List UInt8 := dkwX2_has_1 ++ []
def dkwX2_has_0 : List UInt8 := [42, 180, 0, 31, 43, 182, 0, 38, 154, 0, 14, 42, 180, 0, 35, 43, 182, 0, 38, 153, 0, 7, 4]
abbrev dktX2_has_0 : List UInt8 := dkwX2_has_0 ++ dktX2_has_1
theorem dksX2_has_0 : cX2_has.data.toList.drop 0 = dktX2_has_0 := by decide +kernel
theorem dksX2_has_1 : cX2_has.data.toList.drop 23 = dktX2_has_1 := dk_seg dksX2_has_0 23 rfl rfl
theorem dX2_has_0 : decode cX2_has 0 = .ok (.aload_n 0, 1) := dk_42 (dk_at dksX2_has_0 0 rfl rfl)
theorem dX2_has_1 : decode cX2_has 1 = .ok (.getfield 31, 3) := dk_180 0 31 (dk_at dksX2_has_0 1 rfl rfl)
theorem dX2_has_4 : decode cX2_has 4 = .ok (.aload_n 1, 1) := dk_43 (dk_at dksX2_has_0 4 rfl rfl)
theorem dX2_has_5 : decode cX2_has 5 = .ok (.invokevirtual 38, 3) := dk_182 0 38 (dk_at dksX2_has_0 5 rfl rfl)
theorem dX2_has_8 : decode cX2_has 8 = .ok (.ifCond .ne 14, 3) := dk_154 0 14 (dk_at dksX2_has_0 8 rfl rfl)
theorem dX2_has_11 : decode cX2_has 11 = .ok (.aload_n 0, 1) := dk_42 (dk_at dksX2_has_0 11 rfl rfl)
theorem dX2_has_12 : decode cX2_has 12 = .ok (.getfield 35, 3) := dk_180 0 35 (dk_at dksX2_has_0 12 rfl rfl)
theorem dX2_has_15 : decode cX2_has 15 = .ok (.aload_n 1, 1) := dk_43 (dk_at dksX2_has_0 15 rfl rfl)
theorem dX2_has_16 : decode cX2_has 16 = .ok (.invokevirtual 38, 3) := dk_182 0 38 (dk_at dksX2_has_0 16 rfl rfl)
theorem dX2_has_19 : decode cX2_has 19 = .ok (.ifCond .eq 7, 3) := dk_153 0 7 (dk_at dksX2_has_0 19 rfl rfl)
theorem dX2_has_22 : decode cX2_has 22 = .ok (.iconst 1, 1) := dk_4 (dk_at dksX2_has_0 22 rfl rfl)
theorem dX2_has_23 : decode cX2_has 23 = .ok (.goto 4, 3) := dk_167 0 4 (dk_at dksX2_has_1 0 rfl rfl)
theorem dX2_has_26 : decode cX2_has 26 = .ok (.iconst 0, 1) := dk_3 (dk_at dksX2_has_1 3 rfl rfl)
theorem dX2_has_27 : decode cX2_has 27 = .ok (.ireturn, 1) := dk_172 (dk_at dksX2_has_1 4 rfl rfl)
theorem q107 : (Jvm.Cond.initialized "PastWatch$Program") ∈ lw_all := lw_g (lw_at lw_m1 2 rfl) rfl
theorem q178 : (Jvm.Cond.instantiable "PastWatch$Program" (7 : Nat)) ∈ lw_all := lw_g (lw_at lw_m1 73 rfl) rfl
theorem q180 : (Jvm.Cond.instanceMethod ({ cls := "PastWatch$Program", name := "<init>", desc := "()V" } : Jvm.MethodName)) ∈ lw_all := lw_g (lw_at lw_m1 75 rfl) rfl
theorem q181 : (Jvm.Cond.code ({ cls := "PastWatch$Program", name := "<init>", desc := "()V" } : Jvm.MethodName) prog_21_method_1_code (1 : Nat) (Option.none : Option Jvm.ClassFile.FieldType)) ∈ lw_all := lw_g (lw_at lw_m1 76 rfl) rfl
theorem q182 : (Jvm.Cond.methodLink "PastWatch$Program" (1 : Nat) ({ cls := "java/lang/Object", name := "<init>", desc := "()V" } : Jvm.MethodName)) ∈ lw_all := lw_g (lw_at lw_m1 77 rfl) rfl
theorem q183 : (Jvm.Cond.classLink "PastWatch$Program" (7 : Nat) "java/util/ArrayList") ∈ lw_all := lw_g (lw_at lw_m1 78 rfl) rfl
theorem q185 : (Jvm.Cond.methodLink "PastWatch$Program" (9 : Nat) ({ cls := "java/util/ArrayList", name := "<init>", desc := "()V" } : Jvm.MethodName)) ∈ lw_all := lw_g (lw_at lw_m1 80 rfl) rfl
theorem q213 : (Jvm.Cond.classLink "PastWatch$Program" (28 : Nat) "java/util/HashMap") ∈ lw_all := lw_g (lw_at lw_m1 108 rfl) rfl
theorem q215 : (Jvm.Cond.methodLink "PastWatch$Program" (30 : Nat) ({ cls := "java/util/HashMap", name := "<init>", desc := "()V" } : Jvm.MethodName)) ∈ lw_all := lw_g (lw_at lw_m1 110 rfl) rfl
theorem q245 : (Jvm.Cond.fieldLink "PastWatch$Program" (10 : Nat) "PastWatch$Program" "signals" "Ljava/util/ArrayList;") ∈ lw_all := lw_g (lw_at lw_m1 140 rfl) rfl
theorem q248 : (Jvm.Cond.fieldLink "PastWatch$Program" (16 : Nat) "PastWatch$Program" "lets" "Ljava/util/ArrayList;") ∈ lw_all := lw_g (lw_at lw_m1 143 rfl) rfl
theorem q251 : (Jvm.Cond.fieldLink "PastWatch$Program" (19 : Nat) "PastWatch$Program" "values" "Ljava/util/ArrayList;") ∈ lw_all := lw_g (lw_at lw_m1 146 rfl) rfl
theorem q254 : (Jvm.Cond.fieldLink "PastWatch$Program" (22 : Nat) "PastWatch$Program" "watches" "Ljava/util/ArrayList;") ∈ lw_all := lw_g (lw_at lw_m1 149 rfl) rfl
theorem q257 : (Jvm.Cond.fieldLink "PastWatch$Program" (25 : Nat) "PastWatch$Program" "nodes" "Ljava/util/ArrayList;") ∈ lw_all := lw_g (lw_at lw_m1 152 rfl) rfl
theorem q259 : (Jvm.Cond.fieldLink "PastWatch$Program" (31 : Nat) "PastWatch$Program" "numbers" "Ljava/util/HashMap;") ∈ lw_all := lw_g (lw_at lw_m1 154 rfl) rfl
theorem q261 : (Jvm.Cond.fieldLink "PastWatch$Program" (35 : Nat) "PastWatch$Program" "formulas" "Ljava/util/HashMap;") ∈ lw_all := lw_g (lw_at lw_m1 156 rfl) rfl
theorem q263 : (Jvm.Cond.laysFinal "PastWatch$Program" "PastWatch$Program" "signals" "Ljava/util/ArrayList;") ∈ lw_all := lw_g (lw_at lw_m1 158 rfl) rfl
theorem q264 : (Jvm.Cond.soleField "PastWatch$Program" "signals") ∈ lw_all := lw_g (lw_at lw_m1 159 rfl) rfl
theorem q265 : (Jvm.Cond.laysFinal "PastWatch$Program" "PastWatch$Program" "lets" "Ljava/util/ArrayList;") ∈ lw_all := lw_g (lw_at lw_m1 160 rfl) rfl
theorem q266 : (Jvm.Cond.soleField "PastWatch$Program" "lets") ∈ lw_all := lw_g (lw_at lw_m1 161 rfl) rfl
theorem q267 : (Jvm.Cond.laysFinal "PastWatch$Program" "PastWatch$Program" "values" "Ljava/util/ArrayList;") ∈ lw_all := lw_g (lw_at lw_m1 162 rfl) rfl
theorem q268 : (Jvm.Cond.soleField "PastWatch$Program" "values") ∈ lw_all := lw_g (lw_at lw_m1 163 rfl) rfl
theorem q269 : (Jvm.Cond.laysFinal "PastWatch$Program" "PastWatch$Program" "watches" "Ljava/util/ArrayList;") ∈ lw_all := lw_g (lw_at lw_m1 164 rfl) rfl
theorem q270 : (Jvm.Cond.soleField "PastWatch$Program" "watches") ∈ lw_all := lw_g (lw_at lw_m1 165 rfl) rfl
theorem q271 : (Jvm.Cond.laysFinal "PastWatch$Program" "PastWatch$Program" "nodes" "Ljava/util/ArrayList;") ∈ lw_all := lw_g (lw_at lw_m1 166 rfl) rfl
theorem q272 : (Jvm.Cond.soleField "PastWatch$Program" "nodes") ∈ lw_all := lw_g (lw_at lw_m1 167 rfl) rfl
theorem q273 : (Jvm.Cond.laysFinal "PastWatch$Program" "PastWatch$Program" "numbers" "Ljava/util/HashMap;") ∈ lw_all := lw_g (lw_at lw_m1 168 rfl) rfl
theorem q274 : (Jvm.Cond.soleField "PastWatch$Program" "numbers") ∈ lw_all := lw_g (lw_at lw_m1 169 rfl) rfl
theorem q275 : (Jvm.Cond.laysFinal "PastWatch$Program" "PastWatch$Program" "formulas" "Ljava/util/HashMap;") ∈ lw_all := lw_g (lw_at lw_m1 170 rfl) rfl
theorem q276 : (Jvm.Cond.soleField "PastWatch$Program" "formulas") ∈ lw_all := lw_g (lw_at lw_m1 171 rfl) rfl
theorem q277 : (Jvm.Cond.superclass "PastWatch$Program" "java/lang/Object") ∈ lw_all := lw_g (lw_at lw_m1 172 rfl) rfl
theorem q942 : (Jvm.Cond.selects "PastWatch$Program" ({ cls := "java/lang/Object", name := "getClass", desc := "()Ljava/lang/Class;" } : Jvm.MethodName) ({ cls := "java/lang/Object", name := "getClass", desc := "()Ljava/lang/Class;" } : Jvm.MethodName)) ∈ lw_all := lw_g (lw_at lw_m4 117 rfl) rfl
theorem q1102 : (Jvm.Cond.instanceMethod ({ cls := "PastWatch$Program", name := "has", desc := "(Ljava/lang/String;)Z" } : Jvm.MethodName)) ∈ lw_all := lw_g (lw_at lw_m5 37 rfl) rfl
theorem q1103 : (Jvm.Cond.selects "PastWatch$Program" ({ cls := "PastWatch$Program", name := "has", desc := "(Ljava/lang/String;)Z" } : Jvm.MethodName) ({ cls := "PastWatch$Program", name := "has", desc := "(Ljava/lang/String;)Z" } : Jvm.MethodName)) ∈ lw_all := lw_g (lw_at lw_m5 38 rfl) rfl
theorem q1104 : (Jvm.Cond.code ({ cls := "PastWatch$Program", name := "has", desc := "(Ljava/lang/String;)Z" } : Jvm.MethodName) prog_21_method_2_code (2 : Nat) (Option.some Jvm.ClassFile.FieldType.boolean)) ∈ lw_all := lw_g (lw_at lw_m5 39 rfl) rfl
theorem q1105 : (Jvm.Cond.methodLink "PastWatch$Program" (38 : Nat) ({ cls := "java/util/HashMap", name := "containsKey", desc := "(Ljava/lang/Object;)Z" } : Jvm.MethodName)) ∈ lw_all := lw_g (lw_at lw_m5 40 rfl) rfl
theorem q1143 : (Jvm.Cond.selects "PastWatch$Program" ({ cls := "java/lang/Object", name := "hashCode", desc := "()I" } : Jvm.MethodName) ({ cls := "java/lang/Object", name := "hashCode", desc := "()I" } : Jvm.MethodName)) ∈ lw_all := lw_g (lw_at lw_m5 78 rfl) rfl
theorem q1189 : (Jvm.Cond.selects "PastWatch$Program" ({ cls := "java/lang/Object", name := "equals", desc := "(Ljava/lang/Object;)Z" } : Jvm.MethodName) ({ cls := "java/lang/Object", name := "equals", desc := "(Ljava/lang/Object;)Z" } : Jvm.MethodName)) ∈ lw_all := lw_g (lw_at lw_m5 124 rfl) rfl
theorem q3260 : (Jvm.Cond.castable "PastWatch$Program" "java/lang/Object") ∈ lw_tbl := lw_at lw_m14 35 rfl
theorem in_X2 : ∀ w ∈ wsX20, w ∈ lw_all := lw_in wsX20 [263, 265, 267, 269, 271, 273, 275] (by decide +kernel) (by decide +kernel)

/-! PastWatch$Token -/

def RX5 : String := "PastWatch$Token"
def TX5 : u_T := fun k => match k with
  | 0 => ("PastWatch$Token", "sort", "LPastWatch$Sort;", true)
  | 1 => ("PastWatch$Token", "text", "Ljava/lang/String;", true)
  | _ => ("PastWatch$Token", "place", "I", true)
def tyX5 : Nat → FieldType := fun k => match k with
  | 0 => .object "PastWatch$Sort"
  | 1 => .object "java/lang/String"
  | _ => .int
abbrev wsX50 : List Cond := u_ws RX5 TX5 3
theorem nmX5 : ∀ a, a < 3 → ∀ b, b < 3 → a ≠ b → (TX5 a).2.1 ≠ (TX5 b).2.1 := by decide +kernel
theorem tyX5_ok : ∀ k, k < 3 → parseFieldDescriptor (TX5 k).2.2.1 = some (tyX5 k) := by decide +kernel
abbrev cX5_init : ByteArray := prog_29_method_1_code
def yX5_init : MethodName := ⟨RX5, "<init>", "(LPastWatch$Sort;Ljava/lang/String;I)V"⟩
def dkwX5_init_0 : List UInt8 := [42, 183, 0, 1, 42, 43, 181, 0, 7, 42, 44, 181, 0, 13, 42, 29, 181, 0, 17, 177]
abbrev dktX5_init_0 : List UInt8 := dkwX5_init_0 ++ []
theorem dksX5_init_0 : cX5_init.data.toList.drop 0 = dktX5_init_0 := by decide +kernel
theorem dX5_init_0 : decode cX5_init 0 = .ok (.aload_n 0, 1) := dk_42 (dk_at dksX5_init_0 0 rfl rfl)
theorem dX5_init_1 : decode cX5_init 1 = .ok (.invokespecial 1, 3) := dk_183 0 1 (dk_at dksX5_init_0 1 rfl rfl)
theorem dX5_init_4 : decode cX5_init 4 = .ok (.aload_n 0, 1) := dk_42 (dk_at dksX5_init_0 4 rfl rfl)
theorem dX5_init_5 : decode cX5_init 5 = .ok (.aload_n 1, 1) := dk_43 (dk_at dksX5_init_0 5 rfl rfl)
theorem dX5_init_6 : decode cX5_init 6 = .ok (.putfield 7, 3) := dk_181 0 7 (dk_at dksX5_init_0 6 rfl rfl)
theorem dX5_init_9 : decode cX5_init 9 = .ok (.aload_n 0, 1) := dk_42 (dk_at dksX5_init_0 9 rfl rfl)
theorem dX5_init_10 : decode cX5_init 10 = .ok (.aload_n 2, 1) := dk_44 (dk_at dksX5_init_0 10 rfl rfl)
theorem dX5_init_11 : decode cX5_init 11 = .ok (.putfield 13, 3) := dk_181 0 13 (dk_at dksX5_init_0 11 rfl rfl)
theorem dX5_init_14 : decode cX5_init 14 = .ok (.aload_n 0, 1) := dk_42 (dk_at dksX5_init_0 14 rfl rfl)
theorem dX5_init_15 : decode cX5_init 15 = .ok (.iload_n 3, 1) := dk_29 (dk_at dksX5_init_0 15 rfl rfl)
theorem dX5_init_16 : decode cX5_init 16 = .ok (.putfield 17, 3) := dk_181 0 17 (dk_at dksX5_init_0 16 rfl rfl)
theorem dX5_init_19 : decode cX5_init 19 = .ok (.return_, 1) := dk_177 (dk_at dksX5_init_0 19 rfl rfl)
abbrev cX5_is : ByteArray := prog_29_method_2_code
def yX5_is : MethodName := ⟨RX5, "is", "(Ljava/lang/String;)Z"⟩
def dkwX5_is_1 : List UInt8 := [43, 182, 0, 29, 153, 0, 7, 4, 167, 0, 4, 3, 172]
abbrev dktX5_is_1 : List UInt8 := dkwX5_is_1 ++ []
def dkwX5_is_0 : List UInt8 := [42, 180, 0, 7, 178, 0, 21, 165, 0, 13, 42, 180, 0, 7, 178, 0, 26, 166, 0, 18, 42, 180, 0, 13]
abbrev dktX5_is_0 : List UInt8 := dkwX5_is_0 ++ dktX5_is_1
theorem dksX5_is_0 : cX5_is.data.toList.drop 0 = dktX5_is_0 := by decide +kernel
theorem dksX5_is_1 : cX5_is.data.toList.drop 24 = dktX5_is_1 := dk_seg dksX5_is_0 24 rfl rfl
theorem dX5_is_0 : decode cX5_is 0 = .ok (.aload_n 0, 1) := dk_42 (dk_at dksX5_is_0 0 rfl rfl)
theorem dX5_is_1 : decode cX5_is 1 = .ok (.getfield 7, 3) := dk_180 0 7 (dk_at dksX5_is_0 1 rfl rfl)
theorem dX5_is_4 : decode cX5_is 4 = .ok (.getstatic 21, 3) := dk_178 0 21 (dk_at dksX5_is_0 4 rfl rfl)
theorem dX5_is_7 : decode cX5_is 7 = .ok (.if_acmp .eq 13, 3) := dk_165 0 13 (dk_at dksX5_is_0 7 rfl rfl)
theorem dX5_is_10 : decode cX5_is 10 = .ok (.aload_n 0, 1) := dk_42 (dk_at dksX5_is_0 10 rfl rfl)
theorem dX5_is_11 : decode cX5_is 11 = .ok (.getfield 7, 3) := dk_180 0 7 (dk_at dksX5_is_0 11 rfl rfl)
theorem dX5_is_14 : decode cX5_is 14 = .ok (.getstatic 26, 3) := dk_178 0 26 (dk_at dksX5_is_0 14 rfl rfl)
theorem dX5_is_17 : decode cX5_is 17 = .ok (.if_acmp .ne 18, 3) := dk_166 0 18 (dk_at dksX5_is_0 17 rfl rfl)
theorem dX5_is_20 : decode cX5_is 20 = .ok (.aload_n 0, 1) := dk_42 (dk_at dksX5_is_0 20 rfl rfl)
theorem dX5_is_21 : decode cX5_is 21 = .ok (.getfield 13, 3) := dk_180 0 13 (dk_at dksX5_is_0 21 rfl rfl)
theorem dX5_is_24 : decode cX5_is 24 = .ok (.aload_n 1, 1) := dk_43 (dk_at dksX5_is_1 0 rfl rfl)
theorem dX5_is_25 : decode cX5_is 25 = .ok (.invokevirtual 29, 3) := dk_182 0 29 (dk_at dksX5_is_1 1 rfl rfl)
theorem dX5_is_28 : decode cX5_is 28 = .ok (.ifCond .eq 7, 3) := dk_153 0 7 (dk_at dksX5_is_1 4 rfl rfl)
theorem dX5_is_31 : decode cX5_is 31 = .ok (.iconst 1, 1) := dk_4 (dk_at dksX5_is_1 7 rfl rfl)
theorem dX5_is_32 : decode cX5_is 32 = .ok (.goto 4, 3) := dk_167 0 4 (dk_at dksX5_is_1 8 rfl rfl)
theorem dX5_is_35 : decode cX5_is 35 = .ok (.iconst 0, 1) := dk_3 (dk_at dksX5_is_1 11 rfl rfl)
theorem dX5_is_36 : decode cX5_is 36 = .ok (.ireturn, 1) := dk_172 (dk_at dksX5_is_1 12 rfl rfl)
abbrev cX5_number : ByteArray := prog_29_method_3_code
def yX5_number : MethodName := ⟨RX5, "number", "()I"⟩
def dkwX5_number_1 : List UInt8 := [182, 0, 39, 96, 16, 48, 100, 60, 132, 2, 1, 167, 255, 225, 27, 172]
abbrev dktX5_number_1 : List UInt8 := dkwX5_number_1 ++ []
def dkwX5_number_0 : List UInt8 := [3, 60, 3, 61, 28, 42, 180, 0, 13, 182, 0, 35, 162, 0, 26, 16, 10, 27, 104, 42, 180, 0, 13, 28]
abbrev dktX5_number_0 : List UInt8 := dkwX5_number_0 ++ dktX5_number_1
theorem dksX5_number_0 : cX5_number.data.toList.drop 0 = dktX5_number_0 := by decide +kernel
theorem dksX5_number_1 : cX5_number.data.toList.drop 24 = dktX5_number_1 := dk_seg dksX5_number_0 24 rfl rfl
theorem dX5_number_0 : decode cX5_number 0 = .ok (.iconst 0, 1) := dk_3 (dk_at dksX5_number_0 0 rfl rfl)
theorem dX5_number_1 : decode cX5_number 1 = .ok (.istore_n 1, 1) := dk_60 (dk_at dksX5_number_0 1 rfl rfl)
theorem dX5_number_2 : decode cX5_number 2 = .ok (.iconst 0, 1) := dk_3 (dk_at dksX5_number_0 2 rfl rfl)
theorem dX5_number_3 : decode cX5_number 3 = .ok (.istore_n 2, 1) := dk_61 (dk_at dksX5_number_0 3 rfl rfl)
theorem dX5_number_4 : decode cX5_number 4 = .ok (.iload_n 2, 1) := dk_28 (dk_at dksX5_number_0 4 rfl rfl)
theorem dX5_number_5 : decode cX5_number 5 = .ok (.aload_n 0, 1) := dk_42 (dk_at dksX5_number_0 5 rfl rfl)
theorem dX5_number_6 : decode cX5_number 6 = .ok (.getfield 13, 3) := dk_180 0 13 (dk_at dksX5_number_0 6 rfl rfl)
theorem dX5_number_9 : decode cX5_number 9 = .ok (.invokevirtual 35, 3) := dk_182 0 35 (dk_at dksX5_number_0 9 rfl rfl)
theorem dX5_number_12 : decode cX5_number 12 = .ok (.if_icmp .ge 26, 3) := dk_162 0 26 (dk_at dksX5_number_0 12 rfl rfl)
theorem dX5_number_15 : decode cX5_number 15 = .ok (.bipush 10, 2) := dk_16 10 (dk_at dksX5_number_0 15 rfl rfl)
theorem dX5_number_17 : decode cX5_number 17 = .ok (.iload_n 1, 1) := dk_27 (dk_at dksX5_number_0 17 rfl rfl)
theorem dX5_number_18 : decode cX5_number 18 = .ok (.imul, 1) := dk_104 (dk_at dksX5_number_0 18 rfl rfl)
theorem dX5_number_19 : decode cX5_number 19 = .ok (.aload_n 0, 1) := dk_42 (dk_at dksX5_number_0 19 rfl rfl)
theorem dX5_number_20 : decode cX5_number 20 = .ok (.getfield 13, 3) := dk_180 0 13 (dk_at dksX5_number_0 20 rfl rfl)
theorem dX5_number_23 : decode cX5_number 23 = .ok (.iload_n 2, 1) := dk_28 (dk_at dksX5_number_0 23 rfl rfl)
theorem dX5_number_24 : decode cX5_number 24 = .ok (.invokevirtual 39, 3) := dk_182 0 39 (dk_at dksX5_number_1 0 rfl rfl)
theorem dX5_number_27 : decode cX5_number 27 = .ok (.iadd, 1) := dk_96 (dk_at dksX5_number_1 3 rfl rfl)
theorem dX5_number_28 : decode cX5_number 28 = .ok (.bipush 48, 2) := dk_16 48 (dk_at dksX5_number_1 4 rfl rfl)
theorem dX5_number_30 : decode cX5_number 30 = .ok (.isub, 1) := dk_100 (dk_at dksX5_number_1 6 rfl rfl)
theorem dX5_number_31 : decode cX5_number 31 = .ok (.istore_n 1, 1) := dk_60 (dk_at dksX5_number_1 7 rfl rfl)
theorem dX5_number_32 : decode cX5_number 32 = .ok (.iinc 2 1, 3) := dk_132 2 1 (dk_at dksX5_number_1 8 rfl rfl)
theorem dX5_number_35 : decode cX5_number 35 = .ok (.goto (-31), 3) := dk_167 255 225 (dk_at dksX5_number_1 11 rfl rfl)
theorem dX5_number_38 : decode cX5_number 38 = .ok (.iload_n 1, 1) := dk_27 (dk_at dksX5_number_1 14 rfl rfl)
theorem dX5_number_39 : decode cX5_number 39 = .ok (.ireturn, 1) := dk_172 (dk_at dksX5_number_1 15 rfl rfl)
theorem q132 : (Jvm.Cond.initialized "PastWatch$Token") ∈ lw_all := lw_g (lw_at lw_m1 27 rfl) rfl
theorem q711 : (Jvm.Cond.instantiable "PastWatch$Token" (3 : Nat)) ∈ lw_all := lw_g (lw_at lw_m3 126 rfl) rfl
theorem q817 : (Jvm.Cond.instanceMethod ({ cls := "PastWatch$Token", name := "<init>", desc := "(LPastWatch$Sort;Ljava/lang/String;I)V" } : Jvm.MethodName)) ∈ lw_all := lw_g (lw_at lw_m3 232 rfl) rfl
theorem q818 : (Jvm.Cond.code ({ cls := "PastWatch$Token", name := "<init>", desc := "(LPastWatch$Sort;Ljava/lang/String;I)V" } : Jvm.MethodName) prog_29_method_1_code (4 : Nat) (Option.none : Option Jvm.ClassFile.FieldType)) ∈ lw_all := lw_g (lw_at lw_m3 233 rfl) rfl
theorem q819 : (Jvm.Cond.methodLink "PastWatch$Token" (1 : Nat) ({ cls := "java/lang/Object", name := "<init>", desc := "()V" } : Jvm.MethodName)) ∈ lw_all := lw_g (lw_at lw_m3 234 rfl) rfl
theorem q820 : (Jvm.Cond.fieldLink "PastWatch$Token" (7 : Nat) "PastWatch$Token" "sort" "LPastWatch$Sort;") ∈ lw_all := lw_g (lw_at lw_m3 235 rfl) rfl
theorem q823 : (Jvm.Cond.fieldLink "PastWatch$Token" (13 : Nat) "PastWatch$Token" "text" "Ljava/lang/String;") ∈ lw_all := lw_g (lw_at lw_m3 238 rfl) rfl
theorem q826 : (Jvm.Cond.fieldLink "PastWatch$Token" (17 : Nat) "PastWatch$Token" "place" "I") ∈ lw_all := lw_g (lw_at lw_m4 1 rfl) rfl
theorem q828 : (Jvm.Cond.laysFinal "PastWatch$Token" "PastWatch$Token" "sort" "LPastWatch$Sort;") ∈ lw_all := lw_g (lw_at lw_m4 3 rfl) rfl
theorem q829 : (Jvm.Cond.soleField "PastWatch$Token" "sort") ∈ lw_all := lw_g (lw_at lw_m4 4 rfl) rfl
theorem q830 : (Jvm.Cond.laysFinal "PastWatch$Token" "PastWatch$Token" "text" "Ljava/lang/String;") ∈ lw_all := lw_g (lw_at lw_m4 5 rfl) rfl
theorem q831 : (Jvm.Cond.soleField "PastWatch$Token" "text") ∈ lw_all := lw_g (lw_at lw_m4 6 rfl) rfl
theorem q832 : (Jvm.Cond.laysFinal "PastWatch$Token" "PastWatch$Token" "place" "I") ∈ lw_all := lw_g (lw_at lw_m4 7 rfl) rfl
theorem q833 : (Jvm.Cond.soleField "PastWatch$Token" "place") ∈ lw_all := lw_g (lw_at lw_m4 8 rfl) rfl
theorem q834 : (Jvm.Cond.superclass "PastWatch$Token" "java/lang/Object") ∈ lw_all := lw_g (lw_at lw_m4 9 rfl) rfl
theorem q950 : (Jvm.Cond.selects "PastWatch$Token" ({ cls := "java/lang/Object", name := "getClass", desc := "()Ljava/lang/Class;" } : Jvm.MethodName) ({ cls := "java/lang/Object", name := "getClass", desc := "()Ljava/lang/Class;" } : Jvm.MethodName)) ∈ lw_all := lw_g (lw_at lw_m4 125 rfl) rfl
theorem q1040 : (Jvm.Cond.instanceMethod ({ cls := "PastWatch$Token", name := "is", desc := "(Ljava/lang/String;)Z" } : Jvm.MethodName)) ∈ lw_all := lw_g (lw_at lw_m4 215 rfl) rfl
theorem q1041 : (Jvm.Cond.selects "PastWatch$Token" ({ cls := "PastWatch$Token", name := "is", desc := "(Ljava/lang/String;)Z" } : Jvm.MethodName) ({ cls := "PastWatch$Token", name := "is", desc := "(Ljava/lang/String;)Z" } : Jvm.MethodName)) ∈ lw_all := lw_g (lw_at lw_m4 216 rfl) rfl
theorem q1042 : (Jvm.Cond.code ({ cls := "PastWatch$Token", name := "is", desc := "(Ljava/lang/String;)Z" } : Jvm.MethodName) prog_29_method_2_code (2 : Nat) (Option.some Jvm.ClassFile.FieldType.boolean)) ∈ lw_all := lw_g (lw_at lw_m4 217 rfl) rfl
theorem q1043 : (Jvm.Cond.fieldLink "PastWatch$Token" (21 : Nat) "PastWatch$Sort" "SYMBOL" "LPastWatch$Sort;") ∈ lw_all := lw_g (lw_at lw_m4 218 rfl) rfl
theorem q1044 : (Jvm.Cond.fieldLink "PastWatch$Token" (26 : Nat) "PastWatch$Sort" "KEYWORD" "LPastWatch$Sort;") ∈ lw_all := lw_g (lw_at lw_m4 219 rfl) rfl
theorem q1045 : (Jvm.Cond.methodLink "PastWatch$Token" (29 : Nat) ({ cls := "java/lang/String", name := "equals", desc := "(Ljava/lang/Object;)Z" } : Jvm.MethodName)) ∈ lw_all := lw_g (lw_at lw_m4 220 rfl) rfl
theorem q1151 : (Jvm.Cond.selects "PastWatch$Token" ({ cls := "java/lang/Object", name := "hashCode", desc := "()I" } : Jvm.MethodName) ({ cls := "java/lang/Object", name := "hashCode", desc := "()I" } : Jvm.MethodName)) ∈ lw_all := lw_g (lw_at lw_m5 86 rfl) rfl
theorem q1197 : (Jvm.Cond.selects "PastWatch$Token" ({ cls := "java/lang/Object", name := "equals", desc := "(Ljava/lang/Object;)Z" } : Jvm.MethodName) ({ cls := "java/lang/Object", name := "equals", desc := "(Ljava/lang/Object;)Z" } : Jvm.MethodName)) ∈ lw_all := lw_g (lw_at lw_m5 132 rfl) rfl
theorem q1470 : (Jvm.Cond.instanceMethod ({ cls := "PastWatch$Token", name := "number", desc := "()I" } : Jvm.MethodName)) ∈ lw_all := lw_g (lw_at lw_m6 165 rfl) rfl
theorem q1471 : (Jvm.Cond.selects "PastWatch$Token" ({ cls := "PastWatch$Token", name := "number", desc := "()I" } : Jvm.MethodName) ({ cls := "PastWatch$Token", name := "number", desc := "()I" } : Jvm.MethodName)) ∈ lw_all := lw_g (lw_at lw_m6 166 rfl) rfl
theorem q1472 : (Jvm.Cond.code ({ cls := "PastWatch$Token", name := "number", desc := "()I" } : Jvm.MethodName) prog_29_method_3_code (3 : Nat) (Option.some Jvm.ClassFile.FieldType.int)) ∈ lw_all := lw_g (lw_at lw_m6 167 rfl) rfl
theorem q1473 : (Jvm.Cond.methodLink "PastWatch$Token" (35 : Nat) ({ cls := "java/lang/String", name := "length", desc := "()I" } : Jvm.MethodName)) ∈ lw_all := lw_g (lw_at lw_m6 168 rfl) rfl
theorem q1474 : (Jvm.Cond.methodLink "PastWatch$Token" (39 : Nat) ({ cls := "java/lang/String", name := "charAt", desc := "(I)C" } : Jvm.MethodName)) ∈ lw_all := lw_g (lw_at lw_m6 169 rfl) rfl
theorem q3268 : (Jvm.Cond.castable "PastWatch$Token" "java/lang/Object") ∈ lw_tbl := lw_at lw_m14 43 rfl
theorem in_X5 : ∀ w ∈ wsX50, w ∈ lw_all := lw_in wsX50 [828, 830, 832] (by decide +kernel) (by decide +kernel)

/-! PastWatch$Wrong -/

def RX6 : String := "PastWatch$Wrong"
def TX6 : u_T := fun k => match k with
  | 0 => ("java/lang/Throwable", "cause", "Ljava/lang/Throwable;", false)
  | 1 => ("java/lang/Throwable", "stackTrace", "[Ljava/lang/StackTraceElement;", false)
  | 2 => ("java/lang/Throwable", "suppressedExceptions", "Ljava/util/List;", false)
  | 3 => ("java/lang/Throwable", "detailMessage", "Ljava/lang/String;", false)
  | 4 => ("java/lang/Throwable", "backtrace", "Ljava/lang/Object;", false)
  | 5 => ("java/lang/Throwable", "depth", "I", false)
  | 6 => ("PastWatch$Wrong", "error", "I", true)
  | _ => ("PastWatch$Wrong", "place", "I", true)
def tyX6 : Nat → FieldType := fun k => match k with
  | 0 => .object "java/lang/Throwable"
  | 1 => .array (.object "java/lang/StackTraceElement")
  | 2 => .object "java/util/List"
  | 3 => .object "java/lang/String"
  | 4 => .object "java/lang/Object"
  | 5 => .int
  | 6 => .int
  | _ => .int
abbrev wsX60 : List Cond := u_ws RX6 TX6 8
theorem nmX6 : ∀ a, a < 8 → ∀ b, b < 8 → a ≠ b → (TX6 a).2.1 ≠ (TX6 b).2.1 := by decide +kernel
theorem tyX6_ok : ∀ k, k < 8 → parseFieldDescriptor (TX6 k).2.2.1 = some (tyX6 k) := by decide +kernel
abbrev cX6_init : ByteArray := prog_32_method_1_code
def yX6_init : MethodName := ⟨RX6, "<init>", "(II)V"⟩
def dkwX6_init_0 : List UInt8 := [42, 183, 0, 1, 42, 27, 181, 0, 7, 42, 28, 181, 0, 13, 177]
abbrev dktX6_init_0 : List UInt8 := dkwX6_init_0 ++ []
theorem dksX6_init_0 : cX6_init.data.toList.drop 0 = dktX6_init_0 := by decide +kernel
theorem dX6_init_0 : decode cX6_init 0 = .ok (.aload_n 0, 1) := dk_42 (dk_at dksX6_init_0 0 rfl rfl)
theorem dX6_init_1 : decode cX6_init 1 = .ok (.invokespecial 1, 3) := dk_183 0 1 (dk_at dksX6_init_0 1 rfl rfl)
theorem dX6_init_4 : decode cX6_init 4 = .ok (.aload_n 0, 1) := dk_42 (dk_at dksX6_init_0 4 rfl rfl)
theorem dX6_init_5 : decode cX6_init 5 = .ok (.iload_n 1, 1) := dk_27 (dk_at dksX6_init_0 5 rfl rfl)
theorem dX6_init_6 : decode cX6_init 6 = .ok (.putfield 7, 3) := dk_181 0 7 (dk_at dksX6_init_0 6 rfl rfl)
theorem dX6_init_9 : decode cX6_init 9 = .ok (.aload_n 0, 1) := dk_42 (dk_at dksX6_init_0 9 rfl rfl)
theorem dX6_init_10 : decode cX6_init 10 = .ok (.iload_n 2, 1) := dk_28 (dk_at dksX6_init_0 10 rfl rfl)
theorem dX6_init_11 : decode cX6_init 11 = .ok (.putfield 13, 3) := dk_181 0 13 (dk_at dksX6_init_0 11 rfl rfl)
theorem dX6_init_14 : decode cX6_init 14 = .ok (.return_, 1) := dk_177 (dk_at dksX6_init_0 14 rfl rfl)
theorem q137 : (Jvm.Cond.initialized "PastWatch$Wrong") ∈ lw_all := lw_g (lw_at lw_m1 32 rfl) rfl
theorem q521 : (Jvm.Cond.selects "PastWatch$Wrong" ({ cls := "java/lang/Throwable", name := "fillInStackTrace", desc := "()Ljava/lang/Throwable;" } : Jvm.MethodName) ({ cls := "java/lang/Throwable", name := "fillInStackTrace", desc := "()Ljava/lang/Throwable;" } : Jvm.MethodName)) ∈ lw_all := lw_g (lw_at lw_m2 176 rfl) rfl
theorem q953 : (Jvm.Cond.selects "PastWatch$Wrong" ({ cls := "java/lang/Object", name := "getClass", desc := "()Ljava/lang/Class;" } : Jvm.MethodName) ({ cls := "java/lang/Object", name := "getClass", desc := "()Ljava/lang/Class;" } : Jvm.MethodName)) ∈ lw_all := lw_g (lw_at lw_m4 128 rfl) rfl
theorem q1060 : (Jvm.Cond.instantiable "PastWatch$Wrong" (8 : Nat)) ∈ lw_all := lw_g (lw_at lw_m4 235 rfl) rfl
theorem q1061 : (Jvm.Cond.castable "PastWatch$Wrong" "PastWatch$Wrong") ∈ lw_tbl := lw_at lw_m4 236 rfl
theorem q1062 : (Jvm.Cond.selects "PastWatch$Wrong" ({ cls := "java/lang/Throwable", name := "fillInStackTrace", desc := "(I)Ljava/lang/Throwable;" } : Jvm.MethodName) ({ cls := "java/lang/Throwable", name := "fillInStackTrace", desc := "(I)Ljava/lang/Throwable;" } : Jvm.MethodName)) ∈ lw_all := lw_g (lw_at lw_m4 237 rfl) rfl
theorem q1063 : (Jvm.Cond.lays "PastWatch$Wrong" "java/lang/Throwable" "cause" "Ljava/lang/Throwable;") ∈ lw_all := lw_g (lw_at lw_m4 238 rfl) rfl
theorem q1064 : (Jvm.Cond.lays "PastWatch$Wrong" "java/lang/Throwable" "stackTrace" "[Ljava/lang/StackTraceElement;") ∈ lw_all := lw_g (lw_at lw_m4 239 rfl) rfl
theorem q1065 : (Jvm.Cond.lays "PastWatch$Wrong" "java/lang/Throwable" "suppressedExceptions" "Ljava/util/List;") ∈ lw_all := lw_g (lw_at lw_m5 0 rfl) rfl
theorem q1066 : (Jvm.Cond.lays "PastWatch$Wrong" "java/lang/Throwable" "detailMessage" "Ljava/lang/String;") ∈ lw_all := lw_g (lw_at lw_m5 1 rfl) rfl
theorem q1067 : (Jvm.Cond.lays "PastWatch$Wrong" "java/lang/Throwable" "backtrace" "Ljava/lang/Object;") ∈ lw_all := lw_g (lw_at lw_m5 2 rfl) rfl
theorem q1069 : (Jvm.Cond.instanceMethod ({ cls := "PastWatch$Wrong", name := "<init>", desc := "(II)V" } : Jvm.MethodName)) ∈ lw_all := lw_g (lw_at lw_m5 4 rfl) rfl
theorem q1070 : (Jvm.Cond.code ({ cls := "PastWatch$Wrong", name := "<init>", desc := "(II)V" } : Jvm.MethodName) prog_32_method_1_code (3 : Nat) (Option.none : Option Jvm.ClassFile.FieldType)) ∈ lw_all := lw_g (lw_at lw_m5 5 rfl) rfl
theorem q1071 : (Jvm.Cond.methodLink "PastWatch$Wrong" (1 : Nat) ({ cls := "java/lang/RuntimeException", name := "<init>", desc := "()V" } : Jvm.MethodName)) ∈ lw_all := lw_g (lw_at lw_m5 6 rfl) rfl
theorem q1078 : (Jvm.Cond.fieldLink "PastWatch$Wrong" (7 : Nat) "PastWatch$Wrong" "error" "I") ∈ lw_all := lw_g (lw_at lw_m5 13 rfl) rfl
theorem q1080 : (Jvm.Cond.fieldLink "PastWatch$Wrong" (13 : Nat) "PastWatch$Wrong" "place" "I") ∈ lw_all := lw_g (lw_at lw_m5 15 rfl) rfl
theorem q1082 : (Jvm.Cond.laysFinal "PastWatch$Wrong" "PastWatch$Wrong" "error" "I") ∈ lw_all := lw_g (lw_at lw_m5 17 rfl) rfl
theorem q1083 : (Jvm.Cond.soleField "PastWatch$Wrong" "error") ∈ lw_all := lw_g (lw_at lw_m5 18 rfl) rfl
theorem q1084 : (Jvm.Cond.laysFinal "PastWatch$Wrong" "PastWatch$Wrong" "place" "I") ∈ lw_all := lw_g (lw_at lw_m5 19 rfl) rfl
theorem q1085 : (Jvm.Cond.soleField "PastWatch$Wrong" "place") ∈ lw_all := lw_g (lw_at lw_m5 20 rfl) rfl
theorem q1086 : (Jvm.Cond.lays "PastWatch$Wrong" "java/lang/Throwable" "depth" "I") ∈ lw_all := lw_g (lw_at lw_m5 21 rfl) rfl
theorem q1087 : (Jvm.Cond.superclass "PastWatch$Wrong" "java/lang/RuntimeException") ∈ lw_all := lw_g (lw_at lw_m5 22 rfl) rfl
theorem q1154 : (Jvm.Cond.selects "PastWatch$Wrong" ({ cls := "java/lang/Object", name := "hashCode", desc := "()I" } : Jvm.MethodName) ({ cls := "java/lang/Object", name := "hashCode", desc := "()I" } : Jvm.MethodName)) ∈ lw_all := lw_g (lw_at lw_m5 89 rfl) rfl
theorem q1200 : (Jvm.Cond.selects "PastWatch$Wrong" ({ cls := "java/lang/Object", name := "equals", desc := "(Ljava/lang/Object;)Z" } : Jvm.MethodName) ({ cls := "java/lang/Object", name := "equals", desc := "(Ljava/lang/Object;)Z" } : Jvm.MethodName)) ∈ lw_all := lw_g (lw_at lw_m5 135 rfl) rfl
theorem q3271 : (Jvm.Cond.castable "PastWatch$Wrong" "java/lang/Object") ∈ lw_tbl := lw_at lw_m14 46 rfl
theorem in_X6 : ∀ w ∈ wsX60, w ∈ lw_all := lw_in wsX60 [1063, 1064, 1065, 1066, 1067, 1086, 1082, 1084] (by decide +kernel) (by decide +kernel)

/-! PastWatch$Node -/

def RX7 : String := "PastWatch$Node"
abbrev cX7_init : ByteArray := prog_18_method_1_code
def yX7_init : MethodName := ⟨RX7, "<init>", "(I)V"⟩
def dkwX7_init_0 : List UInt8 := [42, 183, 0, 3, 42, 27, 181, 0, 9, 177]
abbrev dktX7_init_0 : List UInt8 := dkwX7_init_0 ++ []
theorem dksX7_init_0 : cX7_init.data.toList.drop 0 = dktX7_init_0 := by decide +kernel
theorem dX7_init_0 : decode cX7_init 0 = .ok (.aload_n 0, 1) := dk_42 (dk_at dksX7_init_0 0 rfl rfl)
theorem dX7_init_1 : decode cX7_init 1 = .ok (.invokespecial 3, 3) := dk_183 0 3 (dk_at dksX7_init_0 1 rfl rfl)
theorem dX7_init_4 : decode cX7_init 4 = .ok (.aload_n 0, 1) := dk_42 (dk_at dksX7_init_0 4 rfl rfl)
theorem dX7_init_5 : decode cX7_init 5 = .ok (.iload_n 1, 1) := dk_27 (dk_at dksX7_init_0 5 rfl rfl)
theorem dX7_init_6 : decode cX7_init 6 = .ok (.putfield 9, 3) := dk_181 0 9 (dk_at dksX7_init_0 6 rfl rfl)
theorem dX7_init_9 : decode cX7_init 9 = .ok (.return_, 1) := dk_177 (dk_at dksX7_init_0 9 rfl rfl)
abbrev cX7_at : ByteArray := prog_18_method_4_code
def yX7_at : MethodName := ⟨RX7, "at", "(I)J"⟩
def dkwX7_at_0 : List UInt8 := [42, 180, 0, 15, 27, 47, 173]
abbrev dktX7_at_0 : List UInt8 := dkwX7_at_0 ++ []
theorem dksX7_at_0 : cX7_at.data.toList.drop 0 = dktX7_at_0 := by decide +kernel
theorem dX7_at_0 : decode cX7_at 0 = .ok (.aload_n 0, 1) := dk_42 (dk_at dksX7_at_0 0 rfl rfl)
theorem dX7_at_1 : decode cX7_at 1 = .ok (.getfield 15, 3) := dk_180 0 15 (dk_at dksX7_at_0 1 rfl rfl)
theorem dX7_at_4 : decode cX7_at 4 = .ok (.iload_n 1, 1) := dk_27 (dk_at dksX7_at_0 4 rfl rfl)
theorem dX7_at_5 : decode cX7_at 5 = .ok (.laload, 1) := dk_47 (dk_at dksX7_at_0 5 rfl rfl)
theorem dX7_at_6 : decode cX7_at 6 = .ok (.lreturn, 1) := dk_173 (dk_at dksX7_at_0 6 rfl rfl)
abbrev cX7_keep : ByteArray := prog_18_method_3_code
def yX7_keep : MethodName := ⟨RX7, "keep", "(I[I)V"⟩
def dkwX7_keep_1 : List UInt8 := [182, 0, 19, 80, 177]
abbrev dktX7_keep_1 : List UInt8 := dkwX7_keep_1 ++ []
def dkwX7_keep_0 : List UInt8 := [42, 180, 0, 15, 199, 0, 11, 42, 16, 120, 188, 11, 181, 0, 15, 42, 180, 0, 15, 27, 42, 27, 44]
abbrev dktX7_keep_0 : List UInt8 := dkwX7_keep_0 ++ dktX7_keep_1
theorem dksX7_keep_0 : cX7_keep.data.toList.drop 0 = dktX7_keep_0 := by decide +kernel
theorem dksX7_keep_1 : cX7_keep.data.toList.drop 23 = dktX7_keep_1 := dk_seg dksX7_keep_0 23 rfl rfl
theorem dX7_keep_0 : decode cX7_keep 0 = .ok (.aload_n 0, 1) := dk_42 (dk_at dksX7_keep_0 0 rfl rfl)
theorem dX7_keep_1 : decode cX7_keep 1 = .ok (.getfield 15, 3) := dk_180 0 15 (dk_at dksX7_keep_0 1 rfl rfl)
theorem dX7_keep_4 : decode cX7_keep 4 = .ok (.ifnonnull 11, 3) := dk_199 0 11 (dk_at dksX7_keep_0 4 rfl rfl)
theorem dX7_keep_7 : decode cX7_keep 7 = .ok (.aload_n 0, 1) := dk_42 (dk_at dksX7_keep_0 7 rfl rfl)
theorem dX7_keep_8 : decode cX7_keep 8 = .ok (.bipush 120, 2) := dk_16 120 (dk_at dksX7_keep_0 8 rfl rfl)
theorem dX7_keep_10 : decode cX7_keep 10 = .ok (.newarray .long, 2) := dk_188_11 (dk_at dksX7_keep_0 10 rfl rfl)
theorem dX7_keep_12 : decode cX7_keep 12 = .ok (.putfield 15, 3) := dk_181 0 15 (dk_at dksX7_keep_0 12 rfl rfl)
theorem dX7_keep_15 : decode cX7_keep 15 = .ok (.aload_n 0, 1) := dk_42 (dk_at dksX7_keep_0 15 rfl rfl)
theorem dX7_keep_16 : decode cX7_keep 16 = .ok (.getfield 15, 3) := dk_180 0 15 (dk_at dksX7_keep_0 16 rfl rfl)
theorem dX7_keep_19 : decode cX7_keep 19 = .ok (.iload_n 1, 1) := dk_27 (dk_at dksX7_keep_0 19 rfl rfl)
theorem dX7_keep_20 : decode cX7_keep 20 = .ok (.aload_n 0, 1) := dk_42 (dk_at dksX7_keep_0 20 rfl rfl)
theorem dX7_keep_21 : decode cX7_keep 21 = .ok (.iload_n 1, 1) := dk_27 (dk_at dksX7_keep_0 21 rfl rfl)
theorem dX7_keep_22 : decode cX7_keep 22 = .ok (.aload_n 2, 1) := dk_44 (dk_at dksX7_keep_0 22 rfl rfl)
theorem dX7_keep_23 : decode cX7_keep 23 = .ok (.invokevirtual 19, 3) := dk_182 0 19 (dk_at dksX7_keep_1 0 rfl rfl)
theorem dX7_keep_26 : decode cX7_keep 26 = .ok (.lastore, 1) := dk_80 (dk_at dksX7_keep_1 3 rfl rfl)
theorem dX7_keep_27 : decode cX7_keep 27 = .ok (.return_, 1) := dk_177 (dk_at dksX7_keep_1 4 rfl rfl)
abbrev cX7_holds : ByteArray := prog_18_method_5_code
def yX7_holds : MethodName := ⟨RX7, "holds", "(I)Z"⟩
def dkwX7_holds_0 : List UInt8 := [42, 180, 0, 15, 27, 47, 9, 148, 153, 0, 7, 4, 167, 0, 4, 3, 172]
abbrev dktX7_holds_0 : List UInt8 := dkwX7_holds_0 ++ []
theorem dksX7_holds_0 : cX7_holds.data.toList.drop 0 = dktX7_holds_0 := by decide +kernel
theorem dX7_holds_0 : decode cX7_holds 0 = .ok (.aload_n 0, 1) := dk_42 (dk_at dksX7_holds_0 0 rfl rfl)
theorem dX7_holds_1 : decode cX7_holds 1 = .ok (.getfield 15, 3) := dk_180 0 15 (dk_at dksX7_holds_0 1 rfl rfl)
theorem dX7_holds_4 : decode cX7_holds 4 = .ok (.iload_n 1, 1) := dk_27 (dk_at dksX7_holds_0 4 rfl rfl)
theorem dX7_holds_5 : decode cX7_holds 5 = .ok (.laload, 1) := dk_47 (dk_at dksX7_holds_0 5 rfl rfl)
theorem dX7_holds_6 : decode cX7_holds 6 = .ok (.lconst 0, 1) := dk_9 (dk_at dksX7_holds_0 6 rfl rfl)
theorem dX7_holds_7 : decode cX7_holds 7 = .ok (.lcmp, 1) := dk_148 (dk_at dksX7_holds_0 7 rfl rfl)
theorem dX7_holds_8 : decode cX7_holds 8 = .ok (.ifCond .eq 7, 3) := dk_153 0 7 (dk_at dksX7_holds_0 8 rfl rfl)
theorem dX7_holds_11 : decode cX7_holds 11 = .ok (.iconst 1, 1) := dk_4 (dk_at dksX7_holds_0 11 rfl rfl)
theorem dX7_holds_12 : decode cX7_holds 12 = .ok (.goto 4, 3) := dk_167 0 4 (dk_at dksX7_holds_0 12 rfl rfl)
theorem dX7_holds_15 : decode cX7_holds 15 = .ok (.iconst 0, 1) := dk_3 (dk_at dksX7_holds_0 15 rfl rfl)
theorem dX7_holds_16 : decode cX7_holds 16 = .ok (.ireturn, 1) := dk_172 (dk_at dksX7_holds_0 16 rfl rfl)
abbrev cX7_reason : ByteArray := prog_18_method_6_code
def yX7_reason : MethodName := ⟨RX7, "reason", "(I[I)LPastWatch$Reason;"⟩
def dkwX7_reason_0 : List UInt8 := [187, 0, 23, 89, 42, 180, 0, 9, 27, 183, 0, 25, 176]
abbrev dktX7_reason_0 : List UInt8 := dkwX7_reason_0 ++ []
theorem dksX7_reason_0 : cX7_reason.data.toList.drop 0 = dktX7_reason_0 := by decide +kernel
theorem dX7_reason_0 : decode cX7_reason 0 = .ok (.new 23, 3) := dk_187 0 23 (dk_at dksX7_reason_0 0 rfl rfl)
theorem dX7_reason_3 : decode cX7_reason 3 = .ok (.dup, 1) := dk_89 (dk_at dksX7_reason_0 3 rfl rfl)
theorem dX7_reason_4 : decode cX7_reason 4 = .ok (.aload_n 0, 1) := dk_42 (dk_at dksX7_reason_0 4 rfl rfl)
theorem dX7_reason_5 : decode cX7_reason 5 = .ok (.getfield 9, 3) := dk_180 0 9 (dk_at dksX7_reason_0 5 rfl rfl)
theorem dX7_reason_8 : decode cX7_reason 8 = .ok (.iload_n 1, 1) := dk_27 (dk_at dksX7_reason_0 8 rfl rfl)
theorem dX7_reason_9 : decode cX7_reason 9 = .ok (.invokespecial 25, 3) := dk_183 0 25 (dk_at dksX7_reason_0 9 rfl rfl)
theorem dX7_reason_12 : decode cX7_reason 12 = .ok (.areturn, 1) := dk_176 (dk_at dksX7_reason_0 12 rfl rfl)
theorem q141 : (Jvm.Cond.initialized "PastWatch$Node") ∈ lw_all := lw_g (lw_at lw_m1 36 rfl) rfl
theorem q1481 : (Jvm.Cond.instanceMethod ({ cls := "PastWatch$Node", name := "<init>", desc := "(I)V" } : Jvm.MethodName)) ∈ lw_all := lw_g (lw_at lw_m6 176 rfl) rfl
theorem q1482 : (Jvm.Cond.code ({ cls := "PastWatch$Node", name := "<init>", desc := "(I)V" } : Jvm.MethodName) prog_18_method_1_code (2 : Nat) (Option.none : Option Jvm.ClassFile.FieldType)) ∈ lw_all := lw_g (lw_at lw_m6 177 rfl) rfl
theorem q1483 : (Jvm.Cond.methodLink "PastWatch$Node" (3 : Nat) ({ cls := "java/lang/Object", name := "<init>", desc := "()V" } : Jvm.MethodName)) ∈ lw_all := lw_g (lw_at lw_m6 178 rfl) rfl
theorem q1488 : (Jvm.Cond.fieldLink "PastWatch$Node" (9 : Nat) "PastWatch$Node" "place" "I") ∈ lw_all := lw_g (lw_at lw_m6 183 rfl) rfl
theorem q1489 : (Jvm.Cond.fieldLink "PastWatch$Node" (15 : Nat) "PastWatch$Node" "history" "[J") ∈ lw_all := lw_g (lw_at lw_m6 184 rfl) rfl
theorem q1495 : (Jvm.Cond.soleField "PastWatch$Node" "place") ∈ lw_all := lw_g (lw_at lw_m6 190 rfl) rfl
theorem q1497 : (Jvm.Cond.soleField "PastWatch$Node" "history") ∈ lw_all := lw_g (lw_at lw_m6 192 rfl) rfl
theorem q2132 : (Jvm.Cond.declares ({ cls := "PastWatch$Node", name := "at", desc := "(I)J" } : Jvm.MethodName)) ∈ lw_tbl := lw_at lw_m9 107 rfl
theorem q2134 : (Jvm.Cond.instanceMethod ({ cls := "PastWatch$Node", name := "at", desc := "(I)J" } : Jvm.MethodName)) ∈ lw_all := lw_g (lw_at lw_m9 109 rfl) rfl
theorem q2135 : (Jvm.Cond.code ({ cls := "PastWatch$Node", name := "at", desc := "(I)J" } : Jvm.MethodName) prog_18_method_4_code (2 : Nat) (Option.some Jvm.ClassFile.FieldType.long)) ∈ lw_all := lw_g (lw_at lw_m9 110 rfl) rfl
theorem q2160 : (Jvm.Cond.instanceMethod ({ cls := "PastWatch$Node", name := "keep", desc := "(I[I)V" } : Jvm.MethodName)) ∈ lw_all := lw_g (lw_at lw_m9 135 rfl) rfl
theorem q2161 : (Jvm.Cond.sameMethod "PastWatch$Node" "PastWatch$Node" "keep" "(I[I)V") ∈ lw_all := lw_g (lw_at lw_m9 136 rfl) rfl
theorem q2177 : (Jvm.Cond.code ({ cls := "PastWatch$Node", name := "keep", desc := "(I[I)V" } : Jvm.MethodName) prog_18_method_3_code (3 : Nat) (Option.none : Option Jvm.ClassFile.FieldType)) ∈ lw_all := lw_g (lw_at lw_m9 152 rfl) rfl
theorem q2178 : (Jvm.Cond.methodLink "PastWatch$Node" (19 : Nat) ({ cls := "PastWatch$Node", name := "reckon", desc := "(I[I)J" } : Jvm.MethodName)) ∈ lw_all := lw_g (lw_at lw_m9 153 rfl) rfl
theorem q2179 : (Jvm.Cond.declares ({ cls := "PastWatch$Node", name := "reckon", desc := "(I[I)J" } : Jvm.MethodName)) ∈ lw_tbl := lw_at lw_m9 154 rfl
theorem q2180 : (Jvm.Cond.sameMethod "PastWatch$Node" "PastWatch$Node" "reckon" "(I[I)J") ∈ lw_all := lw_g (lw_at lw_m9 155 rfl) rfl
theorem q2188 : (Jvm.Cond.instanceMethod ({ cls := "PastWatch$Node", name := "holds", desc := "(I)Z" } : Jvm.MethodName)) ∈ lw_all := lw_g (lw_at lw_m9 163 rfl) rfl
theorem q2189 : (Jvm.Cond.sameMethod "PastWatch$Node" "PastWatch$Node" "holds" "(I)Z") ∈ lw_all := lw_g (lw_at lw_m9 164 rfl) rfl
theorem q2205 : (Jvm.Cond.code ({ cls := "PastWatch$Node", name := "holds", desc := "(I)Z" } : Jvm.MethodName) prog_18_method_5_code (2 : Nat) (Option.some Jvm.ClassFile.FieldType.boolean)) ∈ lw_all := lw_g (lw_at lw_m9 180 rfl) rfl
theorem q2227 : (Jvm.Cond.declares ({ cls := "PastWatch$Node", name := "holds", desc := "(I)Z" } : Jvm.MethodName)) ∈ lw_tbl := lw_at lw_m9 202 rfl
theorem q2564 : (Jvm.Cond.instanceMethod ({ cls := "PastWatch$Node", name := "reason", desc := "(I[I)LPastWatch$Reason;" } : Jvm.MethodName)) ∈ lw_all := lw_g (lw_at lw_m11 59 rfl) rfl
theorem q2565 : (Jvm.Cond.sameMethod "PastWatch$Node" "PastWatch$Node" "reason" "(I[I)LPastWatch$Reason;") ∈ lw_all := lw_g (lw_at lw_m11 60 rfl) rfl
theorem q2584 : (Jvm.Cond.code ({ cls := "PastWatch$Node", name := "reason", desc := "(I[I)LPastWatch$Reason;" } : Jvm.MethodName) prog_18_method_6_code (3 : Nat) (Option.some (Jvm.ClassFile.FieldType.object "PastWatch$Reason"))) ∈ lw_all := lw_g (lw_at lw_m11 79 rfl) rfl
theorem q2585 : (Jvm.Cond.classLink "PastWatch$Node" (23 : Nat) "PastWatch$Reason") ∈ lw_all := lw_g (lw_at lw_m11 80 rfl) rfl
theorem q2587 : (Jvm.Cond.methodLink "PastWatch$Node" (25 : Nat) ({ cls := "PastWatch$Reason", name := "<init>", desc := "(II)V" } : Jvm.MethodName)) ∈ lw_all := lw_g (lw_at lw_m11 82 rfl) rfl
theorem q3216 : (Jvm.Cond.sameMethod "PastWatch$Node" "PastWatch$Node" "at" "(I)J") ∈ lw_all := lw_g (lw_at lw_m13 231 rfl) rfl

/-! PastWatch$Signal -/

def RX8 : String := "PastWatch$Signal"
def TX8 : u_T := fun k => match k with
  | 0 => ("PastWatch$Node", "place", "I", true)
  | 1 => ("PastWatch$Node", "history", "[J", false)
  | 2 => ("PastWatch$Signal", "first", "J", true)
  | _ => ("PastWatch$Signal", "next", "J", false)
def tyX8 : Nat → FieldType := fun k => match k with
  | 0 => .int
  | 1 => .array .long
  | 2 => .long
  | _ => .long
abbrev wsX80 : List Cond := u_ws RX8 TX8 4
theorem nmX8 : ∀ a, a < 4 → ∀ b, b < 4 → a ≠ b → (TX8 a).2.1 ≠ (TX8 b).2.1 := by decide +kernel
theorem tyX8_ok : ∀ k, k < 4 → parseFieldDescriptor (TX8 k).2.2.1 = some (tyX8 k) := by decide +kernel
abbrev cX8_init : ByteArray := prog_26_method_1_code
def yX8_init : MethodName := ⟨RX8, "<init>", "(IJ)V"⟩
def dkwX8_init_0 : List UInt8 := [42, 27, 183, 0, 1, 42, 32, 181, 0, 7, 42, 32, 181, 0, 13, 177]
abbrev dktX8_init_0 : List UInt8 := dkwX8_init_0 ++ []
theorem dksX8_init_0 : cX8_init.data.toList.drop 0 = dktX8_init_0 := by decide +kernel
theorem dX8_init_0 : decode cX8_init 0 = .ok (.aload_n 0, 1) := dk_42 (dk_at dksX8_init_0 0 rfl rfl)
theorem dX8_init_1 : decode cX8_init 1 = .ok (.iload_n 1, 1) := dk_27 (dk_at dksX8_init_0 1 rfl rfl)
theorem dX8_init_2 : decode cX8_init 2 = .ok (.invokespecial 1, 3) := dk_183 0 1 (dk_at dksX8_init_0 2 rfl rfl)
theorem dX8_init_5 : decode cX8_init 5 = .ok (.aload_n 0, 1) := dk_42 (dk_at dksX8_init_0 5 rfl rfl)
theorem dX8_init_6 : decode cX8_init 6 = .ok (.lload_n 2, 1) := dk_32 (dk_at dksX8_init_0 6 rfl rfl)
theorem dX8_init_7 : decode cX8_init 7 = .ok (.putfield 7, 3) := dk_181 0 7 (dk_at dksX8_init_0 7 rfl rfl)
theorem dX8_init_10 : decode cX8_init 10 = .ok (.aload_n 0, 1) := dk_42 (dk_at dksX8_init_0 10 rfl rfl)
theorem dX8_init_11 : decode cX8_init 11 = .ok (.lload_n 2, 1) := dk_32 (dk_at dksX8_init_0 11 rfl rfl)
theorem dX8_init_12 : decode cX8_init 12 = .ok (.putfield 13, 3) := dk_181 0 13 (dk_at dksX8_init_0 12 rfl rfl)
theorem dX8_init_15 : decode cX8_init 15 = .ok (.return_, 1) := dk_177 (dk_at dksX8_init_0 15 rfl rfl)
abbrev cX8_reckon : ByteArray := prog_26_method_2_code
def yX8_reckon : MethodName := ⟨RX8, "reckon", "(I[I)J"⟩
theorem dX8_reckon_0 : decode cX8_reckon 0 = .ok (.aload_n 0, 1) := by decide +kernel
theorem dX8_reckon_1 : decode cX8_reckon 1 = .ok (.getfield 13, 3) := by decide +kernel
theorem dX8_reckon_4 : decode cX8_reckon 4 = .ok (.lreturn, 1) := by decide +kernel
theorem q142 : (Jvm.Cond.initialized "PastWatch$Signal") ∈ lw_all := lw_g (lw_at lw_m1 37 rfl) rfl
theorem q947 : (Jvm.Cond.selects "PastWatch$Signal" ({ cls := "java/lang/Object", name := "getClass", desc := "()Ljava/lang/Class;" } : Jvm.MethodName) ({ cls := "java/lang/Object", name := "getClass", desc := "()Ljava/lang/Class;" } : Jvm.MethodName)) ∈ lw_all := lw_g (lw_at lw_m4 122 rfl) rfl
theorem q1148 : (Jvm.Cond.selects "PastWatch$Signal" ({ cls := "java/lang/Object", name := "hashCode", desc := "()I" } : Jvm.MethodName) ({ cls := "java/lang/Object", name := "hashCode", desc := "()I" } : Jvm.MethodName)) ∈ lw_all := lw_g (lw_at lw_m5 83 rfl) rfl
theorem q1194 : (Jvm.Cond.selects "PastWatch$Signal" ({ cls := "java/lang/Object", name := "equals", desc := "(Ljava/lang/Object;)Z" } : Jvm.MethodName) ({ cls := "java/lang/Object", name := "equals", desc := "(Ljava/lang/Object;)Z" } : Jvm.MethodName)) ∈ lw_all := lw_g (lw_at lw_m5 129 rfl) rfl
theorem q1476 : (Jvm.Cond.instantiable "PastWatch$Signal" (4 : Nat)) ∈ lw_all := lw_g (lw_at lw_m6 171 rfl) rfl
theorem q1478 : (Jvm.Cond.instanceMethod ({ cls := "PastWatch$Signal", name := "<init>", desc := "(IJ)V" } : Jvm.MethodName)) ∈ lw_all := lw_g (lw_at lw_m6 173 rfl) rfl
theorem q1479 : (Jvm.Cond.code ({ cls := "PastWatch$Signal", name := "<init>", desc := "(IJ)V" } : Jvm.MethodName) prog_26_method_1_code (4 : Nat) (Option.none : Option Jvm.ClassFile.FieldType)) ∈ lw_all := lw_g (lw_at lw_m6 174 rfl) rfl
theorem q1480 : (Jvm.Cond.methodLink "PastWatch$Signal" (1 : Nat) ({ cls := "PastWatch$Node", name := "<init>", desc := "(I)V" } : Jvm.MethodName)) ∈ lw_all := lw_g (lw_at lw_m6 175 rfl) rfl
theorem q1484 : (Jvm.Cond.fieldLink "PastWatch$Signal" (7 : Nat) "PastWatch$Signal" "first" "J") ∈ lw_all := lw_g (lw_at lw_m6 179 rfl) rfl
theorem q1486 : (Jvm.Cond.fieldLink "PastWatch$Signal" (13 : Nat) "PastWatch$Signal" "next" "J") ∈ lw_all := lw_g (lw_at lw_m6 181 rfl) rfl
theorem q1490 : (Jvm.Cond.laysFinal "PastWatch$Signal" "PastWatch$Signal" "first" "J") ∈ lw_all := lw_g (lw_at lw_m6 185 rfl) rfl
theorem q1491 : (Jvm.Cond.soleField "PastWatch$Signal" "first") ∈ lw_all := lw_g (lw_at lw_m6 186 rfl) rfl
theorem q1492 : (Jvm.Cond.lays "PastWatch$Signal" "PastWatch$Signal" "next" "J") ∈ lw_all := lw_g (lw_at lw_m6 187 rfl) rfl
theorem q1493 : (Jvm.Cond.soleField "PastWatch$Signal" "next") ∈ lw_all := lw_g (lw_at lw_m6 188 rfl) rfl
theorem q1494 : (Jvm.Cond.laysFinal "PastWatch$Signal" "PastWatch$Node" "place" "I") ∈ lw_all := lw_g (lw_at lw_m6 189 rfl) rfl
theorem q1496 : (Jvm.Cond.lays "PastWatch$Signal" "PastWatch$Node" "history" "[J") ∈ lw_all := lw_g (lw_at lw_m6 191 rfl) rfl
theorem q1498 : (Jvm.Cond.superclass "PastWatch$Signal" "PastWatch$Node") ∈ lw_all := lw_g (lw_at lw_m6 193 rfl) rfl
theorem q2131 : (Jvm.Cond.sameMethod "PastWatch$Signal" "PastWatch$Node" "at" "(I)J") ∈ lw_all := lw_g (lw_at lw_m9 106 rfl) rfl
theorem q2133 : (Jvm.Cond.selects "PastWatch$Signal" ({ cls := "PastWatch$Signal", name := "at", desc := "(I)J" } : Jvm.MethodName) ({ cls := "PastWatch$Node", name := "at", desc := "(I)J" } : Jvm.MethodName)) ∈ lw_all := lw_g (lw_at lw_m9 108 rfl) rfl
theorem q2174 : (Jvm.Cond.selects "PastWatch$Signal" ({ cls := "PastWatch$Node", name := "keep", desc := "(I[I)V" } : Jvm.MethodName) ({ cls := "PastWatch$Node", name := "keep", desc := "(I[I)V" } : Jvm.MethodName)) ∈ lw_all := lw_g (lw_at lw_m9 149 rfl) rfl
theorem q2202 : (Jvm.Cond.selects "PastWatch$Signal" ({ cls := "PastWatch$Node", name := "holds", desc := "(I)Z" } : Jvm.MethodName) ({ cls := "PastWatch$Node", name := "holds", desc := "(I)Z" } : Jvm.MethodName)) ∈ lw_all := lw_g (lw_at lw_m9 177 rfl) rfl
theorem q2316 : (Jvm.Cond.selects "PastWatch$Signal" ({ cls := "PastWatch$Node", name := "reckon", desc := "(I[I)J" } : Jvm.MethodName) ({ cls := "PastWatch$Signal", name := "reckon", desc := "(I[I)J" } : Jvm.MethodName)) ∈ lw_all := lw_g (lw_at lw_m10 51 rfl) rfl
theorem q2317 : (Jvm.Cond.instanceMethod ({ cls := "PastWatch$Signal", name := "reckon", desc := "(I[I)J" } : Jvm.MethodName)) ∈ lw_all := lw_g (lw_at lw_m10 52 rfl) rfl
theorem q2318 : (Jvm.Cond.code ({ cls := "PastWatch$Signal", name := "reckon", desc := "(I[I)J" } : Jvm.MethodName) prog_26_method_2_code (3 : Nat) (Option.some Jvm.ClassFile.FieldType.long)) ∈ lw_all := lw_g (lw_at lw_m10 53 rfl) rfl
theorem q2610 : (Jvm.Cond.selects "PastWatch$Signal" ({ cls := "PastWatch$Node", name := "reason", desc := "(I[I)LPastWatch$Reason;" } : Jvm.MethodName) ({ cls := "PastWatch$Node", name := "reason", desc := "(I[I)LPastWatch$Reason;" } : Jvm.MethodName)) ∈ lw_all := lw_g (lw_at lw_m11 105 rfl) rfl
theorem q3229 : (Jvm.Cond.selects "PastWatch$Signal" ({ cls := "PastWatch$Node", name := "at", desc := "(I)J" } : Jvm.MethodName) ({ cls := "PastWatch$Node", name := "at", desc := "(I)J" } : Jvm.MethodName)) ∈ lw_all := lw_g (lw_at lw_m14 4 rfl) rfl
theorem q3253 : (Jvm.Cond.castable "PastWatch$Signal" "PastWatch$Node") ∈ lw_tbl := lw_at lw_m14 28 rfl
theorem q3273 : (Jvm.Cond.castable "PastWatch$Signal" "java/lang/Object") ∈ lw_tbl := lw_at lw_m14 48 rfl
theorem in_X8 : ∀ w ∈ wsX80, w ∈ lw_all := lw_in wsX80 [1494, 1496, 1490, 1492] (by decide +kernel) (by decide +kernel)

/-! PastWatch$Look -/

def RX9 : String := "PastWatch$Look"
abbrev cX9_of : ByteArray := prog_12_method_5_code
def yX9_of : MethodName := ⟨RX9, "of", "(LPastWatch$Token;)LPastWatch$Look;"⟩
def dkwX9_of_2 : List UInt8 := [153, 0, 9, 178, 0, 13, 167, 0, 4, 1, 176]
abbrev dktX9_of_2 : List UInt8 := dkwX9_of_2 ++ []
def dkwX9_of_1 : List UInt8 := [178, 0, 7, 176, 42, 18, 45, 182, 0, 37, 153, 0, 7, 178, 0, 10, 176, 42, 18, 47, 182, 0, 37]
abbrev dktX9_of_1 : List UInt8 := dkwX9_of_1 ++ dktX9_of_2
def dkwX9_of_0 : List UInt8 := [42, 18, 35, 182, 0, 37, 153, 0, 7, 178, 0, 3, 176, 42, 18, 43, 182, 0, 37, 153, 0, 7]
abbrev dktX9_of_0 : List UInt8 := dkwX9_of_0 ++ dktX9_of_1
theorem dksX9_of_0 : cX9_of.data.toList.drop 0 = dktX9_of_0 := by decide +kernel
theorem dksX9_of_1 : cX9_of.data.toList.drop 22 = dktX9_of_1 := dk_seg dksX9_of_0 22 rfl rfl
theorem dksX9_of_2 : cX9_of.data.toList.drop 45 = dktX9_of_2 := dk_seg dksX9_of_1 23 rfl rfl
theorem dX9_of_0 : decode cX9_of 0 = .ok (.aload_n 0, 1) := dk_42 (dk_at dksX9_of_0 0 rfl rfl)
theorem dX9_of_1 : decode cX9_of 1 = .ok (.ldc 35, 2) := dk_18 35 (dk_at dksX9_of_0 1 rfl rfl)
theorem dX9_of_3 : decode cX9_of 3 = .ok (.invokevirtual 37, 3) := dk_182 0 37 (dk_at dksX9_of_0 3 rfl rfl)
theorem dX9_of_6 : decode cX9_of 6 = .ok (.ifCond .eq 7, 3) := dk_153 0 7 (dk_at dksX9_of_0 6 rfl rfl)
theorem dX9_of_9 : decode cX9_of 9 = .ok (.getstatic 3, 3) := dk_178 0 3 (dk_at dksX9_of_0 9 rfl rfl)
theorem dX9_of_12 : decode cX9_of 12 = .ok (.areturn, 1) := dk_176 (dk_at dksX9_of_0 12 rfl rfl)
theorem dX9_of_13 : decode cX9_of 13 = .ok (.aload_n 0, 1) := dk_42 (dk_at dksX9_of_0 13 rfl rfl)
theorem dX9_of_14 : decode cX9_of 14 = .ok (.ldc 43, 2) := dk_18 43 (dk_at dksX9_of_0 14 rfl rfl)
theorem dX9_of_16 : decode cX9_of 16 = .ok (.invokevirtual 37, 3) := dk_182 0 37 (dk_at dksX9_of_0 16 rfl rfl)
theorem dX9_of_19 : decode cX9_of 19 = .ok (.ifCond .eq 7, 3) := dk_153 0 7 (dk_at dksX9_of_0 19 rfl rfl)
theorem dX9_of_22 : decode cX9_of 22 = .ok (.getstatic 7, 3) := dk_178 0 7 (dk_at dksX9_of_1 0 rfl rfl)
theorem dX9_of_25 : decode cX9_of 25 = .ok (.areturn, 1) := dk_176 (dk_at dksX9_of_1 3 rfl rfl)
theorem dX9_of_26 : decode cX9_of 26 = .ok (.aload_n 0, 1) := dk_42 (dk_at dksX9_of_1 4 rfl rfl)
theorem dX9_of_27 : decode cX9_of 27 = .ok (.ldc 45, 2) := dk_18 45 (dk_at dksX9_of_1 5 rfl rfl)
theorem dX9_of_29 : decode cX9_of 29 = .ok (.invokevirtual 37, 3) := dk_182 0 37 (dk_at dksX9_of_1 7 rfl rfl)
theorem dX9_of_32 : decode cX9_of 32 = .ok (.ifCond .eq 7, 3) := dk_153 0 7 (dk_at dksX9_of_1 10 rfl rfl)
theorem dX9_of_35 : decode cX9_of 35 = .ok (.getstatic 10, 3) := dk_178 0 10 (dk_at dksX9_of_1 13 rfl rfl)
theorem dX9_of_38 : decode cX9_of 38 = .ok (.areturn, 1) := dk_176 (dk_at dksX9_of_1 16 rfl rfl)
theorem dX9_of_39 : decode cX9_of 39 = .ok (.aload_n 0, 1) := dk_42 (dk_at dksX9_of_1 17 rfl rfl)
theorem dX9_of_40 : decode cX9_of 40 = .ok (.ldc 47, 2) := dk_18 47 (dk_at dksX9_of_1 18 rfl rfl)
theorem dX9_of_42 : decode cX9_of 42 = .ok (.invokevirtual 37, 3) := dk_182 0 37 (dk_at dksX9_of_1 20 rfl rfl)
theorem dX9_of_45 : decode cX9_of 45 = .ok (.ifCond .eq 9, 3) := dk_153 0 9 (dk_at dksX9_of_2 0 rfl rfl)
theorem dX9_of_48 : decode cX9_of 48 = .ok (.getstatic 13, 3) := dk_178 0 13 (dk_at dksX9_of_2 3 rfl rfl)
theorem dX9_of_51 : decode cX9_of 51 = .ok (.goto 4, 3) := dk_167 0 4 (dk_at dksX9_of_2 6 rfl rfl)
theorem dX9_of_54 : decode cX9_of 54 = .ok (.aconst_null, 1) := dk_1 (dk_at dksX9_of_2 9 rfl rfl)
theorem dX9_of_55 : decode cX9_of 55 = .ok (.areturn, 1) := dk_176 (dk_at dksX9_of_2 10 rfl rfl)
theorem q146 : (Jvm.Cond.initialized "PastWatch$Look") ∈ lw_all := lw_g (lw_at lw_m1 41 rfl) rfl
theorem q1676 : (Jvm.Cond.static ({ cls := "PastWatch$Look", name := "of", desc := "(LPastWatch$Token;)LPastWatch$Look;" } : Jvm.MethodName)) ∈ lw_all := lw_g (lw_at lw_m7 131 rfl) rfl
theorem q1677 : (Jvm.Cond.code ({ cls := "PastWatch$Look", name := "of", desc := "(LPastWatch$Token;)LPastWatch$Look;" } : Jvm.MethodName) prog_12_method_5_code (1 : Nat) (Option.some (Jvm.ClassFile.FieldType.object "PastWatch$Look"))) ∈ lw_all := lw_g (lw_at lw_m7 132 rfl) rfl
theorem q1678 : (Jvm.Cond.stringRef "PastWatch$Look" (35 : Nat) "not") ∈ lw_tbl := lw_at lw_m7 133 rfl
theorem q1679 : (Jvm.Cond.methodLink "PastWatch$Look" (37 : Nat) ({ cls := "PastWatch$Token", name := "is", desc := "(Ljava/lang/String;)Z" } : Jvm.MethodName)) ∈ lw_all := lw_g (lw_at lw_m7 134 rfl) rfl
theorem q1680 : (Jvm.Cond.fieldLink "PastWatch$Look" (3 : Nat) "PastWatch$Look" "NOT" "LPastWatch$Look;") ∈ lw_all := lw_g (lw_at lw_m7 135 rfl) rfl
theorem q1681 : (Jvm.Cond.laysStatic "PastWatch$Look" "NOT" "LPastWatch$Look;") ∈ lw_tbl := lw_at lw_m7 136 rfl
theorem q1682 : (Jvm.Cond.stringRef "PastWatch$Look" (43 : Nat) "prev") ∈ lw_tbl := lw_at lw_m7 137 rfl
theorem q1683 : (Jvm.Cond.fieldLink "PastWatch$Look" (7 : Nat) "PastWatch$Look" "PREV" "LPastWatch$Look;") ∈ lw_all := lw_g (lw_at lw_m7 138 rfl) rfl
theorem q1684 : (Jvm.Cond.laysStatic "PastWatch$Look" "PREV" "LPastWatch$Look;") ∈ lw_tbl := lw_at lw_m7 139 rfl
theorem q1685 : (Jvm.Cond.stringRef "PastWatch$Look" (45 : Nat) "rise") ∈ lw_tbl := lw_at lw_m7 140 rfl
theorem q1686 : (Jvm.Cond.fieldLink "PastWatch$Look" (10 : Nat) "PastWatch$Look" "RISE" "LPastWatch$Look;") ∈ lw_all := lw_g (lw_at lw_m7 141 rfl) rfl
theorem q1687 : (Jvm.Cond.laysStatic "PastWatch$Look" "RISE" "LPastWatch$Look;") ∈ lw_tbl := lw_at lw_m7 142 rfl
theorem q1688 : (Jvm.Cond.stringRef "PastWatch$Look" (47 : Nat) "fall") ∈ lw_tbl := lw_at lw_m7 143 rfl
theorem q1689 : (Jvm.Cond.fieldLink "PastWatch$Look" (13 : Nat) "PastWatch$Look" "FALL" "LPastWatch$Look;") ∈ lw_all := lw_g (lw_at lw_m7 144 rfl) rfl
theorem q1690 : (Jvm.Cond.laysStatic "PastWatch$Look" "FALL" "LPastWatch$Look;") ∈ lw_tbl := lw_at lw_m7 145 rfl
theorem q2283 : (Jvm.Cond.declares ({ cls := "PastWatch$Look", name := "holds", desc := "(LPastWatch$Node;I)Z" } : Jvm.MethodName)) ∈ lw_tbl := lw_at lw_m10 18 rfl
theorem q2284 : (Jvm.Cond.sameMethod "PastWatch$Look" "PastWatch$Look" "holds" "(LPastWatch$Node;I)Z") ∈ lw_all := lw_g (lw_at lw_m10 19 rfl) rfl
theorem q3305 : (Jvm.Cond.castable "PastWatch$Look" "java/lang/Object") ∈ lw_tbl := lw_at lw_m14 80 rfl

/-! PastWatch$Near -/

def RX10 : String := "PastWatch$Near"
def TX10 : u_T := fun k => match k with
  | 0 => ("PastWatch$Node", "place", "I", true)
  | 1 => ("PastWatch$Node", "history", "[J", false)
  | 2 => ("PastWatch$Near", "look", "LPastWatch$Look;", true)
  | _ => ("PastWatch$Near", "of", "LPastWatch$Node;", true)
def tyX10 : Nat → FieldType := fun k => match k with
  | 0 => .int
  | 1 => .array .long
  | 2 => .object "PastWatch$Look"
  | _ => .object "PastWatch$Node"
abbrev wsX100 : List Cond := u_ws RX10 TX10 4
theorem nmX10 : ∀ a, a < 4 → ∀ b, b < 4 → a ≠ b → (TX10 a).2.1 ≠ (TX10 b).2.1 := by decide +kernel
theorem tyX10_ok : ∀ k, k < 4 → parseFieldDescriptor (TX10 k).2.2.1 = some (tyX10 k) := by decide +kernel
abbrev cX10_init : ByteArray := prog_17_method_1_code
def yX10_init : MethodName := ⟨RX10, "<init>", "(ILPastWatch$Look;LPastWatch$Node;)V"⟩
def dkwX10_init_0 : List UInt8 := [42, 27, 183, 0, 1, 42, 44, 181, 0, 7, 42, 45, 181, 0, 13, 177]
abbrev dktX10_init_0 : List UInt8 := dkwX10_init_0 ++ []
theorem dksX10_init_0 : cX10_init.data.toList.drop 0 = dktX10_init_0 := by decide +kernel
theorem dX10_init_0 : decode cX10_init 0 = .ok (.aload_n 0, 1) := dk_42 (dk_at dksX10_init_0 0 rfl rfl)
theorem dX10_init_1 : decode cX10_init 1 = .ok (.iload_n 1, 1) := dk_27 (dk_at dksX10_init_0 1 rfl rfl)
theorem dX10_init_2 : decode cX10_init 2 = .ok (.invokespecial 1, 3) := dk_183 0 1 (dk_at dksX10_init_0 2 rfl rfl)
theorem dX10_init_5 : decode cX10_init 5 = .ok (.aload_n 0, 1) := dk_42 (dk_at dksX10_init_0 5 rfl rfl)
theorem dX10_init_6 : decode cX10_init 6 = .ok (.aload_n 2, 1) := dk_44 (dk_at dksX10_init_0 6 rfl rfl)
theorem dX10_init_7 : decode cX10_init 7 = .ok (.putfield 7, 3) := dk_181 0 7 (dk_at dksX10_init_0 7 rfl rfl)
theorem dX10_init_10 : decode cX10_init 10 = .ok (.aload_n 0, 1) := dk_42 (dk_at dksX10_init_0 10 rfl rfl)
theorem dX10_init_11 : decode cX10_init 11 = .ok (.aload_n 3, 1) := dk_45 (dk_at dksX10_init_0 11 rfl rfl)
theorem dX10_init_12 : decode cX10_init 12 = .ok (.putfield 13, 3) := dk_181 0 13 (dk_at dksX10_init_0 12 rfl rfl)
theorem dX10_init_15 : decode cX10_init 15 = .ok (.return_, 1) := dk_177 (dk_at dksX10_init_0 15 rfl rfl)
abbrev cX10_reckon : ByteArray := prog_17_method_2_code
def yX10_reckon : MethodName := ⟨RX10, "reckon", "(I[I)J"⟩
def dkwX10_reckon_0 : List UInt8 := [42, 180, 0, 7, 42, 180, 0, 13, 27, 182, 0, 17, 184, 0, 23, 173]
abbrev dktX10_reckon_0 : List UInt8 := dkwX10_reckon_0 ++ []
theorem dksX10_reckon_0 : cX10_reckon.data.toList.drop 0 = dktX10_reckon_0 := by decide +kernel
theorem dX10_reckon_0 : decode cX10_reckon 0 = .ok (.aload_n 0, 1) := dk_42 (dk_at dksX10_reckon_0 0 rfl rfl)
theorem dX10_reckon_1 : decode cX10_reckon 1 = .ok (.getfield 7, 3) := dk_180 0 7 (dk_at dksX10_reckon_0 1 rfl rfl)
theorem dX10_reckon_4 : decode cX10_reckon 4 = .ok (.aload_n 0, 1) := dk_42 (dk_at dksX10_reckon_0 4 rfl rfl)
theorem dX10_reckon_5 : decode cX10_reckon 5 = .ok (.getfield 13, 3) := dk_180 0 13 (dk_at dksX10_reckon_0 5 rfl rfl)
theorem dX10_reckon_8 : decode cX10_reckon 8 = .ok (.iload_n 1, 1) := dk_27 (dk_at dksX10_reckon_0 8 rfl rfl)
theorem dX10_reckon_9 : decode cX10_reckon 9 = .ok (.invokevirtual 17, 3) := dk_182 0 17 (dk_at dksX10_reckon_0 9 rfl rfl)
theorem dX10_reckon_12 : decode cX10_reckon 12 = .ok (.invokestatic 23, 3) := dk_184 0 23 (dk_at dksX10_reckon_0 12 rfl rfl)
theorem dX10_reckon_15 : decode cX10_reckon 15 = .ok (.lreturn, 1) := dk_173 (dk_at dksX10_reckon_0 15 rfl rfl)
abbrev cX10_reason : ByteArray := prog_17_method_3_code
def yX10_reason : MethodName := ⟨RX10, "reason", "(I[I)LPastWatch$Reason;"⟩
def dkwX10_reason_1 : List UInt8 := [182, 0, 32, 167, 0, 9, 42, 27, 44, 183, 0, 32, 176]
abbrev dktX10_reason_1 : List UInt8 := dkwX10_reason_1 ++ []
def dkwX10_reason_0 : List UInt8 := [42, 180, 0, 7, 178, 0, 29, 166, 0, 21, 27, 158, 0, 17, 42, 180, 0, 13, 27, 4, 100, 44]
abbrev dktX10_reason_0 : List UInt8 := dkwX10_reason_0 ++ dktX10_reason_1
theorem dksX10_reason_0 : cX10_reason.data.toList.drop 0 = dktX10_reason_0 := by decide +kernel
theorem dksX10_reason_1 : cX10_reason.data.toList.drop 22 = dktX10_reason_1 := dk_seg dksX10_reason_0 22 rfl rfl
theorem dX10_reason_0 : decode cX10_reason 0 = .ok (.aload_n 0, 1) := dk_42 (dk_at dksX10_reason_0 0 rfl rfl)
theorem dX10_reason_1 : decode cX10_reason 1 = .ok (.getfield 7, 3) := dk_180 0 7 (dk_at dksX10_reason_0 1 rfl rfl)
theorem dX10_reason_4 : decode cX10_reason 4 = .ok (.getstatic 29, 3) := dk_178 0 29 (dk_at dksX10_reason_0 4 rfl rfl)
theorem dX10_reason_7 : decode cX10_reason 7 = .ok (.if_acmp .ne 21, 3) := dk_166 0 21 (dk_at dksX10_reason_0 7 rfl rfl)
theorem dX10_reason_10 : decode cX10_reason 10 = .ok (.iload_n 1, 1) := dk_27 (dk_at dksX10_reason_0 10 rfl rfl)
theorem dX10_reason_11 : decode cX10_reason 11 = .ok (.ifCond .le 17, 3) := dk_158 0 17 (dk_at dksX10_reason_0 11 rfl rfl)
theorem dX10_reason_14 : decode cX10_reason 14 = .ok (.aload_n 0, 1) := dk_42 (dk_at dksX10_reason_0 14 rfl rfl)
theorem dX10_reason_15 : decode cX10_reason 15 = .ok (.getfield 13, 3) := dk_180 0 13 (dk_at dksX10_reason_0 15 rfl rfl)
theorem dX10_reason_18 : decode cX10_reason 18 = .ok (.iload_n 1, 1) := dk_27 (dk_at dksX10_reason_0 18 rfl rfl)
theorem dX10_reason_19 : decode cX10_reason 19 = .ok (.iconst 1, 1) := dk_4 (dk_at dksX10_reason_0 19 rfl rfl)
theorem dX10_reason_20 : decode cX10_reason 20 = .ok (.isub, 1) := dk_100 (dk_at dksX10_reason_0 20 rfl rfl)
theorem dX10_reason_21 : decode cX10_reason 21 = .ok (.aload_n 2, 1) := dk_44 (dk_at dksX10_reason_0 21 rfl rfl)
theorem dX10_reason_22 : decode cX10_reason 22 = .ok (.invokevirtual 32, 3) := dk_182 0 32 (dk_at dksX10_reason_1 0 rfl rfl)
theorem dX10_reason_25 : decode cX10_reason 25 = .ok (.goto 9, 3) := dk_167 0 9 (dk_at dksX10_reason_1 3 rfl rfl)
theorem dX10_reason_28 : decode cX10_reason 28 = .ok (.aload_n 0, 1) := dk_42 (dk_at dksX10_reason_1 6 rfl rfl)
theorem dX10_reason_29 : decode cX10_reason 29 = .ok (.iload_n 1, 1) := dk_27 (dk_at dksX10_reason_1 7 rfl rfl)
theorem dX10_reason_30 : decode cX10_reason 30 = .ok (.aload_n 2, 1) := dk_44 (dk_at dksX10_reason_1 8 rfl rfl)
theorem dX10_reason_31 : decode cX10_reason 31 = .ok (.invokespecial 32, 3) := dk_183 0 32 (dk_at dksX10_reason_1 9 rfl rfl)
theorem dX10_reason_34 : decode cX10_reason 34 = .ok (.areturn, 1) := dk_176 (dk_at dksX10_reason_1 12 rfl rfl)
theorem q147 : (Jvm.Cond.initialized "PastWatch$Near") ∈ lw_all := lw_g (lw_at lw_m1 42 rfl) rfl
theorem q939 : (Jvm.Cond.selects "PastWatch$Near" ({ cls := "java/lang/Object", name := "getClass", desc := "()Ljava/lang/Class;" } : Jvm.MethodName) ({ cls := "java/lang/Object", name := "getClass", desc := "()Ljava/lang/Class;" } : Jvm.MethodName)) ∈ lw_all := lw_g (lw_at lw_m4 114 rfl) rfl
theorem q1140 : (Jvm.Cond.selects "PastWatch$Near" ({ cls := "java/lang/Object", name := "hashCode", desc := "()I" } : Jvm.MethodName) ({ cls := "java/lang/Object", name := "hashCode", desc := "()I" } : Jvm.MethodName)) ∈ lw_all := lw_g (lw_at lw_m5 75 rfl) rfl
theorem q1186 : (Jvm.Cond.selects "PastWatch$Near" ({ cls := "java/lang/Object", name := "equals", desc := "(Ljava/lang/Object;)Z" } : Jvm.MethodName) ({ cls := "java/lang/Object", name := "equals", desc := "(Ljava/lang/Object;)Z" } : Jvm.MethodName)) ∈ lw_all := lw_g (lw_at lw_m5 121 rfl) rfl
theorem q1696 : (Jvm.Cond.instantiable "PastWatch$Near" (4 : Nat)) ∈ lw_all := lw_g (lw_at lw_m7 151 rfl) rfl
theorem q1698 : (Jvm.Cond.instanceMethod ({ cls := "PastWatch$Near", name := "<init>", desc := "(ILPastWatch$Look;LPastWatch$Node;)V" } : Jvm.MethodName)) ∈ lw_all := lw_g (lw_at lw_m7 153 rfl) rfl
theorem q1699 : (Jvm.Cond.code ({ cls := "PastWatch$Near", name := "<init>", desc := "(ILPastWatch$Look;LPastWatch$Node;)V" } : Jvm.MethodName) prog_17_method_1_code (4 : Nat) (Option.none : Option Jvm.ClassFile.FieldType)) ∈ lw_all := lw_g (lw_at lw_m7 154 rfl) rfl
theorem q1700 : (Jvm.Cond.methodLink "PastWatch$Near" (1 : Nat) ({ cls := "PastWatch$Node", name := "<init>", desc := "(I)V" } : Jvm.MethodName)) ∈ lw_all := lw_g (lw_at lw_m7 155 rfl) rfl
theorem q1701 : (Jvm.Cond.fieldLink "PastWatch$Near" (7 : Nat) "PastWatch$Near" "look" "LPastWatch$Look;") ∈ lw_all := lw_g (lw_at lw_m7 156 rfl) rfl
theorem q1702 : (Jvm.Cond.fieldLink "PastWatch$Near" (13 : Nat) "PastWatch$Near" "of" "LPastWatch$Node;") ∈ lw_all := lw_g (lw_at lw_m7 157 rfl) rfl
theorem q1703 : (Jvm.Cond.laysFinal "PastWatch$Near" "PastWatch$Near" "look" "LPastWatch$Look;") ∈ lw_all := lw_g (lw_at lw_m7 158 rfl) rfl
theorem q1704 : (Jvm.Cond.soleField "PastWatch$Near" "look") ∈ lw_all := lw_g (lw_at lw_m7 159 rfl) rfl
theorem q1705 : (Jvm.Cond.laysFinal "PastWatch$Near" "PastWatch$Near" "of" "LPastWatch$Node;") ∈ lw_all := lw_g (lw_at lw_m7 160 rfl) rfl
theorem q1706 : (Jvm.Cond.soleField "PastWatch$Near" "of") ∈ lw_all := lw_g (lw_at lw_m7 161 rfl) rfl
theorem q1707 : (Jvm.Cond.laysFinal "PastWatch$Near" "PastWatch$Node" "place" "I") ∈ lw_all := lw_g (lw_at lw_m7 162 rfl) rfl
theorem q1708 : (Jvm.Cond.lays "PastWatch$Near" "PastWatch$Node" "history" "[J") ∈ lw_all := lw_g (lw_at lw_m7 163 rfl) rfl
theorem q1709 : (Jvm.Cond.superclass "PastWatch$Near" "PastWatch$Node") ∈ lw_all := lw_g (lw_at lw_m7 164 rfl) rfl
theorem q2171 : (Jvm.Cond.selects "PastWatch$Near" ({ cls := "PastWatch$Node", name := "keep", desc := "(I[I)V" } : Jvm.MethodName) ({ cls := "PastWatch$Node", name := "keep", desc := "(I[I)V" } : Jvm.MethodName)) ∈ lw_all := lw_g (lw_at lw_m9 146 rfl) rfl
theorem q2199 : (Jvm.Cond.selects "PastWatch$Near" ({ cls := "PastWatch$Node", name := "holds", desc := "(I)Z" } : Jvm.MethodName) ({ cls := "PastWatch$Node", name := "holds", desc := "(I)Z" } : Jvm.MethodName)) ∈ lw_all := lw_g (lw_at lw_m9 174 rfl) rfl
theorem q2279 : (Jvm.Cond.selects "PastWatch$Near" ({ cls := "PastWatch$Node", name := "reckon", desc := "(I[I)J" } : Jvm.MethodName) ({ cls := "PastWatch$Near", name := "reckon", desc := "(I[I)J" } : Jvm.MethodName)) ∈ lw_all := lw_g (lw_at lw_m10 14 rfl) rfl
theorem q2280 : (Jvm.Cond.instanceMethod ({ cls := "PastWatch$Near", name := "reckon", desc := "(I[I)J" } : Jvm.MethodName)) ∈ lw_all := lw_g (lw_at lw_m10 15 rfl) rfl
theorem q2281 : (Jvm.Cond.code ({ cls := "PastWatch$Near", name := "reckon", desc := "(I[I)J" } : Jvm.MethodName) prog_17_method_2_code (3 : Nat) (Option.some Jvm.ClassFile.FieldType.long)) ∈ lw_all := lw_g (lw_at lw_m10 16 rfl) rfl
theorem q2282 : (Jvm.Cond.methodLink "PastWatch$Near" (17 : Nat) ({ cls := "PastWatch$Look", name := "holds", desc := "(LPastWatch$Node;I)Z" } : Jvm.MethodName)) ∈ lw_all := lw_g (lw_at lw_m10 17 rfl) rfl
theorem q2301 : (Jvm.Cond.methodLinkNest "PastWatch$Near" (23 : Nat) ({ cls := "PastWatch", name := "asNumber", desc := "(Z)J" } : Jvm.MethodName) "PastWatch") ∈ lw_tbl := lw_at lw_m10 36 rfl
theorem q2574 : (Jvm.Cond.instanceMethod ({ cls := "PastWatch$Near", name := "reason", desc := "(I[I)LPastWatch$Reason;" } : Jvm.MethodName)) ∈ lw_all := lw_g (lw_at lw_m11 69 rfl) rfl
theorem q2575 : (Jvm.Cond.code ({ cls := "PastWatch$Near", name := "reason", desc := "(I[I)LPastWatch$Reason;" } : Jvm.MethodName) prog_17_method_3_code (3 : Nat) (Option.some (Jvm.ClassFile.FieldType.object "PastWatch$Reason"))) ∈ lw_all := lw_g (lw_at lw_m11 70 rfl) rfl
theorem q2576 : (Jvm.Cond.fieldLink "PastWatch$Near" (29 : Nat) "PastWatch$Look" "PREV" "LPastWatch$Look;") ∈ lw_all := lw_g (lw_at lw_m11 71 rfl) rfl
theorem q2577 : (Jvm.Cond.methodLink "PastWatch$Near" (32 : Nat) ({ cls := "PastWatch$Node", name := "reason", desc := "(I[I)LPastWatch$Reason;" } : Jvm.MethodName)) ∈ lw_all := lw_g (lw_at lw_m11 72 rfl) rfl
theorem q2607 : (Jvm.Cond.selects "PastWatch$Near" ({ cls := "PastWatch$Node", name := "reason", desc := "(I[I)LPastWatch$Reason;" } : Jvm.MethodName) ({ cls := "PastWatch$Near", name := "reason", desc := "(I[I)LPastWatch$Reason;" } : Jvm.MethodName)) ∈ lw_all := lw_g (lw_at lw_m11 102 rfl) rfl
theorem q3226 : (Jvm.Cond.selects "PastWatch$Near" ({ cls := "PastWatch$Node", name := "at", desc := "(I)J" } : Jvm.MethodName) ({ cls := "PastWatch$Node", name := "at", desc := "(I)J" } : Jvm.MethodName)) ∈ lw_all := lw_g (lw_at lw_m14 1 rfl) rfl
theorem q3250 : (Jvm.Cond.castable "PastWatch$Near" "PastWatch$Node") ∈ lw_tbl := lw_at lw_m14 25 rfl
theorem q3279 : (Jvm.Cond.castable "PastWatch$Near" "java/lang/Object") ∈ lw_tbl := lw_at lw_m14 54 rfl
theorem in_X10 : ∀ w ∈ wsX100, w ∈ lw_all := lw_in wsX100 [1707, 1708, 1703, 1705] (by decide +kernel) (by decide +kernel)

/-! PastWatch$Bounds -/

def RX11 : String := "PastWatch$Bounds"
def TX11 : u_T := fun k => match k with
  | 0 => ("PastWatch$Bounds", "low", "I", true)
  | _ => ("PastWatch$Bounds", "high", "I", true)
def tyX11 : Nat → FieldType := fun k => match k with
  | 0 => .int
  | _ => .int
abbrev wsX110 : List Cond := u_ws RX11 TX11 2
theorem nmX11 : ∀ a, a < 2 → ∀ b, b < 2 → a ≠ b → (TX11 a).2.1 ≠ (TX11 b).2.1 := by decide +kernel
theorem tyX11_ok : ∀ k, k < 2 → parseFieldDescriptor (TX11 k).2.2.1 = some (tyX11 k) := by decide +kernel
abbrev cX11_init : ByteArray := prog_4_method_1_code
def yX11_init : MethodName := ⟨RX11, "<init>", "(II)V"⟩
def dkwX11_init_0 : List UInt8 := [42, 183, 0, 1, 42, 27, 181, 0, 7, 42, 28, 181, 0, 13, 177]
abbrev dktX11_init_0 : List UInt8 := dkwX11_init_0 ++ []
theorem dksX11_init_0 : cX11_init.data.toList.drop 0 = dktX11_init_0 := by decide +kernel
theorem dX11_init_0 : decode cX11_init 0 = .ok (.aload_n 0, 1) := dk_42 (dk_at dksX11_init_0 0 rfl rfl)
theorem dX11_init_1 : decode cX11_init 1 = .ok (.invokespecial 1, 3) := dk_183 0 1 (dk_at dksX11_init_0 1 rfl rfl)
theorem dX11_init_4 : decode cX11_init 4 = .ok (.aload_n 0, 1) := dk_42 (dk_at dksX11_init_0 4 rfl rfl)
theorem dX11_init_5 : decode cX11_init 5 = .ok (.iload_n 1, 1) := dk_27 (dk_at dksX11_init_0 5 rfl rfl)
theorem dX11_init_6 : decode cX11_init 6 = .ok (.putfield 7, 3) := dk_181 0 7 (dk_at dksX11_init_0 6 rfl rfl)
theorem dX11_init_9 : decode cX11_init 9 = .ok (.aload_n 0, 1) := dk_42 (dk_at dksX11_init_0 9 rfl rfl)
theorem dX11_init_10 : decode cX11_init 10 = .ok (.iload_n 2, 1) := dk_28 (dk_at dksX11_init_0 10 rfl rfl)
theorem dX11_init_11 : decode cX11_init 11 = .ok (.putfield 13, 3) := dk_181 0 13 (dk_at dksX11_init_0 11 rfl rfl)
theorem dX11_init_14 : decode cX11_init 14 = .ok (.return_, 1) := dk_177 (dk_at dksX11_init_0 14 rfl rfl)
abbrev cX11_isIn : ByteArray := prog_4_method_2_code
def yX11_isIn : MethodName := ⟨RX11, "isIn", "(I)Z"⟩
def dkwX11_isIn_0 : List UInt8 := [27, 42, 180, 0, 7, 161, 0, 15, 27, 42, 180, 0, 13, 163, 0, 7, 4, 167, 0, 4, 3, 172]
abbrev dktX11_isIn_0 : List UInt8 := dkwX11_isIn_0 ++ []
theorem dksX11_isIn_0 : cX11_isIn.data.toList.drop 0 = dktX11_isIn_0 := by decide +kernel
theorem dX11_isIn_0 : decode cX11_isIn 0 = .ok (.iload_n 1, 1) := dk_27 (dk_at dksX11_isIn_0 0 rfl rfl)
theorem dX11_isIn_1 : decode cX11_isIn 1 = .ok (.aload_n 0, 1) := dk_42 (dk_at dksX11_isIn_0 1 rfl rfl)
theorem dX11_isIn_2 : decode cX11_isIn 2 = .ok (.getfield 7, 3) := dk_180 0 7 (dk_at dksX11_isIn_0 2 rfl rfl)
theorem dX11_isIn_5 : decode cX11_isIn 5 = .ok (.if_icmp .lt 15, 3) := dk_161 0 15 (dk_at dksX11_isIn_0 5 rfl rfl)
theorem dX11_isIn_8 : decode cX11_isIn 8 = .ok (.iload_n 1, 1) := dk_27 (dk_at dksX11_isIn_0 8 rfl rfl)
theorem dX11_isIn_9 : decode cX11_isIn 9 = .ok (.aload_n 0, 1) := dk_42 (dk_at dksX11_isIn_0 9 rfl rfl)
theorem dX11_isIn_10 : decode cX11_isIn 10 = .ok (.getfield 13, 3) := dk_180 0 13 (dk_at dksX11_isIn_0 10 rfl rfl)
theorem dX11_isIn_13 : decode cX11_isIn 13 = .ok (.if_icmp .gt 7, 3) := dk_163 0 7 (dk_at dksX11_isIn_0 13 rfl rfl)
theorem dX11_isIn_16 : decode cX11_isIn 16 = .ok (.iconst 1, 1) := dk_4 (dk_at dksX11_isIn_0 16 rfl rfl)
theorem dX11_isIn_17 : decode cX11_isIn 17 = .ok (.goto 4, 3) := dk_167 0 4 (dk_at dksX11_isIn_0 17 rfl rfl)
theorem dX11_isIn_20 : decode cX11_isIn 20 = .ok (.iconst 0, 1) := dk_3 (dk_at dksX11_isIn_0 20 rfl rfl)
theorem dX11_isIn_21 : decode cX11_isIn 21 = .ok (.ireturn, 1) := dk_172 (dk_at dksX11_isIn_0 21 rfl rfl)
theorem q148 : (Jvm.Cond.initialized "PastWatch$Bounds") ∈ lw_all := lw_g (lw_at lw_m1 43 rfl) rfl
theorem q927 : (Jvm.Cond.selects "PastWatch$Bounds" ({ cls := "java/lang/Object", name := "getClass", desc := "()Ljava/lang/Class;" } : Jvm.MethodName) ({ cls := "java/lang/Object", name := "getClass", desc := "()Ljava/lang/Class;" } : Jvm.MethodName)) ∈ lw_all := lw_g (lw_at lw_m4 102 rfl) rfl
theorem q1123 : (Jvm.Cond.selects "PastWatch$Bounds" ({ cls := "java/lang/Object", name := "hashCode", desc := "()I" } : Jvm.MethodName) ({ cls := "java/lang/Object", name := "hashCode", desc := "()I" } : Jvm.MethodName)) ∈ lw_all := lw_g (lw_at lw_m5 58 rfl) rfl
theorem q1172 : (Jvm.Cond.selects "PastWatch$Bounds" ({ cls := "java/lang/Object", name := "equals", desc := "(Ljava/lang/Object;)Z" } : Jvm.MethodName) ({ cls := "java/lang/Object", name := "equals", desc := "(Ljava/lang/Object;)Z" } : Jvm.MethodName)) ∈ lw_all := lw_g (lw_at lw_m5 107 rfl) rfl
theorem q1720 : (Jvm.Cond.instantiable "PastWatch$Bounds" (2 : Nat)) ∈ lw_all := lw_g (lw_at lw_m7 175 rfl) rfl
theorem q1722 : (Jvm.Cond.instanceMethod ({ cls := "PastWatch$Bounds", name := "<init>", desc := "(II)V" } : Jvm.MethodName)) ∈ lw_all := lw_g (lw_at lw_m7 177 rfl) rfl
theorem q1723 : (Jvm.Cond.code ({ cls := "PastWatch$Bounds", name := "<init>", desc := "(II)V" } : Jvm.MethodName) prog_4_method_1_code (3 : Nat) (Option.none : Option Jvm.ClassFile.FieldType)) ∈ lw_all := lw_g (lw_at lw_m7 178 rfl) rfl
theorem q1724 : (Jvm.Cond.methodLink "PastWatch$Bounds" (1 : Nat) ({ cls := "java/lang/Object", name := "<init>", desc := "()V" } : Jvm.MethodName)) ∈ lw_all := lw_g (lw_at lw_m7 179 rfl) rfl
theorem q1725 : (Jvm.Cond.fieldLink "PastWatch$Bounds" (7 : Nat) "PastWatch$Bounds" "low" "I") ∈ lw_all := lw_g (lw_at lw_m7 180 rfl) rfl
theorem q1726 : (Jvm.Cond.fieldLink "PastWatch$Bounds" (13 : Nat) "PastWatch$Bounds" "high" "I") ∈ lw_all := lw_g (lw_at lw_m7 181 rfl) rfl
theorem q1727 : (Jvm.Cond.laysFinal "PastWatch$Bounds" "PastWatch$Bounds" "low" "I") ∈ lw_all := lw_g (lw_at lw_m7 182 rfl) rfl
theorem q1728 : (Jvm.Cond.soleField "PastWatch$Bounds" "low") ∈ lw_all := lw_g (lw_at lw_m7 183 rfl) rfl
theorem q1729 : (Jvm.Cond.laysFinal "PastWatch$Bounds" "PastWatch$Bounds" "high" "I") ∈ lw_all := lw_g (lw_at lw_m7 184 rfl) rfl
theorem q1730 : (Jvm.Cond.soleField "PastWatch$Bounds" "high") ∈ lw_all := lw_g (lw_at lw_m7 185 rfl) rfl
theorem q1731 : (Jvm.Cond.superclass "PastWatch$Bounds" "java/lang/Object") ∈ lw_all := lw_g (lw_at lw_m7 186 rfl) rfl
theorem q2218 : (Jvm.Cond.instanceMethod ({ cls := "PastWatch$Bounds", name := "isIn", desc := "(I)Z" } : Jvm.MethodName)) ∈ lw_all := lw_g (lw_at lw_m9 193 rfl) rfl
theorem q2219 : (Jvm.Cond.selects "PastWatch$Bounds" ({ cls := "PastWatch$Bounds", name := "isIn", desc := "(I)Z" } : Jvm.MethodName) ({ cls := "PastWatch$Bounds", name := "isIn", desc := "(I)Z" } : Jvm.MethodName)) ∈ lw_all := lw_g (lw_at lw_m9 194 rfl) rfl
theorem q2220 : (Jvm.Cond.code ({ cls := "PastWatch$Bounds", name := "isIn", desc := "(I)Z" } : Jvm.MethodName) prog_4_method_2_code (2 : Nat) (Option.some Jvm.ClassFile.FieldType.boolean)) ∈ lw_all := lw_g (lw_at lw_m9 195 rfl) rfl
theorem q3280 : (Jvm.Cond.castable "PastWatch$Bounds" "java/lang/Object") ∈ lw_tbl := lw_at lw_m14 55 rfl
theorem in_X11 : ∀ w ∈ wsX110, w ∈ lw_all := lw_in wsX110 [1727, 1729] (by decide +kernel) (by decide +kernel)

/-! PastWatch$Back -/

def RX12 : String := "PastWatch$Back"
def TX12 : u_T := fun k => match k with
  | 0 => ("PastWatch$Node", "place", "I", true)
  | 1 => ("PastWatch$Node", "history", "[J", false)
  | 2 => ("PastWatch$Back", "isAlways", "Z", true)
  | 3 => ("PastWatch$Back", "bounds", "LPastWatch$Bounds;", true)
  | _ => ("PastWatch$Back", "of", "LPastWatch$Node;", true)
def tyX12 : Nat → FieldType := fun k => match k with
  | 0 => .int
  | 1 => .array .long
  | 2 => .boolean
  | 3 => .object "PastWatch$Bounds"
  | _ => .object "PastWatch$Node"
abbrev wsX120 : List Cond := u_ws RX12 TX12 5
theorem nmX12 : ∀ a, a < 5 → ∀ b, b < 5 → a ≠ b → (TX12 a).2.1 ≠ (TX12 b).2.1 := by decide +kernel
theorem tyX12_ok : ∀ k, k < 5 → parseFieldDescriptor (TX12 k).2.2.1 = some (tyX12 k) := by decide +kernel
abbrev cX12_init : ByteArray := prog_3_method_1_code
def yX12_init : MethodName := ⟨RX12, "<init>", "(IZLPastWatch$Bounds;LPastWatch$Node;)V"⟩
def dkwX12_init_0 : List UInt8 := [42, 27, 183, 0, 3, 42, 28, 181, 0, 9, 42, 45, 181, 0, 15, 42, 25, 4, 181, 0, 19, 177]
abbrev dktX12_init_0 : List UInt8 := dkwX12_init_0 ++ []
theorem dksX12_init_0 : cX12_init.data.toList.drop 0 = dktX12_init_0 := by decide +kernel
theorem dX12_init_0 : decode cX12_init 0 = .ok (.aload_n 0, 1) := dk_42 (dk_at dksX12_init_0 0 rfl rfl)
theorem dX12_init_1 : decode cX12_init 1 = .ok (.iload_n 1, 1) := dk_27 (dk_at dksX12_init_0 1 rfl rfl)
theorem dX12_init_2 : decode cX12_init 2 = .ok (.invokespecial 3, 3) := dk_183 0 3 (dk_at dksX12_init_0 2 rfl rfl)
theorem dX12_init_5 : decode cX12_init 5 = .ok (.aload_n 0, 1) := dk_42 (dk_at dksX12_init_0 5 rfl rfl)
theorem dX12_init_6 : decode cX12_init 6 = .ok (.iload_n 2, 1) := dk_28 (dk_at dksX12_init_0 6 rfl rfl)
theorem dX12_init_7 : decode cX12_init 7 = .ok (.putfield 9, 3) := dk_181 0 9 (dk_at dksX12_init_0 7 rfl rfl)
theorem dX12_init_10 : decode cX12_init 10 = .ok (.aload_n 0, 1) := dk_42 (dk_at dksX12_init_0 10 rfl rfl)
theorem dX12_init_11 : decode cX12_init 11 = .ok (.aload_n 3, 1) := dk_45 (dk_at dksX12_init_0 11 rfl rfl)
theorem dX12_init_12 : decode cX12_init 12 = .ok (.putfield 15, 3) := dk_181 0 15 (dk_at dksX12_init_0 12 rfl rfl)
theorem dX12_init_15 : decode cX12_init 15 = .ok (.aload_n 0, 1) := dk_42 (dk_at dksX12_init_0 15 rfl rfl)
theorem dX12_init_16 : decode cX12_init 16 = .ok (.aload 4, 2) := dk_25 4 (dk_at dksX12_init_0 16 rfl rfl)
theorem dX12_init_18 : decode cX12_init 18 = .ok (.putfield 19, 3) := dk_181 0 19 (dk_at dksX12_init_0 18 rfl rfl)
theorem dX12_init_21 : decode cX12_init 21 = .ok (.return_, 1) := dk_177 (dk_at dksX12_init_0 21 rfl rfl)
abbrev cX12_reckon : ByteArray := prog_3_method_3_code
def yX12_reckon : MethodName := ⟨RX12, "reckon", "(I[I)J"⟩
def dkwX12_reckon_5 : List UInt8 := [182, 0, 27, 153, 0, 7, 4, 167, 0, 4, 3, 184, 0, 35, 173]
abbrev dktX12_reckon_5 : List UInt8 := dkwX12_reckon_5 ++ []
def dkwX12_reckon_4 : List UInt8 := [4, 167, 0, 33, 3, 167, 0, 29, 42, 27, 4, 100, 182, 0, 39, 154, 0, 14, 42, 180, 0, 19, 27]
abbrev dktX12_reckon_4 : List UInt8 := dkwX12_reckon_4 ++ dktX12_reckon_5
def dkwX12_reckon_3 : List UInt8 := [153, 0, 32, 42, 27, 4, 100, 182, 0, 39, 153, 0, 18, 42, 180, 0, 19, 27, 182, 0, 27, 153, 0, 7]
abbrev dktX12_reckon_3 : List UInt8 := dkwX12_reckon_3 ++ dktX12_reckon_4
def dkwX12_reckon_2 : List UInt8 := [184, 0, 35, 173, 27, 154, 0, 15, 42, 180, 0, 19, 3, 182, 0, 27, 184, 0, 35, 173, 42, 180, 0, 9]
abbrev dktX12_reckon_2 : List UInt8 := dkwX12_reckon_2 ++ dktX12_reckon_3
def dkwX12_reckon_1 : List UInt8 := [182, 0, 31, 2, 159, 0, 7, 4, 167, 0, 4, 3, 42, 180, 0, 9, 159, 0, 7, 4, 167, 0, 4, 3]
abbrev dktX12_reckon_1 : List UInt8 := dkwX12_reckon_1 ++ dktX12_reckon_2
def dkwX12_reckon_0 : List UInt8 := [42, 180, 0, 15, 198, 0, 46, 42, 27, 44, 42, 180, 0, 9, 154, 0, 7, 4, 167, 0, 4, 3]
abbrev dktX12_reckon_0 : List UInt8 := dkwX12_reckon_0 ++ dktX12_reckon_1
theorem dksX12_reckon_0 : cX12_reckon.data.toList.drop 0 = dktX12_reckon_0 := by decide +kernel
theorem dksX12_reckon_1 : cX12_reckon.data.toList.drop 22 = dktX12_reckon_1 := dk_seg dksX12_reckon_0 22 rfl rfl
theorem dksX12_reckon_2 : cX12_reckon.data.toList.drop 46 = dktX12_reckon_2 := dk_seg dksX12_reckon_1 24 rfl rfl
theorem dksX12_reckon_3 : cX12_reckon.data.toList.drop 70 = dktX12_reckon_3 := dk_seg dksX12_reckon_2 24 rfl rfl
theorem dksX12_reckon_4 : cX12_reckon.data.toList.drop 94 = dktX12_reckon_4 := dk_seg dksX12_reckon_3 24 rfl rfl
theorem dksX12_reckon_5 : cX12_reckon.data.toList.drop 117 = dktX12_reckon_5 := dk_seg dksX12_reckon_4 23 rfl rfl
theorem dX12_reckon_0 : decode cX12_reckon 0 = .ok (.aload_n 0, 1) := dk_42 (dk_at dksX12_reckon_0 0 rfl rfl)
theorem dX12_reckon_1 : decode cX12_reckon 1 = .ok (.getfield 15, 3) := dk_180 0 15 (dk_at dksX12_reckon_0 1 rfl rfl)
theorem dX12_reckon_4 : decode cX12_reckon 4 = .ok (.ifnull 46, 3) := dk_198 0 46 (dk_at dksX12_reckon_0 4 rfl rfl)
theorem dX12_reckon_7 : decode cX12_reckon 7 = .ok (.aload_n 0, 1) := dk_42 (dk_at dksX12_reckon_0 7 rfl rfl)
theorem dX12_reckon_8 : decode cX12_reckon 8 = .ok (.iload_n 1, 1) := dk_27 (dk_at dksX12_reckon_0 8 rfl rfl)
theorem dX12_reckon_9 : decode cX12_reckon 9 = .ok (.aload_n 2, 1) := dk_44 (dk_at dksX12_reckon_0 9 rfl rfl)
theorem dX12_reckon_10 : decode cX12_reckon 10 = .ok (.aload_n 0, 1) := dk_42 (dk_at dksX12_reckon_0 10 rfl rfl)
theorem dX12_reckon_11 : decode cX12_reckon 11 = .ok (.getfield 9, 3) := dk_180 0 9 (dk_at dksX12_reckon_0 11 rfl rfl)
theorem dX12_reckon_14 : decode cX12_reckon 14 = .ok (.ifCond .ne 7, 3) := dk_154 0 7 (dk_at dksX12_reckon_0 14 rfl rfl)
theorem dX12_reckon_17 : decode cX12_reckon 17 = .ok (.iconst 1, 1) := dk_4 (dk_at dksX12_reckon_0 17 rfl rfl)
theorem dX12_reckon_18 : decode cX12_reckon 18 = .ok (.goto 4, 3) := dk_167 0 4 (dk_at dksX12_reckon_0 18 rfl rfl)
theorem dX12_reckon_21 : decode cX12_reckon 21 = .ok (.iconst 0, 1) := dk_3 (dk_at dksX12_reckon_0 21 rfl rfl)
theorem dX12_reckon_22 : decode cX12_reckon 22 = .ok (.invokevirtual 31, 3) := dk_182 0 31 (dk_at dksX12_reckon_1 0 rfl rfl)
theorem dX12_reckon_25 : decode cX12_reckon 25 = .ok (.iconst (-1), 1) := dk_2 (dk_at dksX12_reckon_1 3 rfl rfl)
theorem dX12_reckon_26 : decode cX12_reckon 26 = .ok (.if_icmp .eq 7, 3) := dk_159 0 7 (dk_at dksX12_reckon_1 4 rfl rfl)
theorem dX12_reckon_29 : decode cX12_reckon 29 = .ok (.iconst 1, 1) := dk_4 (dk_at dksX12_reckon_1 7 rfl rfl)
theorem dX12_reckon_30 : decode cX12_reckon 30 = .ok (.goto 4, 3) := dk_167 0 4 (dk_at dksX12_reckon_1 8 rfl rfl)
theorem dX12_reckon_33 : decode cX12_reckon 33 = .ok (.iconst 0, 1) := dk_3 (dk_at dksX12_reckon_1 11 rfl rfl)
theorem dX12_reckon_34 : decode cX12_reckon 34 = .ok (.aload_n 0, 1) := dk_42 (dk_at dksX12_reckon_1 12 rfl rfl)
theorem dX12_reckon_35 : decode cX12_reckon 35 = .ok (.getfield 9, 3) := dk_180 0 9 (dk_at dksX12_reckon_1 13 rfl rfl)
theorem dX12_reckon_38 : decode cX12_reckon 38 = .ok (.if_icmp .eq 7, 3) := dk_159 0 7 (dk_at dksX12_reckon_1 16 rfl rfl)
theorem dX12_reckon_41 : decode cX12_reckon 41 = .ok (.iconst 1, 1) := dk_4 (dk_at dksX12_reckon_1 19 rfl rfl)
theorem dX12_reckon_42 : decode cX12_reckon 42 = .ok (.goto 4, 3) := dk_167 0 4 (dk_at dksX12_reckon_1 20 rfl rfl)
theorem dX12_reckon_45 : decode cX12_reckon 45 = .ok (.iconst 0, 1) := dk_3 (dk_at dksX12_reckon_1 23 rfl rfl)
theorem dX12_reckon_46 : decode cX12_reckon 46 = .ok (.invokestatic 35, 3) := dk_184 0 35 (dk_at dksX12_reckon_2 0 rfl rfl)
theorem dX12_reckon_49 : decode cX12_reckon 49 = .ok (.lreturn, 1) := dk_173 (dk_at dksX12_reckon_2 3 rfl rfl)
theorem dX12_reckon_50 : decode cX12_reckon 50 = .ok (.iload_n 1, 1) := dk_27 (dk_at dksX12_reckon_2 4 rfl rfl)
theorem dX12_reckon_51 : decode cX12_reckon 51 = .ok (.ifCond .ne 15, 3) := dk_154 0 15 (dk_at dksX12_reckon_2 5 rfl rfl)
theorem dX12_reckon_54 : decode cX12_reckon 54 = .ok (.aload_n 0, 1) := dk_42 (dk_at dksX12_reckon_2 8 rfl rfl)
theorem dX12_reckon_55 : decode cX12_reckon 55 = .ok (.getfield 19, 3) := dk_180 0 19 (dk_at dksX12_reckon_2 9 rfl rfl)
theorem dX12_reckon_58 : decode cX12_reckon 58 = .ok (.iconst 0, 1) := dk_3 (dk_at dksX12_reckon_2 12 rfl rfl)
theorem dX12_reckon_59 : decode cX12_reckon 59 = .ok (.invokevirtual 27, 3) := dk_182 0 27 (dk_at dksX12_reckon_2 13 rfl rfl)
theorem dX12_reckon_62 : decode cX12_reckon 62 = .ok (.invokestatic 35, 3) := dk_184 0 35 (dk_at dksX12_reckon_2 16 rfl rfl)
theorem dX12_reckon_65 : decode cX12_reckon 65 = .ok (.lreturn, 1) := dk_173 (dk_at dksX12_reckon_2 19 rfl rfl)
theorem dX12_reckon_66 : decode cX12_reckon 66 = .ok (.aload_n 0, 1) := dk_42 (dk_at dksX12_reckon_2 20 rfl rfl)
theorem dX12_reckon_67 : decode cX12_reckon 67 = .ok (.getfield 9, 3) := dk_180 0 9 (dk_at dksX12_reckon_2 21 rfl rfl)
theorem dX12_reckon_70 : decode cX12_reckon 70 = .ok (.ifCond .eq 32, 3) := dk_153 0 32 (dk_at dksX12_reckon_3 0 rfl rfl)
theorem dX12_reckon_73 : decode cX12_reckon 73 = .ok (.aload_n 0, 1) := dk_42 (dk_at dksX12_reckon_3 3 rfl rfl)
theorem dX12_reckon_74 : decode cX12_reckon 74 = .ok (.iload_n 1, 1) := dk_27 (dk_at dksX12_reckon_3 4 rfl rfl)
theorem dX12_reckon_75 : decode cX12_reckon 75 = .ok (.iconst 1, 1) := dk_4 (dk_at dksX12_reckon_3 5 rfl rfl)
theorem dX12_reckon_76 : decode cX12_reckon 76 = .ok (.isub, 1) := dk_100 (dk_at dksX12_reckon_3 6 rfl rfl)
theorem dX12_reckon_77 : decode cX12_reckon 77 = .ok (.invokevirtual 39, 3) := dk_182 0 39 (dk_at dksX12_reckon_3 7 rfl rfl)
theorem dX12_reckon_80 : decode cX12_reckon 80 = .ok (.ifCond .eq 18, 3) := dk_153 0 18 (dk_at dksX12_reckon_3 10 rfl rfl)
theorem dX12_reckon_83 : decode cX12_reckon 83 = .ok (.aload_n 0, 1) := dk_42 (dk_at dksX12_reckon_3 13 rfl rfl)
theorem dX12_reckon_84 : decode cX12_reckon 84 = .ok (.getfield 19, 3) := dk_180 0 19 (dk_at dksX12_reckon_3 14 rfl rfl)
theorem dX12_reckon_87 : decode cX12_reckon 87 = .ok (.iload_n 1, 1) := dk_27 (dk_at dksX12_reckon_3 17 rfl rfl)
theorem dX12_reckon_88 : decode cX12_reckon 88 = .ok (.invokevirtual 27, 3) := dk_182 0 27 (dk_at dksX12_reckon_3 18 rfl rfl)
theorem dX12_reckon_91 : decode cX12_reckon 91 = .ok (.ifCond .eq 7, 3) := dk_153 0 7 (dk_at dksX12_reckon_3 21 rfl rfl)
theorem dX12_reckon_94 : decode cX12_reckon 94 = .ok (.iconst 1, 1) := dk_4 (dk_at dksX12_reckon_4 0 rfl rfl)
theorem dX12_reckon_95 : decode cX12_reckon 95 = .ok (.goto 33, 3) := dk_167 0 33 (dk_at dksX12_reckon_4 1 rfl rfl)
theorem dX12_reckon_98 : decode cX12_reckon 98 = .ok (.iconst 0, 1) := dk_3 (dk_at dksX12_reckon_4 4 rfl rfl)
theorem dX12_reckon_99 : decode cX12_reckon 99 = .ok (.goto 29, 3) := dk_167 0 29 (dk_at dksX12_reckon_4 5 rfl rfl)
theorem dX12_reckon_102 : decode cX12_reckon 102 = .ok (.aload_n 0, 1) := dk_42 (dk_at dksX12_reckon_4 8 rfl rfl)
theorem dX12_reckon_103 : decode cX12_reckon 103 = .ok (.iload_n 1, 1) := dk_27 (dk_at dksX12_reckon_4 9 rfl rfl)
theorem dX12_reckon_104 : decode cX12_reckon 104 = .ok (.iconst 1, 1) := dk_4 (dk_at dksX12_reckon_4 10 rfl rfl)
theorem dX12_reckon_105 : decode cX12_reckon 105 = .ok (.isub, 1) := dk_100 (dk_at dksX12_reckon_4 11 rfl rfl)
theorem dX12_reckon_106 : decode cX12_reckon 106 = .ok (.invokevirtual 39, 3) := dk_182 0 39 (dk_at dksX12_reckon_4 12 rfl rfl)
theorem dX12_reckon_109 : decode cX12_reckon 109 = .ok (.ifCond .ne 14, 3) := dk_154 0 14 (dk_at dksX12_reckon_4 15 rfl rfl)
theorem dX12_reckon_112 : decode cX12_reckon 112 = .ok (.aload_n 0, 1) := dk_42 (dk_at dksX12_reckon_4 18 rfl rfl)
theorem dX12_reckon_113 : decode cX12_reckon 113 = .ok (.getfield 19, 3) := dk_180 0 19 (dk_at dksX12_reckon_4 19 rfl rfl)
theorem dX12_reckon_116 : decode cX12_reckon 116 = .ok (.iload_n 1, 1) := dk_27 (dk_at dksX12_reckon_4 22 rfl rfl)
theorem dX12_reckon_117 : decode cX12_reckon 117 = .ok (.invokevirtual 27, 3) := dk_182 0 27 (dk_at dksX12_reckon_5 0 rfl rfl)
theorem dX12_reckon_120 : decode cX12_reckon 120 = .ok (.ifCond .eq 7, 3) := dk_153 0 7 (dk_at dksX12_reckon_5 3 rfl rfl)
theorem dX12_reckon_123 : decode cX12_reckon 123 = .ok (.iconst 1, 1) := dk_4 (dk_at dksX12_reckon_5 6 rfl rfl)
theorem dX12_reckon_124 : decode cX12_reckon 124 = .ok (.goto 4, 3) := dk_167 0 4 (dk_at dksX12_reckon_5 7 rfl rfl)
theorem dX12_reckon_127 : decode cX12_reckon 127 = .ok (.iconst 0, 1) := dk_3 (dk_at dksX12_reckon_5 10 rfl rfl)
theorem dX12_reckon_128 : decode cX12_reckon 128 = .ok (.invokestatic 35, 3) := dk_184 0 35 (dk_at dksX12_reckon_5 11 rfl rfl)
theorem dX12_reckon_131 : decode cX12_reckon 131 = .ok (.lreturn, 1) := dk_173 (dk_at dksX12_reckon_5 14 rfl rfl)
abbrev cX12_first : ByteArray := prog_3_method_2_code
def yX12_first : MethodName := ⟨RX12, "first", "(I[IZ)I"⟩
def dkwX12_first_1 : List UInt8 := [180, 0, 19, 21, 4, 182, 0, 27, 29, 160, 0, 6, 21, 4, 172, 132, 4, 1, 167, 255, 217, 2, 172]
abbrev dktX12_first_1 : List UInt8 := dkwX12_first_1 ++ []
def dkwX12_first_0 : List UInt8 := [3, 54, 4, 21, 4, 27, 163, 0, 39, 42, 180, 0, 15, 44, 27, 21, 4, 184, 0, 23, 153, 0, 19, 42]
abbrev dktX12_first_0 : List UInt8 := dkwX12_first_0 ++ dktX12_first_1
theorem dksX12_first_0 : cX12_first.data.toList.drop 0 = dktX12_first_0 := by decide +kernel
theorem dksX12_first_1 : cX12_first.data.toList.drop 24 = dktX12_first_1 := dk_seg dksX12_first_0 24 rfl rfl
theorem dX12_first_0 : decode cX12_first 0 = .ok (.iconst 0, 1) := dk_3 (dk_at dksX12_first_0 0 rfl rfl)
theorem dX12_first_1 : decode cX12_first 1 = .ok (.istore 4, 2) := dk_54 4 (dk_at dksX12_first_0 1 rfl rfl)
theorem dX12_first_3 : decode cX12_first 3 = .ok (.iload 4, 2) := dk_21 4 (dk_at dksX12_first_0 3 rfl rfl)
theorem dX12_first_5 : decode cX12_first 5 = .ok (.iload_n 1, 1) := dk_27 (dk_at dksX12_first_0 5 rfl rfl)
theorem dX12_first_6 : decode cX12_first 6 = .ok (.if_icmp .gt 39, 3) := dk_163 0 39 (dk_at dksX12_first_0 6 rfl rfl)
theorem dX12_first_9 : decode cX12_first 9 = .ok (.aload_n 0, 1) := dk_42 (dk_at dksX12_first_0 9 rfl rfl)
theorem dX12_first_10 : decode cX12_first 10 = .ok (.getfield 15, 3) := dk_180 0 15 (dk_at dksX12_first_0 10 rfl rfl)
theorem dX12_first_13 : decode cX12_first 13 = .ok (.aload_n 2, 1) := dk_44 (dk_at dksX12_first_0 13 rfl rfl)
theorem dX12_first_14 : decode cX12_first 14 = .ok (.iload_n 1, 1) := dk_27 (dk_at dksX12_first_0 14 rfl rfl)
theorem dX12_first_15 : decode cX12_first 15 = .ok (.iload 4, 2) := dk_21 4 (dk_at dksX12_first_0 15 rfl rfl)
theorem dX12_first_17 : decode cX12_first 17 = .ok (.invokestatic 23, 3) := dk_184 0 23 (dk_at dksX12_first_0 17 rfl rfl)
theorem dX12_first_20 : decode cX12_first 20 = .ok (.ifCond .eq 19, 3) := dk_153 0 19 (dk_at dksX12_first_0 20 rfl rfl)
theorem dX12_first_23 : decode cX12_first 23 = .ok (.aload_n 0, 1) := dk_42 (dk_at dksX12_first_0 23 rfl rfl)
theorem dX12_first_24 : decode cX12_first 24 = .ok (.getfield 19, 3) := dk_180 0 19 (dk_at dksX12_first_1 0 rfl rfl)
theorem dX12_first_27 : decode cX12_first 27 = .ok (.iload 4, 2) := dk_21 4 (dk_at dksX12_first_1 3 rfl rfl)
theorem dX12_first_29 : decode cX12_first 29 = .ok (.invokevirtual 27, 3) := dk_182 0 27 (dk_at dksX12_first_1 5 rfl rfl)
theorem dX12_first_32 : decode cX12_first 32 = .ok (.iload_n 3, 1) := dk_29 (dk_at dksX12_first_1 8 rfl rfl)
theorem dX12_first_33 : decode cX12_first 33 = .ok (.if_icmp .ne 6, 3) := dk_160 0 6 (dk_at dksX12_first_1 9 rfl rfl)
theorem dX12_first_36 : decode cX12_first 36 = .ok (.iload 4, 2) := dk_21 4 (dk_at dksX12_first_1 12 rfl rfl)
theorem dX12_first_38 : decode cX12_first 38 = .ok (.ireturn, 1) := dk_172 (dk_at dksX12_first_1 14 rfl rfl)
theorem dX12_first_39 : decode cX12_first 39 = .ok (.iinc 4 1, 3) := dk_132 4 1 (dk_at dksX12_first_1 15 rfl rfl)
theorem dX12_first_42 : decode cX12_first 42 = .ok (.goto (-39), 3) := dk_167 255 217 (dk_at dksX12_first_1 18 rfl rfl)
theorem dX12_first_45 : decode cX12_first 45 = .ok (.iconst (-1), 1) := dk_2 (dk_at dksX12_first_1 21 rfl rfl)
theorem dX12_first_46 : decode cX12_first 46 = .ok (.ireturn, 1) := dk_172 (dk_at dksX12_first_1 22 rfl rfl)
abbrev cX12_reason : ByteArray := prog_3_method_4_code
def yX12_reason : MethodName := ⟨RX12, "reason", "(I[I)LPastWatch$Reason;"⟩
def dkwX12_reason_1 : List UInt8 := [167, 0, 9, 42, 27, 44, 183, 0, 40, 176]
abbrev dktX12_reason_1 : List UInt8 := dkwX12_reason_1 ++ []
def dkwX12_reason_0 : List UInt8 := [42, 180, 0, 9, 153, 0, 21, 42, 180, 0, 19, 42, 27, 44, 3, 182, 0, 31, 44, 182, 0, 40]
abbrev dktX12_reason_0 : List UInt8 := dkwX12_reason_0 ++ dktX12_reason_1
theorem dksX12_reason_0 : cX12_reason.data.toList.drop 0 = dktX12_reason_0 := by decide +kernel
theorem dksX12_reason_1 : cX12_reason.data.toList.drop 22 = dktX12_reason_1 := dk_seg dksX12_reason_0 22 rfl rfl
theorem dX12_reason_0 : decode cX12_reason 0 = .ok (.aload_n 0, 1) := dk_42 (dk_at dksX12_reason_0 0 rfl rfl)
theorem dX12_reason_1 : decode cX12_reason 1 = .ok (.getfield 9, 3) := dk_180 0 9 (dk_at dksX12_reason_0 1 rfl rfl)
theorem dX12_reason_4 : decode cX12_reason 4 = .ok (.ifCond .eq 21, 3) := dk_153 0 21 (dk_at dksX12_reason_0 4 rfl rfl)
theorem dX12_reason_7 : decode cX12_reason 7 = .ok (.aload_n 0, 1) := dk_42 (dk_at dksX12_reason_0 7 rfl rfl)
theorem dX12_reason_8 : decode cX12_reason 8 = .ok (.getfield 19, 3) := dk_180 0 19 (dk_at dksX12_reason_0 8 rfl rfl)
theorem dX12_reason_11 : decode cX12_reason 11 = .ok (.aload_n 0, 1) := dk_42 (dk_at dksX12_reason_0 11 rfl rfl)
theorem dX12_reason_12 : decode cX12_reason 12 = .ok (.iload_n 1, 1) := dk_27 (dk_at dksX12_reason_0 12 rfl rfl)
theorem dX12_reason_13 : decode cX12_reason 13 = .ok (.aload_n 2, 1) := dk_44 (dk_at dksX12_reason_0 13 rfl rfl)
theorem dX12_reason_14 : decode cX12_reason 14 = .ok (.iconst 0, 1) := dk_3 (dk_at dksX12_reason_0 14 rfl rfl)
theorem dX12_reason_15 : decode cX12_reason 15 = .ok (.invokevirtual 31, 3) := dk_182 0 31 (dk_at dksX12_reason_0 15 rfl rfl)
theorem dX12_reason_18 : decode cX12_reason 18 = .ok (.aload_n 2, 1) := dk_44 (dk_at dksX12_reason_0 18 rfl rfl)
theorem dX12_reason_19 : decode cX12_reason 19 = .ok (.invokevirtual 40, 3) := dk_182 0 40 (dk_at dksX12_reason_0 19 rfl rfl)
theorem dX12_reason_22 : decode cX12_reason 22 = .ok (.goto 9, 3) := dk_167 0 9 (dk_at dksX12_reason_1 0 rfl rfl)
theorem dX12_reason_25 : decode cX12_reason 25 = .ok (.aload_n 0, 1) := dk_42 (dk_at dksX12_reason_1 3 rfl rfl)
theorem dX12_reason_26 : decode cX12_reason 26 = .ok (.iload_n 1, 1) := dk_27 (dk_at dksX12_reason_1 4 rfl rfl)
theorem dX12_reason_27 : decode cX12_reason 27 = .ok (.aload_n 2, 1) := dk_44 (dk_at dksX12_reason_1 5 rfl rfl)
theorem dX12_reason_28 : decode cX12_reason 28 = .ok (.invokespecial 40, 3) := dk_183 0 40 (dk_at dksX12_reason_1 6 rfl rfl)
theorem dX12_reason_31 : decode cX12_reason 31 = .ok (.areturn, 1) := dk_176 (dk_at dksX12_reason_1 9 rfl rfl)
theorem q149 : (Jvm.Cond.initialized "PastWatch$Back") ∈ lw_all := lw_g (lw_at lw_m1 44 rfl) rfl
theorem q926 : (Jvm.Cond.selects "PastWatch$Back" ({ cls := "java/lang/Object", name := "getClass", desc := "()Ljava/lang/Class;" } : Jvm.MethodName) ({ cls := "java/lang/Object", name := "getClass", desc := "()Ljava/lang/Class;" } : Jvm.MethodName)) ∈ lw_all := lw_g (lw_at lw_m4 101 rfl) rfl
theorem q1122 : (Jvm.Cond.selects "PastWatch$Back" ({ cls := "java/lang/Object", name := "hashCode", desc := "()I" } : Jvm.MethodName) ({ cls := "java/lang/Object", name := "hashCode", desc := "()I" } : Jvm.MethodName)) ∈ lw_all := lw_g (lw_at lw_m5 57 rfl) rfl
theorem q1171 : (Jvm.Cond.selects "PastWatch$Back" ({ cls := "java/lang/Object", name := "equals", desc := "(Ljava/lang/Object;)Z" } : Jvm.MethodName) ({ cls := "java/lang/Object", name := "equals", desc := "(Ljava/lang/Object;)Z" } : Jvm.MethodName)) ∈ lw_all := lw_g (lw_at lw_m5 106 rfl) rfl
theorem q1733 : (Jvm.Cond.instantiable "PastWatch$Back" (5 : Nat)) ∈ lw_all := lw_g (lw_at lw_m7 188 rfl) rfl
theorem q1735 : (Jvm.Cond.instanceMethod ({ cls := "PastWatch$Back", name := "<init>", desc := "(IZLPastWatch$Bounds;LPastWatch$Node;)V" } : Jvm.MethodName)) ∈ lw_all := lw_g (lw_at lw_m7 190 rfl) rfl
theorem q1736 : (Jvm.Cond.code ({ cls := "PastWatch$Back", name := "<init>", desc := "(IZLPastWatch$Bounds;LPastWatch$Node;)V" } : Jvm.MethodName) prog_3_method_1_code (5 : Nat) (Option.none : Option Jvm.ClassFile.FieldType)) ∈ lw_all := lw_g (lw_at lw_m7 191 rfl) rfl
theorem q1737 : (Jvm.Cond.methodLink "PastWatch$Back" (3 : Nat) ({ cls := "PastWatch$Node", name := "<init>", desc := "(I)V" } : Jvm.MethodName)) ∈ lw_all := lw_g (lw_at lw_m7 192 rfl) rfl
theorem q1738 : (Jvm.Cond.fieldLink "PastWatch$Back" (9 : Nat) "PastWatch$Back" "isAlways" "Z") ∈ lw_all := lw_g (lw_at lw_m7 193 rfl) rfl
theorem q1739 : (Jvm.Cond.fieldLink "PastWatch$Back" (15 : Nat) "PastWatch$Back" "bounds" "LPastWatch$Bounds;") ∈ lw_all := lw_g (lw_at lw_m7 194 rfl) rfl
theorem q1740 : (Jvm.Cond.fieldLink "PastWatch$Back" (19 : Nat) "PastWatch$Back" "of" "LPastWatch$Node;") ∈ lw_all := lw_g (lw_at lw_m7 195 rfl) rfl
theorem q1741 : (Jvm.Cond.laysFinal "PastWatch$Back" "PastWatch$Back" "isAlways" "Z") ∈ lw_all := lw_g (lw_at lw_m7 196 rfl) rfl
theorem q1742 : (Jvm.Cond.soleField "PastWatch$Back" "isAlways") ∈ lw_all := lw_g (lw_at lw_m7 197 rfl) rfl
theorem q1743 : (Jvm.Cond.laysFinal "PastWatch$Back" "PastWatch$Back" "bounds" "LPastWatch$Bounds;") ∈ lw_all := lw_g (lw_at lw_m7 198 rfl) rfl
theorem q1744 : (Jvm.Cond.soleField "PastWatch$Back" "bounds") ∈ lw_all := lw_g (lw_at lw_m7 199 rfl) rfl
theorem q1745 : (Jvm.Cond.laysFinal "PastWatch$Back" "PastWatch$Back" "of" "LPastWatch$Node;") ∈ lw_all := lw_g (lw_at lw_m7 200 rfl) rfl
theorem q1746 : (Jvm.Cond.soleField "PastWatch$Back" "of") ∈ lw_all := lw_g (lw_at lw_m7 201 rfl) rfl
theorem q1747 : (Jvm.Cond.laysFinal "PastWatch$Back" "PastWatch$Node" "place" "I") ∈ lw_all := lw_g (lw_at lw_m7 202 rfl) rfl
theorem q1748 : (Jvm.Cond.lays "PastWatch$Back" "PastWatch$Node" "history" "[J") ∈ lw_all := lw_g (lw_at lw_m7 203 rfl) rfl
theorem q1749 : (Jvm.Cond.superclass "PastWatch$Back" "PastWatch$Node") ∈ lw_all := lw_g (lw_at lw_m7 204 rfl) rfl
theorem q2163 : (Jvm.Cond.selects "PastWatch$Back" ({ cls := "PastWatch$Node", name := "keep", desc := "(I[I)V" } : Jvm.MethodName) ({ cls := "PastWatch$Node", name := "keep", desc := "(I[I)V" } : Jvm.MethodName)) ∈ lw_all := lw_g (lw_at lw_m9 138 rfl) rfl
theorem q2191 : (Jvm.Cond.selects "PastWatch$Back" ({ cls := "PastWatch$Node", name := "holds", desc := "(I)Z" } : Jvm.MethodName) ({ cls := "PastWatch$Node", name := "holds", desc := "(I)Z" } : Jvm.MethodName)) ∈ lw_all := lw_g (lw_at lw_m9 166 rfl) rfl
theorem q2207 : (Jvm.Cond.selects "PastWatch$Back" ({ cls := "PastWatch$Node", name := "reckon", desc := "(I[I)J" } : Jvm.MethodName) ({ cls := "PastWatch$Back", name := "reckon", desc := "(I[I)J" } : Jvm.MethodName)) ∈ lw_all := lw_g (lw_at lw_m9 182 rfl) rfl
theorem q2208 : (Jvm.Cond.instanceMethod ({ cls := "PastWatch$Back", name := "reckon", desc := "(I[I)J" } : Jvm.MethodName)) ∈ lw_all := lw_g (lw_at lw_m9 183 rfl) rfl
theorem q2209 : (Jvm.Cond.code ({ cls := "PastWatch$Back", name := "reckon", desc := "(I[I)J" } : Jvm.MethodName) prog_3_method_3_code (3 : Nat) (Option.some Jvm.ClassFile.FieldType.long)) ∈ lw_all := lw_g (lw_at lw_m9 184 rfl) rfl
theorem q2210 : (Jvm.Cond.methodLink "PastWatch$Back" (31 : Nat) ({ cls := "PastWatch$Back", name := "first", desc := "(I[IZ)I" } : Jvm.MethodName)) ∈ lw_all := lw_g (lw_at lw_m9 185 rfl) rfl
theorem q2211 : (Jvm.Cond.privateMethod ({ cls := "PastWatch$Back", name := "first", desc := "(I[IZ)I" } : Jvm.MethodName)) ∈ lw_tbl := lw_at lw_m9 186 rfl
theorem q2212 : (Jvm.Cond.instanceMethod ({ cls := "PastWatch$Back", name := "first", desc := "(I[IZ)I" } : Jvm.MethodName)) ∈ lw_all := lw_g (lw_at lw_m9 187 rfl) rfl
theorem q2213 : (Jvm.Cond.code ({ cls := "PastWatch$Back", name := "first", desc := "(I[IZ)I" } : Jvm.MethodName) prog_3_method_2_code (5 : Nat) (Option.some Jvm.ClassFile.FieldType.int)) ∈ lw_all := lw_g (lw_at lw_m9 188 rfl) rfl
theorem q2214 : (Jvm.Cond.methodLinkNest "PastWatch$Back" (23 : Nat) ({ cls := "PastWatch", name := "isMeant", desc := "(LPastWatch$Bounds;[III)Z" } : Jvm.MethodName) "PastWatch") ∈ lw_tbl := lw_at lw_m9 189 rfl
theorem q2221 : (Jvm.Cond.methodLink "PastWatch$Back" (27 : Nat) ({ cls := "PastWatch$Node", name := "holds", desc := "(I)Z" } : Jvm.MethodName)) ∈ lw_all := lw_g (lw_at lw_m9 196 rfl) rfl
theorem q2222 : (Jvm.Cond.methodLinkNest "PastWatch$Back" (35 : Nat) ({ cls := "PastWatch", name := "asNumber", desc := "(Z)J" } : Jvm.MethodName) "PastWatch") ∈ lw_tbl := lw_at lw_m9 197 rfl
theorem q2225 : (Jvm.Cond.methodLink "PastWatch$Back" (39 : Nat) ({ cls := "PastWatch$Back", name := "holds", desc := "(I)Z" } : Jvm.MethodName)) ∈ lw_all := lw_g (lw_at lw_m9 200 rfl) rfl
theorem q2226 : (Jvm.Cond.sameMethod "PastWatch$Back" "PastWatch$Node" "holds" "(I)Z") ∈ lw_all := lw_g (lw_at lw_m9 201 rfl) rfl
theorem q2228 : (Jvm.Cond.selects "PastWatch$Back" ({ cls := "PastWatch$Back", name := "holds", desc := "(I)Z" } : Jvm.MethodName) ({ cls := "PastWatch$Node", name := "holds", desc := "(I)Z" } : Jvm.MethodName)) ∈ lw_all := lw_g (lw_at lw_m9 203 rfl) rfl
theorem q2567 : (Jvm.Cond.selects "PastWatch$Back" ({ cls := "PastWatch$Node", name := "reason", desc := "(I[I)LPastWatch$Reason;" } : Jvm.MethodName) ({ cls := "PastWatch$Back", name := "reason", desc := "(I[I)LPastWatch$Reason;" } : Jvm.MethodName)) ∈ lw_all := lw_g (lw_at lw_m11 62 rfl) rfl
theorem q2568 : (Jvm.Cond.instanceMethod ({ cls := "PastWatch$Back", name := "reason", desc := "(I[I)LPastWatch$Reason;" } : Jvm.MethodName)) ∈ lw_all := lw_g (lw_at lw_m11 63 rfl) rfl
theorem q2569 : (Jvm.Cond.code ({ cls := "PastWatch$Back", name := "reason", desc := "(I[I)LPastWatch$Reason;" } : Jvm.MethodName) prog_3_method_4_code (3 : Nat) (Option.some (Jvm.ClassFile.FieldType.object "PastWatch$Reason"))) ∈ lw_all := lw_g (lw_at lw_m11 64 rfl) rfl
theorem q2570 : (Jvm.Cond.methodLink "PastWatch$Back" (40 : Nat) ({ cls := "PastWatch$Node", name := "reason", desc := "(I[I)LPastWatch$Reason;" } : Jvm.MethodName)) ∈ lw_all := lw_g (lw_at lw_m11 65 rfl) rfl
theorem q3218 : (Jvm.Cond.selects "PastWatch$Back" ({ cls := "PastWatch$Node", name := "at", desc := "(I)J" } : Jvm.MethodName) ({ cls := "PastWatch$Node", name := "at", desc := "(I)J" } : Jvm.MethodName)) ∈ lw_all := lw_g (lw_at lw_m13 233 rfl) rfl
theorem q3242 : (Jvm.Cond.castable "PastWatch$Back" "PastWatch$Node") ∈ lw_tbl := lw_at lw_m14 17 rfl
theorem q3281 : (Jvm.Cond.castable "PastWatch$Back" "java/lang/Object") ∈ lw_tbl := lw_at lw_m14 56 rfl
theorem in_X12 : ∀ w ∈ wsX120, w ∈ lw_all := lw_in wsX120 [1747, 1748, 1741, 1743, 1745] (by decide +kernel) (by decide +kernel)

/-! PastWatch$Literal -/

def RX13 : String := "PastWatch$Literal"
def TX13 : u_T := fun k => match k with
  | 0 => ("PastWatch$Node", "place", "I", true)
  | 1 => ("PastWatch$Node", "history", "[J", false)
  | _ => ("PastWatch$Literal", "number", "J", true)
def tyX13 : Nat → FieldType := fun k => match k with
  | 0 => .int
  | 1 => .array .long
  | _ => .long
abbrev wsX130 : List Cond := u_ws RX13 TX13 3
theorem nmX13 : ∀ a, a < 3 → ∀ b, b < 3 → a ≠ b → (TX13 a).2.1 ≠ (TX13 b).2.1 := by decide +kernel
theorem tyX13_ok : ∀ k, k < 3 → parseFieldDescriptor (TX13 k).2.2.1 = some (tyX13 k) := by decide +kernel
abbrev cX13_init : ByteArray := prog_11_method_1_code
def yX13_init : MethodName := ⟨RX13, "<init>", "(IJ)V"⟩
def dkwX13_init_0 : List UInt8 := [42, 27, 183, 0, 1, 42, 32, 181, 0, 7, 177]
abbrev dktX13_init_0 : List UInt8 := dkwX13_init_0 ++ []
theorem dksX13_init_0 : cX13_init.data.toList.drop 0 = dktX13_init_0 := by decide +kernel
theorem dX13_init_0 : decode cX13_init 0 = .ok (.aload_n 0, 1) := dk_42 (dk_at dksX13_init_0 0 rfl rfl)
theorem dX13_init_1 : decode cX13_init 1 = .ok (.iload_n 1, 1) := dk_27 (dk_at dksX13_init_0 1 rfl rfl)
theorem dX13_init_2 : decode cX13_init 2 = .ok (.invokespecial 1, 3) := dk_183 0 1 (dk_at dksX13_init_0 2 rfl rfl)
theorem dX13_init_5 : decode cX13_init 5 = .ok (.aload_n 0, 1) := dk_42 (dk_at dksX13_init_0 5 rfl rfl)
theorem dX13_init_6 : decode cX13_init 6 = .ok (.lload_n 2, 1) := dk_32 (dk_at dksX13_init_0 6 rfl rfl)
theorem dX13_init_7 : decode cX13_init 7 = .ok (.putfield 7, 3) := dk_181 0 7 (dk_at dksX13_init_0 7 rfl rfl)
theorem dX13_init_10 : decode cX13_init 10 = .ok (.return_, 1) := dk_177 (dk_at dksX13_init_0 10 rfl rfl)
abbrev cX13_reckon : ByteArray := prog_11_method_2_code
def yX13_reckon : MethodName := ⟨RX13, "reckon", "(I[I)J"⟩
theorem dX13_reckon_0 : decode cX13_reckon 0 = .ok (.aload_n 0, 1) := by decide +kernel
theorem dX13_reckon_1 : decode cX13_reckon 1 = .ok (.getfield 7, 3) := by decide +kernel
theorem dX13_reckon_4 : decode cX13_reckon 4 = .ok (.lreturn, 1) := by decide +kernel
theorem q150 : (Jvm.Cond.initialized "PastWatch$Literal") ∈ lw_all := lw_g (lw_at lw_m1 45 rfl) rfl
theorem q934 : (Jvm.Cond.selects "PastWatch$Literal" ({ cls := "java/lang/Object", name := "getClass", desc := "()Ljava/lang/Class;" } : Jvm.MethodName) ({ cls := "java/lang/Object", name := "getClass", desc := "()Ljava/lang/Class;" } : Jvm.MethodName)) ∈ lw_all := lw_g (lw_at lw_m4 109 rfl) rfl
theorem q1130 : (Jvm.Cond.selects "PastWatch$Literal" ({ cls := "java/lang/Object", name := "hashCode", desc := "()I" } : Jvm.MethodName) ({ cls := "java/lang/Object", name := "hashCode", desc := "()I" } : Jvm.MethodName)) ∈ lw_all := lw_g (lw_at lw_m5 65 rfl) rfl
theorem q1179 : (Jvm.Cond.selects "PastWatch$Literal" ({ cls := "java/lang/Object", name := "equals", desc := "(Ljava/lang/Object;)Z" } : Jvm.MethodName) ({ cls := "java/lang/Object", name := "equals", desc := "(Ljava/lang/Object;)Z" } : Jvm.MethodName)) ∈ lw_all := lw_g (lw_at lw_m5 114 rfl) rfl
theorem q1758 : (Jvm.Cond.instantiable "PastWatch$Literal" (3 : Nat)) ∈ lw_all := lw_g (lw_at lw_m7 213 rfl) rfl
theorem q1760 : (Jvm.Cond.instanceMethod ({ cls := "PastWatch$Literal", name := "<init>", desc := "(IJ)V" } : Jvm.MethodName)) ∈ lw_all := lw_g (lw_at lw_m7 215 rfl) rfl
theorem q1761 : (Jvm.Cond.code ({ cls := "PastWatch$Literal", name := "<init>", desc := "(IJ)V" } : Jvm.MethodName) prog_11_method_1_code (4 : Nat) (Option.none : Option Jvm.ClassFile.FieldType)) ∈ lw_all := lw_g (lw_at lw_m7 216 rfl) rfl
theorem q1762 : (Jvm.Cond.methodLink "PastWatch$Literal" (1 : Nat) ({ cls := "PastWatch$Node", name := "<init>", desc := "(I)V" } : Jvm.MethodName)) ∈ lw_all := lw_g (lw_at lw_m7 217 rfl) rfl
theorem q1763 : (Jvm.Cond.fieldLink "PastWatch$Literal" (7 : Nat) "PastWatch$Literal" "number" "J") ∈ lw_all := lw_g (lw_at lw_m7 218 rfl) rfl
theorem q1764 : (Jvm.Cond.laysFinal "PastWatch$Literal" "PastWatch$Literal" "number" "J") ∈ lw_all := lw_g (lw_at lw_m7 219 rfl) rfl
theorem q1765 : (Jvm.Cond.soleField "PastWatch$Literal" "number") ∈ lw_all := lw_g (lw_at lw_m7 220 rfl) rfl
theorem q1766 : (Jvm.Cond.laysFinal "PastWatch$Literal" "PastWatch$Node" "place" "I") ∈ lw_all := lw_g (lw_at lw_m7 221 rfl) rfl
theorem q1767 : (Jvm.Cond.lays "PastWatch$Literal" "PastWatch$Node" "history" "[J") ∈ lw_all := lw_g (lw_at lw_m7 222 rfl) rfl
theorem q1768 : (Jvm.Cond.superclass "PastWatch$Literal" "PastWatch$Node") ∈ lw_all := lw_g (lw_at lw_m7 223 rfl) rfl
theorem q2170 : (Jvm.Cond.selects "PastWatch$Literal" ({ cls := "PastWatch$Node", name := "keep", desc := "(I[I)V" } : Jvm.MethodName) ({ cls := "PastWatch$Node", name := "keep", desc := "(I[I)V" } : Jvm.MethodName)) ∈ lw_all := lw_g (lw_at lw_m9 145 rfl) rfl
theorem q2198 : (Jvm.Cond.selects "PastWatch$Literal" ({ cls := "PastWatch$Node", name := "holds", desc := "(I)Z" } : Jvm.MethodName) ({ cls := "PastWatch$Node", name := "holds", desc := "(I)Z" } : Jvm.MethodName)) ∈ lw_all := lw_g (lw_at lw_m9 173 rfl) rfl
theorem q2276 : (Jvm.Cond.selects "PastWatch$Literal" ({ cls := "PastWatch$Node", name := "reckon", desc := "(I[I)J" } : Jvm.MethodName) ({ cls := "PastWatch$Literal", name := "reckon", desc := "(I[I)J" } : Jvm.MethodName)) ∈ lw_all := lw_g (lw_at lw_m10 11 rfl) rfl
theorem q2277 : (Jvm.Cond.instanceMethod ({ cls := "PastWatch$Literal", name := "reckon", desc := "(I[I)J" } : Jvm.MethodName)) ∈ lw_all := lw_g (lw_at lw_m10 12 rfl) rfl
theorem q2278 : (Jvm.Cond.code ({ cls := "PastWatch$Literal", name := "reckon", desc := "(I[I)J" } : Jvm.MethodName) prog_11_method_2_code (3 : Nat) (Option.some Jvm.ClassFile.FieldType.long)) ∈ lw_all := lw_g (lw_at lw_m10 13 rfl) rfl
theorem q2606 : (Jvm.Cond.selects "PastWatch$Literal" ({ cls := "PastWatch$Node", name := "reason", desc := "(I[I)LPastWatch$Reason;" } : Jvm.MethodName) ({ cls := "PastWatch$Node", name := "reason", desc := "(I[I)LPastWatch$Reason;" } : Jvm.MethodName)) ∈ lw_all := lw_g (lw_at lw_m11 101 rfl) rfl
theorem q3225 : (Jvm.Cond.selects "PastWatch$Literal" ({ cls := "PastWatch$Node", name := "at", desc := "(I)J" } : Jvm.MethodName) ({ cls := "PastWatch$Node", name := "at", desc := "(I)J" } : Jvm.MethodName)) ∈ lw_all := lw_g (lw_at lw_m14 0 rfl) rfl
theorem q3249 : (Jvm.Cond.castable "PastWatch$Literal" "PastWatch$Node") ∈ lw_tbl := lw_at lw_m14 24 rfl
theorem q3282 : (Jvm.Cond.castable "PastWatch$Literal" "java/lang/Object") ∈ lw_tbl := lw_at lw_m14 57 rfl
theorem in_X13 : ∀ w ∈ wsX130, w ∈ lw_all := lw_in wsX130 [1766, 1767, 1764] (by decide +kernel) (by decide +kernel)

/-! PastWatch$Same -/

def RX14 : String := "PastWatch$Same"
def TX14 : u_T := fun k => match k with
  | 0 => ("PastWatch$Node", "place", "I", true)
  | 1 => ("PastWatch$Node", "history", "[J", false)
  | _ => ("PastWatch$Same", "of", "LPastWatch$Node;", true)
def tyX14 : Nat → FieldType := fun k => match k with
  | 0 => .int
  | 1 => .array .long
  | _ => .object "PastWatch$Node"
abbrev wsX140 : List Cond := u_ws RX14 TX14 3
theorem nmX14 : ∀ a, a < 3 → ∀ b, b < 3 → a ≠ b → (TX14 a).2.1 ≠ (TX14 b).2.1 := by decide +kernel
theorem tyX14_ok : ∀ k, k < 3 → parseFieldDescriptor (TX14 k).2.2.1 = some (tyX14 k) := by decide +kernel
abbrev cX14_init : ByteArray := prog_25_method_1_code
def yX14_init : MethodName := ⟨RX14, "<init>", "(ILPastWatch$Node;)V"⟩
def dkwX14_init_0 : List UInt8 := [42, 27, 183, 0, 1, 42, 44, 181, 0, 7, 177]
abbrev dktX14_init_0 : List UInt8 := dkwX14_init_0 ++ []
theorem dksX14_init_0 : cX14_init.data.toList.drop 0 = dktX14_init_0 := by decide +kernel
theorem dX14_init_0 : decode cX14_init 0 = .ok (.aload_n 0, 1) := dk_42 (dk_at dksX14_init_0 0 rfl rfl)
theorem dX14_init_1 : decode cX14_init 1 = .ok (.iload_n 1, 1) := dk_27 (dk_at dksX14_init_0 1 rfl rfl)
theorem dX14_init_2 : decode cX14_init 2 = .ok (.invokespecial 1, 3) := dk_183 0 1 (dk_at dksX14_init_0 2 rfl rfl)
theorem dX14_init_5 : decode cX14_init 5 = .ok (.aload_n 0, 1) := dk_42 (dk_at dksX14_init_0 5 rfl rfl)
theorem dX14_init_6 : decode cX14_init 6 = .ok (.aload_n 2, 1) := dk_44 (dk_at dksX14_init_0 6 rfl rfl)
theorem dX14_init_7 : decode cX14_init 7 = .ok (.putfield 7, 3) := dk_181 0 7 (dk_at dksX14_init_0 7 rfl rfl)
theorem dX14_init_10 : decode cX14_init 10 = .ok (.return_, 1) := dk_177 (dk_at dksX14_init_0 10 rfl rfl)
abbrev cX14_reckon : ByteArray := prog_25_method_2_code
def yX14_reckon : MethodName := ⟨RX14, "reckon", "(I[I)J"⟩
def dkwX14_reckon_0 : List UInt8 := [42, 180, 0, 7, 27, 182, 0, 13, 173]
abbrev dktX14_reckon_0 : List UInt8 := dkwX14_reckon_0 ++ []
theorem dksX14_reckon_0 : cX14_reckon.data.toList.drop 0 = dktX14_reckon_0 := by decide +kernel
theorem dX14_reckon_0 : decode cX14_reckon 0 = .ok (.aload_n 0, 1) := dk_42 (dk_at dksX14_reckon_0 0 rfl rfl)
theorem dX14_reckon_1 : decode cX14_reckon 1 = .ok (.getfield 7, 3) := dk_180 0 7 (dk_at dksX14_reckon_0 1 rfl rfl)
theorem dX14_reckon_4 : decode cX14_reckon 4 = .ok (.iload_n 1, 1) := dk_27 (dk_at dksX14_reckon_0 4 rfl rfl)
theorem dX14_reckon_5 : decode cX14_reckon 5 = .ok (.invokevirtual 13, 3) := dk_182 0 13 (dk_at dksX14_reckon_0 5 rfl rfl)
theorem dX14_reckon_8 : decode cX14_reckon 8 = .ok (.lreturn, 1) := dk_173 (dk_at dksX14_reckon_0 8 rfl rfl)
abbrev cX14_reason : ByteArray := prog_25_method_3_code
def yX14_reason : MethodName := ⟨RX14, "reason", "(I[I)LPastWatch$Reason;"⟩
def dkwX14_reason_0 : List UInt8 := [42, 180, 0, 7, 27, 44, 182, 0, 17, 176]
abbrev dktX14_reason_0 : List UInt8 := dkwX14_reason_0 ++ []
theorem dksX14_reason_0 : cX14_reason.data.toList.drop 0 = dktX14_reason_0 := by decide +kernel
theorem dX14_reason_0 : decode cX14_reason 0 = .ok (.aload_n 0, 1) := dk_42 (dk_at dksX14_reason_0 0 rfl rfl)
theorem dX14_reason_1 : decode cX14_reason 1 = .ok (.getfield 7, 3) := dk_180 0 7 (dk_at dksX14_reason_0 1 rfl rfl)
theorem dX14_reason_4 : decode cX14_reason 4 = .ok (.iload_n 1, 1) := dk_27 (dk_at dksX14_reason_0 4 rfl rfl)
theorem dX14_reason_5 : decode cX14_reason 5 = .ok (.aload_n 2, 1) := dk_44 (dk_at dksX14_reason_0 5 rfl rfl)
theorem dX14_reason_6 : decode cX14_reason 6 = .ok (.invokevirtual 17, 3) := dk_182 0 17 (dk_at dksX14_reason_0 6 rfl rfl)
theorem dX14_reason_9 : decode cX14_reason 9 = .ok (.areturn, 1) := dk_176 (dk_at dksX14_reason_0 9 rfl rfl)
theorem q151 : (Jvm.Cond.initialized "PastWatch$Same") ∈ lw_all := lw_g (lw_at lw_m1 46 rfl) rfl
theorem q946 : (Jvm.Cond.selects "PastWatch$Same" ({ cls := "java/lang/Object", name := "getClass", desc := "()Ljava/lang/Class;" } : Jvm.MethodName) ({ cls := "java/lang/Object", name := "getClass", desc := "()Ljava/lang/Class;" } : Jvm.MethodName)) ∈ lw_all := lw_g (lw_at lw_m4 121 rfl) rfl
theorem q1147 : (Jvm.Cond.selects "PastWatch$Same" ({ cls := "java/lang/Object", name := "hashCode", desc := "()I" } : Jvm.MethodName) ({ cls := "java/lang/Object", name := "hashCode", desc := "()I" } : Jvm.MethodName)) ∈ lw_all := lw_g (lw_at lw_m5 82 rfl) rfl
theorem q1193 : (Jvm.Cond.selects "PastWatch$Same" ({ cls := "java/lang/Object", name := "equals", desc := "(Ljava/lang/Object;)Z" } : Jvm.MethodName) ({ cls := "java/lang/Object", name := "equals", desc := "(Ljava/lang/Object;)Z" } : Jvm.MethodName)) ∈ lw_all := lw_g (lw_at lw_m5 128 rfl) rfl
theorem q1777 : (Jvm.Cond.instantiable "PastWatch$Same" (3 : Nat)) ∈ lw_all := lw_g (lw_at lw_m7 232 rfl) rfl
theorem q1779 : (Jvm.Cond.instanceMethod ({ cls := "PastWatch$Same", name := "<init>", desc := "(ILPastWatch$Node;)V" } : Jvm.MethodName)) ∈ lw_all := lw_g (lw_at lw_m7 234 rfl) rfl
theorem q1780 : (Jvm.Cond.code ({ cls := "PastWatch$Same", name := "<init>", desc := "(ILPastWatch$Node;)V" } : Jvm.MethodName) prog_25_method_1_code (3 : Nat) (Option.none : Option Jvm.ClassFile.FieldType)) ∈ lw_all := lw_g (lw_at lw_m7 235 rfl) rfl
theorem q1781 : (Jvm.Cond.methodLink "PastWatch$Same" (1 : Nat) ({ cls := "PastWatch$Node", name := "<init>", desc := "(I)V" } : Jvm.MethodName)) ∈ lw_all := lw_g (lw_at lw_m7 236 rfl) rfl
theorem q1782 : (Jvm.Cond.fieldLink "PastWatch$Same" (7 : Nat) "PastWatch$Same" "of" "LPastWatch$Node;") ∈ lw_all := lw_g (lw_at lw_m7 237 rfl) rfl
theorem q1783 : (Jvm.Cond.laysFinal "PastWatch$Same" "PastWatch$Same" "of" "LPastWatch$Node;") ∈ lw_all := lw_g (lw_at lw_m7 238 rfl) rfl
theorem q1784 : (Jvm.Cond.soleField "PastWatch$Same" "of") ∈ lw_all := lw_g (lw_at lw_m7 239 rfl) rfl
theorem q1785 : (Jvm.Cond.laysFinal "PastWatch$Same" "PastWatch$Node" "place" "I") ∈ lw_all := lw_g (lw_at lw_m8 0 rfl) rfl
theorem q1786 : (Jvm.Cond.lays "PastWatch$Same" "PastWatch$Node" "history" "[J") ∈ lw_all := lw_g (lw_at lw_m8 1 rfl) rfl
theorem q1787 : (Jvm.Cond.superclass "PastWatch$Same" "PastWatch$Node") ∈ lw_all := lw_g (lw_at lw_m8 2 rfl) rfl
theorem q2173 : (Jvm.Cond.selects "PastWatch$Same" ({ cls := "PastWatch$Node", name := "keep", desc := "(I[I)V" } : Jvm.MethodName) ({ cls := "PastWatch$Node", name := "keep", desc := "(I[I)V" } : Jvm.MethodName)) ∈ lw_all := lw_g (lw_at lw_m9 148 rfl) rfl
theorem q2201 : (Jvm.Cond.selects "PastWatch$Same" ({ cls := "PastWatch$Node", name := "holds", desc := "(I)Z" } : Jvm.MethodName) ({ cls := "PastWatch$Node", name := "holds", desc := "(I)Z" } : Jvm.MethodName)) ∈ lw_all := lw_g (lw_at lw_m9 176 rfl) rfl
theorem q2312 : (Jvm.Cond.selects "PastWatch$Same" ({ cls := "PastWatch$Node", name := "reckon", desc := "(I[I)J" } : Jvm.MethodName) ({ cls := "PastWatch$Same", name := "reckon", desc := "(I[I)J" } : Jvm.MethodName)) ∈ lw_all := lw_g (lw_at lw_m10 47 rfl) rfl
theorem q2313 : (Jvm.Cond.instanceMethod ({ cls := "PastWatch$Same", name := "reckon", desc := "(I[I)J" } : Jvm.MethodName)) ∈ lw_all := lw_g (lw_at lw_m10 48 rfl) rfl
theorem q2314 : (Jvm.Cond.code ({ cls := "PastWatch$Same", name := "reckon", desc := "(I[I)J" } : Jvm.MethodName) prog_25_method_2_code (3 : Nat) (Option.some Jvm.ClassFile.FieldType.long)) ∈ lw_all := lw_g (lw_at lw_m10 49 rfl) rfl
theorem q2315 : (Jvm.Cond.methodLink "PastWatch$Same" (13 : Nat) ({ cls := "PastWatch$Node", name := "at", desc := "(I)J" } : Jvm.MethodName)) ∈ lw_all := lw_g (lw_at lw_m10 50 rfl) rfl
theorem q2581 : (Jvm.Cond.instanceMethod ({ cls := "PastWatch$Same", name := "reason", desc := "(I[I)LPastWatch$Reason;" } : Jvm.MethodName)) ∈ lw_all := lw_g (lw_at lw_m11 76 rfl) rfl
theorem q2582 : (Jvm.Cond.code ({ cls := "PastWatch$Same", name := "reason", desc := "(I[I)LPastWatch$Reason;" } : Jvm.MethodName) prog_25_method_3_code (3 : Nat) (Option.some (Jvm.ClassFile.FieldType.object "PastWatch$Reason"))) ∈ lw_all := lw_g (lw_at lw_m11 77 rfl) rfl
theorem q2583 : (Jvm.Cond.methodLink "PastWatch$Same" (17 : Nat) ({ cls := "PastWatch$Node", name := "reason", desc := "(I[I)LPastWatch$Reason;" } : Jvm.MethodName)) ∈ lw_all := lw_g (lw_at lw_m11 78 rfl) rfl
theorem q2609 : (Jvm.Cond.selects "PastWatch$Same" ({ cls := "PastWatch$Node", name := "reason", desc := "(I[I)LPastWatch$Reason;" } : Jvm.MethodName) ({ cls := "PastWatch$Same", name := "reason", desc := "(I[I)LPastWatch$Reason;" } : Jvm.MethodName)) ∈ lw_all := lw_g (lw_at lw_m11 104 rfl) rfl
theorem q3228 : (Jvm.Cond.selects "PastWatch$Same" ({ cls := "PastWatch$Node", name := "at", desc := "(I)J" } : Jvm.MethodName) ({ cls := "PastWatch$Node", name := "at", desc := "(I)J" } : Jvm.MethodName)) ∈ lw_all := lw_g (lw_at lw_m14 3 rfl) rfl
theorem q3252 : (Jvm.Cond.castable "PastWatch$Same" "PastWatch$Node") ∈ lw_tbl := lw_at lw_m14 27 rfl
theorem q3283 : (Jvm.Cond.castable "PastWatch$Same" "java/lang/Object") ∈ lw_tbl := lw_at lw_m14 58 rfl
theorem in_X14 : ∀ w ∈ wsX140, w ∈ lw_all := lw_in wsX140 [1785, 1786, 1783] (by decide +kernel) (by decide +kernel)

/-! PastWatch$Clock -/

def RX15 : String := "PastWatch$Clock"
def TX15 : u_T := fun k => match k with
  | 0 => ("PastWatch$Node", "place", "I", true)
  | 1 => ("PastWatch$Node", "history", "[J", false)
  | _ => ("PastWatch$Clock", "isTime", "Z", true)
def tyX15 : Nat → FieldType := fun k => match k with
  | 0 => .int
  | 1 => .array .long
  | _ => .boolean
abbrev wsX150 : List Cond := u_ws RX15 TX15 3
theorem nmX15 : ∀ a, a < 3 → ∀ b, b < 3 → a ≠ b → (TX15 a).2.1 ≠ (TX15 b).2.1 := by decide +kernel
theorem tyX15_ok : ∀ k, k < 3 → parseFieldDescriptor (TX15 k).2.2.1 = some (tyX15 k) := by decide +kernel
abbrev cX15_init : ByteArray := prog_6_method_1_code
def yX15_init : MethodName := ⟨RX15, "<init>", "(IZ)V"⟩
def dkwX15_init_0 : List UInt8 := [42, 27, 183, 0, 1, 42, 28, 181, 0, 7, 177]
abbrev dktX15_init_0 : List UInt8 := dkwX15_init_0 ++ []
theorem dksX15_init_0 : cX15_init.data.toList.drop 0 = dktX15_init_0 := by decide +kernel
theorem dX15_init_0 : decode cX15_init 0 = .ok (.aload_n 0, 1) := dk_42 (dk_at dksX15_init_0 0 rfl rfl)
theorem dX15_init_1 : decode cX15_init 1 = .ok (.iload_n 1, 1) := dk_27 (dk_at dksX15_init_0 1 rfl rfl)
theorem dX15_init_2 : decode cX15_init 2 = .ok (.invokespecial 1, 3) := dk_183 0 1 (dk_at dksX15_init_0 2 rfl rfl)
theorem dX15_init_5 : decode cX15_init 5 = .ok (.aload_n 0, 1) := dk_42 (dk_at dksX15_init_0 5 rfl rfl)
theorem dX15_init_6 : decode cX15_init 6 = .ok (.iload_n 2, 1) := dk_28 (dk_at dksX15_init_0 6 rfl rfl)
theorem dX15_init_7 : decode cX15_init 7 = .ok (.putfield 7, 3) := dk_181 0 7 (dk_at dksX15_init_0 7 rfl rfl)
theorem dX15_init_10 : decode cX15_init 10 = .ok (.return_, 1) := dk_177 (dk_at dksX15_init_0 10 rfl rfl)
abbrev cX15_reckon : ByteArray := prog_6_method_2_code
def yX15_reckon : MethodName := ⟨RX15, "reckon", "(I[I)J"⟩
def dkwX15_reckon_0 : List UInt8 := [42, 180, 0, 7, 153, 0, 10, 44, 27, 46, 133, 167, 0, 5, 27, 133, 173]
abbrev dktX15_reckon_0 : List UInt8 := dkwX15_reckon_0 ++ []
theorem dksX15_reckon_0 : cX15_reckon.data.toList.drop 0 = dktX15_reckon_0 := by decide +kernel
theorem dX15_reckon_0 : decode cX15_reckon 0 = .ok (.aload_n 0, 1) := dk_42 (dk_at dksX15_reckon_0 0 rfl rfl)
theorem dX15_reckon_1 : decode cX15_reckon 1 = .ok (.getfield 7, 3) := dk_180 0 7 (dk_at dksX15_reckon_0 1 rfl rfl)
theorem dX15_reckon_4 : decode cX15_reckon 4 = .ok (.ifCond .eq 10, 3) := dk_153 0 10 (dk_at dksX15_reckon_0 4 rfl rfl)
theorem dX15_reckon_7 : decode cX15_reckon 7 = .ok (.aload_n 2, 1) := dk_44 (dk_at dksX15_reckon_0 7 rfl rfl)
theorem dX15_reckon_8 : decode cX15_reckon 8 = .ok (.iload_n 1, 1) := dk_27 (dk_at dksX15_reckon_0 8 rfl rfl)
theorem dX15_reckon_9 : decode cX15_reckon 9 = .ok (.iaload, 1) := dk_46 (dk_at dksX15_reckon_0 9 rfl rfl)
theorem dX15_reckon_10 : decode cX15_reckon 10 = .ok (.i2l, 1) := dk_133 (dk_at dksX15_reckon_0 10 rfl rfl)
theorem dX15_reckon_11 : decode cX15_reckon 11 = .ok (.goto 5, 3) := dk_167 0 5 (dk_at dksX15_reckon_0 11 rfl rfl)
theorem dX15_reckon_14 : decode cX15_reckon 14 = .ok (.iload_n 1, 1) := dk_27 (dk_at dksX15_reckon_0 14 rfl rfl)
theorem dX15_reckon_15 : decode cX15_reckon 15 = .ok (.i2l, 1) := dk_133 (dk_at dksX15_reckon_0 15 rfl rfl)
theorem dX15_reckon_16 : decode cX15_reckon 16 = .ok (.lreturn, 1) := dk_173 (dk_at dksX15_reckon_0 16 rfl rfl)
theorem q152 : (Jvm.Cond.initialized "PastWatch$Clock") ∈ lw_all := lw_g (lw_at lw_m1 47 rfl) rfl
theorem q929 : (Jvm.Cond.selects "PastWatch$Clock" ({ cls := "java/lang/Object", name := "getClass", desc := "()Ljava/lang/Class;" } : Jvm.MethodName) ({ cls := "java/lang/Object", name := "getClass", desc := "()Ljava/lang/Class;" } : Jvm.MethodName)) ∈ lw_all := lw_g (lw_at lw_m4 104 rfl) rfl
theorem q1125 : (Jvm.Cond.selects "PastWatch$Clock" ({ cls := "java/lang/Object", name := "hashCode", desc := "()I" } : Jvm.MethodName) ({ cls := "java/lang/Object", name := "hashCode", desc := "()I" } : Jvm.MethodName)) ∈ lw_all := lw_g (lw_at lw_m5 60 rfl) rfl
theorem q1174 : (Jvm.Cond.selects "PastWatch$Clock" ({ cls := "java/lang/Object", name := "equals", desc := "(Ljava/lang/Object;)Z" } : Jvm.MethodName) ({ cls := "java/lang/Object", name := "equals", desc := "(Ljava/lang/Object;)Z" } : Jvm.MethodName)) ∈ lw_all := lw_g (lw_at lw_m5 109 rfl) rfl
theorem q1806 : (Jvm.Cond.instantiable "PastWatch$Clock" (3 : Nat)) ∈ lw_all := lw_g (lw_at lw_m8 21 rfl) rfl
theorem q1808 : (Jvm.Cond.instanceMethod ({ cls := "PastWatch$Clock", name := "<init>", desc := "(IZ)V" } : Jvm.MethodName)) ∈ lw_all := lw_g (lw_at lw_m8 23 rfl) rfl
theorem q1809 : (Jvm.Cond.code ({ cls := "PastWatch$Clock", name := "<init>", desc := "(IZ)V" } : Jvm.MethodName) prog_6_method_1_code (3 : Nat) (Option.none : Option Jvm.ClassFile.FieldType)) ∈ lw_all := lw_g (lw_at lw_m8 24 rfl) rfl
theorem q1810 : (Jvm.Cond.methodLink "PastWatch$Clock" (1 : Nat) ({ cls := "PastWatch$Node", name := "<init>", desc := "(I)V" } : Jvm.MethodName)) ∈ lw_all := lw_g (lw_at lw_m8 25 rfl) rfl
theorem q1811 : (Jvm.Cond.fieldLink "PastWatch$Clock" (7 : Nat) "PastWatch$Clock" "isTime" "Z") ∈ lw_all := lw_g (lw_at lw_m8 26 rfl) rfl
theorem q1812 : (Jvm.Cond.laysFinal "PastWatch$Clock" "PastWatch$Clock" "isTime" "Z") ∈ lw_all := lw_g (lw_at lw_m8 27 rfl) rfl
theorem q1813 : (Jvm.Cond.soleField "PastWatch$Clock" "isTime") ∈ lw_all := lw_g (lw_at lw_m8 28 rfl) rfl
theorem q1814 : (Jvm.Cond.laysFinal "PastWatch$Clock" "PastWatch$Node" "place" "I") ∈ lw_all := lw_g (lw_at lw_m8 29 rfl) rfl
theorem q1815 : (Jvm.Cond.lays "PastWatch$Clock" "PastWatch$Node" "history" "[J") ∈ lw_all := lw_g (lw_at lw_m8 30 rfl) rfl
theorem q1816 : (Jvm.Cond.superclass "PastWatch$Clock" "PastWatch$Node") ∈ lw_all := lw_g (lw_at lw_m8 31 rfl) rfl
theorem q2165 : (Jvm.Cond.selects "PastWatch$Clock" ({ cls := "PastWatch$Node", name := "keep", desc := "(I[I)V" } : Jvm.MethodName) ({ cls := "PastWatch$Node", name := "keep", desc := "(I[I)V" } : Jvm.MethodName)) ∈ lw_all := lw_g (lw_at lw_m9 140 rfl) rfl
theorem q2193 : (Jvm.Cond.selects "PastWatch$Clock" ({ cls := "PastWatch$Node", name := "holds", desc := "(I)Z" } : Jvm.MethodName) ({ cls := "PastWatch$Node", name := "holds", desc := "(I)Z" } : Jvm.MethodName)) ∈ lw_all := lw_g (lw_at lw_m9 168 rfl) rfl
theorem q2234 : (Jvm.Cond.selects "PastWatch$Clock" ({ cls := "PastWatch$Node", name := "reckon", desc := "(I[I)J" } : Jvm.MethodName) ({ cls := "PastWatch$Clock", name := "reckon", desc := "(I[I)J" } : Jvm.MethodName)) ∈ lw_all := lw_g (lw_at lw_m9 209 rfl) rfl
theorem q2235 : (Jvm.Cond.instanceMethod ({ cls := "PastWatch$Clock", name := "reckon", desc := "(I[I)J" } : Jvm.MethodName)) ∈ lw_all := lw_g (lw_at lw_m9 210 rfl) rfl
theorem q2236 : (Jvm.Cond.code ({ cls := "PastWatch$Clock", name := "reckon", desc := "(I[I)J" } : Jvm.MethodName) prog_6_method_2_code (3 : Nat) (Option.some Jvm.ClassFile.FieldType.long)) ∈ lw_all := lw_g (lw_at lw_m9 211 rfl) rfl
theorem q2601 : (Jvm.Cond.selects "PastWatch$Clock" ({ cls := "PastWatch$Node", name := "reason", desc := "(I[I)LPastWatch$Reason;" } : Jvm.MethodName) ({ cls := "PastWatch$Node", name := "reason", desc := "(I[I)LPastWatch$Reason;" } : Jvm.MethodName)) ∈ lw_all := lw_g (lw_at lw_m11 96 rfl) rfl
theorem q3220 : (Jvm.Cond.selects "PastWatch$Clock" ({ cls := "PastWatch$Node", name := "at", desc := "(I)J" } : Jvm.MethodName) ({ cls := "PastWatch$Node", name := "at", desc := "(I)J" } : Jvm.MethodName)) ∈ lw_all := lw_g (lw_at lw_m13 235 rfl) rfl
theorem q3244 : (Jvm.Cond.castable "PastWatch$Clock" "PastWatch$Node") ∈ lw_tbl := lw_at lw_m14 19 rfl
theorem q3284 : (Jvm.Cond.castable "PastWatch$Clock" "java/lang/Object") ∈ lw_tbl := lw_at lw_m14 59 rfl
theorem in_X15 : ∀ w ∈ wsX150, w ∈ lw_all := lw_in wsX150 [1814, 1815, 1812] (by decide +kernel) (by decide +kernel)

/-! PastWatch$Fold -/

def RX16 : String := "PastWatch$Fold"
def TX16 : u_T := fun k => match k with
  | 0 => ("PastWatch$Node", "place", "I", true)
  | 1 => ("PastWatch$Node", "history", "[J", false)
  | 2 => ("PastWatch$Fold", "over", "LPastWatch$Over;", true)
  | _ => ("PastWatch$Fold", "of", "LPastWatch$Node;", true)
def tyX16 : Nat → FieldType := fun k => match k with
  | 0 => .int
  | 1 => .array .long
  | 2 => .object "PastWatch$Over"
  | _ => .object "PastWatch$Node"
abbrev wsX160 : List Cond := u_ws RX16 TX16 4
theorem nmX16 : ∀ a, a < 4 → ∀ b, b < 4 → a ≠ b → (TX16 a).2.1 ≠ (TX16 b).2.1 := by decide +kernel
theorem tyX16_ok : ∀ k, k < 4 → parseFieldDescriptor (TX16 k).2.2.1 = some (tyX16 k) := by decide +kernel
abbrev cX16_init : ByteArray := prog_8_method_1_code
def yX16_init : MethodName := ⟨RX16, "<init>", "(ILPastWatch$Over;LPastWatch$Node;)V"⟩
def dkwX16_init_0 : List UInt8 := [42, 27, 183, 0, 1, 42, 44, 181, 0, 7, 42, 45, 181, 0, 13, 177]
abbrev dktX16_init_0 : List UInt8 := dkwX16_init_0 ++ []
theorem dksX16_init_0 : cX16_init.data.toList.drop 0 = dktX16_init_0 := by decide +kernel
theorem dX16_init_0 : decode cX16_init 0 = .ok (.aload_n 0, 1) := dk_42 (dk_at dksX16_init_0 0 rfl rfl)
theorem dX16_init_1 : decode cX16_init 1 = .ok (.iload_n 1, 1) := dk_27 (dk_at dksX16_init_0 1 rfl rfl)
theorem dX16_init_2 : decode cX16_init 2 = .ok (.invokespecial 1, 3) := dk_183 0 1 (dk_at dksX16_init_0 2 rfl rfl)
theorem dX16_init_5 : decode cX16_init 5 = .ok (.aload_n 0, 1) := dk_42 (dk_at dksX16_init_0 5 rfl rfl)
theorem dX16_init_6 : decode cX16_init 6 = .ok (.aload_n 2, 1) := dk_44 (dk_at dksX16_init_0 6 rfl rfl)
theorem dX16_init_7 : decode cX16_init 7 = .ok (.putfield 7, 3) := dk_181 0 7 (dk_at dksX16_init_0 7 rfl rfl)
theorem dX16_init_10 : decode cX16_init 10 = .ok (.aload_n 0, 1) := dk_42 (dk_at dksX16_init_0 10 rfl rfl)
theorem dX16_init_11 : decode cX16_init 11 = .ok (.aload_n 3, 1) := dk_45 (dk_at dksX16_init_0 11 rfl rfl)
theorem dX16_init_12 : decode cX16_init 12 = .ok (.putfield 13, 3) := dk_181 0 13 (dk_at dksX16_init_0 12 rfl rfl)
theorem dX16_init_15 : decode cX16_init 15 = .ok (.return_, 1) := dk_177 (dk_at dksX16_init_0 15 rfl rfl)
abbrev cX16_reckon : ByteArray := prog_8_method_2_code
def yX16_reckon : MethodName := ⟨RX16, "reckon", "(I[I)J"⟩
def dkwX16_reckon_5 : List UInt8 := [27, 4, 100, 182, 0, 33, 33, 184, 0, 40, 173, 42, 27, 4, 100, 182, 0, 33, 33, 97, 173]
abbrev dktX16_reckon_5 : List UInt8 := dkwX16_reckon_5 ++ []
def dkwX16_reckon_4 : List UInt8 := [42, 180, 0, 13, 27, 4, 100, 182, 0, 17, 173, 42, 27, 4, 100, 182, 0, 33, 33, 184, 0, 34, 173, 42]
abbrev dktX16_reckon_4 : List UInt8 := dkwX16_reckon_4 ++ dktX16_reckon_5
def dkwX16_reckon_3 : List UInt8 := [170, 0, 0, 0, 0, 0, 62, 0, 0, 0, 1, 0, 0, 0, 3, 0, 0, 0, 27, 0, 0, 0, 38, 0, 0, 0, 50]
abbrev dktX16_reckon_3 : List UInt8 := dkwX16_reckon_3 ++ dktX16_reckon_4
def dkwX16_reckon_2 : List UInt8 := [182, 0, 29]
abbrev dktX16_reckon_2 : List UInt8 := dkwX16_reckon_2 ++ dktX16_reckon_3
def dkwX16_reckon_1 : List UInt8 := [154, 0, 19, 42, 180, 0, 7, 178, 0, 26, 166, 0, 7, 9, 167, 0, 4, 33, 173, 42, 180, 0, 7]
abbrev dktX16_reckon_1 : List UInt8 := dkwX16_reckon_1 ++ dktX16_reckon_2
def dkwX16_reckon_0 : List UInt8 := [42, 180, 0, 13, 27, 182, 0, 17, 66, 42, 180, 0, 7, 178, 0, 21, 166, 0, 6, 33, 117, 173, 27]
abbrev dktX16_reckon_0 : List UInt8 := dkwX16_reckon_0 ++ dktX16_reckon_1
theorem dksX16_reckon_0 : cX16_reckon.data.toList.drop 0 = dktX16_reckon_0 := by decide +kernel
theorem dksX16_reckon_1 : cX16_reckon.data.toList.drop 23 = dktX16_reckon_1 := dk_seg dksX16_reckon_0 23 rfl rfl
theorem dksX16_reckon_2 : cX16_reckon.data.toList.drop 46 = dktX16_reckon_2 := dk_seg dksX16_reckon_1 23 rfl rfl
theorem dksX16_reckon_3 : cX16_reckon.data.toList.drop 49 = dktX16_reckon_3 := dk_seg dksX16_reckon_2 3 rfl rfl
theorem dksX16_reckon_4 : cX16_reckon.data.toList.drop 76 = dktX16_reckon_4 := dk_seg dksX16_reckon_3 27 rfl rfl
theorem dksX16_reckon_5 : cX16_reckon.data.toList.drop 100 = dktX16_reckon_5 := dk_seg dksX16_reckon_4 24 rfl rfl
theorem dX16_reckon_0 : decode cX16_reckon 0 = .ok (.aload_n 0, 1) := dk_42 (dk_at dksX16_reckon_0 0 rfl rfl)
theorem dX16_reckon_1 : decode cX16_reckon 1 = .ok (.getfield 13, 3) := dk_180 0 13 (dk_at dksX16_reckon_0 1 rfl rfl)
theorem dX16_reckon_4 : decode cX16_reckon 4 = .ok (.iload_n 1, 1) := dk_27 (dk_at dksX16_reckon_0 4 rfl rfl)
theorem dX16_reckon_5 : decode cX16_reckon 5 = .ok (.invokevirtual 17, 3) := dk_182 0 17 (dk_at dksX16_reckon_0 5 rfl rfl)
theorem dX16_reckon_8 : decode cX16_reckon 8 = .ok (.lstore_n 3, 1) := dk_66 (dk_at dksX16_reckon_0 8 rfl rfl)
theorem dX16_reckon_9 : decode cX16_reckon 9 = .ok (.aload_n 0, 1) := dk_42 (dk_at dksX16_reckon_0 9 rfl rfl)
theorem dX16_reckon_10 : decode cX16_reckon 10 = .ok (.getfield 7, 3) := dk_180 0 7 (dk_at dksX16_reckon_0 10 rfl rfl)
theorem dX16_reckon_13 : decode cX16_reckon 13 = .ok (.getstatic 21, 3) := dk_178 0 21 (dk_at dksX16_reckon_0 13 rfl rfl)
theorem dX16_reckon_16 : decode cX16_reckon 16 = .ok (.if_acmp .ne 6, 3) := dk_166 0 6 (dk_at dksX16_reckon_0 16 rfl rfl)
theorem dX16_reckon_19 : decode cX16_reckon 19 = .ok (.lload_n 3, 1) := dk_33 (dk_at dksX16_reckon_0 19 rfl rfl)
theorem dX16_reckon_20 : decode cX16_reckon 20 = .ok (.lneg, 1) := dk_117 (dk_at dksX16_reckon_0 20 rfl rfl)
theorem dX16_reckon_21 : decode cX16_reckon 21 = .ok (.lreturn, 1) := dk_173 (dk_at dksX16_reckon_0 21 rfl rfl)
theorem dX16_reckon_22 : decode cX16_reckon 22 = .ok (.iload_n 1, 1) := dk_27 (dk_at dksX16_reckon_0 22 rfl rfl)
theorem dX16_reckon_23 : decode cX16_reckon 23 = .ok (.ifCond .ne 19, 3) := dk_154 0 19 (dk_at dksX16_reckon_1 0 rfl rfl)
theorem dX16_reckon_26 : decode cX16_reckon 26 = .ok (.aload_n 0, 1) := dk_42 (dk_at dksX16_reckon_1 3 rfl rfl)
theorem dX16_reckon_27 : decode cX16_reckon 27 = .ok (.getfield 7, 3) := dk_180 0 7 (dk_at dksX16_reckon_1 4 rfl rfl)
theorem dX16_reckon_30 : decode cX16_reckon 30 = .ok (.getstatic 26, 3) := dk_178 0 26 (dk_at dksX16_reckon_1 7 rfl rfl)
theorem dX16_reckon_33 : decode cX16_reckon 33 = .ok (.if_acmp .ne 7, 3) := dk_166 0 7 (dk_at dksX16_reckon_1 10 rfl rfl)
theorem dX16_reckon_36 : decode cX16_reckon 36 = .ok (.lconst 0, 1) := dk_9 (dk_at dksX16_reckon_1 13 rfl rfl)
theorem dX16_reckon_37 : decode cX16_reckon 37 = .ok (.goto 4, 3) := dk_167 0 4 (dk_at dksX16_reckon_1 14 rfl rfl)
theorem dX16_reckon_40 : decode cX16_reckon 40 = .ok (.lload_n 3, 1) := dk_33 (dk_at dksX16_reckon_1 17 rfl rfl)
theorem dX16_reckon_41 : decode cX16_reckon 41 = .ok (.lreturn, 1) := dk_173 (dk_at dksX16_reckon_1 18 rfl rfl)
theorem dX16_reckon_42 : decode cX16_reckon 42 = .ok (.aload_n 0, 1) := dk_42 (dk_at dksX16_reckon_1 19 rfl rfl)
theorem dX16_reckon_43 : decode cX16_reckon 43 = .ok (.getfield 7, 3) := dk_180 0 7 (dk_at dksX16_reckon_1 20 rfl rfl)
theorem dX16_reckon_46 : decode cX16_reckon 46 = .ok (.invokevirtual 29, 3) := dk_182 0 29 (dk_at dksX16_reckon_2 0 rfl rfl)
theorem dX16_reckon_49 : decode cX16_reckon 49 = .ok (.tableswitch 62 1 3 #[27, 38, 50], 27) := by decide +kernel
theorem dX16_reckon_76 : decode cX16_reckon 76 = .ok (.aload_n 0, 1) := dk_42 (dk_at dksX16_reckon_4 0 rfl rfl)
theorem dX16_reckon_77 : decode cX16_reckon 77 = .ok (.getfield 13, 3) := dk_180 0 13 (dk_at dksX16_reckon_4 1 rfl rfl)
theorem dX16_reckon_80 : decode cX16_reckon 80 = .ok (.iload_n 1, 1) := dk_27 (dk_at dksX16_reckon_4 4 rfl rfl)
theorem dX16_reckon_81 : decode cX16_reckon 81 = .ok (.iconst 1, 1) := dk_4 (dk_at dksX16_reckon_4 5 rfl rfl)
theorem dX16_reckon_82 : decode cX16_reckon 82 = .ok (.isub, 1) := dk_100 (dk_at dksX16_reckon_4 6 rfl rfl)
theorem dX16_reckon_83 : decode cX16_reckon 83 = .ok (.invokevirtual 17, 3) := dk_182 0 17 (dk_at dksX16_reckon_4 7 rfl rfl)
theorem dX16_reckon_86 : decode cX16_reckon 86 = .ok (.lreturn, 1) := dk_173 (dk_at dksX16_reckon_4 10 rfl rfl)
theorem dX16_reckon_87 : decode cX16_reckon 87 = .ok (.aload_n 0, 1) := dk_42 (dk_at dksX16_reckon_4 11 rfl rfl)
theorem dX16_reckon_88 : decode cX16_reckon 88 = .ok (.iload_n 1, 1) := dk_27 (dk_at dksX16_reckon_4 12 rfl rfl)
theorem dX16_reckon_89 : decode cX16_reckon 89 = .ok (.iconst 1, 1) := dk_4 (dk_at dksX16_reckon_4 13 rfl rfl)
theorem dX16_reckon_90 : decode cX16_reckon 90 = .ok (.isub, 1) := dk_100 (dk_at dksX16_reckon_4 14 rfl rfl)
theorem dX16_reckon_91 : decode cX16_reckon 91 = .ok (.invokevirtual 33, 3) := dk_182 0 33 (dk_at dksX16_reckon_4 15 rfl rfl)
theorem dX16_reckon_94 : decode cX16_reckon 94 = .ok (.lload_n 3, 1) := dk_33 (dk_at dksX16_reckon_4 18 rfl rfl)
theorem dX16_reckon_95 : decode cX16_reckon 95 = .ok (.invokestatic 34, 3) := dk_184 0 34 (dk_at dksX16_reckon_4 19 rfl rfl)
theorem dX16_reckon_98 : decode cX16_reckon 98 = .ok (.lreturn, 1) := dk_173 (dk_at dksX16_reckon_4 22 rfl rfl)
theorem dX16_reckon_99 : decode cX16_reckon 99 = .ok (.aload_n 0, 1) := dk_42 (dk_at dksX16_reckon_4 23 rfl rfl)
theorem dX16_reckon_100 : decode cX16_reckon 100 = .ok (.iload_n 1, 1) := dk_27 (dk_at dksX16_reckon_5 0 rfl rfl)
theorem dX16_reckon_101 : decode cX16_reckon 101 = .ok (.iconst 1, 1) := dk_4 (dk_at dksX16_reckon_5 1 rfl rfl)
theorem dX16_reckon_102 : decode cX16_reckon 102 = .ok (.isub, 1) := dk_100 (dk_at dksX16_reckon_5 2 rfl rfl)
theorem dX16_reckon_103 : decode cX16_reckon 103 = .ok (.invokevirtual 33, 3) := dk_182 0 33 (dk_at dksX16_reckon_5 3 rfl rfl)
theorem dX16_reckon_106 : decode cX16_reckon 106 = .ok (.lload_n 3, 1) := dk_33 (dk_at dksX16_reckon_5 6 rfl rfl)
theorem dX16_reckon_107 : decode cX16_reckon 107 = .ok (.invokestatic 40, 3) := dk_184 0 40 (dk_at dksX16_reckon_5 7 rfl rfl)
theorem dX16_reckon_110 : decode cX16_reckon 110 = .ok (.lreturn, 1) := dk_173 (dk_at dksX16_reckon_5 10 rfl rfl)
theorem dX16_reckon_111 : decode cX16_reckon 111 = .ok (.aload_n 0, 1) := dk_42 (dk_at dksX16_reckon_5 11 rfl rfl)
theorem dX16_reckon_112 : decode cX16_reckon 112 = .ok (.iload_n 1, 1) := dk_27 (dk_at dksX16_reckon_5 12 rfl rfl)
theorem dX16_reckon_113 : decode cX16_reckon 113 = .ok (.iconst 1, 1) := dk_4 (dk_at dksX16_reckon_5 13 rfl rfl)
theorem dX16_reckon_114 : decode cX16_reckon 114 = .ok (.isub, 1) := dk_100 (dk_at dksX16_reckon_5 14 rfl rfl)
theorem dX16_reckon_115 : decode cX16_reckon 115 = .ok (.invokevirtual 33, 3) := dk_182 0 33 (dk_at dksX16_reckon_5 15 rfl rfl)
theorem dX16_reckon_118 : decode cX16_reckon 118 = .ok (.lload_n 3, 1) := dk_33 (dk_at dksX16_reckon_5 18 rfl rfl)
theorem dX16_reckon_119 : decode cX16_reckon 119 = .ok (.ladd, 1) := dk_97 (dk_at dksX16_reckon_5 19 rfl rfl)
theorem dX16_reckon_120 : decode cX16_reckon 120 = .ok (.lreturn, 1) := dk_173 (dk_at dksX16_reckon_5 20 rfl rfl)
theorem q154 : (Jvm.Cond.initialized "PastWatch$Fold") ∈ lw_all := lw_g (lw_at lw_m1 49 rfl) rfl
theorem q931 : (Jvm.Cond.selects "PastWatch$Fold" ({ cls := "java/lang/Object", name := "getClass", desc := "()Ljava/lang/Class;" } : Jvm.MethodName) ({ cls := "java/lang/Object", name := "getClass", desc := "()Ljava/lang/Class;" } : Jvm.MethodName)) ∈ lw_all := lw_g (lw_at lw_m4 106 rfl) rfl
theorem q1127 : (Jvm.Cond.selects "PastWatch$Fold" ({ cls := "java/lang/Object", name := "hashCode", desc := "()I" } : Jvm.MethodName) ({ cls := "java/lang/Object", name := "hashCode", desc := "()I" } : Jvm.MethodName)) ∈ lw_all := lw_g (lw_at lw_m5 62 rfl) rfl
theorem q1176 : (Jvm.Cond.selects "PastWatch$Fold" ({ cls := "java/lang/Object", name := "equals", desc := "(Ljava/lang/Object;)Z" } : Jvm.MethodName) ({ cls := "java/lang/Object", name := "equals", desc := "(Ljava/lang/Object;)Z" } : Jvm.MethodName)) ∈ lw_all := lw_g (lw_at lw_m5 111 rfl) rfl
theorem q1838 : (Jvm.Cond.instantiable "PastWatch$Fold" (4 : Nat)) ∈ lw_all := lw_g (lw_at lw_m8 53 rfl) rfl
theorem q1844 : (Jvm.Cond.instanceMethod ({ cls := "PastWatch$Fold", name := "<init>", desc := "(ILPastWatch$Over;LPastWatch$Node;)V" } : Jvm.MethodName)) ∈ lw_all := lw_g (lw_at lw_m8 59 rfl) rfl
theorem q1845 : (Jvm.Cond.code ({ cls := "PastWatch$Fold", name := "<init>", desc := "(ILPastWatch$Over;LPastWatch$Node;)V" } : Jvm.MethodName) prog_8_method_1_code (4 : Nat) (Option.none : Option Jvm.ClassFile.FieldType)) ∈ lw_all := lw_g (lw_at lw_m8 60 rfl) rfl
theorem q1846 : (Jvm.Cond.methodLink "PastWatch$Fold" (1 : Nat) ({ cls := "PastWatch$Node", name := "<init>", desc := "(I)V" } : Jvm.MethodName)) ∈ lw_all := lw_g (lw_at lw_m8 61 rfl) rfl
theorem q1847 : (Jvm.Cond.fieldLink "PastWatch$Fold" (7 : Nat) "PastWatch$Fold" "over" "LPastWatch$Over;") ∈ lw_all := lw_g (lw_at lw_m8 62 rfl) rfl
theorem q1848 : (Jvm.Cond.fieldLink "PastWatch$Fold" (13 : Nat) "PastWatch$Fold" "of" "LPastWatch$Node;") ∈ lw_all := lw_g (lw_at lw_m8 63 rfl) rfl
theorem q1849 : (Jvm.Cond.laysFinal "PastWatch$Fold" "PastWatch$Fold" "over" "LPastWatch$Over;") ∈ lw_all := lw_g (lw_at lw_m8 64 rfl) rfl
theorem q1850 : (Jvm.Cond.soleField "PastWatch$Fold" "over") ∈ lw_all := lw_g (lw_at lw_m8 65 rfl) rfl
theorem q1851 : (Jvm.Cond.laysFinal "PastWatch$Fold" "PastWatch$Fold" "of" "LPastWatch$Node;") ∈ lw_all := lw_g (lw_at lw_m8 66 rfl) rfl
theorem q1852 : (Jvm.Cond.soleField "PastWatch$Fold" "of") ∈ lw_all := lw_g (lw_at lw_m8 67 rfl) rfl
theorem q1853 : (Jvm.Cond.laysFinal "PastWatch$Fold" "PastWatch$Node" "place" "I") ∈ lw_all := lw_g (lw_at lw_m8 68 rfl) rfl
theorem q1854 : (Jvm.Cond.lays "PastWatch$Fold" "PastWatch$Node" "history" "[J") ∈ lw_all := lw_g (lw_at lw_m8 69 rfl) rfl
theorem q1855 : (Jvm.Cond.superclass "PastWatch$Fold" "PastWatch$Node") ∈ lw_all := lw_g (lw_at lw_m8 70 rfl) rfl
theorem q2167 : (Jvm.Cond.selects "PastWatch$Fold" ({ cls := "PastWatch$Node", name := "keep", desc := "(I[I)V" } : Jvm.MethodName) ({ cls := "PastWatch$Node", name := "keep", desc := "(I[I)V" } : Jvm.MethodName)) ∈ lw_all := lw_g (lw_at lw_m9 142 rfl) rfl
theorem q2195 : (Jvm.Cond.selects "PastWatch$Fold" ({ cls := "PastWatch$Node", name := "holds", desc := "(I)Z" } : Jvm.MethodName) ({ cls := "PastWatch$Node", name := "holds", desc := "(I)Z" } : Jvm.MethodName)) ∈ lw_all := lw_g (lw_at lw_m9 170 rfl) rfl
theorem q2245 : (Jvm.Cond.selects "PastWatch$Fold" ({ cls := "PastWatch$Node", name := "reckon", desc := "(I[I)J" } : Jvm.MethodName) ({ cls := "PastWatch$Fold", name := "reckon", desc := "(I[I)J" } : Jvm.MethodName)) ∈ lw_all := lw_g (lw_at lw_m9 220 rfl) rfl
theorem q2246 : (Jvm.Cond.instanceMethod ({ cls := "PastWatch$Fold", name := "reckon", desc := "(I[I)J" } : Jvm.MethodName)) ∈ lw_all := lw_g (lw_at lw_m9 221 rfl) rfl
theorem q2247 : (Jvm.Cond.code ({ cls := "PastWatch$Fold", name := "reckon", desc := "(I[I)J" } : Jvm.MethodName) prog_8_method_2_code (5 : Nat) (Option.some Jvm.ClassFile.FieldType.long)) ∈ lw_all := lw_g (lw_at lw_m9 222 rfl) rfl
theorem q2248 : (Jvm.Cond.methodLink "PastWatch$Fold" (17 : Nat) ({ cls := "PastWatch$Node", name := "at", desc := "(I)J" } : Jvm.MethodName)) ∈ lw_all := lw_g (lw_at lw_m9 223 rfl) rfl
theorem q2249 : (Jvm.Cond.fieldLink "PastWatch$Fold" (21 : Nat) "PastWatch$Over" "MINUS" "LPastWatch$Over;") ∈ lw_all := lw_g (lw_at lw_m9 224 rfl) rfl
theorem q2250 : (Jvm.Cond.fieldLink "PastWatch$Fold" (26 : Nat) "PastWatch$Over" "OLD" "LPastWatch$Over;") ∈ lw_all := lw_g (lw_at lw_m9 225 rfl) rfl
theorem q2251 : (Jvm.Cond.methodLink "PastWatch$Fold" (29 : Nat) ({ cls := "PastWatch$Over", name := "ordinal", desc := "()I" } : Jvm.MethodName)) ∈ lw_all := lw_g (lw_at lw_m9 226 rfl) rfl
theorem q2257 : (Jvm.Cond.methodLink "PastWatch$Fold" (33 : Nat) ({ cls := "PastWatch$Fold", name := "at", desc := "(I)J" } : Jvm.MethodName)) ∈ lw_all := lw_g (lw_at lw_m9 232 rfl) rfl
theorem q2258 : (Jvm.Cond.sameMethod "PastWatch$Fold" "PastWatch$Node" "at" "(I)J") ∈ lw_all := lw_g (lw_at lw_m9 233 rfl) rfl
theorem q2259 : (Jvm.Cond.selects "PastWatch$Fold" ({ cls := "PastWatch$Fold", name := "at", desc := "(I)J" } : Jvm.MethodName) ({ cls := "PastWatch$Node", name := "at", desc := "(I)J" } : Jvm.MethodName)) ∈ lw_all := lw_g (lw_at lw_m9 234 rfl) rfl
theorem q2260 : (Jvm.Cond.methodLink "PastWatch$Fold" (34 : Nat) ({ cls := "java/lang/Math", name := "max", desc := "(JJ)J" } : Jvm.MethodName)) ∈ lw_all := lw_g (lw_at lw_m9 235 rfl) rfl
theorem q2263 : (Jvm.Cond.methodLink "PastWatch$Fold" (40 : Nat) ({ cls := "java/lang/Math", name := "min", desc := "(JJ)J" } : Jvm.MethodName)) ∈ lw_all := lw_g (lw_at lw_m9 238 rfl) rfl
theorem q2603 : (Jvm.Cond.selects "PastWatch$Fold" ({ cls := "PastWatch$Node", name := "reason", desc := "(I[I)LPastWatch$Reason;" } : Jvm.MethodName) ({ cls := "PastWatch$Node", name := "reason", desc := "(I[I)LPastWatch$Reason;" } : Jvm.MethodName)) ∈ lw_all := lw_g (lw_at lw_m11 98 rfl) rfl
theorem q3222 : (Jvm.Cond.selects "PastWatch$Fold" ({ cls := "PastWatch$Node", name := "at", desc := "(I)J" } : Jvm.MethodName) ({ cls := "PastWatch$Node", name := "at", desc := "(I)J" } : Jvm.MethodName)) ∈ lw_all := lw_g (lw_at lw_m13 237 rfl) rfl
theorem q3246 : (Jvm.Cond.castable "PastWatch$Fold" "PastWatch$Node") ∈ lw_tbl := lw_at lw_m14 21 rfl
theorem q3286 : (Jvm.Cond.castable "PastWatch$Fold" "java/lang/Object") ∈ lw_tbl := lw_at lw_m14 61 rfl
theorem in_X16 : ∀ w ∈ wsX160, w ∈ lw_all := lw_in wsX160 [1853, 1854, 1849, 1851] (by decide +kernel) (by decide +kernel)

/-! PastWatch$Count -/

def RX17 : String := "PastWatch$Count"
def TX17 : u_T := fun k => match k with
  | 0 => ("PastWatch$Node", "place", "I", true)
  | 1 => ("PastWatch$Node", "history", "[J", false)
  | _ => ("PastWatch$Count", "of", "LPastWatch$Node;", true)
def tyX17 : Nat → FieldType := fun k => match k with
  | 0 => .int
  | 1 => .array .long
  | _ => .object "PastWatch$Node"
abbrev wsX170 : List Cond := u_ws RX17 TX17 3
theorem nmX17 : ∀ a, a < 3 → ∀ b, b < 3 → a ≠ b → (TX17 a).2.1 ≠ (TX17 b).2.1 := by decide +kernel
theorem tyX17_ok : ∀ k, k < 3 → parseFieldDescriptor (TX17 k).2.2.1 = some (tyX17 k) := by decide +kernel
abbrev cX17_init : ByteArray := prog_7_method_1_code
def yX17_init : MethodName := ⟨RX17, "<init>", "(ILPastWatch$Node;)V"⟩
def dkwX17_init_0 : List UInt8 := [42, 27, 183, 0, 1, 42, 44, 181, 0, 7, 177]
abbrev dktX17_init_0 : List UInt8 := dkwX17_init_0 ++ []
theorem dksX17_init_0 : cX17_init.data.toList.drop 0 = dktX17_init_0 := by decide +kernel
theorem dX17_init_0 : decode cX17_init 0 = .ok (.aload_n 0, 1) := dk_42 (dk_at dksX17_init_0 0 rfl rfl)
theorem dX17_init_1 : decode cX17_init 1 = .ok (.iload_n 1, 1) := dk_27 (dk_at dksX17_init_0 1 rfl rfl)
theorem dX17_init_2 : decode cX17_init 2 = .ok (.invokespecial 1, 3) := dk_183 0 1 (dk_at dksX17_init_0 2 rfl rfl)
theorem dX17_init_5 : decode cX17_init 5 = .ok (.aload_n 0, 1) := dk_42 (dk_at dksX17_init_0 5 rfl rfl)
theorem dX17_init_6 : decode cX17_init 6 = .ok (.aload_n 2, 1) := dk_44 (dk_at dksX17_init_0 6 rfl rfl)
theorem dX17_init_7 : decode cX17_init 7 = .ok (.putfield 7, 3) := dk_181 0 7 (dk_at dksX17_init_0 7 rfl rfl)
theorem dX17_init_10 : decode cX17_init 10 = .ok (.return_, 1) := dk_177 (dk_at dksX17_init_0 10 rfl rfl)
abbrev cX17_reckon : ByteArray := prog_7_method_2_code
def yX17_reckon : MethodName := ⟨RX17, "reckon", "(I[I)J"⟩
def dkwX17_reckon_1 : List UInt8 := [184, 0, 21, 97, 173]
abbrev dktX17_reckon_1 : List UInt8 := dkwX17_reckon_1 ++ []
def dkwX17_reckon_0 : List UInt8 := [27, 154, 0, 7, 9, 167, 0, 10, 42, 27, 4, 100, 182, 0, 13, 42, 180, 0, 7, 27, 182, 0, 17]
abbrev dktX17_reckon_0 : List UInt8 := dkwX17_reckon_0 ++ dktX17_reckon_1
theorem dksX17_reckon_0 : cX17_reckon.data.toList.drop 0 = dktX17_reckon_0 := by decide +kernel
theorem dksX17_reckon_1 : cX17_reckon.data.toList.drop 23 = dktX17_reckon_1 := dk_seg dksX17_reckon_0 23 rfl rfl
theorem dX17_reckon_0 : decode cX17_reckon 0 = .ok (.iload_n 1, 1) := dk_27 (dk_at dksX17_reckon_0 0 rfl rfl)
theorem dX17_reckon_1 : decode cX17_reckon 1 = .ok (.ifCond .ne 7, 3) := dk_154 0 7 (dk_at dksX17_reckon_0 1 rfl rfl)
theorem dX17_reckon_4 : decode cX17_reckon 4 = .ok (.lconst 0, 1) := dk_9 (dk_at dksX17_reckon_0 4 rfl rfl)
theorem dX17_reckon_5 : decode cX17_reckon 5 = .ok (.goto 10, 3) := dk_167 0 10 (dk_at dksX17_reckon_0 5 rfl rfl)
theorem dX17_reckon_8 : decode cX17_reckon 8 = .ok (.aload_n 0, 1) := dk_42 (dk_at dksX17_reckon_0 8 rfl rfl)
theorem dX17_reckon_9 : decode cX17_reckon 9 = .ok (.iload_n 1, 1) := dk_27 (dk_at dksX17_reckon_0 9 rfl rfl)
theorem dX17_reckon_10 : decode cX17_reckon 10 = .ok (.iconst 1, 1) := dk_4 (dk_at dksX17_reckon_0 10 rfl rfl)
theorem dX17_reckon_11 : decode cX17_reckon 11 = .ok (.isub, 1) := dk_100 (dk_at dksX17_reckon_0 11 rfl rfl)
theorem dX17_reckon_12 : decode cX17_reckon 12 = .ok (.invokevirtual 13, 3) := dk_182 0 13 (dk_at dksX17_reckon_0 12 rfl rfl)
theorem dX17_reckon_15 : decode cX17_reckon 15 = .ok (.aload_n 0, 1) := dk_42 (dk_at dksX17_reckon_0 15 rfl rfl)
theorem dX17_reckon_16 : decode cX17_reckon 16 = .ok (.getfield 7, 3) := dk_180 0 7 (dk_at dksX17_reckon_0 16 rfl rfl)
theorem dX17_reckon_19 : decode cX17_reckon 19 = .ok (.iload_n 1, 1) := dk_27 (dk_at dksX17_reckon_0 19 rfl rfl)
theorem dX17_reckon_20 : decode cX17_reckon 20 = .ok (.invokevirtual 17, 3) := dk_182 0 17 (dk_at dksX17_reckon_0 20 rfl rfl)
theorem dX17_reckon_23 : decode cX17_reckon 23 = .ok (.invokestatic 21, 3) := dk_184 0 21 (dk_at dksX17_reckon_1 0 rfl rfl)
theorem dX17_reckon_26 : decode cX17_reckon 26 = .ok (.ladd, 1) := dk_97 (dk_at dksX17_reckon_1 3 rfl rfl)
theorem dX17_reckon_27 : decode cX17_reckon 27 = .ok (.lreturn, 1) := dk_173 (dk_at dksX17_reckon_1 4 rfl rfl)
theorem q155 : (Jvm.Cond.initialized "PastWatch$Count") ∈ lw_all := lw_g (lw_at lw_m1 50 rfl) rfl
theorem q930 : (Jvm.Cond.selects "PastWatch$Count" ({ cls := "java/lang/Object", name := "getClass", desc := "()Ljava/lang/Class;" } : Jvm.MethodName) ({ cls := "java/lang/Object", name := "getClass", desc := "()Ljava/lang/Class;" } : Jvm.MethodName)) ∈ lw_all := lw_g (lw_at lw_m4 105 rfl) rfl
theorem q1126 : (Jvm.Cond.selects "PastWatch$Count" ({ cls := "java/lang/Object", name := "hashCode", desc := "()I" } : Jvm.MethodName) ({ cls := "java/lang/Object", name := "hashCode", desc := "()I" } : Jvm.MethodName)) ∈ lw_all := lw_g (lw_at lw_m5 61 rfl) rfl
theorem q1175 : (Jvm.Cond.selects "PastWatch$Count" ({ cls := "java/lang/Object", name := "equals", desc := "(Ljava/lang/Object;)Z" } : Jvm.MethodName) ({ cls := "java/lang/Object", name := "equals", desc := "(Ljava/lang/Object;)Z" } : Jvm.MethodName)) ∈ lw_all := lw_g (lw_at lw_m5 110 rfl) rfl
theorem q1858 : (Jvm.Cond.instantiable "PastWatch$Count" (3 : Nat)) ∈ lw_all := lw_g (lw_at lw_m8 73 rfl) rfl
theorem q1860 : (Jvm.Cond.instanceMethod ({ cls := "PastWatch$Count", name := "<init>", desc := "(ILPastWatch$Node;)V" } : Jvm.MethodName)) ∈ lw_all := lw_g (lw_at lw_m8 75 rfl) rfl
theorem q1861 : (Jvm.Cond.code ({ cls := "PastWatch$Count", name := "<init>", desc := "(ILPastWatch$Node;)V" } : Jvm.MethodName) prog_7_method_1_code (3 : Nat) (Option.none : Option Jvm.ClassFile.FieldType)) ∈ lw_all := lw_g (lw_at lw_m8 76 rfl) rfl
theorem q1862 : (Jvm.Cond.methodLink "PastWatch$Count" (1 : Nat) ({ cls := "PastWatch$Node", name := "<init>", desc := "(I)V" } : Jvm.MethodName)) ∈ lw_all := lw_g (lw_at lw_m8 77 rfl) rfl
theorem q1863 : (Jvm.Cond.fieldLink "PastWatch$Count" (7 : Nat) "PastWatch$Count" "of" "LPastWatch$Node;") ∈ lw_all := lw_g (lw_at lw_m8 78 rfl) rfl
theorem q1864 : (Jvm.Cond.laysFinal "PastWatch$Count" "PastWatch$Count" "of" "LPastWatch$Node;") ∈ lw_all := lw_g (lw_at lw_m8 79 rfl) rfl
theorem q1865 : (Jvm.Cond.soleField "PastWatch$Count" "of") ∈ lw_all := lw_g (lw_at lw_m8 80 rfl) rfl
theorem q1866 : (Jvm.Cond.laysFinal "PastWatch$Count" "PastWatch$Node" "place" "I") ∈ lw_all := lw_g (lw_at lw_m8 81 rfl) rfl
theorem q1867 : (Jvm.Cond.lays "PastWatch$Count" "PastWatch$Node" "history" "[J") ∈ lw_all := lw_g (lw_at lw_m8 82 rfl) rfl
theorem q1868 : (Jvm.Cond.superclass "PastWatch$Count" "PastWatch$Node") ∈ lw_all := lw_g (lw_at lw_m8 83 rfl) rfl
theorem q2166 : (Jvm.Cond.selects "PastWatch$Count" ({ cls := "PastWatch$Node", name := "keep", desc := "(I[I)V" } : Jvm.MethodName) ({ cls := "PastWatch$Node", name := "keep", desc := "(I[I)V" } : Jvm.MethodName)) ∈ lw_all := lw_g (lw_at lw_m9 141 rfl) rfl
theorem q2194 : (Jvm.Cond.selects "PastWatch$Count" ({ cls := "PastWatch$Node", name := "holds", desc := "(I)Z" } : Jvm.MethodName) ({ cls := "PastWatch$Node", name := "holds", desc := "(I)Z" } : Jvm.MethodName)) ∈ lw_all := lw_g (lw_at lw_m9 169 rfl) rfl
theorem q2237 : (Jvm.Cond.selects "PastWatch$Count" ({ cls := "PastWatch$Node", name := "reckon", desc := "(I[I)J" } : Jvm.MethodName) ({ cls := "PastWatch$Count", name := "reckon", desc := "(I[I)J" } : Jvm.MethodName)) ∈ lw_all := lw_g (lw_at lw_m9 212 rfl) rfl
theorem q2238 : (Jvm.Cond.instanceMethod ({ cls := "PastWatch$Count", name := "reckon", desc := "(I[I)J" } : Jvm.MethodName)) ∈ lw_all := lw_g (lw_at lw_m9 213 rfl) rfl
theorem q2239 : (Jvm.Cond.code ({ cls := "PastWatch$Count", name := "reckon", desc := "(I[I)J" } : Jvm.MethodName) prog_7_method_2_code (3 : Nat) (Option.some Jvm.ClassFile.FieldType.long)) ∈ lw_all := lw_g (lw_at lw_m9 214 rfl) rfl
theorem q2240 : (Jvm.Cond.methodLink "PastWatch$Count" (13 : Nat) ({ cls := "PastWatch$Count", name := "at", desc := "(I)J" } : Jvm.MethodName)) ∈ lw_all := lw_g (lw_at lw_m9 215 rfl) rfl
theorem q2241 : (Jvm.Cond.sameMethod "PastWatch$Count" "PastWatch$Node" "at" "(I)J") ∈ lw_all := lw_g (lw_at lw_m9 216 rfl) rfl
theorem q2242 : (Jvm.Cond.selects "PastWatch$Count" ({ cls := "PastWatch$Count", name := "at", desc := "(I)J" } : Jvm.MethodName) ({ cls := "PastWatch$Node", name := "at", desc := "(I)J" } : Jvm.MethodName)) ∈ lw_all := lw_g (lw_at lw_m9 217 rfl) rfl
theorem q2243 : (Jvm.Cond.methodLink "PastWatch$Count" (17 : Nat) ({ cls := "PastWatch$Node", name := "holds", desc := "(I)Z" } : Jvm.MethodName)) ∈ lw_all := lw_g (lw_at lw_m9 218 rfl) rfl
theorem q2244 : (Jvm.Cond.methodLinkNest "PastWatch$Count" (21 : Nat) ({ cls := "PastWatch", name := "asNumber", desc := "(Z)J" } : Jvm.MethodName) "PastWatch") ∈ lw_tbl := lw_at lw_m9 219 rfl
theorem q2602 : (Jvm.Cond.selects "PastWatch$Count" ({ cls := "PastWatch$Node", name := "reason", desc := "(I[I)LPastWatch$Reason;" } : Jvm.MethodName) ({ cls := "PastWatch$Node", name := "reason", desc := "(I[I)LPastWatch$Reason;" } : Jvm.MethodName)) ∈ lw_all := lw_g (lw_at lw_m11 97 rfl) rfl
theorem q3221 : (Jvm.Cond.selects "PastWatch$Count" ({ cls := "PastWatch$Node", name := "at", desc := "(I)J" } : Jvm.MethodName) ({ cls := "PastWatch$Node", name := "at", desc := "(I)J" } : Jvm.MethodName)) ∈ lw_all := lw_g (lw_at lw_m13 236 rfl) rfl
theorem q3245 : (Jvm.Cond.castable "PastWatch$Count" "PastWatch$Node") ∈ lw_tbl := lw_at lw_m14 20 rfl
theorem q3287 : (Jvm.Cond.castable "PastWatch$Count" "java/lang/Object") ∈ lw_tbl := lw_at lw_m14 62 rfl
theorem in_X17 : ∀ w ∈ wsX170, w ∈ lw_all := lw_in wsX170 [1866, 1867, 1864] (by decide +kernel) (by decide +kernel)

/-! PastWatch$Last -/

def RX18 : String := "PastWatch$Last"
def TX18 : u_T := fun k => match k with
  | 0 => ("PastWatch$Node", "place", "I", true)
  | 1 => ("PastWatch$Node", "history", "[J", false)
  | _ => ("PastWatch$Last", "of", "LPastWatch$Node;", true)
def tyX18 : Nat → FieldType := fun k => match k with
  | 0 => .int
  | 1 => .array .long
  | _ => .object "PastWatch$Node"
abbrev wsX180 : List Cond := u_ws RX18 TX18 3
theorem nmX18 : ∀ a, a < 3 → ∀ b, b < 3 → a ≠ b → (TX18 a).2.1 ≠ (TX18 b).2.1 := by decide +kernel
theorem tyX18_ok : ∀ k, k < 3 → parseFieldDescriptor (TX18 k).2.2.1 = some (tyX18 k) := by decide +kernel
abbrev cX18_init : ByteArray := prog_10_method_1_code
def yX18_init : MethodName := ⟨RX18, "<init>", "(ILPastWatch$Node;)V"⟩
def dkwX18_init_0 : List UInt8 := [42, 27, 183, 0, 3, 42, 44, 181, 0, 9, 177]
abbrev dktX18_init_0 : List UInt8 := dkwX18_init_0 ++ []
theorem dksX18_init_0 : cX18_init.data.toList.drop 0 = dktX18_init_0 := by decide +kernel
theorem dX18_init_0 : decode cX18_init 0 = .ok (.aload_n 0, 1) := dk_42 (dk_at dksX18_init_0 0 rfl rfl)
theorem dX18_init_1 : decode cX18_init 1 = .ok (.iload_n 1, 1) := dk_27 (dk_at dksX18_init_0 1 rfl rfl)
theorem dX18_init_2 : decode cX18_init 2 = .ok (.invokespecial 3, 3) := dk_183 0 3 (dk_at dksX18_init_0 2 rfl rfl)
theorem dX18_init_5 : decode cX18_init 5 = .ok (.aload_n 0, 1) := dk_42 (dk_at dksX18_init_0 5 rfl rfl)
theorem dX18_init_6 : decode cX18_init 6 = .ok (.aload_n 2, 1) := dk_44 (dk_at dksX18_init_0 6 rfl rfl)
theorem dX18_init_7 : decode cX18_init 7 = .ok (.putfield 9, 3) := dk_181 0 9 (dk_at dksX18_init_0 7 rfl rfl)
theorem dX18_init_10 : decode cX18_init 10 = .ok (.return_, 1) := dk_177 (dk_at dksX18_init_0 10 rfl rfl)
abbrev cX18_reckon : ByteArray := prog_10_method_2_code
def yX18_reckon : MethodName := ⟨RX18, "reckon", "(I[I)J"⟩
def dkwX18_reckon_1 : List UInt8 := [29, 46, 100, 133, 173]
abbrev dktX18_reckon_1 : List UInt8 := dkwX18_reckon_1 ++ []
def dkwX18_reckon_0 : List UInt8 := [42, 180, 0, 9, 27, 184, 0, 15, 62, 29, 2, 160, 0, 9, 20, 0, 19, 167, 0, 11, 44, 27, 46, 44]
abbrev dktX18_reckon_0 : List UInt8 := dkwX18_reckon_0 ++ dktX18_reckon_1
theorem dksX18_reckon_0 : cX18_reckon.data.toList.drop 0 = dktX18_reckon_0 := by decide +kernel
theorem dksX18_reckon_1 : cX18_reckon.data.toList.drop 24 = dktX18_reckon_1 := dk_seg dksX18_reckon_0 24 rfl rfl
theorem dX18_reckon_0 : decode cX18_reckon 0 = .ok (.aload_n 0, 1) := dk_42 (dk_at dksX18_reckon_0 0 rfl rfl)
theorem dX18_reckon_1 : decode cX18_reckon 1 = .ok (.getfield 9, 3) := dk_180 0 9 (dk_at dksX18_reckon_0 1 rfl rfl)
theorem dX18_reckon_4 : decode cX18_reckon 4 = .ok (.iload_n 1, 1) := dk_27 (dk_at dksX18_reckon_0 4 rfl rfl)
theorem dX18_reckon_5 : decode cX18_reckon 5 = .ok (.invokestatic 15, 3) := dk_184 0 15 (dk_at dksX18_reckon_0 5 rfl rfl)
theorem dX18_reckon_8 : decode cX18_reckon 8 = .ok (.istore_n 3, 1) := dk_62 (dk_at dksX18_reckon_0 8 rfl rfl)
theorem dX18_reckon_9 : decode cX18_reckon 9 = .ok (.iload_n 3, 1) := dk_29 (dk_at dksX18_reckon_0 9 rfl rfl)
theorem dX18_reckon_10 : decode cX18_reckon 10 = .ok (.iconst (-1), 1) := dk_2 (dk_at dksX18_reckon_0 10 rfl rfl)
theorem dX18_reckon_11 : decode cX18_reckon 11 = .ok (.if_icmp .ne 9, 3) := dk_160 0 9 (dk_at dksX18_reckon_0 11 rfl rfl)
theorem dX18_reckon_14 : decode cX18_reckon 14 = .ok (.ldc2_w 19, 3) := dk_20 0 19 (dk_at dksX18_reckon_0 14 rfl rfl)
theorem dX18_reckon_17 : decode cX18_reckon 17 = .ok (.goto 11, 3) := dk_167 0 11 (dk_at dksX18_reckon_0 17 rfl rfl)
theorem dX18_reckon_20 : decode cX18_reckon 20 = .ok (.aload_n 2, 1) := dk_44 (dk_at dksX18_reckon_0 20 rfl rfl)
theorem dX18_reckon_21 : decode cX18_reckon 21 = .ok (.iload_n 1, 1) := dk_27 (dk_at dksX18_reckon_0 21 rfl rfl)
theorem dX18_reckon_22 : decode cX18_reckon 22 = .ok (.iaload, 1) := dk_46 (dk_at dksX18_reckon_0 22 rfl rfl)
theorem dX18_reckon_23 : decode cX18_reckon 23 = .ok (.aload_n 2, 1) := dk_44 (dk_at dksX18_reckon_0 23 rfl rfl)
theorem dX18_reckon_24 : decode cX18_reckon 24 = .ok (.iload_n 3, 1) := dk_29 (dk_at dksX18_reckon_1 0 rfl rfl)
theorem dX18_reckon_25 : decode cX18_reckon 25 = .ok (.iaload, 1) := dk_46 (dk_at dksX18_reckon_1 1 rfl rfl)
theorem dX18_reckon_26 : decode cX18_reckon 26 = .ok (.isub, 1) := dk_100 (dk_at dksX18_reckon_1 2 rfl rfl)
theorem dX18_reckon_27 : decode cX18_reckon 27 = .ok (.i2l, 1) := dk_133 (dk_at dksX18_reckon_1 3 rfl rfl)
theorem dX18_reckon_28 : decode cX18_reckon 28 = .ok (.lreturn, 1) := dk_173 (dk_at dksX18_reckon_1 4 rfl rfl)
theorem q156 : (Jvm.Cond.initialized "PastWatch$Last") ∈ lw_all := lw_g (lw_at lw_m1 51 rfl) rfl
theorem q933 : (Jvm.Cond.selects "PastWatch$Last" ({ cls := "java/lang/Object", name := "getClass", desc := "()Ljava/lang/Class;" } : Jvm.MethodName) ({ cls := "java/lang/Object", name := "getClass", desc := "()Ljava/lang/Class;" } : Jvm.MethodName)) ∈ lw_all := lw_g (lw_at lw_m4 108 rfl) rfl
theorem q1129 : (Jvm.Cond.selects "PastWatch$Last" ({ cls := "java/lang/Object", name := "hashCode", desc := "()I" } : Jvm.MethodName) ({ cls := "java/lang/Object", name := "hashCode", desc := "()I" } : Jvm.MethodName)) ∈ lw_all := lw_g (lw_at lw_m5 64 rfl) rfl
theorem q1178 : (Jvm.Cond.selects "PastWatch$Last" ({ cls := "java/lang/Object", name := "equals", desc := "(Ljava/lang/Object;)Z" } : Jvm.MethodName) ({ cls := "java/lang/Object", name := "equals", desc := "(Ljava/lang/Object;)Z" } : Jvm.MethodName)) ∈ lw_all := lw_g (lw_at lw_m5 113 rfl) rfl
theorem q1871 : (Jvm.Cond.instantiable "PastWatch$Last" (3 : Nat)) ∈ lw_all := lw_g (lw_at lw_m8 86 rfl) rfl
theorem q1873 : (Jvm.Cond.instanceMethod ({ cls := "PastWatch$Last", name := "<init>", desc := "(ILPastWatch$Node;)V" } : Jvm.MethodName)) ∈ lw_all := lw_g (lw_at lw_m8 88 rfl) rfl
theorem q1874 : (Jvm.Cond.code ({ cls := "PastWatch$Last", name := "<init>", desc := "(ILPastWatch$Node;)V" } : Jvm.MethodName) prog_10_method_1_code (3 : Nat) (Option.none : Option Jvm.ClassFile.FieldType)) ∈ lw_all := lw_g (lw_at lw_m8 89 rfl) rfl
theorem q1875 : (Jvm.Cond.methodLink "PastWatch$Last" (3 : Nat) ({ cls := "PastWatch$Node", name := "<init>", desc := "(I)V" } : Jvm.MethodName)) ∈ lw_all := lw_g (lw_at lw_m8 90 rfl) rfl
theorem q1876 : (Jvm.Cond.fieldLink "PastWatch$Last" (9 : Nat) "PastWatch$Last" "of" "LPastWatch$Node;") ∈ lw_all := lw_g (lw_at lw_m8 91 rfl) rfl
theorem q1877 : (Jvm.Cond.laysFinal "PastWatch$Last" "PastWatch$Last" "of" "LPastWatch$Node;") ∈ lw_all := lw_g (lw_at lw_m8 92 rfl) rfl
theorem q1878 : (Jvm.Cond.soleField "PastWatch$Last" "of") ∈ lw_all := lw_g (lw_at lw_m8 93 rfl) rfl
theorem q1879 : (Jvm.Cond.laysFinal "PastWatch$Last" "PastWatch$Node" "place" "I") ∈ lw_all := lw_g (lw_at lw_m8 94 rfl) rfl
theorem q1880 : (Jvm.Cond.lays "PastWatch$Last" "PastWatch$Node" "history" "[J") ∈ lw_all := lw_g (lw_at lw_m8 95 rfl) rfl
theorem q1881 : (Jvm.Cond.superclass "PastWatch$Last" "PastWatch$Node") ∈ lw_all := lw_g (lw_at lw_m8 96 rfl) rfl
theorem q2169 : (Jvm.Cond.selects "PastWatch$Last" ({ cls := "PastWatch$Node", name := "keep", desc := "(I[I)V" } : Jvm.MethodName) ({ cls := "PastWatch$Node", name := "keep", desc := "(I[I)V" } : Jvm.MethodName)) ∈ lw_all := lw_g (lw_at lw_m9 144 rfl) rfl
theorem q2197 : (Jvm.Cond.selects "PastWatch$Last" ({ cls := "PastWatch$Node", name := "holds", desc := "(I)Z" } : Jvm.MethodName) ({ cls := "PastWatch$Node", name := "holds", desc := "(I)Z" } : Jvm.MethodName)) ∈ lw_all := lw_g (lw_at lw_m9 172 rfl) rfl
theorem q2271 : (Jvm.Cond.selects "PastWatch$Last" ({ cls := "PastWatch$Node", name := "reckon", desc := "(I[I)J" } : Jvm.MethodName) ({ cls := "PastWatch$Last", name := "reckon", desc := "(I[I)J" } : Jvm.MethodName)) ∈ lw_all := lw_g (lw_at lw_m10 6 rfl) rfl
theorem q2272 : (Jvm.Cond.instanceMethod ({ cls := "PastWatch$Last", name := "reckon", desc := "(I[I)J" } : Jvm.MethodName)) ∈ lw_all := lw_g (lw_at lw_m10 7 rfl) rfl
theorem q2273 : (Jvm.Cond.code ({ cls := "PastWatch$Last", name := "reckon", desc := "(I[I)J" } : Jvm.MethodName) prog_10_method_2_code (4 : Nat) (Option.some Jvm.ClassFile.FieldType.long)) ∈ lw_all := lw_g (lw_at lw_m10 8 rfl) rfl
theorem q2274 : (Jvm.Cond.methodLinkNest "PastWatch$Last" (15 : Nat) ({ cls := "PastWatch", name := "lastStep", desc := "(LPastWatch$Node;I)I" } : Jvm.MethodName) "PastWatch") ∈ lw_tbl := lw_at lw_m10 9 rfl
theorem q2275 : (Jvm.Cond.constantLong "PastWatch$Last" (19 : Nat) (-1 : Int64)) ∈ lw_all := lw_g (lw_at lw_m10 10 rfl) rfl
theorem q2605 : (Jvm.Cond.selects "PastWatch$Last" ({ cls := "PastWatch$Node", name := "reason", desc := "(I[I)LPastWatch$Reason;" } : Jvm.MethodName) ({ cls := "PastWatch$Node", name := "reason", desc := "(I[I)LPastWatch$Reason;" } : Jvm.MethodName)) ∈ lw_all := lw_g (lw_at lw_m11 100 rfl) rfl
theorem q3224 : (Jvm.Cond.selects "PastWatch$Last" ({ cls := "PastWatch$Node", name := "at", desc := "(I)J" } : Jvm.MethodName) ({ cls := "PastWatch$Node", name := "at", desc := "(I)J" } : Jvm.MethodName)) ∈ lw_all := lw_g (lw_at lw_m13 239 rfl) rfl
theorem q3248 : (Jvm.Cond.castable "PastWatch$Last" "PastWatch$Node") ∈ lw_tbl := lw_at lw_m14 23 rfl
theorem q3288 : (Jvm.Cond.castable "PastWatch$Last" "java/lang/Object") ∈ lw_tbl := lw_at lw_m14 63 rfl
theorem in_X18 : ∀ w ∈ wsX180, w ∈ lw_all := lw_in wsX180 [1879, 1880, 1877] (by decide +kernel) (by decide +kernel)

/-! PastWatch$At -/

def RX19 : String := "PastWatch$At"
def TX19 : u_T := fun k => match k with
  | 0 => ("PastWatch$Node", "place", "I", true)
  | 1 => ("PastWatch$Node", "history", "[J", false)
  | 2 => ("PastWatch$At", "when", "LPastWatch$Node;", true)
  | _ => ("PastWatch$At", "of", "LPastWatch$Node;", true)
def tyX19 : Nat → FieldType := fun k => match k with
  | 0 => .int
  | 1 => .array .long
  | 2 => .object "PastWatch$Node"
  | _ => .object "PastWatch$Node"
abbrev wsX190 : List Cond := u_ws RX19 TX19 4
theorem nmX19 : ∀ a, a < 4 → ∀ b, b < 4 → a ≠ b → (TX19 a).2.1 ≠ (TX19 b).2.1 := by decide +kernel
theorem tyX19_ok : ∀ k, k < 4 → parseFieldDescriptor (TX19 k).2.2.1 = some (tyX19 k) := by decide +kernel
abbrev cX19_init : ByteArray := prog_2_method_1_code
def yX19_init : MethodName := ⟨RX19, "<init>", "(ILPastWatch$Node;LPastWatch$Node;)V"⟩
def dkwX19_init_0 : List UInt8 := [42, 27, 183, 0, 3, 42, 44, 181, 0, 9, 42, 45, 181, 0, 15, 177]
abbrev dktX19_init_0 : List UInt8 := dkwX19_init_0 ++ []
theorem dksX19_init_0 : cX19_init.data.toList.drop 0 = dktX19_init_0 := by decide +kernel
theorem dX19_init_0 : decode cX19_init 0 = .ok (.aload_n 0, 1) := dk_42 (dk_at dksX19_init_0 0 rfl rfl)
theorem dX19_init_1 : decode cX19_init 1 = .ok (.iload_n 1, 1) := dk_27 (dk_at dksX19_init_0 1 rfl rfl)
theorem dX19_init_2 : decode cX19_init 2 = .ok (.invokespecial 3, 3) := dk_183 0 3 (dk_at dksX19_init_0 2 rfl rfl)
theorem dX19_init_5 : decode cX19_init 5 = .ok (.aload_n 0, 1) := dk_42 (dk_at dksX19_init_0 5 rfl rfl)
theorem dX19_init_6 : decode cX19_init 6 = .ok (.aload_n 2, 1) := dk_44 (dk_at dksX19_init_0 6 rfl rfl)
theorem dX19_init_7 : decode cX19_init 7 = .ok (.putfield 9, 3) := dk_181 0 9 (dk_at dksX19_init_0 7 rfl rfl)
theorem dX19_init_10 : decode cX19_init 10 = .ok (.aload_n 0, 1) := dk_42 (dk_at dksX19_init_0 10 rfl rfl)
theorem dX19_init_11 : decode cX19_init 11 = .ok (.aload_n 3, 1) := dk_45 (dk_at dksX19_init_0 11 rfl rfl)
theorem dX19_init_12 : decode cX19_init 12 = .ok (.putfield 15, 3) := dk_181 0 15 (dk_at dksX19_init_0 12 rfl rfl)
theorem dX19_init_15 : decode cX19_init 15 = .ok (.return_, 1) := dk_177 (dk_at dksX19_init_0 15 rfl rfl)
abbrev cX19_reckon : ByteArray := prog_2_method_2_code
def yX19_reckon : MethodName := ⟨RX19, "reckon", "(I[I)J"⟩
def dkwX19_reckon_1 : List UInt8 := [182, 0, 22, 173]
abbrev dktX19_reckon_1 : List UInt8 := dkwX19_reckon_1 ++ []
def dkwX19_reckon_0 : List UInt8 := [42, 180, 0, 9, 27, 184, 0, 18, 62, 29, 2, 160, 0, 7, 9, 167, 0, 11, 42, 180, 0, 15, 29]
abbrev dktX19_reckon_0 : List UInt8 := dkwX19_reckon_0 ++ dktX19_reckon_1
theorem dksX19_reckon_0 : cX19_reckon.data.toList.drop 0 = dktX19_reckon_0 := by decide +kernel
theorem dksX19_reckon_1 : cX19_reckon.data.toList.drop 23 = dktX19_reckon_1 := dk_seg dksX19_reckon_0 23 rfl rfl
theorem dX19_reckon_0 : decode cX19_reckon 0 = .ok (.aload_n 0, 1) := dk_42 (dk_at dksX19_reckon_0 0 rfl rfl)
theorem dX19_reckon_1 : decode cX19_reckon 1 = .ok (.getfield 9, 3) := dk_180 0 9 (dk_at dksX19_reckon_0 1 rfl rfl)
theorem dX19_reckon_4 : decode cX19_reckon 4 = .ok (.iload_n 1, 1) := dk_27 (dk_at dksX19_reckon_0 4 rfl rfl)
theorem dX19_reckon_5 : decode cX19_reckon 5 = .ok (.invokestatic 18, 3) := dk_184 0 18 (dk_at dksX19_reckon_0 5 rfl rfl)
theorem dX19_reckon_8 : decode cX19_reckon 8 = .ok (.istore_n 3, 1) := dk_62 (dk_at dksX19_reckon_0 8 rfl rfl)
theorem dX19_reckon_9 : decode cX19_reckon 9 = .ok (.iload_n 3, 1) := dk_29 (dk_at dksX19_reckon_0 9 rfl rfl)
theorem dX19_reckon_10 : decode cX19_reckon 10 = .ok (.iconst (-1), 1) := dk_2 (dk_at dksX19_reckon_0 10 rfl rfl)
theorem dX19_reckon_11 : decode cX19_reckon 11 = .ok (.if_icmp .ne 7, 3) := dk_160 0 7 (dk_at dksX19_reckon_0 11 rfl rfl)
theorem dX19_reckon_14 : decode cX19_reckon 14 = .ok (.lconst 0, 1) := dk_9 (dk_at dksX19_reckon_0 14 rfl rfl)
theorem dX19_reckon_15 : decode cX19_reckon 15 = .ok (.goto 11, 3) := dk_167 0 11 (dk_at dksX19_reckon_0 15 rfl rfl)
theorem dX19_reckon_18 : decode cX19_reckon 18 = .ok (.aload_n 0, 1) := dk_42 (dk_at dksX19_reckon_0 18 rfl rfl)
theorem dX19_reckon_19 : decode cX19_reckon 19 = .ok (.getfield 15, 3) := dk_180 0 15 (dk_at dksX19_reckon_0 19 rfl rfl)
theorem dX19_reckon_22 : decode cX19_reckon 22 = .ok (.iload_n 3, 1) := dk_29 (dk_at dksX19_reckon_0 22 rfl rfl)
theorem dX19_reckon_23 : decode cX19_reckon 23 = .ok (.invokevirtual 22, 3) := dk_182 0 22 (dk_at dksX19_reckon_1 0 rfl rfl)
theorem dX19_reckon_26 : decode cX19_reckon 26 = .ok (.lreturn, 1) := dk_173 (dk_at dksX19_reckon_1 3 rfl rfl)
theorem q157 : (Jvm.Cond.initialized "PastWatch$At") ∈ lw_all := lw_g (lw_at lw_m1 52 rfl) rfl
theorem q925 : (Jvm.Cond.selects "PastWatch$At" ({ cls := "java/lang/Object", name := "getClass", desc := "()Ljava/lang/Class;" } : Jvm.MethodName) ({ cls := "java/lang/Object", name := "getClass", desc := "()Ljava/lang/Class;" } : Jvm.MethodName)) ∈ lw_all := lw_g (lw_at lw_m4 100 rfl) rfl
theorem q1121 : (Jvm.Cond.selects "PastWatch$At" ({ cls := "java/lang/Object", name := "hashCode", desc := "()I" } : Jvm.MethodName) ({ cls := "java/lang/Object", name := "hashCode", desc := "()I" } : Jvm.MethodName)) ∈ lw_all := lw_g (lw_at lw_m5 56 rfl) rfl
theorem q1170 : (Jvm.Cond.selects "PastWatch$At" ({ cls := "java/lang/Object", name := "equals", desc := "(Ljava/lang/Object;)Z" } : Jvm.MethodName) ({ cls := "java/lang/Object", name := "equals", desc := "(Ljava/lang/Object;)Z" } : Jvm.MethodName)) ∈ lw_all := lw_g (lw_at lw_m5 105 rfl) rfl
theorem q1888 : (Jvm.Cond.instantiable "PastWatch$At" (4 : Nat)) ∈ lw_all := lw_g (lw_at lw_m8 103 rfl) rfl
theorem q1890 : (Jvm.Cond.instanceMethod ({ cls := "PastWatch$At", name := "<init>", desc := "(ILPastWatch$Node;LPastWatch$Node;)V" } : Jvm.MethodName)) ∈ lw_all := lw_g (lw_at lw_m8 105 rfl) rfl
theorem q1891 : (Jvm.Cond.code ({ cls := "PastWatch$At", name := "<init>", desc := "(ILPastWatch$Node;LPastWatch$Node;)V" } : Jvm.MethodName) prog_2_method_1_code (4 : Nat) (Option.none : Option Jvm.ClassFile.FieldType)) ∈ lw_all := lw_g (lw_at lw_m8 106 rfl) rfl
theorem q1892 : (Jvm.Cond.methodLink "PastWatch$At" (3 : Nat) ({ cls := "PastWatch$Node", name := "<init>", desc := "(I)V" } : Jvm.MethodName)) ∈ lw_all := lw_g (lw_at lw_m8 107 rfl) rfl
theorem q1893 : (Jvm.Cond.fieldLink "PastWatch$At" (9 : Nat) "PastWatch$At" "when" "LPastWatch$Node;") ∈ lw_all := lw_g (lw_at lw_m8 108 rfl) rfl
theorem q1894 : (Jvm.Cond.fieldLink "PastWatch$At" (15 : Nat) "PastWatch$At" "of" "LPastWatch$Node;") ∈ lw_all := lw_g (lw_at lw_m8 109 rfl) rfl
theorem q1895 : (Jvm.Cond.laysFinal "PastWatch$At" "PastWatch$At" "when" "LPastWatch$Node;") ∈ lw_all := lw_g (lw_at lw_m8 110 rfl) rfl
theorem q1896 : (Jvm.Cond.soleField "PastWatch$At" "when") ∈ lw_all := lw_g (lw_at lw_m8 111 rfl) rfl
theorem q1897 : (Jvm.Cond.laysFinal "PastWatch$At" "PastWatch$At" "of" "LPastWatch$Node;") ∈ lw_all := lw_g (lw_at lw_m8 112 rfl) rfl
theorem q1898 : (Jvm.Cond.soleField "PastWatch$At" "of") ∈ lw_all := lw_g (lw_at lw_m8 113 rfl) rfl
theorem q1899 : (Jvm.Cond.laysFinal "PastWatch$At" "PastWatch$Node" "place" "I") ∈ lw_all := lw_g (lw_at lw_m8 114 rfl) rfl
theorem q1900 : (Jvm.Cond.lays "PastWatch$At" "PastWatch$Node" "history" "[J") ∈ lw_all := lw_g (lw_at lw_m8 115 rfl) rfl
theorem q1901 : (Jvm.Cond.superclass "PastWatch$At" "PastWatch$Node") ∈ lw_all := lw_g (lw_at lw_m8 116 rfl) rfl
theorem q2162 : (Jvm.Cond.selects "PastWatch$At" ({ cls := "PastWatch$Node", name := "keep", desc := "(I[I)V" } : Jvm.MethodName) ({ cls := "PastWatch$Node", name := "keep", desc := "(I[I)V" } : Jvm.MethodName)) ∈ lw_all := lw_g (lw_at lw_m9 137 rfl) rfl
theorem q2181 : (Jvm.Cond.selects "PastWatch$At" ({ cls := "PastWatch$Node", name := "reckon", desc := "(I[I)J" } : Jvm.MethodName) ({ cls := "PastWatch$At", name := "reckon", desc := "(I[I)J" } : Jvm.MethodName)) ∈ lw_all := lw_g (lw_at lw_m9 156 rfl) rfl
theorem q2182 : (Jvm.Cond.instanceMethod ({ cls := "PastWatch$At", name := "reckon", desc := "(I[I)J" } : Jvm.MethodName)) ∈ lw_all := lw_g (lw_at lw_m9 157 rfl) rfl
theorem q2183 : (Jvm.Cond.code ({ cls := "PastWatch$At", name := "reckon", desc := "(I[I)J" } : Jvm.MethodName) prog_2_method_2_code (4 : Nat) (Option.some Jvm.ClassFile.FieldType.long)) ∈ lw_all := lw_g (lw_at lw_m9 158 rfl) rfl
theorem q2184 : (Jvm.Cond.methodLinkNest "PastWatch$At" (18 : Nat) ({ cls := "PastWatch", name := "lastStep", desc := "(LPastWatch$Node;I)I" } : Jvm.MethodName) "PastWatch") ∈ lw_tbl := lw_at lw_m9 159 rfl
theorem q2190 : (Jvm.Cond.selects "PastWatch$At" ({ cls := "PastWatch$Node", name := "holds", desc := "(I)Z" } : Jvm.MethodName) ({ cls := "PastWatch$Node", name := "holds", desc := "(I)Z" } : Jvm.MethodName)) ∈ lw_all := lw_g (lw_at lw_m9 165 rfl) rfl
theorem q2206 : (Jvm.Cond.methodLink "PastWatch$At" (22 : Nat) ({ cls := "PastWatch$Node", name := "at", desc := "(I)J" } : Jvm.MethodName)) ∈ lw_all := lw_g (lw_at lw_m9 181 rfl) rfl
theorem q2566 : (Jvm.Cond.selects "PastWatch$At" ({ cls := "PastWatch$Node", name := "reason", desc := "(I[I)LPastWatch$Reason;" } : Jvm.MethodName) ({ cls := "PastWatch$Node", name := "reason", desc := "(I[I)LPastWatch$Reason;" } : Jvm.MethodName)) ∈ lw_all := lw_g (lw_at lw_m11 61 rfl) rfl
theorem q3217 : (Jvm.Cond.selects "PastWatch$At" ({ cls := "PastWatch$Node", name := "at", desc := "(I)J" } : Jvm.MethodName) ({ cls := "PastWatch$Node", name := "at", desc := "(I)J" } : Jvm.MethodName)) ∈ lw_all := lw_g (lw_at lw_m13 232 rfl) rfl
theorem q3241 : (Jvm.Cond.castable "PastWatch$At" "PastWatch$Node") ∈ lw_tbl := lw_at lw_m14 16 rfl
theorem q3289 : (Jvm.Cond.castable "PastWatch$At" "java/lang/Object") ∈ lw_tbl := lw_at lw_m14 64 rfl
theorem in_X19 : ∀ w ∈ wsX190, w ∈ lw_all := lw_in wsX190 [1899, 1900, 1895, 1897] (by decide +kernel) (by decide +kernel)

/-! PastWatch$Choice -/

def RX20 : String := "PastWatch$Choice"
def TX20 : u_T := fun k => match k with
  | 0 => ("PastWatch$Node", "place", "I", true)
  | 1 => ("PastWatch$Node", "history", "[J", false)
  | 2 => ("PastWatch$Choice", "test", "LPastWatch$Node;", true)
  | 3 => ("PastWatch$Choice", "first", "LPastWatch$Node;", true)
  | _ => ("PastWatch$Choice", "second", "LPastWatch$Node;", true)
def tyX20 : Nat → FieldType := fun k => match k with
  | 0 => .int
  | 1 => .array .long
  | 2 => .object "PastWatch$Node"
  | 3 => .object "PastWatch$Node"
  | _ => .object "PastWatch$Node"
abbrev wsX200 : List Cond := u_ws RX20 TX20 5
theorem nmX20 : ∀ a, a < 5 → ∀ b, b < 5 → a ≠ b → (TX20 a).2.1 ≠ (TX20 b).2.1 := by decide +kernel
theorem tyX20_ok : ∀ k, k < 5 → parseFieldDescriptor (TX20 k).2.2.1 = some (tyX20 k) := by decide +kernel
abbrev cX20_init : ByteArray := prog_5_method_1_code
def yX20_init : MethodName := ⟨RX20, "<init>", "(ILPastWatch$Node;LPastWatch$Node;LPastWatch$Node;)V"⟩
def dkwX20_init_0 : List UInt8 := [42, 27, 183, 0, 1, 42, 44, 181, 0, 7, 42, 45, 181, 0, 13, 42, 25, 4, 181, 0, 16, 177]
abbrev dktX20_init_0 : List UInt8 := dkwX20_init_0 ++ []
theorem dksX20_init_0 : cX20_init.data.toList.drop 0 = dktX20_init_0 := by decide +kernel
theorem dX20_init_0 : decode cX20_init 0 = .ok (.aload_n 0, 1) := dk_42 (dk_at dksX20_init_0 0 rfl rfl)
theorem dX20_init_1 : decode cX20_init 1 = .ok (.iload_n 1, 1) := dk_27 (dk_at dksX20_init_0 1 rfl rfl)
theorem dX20_init_2 : decode cX20_init 2 = .ok (.invokespecial 1, 3) := dk_183 0 1 (dk_at dksX20_init_0 2 rfl rfl)
theorem dX20_init_5 : decode cX20_init 5 = .ok (.aload_n 0, 1) := dk_42 (dk_at dksX20_init_0 5 rfl rfl)
theorem dX20_init_6 : decode cX20_init 6 = .ok (.aload_n 2, 1) := dk_44 (dk_at dksX20_init_0 6 rfl rfl)
theorem dX20_init_7 : decode cX20_init 7 = .ok (.putfield 7, 3) := dk_181 0 7 (dk_at dksX20_init_0 7 rfl rfl)
theorem dX20_init_10 : decode cX20_init 10 = .ok (.aload_n 0, 1) := dk_42 (dk_at dksX20_init_0 10 rfl rfl)
theorem dX20_init_11 : decode cX20_init 11 = .ok (.aload_n 3, 1) := dk_45 (dk_at dksX20_init_0 11 rfl rfl)
theorem dX20_init_12 : decode cX20_init 12 = .ok (.putfield 13, 3) := dk_181 0 13 (dk_at dksX20_init_0 12 rfl rfl)
theorem dX20_init_15 : decode cX20_init 15 = .ok (.aload_n 0, 1) := dk_42 (dk_at dksX20_init_0 15 rfl rfl)
theorem dX20_init_16 : decode cX20_init 16 = .ok (.aload 4, 2) := dk_25 4 (dk_at dksX20_init_0 16 rfl rfl)
theorem dX20_init_18 : decode cX20_init 18 = .ok (.putfield 16, 3) := dk_181 0 16 (dk_at dksX20_init_0 18 rfl rfl)
theorem dX20_init_21 : decode cX20_init 21 = .ok (.return_, 1) := dk_177 (dk_at dksX20_init_0 21 rfl rfl)
abbrev cX20_reckon : ByteArray := prog_5_method_2_code
def yX20_reckon : MethodName := ⟨RX20, "reckon", "(I[I)J"⟩
def dkwX20_reckon_1 : List UInt8 := [182, 0, 23, 173]
abbrev dktX20_reckon_1 : List UInt8 := dkwX20_reckon_1 ++ []
def dkwX20_reckon_0 : List UInt8 := [42, 180, 0, 7, 27, 182, 0, 19, 153, 0, 10, 42, 180, 0, 13, 167, 0, 7, 42, 180, 0, 16, 27]
abbrev dktX20_reckon_0 : List UInt8 := dkwX20_reckon_0 ++ dktX20_reckon_1
theorem dksX20_reckon_0 : cX20_reckon.data.toList.drop 0 = dktX20_reckon_0 := by decide +kernel
theorem dksX20_reckon_1 : cX20_reckon.data.toList.drop 23 = dktX20_reckon_1 := dk_seg dksX20_reckon_0 23 rfl rfl
theorem dX20_reckon_0 : decode cX20_reckon 0 = .ok (.aload_n 0, 1) := dk_42 (dk_at dksX20_reckon_0 0 rfl rfl)
theorem dX20_reckon_1 : decode cX20_reckon 1 = .ok (.getfield 7, 3) := dk_180 0 7 (dk_at dksX20_reckon_0 1 rfl rfl)
theorem dX20_reckon_4 : decode cX20_reckon 4 = .ok (.iload_n 1, 1) := dk_27 (dk_at dksX20_reckon_0 4 rfl rfl)
theorem dX20_reckon_5 : decode cX20_reckon 5 = .ok (.invokevirtual 19, 3) := dk_182 0 19 (dk_at dksX20_reckon_0 5 rfl rfl)
theorem dX20_reckon_8 : decode cX20_reckon 8 = .ok (.ifCond .eq 10, 3) := dk_153 0 10 (dk_at dksX20_reckon_0 8 rfl rfl)
theorem dX20_reckon_11 : decode cX20_reckon 11 = .ok (.aload_n 0, 1) := dk_42 (dk_at dksX20_reckon_0 11 rfl rfl)
theorem dX20_reckon_12 : decode cX20_reckon 12 = .ok (.getfield 13, 3) := dk_180 0 13 (dk_at dksX20_reckon_0 12 rfl rfl)
theorem dX20_reckon_15 : decode cX20_reckon 15 = .ok (.goto 7, 3) := dk_167 0 7 (dk_at dksX20_reckon_0 15 rfl rfl)
theorem dX20_reckon_18 : decode cX20_reckon 18 = .ok (.aload_n 0, 1) := dk_42 (dk_at dksX20_reckon_0 18 rfl rfl)
theorem dX20_reckon_19 : decode cX20_reckon 19 = .ok (.getfield 16, 3) := dk_180 0 16 (dk_at dksX20_reckon_0 19 rfl rfl)
theorem dX20_reckon_22 : decode cX20_reckon 22 = .ok (.iload_n 1, 1) := dk_27 (dk_at dksX20_reckon_0 22 rfl rfl)
theorem dX20_reckon_23 : decode cX20_reckon 23 = .ok (.invokevirtual 23, 3) := dk_182 0 23 (dk_at dksX20_reckon_1 0 rfl rfl)
theorem dX20_reckon_26 : decode cX20_reckon 26 = .ok (.lreturn, 1) := dk_173 (dk_at dksX20_reckon_1 3 rfl rfl)
theorem q158 : (Jvm.Cond.initialized "PastWatch$Choice") ∈ lw_all := lw_g (lw_at lw_m1 53 rfl) rfl
theorem q928 : (Jvm.Cond.selects "PastWatch$Choice" ({ cls := "java/lang/Object", name := "getClass", desc := "()Ljava/lang/Class;" } : Jvm.MethodName) ({ cls := "java/lang/Object", name := "getClass", desc := "()Ljava/lang/Class;" } : Jvm.MethodName)) ∈ lw_all := lw_g (lw_at lw_m4 103 rfl) rfl
theorem q1124 : (Jvm.Cond.selects "PastWatch$Choice" ({ cls := "java/lang/Object", name := "hashCode", desc := "()I" } : Jvm.MethodName) ({ cls := "java/lang/Object", name := "hashCode", desc := "()I" } : Jvm.MethodName)) ∈ lw_all := lw_g (lw_at lw_m5 59 rfl) rfl
theorem q1173 : (Jvm.Cond.selects "PastWatch$Choice" ({ cls := "java/lang/Object", name := "equals", desc := "(Ljava/lang/Object;)Z" } : Jvm.MethodName) ({ cls := "java/lang/Object", name := "equals", desc := "(Ljava/lang/Object;)Z" } : Jvm.MethodName)) ∈ lw_all := lw_g (lw_at lw_m5 108 rfl) rfl
theorem q1906 : (Jvm.Cond.instantiable "PastWatch$Choice" (5 : Nat)) ∈ lw_all := lw_g (lw_at lw_m8 121 rfl) rfl
theorem q1908 : (Jvm.Cond.instanceMethod ({ cls := "PastWatch$Choice", name := "<init>", desc := "(ILPastWatch$Node;LPastWatch$Node;LPastWatch$Node;)V" } : Jvm.MethodName)) ∈ lw_all := lw_g (lw_at lw_m8 123 rfl) rfl
theorem q1909 : (Jvm.Cond.code ({ cls := "PastWatch$Choice", name := "<init>", desc := "(ILPastWatch$Node;LPastWatch$Node;LPastWatch$Node;)V" } : Jvm.MethodName) prog_5_method_1_code (5 : Nat) (Option.none : Option Jvm.ClassFile.FieldType)) ∈ lw_all := lw_g (lw_at lw_m8 124 rfl) rfl
theorem q1910 : (Jvm.Cond.methodLink "PastWatch$Choice" (1 : Nat) ({ cls := "PastWatch$Node", name := "<init>", desc := "(I)V" } : Jvm.MethodName)) ∈ lw_all := lw_g (lw_at lw_m8 125 rfl) rfl
theorem q1911 : (Jvm.Cond.fieldLink "PastWatch$Choice" (7 : Nat) "PastWatch$Choice" "test" "LPastWatch$Node;") ∈ lw_all := lw_g (lw_at lw_m8 126 rfl) rfl
theorem q1912 : (Jvm.Cond.fieldLink "PastWatch$Choice" (13 : Nat) "PastWatch$Choice" "first" "LPastWatch$Node;") ∈ lw_all := lw_g (lw_at lw_m8 127 rfl) rfl
theorem q1913 : (Jvm.Cond.fieldLink "PastWatch$Choice" (16 : Nat) "PastWatch$Choice" "second" "LPastWatch$Node;") ∈ lw_all := lw_g (lw_at lw_m8 128 rfl) rfl
theorem q1914 : (Jvm.Cond.laysFinal "PastWatch$Choice" "PastWatch$Choice" "test" "LPastWatch$Node;") ∈ lw_all := lw_g (lw_at lw_m8 129 rfl) rfl
theorem q1915 : (Jvm.Cond.soleField "PastWatch$Choice" "test") ∈ lw_all := lw_g (lw_at lw_m8 130 rfl) rfl
theorem q1916 : (Jvm.Cond.laysFinal "PastWatch$Choice" "PastWatch$Choice" "first" "LPastWatch$Node;") ∈ lw_all := lw_g (lw_at lw_m8 131 rfl) rfl
theorem q1917 : (Jvm.Cond.soleField "PastWatch$Choice" "first") ∈ lw_all := lw_g (lw_at lw_m8 132 rfl) rfl
theorem q1918 : (Jvm.Cond.laysFinal "PastWatch$Choice" "PastWatch$Choice" "second" "LPastWatch$Node;") ∈ lw_all := lw_g (lw_at lw_m8 133 rfl) rfl
theorem q1919 : (Jvm.Cond.soleField "PastWatch$Choice" "second") ∈ lw_all := lw_g (lw_at lw_m8 134 rfl) rfl
theorem q1920 : (Jvm.Cond.laysFinal "PastWatch$Choice" "PastWatch$Node" "place" "I") ∈ lw_all := lw_g (lw_at lw_m8 135 rfl) rfl
theorem q1921 : (Jvm.Cond.lays "PastWatch$Choice" "PastWatch$Node" "history" "[J") ∈ lw_all := lw_g (lw_at lw_m8 136 rfl) rfl
theorem q1922 : (Jvm.Cond.superclass "PastWatch$Choice" "PastWatch$Node") ∈ lw_all := lw_g (lw_at lw_m8 137 rfl) rfl
theorem q2164 : (Jvm.Cond.selects "PastWatch$Choice" ({ cls := "PastWatch$Node", name := "keep", desc := "(I[I)V" } : Jvm.MethodName) ({ cls := "PastWatch$Node", name := "keep", desc := "(I[I)V" } : Jvm.MethodName)) ∈ lw_all := lw_g (lw_at lw_m9 139 rfl) rfl
theorem q2192 : (Jvm.Cond.selects "PastWatch$Choice" ({ cls := "PastWatch$Node", name := "holds", desc := "(I)Z" } : Jvm.MethodName) ({ cls := "PastWatch$Node", name := "holds", desc := "(I)Z" } : Jvm.MethodName)) ∈ lw_all := lw_g (lw_at lw_m9 167 rfl) rfl
theorem q2229 : (Jvm.Cond.selects "PastWatch$Choice" ({ cls := "PastWatch$Node", name := "reckon", desc := "(I[I)J" } : Jvm.MethodName) ({ cls := "PastWatch$Choice", name := "reckon", desc := "(I[I)J" } : Jvm.MethodName)) ∈ lw_all := lw_g (lw_at lw_m9 204 rfl) rfl
theorem q2230 : (Jvm.Cond.instanceMethod ({ cls := "PastWatch$Choice", name := "reckon", desc := "(I[I)J" } : Jvm.MethodName)) ∈ lw_all := lw_g (lw_at lw_m9 205 rfl) rfl
theorem q2231 : (Jvm.Cond.code ({ cls := "PastWatch$Choice", name := "reckon", desc := "(I[I)J" } : Jvm.MethodName) prog_5_method_2_code (3 : Nat) (Option.some Jvm.ClassFile.FieldType.long)) ∈ lw_all := lw_g (lw_at lw_m9 206 rfl) rfl
theorem q2232 : (Jvm.Cond.methodLink "PastWatch$Choice" (19 : Nat) ({ cls := "PastWatch$Node", name := "holds", desc := "(I)Z" } : Jvm.MethodName)) ∈ lw_all := lw_g (lw_at lw_m9 207 rfl) rfl
theorem q2233 : (Jvm.Cond.methodLink "PastWatch$Choice" (23 : Nat) ({ cls := "PastWatch$Node", name := "at", desc := "(I)J" } : Jvm.MethodName)) ∈ lw_all := lw_g (lw_at lw_m9 208 rfl) rfl
theorem q2600 : (Jvm.Cond.selects "PastWatch$Choice" ({ cls := "PastWatch$Node", name := "reason", desc := "(I[I)LPastWatch$Reason;" } : Jvm.MethodName) ({ cls := "PastWatch$Node", name := "reason", desc := "(I[I)LPastWatch$Reason;" } : Jvm.MethodName)) ∈ lw_all := lw_g (lw_at lw_m11 95 rfl) rfl
theorem q3219 : (Jvm.Cond.selects "PastWatch$Choice" ({ cls := "PastWatch$Node", name := "at", desc := "(I)J" } : Jvm.MethodName) ({ cls := "PastWatch$Node", name := "at", desc := "(I)J" } : Jvm.MethodName)) ∈ lw_all := lw_g (lw_at lw_m13 234 rfl) rfl
theorem q3243 : (Jvm.Cond.castable "PastWatch$Choice" "PastWatch$Node") ∈ lw_tbl := lw_at lw_m14 18 rfl
theorem q3290 : (Jvm.Cond.castable "PastWatch$Choice" "java/lang/Object") ∈ lw_tbl := lw_at lw_m14 65 rfl
theorem in_X20 : ∀ w ∈ wsX200, w ∈ lw_all := lw_in wsX200 [1920, 1921, 1914, 1916, 1918] (by decide +kernel) (by decide +kernel)

/-! PastWatch$Op -/

def RX21 : String := "PastWatch$Op"
abbrev cX21_of : ByteArray := prog_19_method_4_code
def yX21_of : MethodName := ⟨RX21, "of", "(LPastWatch$Token;)LPastWatch$Op;"⟩
def dkwX21_of_1 : List UInt8 := [180, 0, 56, 182, 0, 64, 153, 0, 6, 25, 4, 176, 132, 3, 1, 167, 255, 228, 1, 176]
abbrev dktX21_of_1 : List UInt8 := dkwX21_of_1 ++ []
def dkwX21_of_0 : List UInt8 := [184, 0, 60, 76, 43, 190, 61, 3, 62, 29, 28, 162, 0, 29, 43, 29, 50, 58, 4, 42, 25, 4]
abbrev dktX21_of_0 : List UInt8 := dkwX21_of_0 ++ dktX21_of_1
theorem dksX21_of_0 : cX21_of.data.toList.drop 0 = dktX21_of_0 := by decide +kernel
theorem dksX21_of_1 : cX21_of.data.toList.drop 22 = dktX21_of_1 := dk_seg dksX21_of_0 22 rfl rfl
theorem dX21_of_0 : decode cX21_of 0 = .ok (.invokestatic 60, 3) := dk_184 0 60 (dk_at dksX21_of_0 0 rfl rfl)
theorem dX21_of_3 : decode cX21_of 3 = .ok (.astore_n 1, 1) := dk_76 (dk_at dksX21_of_0 3 rfl rfl)
theorem dX21_of_4 : decode cX21_of 4 = .ok (.aload_n 1, 1) := dk_43 (dk_at dksX21_of_0 4 rfl rfl)
theorem dX21_of_5 : decode cX21_of 5 = .ok (.arraylength, 1) := dk_190 (dk_at dksX21_of_0 5 rfl rfl)
theorem dX21_of_6 : decode cX21_of 6 = .ok (.istore_n 2, 1) := dk_61 (dk_at dksX21_of_0 6 rfl rfl)
theorem dX21_of_7 : decode cX21_of 7 = .ok (.iconst 0, 1) := dk_3 (dk_at dksX21_of_0 7 rfl rfl)
theorem dX21_of_8 : decode cX21_of 8 = .ok (.istore_n 3, 1) := dk_62 (dk_at dksX21_of_0 8 rfl rfl)
theorem dX21_of_9 : decode cX21_of 9 = .ok (.iload_n 3, 1) := dk_29 (dk_at dksX21_of_0 9 rfl rfl)
theorem dX21_of_10 : decode cX21_of 10 = .ok (.iload_n 2, 1) := dk_28 (dk_at dksX21_of_0 10 rfl rfl)
theorem dX21_of_11 : decode cX21_of 11 = .ok (.if_icmp .ge 29, 3) := dk_162 0 29 (dk_at dksX21_of_0 11 rfl rfl)
theorem dX21_of_14 : decode cX21_of 14 = .ok (.aload_n 1, 1) := dk_43 (dk_at dksX21_of_0 14 rfl rfl)
theorem dX21_of_15 : decode cX21_of 15 = .ok (.iload_n 3, 1) := dk_29 (dk_at dksX21_of_0 15 rfl rfl)
theorem dX21_of_16 : decode cX21_of 16 = .ok (.aaload, 1) := dk_50 (dk_at dksX21_of_0 16 rfl rfl)
theorem dX21_of_17 : decode cX21_of 17 = .ok (.astore 4, 2) := dk_58 4 (dk_at dksX21_of_0 17 rfl rfl)
theorem dX21_of_19 : decode cX21_of 19 = .ok (.aload_n 0, 1) := dk_42 (dk_at dksX21_of_0 19 rfl rfl)
theorem dX21_of_20 : decode cX21_of 20 = .ok (.aload 4, 2) := dk_25 4 (dk_at dksX21_of_0 20 rfl rfl)
theorem dX21_of_22 : decode cX21_of 22 = .ok (.getfield 56, 3) := dk_180 0 56 (dk_at dksX21_of_1 0 rfl rfl)
theorem dX21_of_25 : decode cX21_of 25 = .ok (.invokevirtual 64, 3) := dk_182 0 64 (dk_at dksX21_of_1 3 rfl rfl)
theorem dX21_of_28 : decode cX21_of 28 = .ok (.ifCond .eq 6, 3) := dk_153 0 6 (dk_at dksX21_of_1 6 rfl rfl)
theorem dX21_of_31 : decode cX21_of 31 = .ok (.aload 4, 2) := dk_25 4 (dk_at dksX21_of_1 9 rfl rfl)
theorem dX21_of_33 : decode cX21_of 33 = .ok (.areturn, 1) := dk_176 (dk_at dksX21_of_1 11 rfl rfl)
theorem dX21_of_34 : decode cX21_of 34 = .ok (.iinc 3 1, 3) := dk_132 3 1 (dk_at dksX21_of_1 12 rfl rfl)
theorem dX21_of_37 : decode cX21_of 37 = .ok (.goto (-28), 3) := dk_167 255 228 (dk_at dksX21_of_1 15 rfl rfl)
theorem dX21_of_40 : decode cX21_of 40 = .ok (.aconst_null, 1) := dk_1 (dk_at dksX21_of_1 18 rfl rfl)
theorem dX21_of_41 : decode cX21_of 41 = .ok (.areturn, 1) := dk_176 (dk_at dksX21_of_1 19 rfl rfl)
abbrev cX21_values : ByteArray := prog_19_method_1_code
def yX21_values : MethodName := ⟨RX21, "values", "()[LPastWatch$Op;"⟩
def dkwX21_values_0 : List UInt8 := [178, 0, 37, 182, 0, 41, 192, 0, 42, 176]
abbrev dktX21_values_0 : List UInt8 := dkwX21_values_0 ++ []
theorem dksX21_values_0 : cX21_values.data.toList.drop 0 = dktX21_values_0 := by decide +kernel
theorem dX21_values_0 : decode cX21_values 0 = .ok (.getstatic 37, 3) := dk_178 0 37 (dk_at dksX21_values_0 0 rfl rfl)
theorem dX21_values_3 : decode cX21_values 3 = .ok (.invokevirtual 41, 3) := dk_182 0 41 (dk_at dksX21_values_0 3 rfl rfl)
theorem dX21_values_6 : decode cX21_values 6 = .ok (.checkcast 42, 3) := dk_192 0 42 (dk_at dksX21_values_0 6 rfl rfl)
theorem dX21_values_9 : decode cX21_values 9 = .ok (.areturn, 1) := dk_176 (dk_at dksX21_values_0 9 rfl rfl)
abbrev cX21_isProduct : ByteArray := prog_19_method_6_code
def yX21_isProduct : MethodName := ⟨RX21, "isProduct", "()Z"⟩
def dkwX21_isProduct_1 : List UInt8 := [167, 0, 4, 3, 172]
abbrev dktX21_isProduct_1 : List UInt8 := dkwX21_isProduct_1 ++ []
def dkwX21_isProduct_0 : List UInt8 := [42, 178, 0, 10, 165, 0, 17, 42, 178, 0, 13, 165, 0, 10, 42, 178, 0, 16, 166, 0, 7, 4]
abbrev dktX21_isProduct_0 : List UInt8 := dkwX21_isProduct_0 ++ dktX21_isProduct_1
theorem dksX21_isProduct_0 : cX21_isProduct.data.toList.drop 0 = dktX21_isProduct_0 := by decide +kernel
theorem dksX21_isProduct_1 : cX21_isProduct.data.toList.drop 22 = dktX21_isProduct_1 := dk_seg dksX21_isProduct_0 22 rfl rfl
theorem dX21_isProduct_0 : decode cX21_isProduct 0 = .ok (.aload_n 0, 1) := dk_42 (dk_at dksX21_isProduct_0 0 rfl rfl)
theorem dX21_isProduct_1 : decode cX21_isProduct 1 = .ok (.getstatic 10, 3) := dk_178 0 10 (dk_at dksX21_isProduct_0 1 rfl rfl)
theorem dX21_isProduct_4 : decode cX21_isProduct 4 = .ok (.if_acmp .eq 17, 3) := dk_165 0 17 (dk_at dksX21_isProduct_0 4 rfl rfl)
theorem dX21_isProduct_7 : decode cX21_isProduct 7 = .ok (.aload_n 0, 1) := dk_42 (dk_at dksX21_isProduct_0 7 rfl rfl)
theorem dX21_isProduct_8 : decode cX21_isProduct 8 = .ok (.getstatic 13, 3) := dk_178 0 13 (dk_at dksX21_isProduct_0 8 rfl rfl)
theorem dX21_isProduct_11 : decode cX21_isProduct 11 = .ok (.if_acmp .eq 10, 3) := dk_165 0 10 (dk_at dksX21_isProduct_0 11 rfl rfl)
theorem dX21_isProduct_14 : decode cX21_isProduct 14 = .ok (.aload_n 0, 1) := dk_42 (dk_at dksX21_isProduct_0 14 rfl rfl)
theorem dX21_isProduct_15 : decode cX21_isProduct 15 = .ok (.getstatic 16, 3) := dk_178 0 16 (dk_at dksX21_isProduct_0 15 rfl rfl)
theorem dX21_isProduct_18 : decode cX21_isProduct 18 = .ok (.if_acmp .ne 7, 3) := dk_166 0 7 (dk_at dksX21_isProduct_0 18 rfl rfl)
theorem dX21_isProduct_21 : decode cX21_isProduct 21 = .ok (.iconst 1, 1) := dk_4 (dk_at dksX21_isProduct_0 21 rfl rfl)
theorem dX21_isProduct_22 : decode cX21_isProduct 22 = .ok (.goto 4, 3) := dk_167 0 4 (dk_at dksX21_isProduct_1 0 rfl rfl)
theorem dX21_isProduct_25 : decode cX21_isProduct 25 = .ok (.iconst 0, 1) := dk_3 (dk_at dksX21_isProduct_1 3 rfl rfl)
theorem dX21_isProduct_26 : decode cX21_isProduct 26 = .ok (.ireturn, 1) := dk_172 (dk_at dksX21_isProduct_1 4 rfl rfl)
abbrev cX21_isSum : ByteArray := prog_19_method_5_code
def yX21_isSum : MethodName := ⟨RX21, "isSum", "()Z"⟩
def dkwX21_isSum_0 : List UInt8 := [42, 178, 0, 3, 165, 0, 10, 42, 178, 0, 7, 166, 0, 7, 4, 167, 0, 4, 3, 172]
abbrev dktX21_isSum_0 : List UInt8 := dkwX21_isSum_0 ++ []
theorem dksX21_isSum_0 : cX21_isSum.data.toList.drop 0 = dktX21_isSum_0 := by decide +kernel
theorem dX21_isSum_0 : decode cX21_isSum 0 = .ok (.aload_n 0, 1) := dk_42 (dk_at dksX21_isSum_0 0 rfl rfl)
theorem dX21_isSum_1 : decode cX21_isSum 1 = .ok (.getstatic 3, 3) := dk_178 0 3 (dk_at dksX21_isSum_0 1 rfl rfl)
theorem dX21_isSum_4 : decode cX21_isSum 4 = .ok (.if_acmp .eq 10, 3) := dk_165 0 10 (dk_at dksX21_isSum_0 4 rfl rfl)
theorem dX21_isSum_7 : decode cX21_isSum 7 = .ok (.aload_n 0, 1) := dk_42 (dk_at dksX21_isSum_0 7 rfl rfl)
theorem dX21_isSum_8 : decode cX21_isSum 8 = .ok (.getstatic 7, 3) := dk_178 0 7 (dk_at dksX21_isSum_0 8 rfl rfl)
theorem dX21_isSum_11 : decode cX21_isSum 11 = .ok (.if_acmp .ne 7, 3) := dk_166 0 7 (dk_at dksX21_isSum_0 11 rfl rfl)
theorem dX21_isSum_14 : decode cX21_isSum 14 = .ok (.iconst 1, 1) := dk_4 (dk_at dksX21_isSum_0 14 rfl rfl)
theorem dX21_isSum_15 : decode cX21_isSum 15 = .ok (.goto 4, 3) := dk_167 0 4 (dk_at dksX21_isSum_0 15 rfl rfl)
theorem dX21_isSum_18 : decode cX21_isSum 18 = .ok (.iconst 0, 1) := dk_3 (dk_at dksX21_isSum_0 18 rfl rfl)
theorem dX21_isSum_19 : decode cX21_isSum 19 = .ok (.ireturn, 1) := dk_172 (dk_at dksX21_isSum_0 19 rfl rfl)
abbrev cX21_isCompare : ByteArray := prog_19_method_7_code
def yX21_isCompare : MethodName := ⟨RX21, "isCompare", "()Z"⟩
def dkwX21_isCompare_0 : List UInt8 := [42, 182, 0, 70, 154, 0, 14, 42, 182, 0, 74, 154, 0, 7, 4, 167, 0, 4, 3, 172]
abbrev dktX21_isCompare_0 : List UInt8 := dkwX21_isCompare_0 ++ []
theorem dksX21_isCompare_0 : cX21_isCompare.data.toList.drop 0 = dktX21_isCompare_0 := by decide +kernel
theorem dX21_isCompare_0 : decode cX21_isCompare 0 = .ok (.aload_n 0, 1) := dk_42 (dk_at dksX21_isCompare_0 0 rfl rfl)
theorem dX21_isCompare_1 : decode cX21_isCompare 1 = .ok (.invokevirtual 70, 3) := dk_182 0 70 (dk_at dksX21_isCompare_0 1 rfl rfl)
theorem dX21_isCompare_4 : decode cX21_isCompare 4 = .ok (.ifCond .ne 14, 3) := dk_154 0 14 (dk_at dksX21_isCompare_0 4 rfl rfl)
theorem dX21_isCompare_7 : decode cX21_isCompare 7 = .ok (.aload_n 0, 1) := dk_42 (dk_at dksX21_isCompare_0 7 rfl rfl)
theorem dX21_isCompare_8 : decode cX21_isCompare 8 = .ok (.invokevirtual 74, 3) := dk_182 0 74 (dk_at dksX21_isCompare_0 8 rfl rfl)
theorem dX21_isCompare_11 : decode cX21_isCompare 11 = .ok (.ifCond .ne 7, 3) := dk_154 0 7 (dk_at dksX21_isCompare_0 11 rfl rfl)
theorem dX21_isCompare_14 : decode cX21_isCompare 14 = .ok (.iconst 1, 1) := dk_4 (dk_at dksX21_isCompare_0 14 rfl rfl)
theorem dX21_isCompare_15 : decode cX21_isCompare 15 = .ok (.goto 4, 3) := dk_167 0 4 (dk_at dksX21_isCompare_0 15 rfl rfl)
theorem dX21_isCompare_18 : decode cX21_isCompare 18 = .ok (.iconst 0, 1) := dk_3 (dk_at dksX21_isCompare_0 18 rfl rfl)
theorem dX21_isCompare_19 : decode cX21_isCompare 19 = .ok (.ireturn, 1) := dk_172 (dk_at dksX21_isCompare_0 19 rfl rfl)
abbrev cX21_reckon : ByteArray := prog_19_method_8_code
def yX21_reckon : MethodName := ⟨RX21, "reckon", "(JJ)J"⟩
def dkwX21_reckon_7 : List UInt8 := [155, 0, 7, 4, 167, 0, 4, 3, 184, 0, 81, 173]
abbrev dktX21_reckon_7 : List UInt8 := dkwX21_reckon_7 ++ []
def dkwX21_reckon_6 : List UInt8 := [3, 184, 0, 81, 173, 31, 33, 148, 157, 0, 7, 4, 167, 0, 4, 3, 184, 0, 81, 173, 31, 33, 148]
abbrev dktX21_reckon_6 : List UInt8 := dkwX21_reckon_6 ++ dktX21_reckon_7
def dkwX21_reckon_5 : List UInt8 := [33, 148, 156, 0, 7, 4, 167, 0, 4, 3, 184, 0, 81, 173, 31, 33, 148, 158, 0, 7, 4, 167, 0, 4]
abbrev dktX21_reckon_5 : List UInt8 := dkwX21_reckon_5 ++ dktX21_reckon_6
def dkwX21_reckon_4 : List UInt8 := [167, 0, 4, 3, 184, 0, 81, 173, 31, 33, 148, 153, 0, 7, 4, 167, 0, 4, 3, 184, 0, 81, 173, 31]
abbrev dktX21_reckon_4 : List UInt8 := dkwX21_reckon_4 ++ dktX21_reckon_5
def dkwX21_reckon_3 : List UInt8 := [109, 173, 33, 9, 148, 154, 0, 7, 9, 167, 0, 6, 31, 33, 113, 173, 31, 33, 148, 154, 0, 7, 4]
abbrev dktX21_reckon_3 : List UInt8 := dkwX21_reckon_3 ++ dktX21_reckon_4
def dkwX21_reckon_2 : List UInt8 := [31, 33, 97, 173, 31, 33, 101, 173, 31, 33, 105, 173, 33, 9, 148, 154, 0, 7, 9, 167, 0, 6, 31, 33]
abbrev dktX21_reckon_2 : List UInt8 := dkwX21_reckon_2 ++ dktX21_reckon_3
def dkwX21_reckon_1 : List UInt8 := [170, 0, 0, 0, 0, 0, 0, 171, 0, 0, 0, 0, 0, 0, 0, 9, 0, 0, 0, 56, 0, 0, 0, 60, 0, 0, 0, 64, 0, 0, 0, 68, 0, 0, 0, 82, 0, 0, 0, 96, 0, 0, 0, 111, 0, 0, 0, 126, 0, 0, 0, 141, 0, 0, 0, 156]
abbrev dktX21_reckon_1 : List UInt8 := dkwX21_reckon_1 ++ dktX21_reckon_2
def dkwX21_reckon_0 : List UInt8 := [42, 182, 0, 77]
abbrev dktX21_reckon_0 : List UInt8 := dkwX21_reckon_0 ++ dktX21_reckon_1
theorem dksX21_reckon_0 : cX21_reckon.data.toList.drop 0 = dktX21_reckon_0 := by decide +kernel
theorem dksX21_reckon_1 : cX21_reckon.data.toList.drop 4 = dktX21_reckon_1 := dk_seg dksX21_reckon_0 4 rfl rfl
theorem dksX21_reckon_2 : cX21_reckon.data.toList.drop 60 = dktX21_reckon_2 := dk_seg dksX21_reckon_1 56 rfl rfl
theorem dksX21_reckon_3 : cX21_reckon.data.toList.drop 84 = dktX21_reckon_3 := dk_seg dksX21_reckon_2 24 rfl rfl
theorem dksX21_reckon_4 : cX21_reckon.data.toList.drop 107 = dktX21_reckon_4 := dk_seg dksX21_reckon_3 23 rfl rfl
theorem dksX21_reckon_5 : cX21_reckon.data.toList.drop 131 = dktX21_reckon_5 := dk_seg dksX21_reckon_4 24 rfl rfl
theorem dksX21_reckon_6 : cX21_reckon.data.toList.drop 155 = dktX21_reckon_6 := dk_seg dksX21_reckon_5 24 rfl rfl
theorem dksX21_reckon_7 : cX21_reckon.data.toList.drop 178 = dktX21_reckon_7 := dk_seg dksX21_reckon_6 23 rfl rfl
theorem dX21_reckon_0 : decode cX21_reckon 0 = .ok (.aload_n 0, 1) := dk_42 (dk_at dksX21_reckon_0 0 rfl rfl)
theorem dX21_reckon_1 : decode cX21_reckon 1 = .ok (.invokevirtual 77, 3) := dk_182 0 77 (dk_at dksX21_reckon_0 1 rfl rfl)
theorem dX21_reckon_4 : decode cX21_reckon 4 = .ok (.tableswitch 171 0 9 #[56, 60, 64, 68, 82, 96, 111, 126, 141, 156], 56) := by decide +kernel
theorem dX21_reckon_60 : decode cX21_reckon 60 = .ok (.lload_n 1, 1) := dk_31 (dk_at dksX21_reckon_2 0 rfl rfl)
theorem dX21_reckon_61 : decode cX21_reckon 61 = .ok (.lload_n 3, 1) := dk_33 (dk_at dksX21_reckon_2 1 rfl rfl)
theorem dX21_reckon_62 : decode cX21_reckon 62 = .ok (.ladd, 1) := dk_97 (dk_at dksX21_reckon_2 2 rfl rfl)
theorem dX21_reckon_63 : decode cX21_reckon 63 = .ok (.lreturn, 1) := dk_173 (dk_at dksX21_reckon_2 3 rfl rfl)
theorem dX21_reckon_64 : decode cX21_reckon 64 = .ok (.lload_n 1, 1) := dk_31 (dk_at dksX21_reckon_2 4 rfl rfl)
theorem dX21_reckon_65 : decode cX21_reckon 65 = .ok (.lload_n 3, 1) := dk_33 (dk_at dksX21_reckon_2 5 rfl rfl)
theorem dX21_reckon_66 : decode cX21_reckon 66 = .ok (.lsub, 1) := dk_101 (dk_at dksX21_reckon_2 6 rfl rfl)
theorem dX21_reckon_67 : decode cX21_reckon 67 = .ok (.lreturn, 1) := dk_173 (dk_at dksX21_reckon_2 7 rfl rfl)
theorem dX21_reckon_68 : decode cX21_reckon 68 = .ok (.lload_n 1, 1) := dk_31 (dk_at dksX21_reckon_2 8 rfl rfl)
theorem dX21_reckon_69 : decode cX21_reckon 69 = .ok (.lload_n 3, 1) := dk_33 (dk_at dksX21_reckon_2 9 rfl rfl)
theorem dX21_reckon_70 : decode cX21_reckon 70 = .ok (.lmul, 1) := dk_105 (dk_at dksX21_reckon_2 10 rfl rfl)
theorem dX21_reckon_71 : decode cX21_reckon 71 = .ok (.lreturn, 1) := dk_173 (dk_at dksX21_reckon_2 11 rfl rfl)
theorem dX21_reckon_72 : decode cX21_reckon 72 = .ok (.lload_n 3, 1) := dk_33 (dk_at dksX21_reckon_2 12 rfl rfl)
theorem dX21_reckon_73 : decode cX21_reckon 73 = .ok (.lconst 0, 1) := dk_9 (dk_at dksX21_reckon_2 13 rfl rfl)
theorem dX21_reckon_74 : decode cX21_reckon 74 = .ok (.lcmp, 1) := dk_148 (dk_at dksX21_reckon_2 14 rfl rfl)
theorem dX21_reckon_75 : decode cX21_reckon 75 = .ok (.ifCond .ne 7, 3) := dk_154 0 7 (dk_at dksX21_reckon_2 15 rfl rfl)
theorem dX21_reckon_78 : decode cX21_reckon 78 = .ok (.lconst 0, 1) := dk_9 (dk_at dksX21_reckon_2 18 rfl rfl)
theorem dX21_reckon_79 : decode cX21_reckon 79 = .ok (.goto 6, 3) := dk_167 0 6 (dk_at dksX21_reckon_2 19 rfl rfl)
theorem dX21_reckon_82 : decode cX21_reckon 82 = .ok (.lload_n 1, 1) := dk_31 (dk_at dksX21_reckon_2 22 rfl rfl)
theorem dX21_reckon_83 : decode cX21_reckon 83 = .ok (.lload_n 3, 1) := dk_33 (dk_at dksX21_reckon_2 23 rfl rfl)
theorem dX21_reckon_84 : decode cX21_reckon 84 = .ok (.ldiv, 1) := dk_109 (dk_at dksX21_reckon_3 0 rfl rfl)
theorem dX21_reckon_85 : decode cX21_reckon 85 = .ok (.lreturn, 1) := dk_173 (dk_at dksX21_reckon_3 1 rfl rfl)
theorem dX21_reckon_86 : decode cX21_reckon 86 = .ok (.lload_n 3, 1) := dk_33 (dk_at dksX21_reckon_3 2 rfl rfl)
theorem dX21_reckon_87 : decode cX21_reckon 87 = .ok (.lconst 0, 1) := dk_9 (dk_at dksX21_reckon_3 3 rfl rfl)
theorem dX21_reckon_88 : decode cX21_reckon 88 = .ok (.lcmp, 1) := dk_148 (dk_at dksX21_reckon_3 4 rfl rfl)
theorem dX21_reckon_89 : decode cX21_reckon 89 = .ok (.ifCond .ne 7, 3) := dk_154 0 7 (dk_at dksX21_reckon_3 5 rfl rfl)
theorem dX21_reckon_92 : decode cX21_reckon 92 = .ok (.lconst 0, 1) := dk_9 (dk_at dksX21_reckon_3 8 rfl rfl)
theorem dX21_reckon_93 : decode cX21_reckon 93 = .ok (.goto 6, 3) := dk_167 0 6 (dk_at dksX21_reckon_3 9 rfl rfl)
theorem dX21_reckon_96 : decode cX21_reckon 96 = .ok (.lload_n 1, 1) := dk_31 (dk_at dksX21_reckon_3 12 rfl rfl)
theorem dX21_reckon_97 : decode cX21_reckon 97 = .ok (.lload_n 3, 1) := dk_33 (dk_at dksX21_reckon_3 13 rfl rfl)
theorem dX21_reckon_98 : decode cX21_reckon 98 = .ok (.lrem, 1) := dk_113 (dk_at dksX21_reckon_3 14 rfl rfl)
theorem dX21_reckon_99 : decode cX21_reckon 99 = .ok (.lreturn, 1) := dk_173 (dk_at dksX21_reckon_3 15 rfl rfl)
theorem dX21_reckon_100 : decode cX21_reckon 100 = .ok (.lload_n 1, 1) := dk_31 (dk_at dksX21_reckon_3 16 rfl rfl)
theorem dX21_reckon_101 : decode cX21_reckon 101 = .ok (.lload_n 3, 1) := dk_33 (dk_at dksX21_reckon_3 17 rfl rfl)
theorem dX21_reckon_102 : decode cX21_reckon 102 = .ok (.lcmp, 1) := dk_148 (dk_at dksX21_reckon_3 18 rfl rfl)
theorem dX21_reckon_103 : decode cX21_reckon 103 = .ok (.ifCond .ne 7, 3) := dk_154 0 7 (dk_at dksX21_reckon_3 19 rfl rfl)
theorem dX21_reckon_106 : decode cX21_reckon 106 = .ok (.iconst 1, 1) := dk_4 (dk_at dksX21_reckon_3 22 rfl rfl)
theorem dX21_reckon_107 : decode cX21_reckon 107 = .ok (.goto 4, 3) := dk_167 0 4 (dk_at dksX21_reckon_4 0 rfl rfl)
theorem dX21_reckon_110 : decode cX21_reckon 110 = .ok (.iconst 0, 1) := dk_3 (dk_at dksX21_reckon_4 3 rfl rfl)
theorem dX21_reckon_111 : decode cX21_reckon 111 = .ok (.invokestatic 81, 3) := dk_184 0 81 (dk_at dksX21_reckon_4 4 rfl rfl)
theorem dX21_reckon_114 : decode cX21_reckon 114 = .ok (.lreturn, 1) := dk_173 (dk_at dksX21_reckon_4 7 rfl rfl)
theorem dX21_reckon_115 : decode cX21_reckon 115 = .ok (.lload_n 1, 1) := dk_31 (dk_at dksX21_reckon_4 8 rfl rfl)
theorem dX21_reckon_116 : decode cX21_reckon 116 = .ok (.lload_n 3, 1) := dk_33 (dk_at dksX21_reckon_4 9 rfl rfl)
theorem dX21_reckon_117 : decode cX21_reckon 117 = .ok (.lcmp, 1) := dk_148 (dk_at dksX21_reckon_4 10 rfl rfl)
theorem dX21_reckon_118 : decode cX21_reckon 118 = .ok (.ifCond .eq 7, 3) := dk_153 0 7 (dk_at dksX21_reckon_4 11 rfl rfl)
theorem dX21_reckon_121 : decode cX21_reckon 121 = .ok (.iconst 1, 1) := dk_4 (dk_at dksX21_reckon_4 14 rfl rfl)
theorem dX21_reckon_122 : decode cX21_reckon 122 = .ok (.goto 4, 3) := dk_167 0 4 (dk_at dksX21_reckon_4 15 rfl rfl)
theorem dX21_reckon_125 : decode cX21_reckon 125 = .ok (.iconst 0, 1) := dk_3 (dk_at dksX21_reckon_4 18 rfl rfl)
theorem dX21_reckon_126 : decode cX21_reckon 126 = .ok (.invokestatic 81, 3) := dk_184 0 81 (dk_at dksX21_reckon_4 19 rfl rfl)
theorem dX21_reckon_129 : decode cX21_reckon 129 = .ok (.lreturn, 1) := dk_173 (dk_at dksX21_reckon_4 22 rfl rfl)
theorem dX21_reckon_130 : decode cX21_reckon 130 = .ok (.lload_n 1, 1) := dk_31 (dk_at dksX21_reckon_4 23 rfl rfl)
theorem dX21_reckon_131 : decode cX21_reckon 131 = .ok (.lload_n 3, 1) := dk_33 (dk_at dksX21_reckon_5 0 rfl rfl)
theorem dX21_reckon_132 : decode cX21_reckon 132 = .ok (.lcmp, 1) := dk_148 (dk_at dksX21_reckon_5 1 rfl rfl)
theorem dX21_reckon_133 : decode cX21_reckon 133 = .ok (.ifCond .ge 7, 3) := dk_156 0 7 (dk_at dksX21_reckon_5 2 rfl rfl)
theorem dX21_reckon_136 : decode cX21_reckon 136 = .ok (.iconst 1, 1) := dk_4 (dk_at dksX21_reckon_5 5 rfl rfl)
theorem dX21_reckon_137 : decode cX21_reckon 137 = .ok (.goto 4, 3) := dk_167 0 4 (dk_at dksX21_reckon_5 6 rfl rfl)
theorem dX21_reckon_140 : decode cX21_reckon 140 = .ok (.iconst 0, 1) := dk_3 (dk_at dksX21_reckon_5 9 rfl rfl)
theorem dX21_reckon_141 : decode cX21_reckon 141 = .ok (.invokestatic 81, 3) := dk_184 0 81 (dk_at dksX21_reckon_5 10 rfl rfl)
theorem dX21_reckon_144 : decode cX21_reckon 144 = .ok (.lreturn, 1) := dk_173 (dk_at dksX21_reckon_5 13 rfl rfl)
theorem dX21_reckon_145 : decode cX21_reckon 145 = .ok (.lload_n 1, 1) := dk_31 (dk_at dksX21_reckon_5 14 rfl rfl)
theorem dX21_reckon_146 : decode cX21_reckon 146 = .ok (.lload_n 3, 1) := dk_33 (dk_at dksX21_reckon_5 15 rfl rfl)
theorem dX21_reckon_147 : decode cX21_reckon 147 = .ok (.lcmp, 1) := dk_148 (dk_at dksX21_reckon_5 16 rfl rfl)
theorem dX21_reckon_148 : decode cX21_reckon 148 = .ok (.ifCond .le 7, 3) := dk_158 0 7 (dk_at dksX21_reckon_5 17 rfl rfl)
theorem dX21_reckon_151 : decode cX21_reckon 151 = .ok (.iconst 1, 1) := dk_4 (dk_at dksX21_reckon_5 20 rfl rfl)
theorem dX21_reckon_152 : decode cX21_reckon 152 = .ok (.goto 4, 3) := dk_167 0 4 (dk_at dksX21_reckon_5 21 rfl rfl)
theorem dX21_reckon_155 : decode cX21_reckon 155 = .ok (.iconst 0, 1) := dk_3 (dk_at dksX21_reckon_6 0 rfl rfl)
theorem dX21_reckon_156 : decode cX21_reckon 156 = .ok (.invokestatic 81, 3) := dk_184 0 81 (dk_at dksX21_reckon_6 1 rfl rfl)
theorem dX21_reckon_159 : decode cX21_reckon 159 = .ok (.lreturn, 1) := dk_173 (dk_at dksX21_reckon_6 4 rfl rfl)
theorem dX21_reckon_160 : decode cX21_reckon 160 = .ok (.lload_n 1, 1) := dk_31 (dk_at dksX21_reckon_6 5 rfl rfl)
theorem dX21_reckon_161 : decode cX21_reckon 161 = .ok (.lload_n 3, 1) := dk_33 (dk_at dksX21_reckon_6 6 rfl rfl)
theorem dX21_reckon_162 : decode cX21_reckon 162 = .ok (.lcmp, 1) := dk_148 (dk_at dksX21_reckon_6 7 rfl rfl)
theorem dX21_reckon_163 : decode cX21_reckon 163 = .ok (.ifCond .gt 7, 3) := dk_157 0 7 (dk_at dksX21_reckon_6 8 rfl rfl)
theorem dX21_reckon_166 : decode cX21_reckon 166 = .ok (.iconst 1, 1) := dk_4 (dk_at dksX21_reckon_6 11 rfl rfl)
theorem dX21_reckon_167 : decode cX21_reckon 167 = .ok (.goto 4, 3) := dk_167 0 4 (dk_at dksX21_reckon_6 12 rfl rfl)
theorem dX21_reckon_170 : decode cX21_reckon 170 = .ok (.iconst 0, 1) := dk_3 (dk_at dksX21_reckon_6 15 rfl rfl)
theorem dX21_reckon_171 : decode cX21_reckon 171 = .ok (.invokestatic 81, 3) := dk_184 0 81 (dk_at dksX21_reckon_6 16 rfl rfl)
theorem dX21_reckon_174 : decode cX21_reckon 174 = .ok (.lreturn, 1) := dk_173 (dk_at dksX21_reckon_6 19 rfl rfl)
theorem dX21_reckon_175 : decode cX21_reckon 175 = .ok (.lload_n 1, 1) := dk_31 (dk_at dksX21_reckon_6 20 rfl rfl)
theorem dX21_reckon_176 : decode cX21_reckon 176 = .ok (.lload_n 3, 1) := dk_33 (dk_at dksX21_reckon_6 21 rfl rfl)
theorem dX21_reckon_177 : decode cX21_reckon 177 = .ok (.lcmp, 1) := dk_148 (dk_at dksX21_reckon_6 22 rfl rfl)
theorem dX21_reckon_178 : decode cX21_reckon 178 = .ok (.ifCond .lt 7, 3) := dk_155 0 7 (dk_at dksX21_reckon_7 0 rfl rfl)
theorem dX21_reckon_181 : decode cX21_reckon 181 = .ok (.iconst 1, 1) := dk_4 (dk_at dksX21_reckon_7 3 rfl rfl)
theorem dX21_reckon_182 : decode cX21_reckon 182 = .ok (.goto 4, 3) := dk_167 0 4 (dk_at dksX21_reckon_7 4 rfl rfl)
theorem dX21_reckon_185 : decode cX21_reckon 185 = .ok (.iconst 0, 1) := dk_3 (dk_at dksX21_reckon_7 7 rfl rfl)
theorem dX21_reckon_186 : decode cX21_reckon 186 = .ok (.invokestatic 81, 3) := dk_184 0 81 (dk_at dksX21_reckon_7 8 rfl rfl)
theorem dX21_reckon_189 : decode cX21_reckon 189 = .ok (.lreturn, 1) := dk_173 (dk_at dksX21_reckon_7 11 rfl rfl)
theorem q159 : (Jvm.Cond.initialized "PastWatch$Op") ∈ lw_all := lw_g (lw_at lw_m1 54 rfl) rfl
theorem q940 : (Jvm.Cond.selects "PastWatch$Op" ({ cls := "java/lang/Object", name := "getClass", desc := "()Ljava/lang/Class;" } : Jvm.MethodName) ({ cls := "java/lang/Object", name := "getClass", desc := "()Ljava/lang/Class;" } : Jvm.MethodName)) ∈ lw_all := lw_g (lw_at lw_m4 115 rfl) rfl
theorem q1141 : (Jvm.Cond.selects "PastWatch$Op" ({ cls := "java/lang/Object", name := "hashCode", desc := "()I" } : Jvm.MethodName) ({ cls := "java/lang/Enum", name := "hashCode", desc := "()I" } : Jvm.MethodName)) ∈ lw_all := lw_g (lw_at lw_m5 76 rfl) rfl
theorem q1187 : (Jvm.Cond.selects "PastWatch$Op" ({ cls := "java/lang/Object", name := "equals", desc := "(Ljava/lang/Object;)Z" } : Jvm.MethodName) ({ cls := "java/lang/Enum", name := "equals", desc := "(Ljava/lang/Object;)Z" } : Jvm.MethodName)) ∈ lw_all := lw_g (lw_at lw_m5 122 rfl) rfl
theorem q1252 : (Jvm.Cond.selects "PastWatch$Op" ({ cls := "java/lang/Enum", name := "compareTo", desc := "(Ljava/lang/Enum;)I" } : Jvm.MethodName) ({ cls := "java/lang/Enum", name := "compareTo", desc := "(Ljava/lang/Enum;)I" } : Jvm.MethodName)) ∈ lw_all := lw_g (lw_at lw_m5 187 rfl) rfl
theorem q1264 : (Jvm.Cond.selects "PastWatch$Op" ({ cls := "java/lang/Enum", name := "getDeclaringClass", desc := "()Ljava/lang/Class;" } : Jvm.MethodName) ({ cls := "java/lang/Enum", name := "getDeclaringClass", desc := "()Ljava/lang/Class;" } : Jvm.MethodName)) ∈ lw_all := lw_g (lw_at lw_m5 199 rfl) rfl
theorem q1277 : (Jvm.Cond.castable "PastWatch$Op" "java/lang/Comparable") ∈ lw_tbl := lw_at lw_m5 212 rfl
theorem q1278 : (Jvm.Cond.selects "PastWatch$Op" ({ cls := "java/lang/Comparable", name := "compareTo", desc := "(Ljava/lang/Object;)I" } : Jvm.MethodName) ({ cls := "java/lang/Enum", name := "compareTo", desc := "(Ljava/lang/Object;)I" } : Jvm.MethodName)) ∈ lw_all := lw_g (lw_at lw_m5 213 rfl) rfl
theorem q1279 : (Jvm.Cond.unhidden "PastWatch$Op" "compareTo" "(Ljava/lang/Object;)I") ∈ lw_tbl := lw_at lw_m5 214 rfl
theorem q1924 : (Jvm.Cond.static ({ cls := "PastWatch$Op", name := "of", desc := "(LPastWatch$Token;)LPastWatch$Op;" } : Jvm.MethodName)) ∈ lw_all := lw_g (lw_at lw_m8 139 rfl) rfl
theorem q1925 : (Jvm.Cond.code ({ cls := "PastWatch$Op", name := "of", desc := "(LPastWatch$Token;)LPastWatch$Op;" } : Jvm.MethodName) prog_19_method_4_code (5 : Nat) (Option.some (Jvm.ClassFile.FieldType.object "PastWatch$Op"))) ∈ lw_all := lw_g (lw_at lw_m8 140 rfl) rfl
theorem q1926 : (Jvm.Cond.methodLink "PastWatch$Op" (60 : Nat) ({ cls := "PastWatch$Op", name := "values", desc := "()[LPastWatch$Op;" } : Jvm.MethodName)) ∈ lw_all := lw_g (lw_at lw_m8 141 rfl) rfl
theorem q1927 : (Jvm.Cond.static ({ cls := "PastWatch$Op", name := "values", desc := "()[LPastWatch$Op;" } : Jvm.MethodName)) ∈ lw_all := lw_g (lw_at lw_m8 142 rfl) rfl
theorem q1928 : (Jvm.Cond.code ({ cls := "PastWatch$Op", name := "values", desc := "()[LPastWatch$Op;" } : Jvm.MethodName) prog_19_method_1_code (0 : Nat) (Option.some (Jvm.ClassFile.FieldType.array (Jvm.ClassFile.FieldType.object "PastWatch$Op")))) ∈ lw_all := lw_g (lw_at lw_m8 143 rfl) rfl
theorem q1929 : (Jvm.Cond.fieldLink "PastWatch$Op" (37 : Nat) "PastWatch$Op" "$VALUES" "[LPastWatch$Op;") ∈ lw_all := lw_g (lw_at lw_m8 144 rfl) rfl
theorem q1930 : (Jvm.Cond.laysStatic "PastWatch$Op" "$VALUES" "[LPastWatch$Op;") ∈ lw_tbl := lw_at lw_m8 145 rfl
theorem q1931 : (Jvm.Cond.methodLink "PastWatch$Op" (41 : Nat) ({ cls := "[LPastWatch$Op;", name := "clone", desc := "()Ljava/lang/Object;" } : Jvm.MethodName)) ∈ lw_all := lw_g (lw_at lw_m8 146 rfl) rfl
theorem q1936 : (Jvm.Cond.classLink "PastWatch$Op" (42 : Nat) "[LPastWatch$Op;") ∈ lw_all := lw_g (lw_at lw_m8 151 rfl) rfl
theorem q1937 : (Jvm.Cond.methodLink "PastWatch$Op" (64 : Nat) ({ cls := "PastWatch$Token", name := "is", desc := "(Ljava/lang/String;)Z" } : Jvm.MethodName)) ∈ lw_all := lw_g (lw_at lw_m8 152 rfl) rfl
theorem q1939 : (Jvm.Cond.instanceMethod ({ cls := "PastWatch$Op", name := "isProduct", desc := "()Z" } : Jvm.MethodName)) ∈ lw_all := lw_g (lw_at lw_m8 154 rfl) rfl
theorem q1940 : (Jvm.Cond.selects "PastWatch$Op" ({ cls := "PastWatch$Op", name := "isProduct", desc := "()Z" } : Jvm.MethodName) ({ cls := "PastWatch$Op", name := "isProduct", desc := "()Z" } : Jvm.MethodName)) ∈ lw_all := lw_g (lw_at lw_m8 155 rfl) rfl
theorem q1941 : (Jvm.Cond.code ({ cls := "PastWatch$Op", name := "isProduct", desc := "()Z" } : Jvm.MethodName) prog_19_method_6_code (1 : Nat) (Option.some Jvm.ClassFile.FieldType.boolean)) ∈ lw_all := lw_g (lw_at lw_m8 156 rfl) rfl
theorem q1942 : (Jvm.Cond.fieldLink "PastWatch$Op" (10 : Nat) "PastWatch$Op" "TIMES" "LPastWatch$Op;") ∈ lw_all := lw_g (lw_at lw_m8 157 rfl) rfl
theorem q1943 : (Jvm.Cond.laysStatic "PastWatch$Op" "TIMES" "LPastWatch$Op;") ∈ lw_tbl := lw_at lw_m8 158 rfl
theorem q1944 : (Jvm.Cond.fieldLink "PastWatch$Op" (13 : Nat) "PastWatch$Op" "BY" "LPastWatch$Op;") ∈ lw_all := lw_g (lw_at lw_m8 159 rfl) rfl
theorem q1945 : (Jvm.Cond.laysStatic "PastWatch$Op" "BY" "LPastWatch$Op;") ∈ lw_tbl := lw_at lw_m8 160 rfl
theorem q1946 : (Jvm.Cond.fieldLink "PastWatch$Op" (16 : Nat) "PastWatch$Op" "REST" "LPastWatch$Op;") ∈ lw_all := lw_g (lw_at lw_m8 161 rfl) rfl
theorem q1947 : (Jvm.Cond.laysStatic "PastWatch$Op" "REST" "LPastWatch$Op;") ∈ lw_tbl := lw_at lw_m8 162 rfl
theorem q1967 : (Jvm.Cond.instanceMethod ({ cls := "PastWatch$Op", name := "isSum", desc := "()Z" } : Jvm.MethodName)) ∈ lw_all := lw_g (lw_at lw_m8 182 rfl) rfl
theorem q1968 : (Jvm.Cond.selects "PastWatch$Op" ({ cls := "PastWatch$Op", name := "isSum", desc := "()Z" } : Jvm.MethodName) ({ cls := "PastWatch$Op", name := "isSum", desc := "()Z" } : Jvm.MethodName)) ∈ lw_all := lw_g (lw_at lw_m8 183 rfl) rfl
theorem q1969 : (Jvm.Cond.code ({ cls := "PastWatch$Op", name := "isSum", desc := "()Z" } : Jvm.MethodName) prog_19_method_5_code (1 : Nat) (Option.some Jvm.ClassFile.FieldType.boolean)) ∈ lw_all := lw_g (lw_at lw_m8 184 rfl) rfl
theorem q1970 : (Jvm.Cond.fieldLink "PastWatch$Op" (3 : Nat) "PastWatch$Op" "ADD" "LPastWatch$Op;") ∈ lw_all := lw_g (lw_at lw_m8 185 rfl) rfl
theorem q1971 : (Jvm.Cond.laysStatic "PastWatch$Op" "ADD" "LPastWatch$Op;") ∈ lw_tbl := lw_at lw_m8 186 rfl
theorem q1972 : (Jvm.Cond.fieldLink "PastWatch$Op" (7 : Nat) "PastWatch$Op" "SUBTRACT" "LPastWatch$Op;") ∈ lw_all := lw_g (lw_at lw_m8 187 rfl) rfl
theorem q1973 : (Jvm.Cond.laysStatic "PastWatch$Op" "SUBTRACT" "LPastWatch$Op;") ∈ lw_tbl := lw_at lw_m8 188 rfl
theorem q1975 : (Jvm.Cond.instanceMethod ({ cls := "PastWatch$Op", name := "isCompare", desc := "()Z" } : Jvm.MethodName)) ∈ lw_all := lw_g (lw_at lw_m8 190 rfl) rfl
theorem q1976 : (Jvm.Cond.selects "PastWatch$Op" ({ cls := "PastWatch$Op", name := "isCompare", desc := "()Z" } : Jvm.MethodName) ({ cls := "PastWatch$Op", name := "isCompare", desc := "()Z" } : Jvm.MethodName)) ∈ lw_all := lw_g (lw_at lw_m8 191 rfl) rfl
theorem q1977 : (Jvm.Cond.code ({ cls := "PastWatch$Op", name := "isCompare", desc := "()Z" } : Jvm.MethodName) prog_19_method_7_code (1 : Nat) (Option.some Jvm.ClassFile.FieldType.boolean)) ∈ lw_all := lw_g (lw_at lw_m8 192 rfl) rfl
theorem q1978 : (Jvm.Cond.methodLink "PastWatch$Op" (70 : Nat) ({ cls := "PastWatch$Op", name := "isSum", desc := "()Z" } : Jvm.MethodName)) ∈ lw_all := lw_g (lw_at lw_m8 193 rfl) rfl
theorem q1979 : (Jvm.Cond.methodLink "PastWatch$Op" (74 : Nat) ({ cls := "PastWatch$Op", name := "isProduct", desc := "()Z" } : Jvm.MethodName)) ∈ lw_all := lw_g (lw_at lw_m8 194 rfl) rfl
theorem q2329 : (Jvm.Cond.instanceMethod ({ cls := "PastWatch$Op", name := "reckon", desc := "(JJ)J" } : Jvm.MethodName)) ∈ lw_all := lw_g (lw_at lw_m10 64 rfl) rfl
theorem q2330 : (Jvm.Cond.selects "PastWatch$Op" ({ cls := "PastWatch$Op", name := "reckon", desc := "(JJ)J" } : Jvm.MethodName) ({ cls := "PastWatch$Op", name := "reckon", desc := "(JJ)J" } : Jvm.MethodName)) ∈ lw_all := lw_g (lw_at lw_m10 65 rfl) rfl
theorem q2331 : (Jvm.Cond.code ({ cls := "PastWatch$Op", name := "reckon", desc := "(JJ)J" } : Jvm.MethodName) prog_19_method_8_code (5 : Nat) (Option.some Jvm.ClassFile.FieldType.long)) ∈ lw_all := lw_g (lw_at lw_m10 66 rfl) rfl
theorem q2332 : (Jvm.Cond.methodLink "PastWatch$Op" (77 : Nat) ({ cls := "PastWatch$Op", name := "ordinal", desc := "()I" } : Jvm.MethodName)) ∈ lw_all := lw_g (lw_at lw_m10 67 rfl) rfl
theorem q2333 : (Jvm.Cond.sameMethod "PastWatch$Op" "java/lang/Enum" "ordinal" "()I") ∈ lw_all := lw_g (lw_at lw_m10 68 rfl) rfl
theorem q2334 : (Jvm.Cond.selects "PastWatch$Op" ({ cls := "PastWatch$Op", name := "ordinal", desc := "()I" } : Jvm.MethodName) ({ cls := "java/lang/Enum", name := "ordinal", desc := "()I" } : Jvm.MethodName)) ∈ lw_all := lw_g (lw_at lw_m10 69 rfl) rfl
theorem q2335 : (Jvm.Cond.methodLinkNest "PastWatch$Op" (81 : Nat) ({ cls := "PastWatch", name := "asNumber", desc := "(Z)J" } : Jvm.MethodName) "PastWatch") ∈ lw_tbl := lw_at lw_m10 70 rfl
theorem q3238 : (Jvm.Cond.castable "PastWatch$Op" "java/lang/Enum") ∈ lw_tbl := lw_at lw_m14 13 rfl
theorem q3257 : (Jvm.Cond.castable "PastWatch$Op" "java/lang/Object") ∈ lw_tbl := lw_at lw_m14 32 rfl
theorem q3318 : (Jvm.Cond.fieldLink "PastWatch$Op" (56 : Nat) "PastWatch$Op" "sign" "Ljava/lang/String;") ∈ lw_all := lw_g (lw_at lw_m14 93 rfl) rfl
theorem q3319 : (Jvm.Cond.laysStatic "PastWatch$Op" "EQUAL" "LPastWatch$Op;") ∈ lw_tbl := lw_at lw_m14 94 rfl
theorem q3320 : (Jvm.Cond.laysStatic "PastWatch$Op" "OTHER" "LPastWatch$Op;") ∈ lw_tbl := lw_at lw_m14 95 rfl
theorem q3321 : (Jvm.Cond.laysStatic "PastWatch$Op" "LESS" "LPastWatch$Op;") ∈ lw_tbl := lw_at lw_m14 96 rfl
theorem q3322 : (Jvm.Cond.laysStatic "PastWatch$Op" "MORE" "LPastWatch$Op;") ∈ lw_tbl := lw_at lw_m14 97 rfl
theorem q3323 : (Jvm.Cond.laysStatic "PastWatch$Op" "AT_MOST" "LPastWatch$Op;") ∈ lw_tbl := lw_at lw_m14 98 rfl
theorem q3324 : (Jvm.Cond.laysStatic "PastWatch$Op" "AT_LEAST" "LPastWatch$Op;") ∈ lw_tbl := lw_at lw_m14 99 rfl
theorem q3325 : (Jvm.Cond.stringRef "PastWatch$Op" (97 : Nat) "*") ∈ lw_tbl := lw_at lw_m14 100 rfl
theorem q3326 : (Jvm.Cond.stringRef "PastWatch$Op" (100 : Nat) "/") ∈ lw_tbl := lw_at lw_m14 101 rfl
theorem q3327 : (Jvm.Cond.stringRef "PastWatch$Op" (103 : Nat) "%") ∈ lw_tbl := lw_at lw_m14 102 rfl
theorem q3328 : (Jvm.Cond.stringRef "PastWatch$Op" (88 : Nat) "+") ∈ lw_tbl := lw_at lw_m14 103 rfl
theorem q3329 : (Jvm.Cond.stringRef "PastWatch$Op" (94 : Nat) "-") ∈ lw_tbl := lw_at lw_m14 104 rfl
theorem q3345 : (Jvm.Cond.stringRef "PastWatch$Op" (106 : Nat) "=") ∈ lw_tbl := lw_at lw_m14 120 rfl
theorem q3346 : (Jvm.Cond.stringRef "PastWatch$Op" (109 : Nat) "<>") ∈ lw_tbl := lw_at lw_m14 121 rfl
theorem q3347 : (Jvm.Cond.stringRef "PastWatch$Op" (112 : Nat) "<") ∈ lw_tbl := lw_at lw_m14 122 rfl
theorem q3348 : (Jvm.Cond.stringRef "PastWatch$Op" (115 : Nat) ">") ∈ lw_tbl := lw_at lw_m14 123 rfl
theorem q3349 : (Jvm.Cond.stringRef "PastWatch$Op" (118 : Nat) "<=") ∈ lw_tbl := lw_at lw_m14 124 rfl
theorem q3350 : (Jvm.Cond.stringRef "PastWatch$Op" (121 : Nat) ">=") ∈ lw_tbl := lw_at lw_m14 125 rfl

/-! PastWatch$Two -/

def RX22 : String := "PastWatch$Two"
def TX22 : u_T := fun k => match k with
  | 0 => ("PastWatch$Node", "place", "I", true)
  | 1 => ("PastWatch$Node", "history", "[J", false)
  | 2 => ("PastWatch$Two", "op", "LPastWatch$Op;", true)
  | 3 => ("PastWatch$Two", "left", "LPastWatch$Node;", true)
  | _ => ("PastWatch$Two", "right", "LPastWatch$Node;", true)
def tyX22 : Nat → FieldType := fun k => match k with
  | 0 => .int
  | 1 => .array .long
  | 2 => .object "PastWatch$Op"
  | 3 => .object "PastWatch$Node"
  | _ => .object "PastWatch$Node"
abbrev wsX220 : List Cond := u_ws RX22 TX22 5
theorem nmX22 : ∀ a, a < 5 → ∀ b, b < 5 → a ≠ b → (TX22 a).2.1 ≠ (TX22 b).2.1 := by decide +kernel
theorem tyX22_ok : ∀ k, k < 5 → parseFieldDescriptor (TX22 k).2.2.1 = some (tyX22 k) := by decide +kernel
abbrev cX22_init : ByteArray := prog_30_method_1_code
def yX22_init : MethodName := ⟨RX22, "<init>", "(ILPastWatch$Op;LPastWatch$Node;LPastWatch$Node;)V"⟩
def dkwX22_init_0 : List UInt8 := [42, 27, 183, 0, 1, 42, 44, 181, 0, 7, 42, 45, 181, 0, 13, 42, 25, 4, 181, 0, 17, 177]
abbrev dktX22_init_0 : List UInt8 := dkwX22_init_0 ++ []
theorem dksX22_init_0 : cX22_init.data.toList.drop 0 = dktX22_init_0 := by decide +kernel
theorem dX22_init_0 : decode cX22_init 0 = .ok (.aload_n 0, 1) := dk_42 (dk_at dksX22_init_0 0 rfl rfl)
theorem dX22_init_1 : decode cX22_init 1 = .ok (.iload_n 1, 1) := dk_27 (dk_at dksX22_init_0 1 rfl rfl)
theorem dX22_init_2 : decode cX22_init 2 = .ok (.invokespecial 1, 3) := dk_183 0 1 (dk_at dksX22_init_0 2 rfl rfl)
theorem dX22_init_5 : decode cX22_init 5 = .ok (.aload_n 0, 1) := dk_42 (dk_at dksX22_init_0 5 rfl rfl)
theorem dX22_init_6 : decode cX22_init 6 = .ok (.aload_n 2, 1) := dk_44 (dk_at dksX22_init_0 6 rfl rfl)
theorem dX22_init_7 : decode cX22_init 7 = .ok (.putfield 7, 3) := dk_181 0 7 (dk_at dksX22_init_0 7 rfl rfl)
theorem dX22_init_10 : decode cX22_init 10 = .ok (.aload_n 0, 1) := dk_42 (dk_at dksX22_init_0 10 rfl rfl)
theorem dX22_init_11 : decode cX22_init 11 = .ok (.aload_n 3, 1) := dk_45 (dk_at dksX22_init_0 11 rfl rfl)
theorem dX22_init_12 : decode cX22_init 12 = .ok (.putfield 13, 3) := dk_181 0 13 (dk_at dksX22_init_0 12 rfl rfl)
theorem dX22_init_15 : decode cX22_init 15 = .ok (.aload_n 0, 1) := dk_42 (dk_at dksX22_init_0 15 rfl rfl)
theorem dX22_init_16 : decode cX22_init 16 = .ok (.aload 4, 2) := dk_25 4 (dk_at dksX22_init_0 16 rfl rfl)
theorem dX22_init_18 : decode cX22_init 18 = .ok (.putfield 17, 3) := dk_181 0 17 (dk_at dksX22_init_0 18 rfl rfl)
theorem dX22_init_21 : decode cX22_init 21 = .ok (.return_, 1) := dk_177 (dk_at dksX22_init_0 21 rfl rfl)
abbrev cX22_reckon : ByteArray := prog_30_method_2_code
def yX22_reckon : MethodName := ⟨RX22, "reckon", "(I[I)J"⟩
def dkwX22_reckon_0 : List UInt8 := [42, 180, 0, 7, 42, 180, 0, 13, 27, 182, 0, 20, 42, 180, 0, 17, 27, 182, 0, 20, 182, 0, 24, 173]
abbrev dktX22_reckon_0 : List UInt8 := dkwX22_reckon_0 ++ []
theorem dksX22_reckon_0 : cX22_reckon.data.toList.drop 0 = dktX22_reckon_0 := by decide +kernel
theorem dX22_reckon_0 : decode cX22_reckon 0 = .ok (.aload_n 0, 1) := dk_42 (dk_at dksX22_reckon_0 0 rfl rfl)
theorem dX22_reckon_1 : decode cX22_reckon 1 = .ok (.getfield 7, 3) := dk_180 0 7 (dk_at dksX22_reckon_0 1 rfl rfl)
theorem dX22_reckon_4 : decode cX22_reckon 4 = .ok (.aload_n 0, 1) := dk_42 (dk_at dksX22_reckon_0 4 rfl rfl)
theorem dX22_reckon_5 : decode cX22_reckon 5 = .ok (.getfield 13, 3) := dk_180 0 13 (dk_at dksX22_reckon_0 5 rfl rfl)
theorem dX22_reckon_8 : decode cX22_reckon 8 = .ok (.iload_n 1, 1) := dk_27 (dk_at dksX22_reckon_0 8 rfl rfl)
theorem dX22_reckon_9 : decode cX22_reckon 9 = .ok (.invokevirtual 20, 3) := dk_182 0 20 (dk_at dksX22_reckon_0 9 rfl rfl)
theorem dX22_reckon_12 : decode cX22_reckon 12 = .ok (.aload_n 0, 1) := dk_42 (dk_at dksX22_reckon_0 12 rfl rfl)
theorem dX22_reckon_13 : decode cX22_reckon 13 = .ok (.getfield 17, 3) := dk_180 0 17 (dk_at dksX22_reckon_0 13 rfl rfl)
theorem dX22_reckon_16 : decode cX22_reckon 16 = .ok (.iload_n 1, 1) := dk_27 (dk_at dksX22_reckon_0 16 rfl rfl)
theorem dX22_reckon_17 : decode cX22_reckon 17 = .ok (.invokevirtual 20, 3) := dk_182 0 20 (dk_at dksX22_reckon_0 17 rfl rfl)
theorem dX22_reckon_20 : decode cX22_reckon 20 = .ok (.invokevirtual 24, 3) := dk_182 0 24 (dk_at dksX22_reckon_0 20 rfl rfl)
theorem dX22_reckon_23 : decode cX22_reckon 23 = .ok (.lreturn, 1) := dk_173 (dk_at dksX22_reckon_0 23 rfl rfl)
theorem q160 : (Jvm.Cond.initialized "PastWatch$Two") ∈ lw_all := lw_g (lw_at lw_m1 55 rfl) rfl
theorem q951 : (Jvm.Cond.selects "PastWatch$Two" ({ cls := "java/lang/Object", name := "getClass", desc := "()Ljava/lang/Class;" } : Jvm.MethodName) ({ cls := "java/lang/Object", name := "getClass", desc := "()Ljava/lang/Class;" } : Jvm.MethodName)) ∈ lw_all := lw_g (lw_at lw_m4 126 rfl) rfl
theorem q1152 : (Jvm.Cond.selects "PastWatch$Two" ({ cls := "java/lang/Object", name := "hashCode", desc := "()I" } : Jvm.MethodName) ({ cls := "java/lang/Object", name := "hashCode", desc := "()I" } : Jvm.MethodName)) ∈ lw_all := lw_g (lw_at lw_m5 87 rfl) rfl
theorem q1198 : (Jvm.Cond.selects "PastWatch$Two" ({ cls := "java/lang/Object", name := "equals", desc := "(Ljava/lang/Object;)Z" } : Jvm.MethodName) ({ cls := "java/lang/Object", name := "equals", desc := "(Ljava/lang/Object;)Z" } : Jvm.MethodName)) ∈ lw_all := lw_g (lw_at lw_m5 133 rfl) rfl
theorem q1949 : (Jvm.Cond.instantiable "PastWatch$Two" (5 : Nat)) ∈ lw_all := lw_g (lw_at lw_m8 164 rfl) rfl
theorem q1951 : (Jvm.Cond.instanceMethod ({ cls := "PastWatch$Two", name := "<init>", desc := "(ILPastWatch$Op;LPastWatch$Node;LPastWatch$Node;)V" } : Jvm.MethodName)) ∈ lw_all := lw_g (lw_at lw_m8 166 rfl) rfl
theorem q1952 : (Jvm.Cond.code ({ cls := "PastWatch$Two", name := "<init>", desc := "(ILPastWatch$Op;LPastWatch$Node;LPastWatch$Node;)V" } : Jvm.MethodName) prog_30_method_1_code (5 : Nat) (Option.none : Option Jvm.ClassFile.FieldType)) ∈ lw_all := lw_g (lw_at lw_m8 167 rfl) rfl
theorem q1953 : (Jvm.Cond.methodLink "PastWatch$Two" (1 : Nat) ({ cls := "PastWatch$Node", name := "<init>", desc := "(I)V" } : Jvm.MethodName)) ∈ lw_all := lw_g (lw_at lw_m8 168 rfl) rfl
theorem q1954 : (Jvm.Cond.fieldLink "PastWatch$Two" (7 : Nat) "PastWatch$Two" "op" "LPastWatch$Op;") ∈ lw_all := lw_g (lw_at lw_m8 169 rfl) rfl
theorem q1955 : (Jvm.Cond.fieldLink "PastWatch$Two" (13 : Nat) "PastWatch$Two" "left" "LPastWatch$Node;") ∈ lw_all := lw_g (lw_at lw_m8 170 rfl) rfl
theorem q1956 : (Jvm.Cond.fieldLink "PastWatch$Two" (17 : Nat) "PastWatch$Two" "right" "LPastWatch$Node;") ∈ lw_all := lw_g (lw_at lw_m8 171 rfl) rfl
theorem q1957 : (Jvm.Cond.laysFinal "PastWatch$Two" "PastWatch$Two" "op" "LPastWatch$Op;") ∈ lw_all := lw_g (lw_at lw_m8 172 rfl) rfl
theorem q1958 : (Jvm.Cond.soleField "PastWatch$Two" "op") ∈ lw_all := lw_g (lw_at lw_m8 173 rfl) rfl
theorem q1959 : (Jvm.Cond.laysFinal "PastWatch$Two" "PastWatch$Two" "left" "LPastWatch$Node;") ∈ lw_all := lw_g (lw_at lw_m8 174 rfl) rfl
theorem q1960 : (Jvm.Cond.soleField "PastWatch$Two" "left") ∈ lw_all := lw_g (lw_at lw_m8 175 rfl) rfl
theorem q1961 : (Jvm.Cond.laysFinal "PastWatch$Two" "PastWatch$Two" "right" "LPastWatch$Node;") ∈ lw_all := lw_g (lw_at lw_m8 176 rfl) rfl
theorem q1962 : (Jvm.Cond.soleField "PastWatch$Two" "right") ∈ lw_all := lw_g (lw_at lw_m8 177 rfl) rfl
theorem q1963 : (Jvm.Cond.laysFinal "PastWatch$Two" "PastWatch$Node" "place" "I") ∈ lw_all := lw_g (lw_at lw_m8 178 rfl) rfl
theorem q1964 : (Jvm.Cond.lays "PastWatch$Two" "PastWatch$Node" "history" "[J") ∈ lw_all := lw_g (lw_at lw_m8 179 rfl) rfl
theorem q1965 : (Jvm.Cond.superclass "PastWatch$Two" "PastWatch$Node") ∈ lw_all := lw_g (lw_at lw_m8 180 rfl) rfl
theorem q2176 : (Jvm.Cond.selects "PastWatch$Two" ({ cls := "PastWatch$Node", name := "keep", desc := "(I[I)V" } : Jvm.MethodName) ({ cls := "PastWatch$Node", name := "keep", desc := "(I[I)V" } : Jvm.MethodName)) ∈ lw_all := lw_g (lw_at lw_m9 151 rfl) rfl
theorem q2204 : (Jvm.Cond.selects "PastWatch$Two" ({ cls := "PastWatch$Node", name := "holds", desc := "(I)Z" } : Jvm.MethodName) ({ cls := "PastWatch$Node", name := "holds", desc := "(I)Z" } : Jvm.MethodName)) ∈ lw_all := lw_g (lw_at lw_m9 179 rfl) rfl
theorem q2324 : (Jvm.Cond.selects "PastWatch$Two" ({ cls := "PastWatch$Node", name := "reckon", desc := "(I[I)J" } : Jvm.MethodName) ({ cls := "PastWatch$Two", name := "reckon", desc := "(I[I)J" } : Jvm.MethodName)) ∈ lw_all := lw_g (lw_at lw_m10 59 rfl) rfl
theorem q2325 : (Jvm.Cond.instanceMethod ({ cls := "PastWatch$Two", name := "reckon", desc := "(I[I)J" } : Jvm.MethodName)) ∈ lw_all := lw_g (lw_at lw_m10 60 rfl) rfl
theorem q2326 : (Jvm.Cond.code ({ cls := "PastWatch$Two", name := "reckon", desc := "(I[I)J" } : Jvm.MethodName) prog_30_method_2_code (3 : Nat) (Option.some Jvm.ClassFile.FieldType.long)) ∈ lw_all := lw_g (lw_at lw_m10 61 rfl) rfl
theorem q2327 : (Jvm.Cond.methodLink "PastWatch$Two" (20 : Nat) ({ cls := "PastWatch$Node", name := "at", desc := "(I)J" } : Jvm.MethodName)) ∈ lw_all := lw_g (lw_at lw_m10 62 rfl) rfl
theorem q2328 : (Jvm.Cond.methodLink "PastWatch$Two" (24 : Nat) ({ cls := "PastWatch$Op", name := "reckon", desc := "(JJ)J" } : Jvm.MethodName)) ∈ lw_all := lw_g (lw_at lw_m10 63 rfl) rfl
theorem q2612 : (Jvm.Cond.selects "PastWatch$Two" ({ cls := "PastWatch$Node", name := "reason", desc := "(I[I)LPastWatch$Reason;" } : Jvm.MethodName) ({ cls := "PastWatch$Node", name := "reason", desc := "(I[I)LPastWatch$Reason;" } : Jvm.MethodName)) ∈ lw_all := lw_g (lw_at lw_m11 107 rfl) rfl
theorem q3231 : (Jvm.Cond.selects "PastWatch$Two" ({ cls := "PastWatch$Node", name := "at", desc := "(I)J" } : Jvm.MethodName) ({ cls := "PastWatch$Node", name := "at", desc := "(I)J" } : Jvm.MethodName)) ∈ lw_all := lw_g (lw_at lw_m14 6 rfl) rfl
theorem q3255 : (Jvm.Cond.castable "PastWatch$Two" "PastWatch$Node") ∈ lw_tbl := lw_at lw_m14 30 rfl
theorem q3291 : (Jvm.Cond.castable "PastWatch$Two" "java/lang/Object") ∈ lw_tbl := lw_at lw_m14 66 rfl
theorem in_X22 : ∀ w ∈ wsX220, w ∈ lw_all := lw_in wsX220 [1963, 1964, 1957, 1959, 1961] (by decide +kernel) (by decide +kernel)

/-! PastWatch$Since -/

def RX23 : String := "PastWatch$Since"
def TX23 : u_T := fun k => match k with
  | 0 => ("PastWatch$Node", "place", "I", true)
  | 1 => ("PastWatch$Node", "history", "[J", false)
  | 2 => ("PastWatch$Since", "bounds", "LPastWatch$Bounds;", true)
  | 3 => ("PastWatch$Since", "left", "LPastWatch$Node;", true)
  | _ => ("PastWatch$Since", "right", "LPastWatch$Node;", true)
def tyX23 : Nat → FieldType := fun k => match k with
  | 0 => .int
  | 1 => .array .long
  | 2 => .object "PastWatch$Bounds"
  | 3 => .object "PastWatch$Node"
  | _ => .object "PastWatch$Node"
abbrev wsX230 : List Cond := u_ws RX23 TX23 5
theorem nmX23 : ∀ a, a < 5 → ∀ b, b < 5 → a ≠ b → (TX23 a).2.1 ≠ (TX23 b).2.1 := by decide +kernel
theorem tyX23_ok : ∀ k, k < 5 → parseFieldDescriptor (TX23 k).2.2.1 = some (tyX23 k) := by decide +kernel
abbrev cX23_init : ByteArray := prog_27_method_1_code
def yX23_init : MethodName := ⟨RX23, "<init>", "(ILPastWatch$Bounds;LPastWatch$Node;LPastWatch$Node;)V"⟩
def dkwX23_init_0 : List UInt8 := [42, 27, 183, 0, 1, 42, 44, 181, 0, 7, 42, 45, 181, 0, 13, 42, 25, 4, 181, 0, 17, 177]
abbrev dktX23_init_0 : List UInt8 := dkwX23_init_0 ++ []
theorem dksX23_init_0 : cX23_init.data.toList.drop 0 = dktX23_init_0 := by decide +kernel
theorem dX23_init_0 : decode cX23_init 0 = .ok (.aload_n 0, 1) := dk_42 (dk_at dksX23_init_0 0 rfl rfl)
theorem dX23_init_1 : decode cX23_init 1 = .ok (.iload_n 1, 1) := dk_27 (dk_at dksX23_init_0 1 rfl rfl)
theorem dX23_init_2 : decode cX23_init 2 = .ok (.invokespecial 1, 3) := dk_183 0 1 (dk_at dksX23_init_0 2 rfl rfl)
theorem dX23_init_5 : decode cX23_init 5 = .ok (.aload_n 0, 1) := dk_42 (dk_at dksX23_init_0 5 rfl rfl)
theorem dX23_init_6 : decode cX23_init 6 = .ok (.aload_n 2, 1) := dk_44 (dk_at dksX23_init_0 6 rfl rfl)
theorem dX23_init_7 : decode cX23_init 7 = .ok (.putfield 7, 3) := dk_181 0 7 (dk_at dksX23_init_0 7 rfl rfl)
theorem dX23_init_10 : decode cX23_init 10 = .ok (.aload_n 0, 1) := dk_42 (dk_at dksX23_init_0 10 rfl rfl)
theorem dX23_init_11 : decode cX23_init 11 = .ok (.aload_n 3, 1) := dk_45 (dk_at dksX23_init_0 11 rfl rfl)
theorem dX23_init_12 : decode cX23_init 12 = .ok (.putfield 13, 3) := dk_181 0 13 (dk_at dksX23_init_0 12 rfl rfl)
theorem dX23_init_15 : decode cX23_init 15 = .ok (.aload_n 0, 1) := dk_42 (dk_at dksX23_init_0 15 rfl rfl)
theorem dX23_init_16 : decode cX23_init 16 = .ok (.aload 4, 2) := dk_25 4 (dk_at dksX23_init_0 16 rfl rfl)
theorem dX23_init_18 : decode cX23_init 18 = .ok (.putfield 17, 3) := dk_181 0 17 (dk_at dksX23_init_0 18 rfl rfl)
theorem dX23_init_21 : decode cX23_init 21 = .ok (.return_, 1) := dk_177 (dk_at dksX23_init_0 21 rfl rfl)
abbrev cX23_reckon : ByteArray := prog_27_method_2_code
def yX23_reckon : MethodName := ⟨RX23, "reckon", "(I[I)J"⟩
def dkwX23_reckon_2 : List UInt8 := [167, 255, 210, 9, 173]
abbrev dktX23_reckon_2 : List UInt8 := dkwX23_reckon_2 ++ []
def dkwX23_reckon_1 : List UInt8 := [184, 0, 24, 153, 0, 5, 10, 173, 42, 180, 0, 13, 29, 182, 0, 20, 154, 0, 5, 9, 173, 132, 3, 255]
abbrev dktX23_reckon_1 : List UInt8 := dkwX23_reckon_1 ++ dktX23_reckon_2
def dkwX23_reckon_0 : List UInt8 := [27, 62, 29, 155, 0, 48, 42, 180, 0, 17, 29, 182, 0, 20, 153, 0, 18, 42, 180, 0, 7, 44, 27, 29]
abbrev dktX23_reckon_0 : List UInt8 := dkwX23_reckon_0 ++ dktX23_reckon_1
theorem dksX23_reckon_0 : cX23_reckon.data.toList.drop 0 = dktX23_reckon_0 := by decide +kernel
theorem dksX23_reckon_1 : cX23_reckon.data.toList.drop 24 = dktX23_reckon_1 := dk_seg dksX23_reckon_0 24 rfl rfl
theorem dksX23_reckon_2 : cX23_reckon.data.toList.drop 48 = dktX23_reckon_2 := dk_seg dksX23_reckon_1 24 rfl rfl
theorem dX23_reckon_0 : decode cX23_reckon 0 = .ok (.iload_n 1, 1) := dk_27 (dk_at dksX23_reckon_0 0 rfl rfl)
theorem dX23_reckon_1 : decode cX23_reckon 1 = .ok (.istore_n 3, 1) := dk_62 (dk_at dksX23_reckon_0 1 rfl rfl)
theorem dX23_reckon_2 : decode cX23_reckon 2 = .ok (.iload_n 3, 1) := dk_29 (dk_at dksX23_reckon_0 2 rfl rfl)
theorem dX23_reckon_3 : decode cX23_reckon 3 = .ok (.ifCond .lt 48, 3) := dk_155 0 48 (dk_at dksX23_reckon_0 3 rfl rfl)
theorem dX23_reckon_6 : decode cX23_reckon 6 = .ok (.aload_n 0, 1) := dk_42 (dk_at dksX23_reckon_0 6 rfl rfl)
theorem dX23_reckon_7 : decode cX23_reckon 7 = .ok (.getfield 17, 3) := dk_180 0 17 (dk_at dksX23_reckon_0 7 rfl rfl)
theorem dX23_reckon_10 : decode cX23_reckon 10 = .ok (.iload_n 3, 1) := dk_29 (dk_at dksX23_reckon_0 10 rfl rfl)
theorem dX23_reckon_11 : decode cX23_reckon 11 = .ok (.invokevirtual 20, 3) := dk_182 0 20 (dk_at dksX23_reckon_0 11 rfl rfl)
theorem dX23_reckon_14 : decode cX23_reckon 14 = .ok (.ifCond .eq 18, 3) := dk_153 0 18 (dk_at dksX23_reckon_0 14 rfl rfl)
theorem dX23_reckon_17 : decode cX23_reckon 17 = .ok (.aload_n 0, 1) := dk_42 (dk_at dksX23_reckon_0 17 rfl rfl)
theorem dX23_reckon_18 : decode cX23_reckon 18 = .ok (.getfield 7, 3) := dk_180 0 7 (dk_at dksX23_reckon_0 18 rfl rfl)
theorem dX23_reckon_21 : decode cX23_reckon 21 = .ok (.aload_n 2, 1) := dk_44 (dk_at dksX23_reckon_0 21 rfl rfl)
theorem dX23_reckon_22 : decode cX23_reckon 22 = .ok (.iload_n 1, 1) := dk_27 (dk_at dksX23_reckon_0 22 rfl rfl)
theorem dX23_reckon_23 : decode cX23_reckon 23 = .ok (.iload_n 3, 1) := dk_29 (dk_at dksX23_reckon_0 23 rfl rfl)
theorem dX23_reckon_24 : decode cX23_reckon 24 = .ok (.invokestatic 24, 3) := dk_184 0 24 (dk_at dksX23_reckon_1 0 rfl rfl)
theorem dX23_reckon_27 : decode cX23_reckon 27 = .ok (.ifCond .eq 5, 3) := dk_153 0 5 (dk_at dksX23_reckon_1 3 rfl rfl)
theorem dX23_reckon_30 : decode cX23_reckon 30 = .ok (.lconst 1, 1) := dk_10 (dk_at dksX23_reckon_1 6 rfl rfl)
theorem dX23_reckon_31 : decode cX23_reckon 31 = .ok (.lreturn, 1) := dk_173 (dk_at dksX23_reckon_1 7 rfl rfl)
theorem dX23_reckon_32 : decode cX23_reckon 32 = .ok (.aload_n 0, 1) := dk_42 (dk_at dksX23_reckon_1 8 rfl rfl)
theorem dX23_reckon_33 : decode cX23_reckon 33 = .ok (.getfield 13, 3) := dk_180 0 13 (dk_at dksX23_reckon_1 9 rfl rfl)
theorem dX23_reckon_36 : decode cX23_reckon 36 = .ok (.iload_n 3, 1) := dk_29 (dk_at dksX23_reckon_1 12 rfl rfl)
theorem dX23_reckon_37 : decode cX23_reckon 37 = .ok (.invokevirtual 20, 3) := dk_182 0 20 (dk_at dksX23_reckon_1 13 rfl rfl)
theorem dX23_reckon_40 : decode cX23_reckon 40 = .ok (.ifCond .ne 5, 3) := dk_154 0 5 (dk_at dksX23_reckon_1 16 rfl rfl)
theorem dX23_reckon_43 : decode cX23_reckon 43 = .ok (.lconst 0, 1) := dk_9 (dk_at dksX23_reckon_1 19 rfl rfl)
theorem dX23_reckon_44 : decode cX23_reckon 44 = .ok (.lreturn, 1) := dk_173 (dk_at dksX23_reckon_1 20 rfl rfl)
theorem dX23_reckon_45 : decode cX23_reckon 45 = .ok (.iinc 3 (-1), 3) := dk_132 3 255 (dk_at dksX23_reckon_1 21 rfl rfl)
theorem dX23_reckon_48 : decode cX23_reckon 48 = .ok (.goto (-46), 3) := dk_167 255 210 (dk_at dksX23_reckon_2 0 rfl rfl)
theorem dX23_reckon_51 : decode cX23_reckon 51 = .ok (.lconst 0, 1) := dk_9 (dk_at dksX23_reckon_2 3 rfl rfl)
theorem dX23_reckon_52 : decode cX23_reckon 52 = .ok (.lreturn, 1) := dk_173 (dk_at dksX23_reckon_2 4 rfl rfl)
theorem q161 : (Jvm.Cond.initialized "PastWatch$Since") ∈ lw_all := lw_g (lw_at lw_m1 56 rfl) rfl
theorem q948 : (Jvm.Cond.selects "PastWatch$Since" ({ cls := "java/lang/Object", name := "getClass", desc := "()Ljava/lang/Class;" } : Jvm.MethodName) ({ cls := "java/lang/Object", name := "getClass", desc := "()Ljava/lang/Class;" } : Jvm.MethodName)) ∈ lw_all := lw_g (lw_at lw_m4 123 rfl) rfl
theorem q1149 : (Jvm.Cond.selects "PastWatch$Since" ({ cls := "java/lang/Object", name := "hashCode", desc := "()I" } : Jvm.MethodName) ({ cls := "java/lang/Object", name := "hashCode", desc := "()I" } : Jvm.MethodName)) ∈ lw_all := lw_g (lw_at lw_m5 84 rfl) rfl
theorem q1195 : (Jvm.Cond.selects "PastWatch$Since" ({ cls := "java/lang/Object", name := "equals", desc := "(Ljava/lang/Object;)Z" } : Jvm.MethodName) ({ cls := "java/lang/Object", name := "equals", desc := "(Ljava/lang/Object;)Z" } : Jvm.MethodName)) ∈ lw_all := lw_g (lw_at lw_m5 130 rfl) rfl
theorem q1982 : (Jvm.Cond.instantiable "PastWatch$Since" (5 : Nat)) ∈ lw_all := lw_g (lw_at lw_m8 197 rfl) rfl
theorem q1984 : (Jvm.Cond.instanceMethod ({ cls := "PastWatch$Since", name := "<init>", desc := "(ILPastWatch$Bounds;LPastWatch$Node;LPastWatch$Node;)V" } : Jvm.MethodName)) ∈ lw_all := lw_g (lw_at lw_m8 199 rfl) rfl
theorem q1985 : (Jvm.Cond.code ({ cls := "PastWatch$Since", name := "<init>", desc := "(ILPastWatch$Bounds;LPastWatch$Node;LPastWatch$Node;)V" } : Jvm.MethodName) prog_27_method_1_code (5 : Nat) (Option.none : Option Jvm.ClassFile.FieldType)) ∈ lw_all := lw_g (lw_at lw_m8 200 rfl) rfl
theorem q1986 : (Jvm.Cond.methodLink "PastWatch$Since" (1 : Nat) ({ cls := "PastWatch$Node", name := "<init>", desc := "(I)V" } : Jvm.MethodName)) ∈ lw_all := lw_g (lw_at lw_m8 201 rfl) rfl
theorem q1987 : (Jvm.Cond.fieldLink "PastWatch$Since" (7 : Nat) "PastWatch$Since" "bounds" "LPastWatch$Bounds;") ∈ lw_all := lw_g (lw_at lw_m8 202 rfl) rfl
theorem q1988 : (Jvm.Cond.fieldLink "PastWatch$Since" (13 : Nat) "PastWatch$Since" "left" "LPastWatch$Node;") ∈ lw_all := lw_g (lw_at lw_m8 203 rfl) rfl
theorem q1989 : (Jvm.Cond.fieldLink "PastWatch$Since" (17 : Nat) "PastWatch$Since" "right" "LPastWatch$Node;") ∈ lw_all := lw_g (lw_at lw_m8 204 rfl) rfl
theorem q1990 : (Jvm.Cond.laysFinal "PastWatch$Since" "PastWatch$Since" "bounds" "LPastWatch$Bounds;") ∈ lw_all := lw_g (lw_at lw_m8 205 rfl) rfl
theorem q1991 : (Jvm.Cond.soleField "PastWatch$Since" "bounds") ∈ lw_all := lw_g (lw_at lw_m8 206 rfl) rfl
theorem q1992 : (Jvm.Cond.laysFinal "PastWatch$Since" "PastWatch$Since" "left" "LPastWatch$Node;") ∈ lw_all := lw_g (lw_at lw_m8 207 rfl) rfl
theorem q1993 : (Jvm.Cond.soleField "PastWatch$Since" "left") ∈ lw_all := lw_g (lw_at lw_m8 208 rfl) rfl
theorem q1994 : (Jvm.Cond.laysFinal "PastWatch$Since" "PastWatch$Since" "right" "LPastWatch$Node;") ∈ lw_all := lw_g (lw_at lw_m8 209 rfl) rfl
theorem q1995 : (Jvm.Cond.soleField "PastWatch$Since" "right") ∈ lw_all := lw_g (lw_at lw_m8 210 rfl) rfl
theorem q1996 : (Jvm.Cond.laysFinal "PastWatch$Since" "PastWatch$Node" "place" "I") ∈ lw_all := lw_g (lw_at lw_m8 211 rfl) rfl
theorem q1997 : (Jvm.Cond.lays "PastWatch$Since" "PastWatch$Node" "history" "[J") ∈ lw_all := lw_g (lw_at lw_m8 212 rfl) rfl
theorem q1998 : (Jvm.Cond.superclass "PastWatch$Since" "PastWatch$Node") ∈ lw_all := lw_g (lw_at lw_m8 213 rfl) rfl
theorem q2175 : (Jvm.Cond.selects "PastWatch$Since" ({ cls := "PastWatch$Node", name := "keep", desc := "(I[I)V" } : Jvm.MethodName) ({ cls := "PastWatch$Node", name := "keep", desc := "(I[I)V" } : Jvm.MethodName)) ∈ lw_all := lw_g (lw_at lw_m9 150 rfl) rfl
theorem q2203 : (Jvm.Cond.selects "PastWatch$Since" ({ cls := "PastWatch$Node", name := "holds", desc := "(I)Z" } : Jvm.MethodName) ({ cls := "PastWatch$Node", name := "holds", desc := "(I)Z" } : Jvm.MethodName)) ∈ lw_all := lw_g (lw_at lw_m9 178 rfl) rfl
theorem q2319 : (Jvm.Cond.selects "PastWatch$Since" ({ cls := "PastWatch$Node", name := "reckon", desc := "(I[I)J" } : Jvm.MethodName) ({ cls := "PastWatch$Since", name := "reckon", desc := "(I[I)J" } : Jvm.MethodName)) ∈ lw_all := lw_g (lw_at lw_m10 54 rfl) rfl
theorem q2320 : (Jvm.Cond.instanceMethod ({ cls := "PastWatch$Since", name := "reckon", desc := "(I[I)J" } : Jvm.MethodName)) ∈ lw_all := lw_g (lw_at lw_m10 55 rfl) rfl
theorem q2321 : (Jvm.Cond.code ({ cls := "PastWatch$Since", name := "reckon", desc := "(I[I)J" } : Jvm.MethodName) prog_27_method_2_code (4 : Nat) (Option.some Jvm.ClassFile.FieldType.long)) ∈ lw_all := lw_g (lw_at lw_m10 56 rfl) rfl
theorem q2322 : (Jvm.Cond.methodLink "PastWatch$Since" (20 : Nat) ({ cls := "PastWatch$Node", name := "holds", desc := "(I)Z" } : Jvm.MethodName)) ∈ lw_all := lw_g (lw_at lw_m10 57 rfl) rfl
theorem q2323 : (Jvm.Cond.methodLinkNest "PastWatch$Since" (24 : Nat) ({ cls := "PastWatch", name := "isMeant", desc := "(LPastWatch$Bounds;[III)Z" } : Jvm.MethodName) "PastWatch") ∈ lw_tbl := lw_at lw_m10 58 rfl
theorem q2611 : (Jvm.Cond.selects "PastWatch$Since" ({ cls := "PastWatch$Node", name := "reason", desc := "(I[I)LPastWatch$Reason;" } : Jvm.MethodName) ({ cls := "PastWatch$Node", name := "reason", desc := "(I[I)LPastWatch$Reason;" } : Jvm.MethodName)) ∈ lw_all := lw_g (lw_at lw_m11 106 rfl) rfl
theorem q3230 : (Jvm.Cond.selects "PastWatch$Since" ({ cls := "PastWatch$Node", name := "at", desc := "(I)J" } : Jvm.MethodName) ({ cls := "PastWatch$Node", name := "at", desc := "(I)J" } : Jvm.MethodName)) ∈ lw_all := lw_g (lw_at lw_m14 5 rfl) rfl
theorem q3254 : (Jvm.Cond.castable "PastWatch$Since" "PastWatch$Node") ∈ lw_tbl := lw_at lw_m14 29 rfl
theorem q3292 : (Jvm.Cond.castable "PastWatch$Since" "java/lang/Object") ∈ lw_tbl := lw_at lw_m14 67 rfl
theorem in_X23 : ∀ w ∈ wsX230, w ∈ lw_all := lw_in wsX230 [1996, 1997, 1990, 1992, 1994] (by decide +kernel) (by decide +kernel)

/-! PastWatch$Row -/

def RX24 : String := "PastWatch$Row"
def TX24 : u_T := fun k => match k with
  | 0 => ("PastWatch$Node", "place", "I", true)
  | 1 => ("PastWatch$Node", "history", "[J", false)
  | 2 => ("PastWatch$Row", "isAnd", "Z", true)
  | _ => ("PastWatch$Row", "nodes", "Ljava/util/List;", true)
def tyX24 : Nat → FieldType := fun k => match k with
  | 0 => .int
  | 1 => .array .long
  | 2 => .boolean
  | _ => .object "java/util/List"
abbrev wsX240 : List Cond := u_ws RX24 TX24 4
theorem nmX24 : ∀ a, a < 4 → ∀ b, b < 4 → a ≠ b → (TX24 a).2.1 ≠ (TX24 b).2.1 := by decide +kernel
theorem tyX24_ok : ∀ k, k < 4 → parseFieldDescriptor (TX24 k).2.2.1 = some (tyX24 k) := by decide +kernel
abbrev cX24_init : ByteArray := prog_24_method_1_code
def yX24_init : MethodName := ⟨RX24, "<init>", "(IZLjava/util/List;)V"⟩
def dkwX24_init_0 : List UInt8 := [42, 27, 183, 0, 1, 42, 28, 181, 0, 7, 42, 45, 181, 0, 13, 177]
abbrev dktX24_init_0 : List UInt8 := dkwX24_init_0 ++ []
theorem dksX24_init_0 : cX24_init.data.toList.drop 0 = dktX24_init_0 := by decide +kernel
theorem dX24_init_0 : decode cX24_init 0 = .ok (.aload_n 0, 1) := dk_42 (dk_at dksX24_init_0 0 rfl rfl)
theorem dX24_init_1 : decode cX24_init 1 = .ok (.iload_n 1, 1) := dk_27 (dk_at dksX24_init_0 1 rfl rfl)
theorem dX24_init_2 : decode cX24_init 2 = .ok (.invokespecial 1, 3) := dk_183 0 1 (dk_at dksX24_init_0 2 rfl rfl)
theorem dX24_init_5 : decode cX24_init 5 = .ok (.aload_n 0, 1) := dk_42 (dk_at dksX24_init_0 5 rfl rfl)
theorem dX24_init_6 : decode cX24_init 6 = .ok (.iload_n 2, 1) := dk_28 (dk_at dksX24_init_0 6 rfl rfl)
theorem dX24_init_7 : decode cX24_init 7 = .ok (.putfield 7, 3) := dk_181 0 7 (dk_at dksX24_init_0 7 rfl rfl)
theorem dX24_init_10 : decode cX24_init 10 = .ok (.aload_n 0, 1) := dk_42 (dk_at dksX24_init_0 10 rfl rfl)
theorem dX24_init_11 : decode cX24_init 11 = .ok (.aload_n 3, 1) := dk_45 (dk_at dksX24_init_0 11 rfl rfl)
theorem dX24_init_12 : decode cX24_init 12 = .ok (.putfield 13, 3) := dk_181 0 13 (dk_at dksX24_init_0 12 rfl rfl)
theorem dX24_init_15 : decode cX24_init 15 = .ok (.return_, 1) := dk_177 (dk_at dksX24_init_0 15 rfl rfl)
abbrev cX24_reckon : ByteArray := prog_24_method_2_code
def yX24_reckon : MethodName := ⟨RX24, "reckon", "(I[I)J"⟩
def dkwX24_reckon_3 : List UInt8 := [184, 0, 31, 173]
abbrev dktX24_reckon_3 : List UInt8 := dkwX24_reckon_3 ++ []
def dkwX24_reckon_2 : List UInt8 := [154, 0, 7, 4, 167, 0, 4, 3, 184, 0, 31, 173, 132, 3, 1, 167, 255, 200, 42, 180, 0, 7]
abbrev dktX24_reckon_2 : List UInt8 := dkwX24_reckon_2 ++ dktX24_reckon_3
def dkwX24_reckon_1 : List UInt8 := [185, 0, 23, 2, 0, 192, 0, 2, 27, 182, 0, 27, 42, 180, 0, 7, 159, 0, 19, 42, 180, 0, 7]
abbrev dktX24_reckon_1 : List UInt8 := dkwX24_reckon_1 ++ dktX24_reckon_2
def dkwX24_reckon_0 : List UInt8 := [3, 62, 29, 42, 180, 0, 13, 185, 0, 17, 1, 0, 162, 0, 49, 42, 180, 0, 13, 29]
abbrev dktX24_reckon_0 : List UInt8 := dkwX24_reckon_0 ++ dktX24_reckon_1
theorem dksX24_reckon_0 : cX24_reckon.data.toList.drop 0 = dktX24_reckon_0 := by decide +kernel
theorem dksX24_reckon_1 : cX24_reckon.data.toList.drop 20 = dktX24_reckon_1 := dk_seg dksX24_reckon_0 20 rfl rfl
theorem dksX24_reckon_2 : cX24_reckon.data.toList.drop 43 = dktX24_reckon_2 := dk_seg dksX24_reckon_1 23 rfl rfl
theorem dksX24_reckon_3 : cX24_reckon.data.toList.drop 65 = dktX24_reckon_3 := dk_seg dksX24_reckon_2 22 rfl rfl
theorem dX24_reckon_0 : decode cX24_reckon 0 = .ok (.iconst 0, 1) := dk_3 (dk_at dksX24_reckon_0 0 rfl rfl)
theorem dX24_reckon_1 : decode cX24_reckon 1 = .ok (.istore_n 3, 1) := dk_62 (dk_at dksX24_reckon_0 1 rfl rfl)
theorem dX24_reckon_2 : decode cX24_reckon 2 = .ok (.iload_n 3, 1) := dk_29 (dk_at dksX24_reckon_0 2 rfl rfl)
theorem dX24_reckon_3 : decode cX24_reckon 3 = .ok (.aload_n 0, 1) := dk_42 (dk_at dksX24_reckon_0 3 rfl rfl)
theorem dX24_reckon_4 : decode cX24_reckon 4 = .ok (.getfield 13, 3) := dk_180 0 13 (dk_at dksX24_reckon_0 4 rfl rfl)
theorem dX24_reckon_7 : decode cX24_reckon 7 = .ok (.invokeinterface 17 1, 5) := by decide +kernel
theorem dX24_reckon_12 : decode cX24_reckon 12 = .ok (.if_icmp .ge 49, 3) := dk_162 0 49 (dk_at dksX24_reckon_0 12 rfl rfl)
theorem dX24_reckon_15 : decode cX24_reckon 15 = .ok (.aload_n 0, 1) := dk_42 (dk_at dksX24_reckon_0 15 rfl rfl)
theorem dX24_reckon_16 : decode cX24_reckon 16 = .ok (.getfield 13, 3) := dk_180 0 13 (dk_at dksX24_reckon_0 16 rfl rfl)
theorem dX24_reckon_19 : decode cX24_reckon 19 = .ok (.iload_n 3, 1) := dk_29 (dk_at dksX24_reckon_0 19 rfl rfl)
theorem dX24_reckon_20 : decode cX24_reckon 20 = .ok (.invokeinterface 23 2, 5) := by decide +kernel
theorem dX24_reckon_25 : decode cX24_reckon 25 = .ok (.checkcast 2, 3) := dk_192 0 2 (dk_at dksX24_reckon_1 5 rfl rfl)
theorem dX24_reckon_28 : decode cX24_reckon 28 = .ok (.iload_n 1, 1) := dk_27 (dk_at dksX24_reckon_1 8 rfl rfl)
theorem dX24_reckon_29 : decode cX24_reckon 29 = .ok (.invokevirtual 27, 3) := dk_182 0 27 (dk_at dksX24_reckon_1 9 rfl rfl)
theorem dX24_reckon_32 : decode cX24_reckon 32 = .ok (.aload_n 0, 1) := dk_42 (dk_at dksX24_reckon_1 12 rfl rfl)
theorem dX24_reckon_33 : decode cX24_reckon 33 = .ok (.getfield 7, 3) := dk_180 0 7 (dk_at dksX24_reckon_1 13 rfl rfl)
theorem dX24_reckon_36 : decode cX24_reckon 36 = .ok (.if_icmp .eq 19, 3) := dk_159 0 19 (dk_at dksX24_reckon_1 16 rfl rfl)
theorem dX24_reckon_39 : decode cX24_reckon 39 = .ok (.aload_n 0, 1) := dk_42 (dk_at dksX24_reckon_1 19 rfl rfl)
theorem dX24_reckon_40 : decode cX24_reckon 40 = .ok (.getfield 7, 3) := dk_180 0 7 (dk_at dksX24_reckon_1 20 rfl rfl)
theorem dX24_reckon_43 : decode cX24_reckon 43 = .ok (.ifCond .ne 7, 3) := dk_154 0 7 (dk_at dksX24_reckon_2 0 rfl rfl)
theorem dX24_reckon_46 : decode cX24_reckon 46 = .ok (.iconst 1, 1) := dk_4 (dk_at dksX24_reckon_2 3 rfl rfl)
theorem dX24_reckon_47 : decode cX24_reckon 47 = .ok (.goto 4, 3) := dk_167 0 4 (dk_at dksX24_reckon_2 4 rfl rfl)
theorem dX24_reckon_50 : decode cX24_reckon 50 = .ok (.iconst 0, 1) := dk_3 (dk_at dksX24_reckon_2 7 rfl rfl)
theorem dX24_reckon_51 : decode cX24_reckon 51 = .ok (.invokestatic 31, 3) := dk_184 0 31 (dk_at dksX24_reckon_2 8 rfl rfl)
theorem dX24_reckon_54 : decode cX24_reckon 54 = .ok (.lreturn, 1) := dk_173 (dk_at dksX24_reckon_2 11 rfl rfl)
theorem dX24_reckon_55 : decode cX24_reckon 55 = .ok (.iinc 3 1, 3) := dk_132 3 1 (dk_at dksX24_reckon_2 12 rfl rfl)
theorem dX24_reckon_58 : decode cX24_reckon 58 = .ok (.goto (-56), 3) := dk_167 255 200 (dk_at dksX24_reckon_2 15 rfl rfl)
theorem dX24_reckon_61 : decode cX24_reckon 61 = .ok (.aload_n 0, 1) := dk_42 (dk_at dksX24_reckon_2 18 rfl rfl)
theorem dX24_reckon_62 : decode cX24_reckon 62 = .ok (.getfield 7, 3) := dk_180 0 7 (dk_at dksX24_reckon_2 19 rfl rfl)
theorem dX24_reckon_65 : decode cX24_reckon 65 = .ok (.invokestatic 31, 3) := dk_184 0 31 (dk_at dksX24_reckon_3 0 rfl rfl)
theorem dX24_reckon_68 : decode cX24_reckon 68 = .ok (.lreturn, 1) := dk_173 (dk_at dksX24_reckon_3 3 rfl rfl)
abbrev cX24_reason : ByteArray := prog_24_method_3_code
def yX24_reason : MethodName := ⟨RX24, "reason", "(I[I)LPastWatch$Reason;"⟩
def dkwX24_reason_4 : List UInt8 := [176]
abbrev dktX24_reason_4 : List UInt8 := dkwX24_reason_4 ++ []
def dkwX24_reason_3 : List UInt8 := [42, 180, 0, 13, 185, 0, 17, 1, 0, 4, 100, 185, 0, 23, 2, 0, 192, 0, 2, 27, 44, 182, 0, 37]
abbrev dktX24_reason_3 : List UInt8 := dkwX24_reason_3 ++ dktX24_reason_4
def dkwX24_reason_2 : List UInt8 := [185, 0, 23, 2, 0, 192, 0, 2, 27, 44, 182, 0, 37, 176, 132, 3, 1, 167, 255, 201, 42, 180, 0, 13]
abbrev dktX24_reason_2 : List UInt8 := dkwX24_reason_2 ++ dktX24_reason_3
def dkwX24_reason_1 : List UInt8 := [180, 0, 13, 29, 185, 0, 23, 2, 0, 192, 0, 2, 27, 182, 0, 27, 154, 0, 22, 42, 180, 0, 13, 29]
abbrev dktX24_reason_1 : List UInt8 := dkwX24_reason_1 ++ dktX24_reason_2
def dkwX24_reason_0 : List UInt8 := [42, 180, 0, 7, 153, 0, 63, 3, 62, 29, 42, 180, 0, 13, 185, 0, 17, 1, 0, 162, 0, 48, 42]
abbrev dktX24_reason_0 : List UInt8 := dkwX24_reason_0 ++ dktX24_reason_1
theorem dksX24_reason_0 : cX24_reason.data.toList.drop 0 = dktX24_reason_0 := by decide +kernel
theorem dksX24_reason_1 : cX24_reason.data.toList.drop 23 = dktX24_reason_1 := dk_seg dksX24_reason_0 23 rfl rfl
theorem dksX24_reason_2 : cX24_reason.data.toList.drop 47 = dktX24_reason_2 := dk_seg dksX24_reason_1 24 rfl rfl
theorem dksX24_reason_3 : cX24_reason.data.toList.drop 71 = dktX24_reason_3 := dk_seg dksX24_reason_2 24 rfl rfl
theorem dksX24_reason_4 : cX24_reason.data.toList.drop 95 = dktX24_reason_4 := dk_seg dksX24_reason_3 24 rfl rfl
theorem dX24_reason_0 : decode cX24_reason 0 = .ok (.aload_n 0, 1) := dk_42 (dk_at dksX24_reason_0 0 rfl rfl)
theorem dX24_reason_1 : decode cX24_reason 1 = .ok (.getfield 7, 3) := dk_180 0 7 (dk_at dksX24_reason_0 1 rfl rfl)
theorem dX24_reason_4 : decode cX24_reason 4 = .ok (.ifCond .eq 63, 3) := dk_153 0 63 (dk_at dksX24_reason_0 4 rfl rfl)
theorem dX24_reason_7 : decode cX24_reason 7 = .ok (.iconst 0, 1) := dk_3 (dk_at dksX24_reason_0 7 rfl rfl)
theorem dX24_reason_8 : decode cX24_reason 8 = .ok (.istore_n 3, 1) := dk_62 (dk_at dksX24_reason_0 8 rfl rfl)
theorem dX24_reason_9 : decode cX24_reason 9 = .ok (.iload_n 3, 1) := dk_29 (dk_at dksX24_reason_0 9 rfl rfl)
theorem dX24_reason_10 : decode cX24_reason 10 = .ok (.aload_n 0, 1) := dk_42 (dk_at dksX24_reason_0 10 rfl rfl)
theorem dX24_reason_11 : decode cX24_reason 11 = .ok (.getfield 13, 3) := dk_180 0 13 (dk_at dksX24_reason_0 11 rfl rfl)
theorem dX24_reason_14 : decode cX24_reason 14 = .ok (.invokeinterface 17 1, 5) := by decide +kernel
theorem dX24_reason_19 : decode cX24_reason 19 = .ok (.if_icmp .ge 48, 3) := dk_162 0 48 (dk_at dksX24_reason_0 19 rfl rfl)
theorem dX24_reason_22 : decode cX24_reason 22 = .ok (.aload_n 0, 1) := dk_42 (dk_at dksX24_reason_0 22 rfl rfl)
theorem dX24_reason_23 : decode cX24_reason 23 = .ok (.getfield 13, 3) := dk_180 0 13 (dk_at dksX24_reason_1 0 rfl rfl)
theorem dX24_reason_26 : decode cX24_reason 26 = .ok (.iload_n 3, 1) := dk_29 (dk_at dksX24_reason_1 3 rfl rfl)
theorem dX24_reason_27 : decode cX24_reason 27 = .ok (.invokeinterface 23 2, 5) := by decide +kernel
theorem dX24_reason_32 : decode cX24_reason 32 = .ok (.checkcast 2, 3) := dk_192 0 2 (dk_at dksX24_reason_1 9 rfl rfl)
theorem dX24_reason_35 : decode cX24_reason 35 = .ok (.iload_n 1, 1) := dk_27 (dk_at dksX24_reason_1 12 rfl rfl)
theorem dX24_reason_36 : decode cX24_reason 36 = .ok (.invokevirtual 27, 3) := dk_182 0 27 (dk_at dksX24_reason_1 13 rfl rfl)
theorem dX24_reason_39 : decode cX24_reason 39 = .ok (.ifCond .ne 22, 3) := dk_154 0 22 (dk_at dksX24_reason_1 16 rfl rfl)
theorem dX24_reason_42 : decode cX24_reason 42 = .ok (.aload_n 0, 1) := dk_42 (dk_at dksX24_reason_1 19 rfl rfl)
theorem dX24_reason_43 : decode cX24_reason 43 = .ok (.getfield 13, 3) := dk_180 0 13 (dk_at dksX24_reason_1 20 rfl rfl)
theorem dX24_reason_46 : decode cX24_reason 46 = .ok (.iload_n 3, 1) := dk_29 (dk_at dksX24_reason_1 23 rfl rfl)
theorem dX24_reason_47 : decode cX24_reason 47 = .ok (.invokeinterface 23 2, 5) := by decide +kernel
theorem dX24_reason_52 : decode cX24_reason 52 = .ok (.checkcast 2, 3) := dk_192 0 2 (dk_at dksX24_reason_2 5 rfl rfl)
theorem dX24_reason_55 : decode cX24_reason 55 = .ok (.iload_n 1, 1) := dk_27 (dk_at dksX24_reason_2 8 rfl rfl)
theorem dX24_reason_56 : decode cX24_reason 56 = .ok (.aload_n 2, 1) := dk_44 (dk_at dksX24_reason_2 9 rfl rfl)
theorem dX24_reason_57 : decode cX24_reason 57 = .ok (.invokevirtual 37, 3) := dk_182 0 37 (dk_at dksX24_reason_2 10 rfl rfl)
theorem dX24_reason_60 : decode cX24_reason 60 = .ok (.areturn, 1) := dk_176 (dk_at dksX24_reason_2 13 rfl rfl)
theorem dX24_reason_61 : decode cX24_reason 61 = .ok (.iinc 3 1, 3) := dk_132 3 1 (dk_at dksX24_reason_2 14 rfl rfl)
theorem dX24_reason_64 : decode cX24_reason 64 = .ok (.goto (-55), 3) := dk_167 255 201 (dk_at dksX24_reason_2 17 rfl rfl)
theorem dX24_reason_67 : decode cX24_reason 67 = .ok (.aload_n 0, 1) := dk_42 (dk_at dksX24_reason_2 20 rfl rfl)
theorem dX24_reason_68 : decode cX24_reason 68 = .ok (.getfield 13, 3) := dk_180 0 13 (dk_at dksX24_reason_2 21 rfl rfl)
theorem dX24_reason_71 : decode cX24_reason 71 = .ok (.aload_n 0, 1) := dk_42 (dk_at dksX24_reason_3 0 rfl rfl)
theorem dX24_reason_72 : decode cX24_reason 72 = .ok (.getfield 13, 3) := dk_180 0 13 (dk_at dksX24_reason_3 1 rfl rfl)
theorem dX24_reason_75 : decode cX24_reason 75 = .ok (.invokeinterface 17 1, 5) := by decide +kernel
theorem dX24_reason_80 : decode cX24_reason 80 = .ok (.iconst 1, 1) := dk_4 (dk_at dksX24_reason_3 9 rfl rfl)
theorem dX24_reason_81 : decode cX24_reason 81 = .ok (.isub, 1) := dk_100 (dk_at dksX24_reason_3 10 rfl rfl)
theorem dX24_reason_82 : decode cX24_reason 82 = .ok (.invokeinterface 23 2, 5) := by decide +kernel
theorem dX24_reason_87 : decode cX24_reason 87 = .ok (.checkcast 2, 3) := dk_192 0 2 (dk_at dksX24_reason_3 16 rfl rfl)
theorem dX24_reason_90 : decode cX24_reason 90 = .ok (.iload_n 1, 1) := dk_27 (dk_at dksX24_reason_3 19 rfl rfl)
theorem dX24_reason_91 : decode cX24_reason 91 = .ok (.aload_n 2, 1) := dk_44 (dk_at dksX24_reason_3 20 rfl rfl)
theorem dX24_reason_92 : decode cX24_reason 92 = .ok (.invokevirtual 37, 3) := dk_182 0 37 (dk_at dksX24_reason_3 21 rfl rfl)
theorem dX24_reason_95 : decode cX24_reason 95 = .ok (.areturn, 1) := dk_176 (dk_at dksX24_reason_4 0 rfl rfl)
theorem q162 : (Jvm.Cond.initialized "PastWatch$Row") ∈ lw_all := lw_g (lw_at lw_m1 57 rfl) rfl
theorem q945 : (Jvm.Cond.selects "PastWatch$Row" ({ cls := "java/lang/Object", name := "getClass", desc := "()Ljava/lang/Class;" } : Jvm.MethodName) ({ cls := "java/lang/Object", name := "getClass", desc := "()Ljava/lang/Class;" } : Jvm.MethodName)) ∈ lw_all := lw_g (lw_at lw_m4 120 rfl) rfl
theorem q1146 : (Jvm.Cond.selects "PastWatch$Row" ({ cls := "java/lang/Object", name := "hashCode", desc := "()I" } : Jvm.MethodName) ({ cls := "java/lang/Object", name := "hashCode", desc := "()I" } : Jvm.MethodName)) ∈ lw_all := lw_g (lw_at lw_m5 81 rfl) rfl
theorem q1192 : (Jvm.Cond.selects "PastWatch$Row" ({ cls := "java/lang/Object", name := "equals", desc := "(Ljava/lang/Object;)Z" } : Jvm.MethodName) ({ cls := "java/lang/Object", name := "equals", desc := "(Ljava/lang/Object;)Z" } : Jvm.MethodName)) ∈ lw_all := lw_g (lw_at lw_m5 127 rfl) rfl
theorem q2003 : (Jvm.Cond.instantiable "PastWatch$Row" (4 : Nat)) ∈ lw_all := lw_g (lw_at lw_m8 218 rfl) rfl
theorem q2005 : (Jvm.Cond.instanceMethod ({ cls := "PastWatch$Row", name := "<init>", desc := "(IZLjava/util/List;)V" } : Jvm.MethodName)) ∈ lw_all := lw_g (lw_at lw_m8 220 rfl) rfl
theorem q2006 : (Jvm.Cond.code ({ cls := "PastWatch$Row", name := "<init>", desc := "(IZLjava/util/List;)V" } : Jvm.MethodName) prog_24_method_1_code (4 : Nat) (Option.none : Option Jvm.ClassFile.FieldType)) ∈ lw_all := lw_g (lw_at lw_m8 221 rfl) rfl
theorem q2007 : (Jvm.Cond.methodLink "PastWatch$Row" (1 : Nat) ({ cls := "PastWatch$Node", name := "<init>", desc := "(I)V" } : Jvm.MethodName)) ∈ lw_all := lw_g (lw_at lw_m8 222 rfl) rfl
theorem q2008 : (Jvm.Cond.fieldLink "PastWatch$Row" (7 : Nat) "PastWatch$Row" "isAnd" "Z") ∈ lw_all := lw_g (lw_at lw_m8 223 rfl) rfl
theorem q2009 : (Jvm.Cond.fieldLink "PastWatch$Row" (13 : Nat) "PastWatch$Row" "nodes" "Ljava/util/List;") ∈ lw_all := lw_g (lw_at lw_m8 224 rfl) rfl
theorem q2010 : (Jvm.Cond.laysFinal "PastWatch$Row" "PastWatch$Row" "isAnd" "Z") ∈ lw_all := lw_g (lw_at lw_m8 225 rfl) rfl
theorem q2011 : (Jvm.Cond.soleField "PastWatch$Row" "isAnd") ∈ lw_all := lw_g (lw_at lw_m8 226 rfl) rfl
theorem q2012 : (Jvm.Cond.laysFinal "PastWatch$Row" "PastWatch$Row" "nodes" "Ljava/util/List;") ∈ lw_all := lw_g (lw_at lw_m8 227 rfl) rfl
theorem q2013 : (Jvm.Cond.soleField "PastWatch$Row" "nodes") ∈ lw_all := lw_g (lw_at lw_m8 228 rfl) rfl
theorem q2014 : (Jvm.Cond.laysFinal "PastWatch$Row" "PastWatch$Node" "place" "I") ∈ lw_all := lw_g (lw_at lw_m8 229 rfl) rfl
theorem q2015 : (Jvm.Cond.lays "PastWatch$Row" "PastWatch$Node" "history" "[J") ∈ lw_all := lw_g (lw_at lw_m8 230 rfl) rfl
theorem q2016 : (Jvm.Cond.superclass "PastWatch$Row" "PastWatch$Node") ∈ lw_all := lw_g (lw_at lw_m8 231 rfl) rfl
theorem q2172 : (Jvm.Cond.selects "PastWatch$Row" ({ cls := "PastWatch$Node", name := "keep", desc := "(I[I)V" } : Jvm.MethodName) ({ cls := "PastWatch$Node", name := "keep", desc := "(I[I)V" } : Jvm.MethodName)) ∈ lw_all := lw_g (lw_at lw_m9 147 rfl) rfl
theorem q2200 : (Jvm.Cond.selects "PastWatch$Row" ({ cls := "PastWatch$Node", name := "holds", desc := "(I)Z" } : Jvm.MethodName) ({ cls := "PastWatch$Node", name := "holds", desc := "(I)Z" } : Jvm.MethodName)) ∈ lw_all := lw_g (lw_at lw_m9 175 rfl) rfl
theorem q2302 : (Jvm.Cond.selects "PastWatch$Row" ({ cls := "PastWatch$Node", name := "reckon", desc := "(I[I)J" } : Jvm.MethodName) ({ cls := "PastWatch$Row", name := "reckon", desc := "(I[I)J" } : Jvm.MethodName)) ∈ lw_all := lw_g (lw_at lw_m10 37 rfl) rfl
theorem q2303 : (Jvm.Cond.instanceMethod ({ cls := "PastWatch$Row", name := "reckon", desc := "(I[I)J" } : Jvm.MethodName)) ∈ lw_all := lw_g (lw_at lw_m10 38 rfl) rfl
theorem q2304 : (Jvm.Cond.code ({ cls := "PastWatch$Row", name := "reckon", desc := "(I[I)J" } : Jvm.MethodName) prog_24_method_2_code (4 : Nat) (Option.some Jvm.ClassFile.FieldType.long)) ∈ lw_all := lw_g (lw_at lw_m10 39 rfl) rfl
theorem q2305 : (Jvm.Cond.interfaceEntry "PastWatch$Row" (17 : Nat)) ∈ lw_tbl := lw_at lw_m10 40 rfl
theorem q2306 : (Jvm.Cond.methodLink "PastWatch$Row" (17 : Nat) ({ cls := "java/util/List", name := "size", desc := "()I" } : Jvm.MethodName)) ∈ lw_all := lw_g (lw_at lw_m10 41 rfl) rfl
theorem q2307 : (Jvm.Cond.interfaceEntry "PastWatch$Row" (23 : Nat)) ∈ lw_tbl := lw_at lw_m10 42 rfl
theorem q2308 : (Jvm.Cond.methodLink "PastWatch$Row" (23 : Nat) ({ cls := "java/util/List", name := "get", desc := "(I)Ljava/lang/Object;" } : Jvm.MethodName)) ∈ lw_all := lw_g (lw_at lw_m10 43 rfl) rfl
theorem q2309 : (Jvm.Cond.classLink "PastWatch$Row" (2 : Nat) "PastWatch$Node") ∈ lw_all := lw_g (lw_at lw_m10 44 rfl) rfl
theorem q2310 : (Jvm.Cond.methodLink "PastWatch$Row" (27 : Nat) ({ cls := "PastWatch$Node", name := "holds", desc := "(I)Z" } : Jvm.MethodName)) ∈ lw_all := lw_g (lw_at lw_m10 45 rfl) rfl
theorem q2311 : (Jvm.Cond.methodLinkNest "PastWatch$Row" (31 : Nat) ({ cls := "PastWatch", name := "asNumber", desc := "(Z)J" } : Jvm.MethodName) "PastWatch") ∈ lw_tbl := lw_at lw_m10 46 rfl
theorem q2578 : (Jvm.Cond.instanceMethod ({ cls := "PastWatch$Row", name := "reason", desc := "(I[I)LPastWatch$Reason;" } : Jvm.MethodName)) ∈ lw_all := lw_g (lw_at lw_m11 73 rfl) rfl
theorem q2579 : (Jvm.Cond.code ({ cls := "PastWatch$Row", name := "reason", desc := "(I[I)LPastWatch$Reason;" } : Jvm.MethodName) prog_24_method_3_code (4 : Nat) (Option.some (Jvm.ClassFile.FieldType.object "PastWatch$Reason"))) ∈ lw_all := lw_g (lw_at lw_m11 74 rfl) rfl
theorem q2580 : (Jvm.Cond.methodLink "PastWatch$Row" (37 : Nat) ({ cls := "PastWatch$Node", name := "reason", desc := "(I[I)LPastWatch$Reason;" } : Jvm.MethodName)) ∈ lw_all := lw_g (lw_at lw_m11 75 rfl) rfl
theorem q2608 : (Jvm.Cond.selects "PastWatch$Row" ({ cls := "PastWatch$Node", name := "reason", desc := "(I[I)LPastWatch$Reason;" } : Jvm.MethodName) ({ cls := "PastWatch$Row", name := "reason", desc := "(I[I)LPastWatch$Reason;" } : Jvm.MethodName)) ∈ lw_all := lw_g (lw_at lw_m11 103 rfl) rfl
theorem q3227 : (Jvm.Cond.selects "PastWatch$Row" ({ cls := "PastWatch$Node", name := "at", desc := "(I)J" } : Jvm.MethodName) ({ cls := "PastWatch$Node", name := "at", desc := "(I)J" } : Jvm.MethodName)) ∈ lw_all := lw_g (lw_at lw_m14 2 rfl) rfl
theorem q3251 : (Jvm.Cond.castable "PastWatch$Row" "PastWatch$Node") ∈ lw_tbl := lw_at lw_m14 26 rfl
theorem q3293 : (Jvm.Cond.castable "PastWatch$Row" "java/lang/Object") ∈ lw_tbl := lw_at lw_m14 68 rfl
theorem in_X24 : ∀ w ∈ wsX240, w ∈ lw_all := lw_in wsX240 [2014, 2015, 2010, 2012] (by decide +kernel) (by decide +kernel)

/-! PastWatch$Implies -/

def RX25 : String := "PastWatch$Implies"
def TX25 : u_T := fun k => match k with
  | 0 => ("PastWatch$Node", "place", "I", true)
  | 1 => ("PastWatch$Node", "history", "[J", false)
  | 2 => ("PastWatch$Implies", "left", "LPastWatch$Node;", true)
  | _ => ("PastWatch$Implies", "right", "LPastWatch$Node;", true)
def tyX25 : Nat → FieldType := fun k => match k with
  | 0 => .int
  | 1 => .array .long
  | 2 => .object "PastWatch$Node"
  | _ => .object "PastWatch$Node"
abbrev wsX250 : List Cond := u_ws RX25 TX25 4
theorem nmX25 : ∀ a, a < 4 → ∀ b, b < 4 → a ≠ b → (TX25 a).2.1 ≠ (TX25 b).2.1 := by decide +kernel
theorem tyX25_ok : ∀ k, k < 4 → parseFieldDescriptor (TX25 k).2.2.1 = some (tyX25 k) := by decide +kernel
abbrev cX25_init : ByteArray := prog_9_method_1_code
def yX25_init : MethodName := ⟨RX25, "<init>", "(ILPastWatch$Node;LPastWatch$Node;)V"⟩
def dkwX25_init_0 : List UInt8 := [42, 27, 183, 0, 1, 42, 44, 181, 0, 7, 42, 45, 181, 0, 13, 177]
abbrev dktX25_init_0 : List UInt8 := dkwX25_init_0 ++ []
theorem dksX25_init_0 : cX25_init.data.toList.drop 0 = dktX25_init_0 := by decide +kernel
theorem dX25_init_0 : decode cX25_init 0 = .ok (.aload_n 0, 1) := dk_42 (dk_at dksX25_init_0 0 rfl rfl)
theorem dX25_init_1 : decode cX25_init 1 = .ok (.iload_n 1, 1) := dk_27 (dk_at dksX25_init_0 1 rfl rfl)
theorem dX25_init_2 : decode cX25_init 2 = .ok (.invokespecial 1, 3) := dk_183 0 1 (dk_at dksX25_init_0 2 rfl rfl)
theorem dX25_init_5 : decode cX25_init 5 = .ok (.aload_n 0, 1) := dk_42 (dk_at dksX25_init_0 5 rfl rfl)
theorem dX25_init_6 : decode cX25_init 6 = .ok (.aload_n 2, 1) := dk_44 (dk_at dksX25_init_0 6 rfl rfl)
theorem dX25_init_7 : decode cX25_init 7 = .ok (.putfield 7, 3) := dk_181 0 7 (dk_at dksX25_init_0 7 rfl rfl)
theorem dX25_init_10 : decode cX25_init 10 = .ok (.aload_n 0, 1) := dk_42 (dk_at dksX25_init_0 10 rfl rfl)
theorem dX25_init_11 : decode cX25_init 11 = .ok (.aload_n 3, 1) := dk_45 (dk_at dksX25_init_0 11 rfl rfl)
theorem dX25_init_12 : decode cX25_init 12 = .ok (.putfield 13, 3) := dk_181 0 13 (dk_at dksX25_init_0 12 rfl rfl)
theorem dX25_init_15 : decode cX25_init 15 = .ok (.return_, 1) := dk_177 (dk_at dksX25_init_0 15 rfl rfl)
abbrev cX25_reckon : ByteArray := prog_9_method_2_code
def yX25_reckon : MethodName := ⟨RX25, "reckon", "(I[I)J"⟩
def dkwX25_reckon_1 : List UInt8 := [167, 0, 4, 3, 184, 0, 20, 173]
abbrev dktX25_reckon_1 : List UInt8 := dkwX25_reckon_1 ++ []
def dkwX25_reckon_0 : List UInt8 := [42, 180, 0, 7, 27, 182, 0, 16, 153, 0, 14, 42, 180, 0, 13, 27, 182, 0, 16, 153, 0, 7, 4]
abbrev dktX25_reckon_0 : List UInt8 := dkwX25_reckon_0 ++ dktX25_reckon_1
theorem dksX25_reckon_0 : cX25_reckon.data.toList.drop 0 = dktX25_reckon_0 := by decide +kernel
theorem dksX25_reckon_1 : cX25_reckon.data.toList.drop 23 = dktX25_reckon_1 := dk_seg dksX25_reckon_0 23 rfl rfl
theorem dX25_reckon_0 : decode cX25_reckon 0 = .ok (.aload_n 0, 1) := dk_42 (dk_at dksX25_reckon_0 0 rfl rfl)
theorem dX25_reckon_1 : decode cX25_reckon 1 = .ok (.getfield 7, 3) := dk_180 0 7 (dk_at dksX25_reckon_0 1 rfl rfl)
theorem dX25_reckon_4 : decode cX25_reckon 4 = .ok (.iload_n 1, 1) := dk_27 (dk_at dksX25_reckon_0 4 rfl rfl)
theorem dX25_reckon_5 : decode cX25_reckon 5 = .ok (.invokevirtual 16, 3) := dk_182 0 16 (dk_at dksX25_reckon_0 5 rfl rfl)
theorem dX25_reckon_8 : decode cX25_reckon 8 = .ok (.ifCond .eq 14, 3) := dk_153 0 14 (dk_at dksX25_reckon_0 8 rfl rfl)
theorem dX25_reckon_11 : decode cX25_reckon 11 = .ok (.aload_n 0, 1) := dk_42 (dk_at dksX25_reckon_0 11 rfl rfl)
theorem dX25_reckon_12 : decode cX25_reckon 12 = .ok (.getfield 13, 3) := dk_180 0 13 (dk_at dksX25_reckon_0 12 rfl rfl)
theorem dX25_reckon_15 : decode cX25_reckon 15 = .ok (.iload_n 1, 1) := dk_27 (dk_at dksX25_reckon_0 15 rfl rfl)
theorem dX25_reckon_16 : decode cX25_reckon 16 = .ok (.invokevirtual 16, 3) := dk_182 0 16 (dk_at dksX25_reckon_0 16 rfl rfl)
theorem dX25_reckon_19 : decode cX25_reckon 19 = .ok (.ifCond .eq 7, 3) := dk_153 0 7 (dk_at dksX25_reckon_0 19 rfl rfl)
theorem dX25_reckon_22 : decode cX25_reckon 22 = .ok (.iconst 1, 1) := dk_4 (dk_at dksX25_reckon_0 22 rfl rfl)
theorem dX25_reckon_23 : decode cX25_reckon 23 = .ok (.goto 4, 3) := dk_167 0 4 (dk_at dksX25_reckon_1 0 rfl rfl)
theorem dX25_reckon_26 : decode cX25_reckon 26 = .ok (.iconst 0, 1) := dk_3 (dk_at dksX25_reckon_1 3 rfl rfl)
theorem dX25_reckon_27 : decode cX25_reckon 27 = .ok (.invokestatic 20, 3) := dk_184 0 20 (dk_at dksX25_reckon_1 4 rfl rfl)
theorem dX25_reckon_30 : decode cX25_reckon 30 = .ok (.lreturn, 1) := dk_173 (dk_at dksX25_reckon_1 7 rfl rfl)
abbrev cX25_reason : ByteArray := prog_9_method_3_code
def yX25_reason : MethodName := ⟨RX25, "reason", "(I[I)LPastWatch$Reason;"⟩
def dkwX25_reason_0 : List UInt8 := [42, 180, 0, 13, 27, 44, 182, 0, 26, 176]
abbrev dktX25_reason_0 : List UInt8 := dkwX25_reason_0 ++ []
theorem dksX25_reason_0 : cX25_reason.data.toList.drop 0 = dktX25_reason_0 := by decide +kernel
theorem dX25_reason_0 : decode cX25_reason 0 = .ok (.aload_n 0, 1) := dk_42 (dk_at dksX25_reason_0 0 rfl rfl)
theorem dX25_reason_1 : decode cX25_reason 1 = .ok (.getfield 13, 3) := dk_180 0 13 (dk_at dksX25_reason_0 1 rfl rfl)
theorem dX25_reason_4 : decode cX25_reason 4 = .ok (.iload_n 1, 1) := dk_27 (dk_at dksX25_reason_0 4 rfl rfl)
theorem dX25_reason_5 : decode cX25_reason 5 = .ok (.aload_n 2, 1) := dk_44 (dk_at dksX25_reason_0 5 rfl rfl)
theorem dX25_reason_6 : decode cX25_reason 6 = .ok (.invokevirtual 26, 3) := dk_182 0 26 (dk_at dksX25_reason_0 6 rfl rfl)
theorem dX25_reason_9 : decode cX25_reason 9 = .ok (.areturn, 1) := dk_176 (dk_at dksX25_reason_0 9 rfl rfl)
theorem q163 : (Jvm.Cond.initialized "PastWatch$Implies") ∈ lw_all := lw_g (lw_at lw_m1 58 rfl) rfl
theorem q932 : (Jvm.Cond.selects "PastWatch$Implies" ({ cls := "java/lang/Object", name := "getClass", desc := "()Ljava/lang/Class;" } : Jvm.MethodName) ({ cls := "java/lang/Object", name := "getClass", desc := "()Ljava/lang/Class;" } : Jvm.MethodName)) ∈ lw_all := lw_g (lw_at lw_m4 107 rfl) rfl
theorem q1128 : (Jvm.Cond.selects "PastWatch$Implies" ({ cls := "java/lang/Object", name := "hashCode", desc := "()I" } : Jvm.MethodName) ({ cls := "java/lang/Object", name := "hashCode", desc := "()I" } : Jvm.MethodName)) ∈ lw_all := lw_g (lw_at lw_m5 63 rfl) rfl
theorem q1177 : (Jvm.Cond.selects "PastWatch$Implies" ({ cls := "java/lang/Object", name := "equals", desc := "(Ljava/lang/Object;)Z" } : Jvm.MethodName) ({ cls := "java/lang/Object", name := "equals", desc := "(Ljava/lang/Object;)Z" } : Jvm.MethodName)) ∈ lw_all := lw_g (lw_at lw_m5 112 rfl) rfl
theorem q2019 : (Jvm.Cond.instantiable "PastWatch$Implies" (4 : Nat)) ∈ lw_all := lw_g (lw_at lw_m8 234 rfl) rfl
theorem q2021 : (Jvm.Cond.instanceMethod ({ cls := "PastWatch$Implies", name := "<init>", desc := "(ILPastWatch$Node;LPastWatch$Node;)V" } : Jvm.MethodName)) ∈ lw_all := lw_g (lw_at lw_m8 236 rfl) rfl
theorem q2022 : (Jvm.Cond.code ({ cls := "PastWatch$Implies", name := "<init>", desc := "(ILPastWatch$Node;LPastWatch$Node;)V" } : Jvm.MethodName) prog_9_method_1_code (4 : Nat) (Option.none : Option Jvm.ClassFile.FieldType)) ∈ lw_all := lw_g (lw_at lw_m8 237 rfl) rfl
theorem q2023 : (Jvm.Cond.methodLink "PastWatch$Implies" (1 : Nat) ({ cls := "PastWatch$Node", name := "<init>", desc := "(I)V" } : Jvm.MethodName)) ∈ lw_all := lw_g (lw_at lw_m8 238 rfl) rfl
theorem q2024 : (Jvm.Cond.fieldLink "PastWatch$Implies" (7 : Nat) "PastWatch$Implies" "left" "LPastWatch$Node;") ∈ lw_all := lw_g (lw_at lw_m8 239 rfl) rfl
theorem q2025 : (Jvm.Cond.fieldLink "PastWatch$Implies" (13 : Nat) "PastWatch$Implies" "right" "LPastWatch$Node;") ∈ lw_all := lw_g (lw_at lw_m9 0 rfl) rfl
theorem q2026 : (Jvm.Cond.laysFinal "PastWatch$Implies" "PastWatch$Implies" "left" "LPastWatch$Node;") ∈ lw_all := lw_g (lw_at lw_m9 1 rfl) rfl
theorem q2027 : (Jvm.Cond.soleField "PastWatch$Implies" "left") ∈ lw_all := lw_g (lw_at lw_m9 2 rfl) rfl
theorem q2028 : (Jvm.Cond.laysFinal "PastWatch$Implies" "PastWatch$Implies" "right" "LPastWatch$Node;") ∈ lw_all := lw_g (lw_at lw_m9 3 rfl) rfl
theorem q2029 : (Jvm.Cond.soleField "PastWatch$Implies" "right") ∈ lw_all := lw_g (lw_at lw_m9 4 rfl) rfl
theorem q2030 : (Jvm.Cond.laysFinal "PastWatch$Implies" "PastWatch$Node" "place" "I") ∈ lw_all := lw_g (lw_at lw_m9 5 rfl) rfl
theorem q2031 : (Jvm.Cond.lays "PastWatch$Implies" "PastWatch$Node" "history" "[J") ∈ lw_all := lw_g (lw_at lw_m9 6 rfl) rfl
theorem q2032 : (Jvm.Cond.superclass "PastWatch$Implies" "PastWatch$Node") ∈ lw_all := lw_g (lw_at lw_m9 7 rfl) rfl
theorem q2168 : (Jvm.Cond.selects "PastWatch$Implies" ({ cls := "PastWatch$Node", name := "keep", desc := "(I[I)V" } : Jvm.MethodName) ({ cls := "PastWatch$Node", name := "keep", desc := "(I[I)V" } : Jvm.MethodName)) ∈ lw_all := lw_g (lw_at lw_m9 143 rfl) rfl
theorem q2196 : (Jvm.Cond.selects "PastWatch$Implies" ({ cls := "PastWatch$Node", name := "holds", desc := "(I)Z" } : Jvm.MethodName) ({ cls := "PastWatch$Node", name := "holds", desc := "(I)Z" } : Jvm.MethodName)) ∈ lw_all := lw_g (lw_at lw_m9 171 rfl) rfl
theorem q2266 : (Jvm.Cond.selects "PastWatch$Implies" ({ cls := "PastWatch$Node", name := "reckon", desc := "(I[I)J" } : Jvm.MethodName) ({ cls := "PastWatch$Implies", name := "reckon", desc := "(I[I)J" } : Jvm.MethodName)) ∈ lw_all := lw_g (lw_at lw_m10 1 rfl) rfl
theorem q2267 : (Jvm.Cond.instanceMethod ({ cls := "PastWatch$Implies", name := "reckon", desc := "(I[I)J" } : Jvm.MethodName)) ∈ lw_all := lw_g (lw_at lw_m10 2 rfl) rfl
theorem q2268 : (Jvm.Cond.code ({ cls := "PastWatch$Implies", name := "reckon", desc := "(I[I)J" } : Jvm.MethodName) prog_9_method_2_code (3 : Nat) (Option.some Jvm.ClassFile.FieldType.long)) ∈ lw_all := lw_g (lw_at lw_m10 3 rfl) rfl
theorem q2269 : (Jvm.Cond.methodLink "PastWatch$Implies" (16 : Nat) ({ cls := "PastWatch$Node", name := "holds", desc := "(I)Z" } : Jvm.MethodName)) ∈ lw_all := lw_g (lw_at lw_m10 4 rfl) rfl
theorem q2270 : (Jvm.Cond.methodLinkNest "PastWatch$Implies" (20 : Nat) ({ cls := "PastWatch", name := "asNumber", desc := "(Z)J" } : Jvm.MethodName) "PastWatch") ∈ lw_tbl := lw_at lw_m10 5 rfl
theorem q2571 : (Jvm.Cond.instanceMethod ({ cls := "PastWatch$Implies", name := "reason", desc := "(I[I)LPastWatch$Reason;" } : Jvm.MethodName)) ∈ lw_all := lw_g (lw_at lw_m11 66 rfl) rfl
theorem q2572 : (Jvm.Cond.code ({ cls := "PastWatch$Implies", name := "reason", desc := "(I[I)LPastWatch$Reason;" } : Jvm.MethodName) prog_9_method_3_code (3 : Nat) (Option.some (Jvm.ClassFile.FieldType.object "PastWatch$Reason"))) ∈ lw_all := lw_g (lw_at lw_m11 67 rfl) rfl
theorem q2573 : (Jvm.Cond.methodLink "PastWatch$Implies" (26 : Nat) ({ cls := "PastWatch$Node", name := "reason", desc := "(I[I)LPastWatch$Reason;" } : Jvm.MethodName)) ∈ lw_all := lw_g (lw_at lw_m11 68 rfl) rfl
theorem q2604 : (Jvm.Cond.selects "PastWatch$Implies" ({ cls := "PastWatch$Node", name := "reason", desc := "(I[I)LPastWatch$Reason;" } : Jvm.MethodName) ({ cls := "PastWatch$Implies", name := "reason", desc := "(I[I)LPastWatch$Reason;" } : Jvm.MethodName)) ∈ lw_all := lw_g (lw_at lw_m11 99 rfl) rfl
theorem q3223 : (Jvm.Cond.selects "PastWatch$Implies" ({ cls := "PastWatch$Node", name := "at", desc := "(I)J" } : Jvm.MethodName) ({ cls := "PastWatch$Node", name := "at", desc := "(I)J" } : Jvm.MethodName)) ∈ lw_all := lw_g (lw_at lw_m13 238 rfl) rfl
theorem q3247 : (Jvm.Cond.castable "PastWatch$Implies" "PastWatch$Node") ∈ lw_tbl := lw_at lw_m14 22 rfl
theorem q3294 : (Jvm.Cond.castable "PastWatch$Implies" "java/lang/Object") ∈ lw_tbl := lw_at lw_m14 69 rfl
theorem in_X25 : ∀ w ∈ wsX250, w ∈ lw_all := lw_in wsX250 [2030, 2031, 2026, 2028] (by decide +kernel) (by decide +kernel)

/-! PastWatch$Watch -/

def RX26 : String := "PastWatch$Watch"
def TX26 : u_T := fun k => match k with
  | 0 => ("PastWatch$Watch", "formula", "LPastWatch$Node;", true)
  | _ => ("PastWatch$Watch", "level", "I", true)
def tyX26 : Nat → FieldType := fun k => match k with
  | 0 => .object "PastWatch$Node"
  | _ => .int
abbrev wsX260 : List Cond := u_ws RX26 TX26 2
theorem nmX26 : ∀ a, a < 2 → ∀ b, b < 2 → a ≠ b → (TX26 a).2.1 ≠ (TX26 b).2.1 := by decide +kernel
theorem tyX26_ok : ∀ k, k < 2 → parseFieldDescriptor (TX26 k).2.2.1 = some (tyX26 k) := by decide +kernel
abbrev cX26_init : ByteArray := prog_31_method_1_code
def yX26_init : MethodName := ⟨RX26, "<init>", "(LPastWatch$Node;I)V"⟩
def dkwX26_init_0 : List UInt8 := [42, 183, 0, 3, 42, 43, 181, 0, 9, 42, 28, 181, 0, 15, 177]
abbrev dktX26_init_0 : List UInt8 := dkwX26_init_0 ++ []
theorem dksX26_init_0 : cX26_init.data.toList.drop 0 = dktX26_init_0 := by decide +kernel
theorem dX26_init_0 : decode cX26_init 0 = .ok (.aload_n 0, 1) := dk_42 (dk_at dksX26_init_0 0 rfl rfl)
theorem dX26_init_1 : decode cX26_init 1 = .ok (.invokespecial 3, 3) := dk_183 0 3 (dk_at dksX26_init_0 1 rfl rfl)
theorem dX26_init_4 : decode cX26_init 4 = .ok (.aload_n 0, 1) := dk_42 (dk_at dksX26_init_0 4 rfl rfl)
theorem dX26_init_5 : decode cX26_init 5 = .ok (.aload_n 1, 1) := dk_43 (dk_at dksX26_init_0 5 rfl rfl)
theorem dX26_init_6 : decode cX26_init 6 = .ok (.putfield 9, 3) := dk_181 0 9 (dk_at dksX26_init_0 6 rfl rfl)
theorem dX26_init_9 : decode cX26_init 9 = .ok (.aload_n 0, 1) := dk_42 (dk_at dksX26_init_0 9 rfl rfl)
theorem dX26_init_10 : decode cX26_init 10 = .ok (.iload_n 2, 1) := dk_28 (dk_at dksX26_init_0 10 rfl rfl)
theorem dX26_init_11 : decode cX26_init 11 = .ok (.putfield 15, 3) := dk_181 0 15 (dk_at dksX26_init_0 11 rfl rfl)
theorem dX26_init_14 : decode cX26_init 14 = .ok (.return_, 1) := dk_177 (dk_at dksX26_init_0 14 rfl rfl)
abbrev cX26_get : ByteArray := prog_31_method_2_code
def yX26_get : MethodName := ⟨RX26, "get", "(II)I"⟩
def dkwX26_get_5 : List UInt8 := [42, 180, 0, 15, 172, 29, 172, 21, 4, 172, 21, 5, 172, 21, 6, 172]
abbrev dktX26_get_5 : List UInt8 := dkwX26_get_5 ++ []
def dkwX26_get_4 : List UInt8 := [170, 0, 0, 0, 0, 43, 0, 0, 0, 0, 0, 0, 0, 3, 0, 0, 0, 30, 0, 0, 0, 35, 0, 0, 0, 37, 0, 0, 0, 40]
abbrev dktX26_get_4 : List UInt8 := dkwX26_get_4 ++ dktX26_get_5
def dkwX26_get_3 : List UInt8 := [21, 7, 54, 4, 21, 5, 21, 6, 184, 0, 25, 54, 5, 132, 7, 1, 167, 255, 184, 27]
abbrev dktX26_get_3 : List UInt8 := dkwX26_get_3 ++ dktX26_get_4
def dkwX26_get_2 : List UInt8 := [21, 8, 153, 0, 7, 3, 167, 0, 4, 4, 96, 62, 21, 8, 154, 0, 13, 21, 4, 2, 160, 0, 7]
abbrev dktX26_get_2 : List UInt8 := dkwX26_get_2 ++ dktX26_get_3
def dkwX26_get_1 : List UInt8 := [21, 7, 182, 0, 19, 54, 8, 21, 8, 153, 0, 7, 3, 167, 0, 7, 21, 6, 4, 96, 54, 6, 29]
abbrev dktX26_get_1 : List UInt8 := dkwX26_get_1 ++ dktX26_get_2
def dkwX26_get_0 : List UInt8 := [3, 62, 2, 54, 4, 3, 54, 5, 3, 54, 6, 3, 54, 7, 21, 7, 28, 162, 0, 72, 42, 180, 0, 9]
abbrev dktX26_get_0 : List UInt8 := dkwX26_get_0 ++ dktX26_get_1
theorem dksX26_get_0 : cX26_get.data.toList.drop 0 = dktX26_get_0 := by decide +kernel
theorem dksX26_get_1 : cX26_get.data.toList.drop 24 = dktX26_get_1 := dk_seg dksX26_get_0 24 rfl rfl
theorem dksX26_get_2 : cX26_get.data.toList.drop 47 = dktX26_get_2 := dk_seg dksX26_get_1 23 rfl rfl
theorem dksX26_get_3 : cX26_get.data.toList.drop 70 = dktX26_get_3 := dk_seg dksX26_get_2 23 rfl rfl
theorem dksX26_get_4 : cX26_get.data.toList.drop 90 = dktX26_get_4 := dk_seg dksX26_get_3 20 rfl rfl
theorem dksX26_get_5 : cX26_get.data.toList.drop 120 = dktX26_get_5 := dk_seg dksX26_get_4 30 rfl rfl
theorem dX26_get_0 : decode cX26_get 0 = .ok (.iconst 0, 1) := dk_3 (dk_at dksX26_get_0 0 rfl rfl)
theorem dX26_get_1 : decode cX26_get 1 = .ok (.istore_n 3, 1) := dk_62 (dk_at dksX26_get_0 1 rfl rfl)
theorem dX26_get_2 : decode cX26_get 2 = .ok (.iconst (-1), 1) := dk_2 (dk_at dksX26_get_0 2 rfl rfl)
theorem dX26_get_3 : decode cX26_get 3 = .ok (.istore 4, 2) := dk_54 4 (dk_at dksX26_get_0 3 rfl rfl)
theorem dX26_get_5 : decode cX26_get 5 = .ok (.iconst 0, 1) := dk_3 (dk_at dksX26_get_0 5 rfl rfl)
theorem dX26_get_6 : decode cX26_get 6 = .ok (.istore 5, 2) := dk_54 5 (dk_at dksX26_get_0 6 rfl rfl)
theorem dX26_get_8 : decode cX26_get 8 = .ok (.iconst 0, 1) := dk_3 (dk_at dksX26_get_0 8 rfl rfl)
theorem dX26_get_9 : decode cX26_get 9 = .ok (.istore 6, 2) := dk_54 6 (dk_at dksX26_get_0 9 rfl rfl)
theorem dX26_get_11 : decode cX26_get 11 = .ok (.iconst 0, 1) := dk_3 (dk_at dksX26_get_0 11 rfl rfl)
theorem dX26_get_12 : decode cX26_get 12 = .ok (.istore 7, 2) := dk_54 7 (dk_at dksX26_get_0 12 rfl rfl)
theorem dX26_get_14 : decode cX26_get 14 = .ok (.iload 7, 2) := dk_21 7 (dk_at dksX26_get_0 14 rfl rfl)
theorem dX26_get_16 : decode cX26_get 16 = .ok (.iload_n 2, 1) := dk_28 (dk_at dksX26_get_0 16 rfl rfl)
theorem dX26_get_17 : decode cX26_get 17 = .ok (.if_icmp .ge 72, 3) := dk_162 0 72 (dk_at dksX26_get_0 17 rfl rfl)
theorem dX26_get_20 : decode cX26_get 20 = .ok (.aload_n 0, 1) := dk_42 (dk_at dksX26_get_0 20 rfl rfl)
theorem dX26_get_21 : decode cX26_get 21 = .ok (.getfield 9, 3) := dk_180 0 9 (dk_at dksX26_get_0 21 rfl rfl)
theorem dX26_get_24 : decode cX26_get 24 = .ok (.iload 7, 2) := dk_21 7 (dk_at dksX26_get_1 0 rfl rfl)
theorem dX26_get_26 : decode cX26_get 26 = .ok (.invokevirtual 19, 3) := dk_182 0 19 (dk_at dksX26_get_1 2 rfl rfl)
theorem dX26_get_29 : decode cX26_get 29 = .ok (.istore 8, 2) := dk_54 8 (dk_at dksX26_get_1 5 rfl rfl)
theorem dX26_get_31 : decode cX26_get 31 = .ok (.iload 8, 2) := dk_21 8 (dk_at dksX26_get_1 7 rfl rfl)
theorem dX26_get_33 : decode cX26_get 33 = .ok (.ifCond .eq 7, 3) := dk_153 0 7 (dk_at dksX26_get_1 9 rfl rfl)
theorem dX26_get_36 : decode cX26_get 36 = .ok (.iconst 0, 1) := dk_3 (dk_at dksX26_get_1 12 rfl rfl)
theorem dX26_get_37 : decode cX26_get 37 = .ok (.goto 7, 3) := dk_167 0 7 (dk_at dksX26_get_1 13 rfl rfl)
theorem dX26_get_40 : decode cX26_get 40 = .ok (.iload 6, 2) := dk_21 6 (dk_at dksX26_get_1 16 rfl rfl)
theorem dX26_get_42 : decode cX26_get 42 = .ok (.iconst 1, 1) := dk_4 (dk_at dksX26_get_1 18 rfl rfl)
theorem dX26_get_43 : decode cX26_get 43 = .ok (.iadd, 1) := dk_96 (dk_at dksX26_get_1 19 rfl rfl)
theorem dX26_get_44 : decode cX26_get 44 = .ok (.istore 6, 2) := dk_54 6 (dk_at dksX26_get_1 20 rfl rfl)
theorem dX26_get_46 : decode cX26_get 46 = .ok (.iload_n 3, 1) := dk_29 (dk_at dksX26_get_1 22 rfl rfl)
theorem dX26_get_47 : decode cX26_get 47 = .ok (.iload 8, 2) := dk_21 8 (dk_at dksX26_get_2 0 rfl rfl)
theorem dX26_get_49 : decode cX26_get 49 = .ok (.ifCond .eq 7, 3) := dk_153 0 7 (dk_at dksX26_get_2 2 rfl rfl)
theorem dX26_get_52 : decode cX26_get 52 = .ok (.iconst 0, 1) := dk_3 (dk_at dksX26_get_2 5 rfl rfl)
theorem dX26_get_53 : decode cX26_get 53 = .ok (.goto 4, 3) := dk_167 0 4 (dk_at dksX26_get_2 6 rfl rfl)
theorem dX26_get_56 : decode cX26_get 56 = .ok (.iconst 1, 1) := dk_4 (dk_at dksX26_get_2 9 rfl rfl)
theorem dX26_get_57 : decode cX26_get 57 = .ok (.iadd, 1) := dk_96 (dk_at dksX26_get_2 10 rfl rfl)
theorem dX26_get_58 : decode cX26_get 58 = .ok (.istore_n 3, 1) := dk_62 (dk_at dksX26_get_2 11 rfl rfl)
theorem dX26_get_59 : decode cX26_get 59 = .ok (.iload 8, 2) := dk_21 8 (dk_at dksX26_get_2 12 rfl rfl)
theorem dX26_get_61 : decode cX26_get 61 = .ok (.ifCond .ne 13, 3) := dk_154 0 13 (dk_at dksX26_get_2 14 rfl rfl)
theorem dX26_get_64 : decode cX26_get 64 = .ok (.iload 4, 2) := dk_21 4 (dk_at dksX26_get_2 17 rfl rfl)
theorem dX26_get_66 : decode cX26_get 66 = .ok (.iconst (-1), 1) := dk_2 (dk_at dksX26_get_2 19 rfl rfl)
theorem dX26_get_67 : decode cX26_get 67 = .ok (.if_icmp .ne 7, 3) := dk_160 0 7 (dk_at dksX26_get_2 20 rfl rfl)
theorem dX26_get_70 : decode cX26_get 70 = .ok (.iload 7, 2) := dk_21 7 (dk_at dksX26_get_3 0 rfl rfl)
theorem dX26_get_72 : decode cX26_get 72 = .ok (.istore 4, 2) := dk_54 4 (dk_at dksX26_get_3 2 rfl rfl)
theorem dX26_get_74 : decode cX26_get 74 = .ok (.iload 5, 2) := dk_21 5 (dk_at dksX26_get_3 4 rfl rfl)
theorem dX26_get_76 : decode cX26_get 76 = .ok (.iload 6, 2) := dk_21 6 (dk_at dksX26_get_3 6 rfl rfl)
theorem dX26_get_78 : decode cX26_get 78 = .ok (.invokestatic 25, 3) := dk_184 0 25 (dk_at dksX26_get_3 8 rfl rfl)
theorem dX26_get_81 : decode cX26_get 81 = .ok (.istore 5, 2) := dk_54 5 (dk_at dksX26_get_3 11 rfl rfl)
theorem dX26_get_83 : decode cX26_get 83 = .ok (.iinc 7 1, 3) := dk_132 7 1 (dk_at dksX26_get_3 13 rfl rfl)
theorem dX26_get_86 : decode cX26_get 86 = .ok (.goto (-72), 3) := dk_167 255 184 (dk_at dksX26_get_3 16 rfl rfl)
theorem dX26_get_89 : decode cX26_get 89 = .ok (.iload_n 1, 1) := dk_27 (dk_at dksX26_get_3 19 rfl rfl)
theorem dX26_get_90 : decode cX26_get 90 = .ok (.tableswitch 43 0 3 #[30, 35, 37, 40], 30) := by decide +kernel
theorem dX26_get_120 : decode cX26_get 120 = .ok (.aload_n 0, 1) := dk_42 (dk_at dksX26_get_5 0 rfl rfl)
theorem dX26_get_121 : decode cX26_get 121 = .ok (.getfield 15, 3) := dk_180 0 15 (dk_at dksX26_get_5 1 rfl rfl)
theorem dX26_get_124 : decode cX26_get 124 = .ok (.ireturn, 1) := dk_172 (dk_at dksX26_get_5 4 rfl rfl)
theorem dX26_get_125 : decode cX26_get 125 = .ok (.iload_n 3, 1) := dk_29 (dk_at dksX26_get_5 5 rfl rfl)
theorem dX26_get_126 : decode cX26_get 126 = .ok (.ireturn, 1) := dk_172 (dk_at dksX26_get_5 6 rfl rfl)
theorem dX26_get_127 : decode cX26_get 127 = .ok (.iload 4, 2) := dk_21 4 (dk_at dksX26_get_5 7 rfl rfl)
theorem dX26_get_129 : decode cX26_get 129 = .ok (.ireturn, 1) := dk_172 (dk_at dksX26_get_5 9 rfl rfl)
theorem dX26_get_130 : decode cX26_get 130 = .ok (.iload 5, 2) := dk_21 5 (dk_at dksX26_get_5 10 rfl rfl)
theorem dX26_get_132 : decode cX26_get 132 = .ok (.ireturn, 1) := dk_172 (dk_at dksX26_get_5 12 rfl rfl)
theorem dX26_get_133 : decode cX26_get 133 = .ok (.iload 6, 2) := dk_21 6 (dk_at dksX26_get_5 13 rfl rfl)
theorem dX26_get_135 : decode cX26_get 135 = .ok (.ireturn, 1) := dk_172 (dk_at dksX26_get_5 15 rfl rfl)
theorem q164 : (Jvm.Cond.initialized "PastWatch$Watch") ∈ lw_all := lw_g (lw_at lw_m1 59 rfl) rfl
theorem q952 : (Jvm.Cond.selects "PastWatch$Watch" ({ cls := "java/lang/Object", name := "getClass", desc := "()Ljava/lang/Class;" } : Jvm.MethodName) ({ cls := "java/lang/Object", name := "getClass", desc := "()Ljava/lang/Class;" } : Jvm.MethodName)) ∈ lw_all := lw_g (lw_at lw_m4 127 rfl) rfl
theorem q1153 : (Jvm.Cond.selects "PastWatch$Watch" ({ cls := "java/lang/Object", name := "hashCode", desc := "()I" } : Jvm.MethodName) ({ cls := "java/lang/Object", name := "hashCode", desc := "()I" } : Jvm.MethodName)) ∈ lw_all := lw_g (lw_at lw_m5 88 rfl) rfl
theorem q1199 : (Jvm.Cond.selects "PastWatch$Watch" ({ cls := "java/lang/Object", name := "equals", desc := "(Ljava/lang/Object;)Z" } : Jvm.MethodName) ({ cls := "java/lang/Object", name := "equals", desc := "(Ljava/lang/Object;)Z" } : Jvm.MethodName)) ∈ lw_all := lw_g (lw_at lw_m5 134 rfl) rfl
theorem q2046 : (Jvm.Cond.instantiable "PastWatch$Watch" (2 : Nat)) ∈ lw_all := lw_g (lw_at lw_m9 21 rfl) rfl
theorem q2048 : (Jvm.Cond.instanceMethod ({ cls := "PastWatch$Watch", name := "<init>", desc := "(LPastWatch$Node;I)V" } : Jvm.MethodName)) ∈ lw_all := lw_g (lw_at lw_m9 23 rfl) rfl
theorem q2049 : (Jvm.Cond.code ({ cls := "PastWatch$Watch", name := "<init>", desc := "(LPastWatch$Node;I)V" } : Jvm.MethodName) prog_31_method_1_code (3 : Nat) (Option.none : Option Jvm.ClassFile.FieldType)) ∈ lw_all := lw_g (lw_at lw_m9 24 rfl) rfl
theorem q2050 : (Jvm.Cond.methodLink "PastWatch$Watch" (3 : Nat) ({ cls := "java/lang/Object", name := "<init>", desc := "()V" } : Jvm.MethodName)) ∈ lw_all := lw_g (lw_at lw_m9 25 rfl) rfl
theorem q2051 : (Jvm.Cond.fieldLink "PastWatch$Watch" (9 : Nat) "PastWatch$Watch" "formula" "LPastWatch$Node;") ∈ lw_all := lw_g (lw_at lw_m9 26 rfl) rfl
theorem q2053 : (Jvm.Cond.fieldLink "PastWatch$Watch" (15 : Nat) "PastWatch$Watch" "level" "I") ∈ lw_all := lw_g (lw_at lw_m9 28 rfl) rfl
theorem q2055 : (Jvm.Cond.laysFinal "PastWatch$Watch" "PastWatch$Watch" "formula" "LPastWatch$Node;") ∈ lw_all := lw_g (lw_at lw_m9 30 rfl) rfl
theorem q2056 : (Jvm.Cond.soleField "PastWatch$Watch" "formula") ∈ lw_all := lw_g (lw_at lw_m9 31 rfl) rfl
theorem q2057 : (Jvm.Cond.laysFinal "PastWatch$Watch" "PastWatch$Watch" "level" "I") ∈ lw_all := lw_g (lw_at lw_m9 32 rfl) rfl
theorem q2058 : (Jvm.Cond.soleField "PastWatch$Watch" "level") ∈ lw_all := lw_g (lw_at lw_m9 33 rfl) rfl
theorem q2059 : (Jvm.Cond.superclass "PastWatch$Watch" "java/lang/Object") ∈ lw_all := lw_g (lw_at lw_m9 34 rfl) rfl
theorem q2367 : (Jvm.Cond.instanceMethod ({ cls := "PastWatch$Watch", name := "get", desc := "(II)I" } : Jvm.MethodName)) ∈ lw_all := lw_g (lw_at lw_m10 102 rfl) rfl
theorem q2368 : (Jvm.Cond.selects "PastWatch$Watch" ({ cls := "PastWatch$Watch", name := "get", desc := "(II)I" } : Jvm.MethodName) ({ cls := "PastWatch$Watch", name := "get", desc := "(II)I" } : Jvm.MethodName)) ∈ lw_all := lw_g (lw_at lw_m10 103 rfl) rfl
theorem q2369 : (Jvm.Cond.code ({ cls := "PastWatch$Watch", name := "get", desc := "(II)I" } : Jvm.MethodName) prog_31_method_2_code (9 : Nat) (Option.some Jvm.ClassFile.FieldType.int)) ∈ lw_all := lw_g (lw_at lw_m10 104 rfl) rfl
theorem q2370 : (Jvm.Cond.methodLink "PastWatch$Watch" (19 : Nat) ({ cls := "PastWatch$Node", name := "holds", desc := "(I)Z" } : Jvm.MethodName)) ∈ lw_all := lw_g (lw_at lw_m10 105 rfl) rfl
theorem q2371 : (Jvm.Cond.methodLink "PastWatch$Watch" (25 : Nat) ({ cls := "java/lang/Math", name := "max", desc := "(II)I" } : Jvm.MethodName)) ∈ lw_all := lw_g (lw_at lw_m10 106 rfl) rfl
theorem q3295 : (Jvm.Cond.castable "PastWatch$Watch" "java/lang/Object") ∈ lw_tbl := lw_at lw_m14 70 rfl
theorem in_X26 : ∀ w ∈ wsX260, w ∈ lw_all := lw_in wsX260 [2055, 2057] (by decide +kernel) (by decide +kernel)

/-! PastWatch$Reason -/

def RX27 : String := "PastWatch$Reason"
def TX27 : u_T := fun k => match k with
  | 0 => ("PastWatch$Reason", "place", "I", true)
  | _ => ("PastWatch$Reason", "step", "I", true)
def tyX27 : Nat → FieldType := fun k => match k with
  | 0 => .int
  | _ => .int
abbrev wsX270 : List Cond := u_ws RX27 TX27 2
theorem nmX27 : ∀ a, a < 2 → ∀ b, b < 2 → a ≠ b → (TX27 a).2.1 ≠ (TX27 b).2.1 := by decide +kernel
theorem tyX27_ok : ∀ k, k < 2 → parseFieldDescriptor (TX27 k).2.2.1 = some (tyX27 k) := by decide +kernel
abbrev cX27_init : ByteArray := prog_23_method_1_code
def yX27_init : MethodName := ⟨RX27, "<init>", "(II)V"⟩
def dkwX27_init_0 : List UInt8 := [42, 183, 0, 1, 42, 27, 181, 0, 7, 42, 28, 181, 0, 13, 177]
abbrev dktX27_init_0 : List UInt8 := dkwX27_init_0 ++ []
theorem dksX27_init_0 : cX27_init.data.toList.drop 0 = dktX27_init_0 := by decide +kernel
theorem dX27_init_0 : decode cX27_init 0 = .ok (.aload_n 0, 1) := dk_42 (dk_at dksX27_init_0 0 rfl rfl)
theorem dX27_init_1 : decode cX27_init 1 = .ok (.invokespecial 1, 3) := dk_183 0 1 (dk_at dksX27_init_0 1 rfl rfl)
theorem dX27_init_4 : decode cX27_init 4 = .ok (.aload_n 0, 1) := dk_42 (dk_at dksX27_init_0 4 rfl rfl)
theorem dX27_init_5 : decode cX27_init 5 = .ok (.iload_n 1, 1) := dk_27 (dk_at dksX27_init_0 5 rfl rfl)
theorem dX27_init_6 : decode cX27_init 6 = .ok (.putfield 7, 3) := dk_181 0 7 (dk_at dksX27_init_0 6 rfl rfl)
theorem dX27_init_9 : decode cX27_init 9 = .ok (.aload_n 0, 1) := dk_42 (dk_at dksX27_init_0 9 rfl rfl)
theorem dX27_init_10 : decode cX27_init 10 = .ok (.iload_n 2, 1) := dk_28 (dk_at dksX27_init_0 10 rfl rfl)
theorem dX27_init_11 : decode cX27_init 11 = .ok (.putfield 13, 3) := dk_181 0 13 (dk_at dksX27_init_0 11 rfl rfl)
theorem dX27_init_14 : decode cX27_init 14 = .ok (.return_, 1) := dk_177 (dk_at dksX27_init_0 14 rfl rfl)
theorem q168 : (Jvm.Cond.initialized "PastWatch$Reason") ∈ lw_all := lw_g (lw_at lw_m1 63 rfl) rfl
theorem q944 : (Jvm.Cond.selects "PastWatch$Reason" ({ cls := "java/lang/Object", name := "getClass", desc := "()Ljava/lang/Class;" } : Jvm.MethodName) ({ cls := "java/lang/Object", name := "getClass", desc := "()Ljava/lang/Class;" } : Jvm.MethodName)) ∈ lw_all := lw_g (lw_at lw_m4 119 rfl) rfl
theorem q1145 : (Jvm.Cond.selects "PastWatch$Reason" ({ cls := "java/lang/Object", name := "hashCode", desc := "()I" } : Jvm.MethodName) ({ cls := "java/lang/Object", name := "hashCode", desc := "()I" } : Jvm.MethodName)) ∈ lw_all := lw_g (lw_at lw_m5 80 rfl) rfl
theorem q1191 : (Jvm.Cond.selects "PastWatch$Reason" ({ cls := "java/lang/Object", name := "equals", desc := "(Ljava/lang/Object;)Z" } : Jvm.MethodName) ({ cls := "java/lang/Object", name := "equals", desc := "(Ljava/lang/Object;)Z" } : Jvm.MethodName)) ∈ lw_all := lw_g (lw_at lw_m5 126 rfl) rfl
theorem q2586 : (Jvm.Cond.instantiable "PastWatch$Reason" (2 : Nat)) ∈ lw_all := lw_g (lw_at lw_m11 81 rfl) rfl
theorem q2588 : (Jvm.Cond.instanceMethod ({ cls := "PastWatch$Reason", name := "<init>", desc := "(II)V" } : Jvm.MethodName)) ∈ lw_all := lw_g (lw_at lw_m11 83 rfl) rfl
theorem q2589 : (Jvm.Cond.code ({ cls := "PastWatch$Reason", name := "<init>", desc := "(II)V" } : Jvm.MethodName) prog_23_method_1_code (3 : Nat) (Option.none : Option Jvm.ClassFile.FieldType)) ∈ lw_all := lw_g (lw_at lw_m11 84 rfl) rfl
theorem q2590 : (Jvm.Cond.methodLink "PastWatch$Reason" (1 : Nat) ({ cls := "java/lang/Object", name := "<init>", desc := "()V" } : Jvm.MethodName)) ∈ lw_all := lw_g (lw_at lw_m11 85 rfl) rfl
theorem q2591 : (Jvm.Cond.fieldLink "PastWatch$Reason" (7 : Nat) "PastWatch$Reason" "place" "I") ∈ lw_all := lw_g (lw_at lw_m11 86 rfl) rfl
theorem q2593 : (Jvm.Cond.fieldLink "PastWatch$Reason" (13 : Nat) "PastWatch$Reason" "step" "I") ∈ lw_all := lw_g (lw_at lw_m11 88 rfl) rfl
theorem q2595 : (Jvm.Cond.laysFinal "PastWatch$Reason" "PastWatch$Reason" "place" "I") ∈ lw_all := lw_g (lw_at lw_m11 90 rfl) rfl
theorem q2596 : (Jvm.Cond.soleField "PastWatch$Reason" "place") ∈ lw_all := lw_g (lw_at lw_m11 91 rfl) rfl
theorem q2597 : (Jvm.Cond.laysFinal "PastWatch$Reason" "PastWatch$Reason" "step" "I") ∈ lw_all := lw_g (lw_at lw_m11 92 rfl) rfl
theorem q2598 : (Jvm.Cond.soleField "PastWatch$Reason" "step") ∈ lw_all := lw_g (lw_at lw_m11 93 rfl) rfl
theorem q2599 : (Jvm.Cond.superclass "PastWatch$Reason" "java/lang/Object") ∈ lw_all := lw_g (lw_at lw_m11 94 rfl) rfl
theorem q3299 : (Jvm.Cond.castable "PastWatch$Reason" "java/lang/Object") ∈ lw_tbl := lw_at lw_m14 74 rfl
theorem in_X27 : ∀ w ∈ wsX270, w ∈ lw_all := lw_in wsX270 [2595, 2597] (by decide +kernel) (by decide +kernel)

/-! PastWatch$Look$1 -/

def RX28 : String := "PastWatch$Look$1"
abbrev cX28_holds : ByteArray := prog_13_method_2_code
def yX28_holds : MethodName := ⟨RX28, "holds", "(LPastWatch$Node;I)Z"⟩
def dkwX28_holds_0 : List UInt8 := [43, 28, 182, 0, 7, 154, 0, 7, 4, 167, 0, 4, 3, 172]
abbrev dktX28_holds_0 : List UInt8 := dkwX28_holds_0 ++ []
theorem dksX28_holds_0 : cX28_holds.data.toList.drop 0 = dktX28_holds_0 := by decide +kernel
theorem dX28_holds_0 : decode cX28_holds 0 = .ok (.aload_n 1, 1) := dk_43 (dk_at dksX28_holds_0 0 rfl rfl)
theorem dX28_holds_1 : decode cX28_holds 1 = .ok (.iload_n 2, 1) := dk_28 (dk_at dksX28_holds_0 1 rfl rfl)
theorem dX28_holds_2 : decode cX28_holds 2 = .ok (.invokevirtual 7, 3) := dk_182 0 7 (dk_at dksX28_holds_0 2 rfl rfl)
theorem dX28_holds_5 : decode cX28_holds 5 = .ok (.ifCond .ne 7, 3) := dk_154 0 7 (dk_at dksX28_holds_0 5 rfl rfl)
theorem dX28_holds_8 : decode cX28_holds 8 = .ok (.iconst 1, 1) := dk_4 (dk_at dksX28_holds_0 8 rfl rfl)
theorem dX28_holds_9 : decode cX28_holds 9 = .ok (.goto 4, 3) := dk_167 0 4 (dk_at dksX28_holds_0 9 rfl rfl)
theorem dX28_holds_12 : decode cX28_holds 12 = .ok (.iconst 0, 1) := dk_3 (dk_at dksX28_holds_0 12 rfl rfl)
theorem dX28_holds_13 : decode cX28_holds 13 = .ok (.ireturn, 1) := dk_172 (dk_at dksX28_holds_0 13 rfl rfl)
theorem q935 : (Jvm.Cond.selects "PastWatch$Look$1" ({ cls := "java/lang/Object", name := "getClass", desc := "()Ljava/lang/Class;" } : Jvm.MethodName) ({ cls := "java/lang/Object", name := "getClass", desc := "()Ljava/lang/Class;" } : Jvm.MethodName)) ∈ lw_all := lw_g (lw_at lw_m4 110 rfl) rfl
theorem q1131 : (Jvm.Cond.selects "PastWatch$Look$1" ({ cls := "java/lang/Object", name := "hashCode", desc := "()I" } : Jvm.MethodName) ({ cls := "java/lang/Enum", name := "hashCode", desc := "()I" } : Jvm.MethodName)) ∈ lw_all := lw_g (lw_at lw_m5 66 rfl) rfl
theorem q1180 : (Jvm.Cond.selects "PastWatch$Look$1" ({ cls := "java/lang/Object", name := "equals", desc := "(Ljava/lang/Object;)Z" } : Jvm.MethodName) ({ cls := "java/lang/Enum", name := "equals", desc := "(Ljava/lang/Object;)Z" } : Jvm.MethodName)) ∈ lw_all := lw_g (lw_at lw_m5 115 rfl) rfl
theorem q1238 : (Jvm.Cond.castable "PastWatch$Look$1" "java/lang/Comparable") ∈ lw_tbl := lw_at lw_m5 173 rfl
theorem q1239 : (Jvm.Cond.selects "PastWatch$Look$1" ({ cls := "java/lang/Comparable", name := "compareTo", desc := "(Ljava/lang/Object;)I" } : Jvm.MethodName) ({ cls := "java/lang/Enum", name := "compareTo", desc := "(Ljava/lang/Object;)I" } : Jvm.MethodName)) ∈ lw_all := lw_g (lw_at lw_m5 174 rfl) rfl
theorem q1240 : (Jvm.Cond.unhidden "PastWatch$Look$1" "compareTo" "(Ljava/lang/Object;)I") ∈ lw_tbl := lw_at lw_m5 175 rfl
theorem q1248 : (Jvm.Cond.selects "PastWatch$Look$1" ({ cls := "java/lang/Enum", name := "compareTo", desc := "(Ljava/lang/Enum;)I" } : Jvm.MethodName) ({ cls := "java/lang/Enum", name := "compareTo", desc := "(Ljava/lang/Enum;)I" } : Jvm.MethodName)) ∈ lw_all := lw_g (lw_at lw_m5 183 rfl) rfl
theorem q1260 : (Jvm.Cond.selects "PastWatch$Look$1" ({ cls := "java/lang/Enum", name := "getDeclaringClass", desc := "()Ljava/lang/Class;" } : Jvm.MethodName) ({ cls := "java/lang/Enum", name := "getDeclaringClass", desc := "()Ljava/lang/Class;" } : Jvm.MethodName)) ∈ lw_all := lw_g (lw_at lw_m5 195 rfl) rfl
theorem q2285 : (Jvm.Cond.selects "PastWatch$Look$1" ({ cls := "PastWatch$Look", name := "holds", desc := "(LPastWatch$Node;I)Z" } : Jvm.MethodName) ({ cls := "PastWatch$Look$1", name := "holds", desc := "(LPastWatch$Node;I)Z" } : Jvm.MethodName)) ∈ lw_all := lw_g (lw_at lw_m10 20 rfl) rfl
theorem q2286 : (Jvm.Cond.instanceMethod ({ cls := "PastWatch$Look$1", name := "holds", desc := "(LPastWatch$Node;I)Z" } : Jvm.MethodName)) ∈ lw_all := lw_g (lw_at lw_m10 21 rfl) rfl
theorem q2287 : (Jvm.Cond.code ({ cls := "PastWatch$Look$1", name := "holds", desc := "(LPastWatch$Node;I)Z" } : Jvm.MethodName) prog_13_method_2_code (3 : Nat) (Option.some Jvm.ClassFile.FieldType.boolean)) ∈ lw_all := lw_g (lw_at lw_m10 22 rfl) rfl
theorem q2288 : (Jvm.Cond.methodLink "PastWatch$Look$1" (7 : Nat) ({ cls := "PastWatch$Node", name := "holds", desc := "(I)Z" } : Jvm.MethodName)) ∈ lw_all := lw_g (lw_at lw_m10 23 rfl) rfl
theorem q3234 : (Jvm.Cond.castable "PastWatch$Look$1" "java/lang/Enum") ∈ lw_tbl := lw_at lw_m14 9 rfl
theorem q3275 : (Jvm.Cond.castable "PastWatch$Look$1" "java/lang/Object") ∈ lw_tbl := lw_at lw_m14 50 rfl

/-! PastWatch$Look$2 -/

def RX29 : String := "PastWatch$Look$2"
abbrev cX29_holds : ByteArray := prog_14_method_2_code
def yX29_holds : MethodName := ⟨RX29, "holds", "(LPastWatch$Node;I)Z"⟩
def dkwX29_holds_0 : List UInt8 := [28, 158, 0, 17, 43, 28, 4, 100, 182, 0, 7, 153, 0, 7, 4, 167, 0, 4, 3, 172]
abbrev dktX29_holds_0 : List UInt8 := dkwX29_holds_0 ++ []
theorem dksX29_holds_0 : cX29_holds.data.toList.drop 0 = dktX29_holds_0 := by decide +kernel
theorem dX29_holds_0 : decode cX29_holds 0 = .ok (.iload_n 2, 1) := dk_28 (dk_at dksX29_holds_0 0 rfl rfl)
theorem dX29_holds_1 : decode cX29_holds 1 = .ok (.ifCond .le 17, 3) := dk_158 0 17 (dk_at dksX29_holds_0 1 rfl rfl)
theorem dX29_holds_4 : decode cX29_holds 4 = .ok (.aload_n 1, 1) := dk_43 (dk_at dksX29_holds_0 4 rfl rfl)
theorem dX29_holds_5 : decode cX29_holds 5 = .ok (.iload_n 2, 1) := dk_28 (dk_at dksX29_holds_0 5 rfl rfl)
theorem dX29_holds_6 : decode cX29_holds 6 = .ok (.iconst 1, 1) := dk_4 (dk_at dksX29_holds_0 6 rfl rfl)
theorem dX29_holds_7 : decode cX29_holds 7 = .ok (.isub, 1) := dk_100 (dk_at dksX29_holds_0 7 rfl rfl)
theorem dX29_holds_8 : decode cX29_holds 8 = .ok (.invokevirtual 7, 3) := dk_182 0 7 (dk_at dksX29_holds_0 8 rfl rfl)
theorem dX29_holds_11 : decode cX29_holds 11 = .ok (.ifCond .eq 7, 3) := dk_153 0 7 (dk_at dksX29_holds_0 11 rfl rfl)
theorem dX29_holds_14 : decode cX29_holds 14 = .ok (.iconst 1, 1) := dk_4 (dk_at dksX29_holds_0 14 rfl rfl)
theorem dX29_holds_15 : decode cX29_holds 15 = .ok (.goto 4, 3) := dk_167 0 4 (dk_at dksX29_holds_0 15 rfl rfl)
theorem dX29_holds_18 : decode cX29_holds 18 = .ok (.iconst 0, 1) := dk_3 (dk_at dksX29_holds_0 18 rfl rfl)
theorem dX29_holds_19 : decode cX29_holds 19 = .ok (.ireturn, 1) := dk_172 (dk_at dksX29_holds_0 19 rfl rfl)
theorem q936 : (Jvm.Cond.selects "PastWatch$Look$2" ({ cls := "java/lang/Object", name := "getClass", desc := "()Ljava/lang/Class;" } : Jvm.MethodName) ({ cls := "java/lang/Object", name := "getClass", desc := "()Ljava/lang/Class;" } : Jvm.MethodName)) ∈ lw_all := lw_g (lw_at lw_m4 111 rfl) rfl
theorem q1137 : (Jvm.Cond.selects "PastWatch$Look$2" ({ cls := "java/lang/Object", name := "hashCode", desc := "()I" } : Jvm.MethodName) ({ cls := "java/lang/Enum", name := "hashCode", desc := "()I" } : Jvm.MethodName)) ∈ lw_all := lw_g (lw_at lw_m5 72 rfl) rfl
theorem q1183 : (Jvm.Cond.selects "PastWatch$Look$2" ({ cls := "java/lang/Object", name := "equals", desc := "(Ljava/lang/Object;)Z" } : Jvm.MethodName) ({ cls := "java/lang/Enum", name := "equals", desc := "(Ljava/lang/Object;)Z" } : Jvm.MethodName)) ∈ lw_all := lw_g (lw_at lw_m5 118 rfl) rfl
theorem q1249 : (Jvm.Cond.selects "PastWatch$Look$2" ({ cls := "java/lang/Enum", name := "compareTo", desc := "(Ljava/lang/Enum;)I" } : Jvm.MethodName) ({ cls := "java/lang/Enum", name := "compareTo", desc := "(Ljava/lang/Enum;)I" } : Jvm.MethodName)) ∈ lw_all := lw_g (lw_at lw_m5 184 rfl) rfl
theorem q1261 : (Jvm.Cond.selects "PastWatch$Look$2" ({ cls := "java/lang/Enum", name := "getDeclaringClass", desc := "()Ljava/lang/Class;" } : Jvm.MethodName) ({ cls := "java/lang/Enum", name := "getDeclaringClass", desc := "()Ljava/lang/Class;" } : Jvm.MethodName)) ∈ lw_all := lw_g (lw_at lw_m5 196 rfl) rfl
theorem q1268 : (Jvm.Cond.castable "PastWatch$Look$2" "java/lang/Comparable") ∈ lw_tbl := lw_at lw_m5 203 rfl
theorem q1269 : (Jvm.Cond.selects "PastWatch$Look$2" ({ cls := "java/lang/Comparable", name := "compareTo", desc := "(Ljava/lang/Object;)I" } : Jvm.MethodName) ({ cls := "java/lang/Enum", name := "compareTo", desc := "(Ljava/lang/Object;)I" } : Jvm.MethodName)) ∈ lw_all := lw_g (lw_at lw_m5 204 rfl) rfl
theorem q1270 : (Jvm.Cond.unhidden "PastWatch$Look$2" "compareTo" "(Ljava/lang/Object;)I") ∈ lw_tbl := lw_at lw_m5 205 rfl
theorem q2289 : (Jvm.Cond.selects "PastWatch$Look$2" ({ cls := "PastWatch$Look", name := "holds", desc := "(LPastWatch$Node;I)Z" } : Jvm.MethodName) ({ cls := "PastWatch$Look$2", name := "holds", desc := "(LPastWatch$Node;I)Z" } : Jvm.MethodName)) ∈ lw_all := lw_g (lw_at lw_m10 24 rfl) rfl
theorem q2290 : (Jvm.Cond.instanceMethod ({ cls := "PastWatch$Look$2", name := "holds", desc := "(LPastWatch$Node;I)Z" } : Jvm.MethodName)) ∈ lw_all := lw_g (lw_at lw_m10 25 rfl) rfl
theorem q2291 : (Jvm.Cond.code ({ cls := "PastWatch$Look$2", name := "holds", desc := "(LPastWatch$Node;I)Z" } : Jvm.MethodName) prog_14_method_2_code (3 : Nat) (Option.some Jvm.ClassFile.FieldType.boolean)) ∈ lw_all := lw_g (lw_at lw_m10 26 rfl) rfl
theorem q2292 : (Jvm.Cond.methodLink "PastWatch$Look$2" (7 : Nat) ({ cls := "PastWatch$Node", name := "holds", desc := "(I)Z" } : Jvm.MethodName)) ∈ lw_all := lw_g (lw_at lw_m10 27 rfl) rfl
theorem q3235 : (Jvm.Cond.castable "PastWatch$Look$2" "java/lang/Enum") ∈ lw_tbl := lw_at lw_m14 10 rfl
theorem q3276 : (Jvm.Cond.castable "PastWatch$Look$2" "java/lang/Object") ∈ lw_tbl := lw_at lw_m14 51 rfl

/-! PastWatch$Look$3 -/

def RX30 : String := "PastWatch$Look$3"
abbrev cX30_holds : ByteArray := prog_15_method_2_code
def yX30_holds : MethodName := ⟨RX30, "holds", "(LPastWatch$Node;I)Z"⟩
def dkwX30_holds_1 : List UInt8 := [167, 0, 4, 3, 172]
abbrev dktX30_holds_1 : List UInt8 := dkwX30_holds_1 ++ []
def dkwX30_holds_0 : List UInt8 := [43, 28, 182, 0, 7, 153, 0, 21, 28, 153, 0, 13, 43, 28, 4, 100, 182, 0, 7, 154, 0, 7, 4]
abbrev dktX30_holds_0 : List UInt8 := dkwX30_holds_0 ++ dktX30_holds_1
theorem dksX30_holds_0 : cX30_holds.data.toList.drop 0 = dktX30_holds_0 := by decide +kernel
theorem dksX30_holds_1 : cX30_holds.data.toList.drop 23 = dktX30_holds_1 := dk_seg dksX30_holds_0 23 rfl rfl
theorem dX30_holds_0 : decode cX30_holds 0 = .ok (.aload_n 1, 1) := dk_43 (dk_at dksX30_holds_0 0 rfl rfl)
theorem dX30_holds_1 : decode cX30_holds 1 = .ok (.iload_n 2, 1) := dk_28 (dk_at dksX30_holds_0 1 rfl rfl)
theorem dX30_holds_2 : decode cX30_holds 2 = .ok (.invokevirtual 7, 3) := dk_182 0 7 (dk_at dksX30_holds_0 2 rfl rfl)
theorem dX30_holds_5 : decode cX30_holds 5 = .ok (.ifCond .eq 21, 3) := dk_153 0 21 (dk_at dksX30_holds_0 5 rfl rfl)
theorem dX30_holds_8 : decode cX30_holds 8 = .ok (.iload_n 2, 1) := dk_28 (dk_at dksX30_holds_0 8 rfl rfl)
theorem dX30_holds_9 : decode cX30_holds 9 = .ok (.ifCond .eq 13, 3) := dk_153 0 13 (dk_at dksX30_holds_0 9 rfl rfl)
theorem dX30_holds_12 : decode cX30_holds 12 = .ok (.aload_n 1, 1) := dk_43 (dk_at dksX30_holds_0 12 rfl rfl)
theorem dX30_holds_13 : decode cX30_holds 13 = .ok (.iload_n 2, 1) := dk_28 (dk_at dksX30_holds_0 13 rfl rfl)
theorem dX30_holds_14 : decode cX30_holds 14 = .ok (.iconst 1, 1) := dk_4 (dk_at dksX30_holds_0 14 rfl rfl)
theorem dX30_holds_15 : decode cX30_holds 15 = .ok (.isub, 1) := dk_100 (dk_at dksX30_holds_0 15 rfl rfl)
theorem dX30_holds_16 : decode cX30_holds 16 = .ok (.invokevirtual 7, 3) := dk_182 0 7 (dk_at dksX30_holds_0 16 rfl rfl)
theorem dX30_holds_19 : decode cX30_holds 19 = .ok (.ifCond .ne 7, 3) := dk_154 0 7 (dk_at dksX30_holds_0 19 rfl rfl)
theorem dX30_holds_22 : decode cX30_holds 22 = .ok (.iconst 1, 1) := dk_4 (dk_at dksX30_holds_0 22 rfl rfl)
theorem dX30_holds_23 : decode cX30_holds 23 = .ok (.goto 4, 3) := dk_167 0 4 (dk_at dksX30_holds_1 0 rfl rfl)
theorem dX30_holds_26 : decode cX30_holds 26 = .ok (.iconst 0, 1) := dk_3 (dk_at dksX30_holds_1 3 rfl rfl)
theorem dX30_holds_27 : decode cX30_holds 27 = .ok (.ireturn, 1) := dk_172 (dk_at dksX30_holds_1 4 rfl rfl)
theorem q937 : (Jvm.Cond.selects "PastWatch$Look$3" ({ cls := "java/lang/Object", name := "getClass", desc := "()Ljava/lang/Class;" } : Jvm.MethodName) ({ cls := "java/lang/Object", name := "getClass", desc := "()Ljava/lang/Class;" } : Jvm.MethodName)) ∈ lw_all := lw_g (lw_at lw_m4 112 rfl) rfl
theorem q1138 : (Jvm.Cond.selects "PastWatch$Look$3" ({ cls := "java/lang/Object", name := "hashCode", desc := "()I" } : Jvm.MethodName) ({ cls := "java/lang/Enum", name := "hashCode", desc := "()I" } : Jvm.MethodName)) ∈ lw_all := lw_g (lw_at lw_m5 73 rfl) rfl
theorem q1184 : (Jvm.Cond.selects "PastWatch$Look$3" ({ cls := "java/lang/Object", name := "equals", desc := "(Ljava/lang/Object;)Z" } : Jvm.MethodName) ({ cls := "java/lang/Enum", name := "equals", desc := "(Ljava/lang/Object;)Z" } : Jvm.MethodName)) ∈ lw_all := lw_g (lw_at lw_m5 119 rfl) rfl
theorem q1250 : (Jvm.Cond.selects "PastWatch$Look$3" ({ cls := "java/lang/Enum", name := "compareTo", desc := "(Ljava/lang/Enum;)I" } : Jvm.MethodName) ({ cls := "java/lang/Enum", name := "compareTo", desc := "(Ljava/lang/Enum;)I" } : Jvm.MethodName)) ∈ lw_all := lw_g (lw_at lw_m5 185 rfl) rfl
theorem q1262 : (Jvm.Cond.selects "PastWatch$Look$3" ({ cls := "java/lang/Enum", name := "getDeclaringClass", desc := "()Ljava/lang/Class;" } : Jvm.MethodName) ({ cls := "java/lang/Enum", name := "getDeclaringClass", desc := "()Ljava/lang/Class;" } : Jvm.MethodName)) ∈ lw_all := lw_g (lw_at lw_m5 197 rfl) rfl
theorem q1271 : (Jvm.Cond.castable "PastWatch$Look$3" "java/lang/Comparable") ∈ lw_tbl := lw_at lw_m5 206 rfl
theorem q1272 : (Jvm.Cond.selects "PastWatch$Look$3" ({ cls := "java/lang/Comparable", name := "compareTo", desc := "(Ljava/lang/Object;)I" } : Jvm.MethodName) ({ cls := "java/lang/Enum", name := "compareTo", desc := "(Ljava/lang/Object;)I" } : Jvm.MethodName)) ∈ lw_all := lw_g (lw_at lw_m5 207 rfl) rfl
theorem q1273 : (Jvm.Cond.unhidden "PastWatch$Look$3" "compareTo" "(Ljava/lang/Object;)I") ∈ lw_tbl := lw_at lw_m5 208 rfl
theorem q2293 : (Jvm.Cond.selects "PastWatch$Look$3" ({ cls := "PastWatch$Look", name := "holds", desc := "(LPastWatch$Node;I)Z" } : Jvm.MethodName) ({ cls := "PastWatch$Look$3", name := "holds", desc := "(LPastWatch$Node;I)Z" } : Jvm.MethodName)) ∈ lw_all := lw_g (lw_at lw_m10 28 rfl) rfl
theorem q2294 : (Jvm.Cond.instanceMethod ({ cls := "PastWatch$Look$3", name := "holds", desc := "(LPastWatch$Node;I)Z" } : Jvm.MethodName)) ∈ lw_all := lw_g (lw_at lw_m10 29 rfl) rfl
theorem q2295 : (Jvm.Cond.code ({ cls := "PastWatch$Look$3", name := "holds", desc := "(LPastWatch$Node;I)Z" } : Jvm.MethodName) prog_15_method_2_code (3 : Nat) (Option.some Jvm.ClassFile.FieldType.boolean)) ∈ lw_all := lw_g (lw_at lw_m10 30 rfl) rfl
theorem q2296 : (Jvm.Cond.methodLink "PastWatch$Look$3" (7 : Nat) ({ cls := "PastWatch$Node", name := "holds", desc := "(I)Z" } : Jvm.MethodName)) ∈ lw_all := lw_g (lw_at lw_m10 31 rfl) rfl
theorem q3236 : (Jvm.Cond.castable "PastWatch$Look$3" "java/lang/Enum") ∈ lw_tbl := lw_at lw_m14 11 rfl
theorem q3277 : (Jvm.Cond.castable "PastWatch$Look$3" "java/lang/Object") ∈ lw_tbl := lw_at lw_m14 52 rfl

/-! PastWatch$Look$4 -/

def RX31 : String := "PastWatch$Look$4"
abbrev cX31_holds : ByteArray := prog_16_method_2_code
def yX31_holds : MethodName := ⟨RX31, "holds", "(LPastWatch$Node;I)Z"⟩
def dkwX31_holds_1 : List UInt8 := [167, 0, 4, 3, 172]
abbrev dktX31_holds_1 : List UInt8 := dkwX31_holds_1 ++ []
def dkwX31_holds_0 : List UInt8 := [43, 28, 182, 0, 7, 154, 0, 21, 28, 158, 0, 17, 43, 28, 4, 100, 182, 0, 7, 153, 0, 7, 4]
abbrev dktX31_holds_0 : List UInt8 := dkwX31_holds_0 ++ dktX31_holds_1
theorem dksX31_holds_0 : cX31_holds.data.toList.drop 0 = dktX31_holds_0 := by decide +kernel
theorem dksX31_holds_1 : cX31_holds.data.toList.drop 23 = dktX31_holds_1 := dk_seg dksX31_holds_0 23 rfl rfl
theorem dX31_holds_0 : decode cX31_holds 0 = .ok (.aload_n 1, 1) := dk_43 (dk_at dksX31_holds_0 0 rfl rfl)
theorem dX31_holds_1 : decode cX31_holds 1 = .ok (.iload_n 2, 1) := dk_28 (dk_at dksX31_holds_0 1 rfl rfl)
theorem dX31_holds_2 : decode cX31_holds 2 = .ok (.invokevirtual 7, 3) := dk_182 0 7 (dk_at dksX31_holds_0 2 rfl rfl)
theorem dX31_holds_5 : decode cX31_holds 5 = .ok (.ifCond .ne 21, 3) := dk_154 0 21 (dk_at dksX31_holds_0 5 rfl rfl)
theorem dX31_holds_8 : decode cX31_holds 8 = .ok (.iload_n 2, 1) := dk_28 (dk_at dksX31_holds_0 8 rfl rfl)
theorem dX31_holds_9 : decode cX31_holds 9 = .ok (.ifCond .le 17, 3) := dk_158 0 17 (dk_at dksX31_holds_0 9 rfl rfl)
theorem dX31_holds_12 : decode cX31_holds 12 = .ok (.aload_n 1, 1) := dk_43 (dk_at dksX31_holds_0 12 rfl rfl)
theorem dX31_holds_13 : decode cX31_holds 13 = .ok (.iload_n 2, 1) := dk_28 (dk_at dksX31_holds_0 13 rfl rfl)
theorem dX31_holds_14 : decode cX31_holds 14 = .ok (.iconst 1, 1) := dk_4 (dk_at dksX31_holds_0 14 rfl rfl)
theorem dX31_holds_15 : decode cX31_holds 15 = .ok (.isub, 1) := dk_100 (dk_at dksX31_holds_0 15 rfl rfl)
theorem dX31_holds_16 : decode cX31_holds 16 = .ok (.invokevirtual 7, 3) := dk_182 0 7 (dk_at dksX31_holds_0 16 rfl rfl)
theorem dX31_holds_19 : decode cX31_holds 19 = .ok (.ifCond .eq 7, 3) := dk_153 0 7 (dk_at dksX31_holds_0 19 rfl rfl)
theorem dX31_holds_22 : decode cX31_holds 22 = .ok (.iconst 1, 1) := dk_4 (dk_at dksX31_holds_0 22 rfl rfl)
theorem dX31_holds_23 : decode cX31_holds 23 = .ok (.goto 4, 3) := dk_167 0 4 (dk_at dksX31_holds_1 0 rfl rfl)
theorem dX31_holds_26 : decode cX31_holds 26 = .ok (.iconst 0, 1) := dk_3 (dk_at dksX31_holds_1 3 rfl rfl)
theorem dX31_holds_27 : decode cX31_holds 27 = .ok (.ireturn, 1) := dk_172 (dk_at dksX31_holds_1 4 rfl rfl)
theorem q938 : (Jvm.Cond.selects "PastWatch$Look$4" ({ cls := "java/lang/Object", name := "getClass", desc := "()Ljava/lang/Class;" } : Jvm.MethodName) ({ cls := "java/lang/Object", name := "getClass", desc := "()Ljava/lang/Class;" } : Jvm.MethodName)) ∈ lw_all := lw_g (lw_at lw_m4 113 rfl) rfl
theorem q1139 : (Jvm.Cond.selects "PastWatch$Look$4" ({ cls := "java/lang/Object", name := "hashCode", desc := "()I" } : Jvm.MethodName) ({ cls := "java/lang/Enum", name := "hashCode", desc := "()I" } : Jvm.MethodName)) ∈ lw_all := lw_g (lw_at lw_m5 74 rfl) rfl
theorem q1185 : (Jvm.Cond.selects "PastWatch$Look$4" ({ cls := "java/lang/Object", name := "equals", desc := "(Ljava/lang/Object;)Z" } : Jvm.MethodName) ({ cls := "java/lang/Enum", name := "equals", desc := "(Ljava/lang/Object;)Z" } : Jvm.MethodName)) ∈ lw_all := lw_g (lw_at lw_m5 120 rfl) rfl
theorem q1251 : (Jvm.Cond.selects "PastWatch$Look$4" ({ cls := "java/lang/Enum", name := "compareTo", desc := "(Ljava/lang/Enum;)I" } : Jvm.MethodName) ({ cls := "java/lang/Enum", name := "compareTo", desc := "(Ljava/lang/Enum;)I" } : Jvm.MethodName)) ∈ lw_all := lw_g (lw_at lw_m5 186 rfl) rfl
theorem q1263 : (Jvm.Cond.selects "PastWatch$Look$4" ({ cls := "java/lang/Enum", name := "getDeclaringClass", desc := "()Ljava/lang/Class;" } : Jvm.MethodName) ({ cls := "java/lang/Enum", name := "getDeclaringClass", desc := "()Ljava/lang/Class;" } : Jvm.MethodName)) ∈ lw_all := lw_g (lw_at lw_m5 198 rfl) rfl
theorem q1274 : (Jvm.Cond.castable "PastWatch$Look$4" "java/lang/Comparable") ∈ lw_tbl := lw_at lw_m5 209 rfl
theorem q1275 : (Jvm.Cond.selects "PastWatch$Look$4" ({ cls := "java/lang/Comparable", name := "compareTo", desc := "(Ljava/lang/Object;)I" } : Jvm.MethodName) ({ cls := "java/lang/Enum", name := "compareTo", desc := "(Ljava/lang/Object;)I" } : Jvm.MethodName)) ∈ lw_all := lw_g (lw_at lw_m5 210 rfl) rfl
theorem q1276 : (Jvm.Cond.unhidden "PastWatch$Look$4" "compareTo" "(Ljava/lang/Object;)I") ∈ lw_tbl := lw_at lw_m5 211 rfl
theorem q2297 : (Jvm.Cond.selects "PastWatch$Look$4" ({ cls := "PastWatch$Look", name := "holds", desc := "(LPastWatch$Node;I)Z" } : Jvm.MethodName) ({ cls := "PastWatch$Look$4", name := "holds", desc := "(LPastWatch$Node;I)Z" } : Jvm.MethodName)) ∈ lw_all := lw_g (lw_at lw_m10 32 rfl) rfl
theorem q2298 : (Jvm.Cond.instanceMethod ({ cls := "PastWatch$Look$4", name := "holds", desc := "(LPastWatch$Node;I)Z" } : Jvm.MethodName)) ∈ lw_all := lw_g (lw_at lw_m10 33 rfl) rfl
theorem q2299 : (Jvm.Cond.code ({ cls := "PastWatch$Look$4", name := "holds", desc := "(LPastWatch$Node;I)Z" } : Jvm.MethodName) prog_16_method_2_code (3 : Nat) (Option.some Jvm.ClassFile.FieldType.boolean)) ∈ lw_all := lw_g (lw_at lw_m10 34 rfl) rfl
theorem q2300 : (Jvm.Cond.methodLink "PastWatch$Look$4" (7 : Nat) ({ cls := "PastWatch$Node", name := "holds", desc := "(I)Z" } : Jvm.MethodName)) ∈ lw_all := lw_g (lw_at lw_m10 35 rfl) rfl
theorem q3237 : (Jvm.Cond.castable "PastWatch$Look$4" "java/lang/Enum") ∈ lw_tbl := lw_at lw_m14 12 rfl
theorem q3278 : (Jvm.Cond.castable "PastWatch$Look$4" "java/lang/Object") ∈ lw_tbl := lw_at lw_m14 53 rfl

