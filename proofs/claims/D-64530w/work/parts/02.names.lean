set_option maxRecDepth 100000
/-! java/lang/Object -/
def RJ10 : String := "java/lang/Object"
abbrev cJ10_init : ByteArray := object_method_1_code
def yJ10_init : MethodName := ⟨RJ10, "<init>", "()V"⟩
theorem q44 : (Jvm.Cond.instanceMethod ({ cls := "java/lang/Object", name := "<init>", desc := "()V" } : Jvm.MethodName)) ∈ lw_all := lw_g (lw_at lw_m1 26 rfl) rfl
theorem q45 : (Jvm.Cond.code ({ cls := "java/lang/Object", name := "<init>", desc := "()V" } : Jvm.MethodName) object_method_1_code (1 : Nat) (Option.none : Option Jvm.ClassFile.FieldType)) ∈ lw_all := lw_g (lw_at lw_m1 27 rfl) rfl
/-! java/lang/Throwable -/
def RJ0 : String := "java/lang/Throwable"
def TJ0 : u_T := fun k => match k with
  | 0 => ("java/lang/Throwable", "cause", "Ljava/lang/Throwable;", false)
  | 1 => ("java/lang/Throwable", "stackTrace", "[Ljava/lang/StackTraceElement;", false)
  | 2 => ("java/lang/Throwable", "suppressedExceptions", "Ljava/util/List;", false)
  | 3 => ("java/lang/Throwable", "detailMessage", "Ljava/lang/String;", false)
  | _ => ("java/lang/Throwable", "backtrace", "Ljava/lang/Object;", false)
def tyJ0 : Nat → FieldType := fun k => match k with
  | 0 => .object "java/lang/Throwable"
  | 1 => .array (.object "java/lang/StackTraceElement")
  | 2 => .object "java/util/List"
  | 3 => .object "java/lang/String"
  | _ => .object "java/lang/Object"
abbrev wsJ00 : List Cond := u_ws RJ0 TJ0 5
theorem nmJ0 : ∀ a, a < 5 → ∀ b, b < 5 → a ≠ b → (TJ0 a).2.1 ≠ (TJ0 b).2.1 := by decide +kernel
theorem tyJ0_ok : ∀ k, k < 5 → parseFieldDescriptor (TJ0 k).2.2.1 = some (tyJ0 k) := by decide +kernel
abbrev cJ0_init : ByteArray := prog_21_method_2_code
def yJ0_init : MethodName := ⟨RJ0, "<init>", "(Ljava/lang/String;)V"⟩
abbrev cJ0_init_2 : ByteArray := prog_21_method_1_code
def yJ0_init_2 : MethodName := ⟨RJ0, "<init>", "()V"⟩
theorem q27 : (Jvm.Cond.initialized "java/lang/Throwable") ∈ lw_all := lw_g (lw_at lw_m1 9 rfl) rfl
theorem q208 : (Jvm.Cond.instanceMethod ({ cls := "java/lang/Throwable", name := "<init>", desc := "(Ljava/lang/String;)V" } : Jvm.MethodName)) ∈ lw_all := lw_g (lw_at lw_m1 190 rfl) rfl
theorem q209 : (Jvm.Cond.code ({ cls := "java/lang/Throwable", name := "<init>", desc := "(Ljava/lang/String;)V" } : Jvm.MethodName) prog_21_method_2_code (2 : Nat) (Option.none : Option Jvm.ClassFile.FieldType)) ∈ lw_all := lw_g (lw_at lw_m1 191 rfl) rfl
theorem q210 : (Jvm.Cond.methodLink "java/lang/Throwable" (1 : Nat) ({ cls := "java/lang/Object", name := "<init>", desc := "()V" } : Jvm.MethodName)) ∈ lw_all := lw_g (lw_at lw_m1 192 rfl) rfl
theorem q211 : (Jvm.Cond.fieldLink "java/lang/Throwable" (13 : Nat) "java/lang/Throwable" "UNASSIGNED_STACK" "[Ljava/lang/StackTraceElement;") ∈ lw_all := lw_g (lw_at lw_m1 193 rfl) rfl
theorem q212 : (Jvm.Cond.laysStatic "java/lang/Throwable" "UNASSIGNED_STACK" "[Ljava/lang/StackTraceElement;") ∈ lw_tbl := lw_at lw_m1 194 rfl
theorem q213 : (Jvm.Cond.fieldLink "java/lang/Throwable" (20 : Nat) "java/lang/Throwable" "SUPPRESSED_SENTINEL" "Ljava/util/List;") ∈ lw_all := lw_g (lw_at lw_m1 195 rfl) rfl
theorem q214 : (Jvm.Cond.laysStatic "java/lang/Throwable" "SUPPRESSED_SENTINEL" "Ljava/util/List;") ∈ lw_tbl := lw_at lw_m1 196 rfl
theorem q215 : (Jvm.Cond.methodLink "java/lang/Throwable" (27 : Nat) ({ cls := "java/lang/Throwable", name := "fillInStackTrace", desc := "()Ljava/lang/Throwable;" } : Jvm.MethodName)) ∈ lw_all := lw_g (lw_at lw_m1 197 rfl) rfl
theorem q216 : (Jvm.Cond.instanceMethod ({ cls := "java/lang/Throwable", name := "fillInStackTrace", desc := "()Ljava/lang/Throwable;" } : Jvm.MethodName)) ∈ lw_all := lw_g (lw_at lw_m1 198 rfl) rfl
theorem q217 : (Jvm.Cond.sameMethod "java/lang/Throwable" "java/lang/Throwable" "fillInStackTrace" "()Ljava/lang/Throwable;") ∈ lw_all := lw_g (lw_at lw_m1 199 rfl) rfl
theorem q223 : (Jvm.Cond.codeSync ({ cls := "java/lang/Throwable", name := "fillInStackTrace", desc := "()Ljava/lang/Throwable;" } : Jvm.MethodName) prog_21_method_18_code (1 : Nat) (Option.some (Jvm.ClassFile.FieldType.object "java/lang/Throwable"))) ∈ lw_all := lw_g (lw_at lw_m1 205 rfl) rfl
theorem q224 : (Jvm.Cond.methodLink "java/lang/Throwable" (202 : Nat) ({ cls := "java/lang/Throwable", name := "fillInStackTrace", desc := "(I)Ljava/lang/Throwable;" } : Jvm.MethodName)) ∈ lw_all := lw_g (lw_at lw_m1 206 rfl) rfl
theorem q225 : (Jvm.Cond.privateMethod ({ cls := "java/lang/Throwable", name := "fillInStackTrace", desc := "(I)Ljava/lang/Throwable;" } : Jvm.MethodName)) ∈ lw_tbl := lw_at lw_m1 207 rfl
theorem q226 : (Jvm.Cond.instanceMethod ({ cls := "java/lang/Throwable", name := "fillInStackTrace", desc := "(I)Ljava/lang/Throwable;" } : Jvm.MethodName)) ∈ lw_all := lw_g (lw_at lw_m1 208 rfl) rfl
theorem q227 : (Jvm.Cond.instantiable "java/lang/Throwable" (6 : Nat)) ∈ lw_all := lw_g (lw_at lw_m1 209 rfl) rfl
theorem q228 : (Jvm.Cond.native ({ cls := "java/lang/Throwable", name := "fillInStackTrace", desc := "(I)Ljava/lang/Throwable;" } : Jvm.MethodName)) ∈ lw_all := lw_g (lw_at lw_m1 210 rfl) rfl
theorem q229 : (Jvm.Cond.fieldLink "java/lang/Throwable" (198 : Nat) "java/lang/Throwable" "backtrace" "Ljava/lang/Object;") ∈ lw_all := lw_g (lw_at lw_m1 211 rfl) rfl
theorem q230 : (Jvm.Cond.fieldLink "java/lang/Throwable" (31 : Nat) "java/lang/Throwable" "detailMessage" "Ljava/lang/String;") ∈ lw_all := lw_g (lw_at lw_m1 212 rfl) rfl
theorem q231 : (Jvm.Cond.fieldLink "java/lang/Throwable" (7 : Nat) "java/lang/Throwable" "cause" "Ljava/lang/Throwable;") ∈ lw_all := lw_g (lw_at lw_m1 213 rfl) rfl
theorem q232 : (Jvm.Cond.fieldLink "java/lang/Throwable" (17 : Nat) "java/lang/Throwable" "stackTrace" "[Ljava/lang/StackTraceElement;") ∈ lw_all := lw_g (lw_at lw_m1 214 rfl) rfl
theorem q233 : (Jvm.Cond.fieldLink "java/lang/Throwable" (24 : Nat) "java/lang/Throwable" "suppressedExceptions" "Ljava/util/List;") ∈ lw_all := lw_g (lw_at lw_m1 215 rfl) rfl
theorem q235 : (Jvm.Cond.soleField "java/lang/Throwable" "backtrace") ∈ lw_all := lw_g (lw_at lw_m1 217 rfl) rfl
theorem q237 : (Jvm.Cond.soleField "java/lang/Throwable" "detailMessage") ∈ lw_all := lw_g (lw_at lw_m1 219 rfl) rfl
theorem q239 : (Jvm.Cond.soleField "java/lang/Throwable" "cause") ∈ lw_all := lw_g (lw_at lw_m1 221 rfl) rfl
theorem q241 : (Jvm.Cond.soleField "java/lang/Throwable" "stackTrace") ∈ lw_all := lw_g (lw_at lw_m1 223 rfl) rfl
theorem q243 : (Jvm.Cond.soleField "java/lang/Throwable" "depth") ∈ lw_all := lw_g (lw_at lw_m1 225 rfl) rfl
theorem q245 : (Jvm.Cond.soleField "java/lang/Throwable" "suppressedExceptions") ∈ lw_all := lw_g (lw_at lw_m1 227 rfl) rfl
theorem q252 : (Jvm.Cond.declares ({ cls := "java/lang/Throwable", name := "<init>", desc := "()V" } : Jvm.MethodName)) ∈ lw_tbl := lw_at lw_m1 234 rfl
theorem q253 : (Jvm.Cond.declares ({ cls := "java/lang/Throwable", name := "<init>", desc := "(Ljava/lang/String;)V" } : Jvm.MethodName)) ∈ lw_tbl := lw_at lw_m1 235 rfl
theorem q255 : (Jvm.Cond.lays "java/lang/Throwable" "java/lang/Throwable" "cause" "Ljava/lang/Throwable;") ∈ lw_all := lw_g (lw_at lw_m1 237 rfl) rfl
theorem q256 : (Jvm.Cond.lays "java/lang/Throwable" "java/lang/Throwable" "stackTrace" "[Ljava/lang/StackTraceElement;") ∈ lw_all := lw_g (lw_at lw_m1 238 rfl) rfl
theorem q257 : (Jvm.Cond.lays "java/lang/Throwable" "java/lang/Throwable" "suppressedExceptions" "Ljava/util/List;") ∈ lw_all := lw_g (lw_at lw_m1 239 rfl) rfl
theorem q258 : (Jvm.Cond.lays "java/lang/Throwable" "java/lang/Throwable" "detailMessage" "Ljava/lang/String;") ∈ lw_all := lw_g (lw_at lw_m2 0 rfl) rfl
theorem q259 : (Jvm.Cond.lays "java/lang/Throwable" "java/lang/Throwable" "backtrace" "Ljava/lang/Object;") ∈ lw_all := lw_g (lw_at lw_m2 1 rfl) rfl
theorem q260 : (Jvm.Cond.fieldLink "java/lang/Throwable" (198 : Nat) "java/lang/Throwable" "backtrace" "Ljava/lang/Object;") ∈ lw_all := lw_g (lw_at lw_m2 2 rfl) rfl
theorem q261 : (Jvm.Cond.superclass "java/lang/Throwable" "java/lang/Object") ∈ lw_all := lw_g (lw_at lw_m2 3 rfl) rfl
theorem q262 : (Jvm.Cond.instanceMethod ({ cls := "java/lang/Throwable", name := "<init>", desc := "()V" } : Jvm.MethodName)) ∈ lw_all := lw_g (lw_at lw_m2 4 rfl) rfl
theorem q263 : (Jvm.Cond.code ({ cls := "java/lang/Throwable", name := "<init>", desc := "()V" } : Jvm.MethodName) prog_21_method_1_code (1 : Nat) (Option.none : Option Jvm.ClassFile.FieldType)) ∈ lw_all := lw_g (lw_at lw_m2 5 rfl) rfl
theorem q765 : (Jvm.Cond.sameMethod "java/lang/Throwable" "java/lang/Throwable" "fillInStackTrace" "(I)Ljava/lang/Throwable;") ∈ lw_all := lw_g (lw_at lw_m4 27 rfl) rfl
theorem in_J0 : ∀ w ∈ wsJ00, w ∈ lw_all := lw_in wsJ00 [255, 256, 257, 258, 259] (by decide +kernel) (by decide +kernel)
/-! java/lang/Exception -/
def RJ1 : String := "java/lang/Exception"
abbrev cJ1_init : ByteArray := prog_13_method_2_code
def yJ1_init : MethodName := ⟨RJ1, "<init>", "(Ljava/lang/String;)V"⟩
theorem q28 : (Jvm.Cond.initialized "java/lang/Exception") ∈ lw_all := lw_g (lw_at lw_m1 10 rfl) rfl
theorem q205 : (Jvm.Cond.instanceMethod ({ cls := "java/lang/Exception", name := "<init>", desc := "(Ljava/lang/String;)V" } : Jvm.MethodName)) ∈ lw_all := lw_g (lw_at lw_m1 187 rfl) rfl
theorem q206 : (Jvm.Cond.code ({ cls := "java/lang/Exception", name := "<init>", desc := "(Ljava/lang/String;)V" } : Jvm.MethodName) prog_13_method_2_code (2 : Nat) (Option.none : Option Jvm.ClassFile.FieldType)) ∈ lw_all := lw_g (lw_at lw_m1 188 rfl) rfl
theorem q207 : (Jvm.Cond.methodLink "java/lang/Exception" (7 : Nat) ({ cls := "java/lang/Throwable", name := "<init>", desc := "(Ljava/lang/String;)V" } : Jvm.MethodName)) ∈ lw_all := lw_g (lw_at lw_m1 189 rfl) rfl
theorem q250 : (Jvm.Cond.declares ({ cls := "java/lang/Exception", name := "<init>", desc := "()V" } : Jvm.MethodName)) ∈ lw_tbl := lw_at lw_m1 232 rfl
theorem q251 : (Jvm.Cond.declares ({ cls := "java/lang/Exception", name := "<init>", desc := "(Ljava/lang/String;)V" } : Jvm.MethodName)) ∈ lw_tbl := lw_at lw_m1 233 rfl
/-! java/lang/RuntimeException -/
def RJ2 : String := "java/lang/RuntimeException"
abbrev cJ2_init : ByteArray := prog_18_method_2_code
def yJ2_init : MethodName := ⟨RJ2, "<init>", "(Ljava/lang/String;)V"⟩
theorem q29 : (Jvm.Cond.initialized "java/lang/RuntimeException") ∈ lw_all := lw_g (lw_at lw_m1 11 rfl) rfl
theorem q202 : (Jvm.Cond.instanceMethod ({ cls := "java/lang/RuntimeException", name := "<init>", desc := "(Ljava/lang/String;)V" } : Jvm.MethodName)) ∈ lw_all := lw_g (lw_at lw_m1 184 rfl) rfl
theorem q203 : (Jvm.Cond.code ({ cls := "java/lang/RuntimeException", name := "<init>", desc := "(Ljava/lang/String;)V" } : Jvm.MethodName) prog_18_method_2_code (2 : Nat) (Option.none : Option Jvm.ClassFile.FieldType)) ∈ lw_all := lw_g (lw_at lw_m1 185 rfl) rfl
theorem q204 : (Jvm.Cond.methodLink "java/lang/RuntimeException" (7 : Nat) ({ cls := "java/lang/Exception", name := "<init>", desc := "(Ljava/lang/String;)V" } : Jvm.MethodName)) ∈ lw_all := lw_g (lw_at lw_m1 186 rfl) rfl
theorem q248 : (Jvm.Cond.declares ({ cls := "java/lang/RuntimeException", name := "<init>", desc := "()V" } : Jvm.MethodName)) ∈ lw_tbl := lw_at lw_m1 230 rfl
theorem q249 : (Jvm.Cond.declares ({ cls := "java/lang/RuntimeException", name := "<init>", desc := "(Ljava/lang/String;)V" } : Jvm.MethodName)) ∈ lw_tbl := lw_at lw_m1 231 rfl
/-! java/lang/ArithmeticException -/
def RJ3 : String := "java/lang/ArithmeticException"
def TJ3 : u_T := fun k => match k with
  | 0 => ("java/lang/Throwable", "backtrace", "Ljava/lang/Object;", false)
  | 1 => ("java/lang/Throwable", "detailMessage", "Ljava/lang/String;", false)
  | 2 => ("java/lang/Throwable", "cause", "Ljava/lang/Throwable;", false)
  | 3 => ("java/lang/Throwable", "stackTrace", "[Ljava/lang/StackTraceElement;", false)
  | 4 => ("java/lang/Throwable", "depth", "I", false)
  | _ => ("java/lang/Throwable", "suppressedExceptions", "Ljava/util/List;", false)
def tyJ3 : Nat → FieldType := fun k => match k with
  | 0 => .object "java/lang/Object"
  | 1 => .object "java/lang/String"
  | 2 => .object "java/lang/Throwable"
  | 3 => .array (.object "java/lang/StackTraceElement")
  | 4 => .int
  | _ => .object "java/util/List"
abbrev wsJ30 : List Cond := u_ws RJ3 TJ3 6
theorem nmJ3 : ∀ a, a < 6 → ∀ b, b < 6 → a ≠ b → (TJ3 a).2.1 ≠ (TJ3 b).2.1 := by decide +kernel
theorem tyJ3_ok : ∀ k, k < 6 → parseFieldDescriptor (TJ3 k).2.2.1 = some (tyJ3 k) := by decide +kernel
abbrev cJ3_init : ByteArray := prog_11_method_2_code
def yJ3_init : MethodName := ⟨RJ3, "<init>", "(Ljava/lang/String;)V"⟩
theorem q30 : (Jvm.Cond.initialized "java/lang/ArithmeticException") ∈ lw_all := lw_g (lw_at lw_m1 12 rfl) rfl
theorem q198 : (Jvm.Cond.instantiable "java/lang/ArithmeticException" (6 : Nat)) ∈ lw_all := lw_g (lw_at lw_m1 180 rfl) rfl
theorem q199 : (Jvm.Cond.instanceMethod ({ cls := "java/lang/ArithmeticException", name := "<init>", desc := "(Ljava/lang/String;)V" } : Jvm.MethodName)) ∈ lw_all := lw_g (lw_at lw_m1 181 rfl) rfl
theorem q200 : (Jvm.Cond.code ({ cls := "java/lang/ArithmeticException", name := "<init>", desc := "(Ljava/lang/String;)V" } : Jvm.MethodName) prog_11_method_2_code (2 : Nat) (Option.none : Option Jvm.ClassFile.FieldType)) ∈ lw_all := lw_g (lw_at lw_m1 182 rfl) rfl
theorem q201 : (Jvm.Cond.methodLink "java/lang/ArithmeticException" (7 : Nat) ({ cls := "java/lang/RuntimeException", name := "<init>", desc := "(Ljava/lang/String;)V" } : Jvm.MethodName)) ∈ lw_all := lw_g (lw_at lw_m1 183 rfl) rfl
theorem q218 : (Jvm.Cond.selects "java/lang/ArithmeticException" ({ cls := "java/lang/Throwable", name := "fillInStackTrace", desc := "()Ljava/lang/Throwable;" } : Jvm.MethodName) ({ cls := "java/lang/Throwable", name := "fillInStackTrace", desc := "()Ljava/lang/Throwable;" } : Jvm.MethodName)) ∈ lw_all := lw_g (lw_at lw_m1 200 rfl) rfl
theorem q234 : (Jvm.Cond.lays "java/lang/ArithmeticException" "java/lang/Throwable" "backtrace" "Ljava/lang/Object;") ∈ lw_all := lw_g (lw_at lw_m1 216 rfl) rfl
theorem q236 : (Jvm.Cond.lays "java/lang/ArithmeticException" "java/lang/Throwable" "detailMessage" "Ljava/lang/String;") ∈ lw_all := lw_g (lw_at lw_m1 218 rfl) rfl
theorem q238 : (Jvm.Cond.lays "java/lang/ArithmeticException" "java/lang/Throwable" "cause" "Ljava/lang/Throwable;") ∈ lw_all := lw_g (lw_at lw_m1 220 rfl) rfl
theorem q240 : (Jvm.Cond.lays "java/lang/ArithmeticException" "java/lang/Throwable" "stackTrace" "[Ljava/lang/StackTraceElement;") ∈ lw_all := lw_g (lw_at lw_m1 222 rfl) rfl
theorem q242 : (Jvm.Cond.lays "java/lang/ArithmeticException" "java/lang/Throwable" "depth" "I") ∈ lw_all := lw_g (lw_at lw_m1 224 rfl) rfl
theorem q244 : (Jvm.Cond.lays "java/lang/ArithmeticException" "java/lang/Throwable" "suppressedExceptions" "Ljava/util/List;") ∈ lw_all := lw_g (lw_at lw_m1 226 rfl) rfl
theorem q246 : (Jvm.Cond.superclass "java/lang/ArithmeticException" "java/lang/RuntimeException") ∈ lw_all := lw_g (lw_at lw_m1 228 rfl) rfl
theorem q247 : (Jvm.Cond.castable "java/lang/ArithmeticException" "java/lang/ArithmeticException") ∈ lw_tbl := lw_at lw_m1 229 rfl
theorem q254 : (Jvm.Cond.selects "java/lang/ArithmeticException" ({ cls := "java/lang/Throwable", name := "fillInStackTrace", desc := "(I)Ljava/lang/Throwable;" } : Jvm.MethodName) ({ cls := "java/lang/Throwable", name := "fillInStackTrace", desc := "(I)Ljava/lang/Throwable;" } : Jvm.MethodName)) ∈ lw_all := lw_g (lw_at lw_m1 236 rfl) rfl
theorem in_J3 : ∀ w ∈ wsJ30, w ∈ lw_all := lw_in wsJ30 [234, 236, 238, 240, 242, 244] (by decide +kernel) (by decide +kernel)
/-! java/lang/String -/
def RJ4 : String := "java/lang/String"
def TJ4 : u_T := fun k => match k with
  | 0 => ("java/lang/String", "value", "[B", true)
  | _ => ("java/lang/String", "coder", "B", true)
def tyJ4 : Nat → FieldType := fun k => match k with
  | 0 => .array .byte
  | _ => .byte
abbrev wsJ40 : List Cond := u_ws RJ4 TJ4 2
theorem nmJ4 : ∀ a, a < 2 → ∀ b, b < 2 → a ≠ b → (TJ4 a).2.1 ≠ (TJ4 b).2.1 := by decide +kernel
theorem tyJ4_ok : ∀ k, k < 2 → parseFieldDescriptor (TJ4 k).2.2.1 = some (tyJ4 k) := by decide +kernel
theorem q31 : (Jvm.Cond.initialized "java/lang/String") ∈ lw_all := lw_g (lw_at lw_m1 13 rfl) rfl
theorem q264 : (Jvm.Cond.instantiable "java/lang/String" (4 : Nat)) ∈ lw_all := lw_g (lw_at lw_m2 6 rfl) rfl
theorem q266 : (Jvm.Cond.laysFinal "java/lang/String" "java/lang/String" "value" "[B") ∈ lw_all := lw_g (lw_at lw_m2 8 rfl) rfl
theorem q267 : (Jvm.Cond.soleField "java/lang/String" "value") ∈ lw_all := lw_g (lw_at lw_m2 9 rfl) rfl
theorem q268 : (Jvm.Cond.laysFinal "java/lang/String" "java/lang/String" "coder" "B") ∈ lw_all := lw_g (lw_at lw_m2 10 rfl) rfl
theorem q269 : (Jvm.Cond.soleField "java/lang/String" "coder") ∈ lw_all := lw_g (lw_at lw_m2 11 rfl) rfl
theorem in_J4 : ∀ w ∈ wsJ40, w ∈ lw_all := lw_in wsJ40 [266, 268] (by decide +kernel) (by decide +kernel)
/-! java/lang/IllegalArgumentException -/
def RJ5 : String := "java/lang/IllegalArgumentException"
def TJ5 : u_T := fun k => match k with
  | 0 => ("java/lang/Throwable", "cause", "Ljava/lang/Throwable;", false)
  | 1 => ("java/lang/Throwable", "stackTrace", "[Ljava/lang/StackTraceElement;", false)
  | 2 => ("java/lang/Throwable", "suppressedExceptions", "Ljava/util/List;", false)
  | 3 => ("java/lang/Throwable", "detailMessage", "Ljava/lang/String;", false)
  | 4 => ("java/lang/Throwable", "backtrace", "Ljava/lang/Object;", false)
  | _ => ("java/lang/Throwable", "depth", "I", false)
def tyJ5 : Nat → FieldType := fun k => match k with
  | 0 => .object "java/lang/Throwable"
  | 1 => .array (.object "java/lang/StackTraceElement")
  | 2 => .object "java/util/List"
  | 3 => .object "java/lang/String"
  | 4 => .object "java/lang/Object"
  | _ => .int
abbrev wsJ50 : List Cond := u_ws RJ5 TJ5 6
theorem nmJ5 : ∀ a, a < 6 → ∀ b, b < 6 → a ≠ b → (TJ5 a).2.1 ≠ (TJ5 b).2.1 := by decide +kernel
theorem tyJ5_ok : ∀ k, k < 6 → parseFieldDescriptor (TJ5 k).2.2.1 = some (tyJ5 k) := by decide +kernel
abbrev cJ5_init : ByteArray := prog_14_method_2_code
def yJ5_init : MethodName := ⟨RJ5, "<init>", "(Ljava/lang/String;)V"⟩
theorem q32 : (Jvm.Cond.initialized "java/lang/IllegalArgumentException") ∈ lw_all := lw_g (lw_at lw_m1 14 rfl) rfl
theorem q220 : (Jvm.Cond.selects "java/lang/IllegalArgumentException" ({ cls := "java/lang/Throwable", name := "fillInStackTrace", desc := "()Ljava/lang/Throwable;" } : Jvm.MethodName) ({ cls := "java/lang/Throwable", name := "fillInStackTrace", desc := "()Ljava/lang/Throwable;" } : Jvm.MethodName)) ∈ lw_all := lw_g (lw_at lw_m1 202 rfl) rfl
theorem q281 : (Jvm.Cond.instantiable "java/lang/IllegalArgumentException" (6 : Nat)) ∈ lw_all := lw_g (lw_at lw_m2 23 rfl) rfl
theorem q282 : (Jvm.Cond.castable "java/lang/IllegalArgumentException" "java/lang/IllegalArgumentException") ∈ lw_tbl := lw_at lw_m2 24 rfl
theorem q283 : (Jvm.Cond.selects "java/lang/IllegalArgumentException" ({ cls := "java/lang/Throwable", name := "fillInStackTrace", desc := "(I)Ljava/lang/Throwable;" } : Jvm.MethodName) ({ cls := "java/lang/Throwable", name := "fillInStackTrace", desc := "(I)Ljava/lang/Throwable;" } : Jvm.MethodName)) ∈ lw_all := lw_g (lw_at lw_m2 25 rfl) rfl
theorem q284 : (Jvm.Cond.lays "java/lang/IllegalArgumentException" "java/lang/Throwable" "cause" "Ljava/lang/Throwable;") ∈ lw_all := lw_g (lw_at lw_m2 26 rfl) rfl
theorem q285 : (Jvm.Cond.lays "java/lang/IllegalArgumentException" "java/lang/Throwable" "stackTrace" "[Ljava/lang/StackTraceElement;") ∈ lw_all := lw_g (lw_at lw_m2 27 rfl) rfl
theorem q286 : (Jvm.Cond.lays "java/lang/IllegalArgumentException" "java/lang/Throwable" "suppressedExceptions" "Ljava/util/List;") ∈ lw_all := lw_g (lw_at lw_m2 28 rfl) rfl
theorem q287 : (Jvm.Cond.lays "java/lang/IllegalArgumentException" "java/lang/Throwable" "detailMessage" "Ljava/lang/String;") ∈ lw_all := lw_g (lw_at lw_m2 29 rfl) rfl
theorem q288 : (Jvm.Cond.lays "java/lang/IllegalArgumentException" "java/lang/Throwable" "backtrace" "Ljava/lang/Object;") ∈ lw_all := lw_g (lw_at lw_m2 30 rfl) rfl
theorem q291 : (Jvm.Cond.instanceMethod ({ cls := "java/lang/IllegalArgumentException", name := "<init>", desc := "(Ljava/lang/String;)V" } : Jvm.MethodName)) ∈ lw_all := lw_g (lw_at lw_m2 33 rfl) rfl
theorem q292 : (Jvm.Cond.code ({ cls := "java/lang/IllegalArgumentException", name := "<init>", desc := "(Ljava/lang/String;)V" } : Jvm.MethodName) prog_14_method_2_code (2 : Nat) (Option.none : Option Jvm.ClassFile.FieldType)) ∈ lw_all := lw_g (lw_at lw_m2 34 rfl) rfl
theorem q293 : (Jvm.Cond.methodLink "java/lang/IllegalArgumentException" (7 : Nat) ({ cls := "java/lang/RuntimeException", name := "<init>", desc := "(Ljava/lang/String;)V" } : Jvm.MethodName)) ∈ lw_all := lw_g (lw_at lw_m2 35 rfl) rfl
theorem q294 : (Jvm.Cond.lays "java/lang/IllegalArgumentException" "java/lang/Throwable" "depth" "I") ∈ lw_all := lw_g (lw_at lw_m2 36 rfl) rfl
theorem q295 : (Jvm.Cond.superclass "java/lang/IllegalArgumentException" "java/lang/RuntimeException") ∈ lw_all := lw_g (lw_at lw_m2 37 rfl) rfl
theorem in_J5 : ∀ w ∈ wsJ50, w ∈ lw_all := lw_in wsJ50 [284, 285, 286, 287, 288, 294] (by decide +kernel) (by decide +kernel)
/-! java/lang/IllegalStateException -/
def RJ6 : String := "java/lang/IllegalStateException"
def TJ6 : u_T := fun k => match k with
  | 0 => ("java/lang/Throwable", "cause", "Ljava/lang/Throwable;", false)
  | 1 => ("java/lang/Throwable", "stackTrace", "[Ljava/lang/StackTraceElement;", false)
  | 2 => ("java/lang/Throwable", "suppressedExceptions", "Ljava/util/List;", false)
  | 3 => ("java/lang/Throwable", "detailMessage", "Ljava/lang/String;", false)
  | 4 => ("java/lang/Throwable", "backtrace", "Ljava/lang/Object;", false)
  | _ => ("java/lang/Throwable", "depth", "I", false)
def tyJ6 : Nat → FieldType := fun k => match k with
  | 0 => .object "java/lang/Throwable"
  | 1 => .array (.object "java/lang/StackTraceElement")
  | 2 => .object "java/util/List"
  | 3 => .object "java/lang/String"
  | 4 => .object "java/lang/Object"
  | _ => .int
abbrev wsJ60 : List Cond := u_ws RJ6 TJ6 6
theorem nmJ6 : ∀ a, a < 6 → ∀ b, b < 6 → a ≠ b → (TJ6 a).2.1 ≠ (TJ6 b).2.1 := by decide +kernel
theorem tyJ6_ok : ∀ k, k < 6 → parseFieldDescriptor (TJ6 k).2.2.1 = some (tyJ6 k) := by decide +kernel
abbrev cJ6_init : ByteArray := prog_15_method_2_code
def yJ6_init : MethodName := ⟨RJ6, "<init>", "(Ljava/lang/String;)V"⟩
theorem q33 : (Jvm.Cond.initialized "java/lang/IllegalStateException") ∈ lw_all := lw_g (lw_at lw_m1 15 rfl) rfl
theorem q221 : (Jvm.Cond.selects "java/lang/IllegalStateException" ({ cls := "java/lang/Throwable", name := "fillInStackTrace", desc := "()Ljava/lang/Throwable;" } : Jvm.MethodName) ({ cls := "java/lang/Throwable", name := "fillInStackTrace", desc := "()Ljava/lang/Throwable;" } : Jvm.MethodName)) ∈ lw_all := lw_g (lw_at lw_m1 203 rfl) rfl
theorem q343 : (Jvm.Cond.instantiable "java/lang/IllegalStateException" (6 : Nat)) ∈ lw_all := lw_g (lw_at lw_m2 85 rfl) rfl
theorem q344 : (Jvm.Cond.castable "java/lang/IllegalStateException" "java/lang/IllegalStateException") ∈ lw_tbl := lw_at lw_m2 86 rfl
theorem q345 : (Jvm.Cond.selects "java/lang/IllegalStateException" ({ cls := "java/lang/Throwable", name := "fillInStackTrace", desc := "(I)Ljava/lang/Throwable;" } : Jvm.MethodName) ({ cls := "java/lang/Throwable", name := "fillInStackTrace", desc := "(I)Ljava/lang/Throwable;" } : Jvm.MethodName)) ∈ lw_all := lw_g (lw_at lw_m2 87 rfl) rfl
theorem q346 : (Jvm.Cond.lays "java/lang/IllegalStateException" "java/lang/Throwable" "cause" "Ljava/lang/Throwable;") ∈ lw_all := lw_g (lw_at lw_m2 88 rfl) rfl
theorem q347 : (Jvm.Cond.lays "java/lang/IllegalStateException" "java/lang/Throwable" "stackTrace" "[Ljava/lang/StackTraceElement;") ∈ lw_all := lw_g (lw_at lw_m2 89 rfl) rfl
theorem q348 : (Jvm.Cond.lays "java/lang/IllegalStateException" "java/lang/Throwable" "suppressedExceptions" "Ljava/util/List;") ∈ lw_all := lw_g (lw_at lw_m2 90 rfl) rfl
theorem q349 : (Jvm.Cond.lays "java/lang/IllegalStateException" "java/lang/Throwable" "detailMessage" "Ljava/lang/String;") ∈ lw_all := lw_g (lw_at lw_m2 91 rfl) rfl
theorem q350 : (Jvm.Cond.lays "java/lang/IllegalStateException" "java/lang/Throwable" "backtrace" "Ljava/lang/Object;") ∈ lw_all := lw_g (lw_at lw_m2 92 rfl) rfl
theorem q353 : (Jvm.Cond.instanceMethod ({ cls := "java/lang/IllegalStateException", name := "<init>", desc := "(Ljava/lang/String;)V" } : Jvm.MethodName)) ∈ lw_all := lw_g (lw_at lw_m2 95 rfl) rfl
theorem q354 : (Jvm.Cond.code ({ cls := "java/lang/IllegalStateException", name := "<init>", desc := "(Ljava/lang/String;)V" } : Jvm.MethodName) prog_15_method_2_code (2 : Nat) (Option.none : Option Jvm.ClassFile.FieldType)) ∈ lw_all := lw_g (lw_at lw_m2 96 rfl) rfl
theorem q355 : (Jvm.Cond.methodLink "java/lang/IllegalStateException" (7 : Nat) ({ cls := "java/lang/RuntimeException", name := "<init>", desc := "(Ljava/lang/String;)V" } : Jvm.MethodName)) ∈ lw_all := lw_g (lw_at lw_m2 97 rfl) rfl
theorem q356 : (Jvm.Cond.lays "java/lang/IllegalStateException" "java/lang/Throwable" "depth" "I") ∈ lw_all := lw_g (lw_at lw_m2 98 rfl) rfl
theorem q357 : (Jvm.Cond.superclass "java/lang/IllegalStateException" "java/lang/RuntimeException") ∈ lw_all := lw_g (lw_at lw_m2 99 rfl) rfl
theorem in_J6 : ∀ w ∈ wsJ60, w ∈ lw_all := lw_in wsJ60 [346, 347, 348, 349, 350, 356] (by decide +kernel) (by decide +kernel)
/-! java/lang/IndexOutOfBoundsException -/
def RJ7 : String := "java/lang/IndexOutOfBoundsException"
def TJ7 : u_T := fun k => match k with
  | 0 => ("java/lang/Throwable", "cause", "Ljava/lang/Throwable;", false)
  | 1 => ("java/lang/Throwable", "stackTrace", "[Ljava/lang/StackTraceElement;", false)
  | 2 => ("java/lang/Throwable", "suppressedExceptions", "Ljava/util/List;", false)
  | 3 => ("java/lang/Throwable", "detailMessage", "Ljava/lang/String;", false)
  | 4 => ("java/lang/Throwable", "backtrace", "Ljava/lang/Object;", false)
  | _ => ("java/lang/Throwable", "depth", "I", false)
def tyJ7 : Nat → FieldType := fun k => match k with
  | 0 => .object "java/lang/Throwable"
  | 1 => .array (.object "java/lang/StackTraceElement")
  | 2 => .object "java/util/List"
  | 3 => .object "java/lang/String"
  | 4 => .object "java/lang/Object"
  | _ => .int
abbrev wsJ70 : List Cond := u_ws RJ7 TJ7 6
theorem nmJ7 : ∀ a, a < 6 → ∀ b, b < 6 → a ≠ b → (TJ7 a).2.1 ≠ (TJ7 b).2.1 := by decide +kernel
theorem tyJ7_ok : ∀ k, k < 6 → parseFieldDescriptor (TJ7 k).2.2.1 = some (tyJ7 k) := by decide +kernel
abbrev cJ7_init : ByteArray := prog_16_method_2_code
def yJ7_init : MethodName := ⟨RJ7, "<init>", "(Ljava/lang/String;)V"⟩
theorem q34 : (Jvm.Cond.initialized "java/lang/IndexOutOfBoundsException") ∈ lw_all := lw_g (lw_at lw_m1 16 rfl) rfl
theorem q222 : (Jvm.Cond.selects "java/lang/IndexOutOfBoundsException" ({ cls := "java/lang/Throwable", name := "fillInStackTrace", desc := "()Ljava/lang/Throwable;" } : Jvm.MethodName) ({ cls := "java/lang/Throwable", name := "fillInStackTrace", desc := "()Ljava/lang/Throwable;" } : Jvm.MethodName)) ∈ lw_all := lw_g (lw_at lw_m1 204 rfl) rfl
theorem q395 : (Jvm.Cond.instanceMethod ({ cls := "java/lang/IndexOutOfBoundsException", name := "<init>", desc := "(Ljava/lang/String;)V" } : Jvm.MethodName)) ∈ lw_all := lw_g (lw_at lw_m2 137 rfl) rfl
theorem q396 : (Jvm.Cond.code ({ cls := "java/lang/IndexOutOfBoundsException", name := "<init>", desc := "(Ljava/lang/String;)V" } : Jvm.MethodName) prog_16_method_2_code (2 : Nat) (Option.none : Option Jvm.ClassFile.FieldType)) ∈ lw_all := lw_g (lw_at lw_m2 138 rfl) rfl
theorem q397 : (Jvm.Cond.methodLink "java/lang/IndexOutOfBoundsException" (7 : Nat) ({ cls := "java/lang/RuntimeException", name := "<init>", desc := "(Ljava/lang/String;)V" } : Jvm.MethodName)) ∈ lw_all := lw_g (lw_at lw_m2 139 rfl) rfl
theorem q406 : (Jvm.Cond.declares ({ cls := "java/lang/IndexOutOfBoundsException", name := "<init>", desc := "()V" } : Jvm.MethodName)) ∈ lw_tbl := lw_at lw_m2 148 rfl
theorem q407 : (Jvm.Cond.declares ({ cls := "java/lang/IndexOutOfBoundsException", name := "<init>", desc := "(Ljava/lang/String;)V" } : Jvm.MethodName)) ∈ lw_tbl := lw_at lw_m2 149 rfl
theorem q417 : (Jvm.Cond.instantiable "java/lang/IndexOutOfBoundsException" (6 : Nat)) ∈ lw_all := lw_g (lw_at lw_m2 159 rfl) rfl
theorem q418 : (Jvm.Cond.castable "java/lang/IndexOutOfBoundsException" "java/lang/IndexOutOfBoundsException") ∈ lw_tbl := lw_at lw_m2 160 rfl
theorem q419 : (Jvm.Cond.selects "java/lang/IndexOutOfBoundsException" ({ cls := "java/lang/Throwable", name := "fillInStackTrace", desc := "(I)Ljava/lang/Throwable;" } : Jvm.MethodName) ({ cls := "java/lang/Throwable", name := "fillInStackTrace", desc := "(I)Ljava/lang/Throwable;" } : Jvm.MethodName)) ∈ lw_all := lw_g (lw_at lw_m2 161 rfl) rfl
theorem q420 : (Jvm.Cond.lays "java/lang/IndexOutOfBoundsException" "java/lang/Throwable" "cause" "Ljava/lang/Throwable;") ∈ lw_all := lw_g (lw_at lw_m2 162 rfl) rfl
theorem q421 : (Jvm.Cond.lays "java/lang/IndexOutOfBoundsException" "java/lang/Throwable" "stackTrace" "[Ljava/lang/StackTraceElement;") ∈ lw_all := lw_g (lw_at lw_m2 163 rfl) rfl
theorem q422 : (Jvm.Cond.lays "java/lang/IndexOutOfBoundsException" "java/lang/Throwable" "suppressedExceptions" "Ljava/util/List;") ∈ lw_all := lw_g (lw_at lw_m2 164 rfl) rfl
theorem q423 : (Jvm.Cond.lays "java/lang/IndexOutOfBoundsException" "java/lang/Throwable" "detailMessage" "Ljava/lang/String;") ∈ lw_all := lw_g (lw_at lw_m2 165 rfl) rfl
theorem q424 : (Jvm.Cond.lays "java/lang/IndexOutOfBoundsException" "java/lang/Throwable" "backtrace" "Ljava/lang/Object;") ∈ lw_all := lw_g (lw_at lw_m2 166 rfl) rfl
theorem q427 : (Jvm.Cond.lays "java/lang/IndexOutOfBoundsException" "java/lang/Throwable" "depth" "I") ∈ lw_all := lw_g (lw_at lw_m2 169 rfl) rfl
theorem q428 : (Jvm.Cond.superclass "java/lang/IndexOutOfBoundsException" "java/lang/RuntimeException") ∈ lw_all := lw_g (lw_at lw_m2 170 rfl) rfl
theorem in_J7 : ∀ w ∈ wsJ70, w ∈ lw_all := lw_in wsJ70 [420, 421, 422, 423, 424, 427] (by decide +kernel) (by decide +kernel)
/-! java/lang/ArrayIndexOutOfBoundsException -/
def RJ8 : String := "java/lang/ArrayIndexOutOfBoundsException"
def TJ8 : u_T := fun k => match k with
  | 0 => ("java/lang/Throwable", "backtrace", "Ljava/lang/Object;", false)
  | 1 => ("java/lang/Throwable", "detailMessage", "Ljava/lang/String;", false)
  | 2 => ("java/lang/Throwable", "cause", "Ljava/lang/Throwable;", false)
  | 3 => ("java/lang/Throwable", "stackTrace", "[Ljava/lang/StackTraceElement;", false)
  | 4 => ("java/lang/Throwable", "depth", "I", false)
  | _ => ("java/lang/Throwable", "suppressedExceptions", "Ljava/util/List;", false)
def tyJ8 : Nat → FieldType := fun k => match k with
  | 0 => .object "java/lang/Object"
  | 1 => .object "java/lang/String"
  | 2 => .object "java/lang/Throwable"
  | 3 => .array (.object "java/lang/StackTraceElement")
  | 4 => .int
  | _ => .object "java/util/List"
abbrev wsJ80 : List Cond := u_ws RJ8 TJ8 6
theorem nmJ8 : ∀ a, a < 6 → ∀ b, b < 6 → a ≠ b → (TJ8 a).2.1 ≠ (TJ8 b).2.1 := by decide +kernel
theorem tyJ8_ok : ∀ k, k < 6 → parseFieldDescriptor (TJ8 k).2.2.1 = some (tyJ8 k) := by decide +kernel
abbrev cJ8_init : ByteArray := prog_12_method_2_code
def yJ8_init : MethodName := ⟨RJ8, "<init>", "(Ljava/lang/String;)V"⟩
theorem q35 : (Jvm.Cond.initialized "java/lang/ArrayIndexOutOfBoundsException") ∈ lw_all := lw_g (lw_at lw_m1 17 rfl) rfl
theorem q219 : (Jvm.Cond.selects "java/lang/ArrayIndexOutOfBoundsException" ({ cls := "java/lang/Throwable", name := "fillInStackTrace", desc := "()Ljava/lang/Throwable;" } : Jvm.MethodName) ({ cls := "java/lang/Throwable", name := "fillInStackTrace", desc := "()Ljava/lang/Throwable;" } : Jvm.MethodName)) ∈ lw_all := lw_g (lw_at lw_m1 201 rfl) rfl
theorem q391 : (Jvm.Cond.instantiable "java/lang/ArrayIndexOutOfBoundsException" (6 : Nat)) ∈ lw_all := lw_g (lw_at lw_m2 133 rfl) rfl
theorem q392 : (Jvm.Cond.instanceMethod ({ cls := "java/lang/ArrayIndexOutOfBoundsException", name := "<init>", desc := "(Ljava/lang/String;)V" } : Jvm.MethodName)) ∈ lw_all := lw_g (lw_at lw_m2 134 rfl) rfl
theorem q393 : (Jvm.Cond.code ({ cls := "java/lang/ArrayIndexOutOfBoundsException", name := "<init>", desc := "(Ljava/lang/String;)V" } : Jvm.MethodName) prog_12_method_2_code (2 : Nat) (Option.none : Option Jvm.ClassFile.FieldType)) ∈ lw_all := lw_g (lw_at lw_m2 135 rfl) rfl
theorem q394 : (Jvm.Cond.methodLink "java/lang/ArrayIndexOutOfBoundsException" (7 : Nat) ({ cls := "java/lang/IndexOutOfBoundsException", name := "<init>", desc := "(Ljava/lang/String;)V" } : Jvm.MethodName)) ∈ lw_all := lw_g (lw_at lw_m2 136 rfl) rfl
theorem q398 : (Jvm.Cond.lays "java/lang/ArrayIndexOutOfBoundsException" "java/lang/Throwable" "backtrace" "Ljava/lang/Object;") ∈ lw_all := lw_g (lw_at lw_m2 140 rfl) rfl
theorem q399 : (Jvm.Cond.lays "java/lang/ArrayIndexOutOfBoundsException" "java/lang/Throwable" "detailMessage" "Ljava/lang/String;") ∈ lw_all := lw_g (lw_at lw_m2 141 rfl) rfl
theorem q400 : (Jvm.Cond.lays "java/lang/ArrayIndexOutOfBoundsException" "java/lang/Throwable" "cause" "Ljava/lang/Throwable;") ∈ lw_all := lw_g (lw_at lw_m2 142 rfl) rfl
theorem q401 : (Jvm.Cond.lays "java/lang/ArrayIndexOutOfBoundsException" "java/lang/Throwable" "stackTrace" "[Ljava/lang/StackTraceElement;") ∈ lw_all := lw_g (lw_at lw_m2 143 rfl) rfl
theorem q402 : (Jvm.Cond.lays "java/lang/ArrayIndexOutOfBoundsException" "java/lang/Throwable" "depth" "I") ∈ lw_all := lw_g (lw_at lw_m2 144 rfl) rfl
theorem q403 : (Jvm.Cond.lays "java/lang/ArrayIndexOutOfBoundsException" "java/lang/Throwable" "suppressedExceptions" "Ljava/util/List;") ∈ lw_all := lw_g (lw_at lw_m2 145 rfl) rfl
theorem q404 : (Jvm.Cond.superclass "java/lang/ArrayIndexOutOfBoundsException" "java/lang/IndexOutOfBoundsException") ∈ lw_all := lw_g (lw_at lw_m2 146 rfl) rfl
theorem q405 : (Jvm.Cond.castable "java/lang/ArrayIndexOutOfBoundsException" "java/lang/ArrayIndexOutOfBoundsException") ∈ lw_tbl := lw_at lw_m2 147 rfl
theorem q408 : (Jvm.Cond.selects "java/lang/ArrayIndexOutOfBoundsException" ({ cls := "java/lang/Throwable", name := "fillInStackTrace", desc := "(I)Ljava/lang/Throwable;" } : Jvm.MethodName) ({ cls := "java/lang/Throwable", name := "fillInStackTrace", desc := "(I)Ljava/lang/Throwable;" } : Jvm.MethodName)) ∈ lw_all := lw_g (lw_at lw_m2 150 rfl) rfl
theorem q766 : (Jvm.Cond.castable "java/lang/ArrayIndexOutOfBoundsException" "java/lang/IndexOutOfBoundsException") ∈ lw_tbl := lw_at lw_m4 28 rfl
theorem in_J8 : ∀ w ∈ wsJ80, w ∈ lw_all := lw_in wsJ80 [398, 399, 400, 401, 402, 403] (by decide +kernel) (by decide +kernel)
/-! java/lang/Integer -/
def RJ9 : String := "java/lang/Integer"
abbrev cJ9_bitCount : ByteArray := prog_17_method_49_code
def yJ9_bitCount : MethodName := ⟨RJ9, "bitCount", "(I)I"⟩
theorem q36 : (Jvm.Cond.initialized "java/lang/Integer") ∈ lw_all := lw_g (lw_at lw_m1 18 rfl) rfl
theorem q448 : (Jvm.Cond.static ({ cls := "java/lang/Integer", name := "bitCount", desc := "(I)I" } : Jvm.MethodName)) ∈ lw_all := lw_g (lw_at lw_m2 190 rfl) rfl
theorem q449 : (Jvm.Cond.code ({ cls := "java/lang/Integer", name := "bitCount", desc := "(I)I" } : Jvm.MethodName) prog_17_method_49_code (1 : Nat) (Option.some Jvm.ClassFile.FieldType.int)) ∈ lw_all := lw_g (lw_at lw_m2 191 rfl) rfl
theorem q450 : (Jvm.Cond.constant "java/lang/Integer" (265 : Nat) (1431655765 : Int32)) ∈ lw_all := lw_g (lw_at lw_m2 192 rfl) rfl
theorem q451 : (Jvm.Cond.constant "java/lang/Integer" (266 : Nat) (858993459 : Int32)) ∈ lw_all := lw_g (lw_at lw_m2 193 rfl) rfl
theorem q452 : (Jvm.Cond.constant "java/lang/Integer" (267 : Nat) (252645135 : Int32)) ∈ lw_all := lw_g (lw_at lw_m2 194 rfl) rfl
/-! NoisyCodes$Field -/
def RX3 : String := "NoisyCodes$Field"
def TX3 : u_T := fun k => match k with
  | 0 => ("NoisyCodes$Field", "n", "I", false)
  | 1 => ("NoisyCodes$Field", "power", "[I", true)
  | _ => ("NoisyCodes$Field", "log", "[I", true)
def tyX3 : Nat → FieldType := fun k => match k with
  | 0 => .int
  | 1 => .array .int
  | _ => .array .int
abbrev wsX30 : List Cond := u_ws RX3 TX3 3
theorem nmX3 : ∀ a, a < 3 → ∀ b, b < 3 → a ≠ b → (TX3 a).2.1 ≠ (TX3 b).2.1 := by decide +kernel
theorem tyX3_ok : ∀ k, k < 3 → parseFieldDescriptor (TX3 k).2.2.1 = some (tyX3 k) := by decide +kernel
abbrev cX3_init : ByteArray := prog_5_method_1_code
def yX3_init : MethodName := ⟨RX3, "<init>", "()V"⟩
abbrev cX3_make : ByteArray := prog_5_method_2_code
def yX3_make : MethodName := ⟨RX3, "make", "(I)Z"⟩
abbrev cX3_at : ByteArray := prog_5_method_5_code
def yX3_at : MethodName := ⟨RX3, "at", "(II)I"⟩
abbrev cX3_times : ByteArray := prog_5_method_3_code
def yX3_times : MethodName := ⟨RX3, "times", "(II)I"⟩
abbrev cX3_over : ByteArray := prog_5_method_4_code
def yX3_over : MethodName := ⟨RX3, "over", "(II)I"⟩
theorem q21 : (Jvm.Cond.initialized "NoisyCodes$Field") ∈ lw_all := lw_g (lw_at lw_m1 3 rfl) rfl
theorem q53 : (Jvm.Cond.instantiable "NoisyCodes$Field" (3 : Nat)) ∈ lw_all := lw_g (lw_at lw_m1 35 rfl) rfl
theorem q55 : (Jvm.Cond.instanceMethod ({ cls := "NoisyCodes$Field", name := "<init>", desc := "()V" } : Jvm.MethodName)) ∈ lw_all := lw_g (lw_at lw_m1 37 rfl) rfl
theorem q56 : (Jvm.Cond.code ({ cls := "NoisyCodes$Field", name := "<init>", desc := "()V" } : Jvm.MethodName) prog_5_method_1_code (1 : Nat) (Option.none : Option Jvm.ClassFile.FieldType)) ∈ lw_all := lw_g (lw_at lw_m1 38 rfl) rfl
theorem q57 : (Jvm.Cond.methodLink "NoisyCodes$Field" (3 : Nat) ({ cls := "java/lang/Object", name := "<init>", desc := "()V" } : Jvm.MethodName)) ∈ lw_all := lw_g (lw_at lw_m1 39 rfl) rfl
theorem q58 : (Jvm.Cond.fieldLink "NoisyCodes$Field" (22 : Nat) "NoisyCodes$Field" "n" "I") ∈ lw_all := lw_g (lw_at lw_m1 40 rfl) rfl
theorem q62 : (Jvm.Cond.fieldLink "NoisyCodes$Field" (9 : Nat) "NoisyCodes$Field" "power" "[I") ∈ lw_all := lw_g (lw_at lw_m1 44 rfl) rfl
theorem q66 : (Jvm.Cond.fieldLink "NoisyCodes$Field" (15 : Nat) "NoisyCodes$Field" "log" "[I") ∈ lw_all := lw_g (lw_at lw_m1 48 rfl) rfl
theorem q69 : (Jvm.Cond.lays "NoisyCodes$Field" "NoisyCodes$Field" "n" "I") ∈ lw_all := lw_g (lw_at lw_m1 51 rfl) rfl
theorem q70 : (Jvm.Cond.soleField "NoisyCodes$Field" "n") ∈ lw_all := lw_g (lw_at lw_m1 52 rfl) rfl
theorem q71 : (Jvm.Cond.laysFinal "NoisyCodes$Field" "NoisyCodes$Field" "power" "[I") ∈ lw_all := lw_g (lw_at lw_m1 53 rfl) rfl
theorem q72 : (Jvm.Cond.soleField "NoisyCodes$Field" "power") ∈ lw_all := lw_g (lw_at lw_m1 54 rfl) rfl
theorem q73 : (Jvm.Cond.laysFinal "NoisyCodes$Field" "NoisyCodes$Field" "log" "[I") ∈ lw_all := lw_g (lw_at lw_m1 55 rfl) rfl
theorem q74 : (Jvm.Cond.soleField "NoisyCodes$Field" "log") ∈ lw_all := lw_g (lw_at lw_m1 56 rfl) rfl
theorem q75 : (Jvm.Cond.superclass "NoisyCodes$Field" "java/lang/Object") ∈ lw_all := lw_g (lw_at lw_m1 57 rfl) rfl
theorem q301 : (Jvm.Cond.instanceMethod ({ cls := "NoisyCodes$Field", name := "make", desc := "(I)Z" } : Jvm.MethodName)) ∈ lw_all := lw_g (lw_at lw_m2 43 rfl) rfl
theorem q302 : (Jvm.Cond.selects "NoisyCodes$Field" ({ cls := "NoisyCodes$Field", name := "make", desc := "(I)Z" } : Jvm.MethodName) ({ cls := "NoisyCodes$Field", name := "make", desc := "(I)Z" } : Jvm.MethodName)) ∈ lw_all := lw_g (lw_at lw_m2 44 rfl) rfl
theorem q303 : (Jvm.Cond.code ({ cls := "NoisyCodes$Field", name := "make", desc := "(I)Z" } : Jvm.MethodName) prog_5_method_2_code (5 : Nat) (Option.some Jvm.ClassFile.FieldType.boolean)) ∈ lw_all := lw_g (lw_at lw_m2 45 rfl) rfl
theorem q304 : (Jvm.Cond.methodLinkNest "NoisyCodes$Field" (18 : Nat) ({ cls := "NoisyCodes", name := "degreeOf", desc := "(I)I" } : Jvm.MethodName) "NoisyCodes") ∈ lw_tbl := lw_at lw_m2 46 rfl
theorem q308 : (Jvm.Cond.instanceMethod ({ cls := "NoisyCodes$Field", name := "at", desc := "(II)I" } : Jvm.MethodName)) ∈ lw_all := lw_g (lw_at lw_m2 50 rfl) rfl
theorem q309 : (Jvm.Cond.selects "NoisyCodes$Field" ({ cls := "NoisyCodes$Field", name := "at", desc := "(II)I" } : Jvm.MethodName) ({ cls := "NoisyCodes$Field", name := "at", desc := "(II)I" } : Jvm.MethodName)) ∈ lw_all := lw_g (lw_at lw_m2 51 rfl) rfl
theorem q310 : (Jvm.Cond.code ({ cls := "NoisyCodes$Field", name := "at", desc := "(II)I" } : Jvm.MethodName) prog_5_method_5_code (5 : Nat) (Option.some Jvm.ClassFile.FieldType.int)) ∈ lw_all := lw_g (lw_at lw_m2 52 rfl) rfl
theorem q320 : (Jvm.Cond.instanceMethod ({ cls := "NoisyCodes$Field", name := "times", desc := "(II)I" } : Jvm.MethodName)) ∈ lw_all := lw_g (lw_at lw_m2 62 rfl) rfl
theorem q321 : (Jvm.Cond.selects "NoisyCodes$Field" ({ cls := "NoisyCodes$Field", name := "times", desc := "(II)I" } : Jvm.MethodName) ({ cls := "NoisyCodes$Field", name := "times", desc := "(II)I" } : Jvm.MethodName)) ∈ lw_all := lw_g (lw_at lw_m2 63 rfl) rfl
theorem q322 : (Jvm.Cond.code ({ cls := "NoisyCodes$Field", name := "times", desc := "(II)I" } : Jvm.MethodName) prog_5_method_3_code (3 : Nat) (Option.some Jvm.ClassFile.FieldType.int)) ∈ lw_all := lw_g (lw_at lw_m2 64 rfl) rfl
theorem q526 : (Jvm.Cond.instanceMethod ({ cls := "NoisyCodes$Field", name := "over", desc := "(II)I" } : Jvm.MethodName)) ∈ lw_all := lw_g (lw_at lw_m3 28 rfl) rfl
theorem q527 : (Jvm.Cond.selects "NoisyCodes$Field" ({ cls := "NoisyCodes$Field", name := "over", desc := "(II)I" } : Jvm.MethodName) ({ cls := "NoisyCodes$Field", name := "over", desc := "(II)I" } : Jvm.MethodName)) ∈ lw_all := lw_g (lw_at lw_m3 29 rfl) rfl
theorem q528 : (Jvm.Cond.code ({ cls := "NoisyCodes$Field", name := "over", desc := "(II)I" } : Jvm.MethodName) prog_5_method_4_code (3 : Nat) (Option.some Jvm.ClassFile.FieldType.int)) ∈ lw_all := lw_g (lw_at lw_m3 30 rfl) rfl
theorem in_X3 : ∀ w ∈ wsX30, w ∈ lw_all := lw_in wsX30 [69, 71, 73] (by decide +kernel) (by decide +kernel)
/-! NoisyCodes$Poly -/
def RX4 : String := "NoisyCodes$Poly"
def TX4 : u_T := fun k => match k with
  | _ => ("NoisyCodes$Poly", "c", "[I", true)
def tyX4 : Nat → FieldType := fun k => match k with
  | _ => .array .int
abbrev wsX40 : List Cond := u_ws RX4 TX4 1
theorem nmX4 : ∀ a, a < 1 → ∀ b, b < 1 → a ≠ b → (TX4 a).2.1 ≠ (TX4 b).2.1 := by decide +kernel
theorem tyX4_ok : ∀ k, k < 1 → parseFieldDescriptor (TX4 k).2.2.1 = some (tyX4 k) := by decide +kernel
abbrev cX4_init : ByteArray := prog_7_method_1_code
def yX4_init : MethodName := ⟨RX4, "<init>", "()V"⟩
abbrev cX4_clear : ByteArray := prog_7_method_2_code
def yX4_clear : MethodName := ⟨RX4, "clear", "()LNoisyCodes$Poly;"⟩
abbrev cX4_degree : ByteArray := prog_7_method_4_code
def yX4_degree : MethodName := ⟨RX4, "degree", "()I"⟩
abbrev cX4_add : ByteArray := prog_7_method_5_code
def yX4_add : MethodName := ⟨RX4, "add", "(LNoisyCodes$Field;LNoisyCodes$Poly;II)V"⟩
abbrev cX4_copy : ByteArray := prog_7_method_3_code
def yX4_copy : MethodName := ⟨RX4, "copy", "(LNoisyCodes$Poly;)V"⟩
abbrev cX4_value : ByteArray := prog_7_method_6_code
def yX4_value : MethodName := ⟨RX4, "value", "(LNoisyCodes$Field;I)I"⟩
theorem q22 : (Jvm.Cond.initialized "NoisyCodes$Poly") ∈ lw_all := lw_g (lw_at lw_m1 4 rfl) rfl
theorem q60 : (Jvm.Cond.fieldLinkNest "NoisyCodes$Poly" (33 : Nat) "NoisyCodes$Field" "n" "I" "NoisyCodes") ∈ lw_tbl := lw_at lw_m1 42 rfl
theorem q64 : (Jvm.Cond.fieldLinkNest "NoisyCodes$Poly" (27 : Nat) "NoisyCodes$Field" "power" "[I" "NoisyCodes") ∈ lw_tbl := lw_at lw_m1 46 rfl
theorem q67 : (Jvm.Cond.fieldLinkNest "NoisyCodes$Poly" (30 : Nat) "NoisyCodes$Field" "log" "[I" "NoisyCodes") ∈ lw_tbl := lw_at lw_m1 49 rfl
theorem q78 : (Jvm.Cond.instantiable "NoisyCodes$Poly" (1 : Nat)) ∈ lw_all := lw_g (lw_at lw_m1 60 rfl) rfl
theorem q80 : (Jvm.Cond.instanceMethod ({ cls := "NoisyCodes$Poly", name := "<init>", desc := "()V" } : Jvm.MethodName)) ∈ lw_all := lw_g (lw_at lw_m1 62 rfl) rfl
theorem q81 : (Jvm.Cond.code ({ cls := "NoisyCodes$Poly", name := "<init>", desc := "()V" } : Jvm.MethodName) prog_7_method_1_code (1 : Nat) (Option.none : Option Jvm.ClassFile.FieldType)) ∈ lw_all := lw_g (lw_at lw_m1 63 rfl) rfl
theorem q82 : (Jvm.Cond.methodLink "NoisyCodes$Poly" (3 : Nat) ({ cls := "java/lang/Object", name := "<init>", desc := "()V" } : Jvm.MethodName)) ∈ lw_all := lw_g (lw_at lw_m1 64 rfl) rfl
theorem q83 : (Jvm.Cond.fieldLink "NoisyCodes$Poly" (9 : Nat) "NoisyCodes$Poly" "c" "[I") ∈ lw_all := lw_g (lw_at lw_m1 65 rfl) rfl
theorem q88 : (Jvm.Cond.laysFinal "NoisyCodes$Poly" "NoisyCodes$Poly" "c" "[I") ∈ lw_all := lw_g (lw_at lw_m1 70 rfl) rfl
theorem q89 : (Jvm.Cond.soleField "NoisyCodes$Poly" "c") ∈ lw_all := lw_g (lw_at lw_m1 71 rfl) rfl
theorem q90 : (Jvm.Cond.superclass "NoisyCodes$Poly" "java/lang/Object") ∈ lw_all := lw_g (lw_at lw_m1 72 rfl) rfl
theorem q316 : (Jvm.Cond.instanceMethod ({ cls := "NoisyCodes$Poly", name := "clear", desc := "()LNoisyCodes$Poly;" } : Jvm.MethodName)) ∈ lw_all := lw_g (lw_at lw_m2 58 rfl) rfl
theorem q317 : (Jvm.Cond.selects "NoisyCodes$Poly" ({ cls := "NoisyCodes$Poly", name := "clear", desc := "()LNoisyCodes$Poly;" } : Jvm.MethodName) ({ cls := "NoisyCodes$Poly", name := "clear", desc := "()LNoisyCodes$Poly;" } : Jvm.MethodName)) ∈ lw_all := lw_g (lw_at lw_m2 59 rfl) rfl
theorem q318 : (Jvm.Cond.code ({ cls := "NoisyCodes$Poly", name := "clear", desc := "()LNoisyCodes$Poly;" } : Jvm.MethodName) prog_7_method_2_code (2 : Nat) (Option.some (Jvm.ClassFile.FieldType.object "NoisyCodes$Poly"))) ∈ lw_all := lw_g (lw_at lw_m2 60 rfl) rfl
theorem q518 : (Jvm.Cond.instanceMethod ({ cls := "NoisyCodes$Poly", name := "degree", desc := "()I" } : Jvm.MethodName)) ∈ lw_all := lw_g (lw_at lw_m3 20 rfl) rfl
theorem q519 : (Jvm.Cond.selects "NoisyCodes$Poly" ({ cls := "NoisyCodes$Poly", name := "degree", desc := "()I" } : Jvm.MethodName) ({ cls := "NoisyCodes$Poly", name := "degree", desc := "()I" } : Jvm.MethodName)) ∈ lw_all := lw_g (lw_at lw_m3 21 rfl) rfl
theorem q520 : (Jvm.Cond.code ({ cls := "NoisyCodes$Poly", name := "degree", desc := "()I" } : Jvm.MethodName) prog_7_method_4_code (2 : Nat) (Option.some Jvm.ClassFile.FieldType.int)) ∈ lw_all := lw_g (lw_at lw_m3 22 rfl) rfl
theorem q530 : (Jvm.Cond.instanceMethod ({ cls := "NoisyCodes$Poly", name := "add", desc := "(LNoisyCodes$Field;LNoisyCodes$Poly;II)V" } : Jvm.MethodName)) ∈ lw_all := lw_g (lw_at lw_m3 32 rfl) rfl
theorem q531 : (Jvm.Cond.selects "NoisyCodes$Poly" ({ cls := "NoisyCodes$Poly", name := "add", desc := "(LNoisyCodes$Field;LNoisyCodes$Poly;II)V" } : Jvm.MethodName) ({ cls := "NoisyCodes$Poly", name := "add", desc := "(LNoisyCodes$Field;LNoisyCodes$Poly;II)V" } : Jvm.MethodName)) ∈ lw_all := lw_g (lw_at lw_m3 33 rfl) rfl
theorem q532 : (Jvm.Cond.code ({ cls := "NoisyCodes$Poly", name := "add", desc := "(LNoisyCodes$Field;LNoisyCodes$Poly;II)V" } : Jvm.MethodName) prog_7_method_5_code (6 : Nat) (Option.none : Option Jvm.ClassFile.FieldType)) ∈ lw_all := lw_g (lw_at lw_m3 34 rfl) rfl
theorem q533 : (Jvm.Cond.methodLink "NoisyCodes$Poly" (21 : Nat) ({ cls := "NoisyCodes$Field", name := "times", desc := "(II)I" } : Jvm.MethodName)) ∈ lw_all := lw_g (lw_at lw_m3 35 rfl) rfl
theorem q560 : (Jvm.Cond.instanceMethod ({ cls := "NoisyCodes$Poly", name := "copy", desc := "(LNoisyCodes$Poly;)V" } : Jvm.MethodName)) ∈ lw_all := lw_g (lw_at lw_m3 62 rfl) rfl
theorem q561 : (Jvm.Cond.selects "NoisyCodes$Poly" ({ cls := "NoisyCodes$Poly", name := "copy", desc := "(LNoisyCodes$Poly;)V" } : Jvm.MethodName) ({ cls := "NoisyCodes$Poly", name := "copy", desc := "(LNoisyCodes$Poly;)V" } : Jvm.MethodName)) ∈ lw_all := lw_g (lw_at lw_m3 63 rfl) rfl
theorem q562 : (Jvm.Cond.code ({ cls := "NoisyCodes$Poly", name := "copy", desc := "(LNoisyCodes$Poly;)V" } : Jvm.MethodName) prog_7_method_3_code (2 : Nat) (Option.none : Option Jvm.ClassFile.FieldType)) ∈ lw_all := lw_g (lw_at lw_m3 64 rfl) rfl
theorem q563 : (Jvm.Cond.methodLink "NoisyCodes$Poly" (15 : Nat) ({ cls := "java/lang/System", name := "arraycopy", desc := "(Ljava/lang/Object;ILjava/lang/Object;II)V" } : Jvm.MethodName)) ∈ lw_all := lw_g (lw_at lw_m3 65 rfl) rfl
theorem q569 : (Jvm.Cond.instanceMethod ({ cls := "NoisyCodes$Poly", name := "value", desc := "(LNoisyCodes$Field;I)I" } : Jvm.MethodName)) ∈ lw_all := lw_g (lw_at lw_m3 71 rfl) rfl
theorem q570 : (Jvm.Cond.selects "NoisyCodes$Poly" ({ cls := "NoisyCodes$Poly", name := "value", desc := "(LNoisyCodes$Field;I)I" } : Jvm.MethodName) ({ cls := "NoisyCodes$Poly", name := "value", desc := "(LNoisyCodes$Field;I)I" } : Jvm.MethodName)) ∈ lw_all := lw_g (lw_at lw_m3 72 rfl) rfl
theorem q571 : (Jvm.Cond.code ({ cls := "NoisyCodes$Poly", name := "value", desc := "(LNoisyCodes$Field;I)I" } : Jvm.MethodName) prog_7_method_6_code (5 : Nat) (Option.some Jvm.ClassFile.FieldType.int)) ∈ lw_all := lw_g (lw_at lw_m3 73 rfl) rfl
theorem in_X4 : ∀ w ∈ wsX40, w ∈ lw_all := lw_in wsX40 [88] (by decide +kernel) (by decide +kernel)
/-! NoisyCodes$Equations -/
def RX5 : String := "NoisyCodes$Equations"
def TX5 : u_T := fun k => match k with
  | _ => ("NoisyCodes$Equations", "rows", "[[I", true)
def tyX5 : Nat → FieldType := fun k => match k with
  | _ => .array (.array .int)
abbrev wsX50 : List Cond := u_ws RX5 TX5 1
theorem nmX5 : ∀ a, a < 1 → ∀ b, b < 1 → a ≠ b → (TX5 a).2.1 ≠ (TX5 b).2.1 := by decide +kernel
theorem tyX5_ok : ∀ k, k < 1 → parseFieldDescriptor (TX5 k).2.2.1 = some (tyX5 k) := by decide +kernel
abbrev cX5_init : ByteArray := prog_4_method_1_code
def yX5_init : MethodName := ⟨RX5, "<init>", "()V"⟩
abbrev cX5_find : ByteArray := prog_4_method_2_code
def yX5_find : MethodName := ⟨RX5, "find", "(LNoisyCodes$Field;[IILNoisyCodes$Poly;)V"⟩
abbrev cX5_solve : ByteArray := prog_4_method_3_code
def yX5_solve : MethodName := ⟨RX5, "solve", "(LNoisyCodes$Field;[II)Z"⟩
abbrev cX5_clear : ByteArray := prog_4_method_4_code
def yX5_clear : MethodName := ⟨RX5, "clear", "(LNoisyCodes$Field;II)V"⟩
theorem q23 : (Jvm.Cond.initialized "NoisyCodes$Equations") ∈ lw_all := lw_g (lw_at lw_m1 5 rfl) rfl
theorem q86 : (Jvm.Cond.fieldLinkNest "NoisyCodes$Equations" (26 : Nat) "NoisyCodes$Poly" "c" "[I" "NoisyCodes") ∈ lw_tbl := lw_at lw_m1 68 rfl
theorem q119 : (Jvm.Cond.instantiable "NoisyCodes$Equations" (1 : Nat)) ∈ lw_all := lw_g (lw_at lw_m1 101 rfl) rfl
theorem q121 : (Jvm.Cond.instanceMethod ({ cls := "NoisyCodes$Equations", name := "<init>", desc := "()V" } : Jvm.MethodName)) ∈ lw_all := lw_g (lw_at lw_m1 103 rfl) rfl
theorem q122 : (Jvm.Cond.code ({ cls := "NoisyCodes$Equations", name := "<init>", desc := "()V" } : Jvm.MethodName) prog_4_method_1_code (1 : Nat) (Option.none : Option Jvm.ClassFile.FieldType)) ∈ lw_all := lw_g (lw_at lw_m1 104 rfl) rfl
theorem q123 : (Jvm.Cond.methodLink "NoisyCodes$Equations" (3 : Nat) ({ cls := "java/lang/Object", name := "<init>", desc := "()V" } : Jvm.MethodName)) ∈ lw_all := lw_g (lw_at lw_m1 105 rfl) rfl
theorem q124 : (Jvm.Cond.classLink "NoisyCodes$Equations" (9 : Nat) "[[I") ∈ lw_all := lw_g (lw_at lw_m1 106 rfl) rfl
theorem q125 : (Jvm.Cond.fieldLink "NoisyCodes$Equations" (11 : Nat) "NoisyCodes$Equations" "rows" "[[I") ∈ lw_all := lw_g (lw_at lw_m1 107 rfl) rfl
theorem q126 : (Jvm.Cond.laysFinal "NoisyCodes$Equations" "NoisyCodes$Equations" "rows" "[[I") ∈ lw_all := lw_g (lw_at lw_m1 108 rfl) rfl
theorem q127 : (Jvm.Cond.soleField "NoisyCodes$Equations" "rows") ∈ lw_all := lw_g (lw_at lw_m1 109 rfl) rfl
theorem q128 : (Jvm.Cond.superclass "NoisyCodes$Equations" "java/lang/Object") ∈ lw_all := lw_g (lw_at lw_m1 110 rfl) rfl
theorem q534 : (Jvm.Cond.castable "NoisyCodes$Equations" "NoisyCodes$Way") ∈ lw_tbl := lw_at lw_m3 36 rfl
theorem q535 : (Jvm.Cond.selects "NoisyCodes$Equations" ({ cls := "NoisyCodes$Way", name := "find", desc := "(LNoisyCodes$Field;[IILNoisyCodes$Poly;)V" } : Jvm.MethodName) ({ cls := "NoisyCodes$Equations", name := "find", desc := "(LNoisyCodes$Field;[IILNoisyCodes$Poly;)V" } : Jvm.MethodName)) ∈ lw_all := lw_g (lw_at lw_m3 37 rfl) rfl
theorem q536 : (Jvm.Cond.unhidden "NoisyCodes$Equations" "find" "(LNoisyCodes$Field;[IILNoisyCodes$Poly;)V") ∈ lw_tbl := lw_at lw_m3 38 rfl
theorem q537 : (Jvm.Cond.instanceMethod ({ cls := "NoisyCodes$Equations", name := "find", desc := "(LNoisyCodes$Field;[IILNoisyCodes$Poly;)V" } : Jvm.MethodName)) ∈ lw_all := lw_g (lw_at lw_m3 39 rfl) rfl
theorem q538 : (Jvm.Cond.publicMethod ({ cls := "NoisyCodes$Equations", name := "find", desc := "(LNoisyCodes$Field;[IILNoisyCodes$Poly;)V" } : Jvm.MethodName)) ∈ lw_tbl := lw_at lw_m3 40 rfl
theorem q539 : (Jvm.Cond.code ({ cls := "NoisyCodes$Equations", name := "find", desc := "(LNoisyCodes$Field;[IILNoisyCodes$Poly;)V" } : Jvm.MethodName) prog_4_method_2_code (7 : Nat) (Option.none : Option Jvm.ClassFile.FieldType)) ∈ lw_all := lw_g (lw_at lw_m3 41 rfl) rfl
theorem q540 : (Jvm.Cond.methodLink "NoisyCodes$Equations" (16 : Nat) ({ cls := "NoisyCodes$Equations", name := "solve", desc := "(LNoisyCodes$Field;[II)Z" } : Jvm.MethodName)) ∈ lw_all := lw_g (lw_at lw_m3 42 rfl) rfl
theorem q541 : (Jvm.Cond.privateMethod ({ cls := "NoisyCodes$Equations", name := "solve", desc := "(LNoisyCodes$Field;[II)Z" } : Jvm.MethodName)) ∈ lw_tbl := lw_at lw_m3 43 rfl
theorem q542 : (Jvm.Cond.instanceMethod ({ cls := "NoisyCodes$Equations", name := "solve", desc := "(LNoisyCodes$Field;[II)Z" } : Jvm.MethodName)) ∈ lw_all := lw_g (lw_at lw_m3 44 rfl) rfl
theorem q543 : (Jvm.Cond.code ({ cls := "NoisyCodes$Equations", name := "solve", desc := "(LNoisyCodes$Field;[II)Z" } : Jvm.MethodName) prog_4_method_3_code (7 : Nat) (Option.some Jvm.ClassFile.FieldType.boolean)) ∈ lw_all := lw_g (lw_at lw_m3 45 rfl) rfl
theorem q544 : (Jvm.Cond.methodLink "NoisyCodes$Equations" (30 : Nat) ({ cls := "NoisyCodes$Equations", name := "clear", desc := "(LNoisyCodes$Field;II)V" } : Jvm.MethodName)) ∈ lw_all := lw_g (lw_at lw_m3 46 rfl) rfl
theorem q545 : (Jvm.Cond.privateMethod ({ cls := "NoisyCodes$Equations", name := "clear", desc := "(LNoisyCodes$Field;II)V" } : Jvm.MethodName)) ∈ lw_tbl := lw_at lw_m3 47 rfl
theorem q546 : (Jvm.Cond.instanceMethod ({ cls := "NoisyCodes$Equations", name := "clear", desc := "(LNoisyCodes$Field;II)V" } : Jvm.MethodName)) ∈ lw_all := lw_g (lw_at lw_m3 48 rfl) rfl
theorem q547 : (Jvm.Cond.code ({ cls := "NoisyCodes$Equations", name := "clear", desc := "(LNoisyCodes$Field;II)V" } : Jvm.MethodName) prog_4_method_4_code (8 : Nat) (Option.none : Option Jvm.ClassFile.FieldType)) ∈ lw_all := lw_g (lw_at lw_m3 49 rfl) rfl
theorem q548 : (Jvm.Cond.methodLink "NoisyCodes$Equations" (33 : Nat) ({ cls := "NoisyCodes$Field", name := "over", desc := "(II)I" } : Jvm.MethodName)) ∈ lw_all := lw_g (lw_at lw_m3 50 rfl) rfl
theorem q549 : (Jvm.Cond.methodLink "NoisyCodes$Equations" (39 : Nat) ({ cls := "NoisyCodes$Field", name := "times", desc := "(II)I" } : Jvm.MethodName)) ∈ lw_all := lw_g (lw_at lw_m3 51 rfl) rfl
theorem q550 : (Jvm.Cond.methodLink "NoisyCodes$Equations" (20 : Nat) ({ cls := "NoisyCodes$Poly", name := "clear", desc := "()LNoisyCodes$Poly;" } : Jvm.MethodName)) ∈ lw_all := lw_g (lw_at lw_m3 52 rfl) rfl
theorem in_X5 : ∀ w ∈ wsX50, w ∈ lw_all := lw_in wsX50 [126] (by decide +kernel) (by decide +kernel)
/-! NoisyCodes$Division -/
def RX6 : String := "NoisyCodes$Division"
def TX6 : u_T := fun k => match k with
  | 0 => ("NoisyCodes$Division", "high", "LNoisyCodes$Poly;", false)
  | 1 => ("NoisyCodes$Division", "low", "LNoisyCodes$Poly;", false)
  | 2 => ("NoisyCodes$Division", "before", "LNoisyCodes$Poly;", false)
  | _ => ("NoisyCodes$Division", "now", "LNoisyCodes$Poly;", false)
def tyX6 : Nat → FieldType := fun k => match k with
  | 0 => .object "NoisyCodes$Poly"
  | 1 => .object "NoisyCodes$Poly"
  | 2 => .object "NoisyCodes$Poly"
  | _ => .object "NoisyCodes$Poly"
abbrev wsX60 : List Cond := u_ws RX6 TX6 4
theorem nmX6 : ∀ a, a < 4 → ∀ b, b < 4 → a ≠ b → (TX6 a).2.1 ≠ (TX6 b).2.1 := by decide +kernel
theorem tyX6_ok : ∀ k, k < 4 → parseFieldDescriptor (TX6 k).2.2.1 = some (tyX6 k) := by decide +kernel
abbrev cX6_init : ByteArray := prog_3_method_1_code
def yX6_init : MethodName := ⟨RX6, "<init>", "()V"⟩
abbrev cX6_find : ByteArray := prog_3_method_2_code
def yX6_find : MethodName := ⟨RX6, "find", "(LNoisyCodes$Field;[IILNoisyCodes$Poly;)V"⟩
abbrev cX6_divide : ByteArray := prog_3_method_3_code
def yX6_divide : MethodName := ⟨RX6, "divide", "(LNoisyCodes$Field;)V"⟩
theorem q24 : (Jvm.Cond.initialized "NoisyCodes$Division") ∈ lw_all := lw_g (lw_at lw_m1 6 rfl) rfl
theorem q85 : (Jvm.Cond.fieldLinkNest "NoisyCodes$Division" (29 : Nat) "NoisyCodes$Poly" "c" "[I" "NoisyCodes") ∈ lw_tbl := lw_at lw_m1 67 rfl
theorem q130 : (Jvm.Cond.instantiable "NoisyCodes$Division" (4 : Nat)) ∈ lw_all := lw_g (lw_at lw_m1 112 rfl) rfl
theorem q132 : (Jvm.Cond.instanceMethod ({ cls := "NoisyCodes$Division", name := "<init>", desc := "()V" } : Jvm.MethodName)) ∈ lw_all := lw_g (lw_at lw_m1 114 rfl) rfl
theorem q133 : (Jvm.Cond.code ({ cls := "NoisyCodes$Division", name := "<init>", desc := "()V" } : Jvm.MethodName) prog_3_method_1_code (1 : Nat) (Option.none : Option Jvm.ClassFile.FieldType)) ∈ lw_all := lw_g (lw_at lw_m1 115 rfl) rfl
theorem q134 : (Jvm.Cond.methodLink "NoisyCodes$Division" (1 : Nat) ({ cls := "java/lang/Object", name := "<init>", desc := "()V" } : Jvm.MethodName)) ∈ lw_all := lw_g (lw_at lw_m1 116 rfl) rfl
theorem q135 : (Jvm.Cond.classLink "NoisyCodes$Division" (7 : Nat) "NoisyCodes$Poly") ∈ lw_all := lw_g (lw_at lw_m1 117 rfl) rfl
theorem q136 : (Jvm.Cond.methodLinkNest "NoisyCodes$Division" (9 : Nat) ({ cls := "NoisyCodes$Poly", name := "<init>", desc := "()V" } : Jvm.MethodName) "NoisyCodes") ∈ lw_tbl := lw_at lw_m1 118 rfl
theorem q137 : (Jvm.Cond.fieldLink "NoisyCodes$Division" (10 : Nat) "NoisyCodes$Division" "high" "LNoisyCodes$Poly;") ∈ lw_all := lw_g (lw_at lw_m1 119 rfl) rfl
theorem q138 : (Jvm.Cond.fieldLink "NoisyCodes$Division" (16 : Nat) "NoisyCodes$Division" "low" "LNoisyCodes$Poly;") ∈ lw_all := lw_g (lw_at lw_m1 120 rfl) rfl
theorem q139 : (Jvm.Cond.fieldLink "NoisyCodes$Division" (19 : Nat) "NoisyCodes$Division" "before" "LNoisyCodes$Poly;") ∈ lw_all := lw_g (lw_at lw_m1 121 rfl) rfl
theorem q140 : (Jvm.Cond.fieldLink "NoisyCodes$Division" (22 : Nat) "NoisyCodes$Division" "now" "LNoisyCodes$Poly;") ∈ lw_all := lw_g (lw_at lw_m1 122 rfl) rfl
theorem q141 : (Jvm.Cond.lays "NoisyCodes$Division" "NoisyCodes$Division" "high" "LNoisyCodes$Poly;") ∈ lw_all := lw_g (lw_at lw_m1 123 rfl) rfl
theorem q142 : (Jvm.Cond.soleField "NoisyCodes$Division" "high") ∈ lw_all := lw_g (lw_at lw_m1 124 rfl) rfl
theorem q143 : (Jvm.Cond.lays "NoisyCodes$Division" "NoisyCodes$Division" "low" "LNoisyCodes$Poly;") ∈ lw_all := lw_g (lw_at lw_m1 125 rfl) rfl
theorem q144 : (Jvm.Cond.soleField "NoisyCodes$Division" "low") ∈ lw_all := lw_g (lw_at lw_m1 126 rfl) rfl
theorem q145 : (Jvm.Cond.lays "NoisyCodes$Division" "NoisyCodes$Division" "before" "LNoisyCodes$Poly;") ∈ lw_all := lw_g (lw_at lw_m1 127 rfl) rfl
theorem q146 : (Jvm.Cond.soleField "NoisyCodes$Division" "before") ∈ lw_all := lw_g (lw_at lw_m1 128 rfl) rfl
theorem q147 : (Jvm.Cond.lays "NoisyCodes$Division" "NoisyCodes$Division" "now" "LNoisyCodes$Poly;") ∈ lw_all := lw_g (lw_at lw_m1 129 rfl) rfl
theorem q148 : (Jvm.Cond.soleField "NoisyCodes$Division" "now") ∈ lw_all := lw_g (lw_at lw_m1 130 rfl) rfl
theorem q149 : (Jvm.Cond.superclass "NoisyCodes$Division" "java/lang/Object") ∈ lw_all := lw_g (lw_at lw_m1 131 rfl) rfl
theorem q510 : (Jvm.Cond.castable "NoisyCodes$Division" "NoisyCodes$Way") ∈ lw_tbl := lw_at lw_m3 12 rfl
theorem q511 : (Jvm.Cond.selects "NoisyCodes$Division" ({ cls := "NoisyCodes$Way", name := "find", desc := "(LNoisyCodes$Field;[IILNoisyCodes$Poly;)V" } : Jvm.MethodName) ({ cls := "NoisyCodes$Division", name := "find", desc := "(LNoisyCodes$Field;[IILNoisyCodes$Poly;)V" } : Jvm.MethodName)) ∈ lw_all := lw_g (lw_at lw_m3 13 rfl) rfl
theorem q512 : (Jvm.Cond.unhidden "NoisyCodes$Division" "find" "(LNoisyCodes$Field;[IILNoisyCodes$Poly;)V") ∈ lw_tbl := lw_at lw_m3 14 rfl
theorem q513 : (Jvm.Cond.instanceMethod ({ cls := "NoisyCodes$Division", name := "find", desc := "(LNoisyCodes$Field;[IILNoisyCodes$Poly;)V" } : Jvm.MethodName)) ∈ lw_all := lw_g (lw_at lw_m3 15 rfl) rfl
theorem q514 : (Jvm.Cond.publicMethod ({ cls := "NoisyCodes$Division", name := "find", desc := "(LNoisyCodes$Field;[IILNoisyCodes$Poly;)V" } : Jvm.MethodName)) ∈ lw_tbl := lw_at lw_m3 16 rfl
theorem q515 : (Jvm.Cond.code ({ cls := "NoisyCodes$Division", name := "find", desc := "(LNoisyCodes$Field;[IILNoisyCodes$Poly;)V" } : Jvm.MethodName) prog_3_method_2_code (6 : Nat) (Option.none : Option Jvm.ClassFile.FieldType)) ∈ lw_all := lw_g (lw_at lw_m3 17 rfl) rfl
theorem q516 : (Jvm.Cond.methodLink "NoisyCodes$Division" (25 : Nat) ({ cls := "NoisyCodes$Poly", name := "clear", desc := "()LNoisyCodes$Poly;" } : Jvm.MethodName)) ∈ lw_all := lw_g (lw_at lw_m3 18 rfl) rfl
theorem q517 : (Jvm.Cond.methodLink "NoisyCodes$Division" (33 : Nat) ({ cls := "NoisyCodes$Poly", name := "degree", desc := "()I" } : Jvm.MethodName)) ∈ lw_all := lw_g (lw_at lw_m3 19 rfl) rfl
theorem q521 : (Jvm.Cond.methodLink "NoisyCodes$Division" (37 : Nat) ({ cls := "NoisyCodes$Division", name := "divide", desc := "(LNoisyCodes$Field;)V" } : Jvm.MethodName)) ∈ lw_all := lw_g (lw_at lw_m3 23 rfl) rfl
theorem q522 : (Jvm.Cond.privateMethod ({ cls := "NoisyCodes$Division", name := "divide", desc := "(LNoisyCodes$Field;)V" } : Jvm.MethodName)) ∈ lw_tbl := lw_at lw_m3 24 rfl
theorem q523 : (Jvm.Cond.instanceMethod ({ cls := "NoisyCodes$Division", name := "divide", desc := "(LNoisyCodes$Field;)V" } : Jvm.MethodName)) ∈ lw_all := lw_g (lw_at lw_m3 25 rfl) rfl
theorem q524 : (Jvm.Cond.code ({ cls := "NoisyCodes$Division", name := "divide", desc := "(LNoisyCodes$Field;)V" } : Jvm.MethodName) prog_3_method_3_code (6 : Nat) (Option.none : Option Jvm.ClassFile.FieldType)) ∈ lw_all := lw_g (lw_at lw_m3 26 rfl) rfl
theorem q525 : (Jvm.Cond.methodLink "NoisyCodes$Division" (41 : Nat) ({ cls := "NoisyCodes$Field", name := "over", desc := "(II)I" } : Jvm.MethodName)) ∈ lw_all := lw_g (lw_at lw_m3 27 rfl) rfl
theorem q529 : (Jvm.Cond.methodLink "NoisyCodes$Division" (47 : Nat) ({ cls := "NoisyCodes$Poly", name := "add", desc := "(LNoisyCodes$Field;LNoisyCodes$Poly;II)V" } : Jvm.MethodName)) ∈ lw_all := lw_g (lw_at lw_m3 31 rfl) rfl
theorem in_X6 : ∀ w ∈ wsX60, w ∈ lw_all := lw_in wsX60 [141, 143, 145, 147] (by decide +kernel) (by decide +kernel)
/-! NoisyCodes$Growing -/
def RX7 : String := "NoisyCodes$Growing"
def TX7 : u_T := fun k => match k with
  | 0 => ("NoisyCodes$Growing", "other", "LNoisyCodes$Poly;", true)
  | _ => ("NoisyCodes$Growing", "trial", "LNoisyCodes$Poly;", true)
def tyX7 : Nat → FieldType := fun k => match k with
  | 0 => .object "NoisyCodes$Poly"
  | _ => .object "NoisyCodes$Poly"
abbrev wsX70 : List Cond := u_ws RX7 TX7 2
theorem nmX7 : ∀ a, a < 2 → ∀ b, b < 2 → a ≠ b → (TX7 a).2.1 ≠ (TX7 b).2.1 := by decide +kernel
theorem tyX7_ok : ∀ k, k < 2 → parseFieldDescriptor (TX7 k).2.2.1 = some (tyX7 k) := by decide +kernel
abbrev cX7_init : ByteArray := prog_6_method_1_code
def yX7_init : MethodName := ⟨RX7, "<init>", "()V"⟩
abbrev cX7_find : ByteArray := prog_6_method_2_code
def yX7_find : MethodName := ⟨RX7, "find", "(LNoisyCodes$Field;[IILNoisyCodes$Poly;)V"⟩
theorem q25 : (Jvm.Cond.initialized "NoisyCodes$Growing") ∈ lw_all := lw_g (lw_at lw_m1 7 rfl) rfl
theorem q84 : (Jvm.Cond.fieldLinkNest "NoisyCodes$Growing" (23 : Nat) "NoisyCodes$Poly" "c" "[I" "NoisyCodes") ∈ lw_tbl := lw_at lw_m1 66 rfl
theorem q151 : (Jvm.Cond.instantiable "NoisyCodes$Growing" (2 : Nat)) ∈ lw_all := lw_g (lw_at lw_m1 133 rfl) rfl
theorem q153 : (Jvm.Cond.instanceMethod ({ cls := "NoisyCodes$Growing", name := "<init>", desc := "()V" } : Jvm.MethodName)) ∈ lw_all := lw_g (lw_at lw_m1 135 rfl) rfl
theorem q154 : (Jvm.Cond.code ({ cls := "NoisyCodes$Growing", name := "<init>", desc := "()V" } : Jvm.MethodName) prog_6_method_1_code (1 : Nat) (Option.none : Option Jvm.ClassFile.FieldType)) ∈ lw_all := lw_g (lw_at lw_m1 136 rfl) rfl
theorem q155 : (Jvm.Cond.methodLink "NoisyCodes$Growing" (1 : Nat) ({ cls := "java/lang/Object", name := "<init>", desc := "()V" } : Jvm.MethodName)) ∈ lw_all := lw_g (lw_at lw_m1 137 rfl) rfl
theorem q156 : (Jvm.Cond.classLink "NoisyCodes$Growing" (7 : Nat) "NoisyCodes$Poly") ∈ lw_all := lw_g (lw_at lw_m1 138 rfl) rfl
theorem q157 : (Jvm.Cond.methodLinkNest "NoisyCodes$Growing" (9 : Nat) ({ cls := "NoisyCodes$Poly", name := "<init>", desc := "()V" } : Jvm.MethodName) "NoisyCodes") ∈ lw_tbl := lw_at lw_m1 139 rfl
theorem q158 : (Jvm.Cond.fieldLink "NoisyCodes$Growing" (10 : Nat) "NoisyCodes$Growing" "other" "LNoisyCodes$Poly;") ∈ lw_all := lw_g (lw_at lw_m1 140 rfl) rfl
theorem q159 : (Jvm.Cond.fieldLink "NoisyCodes$Growing" (16 : Nat) "NoisyCodes$Growing" "trial" "LNoisyCodes$Poly;") ∈ lw_all := lw_g (lw_at lw_m1 141 rfl) rfl
theorem q160 : (Jvm.Cond.laysFinal "NoisyCodes$Growing" "NoisyCodes$Growing" "other" "LNoisyCodes$Poly;") ∈ lw_all := lw_g (lw_at lw_m1 142 rfl) rfl
theorem q161 : (Jvm.Cond.soleField "NoisyCodes$Growing" "other") ∈ lw_all := lw_g (lw_at lw_m1 143 rfl) rfl
theorem q162 : (Jvm.Cond.laysFinal "NoisyCodes$Growing" "NoisyCodes$Growing" "trial" "LNoisyCodes$Poly;") ∈ lw_all := lw_g (lw_at lw_m1 144 rfl) rfl
theorem q163 : (Jvm.Cond.soleField "NoisyCodes$Growing" "trial") ∈ lw_all := lw_g (lw_at lw_m1 145 rfl) rfl
theorem q164 : (Jvm.Cond.superclass "NoisyCodes$Growing" "java/lang/Object") ∈ lw_all := lw_g (lw_at lw_m1 146 rfl) rfl
theorem q551 : (Jvm.Cond.castable "NoisyCodes$Growing" "NoisyCodes$Way") ∈ lw_tbl := lw_at lw_m3 53 rfl
theorem q552 : (Jvm.Cond.selects "NoisyCodes$Growing" ({ cls := "NoisyCodes$Way", name := "find", desc := "(LNoisyCodes$Field;[IILNoisyCodes$Poly;)V" } : Jvm.MethodName) ({ cls := "NoisyCodes$Growing", name := "find", desc := "(LNoisyCodes$Field;[IILNoisyCodes$Poly;)V" } : Jvm.MethodName)) ∈ lw_all := lw_g (lw_at lw_m3 54 rfl) rfl
theorem q553 : (Jvm.Cond.unhidden "NoisyCodes$Growing" "find" "(LNoisyCodes$Field;[IILNoisyCodes$Poly;)V") ∈ lw_tbl := lw_at lw_m3 55 rfl
theorem q554 : (Jvm.Cond.instanceMethod ({ cls := "NoisyCodes$Growing", name := "find", desc := "(LNoisyCodes$Field;[IILNoisyCodes$Poly;)V" } : Jvm.MethodName)) ∈ lw_all := lw_g (lw_at lw_m3 56 rfl) rfl
theorem q555 : (Jvm.Cond.publicMethod ({ cls := "NoisyCodes$Growing", name := "find", desc := "(LNoisyCodes$Field;[IILNoisyCodes$Poly;)V" } : Jvm.MethodName)) ∈ lw_tbl := lw_at lw_m3 57 rfl
theorem q556 : (Jvm.Cond.code ({ cls := "NoisyCodes$Growing", name := "find", desc := "(LNoisyCodes$Field;[IILNoisyCodes$Poly;)V" } : Jvm.MethodName) prog_6_method_2_code (11 : Nat) (Option.none : Option Jvm.ClassFile.FieldType)) ∈ lw_all := lw_g (lw_at lw_m3 58 rfl) rfl
theorem q557 : (Jvm.Cond.methodLink "NoisyCodes$Growing" (19 : Nat) ({ cls := "NoisyCodes$Poly", name := "clear", desc := "()LNoisyCodes$Poly;" } : Jvm.MethodName)) ∈ lw_all := lw_g (lw_at lw_m3 59 rfl) rfl
theorem q558 : (Jvm.Cond.methodLink "NoisyCodes$Growing" (27 : Nat) ({ cls := "NoisyCodes$Field", name := "times", desc := "(II)I" } : Jvm.MethodName)) ∈ lw_all := lw_g (lw_at lw_m3 60 rfl) rfl
theorem q559 : (Jvm.Cond.methodLink "NoisyCodes$Growing" (33 : Nat) ({ cls := "NoisyCodes$Poly", name := "copy", desc := "(LNoisyCodes$Poly;)V" } : Jvm.MethodName)) ∈ lw_all := lw_g (lw_at lw_m3 61 rfl) rfl
theorem q566 : (Jvm.Cond.methodLink "NoisyCodes$Growing" (37 : Nat) ({ cls := "NoisyCodes$Field", name := "over", desc := "(II)I" } : Jvm.MethodName)) ∈ lw_all := lw_g (lw_at lw_m3 68 rfl) rfl
theorem q567 : (Jvm.Cond.methodLink "NoisyCodes$Growing" (40 : Nat) ({ cls := "NoisyCodes$Poly", name := "add", desc := "(LNoisyCodes$Field;LNoisyCodes$Poly;II)V" } : Jvm.MethodName)) ∈ lw_all := lw_g (lw_at lw_m3 69 rfl) rfl
theorem in_X7 : ∀ w ∈ wsX70, w ∈ lw_all := lw_in wsX70 [160, 162] (by decide +kernel) (by decide +kernel)
/-! NoisyCodes$Code -/
def RX2 : String := "NoisyCodes$Code"
def TX2 : u_T := fun k => match k with
  | 0 => ("NoisyCodes$Code", "field", "LNoisyCodes$Field;", true)
  | 1 => ("NoisyCodes$Code", "t", "I", false)
  | 2 => ("NoisyCodes$Code", "generator", "I", false)
  | 3 => ("NoisyCodes$Code", "k", "I", false)
  | 4 => ("NoisyCodes$Code", "syndromes", "[I", true)
  | _ => ("NoisyCodes$Code", "places", "LNoisyCodes$Poly;", true)
def tyX2 : Nat → FieldType := fun k => match k with
  | 0 => .object "NoisyCodes$Field"
  | 1 => .int
  | 2 => .int
  | 3 => .int
  | 4 => .array .int
  | _ => .object "NoisyCodes$Poly"
abbrev wsX20 : List Cond := u_ws RX2 TX2 6
theorem nmX2 : ∀ a, a < 6 → ∀ b, b < 6 → a ≠ b → (TX2 a).2.1 ≠ (TX2 b).2.1 := by decide +kernel
theorem tyX2_ok : ∀ k, k < 6 → parseFieldDescriptor (TX2 k).2.2.1 = some (tyX2 k) := by decide +kernel
abbrev cX2_init : ByteArray := prog_2_method_1_code
def yX2_init : MethodName := ⟨RX2, "<init>", "()V"⟩
abbrev cX2_make : ByteArray := prog_2_method_2_code
def yX2_make : MethodName := ⟨RX2, "make", "(II)Z"⟩
abbrev cX2_least : ByteArray := prog_2_method_3_code
def yX2_least : MethodName := ⟨RX2, "least", "(I)I"⟩
abbrev cX2_product : ByteArray := prog_2_method_4_code
def yX2_product : MethodName := ⟨RX2, "product", "(II)I"⟩
abbrev cX2_encode : ByteArray := prog_2_method_5_code
def yX2_encode : MethodName := ⟨RX2, "encode", "(I)I"⟩
abbrev cX2_mended : ByteArray := prog_2_method_7_code
def yX2_mended : MethodName := ⟨RX2, "mended", "(ILNoisyCodes$Way;)I"⟩
abbrev cX2_isRight : ByteArray := prog_2_method_6_code
def yX2_isRight : MethodName := ⟨RX2, "isRight", "(I)Z"⟩
theorem q20 : (Jvm.Cond.initialized "NoisyCodes$Code") ∈ lw_all := lw_g (lw_at lw_m1 2 rfl) rfl
theorem q47 : (Jvm.Cond.instantiable "NoisyCodes$Code" (6 : Nat)) ∈ lw_all := lw_g (lw_at lw_m1 29 rfl) rfl
theorem q49 : (Jvm.Cond.instanceMethod ({ cls := "NoisyCodes$Code", name := "<init>", desc := "()V" } : Jvm.MethodName)) ∈ lw_all := lw_g (lw_at lw_m1 31 rfl) rfl
theorem q50 : (Jvm.Cond.code ({ cls := "NoisyCodes$Code", name := "<init>", desc := "()V" } : Jvm.MethodName) prog_2_method_1_code (1 : Nat) (Option.none : Option Jvm.ClassFile.FieldType)) ∈ lw_all := lw_g (lw_at lw_m1 32 rfl) rfl
theorem q51 : (Jvm.Cond.methodLink "NoisyCodes$Code" (3 : Nat) ({ cls := "java/lang/Object", name := "<init>", desc := "()V" } : Jvm.MethodName)) ∈ lw_all := lw_g (lw_at lw_m1 33 rfl) rfl
theorem q52 : (Jvm.Cond.classLink "NoisyCodes$Code" (9 : Nat) "NoisyCodes$Field") ∈ lw_all := lw_g (lw_at lw_m1 34 rfl) rfl
theorem q54 : (Jvm.Cond.methodLinkNest "NoisyCodes$Code" (11 : Nat) ({ cls := "NoisyCodes$Field", name := "<init>", desc := "()V" } : Jvm.MethodName) "NoisyCodes") ∈ lw_tbl := lw_at lw_m1 36 rfl
theorem q59 : (Jvm.Cond.fieldLinkNest "NoisyCodes$Code" (51 : Nat) "NoisyCodes$Field" "n" "I" "NoisyCodes") ∈ lw_tbl := lw_at lw_m1 41 rfl
theorem q63 : (Jvm.Cond.fieldLinkNest "NoisyCodes$Code" (67 : Nat) "NoisyCodes$Field" "power" "[I" "NoisyCodes") ∈ lw_tbl := lw_at lw_m1 45 rfl
theorem q77 : (Jvm.Cond.classLink "NoisyCodes$Code" (22 : Nat) "NoisyCodes$Poly") ∈ lw_all := lw_g (lw_at lw_m1 59 rfl) rfl
theorem q79 : (Jvm.Cond.methodLinkNest "NoisyCodes$Code" (24 : Nat) ({ cls := "NoisyCodes$Poly", name := "<init>", desc := "()V" } : Jvm.MethodName) "NoisyCodes") ∈ lw_tbl := lw_at lw_m1 61 rfl
theorem q87 : (Jvm.Cond.fieldLinkNest "NoisyCodes$Code" (64 : Nat) "NoisyCodes$Poly" "c" "[I" "NoisyCodes") ∈ lw_tbl := lw_at lw_m1 69 rfl
theorem q91 : (Jvm.Cond.fieldLink "NoisyCodes$Code" (12 : Nat) "NoisyCodes$Code" "field" "LNoisyCodes$Field;") ∈ lw_all := lw_g (lw_at lw_m1 73 rfl) rfl
theorem q93 : (Jvm.Cond.fieldLink "NoisyCodes$Code" (29 : Nat) "NoisyCodes$Code" "t" "I") ∈ lw_all := lw_g (lw_at lw_m1 75 rfl) rfl
theorem q95 : (Jvm.Cond.fieldLink "NoisyCodes$Code" (37 : Nat) "NoisyCodes$Code" "generator" "I") ∈ lw_all := lw_g (lw_at lw_m1 77 rfl) rfl
theorem q97 : (Jvm.Cond.fieldLink "NoisyCodes$Code" (57 : Nat) "NoisyCodes$Code" "k" "I") ∈ lw_all := lw_g (lw_at lw_m1 79 rfl) rfl
theorem q99 : (Jvm.Cond.fieldLink "NoisyCodes$Code" (18 : Nat) "NoisyCodes$Code" "syndromes" "[I") ∈ lw_all := lw_g (lw_at lw_m1 81 rfl) rfl
theorem q100 : (Jvm.Cond.fieldLink "NoisyCodes$Code" (25 : Nat) "NoisyCodes$Code" "places" "LNoisyCodes$Poly;") ∈ lw_all := lw_g (lw_at lw_m1 82 rfl) rfl
theorem q101 : (Jvm.Cond.laysFinal "NoisyCodes$Code" "NoisyCodes$Code" "field" "LNoisyCodes$Field;") ∈ lw_all := lw_g (lw_at lw_m1 83 rfl) rfl
theorem q102 : (Jvm.Cond.soleField "NoisyCodes$Code" "field") ∈ lw_all := lw_g (lw_at lw_m1 84 rfl) rfl
theorem q103 : (Jvm.Cond.lays "NoisyCodes$Code" "NoisyCodes$Code" "t" "I") ∈ lw_all := lw_g (lw_at lw_m1 85 rfl) rfl
theorem q104 : (Jvm.Cond.soleField "NoisyCodes$Code" "t") ∈ lw_all := lw_g (lw_at lw_m1 86 rfl) rfl
theorem q105 : (Jvm.Cond.lays "NoisyCodes$Code" "NoisyCodes$Code" "generator" "I") ∈ lw_all := lw_g (lw_at lw_m1 87 rfl) rfl
theorem q106 : (Jvm.Cond.soleField "NoisyCodes$Code" "generator") ∈ lw_all := lw_g (lw_at lw_m1 88 rfl) rfl
theorem q107 : (Jvm.Cond.lays "NoisyCodes$Code" "NoisyCodes$Code" "k" "I") ∈ lw_all := lw_g (lw_at lw_m1 89 rfl) rfl
theorem q108 : (Jvm.Cond.soleField "NoisyCodes$Code" "k") ∈ lw_all := lw_g (lw_at lw_m1 90 rfl) rfl
theorem q109 : (Jvm.Cond.laysFinal "NoisyCodes$Code" "NoisyCodes$Code" "syndromes" "[I") ∈ lw_all := lw_g (lw_at lw_m1 91 rfl) rfl
theorem q110 : (Jvm.Cond.soleField "NoisyCodes$Code" "syndromes") ∈ lw_all := lw_g (lw_at lw_m1 92 rfl) rfl
theorem q111 : (Jvm.Cond.laysFinal "NoisyCodes$Code" "NoisyCodes$Code" "places" "LNoisyCodes$Poly;") ∈ lw_all := lw_g (lw_at lw_m1 93 rfl) rfl
theorem q112 : (Jvm.Cond.soleField "NoisyCodes$Code" "places") ∈ lw_all := lw_g (lw_at lw_m1 94 rfl) rfl
theorem q113 : (Jvm.Cond.superclass "NoisyCodes$Code" "java/lang/Object") ∈ lw_all := lw_g (lw_at lw_m1 95 rfl) rfl
theorem q297 : (Jvm.Cond.instanceMethod ({ cls := "NoisyCodes$Code", name := "make", desc := "(II)Z" } : Jvm.MethodName)) ∈ lw_all := lw_g (lw_at lw_m2 39 rfl) rfl
theorem q298 : (Jvm.Cond.selects "NoisyCodes$Code" ({ cls := "NoisyCodes$Code", name := "make", desc := "(II)Z" } : Jvm.MethodName) ({ cls := "NoisyCodes$Code", name := "make", desc := "(II)Z" } : Jvm.MethodName)) ∈ lw_all := lw_g (lw_at lw_m2 40 rfl) rfl
theorem q299 : (Jvm.Cond.code ({ cls := "NoisyCodes$Code", name := "make", desc := "(II)Z" } : Jvm.MethodName) prog_2_method_2_code (4 : Nat) (Option.some Jvm.ClassFile.FieldType.boolean)) ∈ lw_all := lw_g (lw_at lw_m2 41 rfl) rfl
theorem q300 : (Jvm.Cond.methodLink "NoisyCodes$Code" (33 : Nat) ({ cls := "NoisyCodes$Field", name := "make", desc := "(I)Z" } : Jvm.MethodName)) ∈ lw_all := lw_g (lw_at lw_m2 42 rfl) rfl
theorem q307 : (Jvm.Cond.methodLink "NoisyCodes$Code" (40 : Nat) ({ cls := "NoisyCodes$Field", name := "at", desc := "(II)I" } : Jvm.MethodName)) ∈ lw_all := lw_g (lw_at lw_m2 49 rfl) rfl
theorem q311 : (Jvm.Cond.methodLink "NoisyCodes$Code" (44 : Nat) ({ cls := "NoisyCodes$Code", name := "least", desc := "(I)I" } : Jvm.MethodName)) ∈ lw_all := lw_g (lw_at lw_m2 53 rfl) rfl
theorem q312 : (Jvm.Cond.privateMethod ({ cls := "NoisyCodes$Code", name := "least", desc := "(I)I" } : Jvm.MethodName)) ∈ lw_tbl := lw_at lw_m2 54 rfl
theorem q313 : (Jvm.Cond.instanceMethod ({ cls := "NoisyCodes$Code", name := "least", desc := "(I)I" } : Jvm.MethodName)) ∈ lw_all := lw_g (lw_at lw_m2 55 rfl) rfl
theorem q314 : (Jvm.Cond.code ({ cls := "NoisyCodes$Code", name := "least", desc := "(I)I" } : Jvm.MethodName) prog_2_method_3_code (6 : Nat) (Option.some Jvm.ClassFile.FieldType.int)) ∈ lw_all := lw_g (lw_at lw_m2 56 rfl) rfl
theorem q315 : (Jvm.Cond.methodLink "NoisyCodes$Code" (60 : Nat) ({ cls := "NoisyCodes$Poly", name := "clear", desc := "()LNoisyCodes$Poly;" } : Jvm.MethodName)) ∈ lw_all := lw_g (lw_at lw_m2 57 rfl) rfl
theorem q319 : (Jvm.Cond.methodLink "NoisyCodes$Code" (70 : Nat) ({ cls := "NoisyCodes$Field", name := "times", desc := "(II)I" } : Jvm.MethodName)) ∈ lw_all := lw_g (lw_at lw_m2 61 rfl) rfl
theorem q323 : (Jvm.Cond.methodLink "NoisyCodes$Code" (48 : Nat) ({ cls := "NoisyCodes$Code", name := "product", desc := "(II)I" } : Jvm.MethodName)) ∈ lw_all := lw_g (lw_at lw_m2 65 rfl) rfl
theorem q324 : (Jvm.Cond.static ({ cls := "NoisyCodes$Code", name := "product", desc := "(II)I" } : Jvm.MethodName)) ∈ lw_all := lw_g (lw_at lw_m2 66 rfl) rfl
theorem q325 : (Jvm.Cond.code ({ cls := "NoisyCodes$Code", name := "product", desc := "(II)I" } : Jvm.MethodName) prog_2_method_4_code (5 : Nat) (Option.some Jvm.ClassFile.FieldType.int)) ∈ lw_all := lw_g (lw_at lw_m2 67 rfl) rfl
theorem q326 : (Jvm.Cond.methodLinkNest "NoisyCodes$Code" (54 : Nat) ({ cls := "NoisyCodes", name := "degreeOf", desc := "(I)I" } : Jvm.MethodName) "NoisyCodes") ∈ lw_tbl := lw_at lw_m2 68 rfl
theorem q444 : (Jvm.Cond.instanceMethod ({ cls := "NoisyCodes$Code", name := "encode", desc := "(I)I" } : Jvm.MethodName)) ∈ lw_all := lw_g (lw_at lw_m2 186 rfl) rfl
theorem q445 : (Jvm.Cond.selects "NoisyCodes$Code" ({ cls := "NoisyCodes$Code", name := "encode", desc := "(I)I" } : Jvm.MethodName) ({ cls := "NoisyCodes$Code", name := "encode", desc := "(I)I" } : Jvm.MethodName)) ∈ lw_all := lw_g (lw_at lw_m2 187 rfl) rfl
theorem q446 : (Jvm.Cond.code ({ cls := "NoisyCodes$Code", name := "encode", desc := "(I)I" } : Jvm.MethodName) prog_2_method_5_code (5 : Nat) (Option.some Jvm.ClassFile.FieldType.int)) ∈ lw_all := lw_g (lw_at lw_m2 188 rfl) rfl
theorem q499 : (Jvm.Cond.instanceMethod ({ cls := "NoisyCodes$Code", name := "mended", desc := "(ILNoisyCodes$Way;)I" } : Jvm.MethodName)) ∈ lw_all := lw_g (lw_at lw_m3 1 rfl) rfl
theorem q500 : (Jvm.Cond.selects "NoisyCodes$Code" ({ cls := "NoisyCodes$Code", name := "mended", desc := "(ILNoisyCodes$Way;)I" } : Jvm.MethodName) ({ cls := "NoisyCodes$Code", name := "mended", desc := "(ILNoisyCodes$Way;)I" } : Jvm.MethodName)) ∈ lw_all := lw_g (lw_at lw_m3 2 rfl) rfl
theorem q501 : (Jvm.Cond.code ({ cls := "NoisyCodes$Code", name := "mended", desc := "(ILNoisyCodes$Way;)I" } : Jvm.MethodName) prog_2_method_7_code (5 : Nat) (Option.some Jvm.ClassFile.FieldType.int)) ∈ lw_all := lw_g (lw_at lw_m3 3 rfl) rfl
theorem q502 : (Jvm.Cond.methodLink "NoisyCodes$Code" (73 : Nat) ({ cls := "NoisyCodes$Code", name := "isRight", desc := "(I)Z" } : Jvm.MethodName)) ∈ lw_all := lw_g (lw_at lw_m3 4 rfl) rfl
theorem q503 : (Jvm.Cond.instanceMethod ({ cls := "NoisyCodes$Code", name := "isRight", desc := "(I)Z" } : Jvm.MethodName)) ∈ lw_all := lw_g (lw_at lw_m3 5 rfl) rfl
theorem q504 : (Jvm.Cond.selects "NoisyCodes$Code" ({ cls := "NoisyCodes$Code", name := "isRight", desc := "(I)Z" } : Jvm.MethodName) ({ cls := "NoisyCodes$Code", name := "isRight", desc := "(I)Z" } : Jvm.MethodName)) ∈ lw_all := lw_g (lw_at lw_m3 6 rfl) rfl
theorem q505 : (Jvm.Cond.code ({ cls := "NoisyCodes$Code", name := "isRight", desc := "(I)Z" } : Jvm.MethodName) prog_2_method_6_code (4 : Nat) (Option.some Jvm.ClassFile.FieldType.boolean)) ∈ lw_all := lw_g (lw_at lw_m3 7 rfl) rfl
theorem q506 : (Jvm.Cond.interfaceEntry "NoisyCodes$Code" (76 : Nat)) ∈ lw_tbl := lw_at lw_m3 8 rfl
theorem q507 : (Jvm.Cond.methodLink "NoisyCodes$Code" (76 : Nat) ({ cls := "NoisyCodes$Way", name := "find", desc := "(LNoisyCodes$Field;[IILNoisyCodes$Poly;)V" } : Jvm.MethodName)) ∈ lw_all := lw_g (lw_at lw_m3 9 rfl) rfl
theorem q568 : (Jvm.Cond.methodLink "NoisyCodes$Code" (82 : Nat) ({ cls := "NoisyCodes$Poly", name := "value", desc := "(LNoisyCodes$Field;I)I" } : Jvm.MethodName)) ∈ lw_all := lw_g (lw_at lw_m3 70 rfl) rfl
theorem q572 : (Jvm.Cond.methodLink "NoisyCodes$Code" (86 : Nat) ({ cls := "java/lang/Integer", name := "bitCount", desc := "(I)I" } : Jvm.MethodName)) ∈ lw_all := lw_g (lw_at lw_m3 74 rfl) rfl
theorem q573 : (Jvm.Cond.classLink "NoisyCodes$Code" (91 : Nat) "java/lang/ArithmeticException") ∈ lw_all := lw_g (lw_at lw_m3 75 rfl) rfl
theorem q574 : (Jvm.Cond.stringRef "NoisyCodes$Code" (93 : Nat) "too many errors") ∈ lw_tbl := lw_at lw_m3 76 rfl
theorem q575 : (Jvm.Cond.methodLink "NoisyCodes$Code" (95 : Nat) ({ cls := "java/lang/ArithmeticException", name := "<init>", desc := "(Ljava/lang/String;)V" } : Jvm.MethodName)) ∈ lw_all := lw_g (lw_at lw_m3 77 rfl) rfl
theorem in_X2 : ∀ w ∈ wsX20, w ∈ lw_all := lw_in wsX20 [101, 103, 105, 107, 109, 111] (by decide +kernel) (by decide +kernel)
/-! NoisyCodes -/
def RX1 : String := "NoisyCodes"
def TX1 : u_T := fun k => match k with
  | 0 => ("NoisyCodes", "code", "LNoisyCodes$Code;", false)
  | 1 => ("NoisyCodes", "trial", "LNoisyCodes$Code;", false)
  | 2 => ("NoisyCodes", "begun", "Z", false)
  | 3 => ("NoisyCodes", "depth", "I", false)
  | 4 => ("NoisyCodes", "message", "[I", true)
  | 5 => ("NoisyCodes", "channel", "[I", true)
  | 6 => ("NoisyCodes", "mended", "[I", true)
  | 7 => ("NoisyCodes", "kept", "[[I", true)
  | _ => ("NoisyCodes", "ways", "[LNoisyCodes$Way;", true)
def tyX1 : Nat → FieldType := fun k => match k with
  | 0 => .object "NoisyCodes$Code"
  | 1 => .object "NoisyCodes$Code"
  | 2 => .boolean
  | 3 => .int
  | 4 => .array .int
  | 5 => .array .int
  | 6 => .array .int
  | 7 => .array (.array .int)
  | _ => .array (.object "NoisyCodes$Way")
abbrev wsX10 : List Cond := u_ws RX1 TX1 9
theorem nmX1 : ∀ a, a < 9 → ∀ b, b < 9 → a ≠ b → (TX1 a).2.1 ≠ (TX1 b).2.1 := by decide +kernel
theorem tyX1_ok : ∀ k, k < 9 → parseFieldDescriptor (TX1 k).2.2.1 = some (tyX1 k) := by decide +kernel
abbrev cX1_init : ByteArray := prog_1_method_2_code
def yX1_init : MethodName := ⟨RX1, "<init>", "()V"⟩
abbrev cX1_begin : ByteArray := prog_1_method_7_code
def yX1_begin : MethodName := ⟨RX1, "begin", "(III)I"⟩
abbrev cX1_within : ByteArray := prog_1_method_6_code
def yX1_within : MethodName := ⟨RX1, "within", "(III)Z"⟩
abbrev cX1_need : ByteArray := prog_1_method_3_code
def yX1_need : MethodName := ⟨RX1, "need", "(Z)V"⟩
abbrev cX1_degreeOf : ByteArray := prog_1_method_1_code
def yX1_degreeOf : MethodName := ⟨RX1, "degreeOf", "(I)I"⟩
abbrev cX1_length : ByteArray := prog_1_method_8_code
def yX1_length : MethodName := ⟨RX1, "length", "()I"⟩
abbrev cX1_needCode : ByteArray := prog_1_method_5_code
def yX1_needCode : MethodName := ⟨RX1, "needCode", "()V"⟩
abbrev cX1_generator : ByteArray := prog_1_method_9_code
def yX1_generator : MethodName := ⟨RX1, "generator", "()I"⟩
abbrev cX1_power : ByteArray := prog_1_method_10_code
def yX1_power : MethodName := ⟨RX1, "power", "(I)I"⟩
abbrev cX1_log : ByteArray := prog_1_method_11_code
def yX1_log : MethodName := ⟨RX1, "log", "(I)I"⟩
abbrev cX1_times : ByteArray := prog_1_method_12_code
def yX1_times : MethodName := ⟨RX1, "times", "(II)I"⟩
abbrev cX1_put : ByteArray := prog_1_method_13_code
def yX1_put : MethodName := ⟨RX1, "put", "(II)V"⟩
abbrev cX1_needPlace : ByteArray := prog_1_method_4_code
def yX1_needPlace : MethodName := ⟨RX1, "needPlace", "(Z)V"⟩
abbrev cX1_get : ByteArray := prog_1_method_14_code
def yX1_get : MethodName := ⟨RX1, "get", "(I)I"⟩
abbrev cX1_encode : ByteArray := prog_1_method_15_code
def yX1_encode : MethodName := ⟨RX1, "encode", "()I"⟩
abbrev cX1_bit : ByteArray := prog_1_method_16_code
def yX1_bit : MethodName := ⟨RX1, "bit", "(I)I"⟩
abbrev cX1_burst : ByteArray := prog_1_method_18_code
def yX1_burst : MethodName := ⟨RX1, "burst", "(II)V"⟩
abbrev cX1_flip : ByteArray := prog_1_method_17_code
def yX1_flip : MethodName := ⟨RX1, "flip", "(I)V"⟩
abbrev cX1_noise : ByteArray := prog_1_method_19_code
def yX1_noise : MethodName := ⟨RX1, "noise", "(II)I"⟩
abbrev cX1_syndrome : ByteArray := prog_1_method_20_code
def yX1_syndrome : MethodName := ⟨RX1, "syndrome", "(II)I"⟩
abbrev cX1_decode : ByteArray := prog_1_method_22_code
def yX1_decode : MethodName := ⟨RX1, "decode", "(I)I"⟩
abbrev cX1_mend : ByteArray := prog_1_method_21_code
def yX1_mend : MethodName := ⟨RX1, "mend", "([ILNoisyCodes$Way;)I"⟩
abbrev cX1_save : ByteArray := prog_1_method_23_code
def yX1_save : MethodName := ⟨RX1, "save", "(I)V"⟩
abbrev cX1_load : ByteArray := prog_1_method_24_code
def yX1_load : MethodName := ⟨RX1, "load", "(I)I"⟩
theorem q19 : (Jvm.Cond.initialized "NoisyCodes") ∈ lw_all := lw_g (lw_at lw_m1 1 rfl) rfl
theorem q39 : (Jvm.Cond.instantiable "NoisyCodes" (9 : Nat)) ∈ lw_all := lw_g (lw_at lw_m1 21 rfl) rfl
theorem q41 : (Jvm.Cond.instanceMethod ({ cls := "NoisyCodes", name := "<init>", desc := "()V" } : Jvm.MethodName)) ∈ lw_all := lw_g (lw_at lw_m1 23 rfl) rfl
theorem q42 : (Jvm.Cond.code ({ cls := "NoisyCodes", name := "<init>", desc := "()V" } : Jvm.MethodName) prog_1_method_2_code (1 : Nat) (Option.none : Option Jvm.ClassFile.FieldType)) ∈ lw_all := lw_g (lw_at lw_m1 24 rfl) rfl
theorem q43 : (Jvm.Cond.methodLink "NoisyCodes" (1 : Nat) ({ cls := "java/lang/Object", name := "<init>", desc := "()V" } : Jvm.MethodName)) ∈ lw_all := lw_g (lw_at lw_m1 25 rfl) rfl
theorem q46 : (Jvm.Cond.classLink "NoisyCodes" (7 : Nat) "NoisyCodes$Code") ∈ lw_all := lw_g (lw_at lw_m1 28 rfl) rfl
theorem q48 : (Jvm.Cond.methodLinkNest "NoisyCodes" (9 : Nat) ({ cls := "NoisyCodes$Code", name := "<init>", desc := "()V" } : Jvm.MethodName) "NoisyCodes") ∈ lw_tbl := lw_at lw_m1 30 rfl
theorem q61 : (Jvm.Cond.fieldLinkNest "NoisyCodes" (101 : Nat) "NoisyCodes$Field" "n" "I" "NoisyCodes") ∈ lw_tbl := lw_at lw_m1 43 rfl
theorem q65 : (Jvm.Cond.fieldLinkNest "NoisyCodes" (109 : Nat) "NoisyCodes$Field" "power" "[I" "NoisyCodes") ∈ lw_tbl := lw_at lw_m1 47 rfl
theorem q68 : (Jvm.Cond.fieldLinkNest "NoisyCodes" (112 : Nat) "NoisyCodes$Field" "log" "[I" "NoisyCodes") ∈ lw_tbl := lw_at lw_m1 50 rfl
theorem q92 : (Jvm.Cond.fieldLinkNest "NoisyCodes" (97 : Nat) "NoisyCodes$Code" "field" "LNoisyCodes$Field;" "NoisyCodes") ∈ lw_tbl := lw_at lw_m1 74 rfl
theorem q94 : (Jvm.Cond.fieldLinkNest "NoisyCodes" (136 : Nat) "NoisyCodes$Code" "t" "I" "NoisyCodes") ∈ lw_tbl := lw_at lw_m1 76 rfl
theorem q96 : (Jvm.Cond.fieldLinkNest "NoisyCodes" (106 : Nat) "NoisyCodes$Code" "generator" "I" "NoisyCodes") ∈ lw_tbl := lw_at lw_m1 78 rfl
theorem q98 : (Jvm.Cond.fieldLinkNest "NoisyCodes" (91 : Nat) "NoisyCodes$Code" "k" "I" "NoisyCodes") ∈ lw_tbl := lw_at lw_m1 80 rfl
theorem q114 : (Jvm.Cond.classLink "NoisyCodes" (29 : Nat) "[[I") ∈ lw_all := lw_g (lw_at lw_m1 96 rfl) rfl
theorem q116 : (Jvm.Cond.classLink "NoisyCodes" (34 : Nat) "NoisyCodes$Way") ∈ lw_all := lw_g (lw_at lw_m1 98 rfl) rfl
theorem q118 : (Jvm.Cond.classLink "NoisyCodes" (36 : Nat) "NoisyCodes$Equations") ∈ lw_all := lw_g (lw_at lw_m1 100 rfl) rfl
theorem q120 : (Jvm.Cond.methodLinkNest "NoisyCodes" (38 : Nat) ({ cls := "NoisyCodes$Equations", name := "<init>", desc := "()V" } : Jvm.MethodName) "NoisyCodes") ∈ lw_tbl := lw_at lw_m1 102 rfl
theorem q129 : (Jvm.Cond.classLink "NoisyCodes" (39 : Nat) "NoisyCodes$Division") ∈ lw_all := lw_g (lw_at lw_m1 111 rfl) rfl
theorem q131 : (Jvm.Cond.methodLinkNest "NoisyCodes" (41 : Nat) ({ cls := "NoisyCodes$Division", name := "<init>", desc := "()V" } : Jvm.MethodName) "NoisyCodes") ∈ lw_tbl := lw_at lw_m1 113 rfl
theorem q150 : (Jvm.Cond.classLink "NoisyCodes" (42 : Nat) "NoisyCodes$Growing") ∈ lw_all := lw_g (lw_at lw_m1 132 rfl) rfl
theorem q152 : (Jvm.Cond.methodLinkNest "NoisyCodes" (44 : Nat) ({ cls := "NoisyCodes$Growing", name := "<init>", desc := "()V" } : Jvm.MethodName) "NoisyCodes") ∈ lw_tbl := lw_at lw_m1 134 rfl
theorem q165 : (Jvm.Cond.fieldLink "NoisyCodes" (10 : Nat) "NoisyCodes" "code" "LNoisyCodes$Code;") ∈ lw_all := lw_g (lw_at lw_m1 147 rfl) rfl
theorem q166 : (Jvm.Cond.fieldLink "NoisyCodes" (16 : Nat) "NoisyCodes" "trial" "LNoisyCodes$Code;") ∈ lw_all := lw_g (lw_at lw_m1 148 rfl) rfl
theorem q167 : (Jvm.Cond.fieldLink "NoisyCodes" (61 : Nat) "NoisyCodes" "begun" "Z") ∈ lw_all := lw_g (lw_at lw_m1 149 rfl) rfl
theorem q168 : (Jvm.Cond.fieldLink "NoisyCodes" (87 : Nat) "NoisyCodes" "depth" "I") ∈ lw_all := lw_g (lw_at lw_m1 150 rfl) rfl
theorem q169 : (Jvm.Cond.fieldLink "NoisyCodes" (19 : Nat) "NoisyCodes" "message" "[I") ∈ lw_all := lw_g (lw_at lw_m1 151 rfl) rfl
theorem q170 : (Jvm.Cond.fieldLink "NoisyCodes" (23 : Nat) "NoisyCodes" "channel" "[I") ∈ lw_all := lw_g (lw_at lw_m1 152 rfl) rfl
theorem q171 : (Jvm.Cond.fieldLink "NoisyCodes" (26 : Nat) "NoisyCodes" "mended" "[I") ∈ lw_all := lw_g (lw_at lw_m1 153 rfl) rfl
theorem q172 : (Jvm.Cond.fieldLink "NoisyCodes" (31 : Nat) "NoisyCodes" "kept" "[[I") ∈ lw_all := lw_g (lw_at lw_m1 154 rfl) rfl
theorem q173 : (Jvm.Cond.fieldLink "NoisyCodes" (45 : Nat) "NoisyCodes" "ways" "[LNoisyCodes$Way;") ∈ lw_all := lw_g (lw_at lw_m1 155 rfl) rfl
theorem q174 : (Jvm.Cond.lays "NoisyCodes" "NoisyCodes" "code" "LNoisyCodes$Code;") ∈ lw_all := lw_g (lw_at lw_m1 156 rfl) rfl
theorem q175 : (Jvm.Cond.soleField "NoisyCodes" "code") ∈ lw_all := lw_g (lw_at lw_m1 157 rfl) rfl
theorem q176 : (Jvm.Cond.lays "NoisyCodes" "NoisyCodes" "trial" "LNoisyCodes$Code;") ∈ lw_all := lw_g (lw_at lw_m1 158 rfl) rfl
theorem q177 : (Jvm.Cond.soleField "NoisyCodes" "trial") ∈ lw_all := lw_g (lw_at lw_m1 159 rfl) rfl
theorem q178 : (Jvm.Cond.lays "NoisyCodes" "NoisyCodes" "begun" "Z") ∈ lw_all := lw_g (lw_at lw_m1 160 rfl) rfl
theorem q179 : (Jvm.Cond.soleField "NoisyCodes" "begun") ∈ lw_all := lw_g (lw_at lw_m1 161 rfl) rfl
theorem q180 : (Jvm.Cond.lays "NoisyCodes" "NoisyCodes" "depth" "I") ∈ lw_all := lw_g (lw_at lw_m1 162 rfl) rfl
theorem q181 : (Jvm.Cond.soleField "NoisyCodes" "depth") ∈ lw_all := lw_g (lw_at lw_m1 163 rfl) rfl
theorem q182 : (Jvm.Cond.laysFinal "NoisyCodes" "NoisyCodes" "message" "[I") ∈ lw_all := lw_g (lw_at lw_m1 164 rfl) rfl
theorem q183 : (Jvm.Cond.soleField "NoisyCodes" "message") ∈ lw_all := lw_g (lw_at lw_m1 165 rfl) rfl
theorem q184 : (Jvm.Cond.laysFinal "NoisyCodes" "NoisyCodes" "channel" "[I") ∈ lw_all := lw_g (lw_at lw_m1 166 rfl) rfl
theorem q185 : (Jvm.Cond.soleField "NoisyCodes" "channel") ∈ lw_all := lw_g (lw_at lw_m1 167 rfl) rfl
theorem q186 : (Jvm.Cond.laysFinal "NoisyCodes" "NoisyCodes" "mended" "[I") ∈ lw_all := lw_g (lw_at lw_m1 168 rfl) rfl
theorem q187 : (Jvm.Cond.soleField "NoisyCodes" "mended") ∈ lw_all := lw_g (lw_at lw_m1 169 rfl) rfl
theorem q188 : (Jvm.Cond.laysFinal "NoisyCodes" "NoisyCodes" "kept" "[[I") ∈ lw_all := lw_g (lw_at lw_m1 170 rfl) rfl
theorem q189 : (Jvm.Cond.soleField "NoisyCodes" "kept") ∈ lw_all := lw_g (lw_at lw_m1 171 rfl) rfl
theorem q190 : (Jvm.Cond.laysFinal "NoisyCodes" "NoisyCodes" "ways" "[LNoisyCodes$Way;") ∈ lw_all := lw_g (lw_at lw_m1 172 rfl) rfl
theorem q191 : (Jvm.Cond.soleField "NoisyCodes" "ways") ∈ lw_all := lw_g (lw_at lw_m1 173 rfl) rfl
theorem q192 : (Jvm.Cond.superclass "NoisyCodes" "java/lang/Object") ∈ lw_all := lw_g (lw_at lw_m1 174 rfl) rfl
theorem q271 : (Jvm.Cond.instanceMethod ({ cls := "NoisyCodes", name := "begin", desc := "(III)I" } : Jvm.MethodName)) ∈ lw_all := lw_g (lw_at lw_m2 13 rfl) rfl
theorem q272 : (Jvm.Cond.selects "NoisyCodes" ({ cls := "NoisyCodes", name := "begin", desc := "(III)I" } : Jvm.MethodName) ({ cls := "NoisyCodes", name := "begin", desc := "(III)I" } : Jvm.MethodName)) ∈ lw_all := lw_g (lw_at lw_m2 14 rfl) rfl
theorem q273 : (Jvm.Cond.code ({ cls := "NoisyCodes", name := "begin", desc := "(III)I" } : Jvm.MethodName) prog_1_method_7_code (7 : Nat) (Option.some Jvm.ClassFile.FieldType.int)) ∈ lw_all := lw_g (lw_at lw_m2 15 rfl) rfl
theorem q274 : (Jvm.Cond.methodLink "NoisyCodes" (70 : Nat) ({ cls := "NoisyCodes", name := "within", desc := "(III)Z" } : Jvm.MethodName)) ∈ lw_all := lw_g (lw_at lw_m2 16 rfl) rfl
theorem q275 : (Jvm.Cond.static ({ cls := "NoisyCodes", name := "within", desc := "(III)Z" } : Jvm.MethodName)) ∈ lw_all := lw_g (lw_at lw_m2 17 rfl) rfl
theorem q276 : (Jvm.Cond.code ({ cls := "NoisyCodes", name := "within", desc := "(III)Z" } : Jvm.MethodName) prog_1_method_6_code (3 : Nat) (Option.some Jvm.ClassFile.FieldType.boolean)) ∈ lw_all := lw_g (lw_at lw_m2 18 rfl) rfl
theorem q277 : (Jvm.Cond.methodLink "NoisyCodes" (74 : Nat) ({ cls := "NoisyCodes", name := "need", desc := "(Z)V" } : Jvm.MethodName)) ∈ lw_all := lw_g (lw_at lw_m2 19 rfl) rfl
theorem q278 : (Jvm.Cond.static ({ cls := "NoisyCodes", name := "need", desc := "(Z)V" } : Jvm.MethodName)) ∈ lw_all := lw_g (lw_at lw_m2 20 rfl) rfl
theorem q279 : (Jvm.Cond.code ({ cls := "NoisyCodes", name := "need", desc := "(Z)V" } : Jvm.MethodName) prog_1_method_3_code (1 : Nat) (Option.none : Option Jvm.ClassFile.FieldType)) ∈ lw_all := lw_g (lw_at lw_m2 21 rfl) rfl
theorem q280 : (Jvm.Cond.classLink "NoisyCodes" (49 : Nat) "java/lang/IllegalArgumentException") ∈ lw_all := lw_g (lw_at lw_m2 22 rfl) rfl
theorem q289 : (Jvm.Cond.stringRef "NoisyCodes" (51 : Nat) "out of bounds") ∈ lw_tbl := lw_at lw_m2 31 rfl
theorem q290 : (Jvm.Cond.methodLink "NoisyCodes" (53 : Nat) ({ cls := "java/lang/IllegalArgumentException", name := "<init>", desc := "(Ljava/lang/String;)V" } : Jvm.MethodName)) ∈ lw_all := lw_g (lw_at lw_m2 32 rfl) rfl
theorem q296 : (Jvm.Cond.methodLink "NoisyCodes" (78 : Nat) ({ cls := "NoisyCodes$Code", name := "make", desc := "(II)Z" } : Jvm.MethodName)) ∈ lw_all := lw_g (lw_at lw_m2 38 rfl) rfl
theorem q305 : (Jvm.Cond.static ({ cls := "NoisyCodes", name := "degreeOf", desc := "(I)I" } : Jvm.MethodName)) ∈ lw_all := lw_g (lw_at lw_m2 47 rfl) rfl
theorem q306 : (Jvm.Cond.code ({ cls := "NoisyCodes", name := "degreeOf", desc := "(I)I" } : Jvm.MethodName) prog_1_method_1_code (3 : Nat) (Option.some Jvm.ClassFile.FieldType.int)) ∈ lw_all := lw_g (lw_at lw_m2 48 rfl) rfl
theorem q327 : (Jvm.Cond.classLink "NoisyCodes" (82 : Nat) "java/lang/ArithmeticException") ∈ lw_all := lw_g (lw_at lw_m2 69 rfl) rfl
theorem q328 : (Jvm.Cond.stringRef "NoisyCodes" (84 : Nat) "not primitive") ∈ lw_tbl := lw_at lw_m2 70 rfl
theorem q329 : (Jvm.Cond.methodLink "NoisyCodes" (86 : Nat) ({ cls := "java/lang/ArithmeticException", name := "<init>", desc := "(Ljava/lang/String;)V" } : Jvm.MethodName)) ∈ lw_all := lw_g (lw_at lw_m2 71 rfl) rfl
theorem q335 : (Jvm.Cond.instanceMethod ({ cls := "NoisyCodes", name := "length", desc := "()I" } : Jvm.MethodName)) ∈ lw_all := lw_g (lw_at lw_m2 77 rfl) rfl
theorem q336 : (Jvm.Cond.selects "NoisyCodes" ({ cls := "NoisyCodes", name := "length", desc := "()I" } : Jvm.MethodName) ({ cls := "NoisyCodes", name := "length", desc := "()I" } : Jvm.MethodName)) ∈ lw_all := lw_g (lw_at lw_m2 78 rfl) rfl
theorem q337 : (Jvm.Cond.code ({ cls := "NoisyCodes", name := "length", desc := "()I" } : Jvm.MethodName) prog_1_method_8_code (1 : Nat) (Option.some Jvm.ClassFile.FieldType.int)) ∈ lw_all := lw_g (lw_at lw_m2 79 rfl) rfl
theorem q338 : (Jvm.Cond.methodLink "NoisyCodes" (94 : Nat) ({ cls := "NoisyCodes", name := "needCode", desc := "()V" } : Jvm.MethodName)) ∈ lw_all := lw_g (lw_at lw_m2 80 rfl) rfl
theorem q339 : (Jvm.Cond.privateMethod ({ cls := "NoisyCodes", name := "needCode", desc := "()V" } : Jvm.MethodName)) ∈ lw_tbl := lw_at lw_m2 81 rfl
theorem q340 : (Jvm.Cond.instanceMethod ({ cls := "NoisyCodes", name := "needCode", desc := "()V" } : Jvm.MethodName)) ∈ lw_all := lw_g (lw_at lw_m2 82 rfl) rfl
theorem q341 : (Jvm.Cond.code ({ cls := "NoisyCodes", name := "needCode", desc := "()V" } : Jvm.MethodName) prog_1_method_5_code (1 : Nat) (Option.none : Option Jvm.ClassFile.FieldType)) ∈ lw_all := lw_g (lw_at lw_m2 83 rfl) rfl
theorem q342 : (Jvm.Cond.classLink "NoisyCodes" (65 : Nat) "java/lang/IllegalStateException") ∈ lw_all := lw_g (lw_at lw_m2 84 rfl) rfl
theorem q351 : (Jvm.Cond.stringRef "NoisyCodes" (67 : Nat) "no code") ∈ lw_tbl := lw_at lw_m2 93 rfl
theorem q352 : (Jvm.Cond.methodLink "NoisyCodes" (69 : Nat) ({ cls := "java/lang/IllegalStateException", name := "<init>", desc := "(Ljava/lang/String;)V" } : Jvm.MethodName)) ∈ lw_all := lw_g (lw_at lw_m2 94 rfl) rfl
theorem q362 : (Jvm.Cond.instanceMethod ({ cls := "NoisyCodes", name := "generator", desc := "()I" } : Jvm.MethodName)) ∈ lw_all := lw_g (lw_at lw_m2 104 rfl) rfl
theorem q363 : (Jvm.Cond.selects "NoisyCodes" ({ cls := "NoisyCodes", name := "generator", desc := "()I" } : Jvm.MethodName) ({ cls := "NoisyCodes", name := "generator", desc := "()I" } : Jvm.MethodName)) ∈ lw_all := lw_g (lw_at lw_m2 105 rfl) rfl
theorem q364 : (Jvm.Cond.code ({ cls := "NoisyCodes", name := "generator", desc := "()I" } : Jvm.MethodName) prog_1_method_9_code (1 : Nat) (Option.some Jvm.ClassFile.FieldType.int)) ∈ lw_all := lw_g (lw_at lw_m2 106 rfl) rfl
theorem q369 : (Jvm.Cond.instanceMethod ({ cls := "NoisyCodes", name := "power", desc := "(I)I" } : Jvm.MethodName)) ∈ lw_all := lw_g (lw_at lw_m2 111 rfl) rfl
theorem q370 : (Jvm.Cond.selects "NoisyCodes" ({ cls := "NoisyCodes", name := "power", desc := "(I)I" } : Jvm.MethodName) ({ cls := "NoisyCodes", name := "power", desc := "(I)I" } : Jvm.MethodName)) ∈ lw_all := lw_g (lw_at lw_m2 112 rfl) rfl
theorem q371 : (Jvm.Cond.code ({ cls := "NoisyCodes", name := "power", desc := "(I)I" } : Jvm.MethodName) prog_1_method_10_code (2 : Nat) (Option.some Jvm.ClassFile.FieldType.int)) ∈ lw_all := lw_g (lw_at lw_m2 113 rfl) rfl
theorem q376 : (Jvm.Cond.instanceMethod ({ cls := "NoisyCodes", name := "log", desc := "(I)I" } : Jvm.MethodName)) ∈ lw_all := lw_g (lw_at lw_m2 118 rfl) rfl
theorem q377 : (Jvm.Cond.selects "NoisyCodes" ({ cls := "NoisyCodes", name := "log", desc := "(I)I" } : Jvm.MethodName) ({ cls := "NoisyCodes", name := "log", desc := "(I)I" } : Jvm.MethodName)) ∈ lw_all := lw_g (lw_at lw_m2 119 rfl) rfl
theorem q378 : (Jvm.Cond.code ({ cls := "NoisyCodes", name := "log", desc := "(I)I" } : Jvm.MethodName) prog_1_method_11_code (2 : Nat) (Option.some Jvm.ClassFile.FieldType.int)) ∈ lw_all := lw_g (lw_at lw_m2 120 rfl) rfl
theorem q383 : (Jvm.Cond.instanceMethod ({ cls := "NoisyCodes", name := "times", desc := "(II)I" } : Jvm.MethodName)) ∈ lw_all := lw_g (lw_at lw_m2 125 rfl) rfl
theorem q384 : (Jvm.Cond.selects "NoisyCodes" ({ cls := "NoisyCodes", name := "times", desc := "(II)I" } : Jvm.MethodName) ({ cls := "NoisyCodes", name := "times", desc := "(II)I" } : Jvm.MethodName)) ∈ lw_all := lw_g (lw_at lw_m2 126 rfl) rfl
theorem q385 : (Jvm.Cond.code ({ cls := "NoisyCodes", name := "times", desc := "(II)I" } : Jvm.MethodName) prog_1_method_12_code (3 : Nat) (Option.some Jvm.ClassFile.FieldType.int)) ∈ lw_all := lw_g (lw_at lw_m2 127 rfl) rfl
theorem q386 : (Jvm.Cond.methodLink "NoisyCodes" (115 : Nat) ({ cls := "NoisyCodes$Field", name := "times", desc := "(II)I" } : Jvm.MethodName)) ∈ lw_all := lw_g (lw_at lw_m2 128 rfl) rfl
theorem q410 : (Jvm.Cond.instanceMethod ({ cls := "NoisyCodes", name := "put", desc := "(II)V" } : Jvm.MethodName)) ∈ lw_all := lw_g (lw_at lw_m2 152 rfl) rfl
theorem q411 : (Jvm.Cond.selects "NoisyCodes" ({ cls := "NoisyCodes", name := "put", desc := "(II)V" } : Jvm.MethodName) ({ cls := "NoisyCodes", name := "put", desc := "(II)V" } : Jvm.MethodName)) ∈ lw_all := lw_g (lw_at lw_m2 153 rfl) rfl
theorem q412 : (Jvm.Cond.code ({ cls := "NoisyCodes", name := "put", desc := "(II)V" } : Jvm.MethodName) prog_1_method_13_code (4 : Nat) (Option.none : Option Jvm.ClassFile.FieldType)) ∈ lw_all := lw_g (lw_at lw_m2 154 rfl) rfl
theorem q413 : (Jvm.Cond.methodLink "NoisyCodes" (119 : Nat) ({ cls := "NoisyCodes", name := "needPlace", desc := "(Z)V" } : Jvm.MethodName)) ∈ lw_all := lw_g (lw_at lw_m2 155 rfl) rfl
theorem q414 : (Jvm.Cond.static ({ cls := "NoisyCodes", name := "needPlace", desc := "(Z)V" } : Jvm.MethodName)) ∈ lw_all := lw_g (lw_at lw_m2 156 rfl) rfl
theorem q415 : (Jvm.Cond.code ({ cls := "NoisyCodes", name := "needPlace", desc := "(Z)V" } : Jvm.MethodName) prog_1_method_4_code (1 : Nat) (Option.none : Option Jvm.ClassFile.FieldType)) ∈ lw_all := lw_g (lw_at lw_m2 157 rfl) rfl
theorem q416 : (Jvm.Cond.classLink "NoisyCodes" (56 : Nat) "java/lang/IndexOutOfBoundsException") ∈ lw_all := lw_g (lw_at lw_m2 158 rfl) rfl
theorem q425 : (Jvm.Cond.stringRef "NoisyCodes" (58 : Nat) "none such") ∈ lw_tbl := lw_at lw_m2 167 rfl
theorem q426 : (Jvm.Cond.methodLink "NoisyCodes" (60 : Nat) ({ cls := "java/lang/IndexOutOfBoundsException", name := "<init>", desc := "(Ljava/lang/String;)V" } : Jvm.MethodName)) ∈ lw_all := lw_g (lw_at lw_m2 168 rfl) rfl
theorem q433 : (Jvm.Cond.instanceMethod ({ cls := "NoisyCodes", name := "get", desc := "(I)I" } : Jvm.MethodName)) ∈ lw_all := lw_g (lw_at lw_m2 175 rfl) rfl
theorem q434 : (Jvm.Cond.selects "NoisyCodes" ({ cls := "NoisyCodes", name := "get", desc := "(I)I" } : Jvm.MethodName) ({ cls := "NoisyCodes", name := "get", desc := "(I)I" } : Jvm.MethodName)) ∈ lw_all := lw_g (lw_at lw_m2 176 rfl) rfl
theorem q435 : (Jvm.Cond.code ({ cls := "NoisyCodes", name := "get", desc := "(I)I" } : Jvm.MethodName) prog_1_method_14_code (2 : Nat) (Option.some Jvm.ClassFile.FieldType.int)) ∈ lw_all := lw_g (lw_at lw_m2 177 rfl) rfl
theorem q440 : (Jvm.Cond.instanceMethod ({ cls := "NoisyCodes", name := "encode", desc := "()I" } : Jvm.MethodName)) ∈ lw_all := lw_g (lw_at lw_m2 182 rfl) rfl
theorem q441 : (Jvm.Cond.selects "NoisyCodes" ({ cls := "NoisyCodes", name := "encode", desc := "()I" } : Jvm.MethodName) ({ cls := "NoisyCodes", name := "encode", desc := "()I" } : Jvm.MethodName)) ∈ lw_all := lw_g (lw_at lw_m2 183 rfl) rfl
theorem q442 : (Jvm.Cond.code ({ cls := "NoisyCodes", name := "encode", desc := "()I" } : Jvm.MethodName) prog_1_method_15_code (3 : Nat) (Option.some Jvm.ClassFile.FieldType.int)) ∈ lw_all := lw_g (lw_at lw_m2 184 rfl) rfl
theorem q443 : (Jvm.Cond.methodLink "NoisyCodes" (122 : Nat) ({ cls := "NoisyCodes$Code", name := "encode", desc := "(I)I" } : Jvm.MethodName)) ∈ lw_all := lw_g (lw_at lw_m2 185 rfl) rfl
theorem q447 : (Jvm.Cond.methodLink "NoisyCodes" (126 : Nat) ({ cls := "java/lang/Integer", name := "bitCount", desc := "(I)I" } : Jvm.MethodName)) ∈ lw_all := lw_g (lw_at lw_m2 189 rfl) rfl
theorem q457 : (Jvm.Cond.instanceMethod ({ cls := "NoisyCodes", name := "bit", desc := "(I)I" } : Jvm.MethodName)) ∈ lw_all := lw_g (lw_at lw_m2 199 rfl) rfl
theorem q458 : (Jvm.Cond.selects "NoisyCodes" ({ cls := "NoisyCodes", name := "bit", desc := "(I)I" } : Jvm.MethodName) ({ cls := "NoisyCodes", name := "bit", desc := "(I)I" } : Jvm.MethodName)) ∈ lw_all := lw_g (lw_at lw_m2 200 rfl) rfl
theorem q459 : (Jvm.Cond.code ({ cls := "NoisyCodes", name := "bit", desc := "(I)I" } : Jvm.MethodName) prog_1_method_16_code (2 : Nat) (Option.some Jvm.ClassFile.FieldType.int)) ∈ lw_all := lw_g (lw_at lw_m2 201 rfl) rfl
theorem q464 : (Jvm.Cond.instanceMethod ({ cls := "NoisyCodes", name := "burst", desc := "(II)V" } : Jvm.MethodName)) ∈ lw_all := lw_g (lw_at lw_m2 206 rfl) rfl
theorem q465 : (Jvm.Cond.selects "NoisyCodes" ({ cls := "NoisyCodes", name := "burst", desc := "(II)V" } : Jvm.MethodName) ({ cls := "NoisyCodes", name := "burst", desc := "(II)V" } : Jvm.MethodName)) ∈ lw_all := lw_g (lw_at lw_m2 207 rfl) rfl
theorem q466 : (Jvm.Cond.code ({ cls := "NoisyCodes", name := "burst", desc := "(II)V" } : Jvm.MethodName) prog_1_method_18_code (5 : Nat) (Option.none : Option Jvm.ClassFile.FieldType)) ∈ lw_all := lw_g (lw_at lw_m2 208 rfl) rfl
theorem q467 : (Jvm.Cond.methodLink "NoisyCodes" (131 : Nat) ({ cls := "NoisyCodes", name := "flip", desc := "(I)V" } : Jvm.MethodName)) ∈ lw_all := lw_g (lw_at lw_m2 209 rfl) rfl
theorem q468 : (Jvm.Cond.privateMethod ({ cls := "NoisyCodes", name := "flip", desc := "(I)V" } : Jvm.MethodName)) ∈ lw_tbl := lw_at lw_m2 210 rfl
theorem q469 : (Jvm.Cond.instanceMethod ({ cls := "NoisyCodes", name := "flip", desc := "(I)V" } : Jvm.MethodName)) ∈ lw_all := lw_g (lw_at lw_m2 211 rfl) rfl
theorem q470 : (Jvm.Cond.code ({ cls := "NoisyCodes", name := "flip", desc := "(I)V" } : Jvm.MethodName) prog_1_method_17_code (2 : Nat) (Option.none : Option Jvm.ClassFile.FieldType)) ∈ lw_all := lw_g (lw_at lw_m2 212 rfl) rfl
theorem q475 : (Jvm.Cond.instanceMethod ({ cls := "NoisyCodes", name := "noise", desc := "(II)I" } : Jvm.MethodName)) ∈ lw_all := lw_g (lw_at lw_m2 217 rfl) rfl
theorem q476 : (Jvm.Cond.selects "NoisyCodes" ({ cls := "NoisyCodes", name := "noise", desc := "(II)I" } : Jvm.MethodName) ({ cls := "NoisyCodes", name := "noise", desc := "(II)I" } : Jvm.MethodName)) ∈ lw_all := lw_g (lw_at lw_m2 218 rfl) rfl
theorem q477 : (Jvm.Cond.code ({ cls := "NoisyCodes", name := "noise", desc := "(II)I" } : Jvm.MethodName) prog_1_method_19_code (6 : Nat) (Option.some Jvm.ClassFile.FieldType.int)) ∈ lw_all := lw_g (lw_at lw_m2 219 rfl) rfl
theorem q478 : (Jvm.Cond.constant "NoisyCodes" (135 : Nat) (1103515245 : Int32)) ∈ lw_all := lw_g (lw_at lw_m2 220 rfl) rfl
theorem q483 : (Jvm.Cond.instanceMethod ({ cls := "NoisyCodes", name := "syndrome", desc := "(II)I" } : Jvm.MethodName)) ∈ lw_all := lw_g (lw_at lw_m2 225 rfl) rfl
theorem q484 : (Jvm.Cond.selects "NoisyCodes" ({ cls := "NoisyCodes", name := "syndrome", desc := "(II)I" } : Jvm.MethodName) ({ cls := "NoisyCodes", name := "syndrome", desc := "(II)I" } : Jvm.MethodName)) ∈ lw_all := lw_g (lw_at lw_m2 226 rfl) rfl
theorem q485 : (Jvm.Cond.code ({ cls := "NoisyCodes", name := "syndrome", desc := "(II)I" } : Jvm.MethodName) prog_1_method_20_code (3 : Nat) (Option.some Jvm.ClassFile.FieldType.int)) ∈ lw_all := lw_g (lw_at lw_m2 227 rfl) rfl
theorem q486 : (Jvm.Cond.methodLink "NoisyCodes" (139 : Nat) ({ cls := "NoisyCodes$Field", name := "at", desc := "(II)I" } : Jvm.MethodName)) ∈ lw_all := lw_g (lw_at lw_m2 228 rfl) rfl
theorem q491 : (Jvm.Cond.instanceMethod ({ cls := "NoisyCodes", name := "decode", desc := "(I)I" } : Jvm.MethodName)) ∈ lw_all := lw_g (lw_at lw_m2 233 rfl) rfl
theorem q492 : (Jvm.Cond.selects "NoisyCodes" ({ cls := "NoisyCodes", name := "decode", desc := "(I)I" } : Jvm.MethodName) ({ cls := "NoisyCodes", name := "decode", desc := "(I)I" } : Jvm.MethodName)) ∈ lw_all := lw_g (lw_at lw_m2 234 rfl) rfl
theorem q493 : (Jvm.Cond.code ({ cls := "NoisyCodes", name := "decode", desc := "(I)I" } : Jvm.MethodName) prog_1_method_22_code (2 : Nat) (Option.some Jvm.ClassFile.FieldType.int)) ∈ lw_all := lw_g (lw_at lw_m2 235 rfl) rfl
theorem q494 : (Jvm.Cond.methodLink "NoisyCodes" (145 : Nat) ({ cls := "NoisyCodes", name := "mend", desc := "([ILNoisyCodes$Way;)I" } : Jvm.MethodName)) ∈ lw_all := lw_g (lw_at lw_m2 236 rfl) rfl
theorem q495 : (Jvm.Cond.privateMethod ({ cls := "NoisyCodes", name := "mend", desc := "([ILNoisyCodes$Way;)I" } : Jvm.MethodName)) ∈ lw_tbl := lw_at lw_m2 237 rfl
theorem q496 : (Jvm.Cond.instanceMethod ({ cls := "NoisyCodes", name := "mend", desc := "([ILNoisyCodes$Way;)I" } : Jvm.MethodName)) ∈ lw_all := lw_g (lw_at lw_m2 238 rfl) rfl
theorem q497 : (Jvm.Cond.code ({ cls := "NoisyCodes", name := "mend", desc := "([ILNoisyCodes$Way;)I" } : Jvm.MethodName) prog_1_method_21_code (5 : Nat) (Option.some Jvm.ClassFile.FieldType.int)) ∈ lw_all := lw_g (lw_at lw_m2 239 rfl) rfl
theorem q498 : (Jvm.Cond.methodLink "NoisyCodes" (142 : Nat) ({ cls := "NoisyCodes$Code", name := "mended", desc := "(ILNoisyCodes$Way;)I" } : Jvm.MethodName)) ∈ lw_all := lw_g (lw_at lw_m3 0 rfl) rfl
theorem q580 : (Jvm.Cond.instanceMethod ({ cls := "NoisyCodes", name := "save", desc := "(I)V" } : Jvm.MethodName)) ∈ lw_all := lw_g (lw_at lw_m3 82 rfl) rfl
theorem q581 : (Jvm.Cond.selects "NoisyCodes" ({ cls := "NoisyCodes", name := "save", desc := "(I)V" } : Jvm.MethodName) ({ cls := "NoisyCodes", name := "save", desc := "(I)V" } : Jvm.MethodName)) ∈ lw_all := lw_g (lw_at lw_m3 83 rfl) rfl
theorem q582 : (Jvm.Cond.code ({ cls := "NoisyCodes", name := "save", desc := "(I)V" } : Jvm.MethodName) prog_1_method_23_code (2 : Nat) (Option.none : Option Jvm.ClassFile.FieldType)) ∈ lw_all := lw_g (lw_at lw_m3 84 rfl) rfl
theorem q583 : (Jvm.Cond.methodLink "NoisyCodes" (149 : Nat) ({ cls := "java/lang/System", name := "arraycopy", desc := "(Ljava/lang/Object;ILjava/lang/Object;II)V" } : Jvm.MethodName)) ∈ lw_all := lw_g (lw_at lw_m3 85 rfl) rfl
theorem q588 : (Jvm.Cond.instanceMethod ({ cls := "NoisyCodes", name := "load", desc := "(I)I" } : Jvm.MethodName)) ∈ lw_all := lw_g (lw_at lw_m3 90 rfl) rfl
theorem q589 : (Jvm.Cond.selects "NoisyCodes" ({ cls := "NoisyCodes", name := "load", desc := "(I)I" } : Jvm.MethodName) ({ cls := "NoisyCodes", name := "load", desc := "(I)I" } : Jvm.MethodName)) ∈ lw_all := lw_g (lw_at lw_m3 91 rfl) rfl
theorem q590 : (Jvm.Cond.code ({ cls := "NoisyCodes", name := "load", desc := "(I)I" } : Jvm.MethodName) prog_1_method_24_code (3 : Nat) (Option.some Jvm.ClassFile.FieldType.int)) ∈ lw_all := lw_g (lw_at lw_m3 92 rfl) rfl
theorem in_X1 : ∀ w ∈ wsX10, w ∈ lw_all := lw_in wsX10 [174, 176, 178, 180, 182, 184, 186, 188, 190] (by decide +kernel) (by decide +kernel)
/-! NoisyCodesModel -/
def RX8 : String := "NoisyCodesModel"
def TX8 : u_T := fun k => match k with
  | 0 => ("NoisyCodesModel", "code", "I", false)
  | 1 => ("NoisyCodesModel", "begun", "Z", false)
  | 2 => ("NoisyCodesModel", "polynomial", "I", false)
  | 3 => ("NoisyCodesModel", "degree", "I", false)
  | 4 => ("NoisyCodesModel", "n", "I", false)
  | 5 => ("NoisyCodesModel", "t", "I", false)
  | 6 => ("NoisyCodesModel", "depth", "I", false)
  | 7 => ("NoisyCodesModel", "generator", "I", false)
  | 8 => ("NoisyCodesModel", "checks", "I", false)
  | 9 => ("NoisyCodesModel", "message", "[I", false)
  | 10 => ("NoisyCodesModel", "channel", "[I", false)
  | 11 => ("NoisyCodesModel", "kept", "[I", false)
  | 12 => ("NoisyCodesModel", "mended", "[I", false)
  | 13 => ("NoisyCodesModel", "rest", "[I", false)
  | _ => ("NoisyCodesModel", "product", "[I", false)
def tyX8 : Nat → FieldType := fun k => match k with
  | 0 => .int
  | 1 => .boolean
  | 2 => .int
  | 3 => .int
  | 4 => .int
  | 5 => .int
  | 6 => .int
  | 7 => .int
  | 8 => .int
  | 9 => .array .int
  | 10 => .array .int
  | 11 => .array .int
  | 12 => .array .int
  | 13 => .array .int
  | _ => .array .int
abbrev wsX80 : List Cond := u_ws RX8 TX8 15
theorem nmX8 : ∀ a, a < 15 → ∀ b, b < 15 → a ≠ b → (TX8 a).2.1 ≠ (TX8 b).2.1 := by decide +kernel
theorem tyX8_ok : ∀ k, k < 15 → parseFieldDescriptor (TX8 k).2.2.1 = some (tyX8 k) := by decide +kernel
abbrev cX8_init : ByteArray := prog_10_method_1_code
def yX8_init : MethodName := ⟨RX8, "<init>", "()V"⟩
abbrev cX8_thrown : ByteArray := prog_10_method_2_code
def yX8_thrown : MethodName := ⟨RX8, "thrown", "()I"⟩
abbrev cX8_begin : ByteArray := prog_10_method_10_code
def yX8_begin : MethodName := ⟨RX8, "begin", "(III)I"⟩
abbrev cX8_within : ByteArray := prog_10_method_3_code
def yX8_within : MethodName := ⟨RX8, "within", "(III)Z"⟩
abbrev cX8_isPrimitive : ByteArray := prog_10_method_6_code
def yX8_isPrimitive : MethodName := ⟨RX8, "isPrimitive", "(II)Z"⟩
abbrev cX8_product : ByteArray := prog_10_method_4_code
def yX8_product : MethodName := ⟨RX8, "product", "(IIII)I"⟩
abbrev cX8_makeGenerator : ByteArray := prog_10_method_8_code
def yX8_makeGenerator : MethodName := ⟨RX8, "makeGenerator", "()V"⟩
abbrev cX8_isZero : ByteArray := prog_10_method_7_code
def yX8_isZero : MethodName := ⟨RX8, "isZero", "(I)Z"⟩
abbrev cX8_powerOf : ByteArray := prog_10_method_5_code
def yX8_powerOf : MethodName := ⟨RX8, "powerOf", "(I)I"⟩
abbrev cX8_length : ByteArray := prog_10_method_11_code
def yX8_length : MethodName := ⟨RX8, "length", "()I"⟩
abbrev cX8_generator : ByteArray := prog_10_method_12_code
def yX8_generator : MethodName := ⟨RX8, "generator", "()I"⟩
abbrev cX8_power : ByteArray := prog_10_method_13_code
def yX8_power : MethodName := ⟨RX8, "power", "(I)I"⟩
abbrev cX8_log : ByteArray := prog_10_method_14_code
def yX8_log : MethodName := ⟨RX8, "log", "(I)I"⟩
abbrev cX8_times : ByteArray := prog_10_method_15_code
def yX8_times : MethodName := ⟨RX8, "times", "(II)I"⟩
abbrev cX8_put : ByteArray := prog_10_method_18_code
def yX8_put : MethodName := ⟨RX8, "put", "(II)V"⟩
abbrev cX8_messageBits : ByteArray := prog_10_method_16_code
def yX8_messageBits : MethodName := ⟨RX8, "messageBits", "()I"⟩
abbrev cX8_get : ByteArray := prog_10_method_19_code
def yX8_get : MethodName := ⟨RX8, "get", "(I)I"⟩
abbrev cX8_encode : ByteArray := prog_10_method_21_code
def yX8_encode : MethodName := ⟨RX8, "encode", "()I"⟩
abbrev cX8_remainder : ByteArray := prog_10_method_9_code
def yX8_remainder : MethodName := ⟨RX8, "remainder", "(I)I"⟩
abbrev cX8_ones : ByteArray := prog_10_method_20_code
def yX8_ones : MethodName := ⟨RX8, "ones", "(I)I"⟩
abbrev cX8_bit : ByteArray := prog_10_method_22_code
def yX8_bit : MethodName := ⟨RX8, "bit", "(I)I"⟩
abbrev cX8_channelBits : ByteArray := prog_10_method_17_code
def yX8_channelBits : MethodName := ⟨RX8, "channelBits", "()I"⟩
abbrev cX8_burst : ByteArray := prog_10_method_24_code
def yX8_burst : MethodName := ⟨RX8, "burst", "(II)V"⟩
abbrev cX8_flip : ByteArray := prog_10_method_23_code
def yX8_flip : MethodName := ⟨RX8, "flip", "(I)V"⟩
abbrev cX8_noise : ByteArray := prog_10_method_25_code
def yX8_noise : MethodName := ⟨RX8, "noise", "(II)I"⟩
abbrev cX8_syndrome : ByteArray := prog_10_method_26_code
def yX8_syndrome : MethodName := ⟨RX8, "syndrome", "(II)I"⟩
abbrev cX8_decode : ByteArray := prog_10_method_30_code
def yX8_decode : MethodName := ⟨RX8, "decode", "(I)I"⟩
abbrev cX8_mend : ByteArray := prog_10_method_28_code
def yX8_mend : MethodName := ⟨RX8, "mend", "(I)I"⟩
abbrev cX8_errorsOf : ByteArray := prog_10_method_27_code
def yX8_errorsOf : MethodName := ⟨RX8, "errorsOf", "(I)I"⟩
abbrev cX8_take : ByteArray := prog_10_method_29_code
def yX8_take : MethodName := ⟨RX8, "take", "()V"⟩
abbrev cX8_save : ByteArray := prog_10_method_31_code
def yX8_save : MethodName := ⟨RX8, "save", "(I)V"⟩
abbrev cX8_load : ByteArray := prog_10_method_32_code
def yX8_load : MethodName := ⟨RX8, "load", "(I)I"⟩
theorem q26 : (Jvm.Cond.initialized "NoisyCodesModel") ∈ lw_all := lw_g (lw_at lw_m1 8 rfl) rfl
theorem q592 : (Jvm.Cond.instantiable "NoisyCodesModel" (15 : Nat)) ∈ lw_all := lw_g (lw_at lw_m3 94 rfl) rfl
theorem q594 : (Jvm.Cond.instanceMethod ({ cls := "NoisyCodesModel", name := "<init>", desc := "()V" } : Jvm.MethodName)) ∈ lw_all := lw_g (lw_at lw_m3 96 rfl) rfl
theorem q595 : (Jvm.Cond.code ({ cls := "NoisyCodesModel", name := "<init>", desc := "()V" } : Jvm.MethodName) prog_10_method_1_code (1 : Nat) (Option.none : Option Jvm.ClassFile.FieldType)) ∈ lw_all := lw_g (lw_at lw_m3 97 rfl) rfl
theorem q596 : (Jvm.Cond.methodLink "NoisyCodesModel" (1 : Nat) ({ cls := "java/lang/Object", name := "<init>", desc := "()V" } : Jvm.MethodName)) ∈ lw_all := lw_g (lw_at lw_m3 98 rfl) rfl
theorem q597 : (Jvm.Cond.fieldLink "NoisyCodesModel" (28 : Nat) "NoisyCodesModel" "code" "I") ∈ lw_all := lw_g (lw_at lw_m3 99 rfl) rfl
theorem q598 : (Jvm.Cond.fieldLink "NoisyCodesModel" (69 : Nat) "NoisyCodesModel" "begun" "Z") ∈ lw_all := lw_g (lw_at lw_m3 100 rfl) rfl
theorem q599 : (Jvm.Cond.fieldLink "NoisyCodesModel" (35 : Nat) "NoisyCodesModel" "polynomial" "I") ∈ lw_all := lw_g (lw_at lw_m3 101 rfl) rfl
theorem q600 : (Jvm.Cond.fieldLink "NoisyCodesModel" (38 : Nat) "NoisyCodesModel" "degree" "I") ∈ lw_all := lw_g (lw_at lw_m3 102 rfl) rfl
theorem q601 : (Jvm.Cond.fieldLink "NoisyCodesModel" (32 : Nat) "NoisyCodesModel" "n" "I") ∈ lw_all := lw_g (lw_at lw_m3 103 rfl) rfl
theorem q602 : (Jvm.Cond.fieldLink "NoisyCodesModel" (44 : Nat) "NoisyCodesModel" "t" "I") ∈ lw_all := lw_g (lw_at lw_m3 104 rfl) rfl
theorem q603 : (Jvm.Cond.fieldLink "NoisyCodesModel" (73 : Nat) "NoisyCodesModel" "depth" "I") ∈ lw_all := lw_g (lw_at lw_m3 105 rfl) rfl
theorem q604 : (Jvm.Cond.fieldLink "NoisyCodesModel" (62 : Nat) "NoisyCodesModel" "generator" "I") ∈ lw_all := lw_g (lw_at lw_m3 106 rfl) rfl
theorem q605 : (Jvm.Cond.fieldLink "NoisyCodesModel" (51 : Nat) "NoisyCodesModel" "checks" "I") ∈ lw_all := lw_g (lw_at lw_m3 107 rfl) rfl
theorem q606 : (Jvm.Cond.fieldLink "NoisyCodesModel" (7 : Nat) "NoisyCodesModel" "message" "[I") ∈ lw_all := lw_g (lw_at lw_m3 108 rfl) rfl
theorem q607 : (Jvm.Cond.fieldLink "NoisyCodesModel" (13 : Nat) "NoisyCodesModel" "channel" "[I") ∈ lw_all := lw_g (lw_at lw_m3 109 rfl) rfl
theorem q608 : (Jvm.Cond.fieldLink "NoisyCodesModel" (16 : Nat) "NoisyCodesModel" "kept" "[I") ∈ lw_all := lw_g (lw_at lw_m3 110 rfl) rfl
theorem q609 : (Jvm.Cond.fieldLink "NoisyCodesModel" (19 : Nat) "NoisyCodesModel" "mended" "[I") ∈ lw_all := lw_g (lw_at lw_m3 111 rfl) rfl
theorem q610 : (Jvm.Cond.fieldLink "NoisyCodesModel" (22 : Nat) "NoisyCodesModel" "rest" "[I") ∈ lw_all := lw_g (lw_at lw_m3 112 rfl) rfl
theorem q611 : (Jvm.Cond.fieldLink "NoisyCodesModel" (25 : Nat) "NoisyCodesModel" "product" "[I") ∈ lw_all := lw_g (lw_at lw_m3 113 rfl) rfl
theorem q612 : (Jvm.Cond.lays "NoisyCodesModel" "NoisyCodesModel" "code" "I") ∈ lw_all := lw_g (lw_at lw_m3 114 rfl) rfl
theorem q613 : (Jvm.Cond.soleField "NoisyCodesModel" "code") ∈ lw_all := lw_g (lw_at lw_m3 115 rfl) rfl
theorem q614 : (Jvm.Cond.lays "NoisyCodesModel" "NoisyCodesModel" "begun" "Z") ∈ lw_all := lw_g (lw_at lw_m3 116 rfl) rfl
theorem q615 : (Jvm.Cond.soleField "NoisyCodesModel" "begun") ∈ lw_all := lw_g (lw_at lw_m3 117 rfl) rfl
theorem q616 : (Jvm.Cond.lays "NoisyCodesModel" "NoisyCodesModel" "polynomial" "I") ∈ lw_all := lw_g (lw_at lw_m3 118 rfl) rfl
theorem q617 : (Jvm.Cond.soleField "NoisyCodesModel" "polynomial") ∈ lw_all := lw_g (lw_at lw_m3 119 rfl) rfl
theorem q618 : (Jvm.Cond.lays "NoisyCodesModel" "NoisyCodesModel" "degree" "I") ∈ lw_all := lw_g (lw_at lw_m3 120 rfl) rfl
theorem q619 : (Jvm.Cond.soleField "NoisyCodesModel" "degree") ∈ lw_all := lw_g (lw_at lw_m3 121 rfl) rfl
theorem q620 : (Jvm.Cond.lays "NoisyCodesModel" "NoisyCodesModel" "n" "I") ∈ lw_all := lw_g (lw_at lw_m3 122 rfl) rfl
theorem q621 : (Jvm.Cond.soleField "NoisyCodesModel" "n") ∈ lw_all := lw_g (lw_at lw_m3 123 rfl) rfl
theorem q622 : (Jvm.Cond.lays "NoisyCodesModel" "NoisyCodesModel" "t" "I") ∈ lw_all := lw_g (lw_at lw_m3 124 rfl) rfl
theorem q623 : (Jvm.Cond.soleField "NoisyCodesModel" "t") ∈ lw_all := lw_g (lw_at lw_m3 125 rfl) rfl
theorem q624 : (Jvm.Cond.lays "NoisyCodesModel" "NoisyCodesModel" "depth" "I") ∈ lw_all := lw_g (lw_at lw_m3 126 rfl) rfl
theorem q625 : (Jvm.Cond.soleField "NoisyCodesModel" "depth") ∈ lw_all := lw_g (lw_at lw_m3 127 rfl) rfl
theorem q626 : (Jvm.Cond.lays "NoisyCodesModel" "NoisyCodesModel" "generator" "I") ∈ lw_all := lw_g (lw_at lw_m3 128 rfl) rfl
theorem q627 : (Jvm.Cond.soleField "NoisyCodesModel" "generator") ∈ lw_all := lw_g (lw_at lw_m3 129 rfl) rfl
theorem q628 : (Jvm.Cond.lays "NoisyCodesModel" "NoisyCodesModel" "checks" "I") ∈ lw_all := lw_g (lw_at lw_m3 130 rfl) rfl
theorem q629 : (Jvm.Cond.soleField "NoisyCodesModel" "checks") ∈ lw_all := lw_g (lw_at lw_m3 131 rfl) rfl
theorem q630 : (Jvm.Cond.lays "NoisyCodesModel" "NoisyCodesModel" "message" "[I") ∈ lw_all := lw_g (lw_at lw_m3 132 rfl) rfl
theorem q631 : (Jvm.Cond.soleField "NoisyCodesModel" "message") ∈ lw_all := lw_g (lw_at lw_m3 133 rfl) rfl
theorem q632 : (Jvm.Cond.lays "NoisyCodesModel" "NoisyCodesModel" "channel" "[I") ∈ lw_all := lw_g (lw_at lw_m3 134 rfl) rfl
theorem q633 : (Jvm.Cond.soleField "NoisyCodesModel" "channel") ∈ lw_all := lw_g (lw_at lw_m3 135 rfl) rfl
theorem q634 : (Jvm.Cond.lays "NoisyCodesModel" "NoisyCodesModel" "kept" "[I") ∈ lw_all := lw_g (lw_at lw_m3 136 rfl) rfl
theorem q635 : (Jvm.Cond.soleField "NoisyCodesModel" "kept") ∈ lw_all := lw_g (lw_at lw_m3 137 rfl) rfl
theorem q636 : (Jvm.Cond.lays "NoisyCodesModel" "NoisyCodesModel" "mended" "[I") ∈ lw_all := lw_g (lw_at lw_m3 138 rfl) rfl
theorem q637 : (Jvm.Cond.soleField "NoisyCodesModel" "mended") ∈ lw_all := lw_g (lw_at lw_m3 139 rfl) rfl
theorem q638 : (Jvm.Cond.lays "NoisyCodesModel" "NoisyCodesModel" "rest" "[I") ∈ lw_all := lw_g (lw_at lw_m3 140 rfl) rfl
theorem q639 : (Jvm.Cond.soleField "NoisyCodesModel" "rest") ∈ lw_all := lw_g (lw_at lw_m3 141 rfl) rfl
theorem q640 : (Jvm.Cond.lays "NoisyCodesModel" "NoisyCodesModel" "product" "[I") ∈ lw_all := lw_g (lw_at lw_m3 142 rfl) rfl
theorem q641 : (Jvm.Cond.soleField "NoisyCodesModel" "product") ∈ lw_all := lw_g (lw_at lw_m3 143 rfl) rfl
theorem q642 : (Jvm.Cond.superclass "NoisyCodesModel" "java/lang/Object") ∈ lw_all := lw_g (lw_at lw_m3 144 rfl) rfl
theorem q644 : (Jvm.Cond.instanceMethod ({ cls := "NoisyCodesModel", name := "thrown", desc := "()I" } : Jvm.MethodName)) ∈ lw_all := lw_g (lw_at lw_m3 146 rfl) rfl
theorem q645 : (Jvm.Cond.selects "NoisyCodesModel" ({ cls := "NoisyCodesModel", name := "thrown", desc := "()I" } : Jvm.MethodName) ({ cls := "NoisyCodesModel", name := "thrown", desc := "()I" } : Jvm.MethodName)) ∈ lw_all := lw_g (lw_at lw_m3 147 rfl) rfl
theorem q646 : (Jvm.Cond.code ({ cls := "NoisyCodesModel", name := "thrown", desc := "()I" } : Jvm.MethodName) prog_10_method_2_code (1 : Nat) (Option.some Jvm.ClassFile.FieldType.int)) ∈ lw_all := lw_g (lw_at lw_m3 148 rfl) rfl
theorem q648 : (Jvm.Cond.instanceMethod ({ cls := "NoisyCodesModel", name := "begin", desc := "(III)I" } : Jvm.MethodName)) ∈ lw_all := lw_g (lw_at lw_m3 150 rfl) rfl
theorem q649 : (Jvm.Cond.selects "NoisyCodesModel" ({ cls := "NoisyCodesModel", name := "begin", desc := "(III)I" } : Jvm.MethodName) ({ cls := "NoisyCodesModel", name := "begin", desc := "(III)I" } : Jvm.MethodName)) ∈ lw_all := lw_g (lw_at lw_m3 151 rfl) rfl
theorem q650 : (Jvm.Cond.code ({ cls := "NoisyCodesModel", name := "begin", desc := "(III)I" } : Jvm.MethodName) prog_10_method_10_code (7 : Nat) (Option.some Jvm.ClassFile.FieldType.int)) ∈ lw_all := lw_g (lw_at lw_m3 152 rfl) rfl
theorem q651 : (Jvm.Cond.methodLink "NoisyCodesModel" (47 : Nat) ({ cls := "NoisyCodesModel", name := "within", desc := "(III)Z" } : Jvm.MethodName)) ∈ lw_all := lw_g (lw_at lw_m3 153 rfl) rfl
theorem q652 : (Jvm.Cond.static ({ cls := "NoisyCodesModel", name := "within", desc := "(III)Z" } : Jvm.MethodName)) ∈ lw_all := lw_g (lw_at lw_m3 154 rfl) rfl
theorem q653 : (Jvm.Cond.code ({ cls := "NoisyCodesModel", name := "within", desc := "(III)Z" } : Jvm.MethodName) prog_10_method_3_code (3 : Nat) (Option.some Jvm.ClassFile.FieldType.boolean)) ∈ lw_all := lw_g (lw_at lw_m3 155 rfl) rfl
theorem q654 : (Jvm.Cond.methodLink "NoisyCodesModel" (65 : Nat) ({ cls := "NoisyCodesModel", name := "isPrimitive", desc := "(II)Z" } : Jvm.MethodName)) ∈ lw_all := lw_g (lw_at lw_m3 156 rfl) rfl
theorem q655 : (Jvm.Cond.static ({ cls := "NoisyCodesModel", name := "isPrimitive", desc := "(II)Z" } : Jvm.MethodName)) ∈ lw_all := lw_g (lw_at lw_m3 157 rfl) rfl
theorem q656 : (Jvm.Cond.code ({ cls := "NoisyCodesModel", name := "isPrimitive", desc := "(II)Z" } : Jvm.MethodName) prog_10_method_6_code (4 : Nat) (Option.some Jvm.ClassFile.FieldType.boolean)) ∈ lw_all := lw_g (lw_at lw_m3 158 rfl) rfl
theorem q657 : (Jvm.Cond.methodLink "NoisyCodesModel" (41 : Nat) ({ cls := "NoisyCodesModel", name := "product", desc := "(IIII)I" } : Jvm.MethodName)) ∈ lw_all := lw_g (lw_at lw_m3 159 rfl) rfl
theorem q658 : (Jvm.Cond.static ({ cls := "NoisyCodesModel", name := "product", desc := "(IIII)I" } : Jvm.MethodName)) ∈ lw_all := lw_g (lw_at lw_m3 160 rfl) rfl
theorem q659 : (Jvm.Cond.code ({ cls := "NoisyCodesModel", name := "product", desc := "(IIII)I" } : Jvm.MethodName) prog_10_method_4_code (7 : Nat) (Option.some Jvm.ClassFile.FieldType.int)) ∈ lw_all := lw_g (lw_at lw_m3 161 rfl) rfl
theorem q660 : (Jvm.Cond.methodLink "NoisyCodesModel" (76 : Nat) ({ cls := "NoisyCodesModel", name := "makeGenerator", desc := "()V" } : Jvm.MethodName)) ∈ lw_all := lw_g (lw_at lw_m3 162 rfl) rfl
theorem q661 : (Jvm.Cond.privateMethod ({ cls := "NoisyCodesModel", name := "makeGenerator", desc := "()V" } : Jvm.MethodName)) ∈ lw_tbl := lw_at lw_m3 163 rfl
theorem q662 : (Jvm.Cond.instanceMethod ({ cls := "NoisyCodesModel", name := "makeGenerator", desc := "()V" } : Jvm.MethodName)) ∈ lw_all := lw_g (lw_at lw_m3 164 rfl) rfl
theorem q663 : (Jvm.Cond.code ({ cls := "NoisyCodesModel", name := "makeGenerator", desc := "()V" } : Jvm.MethodName) prog_10_method_8_code (5 : Nat) (Option.none : Option Jvm.ClassFile.FieldType)) ∈ lw_all := lw_g (lw_at lw_m3 165 rfl) rfl
theorem q664 : (Jvm.Cond.methodLink "NoisyCodesModel" (54 : Nat) ({ cls := "NoisyCodesModel", name := "isZero", desc := "(I)Z" } : Jvm.MethodName)) ∈ lw_all := lw_g (lw_at lw_m3 166 rfl) rfl
theorem q665 : (Jvm.Cond.privateMethod ({ cls := "NoisyCodesModel", name := "isZero", desc := "(I)Z" } : Jvm.MethodName)) ∈ lw_tbl := lw_at lw_m3 167 rfl
theorem q666 : (Jvm.Cond.instanceMethod ({ cls := "NoisyCodesModel", name := "isZero", desc := "(I)Z" } : Jvm.MethodName)) ∈ lw_all := lw_g (lw_at lw_m3 168 rfl) rfl
theorem q667 : (Jvm.Cond.code ({ cls := "NoisyCodesModel", name := "isZero", desc := "(I)Z" } : Jvm.MethodName) prog_10_method_7_code (5 : Nat) (Option.some Jvm.ClassFile.FieldType.boolean)) ∈ lw_all := lw_g (lw_at lw_m3 169 rfl) rfl
theorem q668 : (Jvm.Cond.methodLink "NoisyCodesModel" (58 : Nat) ({ cls := "NoisyCodesModel", name := "powerOf", desc := "(I)I" } : Jvm.MethodName)) ∈ lw_all := lw_g (lw_at lw_m3 170 rfl) rfl
theorem q669 : (Jvm.Cond.privateMethod ({ cls := "NoisyCodesModel", name := "powerOf", desc := "(I)I" } : Jvm.MethodName)) ∈ lw_tbl := lw_at lw_m3 171 rfl
theorem q670 : (Jvm.Cond.instanceMethod ({ cls := "NoisyCodesModel", name := "powerOf", desc := "(I)I" } : Jvm.MethodName)) ∈ lw_all := lw_g (lw_at lw_m3 172 rfl) rfl
theorem q671 : (Jvm.Cond.code ({ cls := "NoisyCodesModel", name := "powerOf", desc := "(I)I" } : Jvm.MethodName) prog_10_method_5_code (4 : Nat) (Option.some Jvm.ClassFile.FieldType.int)) ∈ lw_all := lw_g (lw_at lw_m3 173 rfl) rfl
theorem q673 : (Jvm.Cond.instanceMethod ({ cls := "NoisyCodesModel", name := "length", desc := "()I" } : Jvm.MethodName)) ∈ lw_all := lw_g (lw_at lw_m3 175 rfl) rfl
theorem q674 : (Jvm.Cond.selects "NoisyCodesModel" ({ cls := "NoisyCodesModel", name := "length", desc := "()I" } : Jvm.MethodName) ({ cls := "NoisyCodesModel", name := "length", desc := "()I" } : Jvm.MethodName)) ∈ lw_all := lw_g (lw_at lw_m3 176 rfl) rfl
theorem q675 : (Jvm.Cond.code ({ cls := "NoisyCodesModel", name := "length", desc := "()I" } : Jvm.MethodName) prog_10_method_11_code (1 : Nat) (Option.some Jvm.ClassFile.FieldType.int)) ∈ lw_all := lw_g (lw_at lw_m3 177 rfl) rfl
theorem q677 : (Jvm.Cond.instanceMethod ({ cls := "NoisyCodesModel", name := "generator", desc := "()I" } : Jvm.MethodName)) ∈ lw_all := lw_g (lw_at lw_m3 179 rfl) rfl
theorem q678 : (Jvm.Cond.selects "NoisyCodesModel" ({ cls := "NoisyCodesModel", name := "generator", desc := "()I" } : Jvm.MethodName) ({ cls := "NoisyCodesModel", name := "generator", desc := "()I" } : Jvm.MethodName)) ∈ lw_all := lw_g (lw_at lw_m3 180 rfl) rfl
theorem q679 : (Jvm.Cond.code ({ cls := "NoisyCodesModel", name := "generator", desc := "()I" } : Jvm.MethodName) prog_10_method_12_code (1 : Nat) (Option.some Jvm.ClassFile.FieldType.int)) ∈ lw_all := lw_g (lw_at lw_m3 181 rfl) rfl
theorem q681 : (Jvm.Cond.instanceMethod ({ cls := "NoisyCodesModel", name := "power", desc := "(I)I" } : Jvm.MethodName)) ∈ lw_all := lw_g (lw_at lw_m3 183 rfl) rfl
theorem q682 : (Jvm.Cond.selects "NoisyCodesModel" ({ cls := "NoisyCodesModel", name := "power", desc := "(I)I" } : Jvm.MethodName) ({ cls := "NoisyCodesModel", name := "power", desc := "(I)I" } : Jvm.MethodName)) ∈ lw_all := lw_g (lw_at lw_m3 184 rfl) rfl
theorem q683 : (Jvm.Cond.code ({ cls := "NoisyCodesModel", name := "power", desc := "(I)I" } : Jvm.MethodName) prog_10_method_13_code (2 : Nat) (Option.some Jvm.ClassFile.FieldType.int)) ∈ lw_all := lw_g (lw_at lw_m3 185 rfl) rfl
theorem q685 : (Jvm.Cond.instanceMethod ({ cls := "NoisyCodesModel", name := "log", desc := "(I)I" } : Jvm.MethodName)) ∈ lw_all := lw_g (lw_at lw_m3 187 rfl) rfl
theorem q686 : (Jvm.Cond.selects "NoisyCodesModel" ({ cls := "NoisyCodesModel", name := "log", desc := "(I)I" } : Jvm.MethodName) ({ cls := "NoisyCodesModel", name := "log", desc := "(I)I" } : Jvm.MethodName)) ∈ lw_all := lw_g (lw_at lw_m3 188 rfl) rfl
theorem q687 : (Jvm.Cond.code ({ cls := "NoisyCodesModel", name := "log", desc := "(I)I" } : Jvm.MethodName) prog_10_method_14_code (3 : Nat) (Option.some Jvm.ClassFile.FieldType.int)) ∈ lw_all := lw_g (lw_at lw_m3 189 rfl) rfl
theorem q689 : (Jvm.Cond.instanceMethod ({ cls := "NoisyCodesModel", name := "times", desc := "(II)I" } : Jvm.MethodName)) ∈ lw_all := lw_g (lw_at lw_m3 191 rfl) rfl
theorem q690 : (Jvm.Cond.selects "NoisyCodesModel" ({ cls := "NoisyCodesModel", name := "times", desc := "(II)I" } : Jvm.MethodName) ({ cls := "NoisyCodesModel", name := "times", desc := "(II)I" } : Jvm.MethodName)) ∈ lw_all := lw_g (lw_at lw_m3 192 rfl) rfl
theorem q691 : (Jvm.Cond.code ({ cls := "NoisyCodesModel", name := "times", desc := "(II)I" } : Jvm.MethodName) prog_10_method_15_code (3 : Nat) (Option.some Jvm.ClassFile.FieldType.int)) ∈ lw_all := lw_g (lw_at lw_m3 193 rfl) rfl
theorem q693 : (Jvm.Cond.instanceMethod ({ cls := "NoisyCodesModel", name := "put", desc := "(II)V" } : Jvm.MethodName)) ∈ lw_all := lw_g (lw_at lw_m3 195 rfl) rfl
theorem q694 : (Jvm.Cond.selects "NoisyCodesModel" ({ cls := "NoisyCodesModel", name := "put", desc := "(II)V" } : Jvm.MethodName) ({ cls := "NoisyCodesModel", name := "put", desc := "(II)V" } : Jvm.MethodName)) ∈ lw_all := lw_g (lw_at lw_m3 196 rfl) rfl
theorem q695 : (Jvm.Cond.code ({ cls := "NoisyCodesModel", name := "put", desc := "(II)V" } : Jvm.MethodName) prog_10_method_18_code (5 : Nat) (Option.none : Option Jvm.ClassFile.FieldType)) ∈ lw_all := lw_g (lw_at lw_m3 197 rfl) rfl
theorem q696 : (Jvm.Cond.methodLink "NoisyCodesModel" (79 : Nat) ({ cls := "NoisyCodesModel", name := "messageBits", desc := "()I" } : Jvm.MethodName)) ∈ lw_all := lw_g (lw_at lw_m3 198 rfl) rfl
theorem q697 : (Jvm.Cond.privateMethod ({ cls := "NoisyCodesModel", name := "messageBits", desc := "()I" } : Jvm.MethodName)) ∈ lw_tbl := lw_at lw_m3 199 rfl
theorem q698 : (Jvm.Cond.instanceMethod ({ cls := "NoisyCodesModel", name := "messageBits", desc := "()I" } : Jvm.MethodName)) ∈ lw_all := lw_g (lw_at lw_m3 200 rfl) rfl
theorem q699 : (Jvm.Cond.code ({ cls := "NoisyCodesModel", name := "messageBits", desc := "()I" } : Jvm.MethodName) prog_10_method_16_code (1 : Nat) (Option.some Jvm.ClassFile.FieldType.int)) ∈ lw_all := lw_g (lw_at lw_m3 201 rfl) rfl
theorem q701 : (Jvm.Cond.instanceMethod ({ cls := "NoisyCodesModel", name := "get", desc := "(I)I" } : Jvm.MethodName)) ∈ lw_all := lw_g (lw_at lw_m3 203 rfl) rfl
theorem q702 : (Jvm.Cond.selects "NoisyCodesModel" ({ cls := "NoisyCodesModel", name := "get", desc := "(I)I" } : Jvm.MethodName) ({ cls := "NoisyCodesModel", name := "get", desc := "(I)I" } : Jvm.MethodName)) ∈ lw_all := lw_g (lw_at lw_m3 204 rfl) rfl
theorem q703 : (Jvm.Cond.code ({ cls := "NoisyCodesModel", name := "get", desc := "(I)I" } : Jvm.MethodName) prog_10_method_19_code (2 : Nat) (Option.some Jvm.ClassFile.FieldType.int)) ∈ lw_all := lw_g (lw_at lw_m3 205 rfl) rfl
theorem q705 : (Jvm.Cond.instanceMethod ({ cls := "NoisyCodesModel", name := "encode", desc := "()I" } : Jvm.MethodName)) ∈ lw_all := lw_g (lw_at lw_m3 207 rfl) rfl
theorem q706 : (Jvm.Cond.selects "NoisyCodesModel" ({ cls := "NoisyCodesModel", name := "encode", desc := "()I" } : Jvm.MethodName) ({ cls := "NoisyCodesModel", name := "encode", desc := "()I" } : Jvm.MethodName)) ∈ lw_all := lw_g (lw_at lw_m3 208 rfl) rfl
theorem q707 : (Jvm.Cond.code ({ cls := "NoisyCodesModel", name := "encode", desc := "()I" } : Jvm.MethodName) prog_10_method_21_code (4 : Nat) (Option.some Jvm.ClassFile.FieldType.int)) ∈ lw_all := lw_g (lw_at lw_m3 209 rfl) rfl
theorem q708 : (Jvm.Cond.methodLink "NoisyCodesModel" (83 : Nat) ({ cls := "NoisyCodesModel", name := "remainder", desc := "(I)I" } : Jvm.MethodName)) ∈ lw_all := lw_g (lw_at lw_m3 210 rfl) rfl
theorem q709 : (Jvm.Cond.privateMethod ({ cls := "NoisyCodesModel", name := "remainder", desc := "(I)I" } : Jvm.MethodName)) ∈ lw_tbl := lw_at lw_m3 211 rfl
theorem q710 : (Jvm.Cond.instanceMethod ({ cls := "NoisyCodesModel", name := "remainder", desc := "(I)I" } : Jvm.MethodName)) ∈ lw_all := lw_g (lw_at lw_m3 212 rfl) rfl
theorem q711 : (Jvm.Cond.code ({ cls := "NoisyCodesModel", name := "remainder", desc := "(I)I" } : Jvm.MethodName) prog_10_method_9_code (4 : Nat) (Option.some Jvm.ClassFile.FieldType.int)) ∈ lw_all := lw_g (lw_at lw_m3 213 rfl) rfl
theorem q712 : (Jvm.Cond.methodLink "NoisyCodesModel" (86 : Nat) ({ cls := "NoisyCodesModel", name := "ones", desc := "(I)I" } : Jvm.MethodName)) ∈ lw_all := lw_g (lw_at lw_m3 214 rfl) rfl
theorem q713 : (Jvm.Cond.static ({ cls := "NoisyCodesModel", name := "ones", desc := "(I)I" } : Jvm.MethodName)) ∈ lw_all := lw_g (lw_at lw_m3 215 rfl) rfl
theorem q714 : (Jvm.Cond.code ({ cls := "NoisyCodesModel", name := "ones", desc := "(I)I" } : Jvm.MethodName) prog_10_method_20_code (3 : Nat) (Option.some Jvm.ClassFile.FieldType.int)) ∈ lw_all := lw_g (lw_at lw_m3 216 rfl) rfl
theorem q716 : (Jvm.Cond.instanceMethod ({ cls := "NoisyCodesModel", name := "bit", desc := "(I)I" } : Jvm.MethodName)) ∈ lw_all := lw_g (lw_at lw_m3 218 rfl) rfl
theorem q717 : (Jvm.Cond.selects "NoisyCodesModel" ({ cls := "NoisyCodesModel", name := "bit", desc := "(I)I" } : Jvm.MethodName) ({ cls := "NoisyCodesModel", name := "bit", desc := "(I)I" } : Jvm.MethodName)) ∈ lw_all := lw_g (lw_at lw_m3 219 rfl) rfl
theorem q718 : (Jvm.Cond.code ({ cls := "NoisyCodesModel", name := "bit", desc := "(I)I" } : Jvm.MethodName) prog_10_method_22_code (2 : Nat) (Option.some Jvm.ClassFile.FieldType.int)) ∈ lw_all := lw_g (lw_at lw_m3 220 rfl) rfl
theorem q719 : (Jvm.Cond.methodLink "NoisyCodesModel" (89 : Nat) ({ cls := "NoisyCodesModel", name := "channelBits", desc := "()I" } : Jvm.MethodName)) ∈ lw_all := lw_g (lw_at lw_m3 221 rfl) rfl
theorem q720 : (Jvm.Cond.privateMethod ({ cls := "NoisyCodesModel", name := "channelBits", desc := "()I" } : Jvm.MethodName)) ∈ lw_tbl := lw_at lw_m3 222 rfl
theorem q721 : (Jvm.Cond.instanceMethod ({ cls := "NoisyCodesModel", name := "channelBits", desc := "()I" } : Jvm.MethodName)) ∈ lw_all := lw_g (lw_at lw_m3 223 rfl) rfl
theorem q722 : (Jvm.Cond.code ({ cls := "NoisyCodesModel", name := "channelBits", desc := "()I" } : Jvm.MethodName) prog_10_method_17_code (1 : Nat) (Option.some Jvm.ClassFile.FieldType.int)) ∈ lw_all := lw_g (lw_at lw_m3 224 rfl) rfl
theorem q724 : (Jvm.Cond.instanceMethod ({ cls := "NoisyCodesModel", name := "burst", desc := "(II)V" } : Jvm.MethodName)) ∈ lw_all := lw_g (lw_at lw_m3 226 rfl) rfl
theorem q725 : (Jvm.Cond.selects "NoisyCodesModel" ({ cls := "NoisyCodesModel", name := "burst", desc := "(II)V" } : Jvm.MethodName) ({ cls := "NoisyCodesModel", name := "burst", desc := "(II)V" } : Jvm.MethodName)) ∈ lw_all := lw_g (lw_at lw_m3 227 rfl) rfl
theorem q726 : (Jvm.Cond.code ({ cls := "NoisyCodesModel", name := "burst", desc := "(II)V" } : Jvm.MethodName) prog_10_method_24_code (5 : Nat) (Option.none : Option Jvm.ClassFile.FieldType)) ∈ lw_all := lw_g (lw_at lw_m3 228 rfl) rfl
theorem q727 : (Jvm.Cond.methodLink "NoisyCodesModel" (92 : Nat) ({ cls := "NoisyCodesModel", name := "flip", desc := "(I)V" } : Jvm.MethodName)) ∈ lw_all := lw_g (lw_at lw_m3 229 rfl) rfl
theorem q728 : (Jvm.Cond.privateMethod ({ cls := "NoisyCodesModel", name := "flip", desc := "(I)V" } : Jvm.MethodName)) ∈ lw_tbl := lw_at lw_m3 230 rfl
theorem q729 : (Jvm.Cond.instanceMethod ({ cls := "NoisyCodesModel", name := "flip", desc := "(I)V" } : Jvm.MethodName)) ∈ lw_all := lw_g (lw_at lw_m3 231 rfl) rfl
theorem q730 : (Jvm.Cond.code ({ cls := "NoisyCodesModel", name := "flip", desc := "(I)V" } : Jvm.MethodName) prog_10_method_23_code (2 : Nat) (Option.none : Option Jvm.ClassFile.FieldType)) ∈ lw_all := lw_g (lw_at lw_m3 232 rfl) rfl
theorem q732 : (Jvm.Cond.instanceMethod ({ cls := "NoisyCodesModel", name := "noise", desc := "(II)I" } : Jvm.MethodName)) ∈ lw_all := lw_g (lw_at lw_m3 234 rfl) rfl
theorem q733 : (Jvm.Cond.selects "NoisyCodesModel" ({ cls := "NoisyCodesModel", name := "noise", desc := "(II)I" } : Jvm.MethodName) ({ cls := "NoisyCodesModel", name := "noise", desc := "(II)I" } : Jvm.MethodName)) ∈ lw_all := lw_g (lw_at lw_m3 235 rfl) rfl
theorem q734 : (Jvm.Cond.code ({ cls := "NoisyCodesModel", name := "noise", desc := "(II)I" } : Jvm.MethodName) prog_10_method_25_code (6 : Nat) (Option.some Jvm.ClassFile.FieldType.int)) ∈ lw_all := lw_g (lw_at lw_m3 236 rfl) rfl
theorem q735 : (Jvm.Cond.constant "NoisyCodesModel" (96 : Nat) (1103515245 : Int32)) ∈ lw_all := lw_g (lw_at lw_m3 237 rfl) rfl
theorem q737 : (Jvm.Cond.instanceMethod ({ cls := "NoisyCodesModel", name := "syndrome", desc := "(II)I" } : Jvm.MethodName)) ∈ lw_all := lw_g (lw_at lw_m3 239 rfl) rfl
theorem q738 : (Jvm.Cond.selects "NoisyCodesModel" ({ cls := "NoisyCodesModel", name := "syndrome", desc := "(II)I" } : Jvm.MethodName) ({ cls := "NoisyCodesModel", name := "syndrome", desc := "(II)I" } : Jvm.MethodName)) ∈ lw_all := lw_g (lw_at lw_m4 0 rfl) rfl
theorem q739 : (Jvm.Cond.code ({ cls := "NoisyCodesModel", name := "syndrome", desc := "(II)I" } : Jvm.MethodName) prog_10_method_26_code (5 : Nat) (Option.some Jvm.ClassFile.FieldType.int)) ∈ lw_all := lw_g (lw_at lw_m4 1 rfl) rfl
theorem q741 : (Jvm.Cond.instanceMethod ({ cls := "NoisyCodesModel", name := "decode", desc := "(I)I" } : Jvm.MethodName)) ∈ lw_all := lw_g (lw_at lw_m4 3 rfl) rfl
theorem q742 : (Jvm.Cond.selects "NoisyCodesModel" ({ cls := "NoisyCodesModel", name := "decode", desc := "(I)I" } : Jvm.MethodName) ({ cls := "NoisyCodesModel", name := "decode", desc := "(I)I" } : Jvm.MethodName)) ∈ lw_all := lw_g (lw_at lw_m4 4 rfl) rfl
theorem q743 : (Jvm.Cond.code ({ cls := "NoisyCodesModel", name := "decode", desc := "(I)I" } : Jvm.MethodName) prog_10_method_30_code (3 : Nat) (Option.some Jvm.ClassFile.FieldType.int)) ∈ lw_all := lw_g (lw_at lw_m4 5 rfl) rfl
theorem q744 : (Jvm.Cond.methodLink "NoisyCodesModel" (100 : Nat) ({ cls := "NoisyCodesModel", name := "mend", desc := "(I)I" } : Jvm.MethodName)) ∈ lw_all := lw_g (lw_at lw_m4 6 rfl) rfl
theorem q745 : (Jvm.Cond.privateMethod ({ cls := "NoisyCodesModel", name := "mend", desc := "(I)I" } : Jvm.MethodName)) ∈ lw_tbl := lw_at lw_m4 7 rfl
theorem q746 : (Jvm.Cond.instanceMethod ({ cls := "NoisyCodesModel", name := "mend", desc := "(I)I" } : Jvm.MethodName)) ∈ lw_all := lw_g (lw_at lw_m4 8 rfl) rfl
theorem q747 : (Jvm.Cond.code ({ cls := "NoisyCodesModel", name := "mend", desc := "(I)I" } : Jvm.MethodName) prog_10_method_28_code (6 : Nat) (Option.some Jvm.ClassFile.FieldType.int)) ∈ lw_all := lw_g (lw_at lw_m4 9 rfl) rfl
theorem q748 : (Jvm.Cond.methodLink "NoisyCodesModel" (97 : Nat) ({ cls := "NoisyCodesModel", name := "errorsOf", desc := "(I)I" } : Jvm.MethodName)) ∈ lw_all := lw_g (lw_at lw_m4 10 rfl) rfl
theorem q749 : (Jvm.Cond.privateMethod ({ cls := "NoisyCodesModel", name := "errorsOf", desc := "(I)I" } : Jvm.MethodName)) ∈ lw_tbl := lw_at lw_m4 11 rfl
theorem q750 : (Jvm.Cond.instanceMethod ({ cls := "NoisyCodesModel", name := "errorsOf", desc := "(I)I" } : Jvm.MethodName)) ∈ lw_all := lw_g (lw_at lw_m4 12 rfl) rfl
theorem q751 : (Jvm.Cond.code ({ cls := "NoisyCodesModel", name := "errorsOf", desc := "(I)I" } : Jvm.MethodName) prog_10_method_27_code (6 : Nat) (Option.some Jvm.ClassFile.FieldType.int)) ∈ lw_all := lw_g (lw_at lw_m4 13 rfl) rfl
theorem q752 : (Jvm.Cond.methodLink "NoisyCodesModel" (103 : Nat) ({ cls := "NoisyCodesModel", name := "take", desc := "()V" } : Jvm.MethodName)) ∈ lw_all := lw_g (lw_at lw_m4 14 rfl) rfl
theorem q753 : (Jvm.Cond.privateMethod ({ cls := "NoisyCodesModel", name := "take", desc := "()V" } : Jvm.MethodName)) ∈ lw_tbl := lw_at lw_m4 15 rfl
theorem q754 : (Jvm.Cond.instanceMethod ({ cls := "NoisyCodesModel", name := "take", desc := "()V" } : Jvm.MethodName)) ∈ lw_all := lw_g (lw_at lw_m4 16 rfl) rfl
theorem q755 : (Jvm.Cond.code ({ cls := "NoisyCodesModel", name := "take", desc := "()V" } : Jvm.MethodName) prog_10_method_29_code (2 : Nat) (Option.none : Option Jvm.ClassFile.FieldType)) ∈ lw_all := lw_g (lw_at lw_m4 17 rfl) rfl
theorem q757 : (Jvm.Cond.instanceMethod ({ cls := "NoisyCodesModel", name := "save", desc := "(I)V" } : Jvm.MethodName)) ∈ lw_all := lw_g (lw_at lw_m4 19 rfl) rfl
theorem q758 : (Jvm.Cond.selects "NoisyCodesModel" ({ cls := "NoisyCodesModel", name := "save", desc := "(I)V" } : Jvm.MethodName) ({ cls := "NoisyCodesModel", name := "save", desc := "(I)V" } : Jvm.MethodName)) ∈ lw_all := lw_g (lw_at lw_m4 20 rfl) rfl
theorem q759 : (Jvm.Cond.code ({ cls := "NoisyCodesModel", name := "save", desc := "(I)V" } : Jvm.MethodName) prog_10_method_31_code (3 : Nat) (Option.none : Option Jvm.ClassFile.FieldType)) ∈ lw_all := lw_g (lw_at lw_m4 21 rfl) rfl
theorem q761 : (Jvm.Cond.instanceMethod ({ cls := "NoisyCodesModel", name := "load", desc := "(I)I" } : Jvm.MethodName)) ∈ lw_all := lw_g (lw_at lw_m4 23 rfl) rfl
theorem q762 : (Jvm.Cond.selects "NoisyCodesModel" ({ cls := "NoisyCodesModel", name := "load", desc := "(I)I" } : Jvm.MethodName) ({ cls := "NoisyCodesModel", name := "load", desc := "(I)I" } : Jvm.MethodName)) ∈ lw_all := lw_g (lw_at lw_m4 24 rfl) rfl
theorem q763 : (Jvm.Cond.code ({ cls := "NoisyCodesModel", name := "load", desc := "(I)I" } : Jvm.MethodName) prog_10_method_32_code (4 : Nat) (Option.some Jvm.ClassFile.FieldType.int)) ∈ lw_all := lw_g (lw_at lw_m4 25 rfl) rfl
theorem in_X8 : ∀ w ∈ wsX80, w ∈ lw_all := lw_in wsX80 [612, 614, 616, 618, 620, 622, 624, 626, 628, 630, 632, 634, 636, 638, 640] (by decide +kernel) (by decide +kernel)
/-! NoisyCodesLaw -/
def RX0 : String := "NoisyCodesLaw"
abbrev cX0_begin : ByteArray := method_3_code
def yX0_begin : MethodName := ⟨RX0, "begin", "(LNoisyCodes;III[J)I"⟩
abbrev cX0_length : ByteArray := method_4_code
def yX0_length : MethodName := ⟨RX0, "length", "(LNoisyCodes;[J)I"⟩
abbrev cX0_generator : ByteArray := method_5_code
def yX0_generator : MethodName := ⟨RX0, "generator", "(LNoisyCodes;[J)I"⟩
abbrev cX0_power : ByteArray := method_6_code
def yX0_power : MethodName := ⟨RX0, "power", "(LNoisyCodes;I[J)I"⟩
abbrev cX0_log : ByteArray := method_7_code
def yX0_log : MethodName := ⟨RX0, "log", "(LNoisyCodes;I[J)I"⟩
abbrev cX0_times : ByteArray := method_8_code
def yX0_times : MethodName := ⟨RX0, "times", "(LNoisyCodes;II[J)I"⟩
abbrev cX0_put : ByteArray := method_9_code
def yX0_put : MethodName := ⟨RX0, "put", "(LNoisyCodes;II)I"⟩
abbrev cX0_get : ByteArray := method_10_code
def yX0_get : MethodName := ⟨RX0, "get", "(LNoisyCodes;I[J)I"⟩
abbrev cX0_encode : ByteArray := method_11_code
def yX0_encode : MethodName := ⟨RX0, "encode", "(LNoisyCodes;[J)I"⟩
abbrev cX0_bit : ByteArray := method_12_code
def yX0_bit : MethodName := ⟨RX0, "bit", "(LNoisyCodes;I[J)I"⟩
abbrev cX0_burst : ByteArray := method_13_code
def yX0_burst : MethodName := ⟨RX0, "burst", "(LNoisyCodes;II)I"⟩
abbrev cX0_noise : ByteArray := method_14_code
def yX0_noise : MethodName := ⟨RX0, "noise", "(LNoisyCodes;II[J)I"⟩
abbrev cX0_syndrome : ByteArray := method_15_code
def yX0_syndrome : MethodName := ⟨RX0, "syndrome", "(LNoisyCodes;II[J)I"⟩
abbrev cX0_decode : ByteArray := method_16_code
def yX0_decode : MethodName := ⟨RX0, "decode", "(LNoisyCodes;I[J)I"⟩
abbrev cX0_save : ByteArray := method_17_code
def yX0_save : MethodName := ⟨RX0, "save", "(LNoisyCodes;I)I"⟩
abbrev cX0_load : ByteArray := method_18_code
def yX0_load : MethodName := ⟨RX0, "load", "(LNoisyCodes;I[J)I"⟩
theorem q18 : (Jvm.Cond.initialized "NoisyCodesLaw") ∈ lw_all := lw_g (lw_at lw_m1 0 rfl) rfl
theorem q38 : (Jvm.Cond.classLink "NoisyCodesLaw" (8 : Nat) "NoisyCodes") ∈ lw_all := lw_g (lw_at lw_m1 20 rfl) rfl
theorem q40 : (Jvm.Cond.methodLink "NoisyCodesLaw" (71 : Nat) ({ cls := "NoisyCodes", name := "<init>", desc := "()V" } : Jvm.MethodName)) ∈ lw_all := lw_g (lw_at lw_m1 22 rfl) rfl
theorem q193 : (Jvm.Cond.methodLink "NoisyCodesLaw" (75 : Nat) ({ cls := "NoisyCodesLaw", name := "begin", desc := "(LNoisyCodes;III[J)I" } : Jvm.MethodName)) ∈ lw_all := lw_g (lw_at lw_m1 175 rfl) rfl
theorem q194 : (Jvm.Cond.static ({ cls := "NoisyCodesLaw", name := "begin", desc := "(LNoisyCodes;III[J)I" } : Jvm.MethodName)) ∈ lw_all := lw_g (lw_at lw_m1 176 rfl) rfl
theorem q195 : (Jvm.Cond.codeWith ({ cls := "NoisyCodesLaw", name := "begin", desc := "(LNoisyCodes;III[J)I" } : Jvm.MethodName) method_3_code (6 : Nat) (Option.some Jvm.ClassFile.FieldType.int) [((0 : Nat), (12 : Nat), (15 : Nat), (13 : Nat)), ((0 : Nat), (12 : Nat), (19 : Nat), (15 : Nat))]) ∈ lw_all := lw_g (lw_at lw_m1 177 rfl) rfl
theorem q196 : (Jvm.Cond.classLink "NoisyCodesLaw" (13 : Nat) "java/lang/IllegalArgumentException") ∈ lw_all := lw_g (lw_at lw_m1 178 rfl) rfl
theorem q197 : (Jvm.Cond.classLink "NoisyCodesLaw" (15 : Nat) "java/lang/ArithmeticException") ∈ lw_all := lw_g (lw_at lw_m1 179 rfl) rfl
theorem q270 : (Jvm.Cond.methodLink "NoisyCodesLaw" (7 : Nat) ({ cls := "NoisyCodes", name := "begin", desc := "(III)I" } : Jvm.MethodName)) ∈ lw_all := lw_g (lw_at lw_m2 12 rfl) rfl
theorem q330 : (Jvm.Cond.methodLink "NoisyCodesLaw" (84 : Nat) ({ cls := "NoisyCodesLaw", name := "length", desc := "(LNoisyCodes;[J)I" } : Jvm.MethodName)) ∈ lw_all := lw_g (lw_at lw_m2 72 rfl) rfl
theorem q331 : (Jvm.Cond.static ({ cls := "NoisyCodesLaw", name := "length", desc := "(LNoisyCodes;[J)I" } : Jvm.MethodName)) ∈ lw_all := lw_g (lw_at lw_m2 73 rfl) rfl
theorem q332 : (Jvm.Cond.codeWith ({ cls := "NoisyCodesLaw", name := "length", desc := "(LNoisyCodes;[J)I" } : Jvm.MethodName) method_4_code (3 : Nat) (Option.some Jvm.ClassFile.FieldType.int) [((0 : Nat), (8 : Nat), (11 : Nat), (21 : Nat))]) ∈ lw_all := lw_g (lw_at lw_m2 74 rfl) rfl
theorem q333 : (Jvm.Cond.classLink "NoisyCodesLaw" (21 : Nat) "java/lang/IllegalStateException") ∈ lw_all := lw_g (lw_at lw_m2 75 rfl) rfl
theorem q334 : (Jvm.Cond.methodLink "NoisyCodesLaw" (17 : Nat) ({ cls := "NoisyCodes", name := "length", desc := "()I" } : Jvm.MethodName)) ∈ lw_all := lw_g (lw_at lw_m2 76 rfl) rfl
theorem q358 : (Jvm.Cond.methodLink "NoisyCodesLaw" (88 : Nat) ({ cls := "NoisyCodesLaw", name := "generator", desc := "(LNoisyCodes;[J)I" } : Jvm.MethodName)) ∈ lw_all := lw_g (lw_at lw_m2 100 rfl) rfl
theorem q359 : (Jvm.Cond.static ({ cls := "NoisyCodesLaw", name := "generator", desc := "(LNoisyCodes;[J)I" } : Jvm.MethodName)) ∈ lw_all := lw_g (lw_at lw_m2 101 rfl) rfl
theorem q360 : (Jvm.Cond.codeWith ({ cls := "NoisyCodesLaw", name := "generator", desc := "(LNoisyCodes;[J)I" } : Jvm.MethodName) method_5_code (3 : Nat) (Option.some Jvm.ClassFile.FieldType.int) [((0 : Nat), (8 : Nat), (11 : Nat), (21 : Nat))]) ∈ lw_all := lw_g (lw_at lw_m2 102 rfl) rfl
theorem q361 : (Jvm.Cond.methodLink "NoisyCodesLaw" (23 : Nat) ({ cls := "NoisyCodes", name := "generator", desc := "()I" } : Jvm.MethodName)) ∈ lw_all := lw_g (lw_at lw_m2 103 rfl) rfl
theorem q365 : (Jvm.Cond.methodLink "NoisyCodesLaw" (91 : Nat) ({ cls := "NoisyCodesLaw", name := "power", desc := "(LNoisyCodes;I[J)I" } : Jvm.MethodName)) ∈ lw_all := lw_g (lw_at lw_m2 107 rfl) rfl
theorem q366 : (Jvm.Cond.static ({ cls := "NoisyCodesLaw", name := "power", desc := "(LNoisyCodes;I[J)I" } : Jvm.MethodName)) ∈ lw_all := lw_g (lw_at lw_m2 108 rfl) rfl
theorem q367 : (Jvm.Cond.codeWith ({ cls := "NoisyCodesLaw", name := "power", desc := "(LNoisyCodes;I[J)I" } : Jvm.MethodName) method_6_code (4 : Nat) (Option.some Jvm.ClassFile.FieldType.int) [((0 : Nat), (9 : Nat), (12 : Nat), (21 : Nat)), ((0 : Nat), (9 : Nat), (15 : Nat), (13 : Nat))]) ∈ lw_all := lw_g (lw_at lw_m2 109 rfl) rfl
theorem q368 : (Jvm.Cond.methodLink "NoisyCodesLaw" (26 : Nat) ({ cls := "NoisyCodes", name := "power", desc := "(I)I" } : Jvm.MethodName)) ∈ lw_all := lw_g (lw_at lw_m2 110 rfl) rfl
theorem q372 : (Jvm.Cond.methodLink "NoisyCodesLaw" (95 : Nat) ({ cls := "NoisyCodesLaw", name := "log", desc := "(LNoisyCodes;I[J)I" } : Jvm.MethodName)) ∈ lw_all := lw_g (lw_at lw_m2 114 rfl) rfl
theorem q373 : (Jvm.Cond.static ({ cls := "NoisyCodesLaw", name := "log", desc := "(LNoisyCodes;I[J)I" } : Jvm.MethodName)) ∈ lw_all := lw_g (lw_at lw_m2 115 rfl) rfl
theorem q374 : (Jvm.Cond.codeWith ({ cls := "NoisyCodesLaw", name := "log", desc := "(LNoisyCodes;I[J)I" } : Jvm.MethodName) method_7_code (4 : Nat) (Option.some Jvm.ClassFile.FieldType.int) [((0 : Nat), (9 : Nat), (12 : Nat), (21 : Nat)), ((0 : Nat), (9 : Nat), (15 : Nat), (13 : Nat))]) ∈ lw_all := lw_g (lw_at lw_m2 116 rfl) rfl
theorem q375 : (Jvm.Cond.methodLink "NoisyCodesLaw" (30 : Nat) ({ cls := "NoisyCodes", name := "log", desc := "(I)I" } : Jvm.MethodName)) ∈ lw_all := lw_g (lw_at lw_m2 117 rfl) rfl
theorem q379 : (Jvm.Cond.methodLink "NoisyCodesLaw" (98 : Nat) ({ cls := "NoisyCodesLaw", name := "times", desc := "(LNoisyCodes;II[J)I" } : Jvm.MethodName)) ∈ lw_all := lw_g (lw_at lw_m2 121 rfl) rfl
theorem q380 : (Jvm.Cond.static ({ cls := "NoisyCodesLaw", name := "times", desc := "(LNoisyCodes;II[J)I" } : Jvm.MethodName)) ∈ lw_all := lw_g (lw_at lw_m2 122 rfl) rfl
theorem q381 : (Jvm.Cond.codeWith ({ cls := "NoisyCodesLaw", name := "times", desc := "(LNoisyCodes;II[J)I" } : Jvm.MethodName) method_8_code (5 : Nat) (Option.some Jvm.ClassFile.FieldType.int) [((0 : Nat), (10 : Nat), (13 : Nat), (21 : Nat)), ((0 : Nat), (10 : Nat), (17 : Nat), (13 : Nat))]) ∈ lw_all := lw_g (lw_at lw_m2 123 rfl) rfl
theorem q382 : (Jvm.Cond.methodLink "NoisyCodesLaw" (33 : Nat) ({ cls := "NoisyCodes", name := "times", desc := "(II)I" } : Jvm.MethodName)) ∈ lw_all := lw_g (lw_at lw_m2 124 rfl) rfl
theorem q387 : (Jvm.Cond.methodLink "NoisyCodesLaw" (102 : Nat) ({ cls := "NoisyCodesLaw", name := "put", desc := "(LNoisyCodes;II)I" } : Jvm.MethodName)) ∈ lw_all := lw_g (lw_at lw_m2 129 rfl) rfl
theorem q388 : (Jvm.Cond.static ({ cls := "NoisyCodesLaw", name := "put", desc := "(LNoisyCodes;II)I" } : Jvm.MethodName)) ∈ lw_all := lw_g (lw_at lw_m2 130 rfl) rfl
theorem q389 : (Jvm.Cond.codeWith ({ cls := "NoisyCodesLaw", name := "put", desc := "(LNoisyCodes;II)I" } : Jvm.MethodName) method_9_code (4 : Nat) (Option.some Jvm.ClassFile.FieldType.int) [((0 : Nat), (6 : Nat), (9 : Nat), (21 : Nat)), ((0 : Nat), (6 : Nat), (12 : Nat), (41 : Nat)), ((0 : Nat), (6 : Nat), (15 : Nat), (13 : Nat))]) ∈ lw_all := lw_g (lw_at lw_m2 131 rfl) rfl
theorem q390 : (Jvm.Cond.classLink "NoisyCodesLaw" (41 : Nat) "java/lang/IndexOutOfBoundsException") ∈ lw_all := lw_g (lw_at lw_m2 132 rfl) rfl
theorem q409 : (Jvm.Cond.methodLink "NoisyCodesLaw" (37 : Nat) ({ cls := "NoisyCodes", name := "put", desc := "(II)V" } : Jvm.MethodName)) ∈ lw_all := lw_g (lw_at lw_m2 151 rfl) rfl
theorem q429 : (Jvm.Cond.methodLink "NoisyCodesLaw" (106 : Nat) ({ cls := "NoisyCodesLaw", name := "get", desc := "(LNoisyCodes;I[J)I" } : Jvm.MethodName)) ∈ lw_all := lw_g (lw_at lw_m2 171 rfl) rfl
theorem q430 : (Jvm.Cond.static ({ cls := "NoisyCodesLaw", name := "get", desc := "(LNoisyCodes;I[J)I" } : Jvm.MethodName)) ∈ lw_all := lw_g (lw_at lw_m2 172 rfl) rfl
theorem q431 : (Jvm.Cond.codeWith ({ cls := "NoisyCodesLaw", name := "get", desc := "(LNoisyCodes;I[J)I" } : Jvm.MethodName) method_10_code (4 : Nat) (Option.some Jvm.ClassFile.FieldType.int) [((0 : Nat), (9 : Nat), (12 : Nat), (21 : Nat)), ((0 : Nat), (9 : Nat), (15 : Nat), (41 : Nat))]) ∈ lw_all := lw_g (lw_at lw_m2 173 rfl) rfl
theorem q432 : (Jvm.Cond.methodLink "NoisyCodesLaw" (43 : Nat) ({ cls := "NoisyCodes", name := "get", desc := "(I)I" } : Jvm.MethodName)) ∈ lw_all := lw_g (lw_at lw_m2 174 rfl) rfl
theorem q436 : (Jvm.Cond.methodLink "NoisyCodesLaw" (109 : Nat) ({ cls := "NoisyCodesLaw", name := "encode", desc := "(LNoisyCodes;[J)I" } : Jvm.MethodName)) ∈ lw_all := lw_g (lw_at lw_m2 178 rfl) rfl
theorem q437 : (Jvm.Cond.static ({ cls := "NoisyCodesLaw", name := "encode", desc := "(LNoisyCodes;[J)I" } : Jvm.MethodName)) ∈ lw_all := lw_g (lw_at lw_m2 179 rfl) rfl
theorem q438 : (Jvm.Cond.codeWith ({ cls := "NoisyCodesLaw", name := "encode", desc := "(LNoisyCodes;[J)I" } : Jvm.MethodName) method_11_code (3 : Nat) (Option.some Jvm.ClassFile.FieldType.int) [((0 : Nat), (8 : Nat), (11 : Nat), (21 : Nat))]) ∈ lw_all := lw_g (lw_at lw_m2 180 rfl) rfl
theorem q439 : (Jvm.Cond.methodLink "NoisyCodesLaw" (46 : Nat) ({ cls := "NoisyCodes", name := "encode", desc := "()I" } : Jvm.MethodName)) ∈ lw_all := lw_g (lw_at lw_m2 181 rfl) rfl
theorem q453 : (Jvm.Cond.methodLink "NoisyCodesLaw" (112 : Nat) ({ cls := "NoisyCodesLaw", name := "bit", desc := "(LNoisyCodes;I[J)I" } : Jvm.MethodName)) ∈ lw_all := lw_g (lw_at lw_m2 195 rfl) rfl
theorem q454 : (Jvm.Cond.static ({ cls := "NoisyCodesLaw", name := "bit", desc := "(LNoisyCodes;I[J)I" } : Jvm.MethodName)) ∈ lw_all := lw_g (lw_at lw_m2 196 rfl) rfl
theorem q455 : (Jvm.Cond.codeWith ({ cls := "NoisyCodesLaw", name := "bit", desc := "(LNoisyCodes;I[J)I" } : Jvm.MethodName) method_12_code (4 : Nat) (Option.some Jvm.ClassFile.FieldType.int) [((0 : Nat), (9 : Nat), (12 : Nat), (21 : Nat)), ((0 : Nat), (9 : Nat), (15 : Nat), (41 : Nat))]) ∈ lw_all := lw_g (lw_at lw_m2 197 rfl) rfl
theorem q456 : (Jvm.Cond.methodLink "NoisyCodesLaw" (49 : Nat) ({ cls := "NoisyCodes", name := "bit", desc := "(I)I" } : Jvm.MethodName)) ∈ lw_all := lw_g (lw_at lw_m2 198 rfl) rfl
theorem q460 : (Jvm.Cond.methodLink "NoisyCodesLaw" (115 : Nat) ({ cls := "NoisyCodesLaw", name := "burst", desc := "(LNoisyCodes;II)I" } : Jvm.MethodName)) ∈ lw_all := lw_g (lw_at lw_m2 202 rfl) rfl
theorem q461 : (Jvm.Cond.static ({ cls := "NoisyCodesLaw", name := "burst", desc := "(LNoisyCodes;II)I" } : Jvm.MethodName)) ∈ lw_all := lw_g (lw_at lw_m2 203 rfl) rfl
theorem q462 : (Jvm.Cond.codeWith ({ cls := "NoisyCodesLaw", name := "burst", desc := "(LNoisyCodes;II)I" } : Jvm.MethodName) method_13_code (4 : Nat) (Option.some Jvm.ClassFile.FieldType.int) [((0 : Nat), (6 : Nat), (9 : Nat), (21 : Nat)), ((0 : Nat), (6 : Nat), (12 : Nat), (41 : Nat)), ((0 : Nat), (6 : Nat), (15 : Nat), (13 : Nat))]) ∈ lw_all := lw_g (lw_at lw_m2 204 rfl) rfl
theorem q463 : (Jvm.Cond.methodLink "NoisyCodesLaw" (52 : Nat) ({ cls := "NoisyCodes", name := "burst", desc := "(II)V" } : Jvm.MethodName)) ∈ lw_all := lw_g (lw_at lw_m2 205 rfl) rfl
theorem q471 : (Jvm.Cond.methodLink "NoisyCodesLaw" (118 : Nat) ({ cls := "NoisyCodesLaw", name := "noise", desc := "(LNoisyCodes;II[J)I" } : Jvm.MethodName)) ∈ lw_all := lw_g (lw_at lw_m2 213 rfl) rfl
theorem q472 : (Jvm.Cond.static ({ cls := "NoisyCodesLaw", name := "noise", desc := "(LNoisyCodes;II[J)I" } : Jvm.MethodName)) ∈ lw_all := lw_g (lw_at lw_m2 214 rfl) rfl
theorem q473 : (Jvm.Cond.codeWith ({ cls := "NoisyCodesLaw", name := "noise", desc := "(LNoisyCodes;II[J)I" } : Jvm.MethodName) method_14_code (5 : Nat) (Option.some Jvm.ClassFile.FieldType.int) [((0 : Nat), (10 : Nat), (13 : Nat), (21 : Nat)), ((0 : Nat), (10 : Nat), (17 : Nat), (13 : Nat))]) ∈ lw_all := lw_g (lw_at lw_m2 215 rfl) rfl
theorem q474 : (Jvm.Cond.methodLink "NoisyCodesLaw" (55 : Nat) ({ cls := "NoisyCodes", name := "noise", desc := "(II)I" } : Jvm.MethodName)) ∈ lw_all := lw_g (lw_at lw_m2 216 rfl) rfl
theorem q479 : (Jvm.Cond.methodLink "NoisyCodesLaw" (121 : Nat) ({ cls := "NoisyCodesLaw", name := "syndrome", desc := "(LNoisyCodes;II[J)I" } : Jvm.MethodName)) ∈ lw_all := lw_g (lw_at lw_m2 221 rfl) rfl
theorem q480 : (Jvm.Cond.static ({ cls := "NoisyCodesLaw", name := "syndrome", desc := "(LNoisyCodes;II[J)I" } : Jvm.MethodName)) ∈ lw_all := lw_g (lw_at lw_m2 222 rfl) rfl
theorem q481 : (Jvm.Cond.codeWith ({ cls := "NoisyCodesLaw", name := "syndrome", desc := "(LNoisyCodes;II[J)I" } : Jvm.MethodName) method_15_code (5 : Nat) (Option.some Jvm.ClassFile.FieldType.int) [((0 : Nat), (10 : Nat), (13 : Nat), (21 : Nat)), ((0 : Nat), (10 : Nat), (17 : Nat), (41 : Nat))]) ∈ lw_all := lw_g (lw_at lw_m2 223 rfl) rfl
theorem q482 : (Jvm.Cond.methodLink "NoisyCodesLaw" (58 : Nat) ({ cls := "NoisyCodes", name := "syndrome", desc := "(II)I" } : Jvm.MethodName)) ∈ lw_all := lw_g (lw_at lw_m2 224 rfl) rfl
theorem q487 : (Jvm.Cond.methodLink "NoisyCodesLaw" (124 : Nat) ({ cls := "NoisyCodesLaw", name := "decode", desc := "(LNoisyCodes;I[J)I" } : Jvm.MethodName)) ∈ lw_all := lw_g (lw_at lw_m2 229 rfl) rfl
theorem q488 : (Jvm.Cond.static ({ cls := "NoisyCodesLaw", name := "decode", desc := "(LNoisyCodes;I[J)I" } : Jvm.MethodName)) ∈ lw_all := lw_g (lw_at lw_m2 230 rfl) rfl
theorem q489 : (Jvm.Cond.codeWith ({ cls := "NoisyCodesLaw", name := "decode", desc := "(LNoisyCodes;I[J)I" } : Jvm.MethodName) method_16_code (4 : Nat) (Option.some Jvm.ClassFile.FieldType.int) [((0 : Nat), (9 : Nat), (12 : Nat), (21 : Nat)), ((0 : Nat), (9 : Nat), (15 : Nat), (13 : Nat)), ((0 : Nat), (9 : Nat), (18 : Nat), (15 : Nat))]) ∈ lw_all := lw_g (lw_at lw_m2 231 rfl) rfl
theorem q490 : (Jvm.Cond.methodLink "NoisyCodesLaw" (61 : Nat) ({ cls := "NoisyCodes", name := "decode", desc := "(I)I" } : Jvm.MethodName)) ∈ lw_all := lw_g (lw_at lw_m2 232 rfl) rfl
theorem q576 : (Jvm.Cond.methodLink "NoisyCodesLaw" (127 : Nat) ({ cls := "NoisyCodesLaw", name := "save", desc := "(LNoisyCodes;I)I" } : Jvm.MethodName)) ∈ lw_all := lw_g (lw_at lw_m3 78 rfl) rfl
theorem q577 : (Jvm.Cond.static ({ cls := "NoisyCodesLaw", name := "save", desc := "(LNoisyCodes;I)I" } : Jvm.MethodName)) ∈ lw_all := lw_g (lw_at lw_m3 79 rfl) rfl
theorem q578 : (Jvm.Cond.codeWith ({ cls := "NoisyCodesLaw", name := "save", desc := "(LNoisyCodes;I)I" } : Jvm.MethodName) method_17_code (3 : Nat) (Option.some Jvm.ClassFile.FieldType.int) [((0 : Nat), (5 : Nat), (8 : Nat), (21 : Nat)), ((0 : Nat), (5 : Nat), (11 : Nat), (41 : Nat))]) ∈ lw_all := lw_g (lw_at lw_m3 80 rfl) rfl
theorem q579 : (Jvm.Cond.methodLink "NoisyCodesLaw" (64 : Nat) ({ cls := "NoisyCodes", name := "save", desc := "(I)V" } : Jvm.MethodName)) ∈ lw_all := lw_g (lw_at lw_m3 81 rfl) rfl
theorem q584 : (Jvm.Cond.methodLink "NoisyCodesLaw" (131 : Nat) ({ cls := "NoisyCodesLaw", name := "load", desc := "(LNoisyCodes;I[J)I" } : Jvm.MethodName)) ∈ lw_all := lw_g (lw_at lw_m3 86 rfl) rfl
theorem q585 : (Jvm.Cond.static ({ cls := "NoisyCodesLaw", name := "load", desc := "(LNoisyCodes;I[J)I" } : Jvm.MethodName)) ∈ lw_all := lw_g (lw_at lw_m3 87 rfl) rfl
theorem q586 : (Jvm.Cond.codeWith ({ cls := "NoisyCodesLaw", name := "load", desc := "(LNoisyCodes;I[J)I" } : Jvm.MethodName) method_18_code (4 : Nat) (Option.some Jvm.ClassFile.FieldType.int) [((0 : Nat), (9 : Nat), (12 : Nat), (21 : Nat)), ((0 : Nat), (9 : Nat), (15 : Nat), (41 : Nat)), ((0 : Nat), (9 : Nat), (18 : Nat), (15 : Nat))]) ∈ lw_all := lw_g (lw_at lw_m3 88 rfl) rfl
theorem q587 : (Jvm.Cond.methodLink "NoisyCodesLaw" (68 : Nat) ({ cls := "NoisyCodes", name := "load", desc := "(I)I" } : Jvm.MethodName)) ∈ lw_all := lw_g (lw_at lw_m3 89 rfl) rfl
theorem q591 : (Jvm.Cond.classLink "NoisyCodesLaw" (72 : Nat) "NoisyCodesModel") ∈ lw_all := lw_g (lw_at lw_m3 93 rfl) rfl
theorem q593 : (Jvm.Cond.methodLink "NoisyCodesLaw" (74 : Nat) ({ cls := "NoisyCodesModel", name := "<init>", desc := "()V" } : Jvm.MethodName)) ∈ lw_all := lw_g (lw_at lw_m3 95 rfl) rfl
theorem q643 : (Jvm.Cond.methodLink "NoisyCodesLaw" (81 : Nat) ({ cls := "NoisyCodesModel", name := "thrown", desc := "()I" } : Jvm.MethodName)) ∈ lw_all := lw_g (lw_at lw_m3 145 rfl) rfl
theorem q647 : (Jvm.Cond.methodLink "NoisyCodesLaw" (80 : Nat) ({ cls := "NoisyCodesModel", name := "begin", desc := "(III)I" } : Jvm.MethodName)) ∈ lw_all := lw_g (lw_at lw_m3 149 rfl) rfl
theorem q672 : (Jvm.Cond.methodLink "NoisyCodesLaw" (87 : Nat) ({ cls := "NoisyCodesModel", name := "length", desc := "()I" } : Jvm.MethodName)) ∈ lw_all := lw_g (lw_at lw_m3 174 rfl) rfl
theorem q676 : (Jvm.Cond.methodLink "NoisyCodesLaw" (90 : Nat) ({ cls := "NoisyCodesModel", name := "generator", desc := "()I" } : Jvm.MethodName)) ∈ lw_all := lw_g (lw_at lw_m3 178 rfl) rfl
theorem q680 : (Jvm.Cond.methodLink "NoisyCodesLaw" (94 : Nat) ({ cls := "NoisyCodesModel", name := "power", desc := "(I)I" } : Jvm.MethodName)) ∈ lw_all := lw_g (lw_at lw_m3 182 rfl) rfl
theorem q684 : (Jvm.Cond.methodLink "NoisyCodesLaw" (97 : Nat) ({ cls := "NoisyCodesModel", name := "log", desc := "(I)I" } : Jvm.MethodName)) ∈ lw_all := lw_g (lw_at lw_m3 186 rfl) rfl
theorem q688 : (Jvm.Cond.methodLink "NoisyCodesLaw" (101 : Nat) ({ cls := "NoisyCodesModel", name := "times", desc := "(II)I" } : Jvm.MethodName)) ∈ lw_all := lw_g (lw_at lw_m3 190 rfl) rfl
theorem q692 : (Jvm.Cond.methodLink "NoisyCodesLaw" (105 : Nat) ({ cls := "NoisyCodesModel", name := "put", desc := "(II)V" } : Jvm.MethodName)) ∈ lw_all := lw_g (lw_at lw_m3 194 rfl) rfl
theorem q700 : (Jvm.Cond.methodLink "NoisyCodesLaw" (108 : Nat) ({ cls := "NoisyCodesModel", name := "get", desc := "(I)I" } : Jvm.MethodName)) ∈ lw_all := lw_g (lw_at lw_m3 202 rfl) rfl
theorem q704 : (Jvm.Cond.methodLink "NoisyCodesLaw" (111 : Nat) ({ cls := "NoisyCodesModel", name := "encode", desc := "()I" } : Jvm.MethodName)) ∈ lw_all := lw_g (lw_at lw_m3 206 rfl) rfl
theorem q715 : (Jvm.Cond.methodLink "NoisyCodesLaw" (114 : Nat) ({ cls := "NoisyCodesModel", name := "bit", desc := "(I)I" } : Jvm.MethodName)) ∈ lw_all := lw_g (lw_at lw_m3 217 rfl) rfl
theorem q723 : (Jvm.Cond.methodLink "NoisyCodesLaw" (117 : Nat) ({ cls := "NoisyCodesModel", name := "burst", desc := "(II)V" } : Jvm.MethodName)) ∈ lw_all := lw_g (lw_at lw_m3 225 rfl) rfl
theorem q731 : (Jvm.Cond.methodLink "NoisyCodesLaw" (120 : Nat) ({ cls := "NoisyCodesModel", name := "noise", desc := "(II)I" } : Jvm.MethodName)) ∈ lw_all := lw_g (lw_at lw_m3 233 rfl) rfl
theorem q736 : (Jvm.Cond.methodLink "NoisyCodesLaw" (123 : Nat) ({ cls := "NoisyCodesModel", name := "syndrome", desc := "(II)I" } : Jvm.MethodName)) ∈ lw_all := lw_g (lw_at lw_m3 238 rfl) rfl
theorem q740 : (Jvm.Cond.methodLink "NoisyCodesLaw" (126 : Nat) ({ cls := "NoisyCodesModel", name := "decode", desc := "(I)I" } : Jvm.MethodName)) ∈ lw_all := lw_g (lw_at lw_m4 2 rfl) rfl
theorem q756 : (Jvm.Cond.methodLink "NoisyCodesLaw" (130 : Nat) ({ cls := "NoisyCodesModel", name := "save", desc := "(I)V" } : Jvm.MethodName)) ∈ lw_all := lw_g (lw_at lw_m4 18 rfl) rfl
theorem q760 : (Jvm.Cond.methodLink "NoisyCodesLaw" (133 : Nat) ({ cls := "NoisyCodesModel", name := "load", desc := "(I)I" } : Jvm.MethodName)) ∈ lw_all := lw_g (lw_at lw_m4 22 rfl) rfl
/-! the law's own entry -/
abbrev cL_law : ByteArray := code
theorem q508 : (Jvm.Cond.interfaceMethod "NoisyCodes$Way" "NoisyCodes$Way" "find" "(LNoisyCodes$Field;[IILNoisyCodes$Poly;)V") ∈ lw_tbl := lw_at lw_m3 10 rfl
theorem q509 : (Jvm.Cond.declares ({ cls := "NoisyCodes$Way", name := "find", desc := "(LNoisyCodes$Field;[IILNoisyCodes$Poly;)V" } : Jvm.MethodName)) ∈ lw_tbl := lw_at lw_m3 11 rfl
theorem q37 : (Jvm.Cond.initialized "java/lang/System") ∈ lw_all := lw_g (lw_at lw_m1 19 rfl) rfl
theorem q564 : (Jvm.Cond.static ({ cls := "java/lang/System", name := "arraycopy", desc := "(Ljava/lang/Object;ILjava/lang/Object;II)V" } : Jvm.MethodName)) ∈ lw_all := lw_g (lw_at lw_m3 66 rfl) rfl
theorem q565 : (Jvm.Cond.native ({ cls := "java/lang/System", name := "arraycopy", desc := "(Ljava/lang/Object;ILjava/lang/Object;II)V" } : Jvm.MethodName)) ∈ lw_all := lw_g (lw_at lw_m3 67 rfl) rfl
theorem q76 : (Jvm.Cond.arrayClass Jvm.ClassFile.FieldType.int) ∈ lw_all := lw_g (lw_at lw_m1 58 rfl) rfl
theorem q115 : (Jvm.Cond.arrayOver (Jvm.ClassFile.FieldType.array Jvm.ClassFile.FieldType.int)) ∈ lw_tbl := lw_at lw_m1 97 rfl
theorem q117 : (Jvm.Cond.arrayOver (Jvm.ClassFile.FieldType.object "NoisyCodes$Way")) ∈ lw_tbl := lw_at lw_m1 99 rfl
theorem q265 : (Jvm.Cond.arrayClass Jvm.ClassFile.FieldType.byte) ∈ lw_all := lw_g (lw_at lw_m2 7 rfl) rfl
theorem q764 : (Jvm.Cond.arrayClass Jvm.ClassFile.FieldType.long) ∈ lw_all := lw_g (lw_at lw_m4 26 rfl) rfl
