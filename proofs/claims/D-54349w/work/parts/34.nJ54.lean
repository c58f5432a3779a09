set_option maxRecDepth 100000
abbrev cJ54_init : ByteArray := object_method_1_code
def yJ54_init : MethodName := ⟨RJ54, "<init>", "()V"⟩
theorem dJ54_init_0 : decode cJ54_init 0 = .ok (.return_, 1) := by decide +kernel
abbrev cJ54_equals : ByteArray := object_method_4_code
def yJ54_equals : MethodName := ⟨RJ54, "equals", "(Ljava/lang/Object;)Z"⟩
def dkwJ54_equals_0 : List UInt8 := [42, 43, 166, 0, 7, 4, 167, 0, 4, 3, 172]
abbrev dktJ54_equals_0 : List UInt8 := dkwJ54_equals_0 ++ []
theorem dksJ54_equals_0 : cJ54_equals.data.toList.drop 0 = dktJ54_equals_0 := by decide +kernel
theorem dJ54_equals_0 : decode cJ54_equals 0 = .ok (.aload_n 0, 1) := dk_42 (dk_at dksJ54_equals_0 0 rfl rfl)
theorem dJ54_equals_1 : decode cJ54_equals 1 = .ok (.aload_n 1, 1) := dk_43 (dk_at dksJ54_equals_0 1 rfl rfl)
theorem dJ54_equals_2 : decode cJ54_equals 2 = .ok (.if_acmp .ne 7, 3) := dk_166 0 7 (dk_at dksJ54_equals_0 2 rfl rfl)
theorem dJ54_equals_5 : decode cJ54_equals 5 = .ok (.iconst 1, 1) := dk_4 (dk_at dksJ54_equals_0 5 rfl rfl)
theorem dJ54_equals_6 : decode cJ54_equals 6 = .ok (.goto 4, 3) := dk_167 0 4 (dk_at dksJ54_equals_0 6 rfl rfl)
theorem dJ54_equals_9 : decode cJ54_equals 9 = .ok (.iconst 0, 1) := dk_3 (dk_at dksJ54_equals_0 9 rfl rfl)
theorem dJ54_equals_10 : decode cJ54_equals 10 = .ok (.ireturn, 1) := dk_172 (dk_at dksJ54_equals_0 10 rfl rfl)
theorem q185 : (Jvm.Cond.instanceMethod ({ cls := "java/lang/Object", name := "<init>", desc := "()V" } : Jvm.MethodName)) ∈ lw_all := lw_g (lw_at lw_m1 83 rfl) rfl
theorem q186 : (Jvm.Cond.code ({ cls := "java/lang/Object", name := "<init>", desc := "()V" } : Jvm.MethodName) object_method_1_code (1 : Nat) (Option.none : Option Jvm.ClassFile.FieldType)) ∈ lw_all := lw_g (lw_at lw_m1 84 rfl) rfl
theorem q427 : (Jvm.Cond.native ({ cls := "java/lang/Object", name := "clone", desc := "()Ljava/lang/Object;" } : Jvm.MethodName)) ∈ lw_all := lw_g (lw_at lw_m2 85 rfl) rfl
theorem q428 : (Jvm.Cond.instanceMethod ({ cls := "java/lang/Object", name := "clone", desc := "()Ljava/lang/Object;" } : Jvm.MethodName)) ∈ lw_all := lw_g (lw_at lw_m2 86 rfl) rfl
theorem q959 : (Jvm.Cond.declares ({ cls := "java/lang/Object", name := "toString", desc := "()Ljava/lang/String;" } : Jvm.MethodName)) ∈ lw_tbl := lw_at lw_m4 137 rfl
theorem q961 : (Jvm.Cond.instanceMethod ({ cls := "java/lang/Object", name := "toString", desc := "()Ljava/lang/String;" } : Jvm.MethodName)) ∈ lw_all := lw_g (lw_at lw_m4 139 rfl) rfl
theorem q962 : (Jvm.Cond.sameMethod "java/lang/Object" "java/lang/Object" "toString" "()Ljava/lang/String;") ∈ lw_all := lw_g (lw_at lw_m4 140 rfl) rfl
theorem q985 : (Jvm.Cond.instanceMethod ({ cls := "java/lang/Object", name := "getClass", desc := "()Ljava/lang/Class;" } : Jvm.MethodName)) ∈ lw_all := lw_g (lw_at lw_m4 163 rfl) rfl
theorem q986 : (Jvm.Cond.sameMethod "java/lang/Object" "java/lang/Object" "getClass" "()Ljava/lang/Class;") ∈ lw_all := lw_g (lw_at lw_m4 164 rfl) rfl
theorem q1032 : (Jvm.Cond.native ({ cls := "java/lang/Object", name := "getClass", desc := "()Ljava/lang/Class;" } : Jvm.MethodName)) ∈ lw_all := lw_g (lw_at lw_m4 210 rfl) rfl
theorem q1706 : (Jvm.Cond.declares ({ cls := "java/lang/Object", name := "hashCode", desc := "()I" } : Jvm.MethodName)) ∈ lw_tbl := lw_at lw_m7 164 rfl
theorem q1708 : (Jvm.Cond.instanceMethod ({ cls := "java/lang/Object", name := "hashCode", desc := "()I" } : Jvm.MethodName)) ∈ lw_all := lw_g (lw_at lw_m7 166 rfl) rfl
theorem q1709 : (Jvm.Cond.sameMethod "java/lang/Object" "java/lang/Object" "hashCode" "()I") ∈ lw_all := lw_g (lw_at lw_m7 167 rfl) rfl
theorem q1807 : (Jvm.Cond.native ({ cls := "java/lang/Object", name := "hashCode", desc := "()I" } : Jvm.MethodName)) ∈ lw_all := lw_g (lw_at lw_m8 25 rfl) rfl
theorem q2160 : (Jvm.Cond.declares ({ cls := "java/lang/Object", name := "equals", desc := "(Ljava/lang/Object;)Z" } : Jvm.MethodName)) ∈ lw_tbl := lw_at lw_m9 138 rfl
theorem q2162 : (Jvm.Cond.instanceMethod ({ cls := "java/lang/Object", name := "equals", desc := "(Ljava/lang/Object;)Z" } : Jvm.MethodName)) ∈ lw_all := lw_g (lw_at lw_m9 140 rfl) rfl
theorem q2163 : (Jvm.Cond.sameMethod "java/lang/Object" "java/lang/Object" "equals" "(Ljava/lang/Object;)Z") ∈ lw_all := lw_g (lw_at lw_m9 141 rfl) rfl
theorem q2211 : (Jvm.Cond.code ({ cls := "java/lang/Object", name := "equals", desc := "(Ljava/lang/Object;)Z" } : Jvm.MethodName) object_method_4_code (2 : Nat) (Option.some Jvm.ClassFile.FieldType.boolean)) ∈ lw_all := lw_g (lw_at lw_m9 189 rfl) rfl
theorem q4401 : (Jvm.Cond.initialized "java/lang/Object") ∈ lw_all := lw_g (lw_at lw_m18 219 rfl) rfl
theorem q4477 : (Jvm.Cond.declares ({ cls := "java/lang/Object", name := "getClass", desc := "()Ljava/lang/Class;" } : Jvm.MethodName)) ∈ lw_tbl := lw_at lw_m19 55 rfl
theorem q4500 : (Jvm.Cond.instantiable "java/lang/Object" (0 : Nat)) ∈ lw_all := lw_g (lw_at lw_m19 78 rfl) rfl

