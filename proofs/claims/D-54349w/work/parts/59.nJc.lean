theorem q3032 : (Jvm.Cond.interfaceMethod "java/util/Collection" "java/util/Collection" "iterator" "()Ljava/util/Iterator;") ∈ lw_tbl := lw_at lw_m13 50 rfl
set_option maxRecDepth 100000
theorem q3033 : (Jvm.Cond.declares ({ cls := "java/util/Collection", name := "iterator", desc := "()Ljava/util/Iterator;" } : Jvm.MethodName)) ∈ lw_tbl := lw_at lw_m13 51 rfl
theorem q3123 : (Jvm.Cond.interfaceMethod "java/util/Collection" "java/util/Collection" "size" "()I") ∈ lw_tbl := lw_at lw_m13 141 rfl
theorem q3124 : (Jvm.Cond.declares ({ cls := "java/util/Collection", name := "size", desc := "()I" } : Jvm.MethodName)) ∈ lw_tbl := lw_at lw_m13 142 rfl
theorem q2515 : (Jvm.Cond.interfaceMethod "java/util/Iterator" "java/util/Iterator" "hasNext" "()Z") ∈ lw_tbl := lw_at lw_m11 13 rfl
set_option maxRecDepth 100000
theorem q2516 : (Jvm.Cond.declares ({ cls := "java/util/Iterator", name := "hasNext", desc := "()Z" } : Jvm.MethodName)) ∈ lw_tbl := lw_at lw_m11 14 rfl
theorem q2549 : (Jvm.Cond.interfaceMethod "java/util/Iterator" "java/util/Iterator" "next" "()Ljava/lang/Object;") ∈ lw_tbl := lw_at lw_m11 47 rfl
theorem q2550 : (Jvm.Cond.declares ({ cls := "java/util/Iterator", name := "next", desc := "()Ljava/lang/Object;" } : Jvm.MethodName)) ∈ lw_tbl := lw_at lw_m11 48 rfl
theorem q1146 : (Jvm.Cond.interfaceMethod "java/util/List" "java/util/List" "add" "(Ljava/lang/Object;)Z") ∈ lw_tbl := lw_at lw_m5 84 rfl
set_option maxRecDepth 100000
theorem q1147 : (Jvm.Cond.declares ({ cls := "java/util/List", name := "add", desc := "(Ljava/lang/Object;)Z" } : Jvm.MethodName)) ∈ lw_tbl := lw_at lw_m5 85 rfl
theorem q1317 : (Jvm.Cond.interfaceMethod "java/util/List" "java/util/List" "size" "()I") ∈ lw_tbl := lw_at lw_m6 15 rfl
theorem q1318 : (Jvm.Cond.declares ({ cls := "java/util/List", name := "size", desc := "()I" } : Jvm.MethodName)) ∈ lw_tbl := lw_at lw_m6 16 rfl
theorem q1334 : (Jvm.Cond.interfaceMethod "java/util/List" "java/util/List" "get" "(I)Ljava/lang/Object;") ∈ lw_tbl := lw_at lw_m6 32 rfl
theorem q1335 : (Jvm.Cond.declares ({ cls := "java/util/List", name := "get", desc := "(I)Ljava/lang/Object;" } : Jvm.MethodName)) ∈ lw_tbl := lw_at lw_m6 33 rfl
theorem q1303 : (Jvm.Cond.interfaceMethod "java/util/Map" "java/util/Map" "size" "()I") ∈ lw_tbl := lw_at lw_m6 1 rfl
set_option maxRecDepth 100000
theorem q1304 : (Jvm.Cond.declares ({ cls := "java/util/Map", name := "size", desc := "()I" } : Jvm.MethodName)) ∈ lw_tbl := lw_at lw_m6 2 rfl
theorem q1696 : (Jvm.Cond.interfaceMethod "java/util/Map" "java/util/Map" "put" "(Ljava/lang/Object;Ljava/lang/Object;)Ljava/lang/Object;") ∈ lw_tbl := lw_at lw_m7 154 rfl
theorem q1697 : (Jvm.Cond.declares ({ cls := "java/util/Map", name := "put", desc := "(Ljava/lang/Object;Ljava/lang/Object;)Ljava/lang/Object;" } : Jvm.MethodName)) ∈ lw_tbl := lw_at lw_m7 155 rfl
theorem q2353 : (Jvm.Cond.interfaceMethod "java/util/Map" "java/util/Map" "remove" "(Ljava/lang/Object;)Ljava/lang/Object;") ∈ lw_tbl := lw_at lw_m10 91 rfl
theorem q2354 : (Jvm.Cond.declares ({ cls := "java/util/Map", name := "remove", desc := "(Ljava/lang/Object;)Ljava/lang/Object;" } : Jvm.MethodName)) ∈ lw_tbl := lw_at lw_m10 92 rfl
theorem q2391 : (Jvm.Cond.interfaceMethod "java/util/Map" "java/util/Map" "keySet" "()Ljava/util/Set;") ∈ lw_tbl := lw_at lw_m10 129 rfl
theorem q2392 : (Jvm.Cond.declares ({ cls := "java/util/Map", name := "keySet", desc := "()Ljava/util/Set;" } : Jvm.MethodName)) ∈ lw_tbl := lw_at lw_m10 130 rfl
theorem q2905 : (Jvm.Cond.interfaceMethod "java/util/Map" "java/util/Map" "entrySet" "()Ljava/util/Set;") ∈ lw_tbl := lw_at lw_m12 163 rfl
theorem q2906 : (Jvm.Cond.declares ({ cls := "java/util/Map", name := "entrySet", desc := "()Ljava/util/Set;" } : Jvm.MethodName)) ∈ lw_tbl := lw_at lw_m12 164 rfl
theorem q3005 : (Jvm.Cond.interfaceMethod "java/util/Map" "java/util/Map" "values" "()Ljava/util/Collection;") ∈ lw_tbl := lw_at lw_m13 23 rfl
theorem q3006 : (Jvm.Cond.declares ({ cls := "java/util/Map", name := "values", desc := "()Ljava/util/Collection;" } : Jvm.MethodName)) ∈ lw_tbl := lw_at lw_m13 24 rfl
theorem q3347 : (Jvm.Cond.interfaceMethod "java/util/Map" "java/util/Map" "containsKey" "(Ljava/lang/Object;)Z") ∈ lw_tbl := lw_at lw_m14 125 rfl
theorem q3348 : (Jvm.Cond.declares ({ cls := "java/util/Map", name := "containsKey", desc := "(Ljava/lang/Object;)Z" } : Jvm.MethodName)) ∈ lw_tbl := lw_at lw_m14 126 rfl
theorem q3367 : (Jvm.Cond.interfaceMethod "java/util/Map" "java/util/Map" "get" "(Ljava/lang/Object;)Ljava/lang/Object;") ∈ lw_tbl := lw_at lw_m14 145 rfl
theorem q3368 : (Jvm.Cond.declares ({ cls := "java/util/Map", name := "get", desc := "(Ljava/lang/Object;)Ljava/lang/Object;" } : Jvm.MethodName)) ∈ lw_tbl := lw_at lw_m14 146 rfl
theorem q2938 : (Jvm.Cond.interfaceMethod "java/util/Map$Entry" "java/util/Map$Entry" "getKey" "()Ljava/lang/Object;") ∈ lw_tbl := lw_at lw_m12 196 rfl
set_option maxRecDepth 100000
theorem q2939 : (Jvm.Cond.declares ({ cls := "java/util/Map$Entry", name := "getKey", desc := "()Ljava/lang/Object;" } : Jvm.MethodName)) ∈ lw_tbl := lw_at lw_m12 197 rfl
theorem q2952 : (Jvm.Cond.interfaceMethod "java/util/Map$Entry" "java/util/Map$Entry" "getValue" "()Ljava/lang/Object;") ∈ lw_tbl := lw_at lw_m12 210 rfl
theorem q2953 : (Jvm.Cond.declares ({ cls := "java/util/Map$Entry", name := "getValue", desc := "()Ljava/lang/Object;" } : Jvm.MethodName)) ∈ lw_tbl := lw_at lw_m12 211 rfl
theorem q2418 : (Jvm.Cond.interfaceMethod "java/util/Set" "java/util/Set" "iterator" "()Ljava/util/Iterator;") ∈ lw_tbl := lw_at lw_m10 156 rfl
set_option maxRecDepth 100000
theorem q2419 : (Jvm.Cond.declares ({ cls := "java/util/Set", name := "iterator", desc := "()Ljava/util/Iterator;" } : Jvm.MethodName)) ∈ lw_tbl := lw_at lw_m10 157 rfl
theorem q2780 : (Jvm.Cond.interfaceMethod "java/util/Set" "java/util/Set" "add" "(Ljava/lang/Object;)Z") ∈ lw_tbl := lw_at lw_m12 38 rfl
theorem q2781 : (Jvm.Cond.declares ({ cls := "java/util/Set", name := "add", desc := "(Ljava/lang/Object;)Z" } : Jvm.MethodName)) ∈ lw_tbl := lw_at lw_m12 39 rfl
theorem q3622 : (Jvm.Cond.interfaceMethod "java/util/Set" "java/util/Set" "contains" "(Ljava/lang/Object;)Z") ∈ lw_tbl := lw_at lw_m15 160 rfl
theorem q3623 : (Jvm.Cond.declares ({ cls := "java/util/Set", name := "contains", desc := "(Ljava/lang/Object;)Z" } : Jvm.MethodName)) ∈ lw_tbl := lw_at lw_m15 161 rfl
theorem q4487 : (Jvm.Cond.castable "[Ljava/util/HashMap$Node;" "java/lang/Object") ∈ lw_tbl := lw_at lw_m19 65 rfl
set_option maxRecDepth 100000
set_option maxRecDepth 100000
abbrev cJ6_init : ByteArray := prog_61_method_1_code
def yJ6_init : MethodName := ⟨RJ6, "<init>", "()V"⟩
theorem dJ6_init_0 : decode cJ6_init 0 = .ok (.aload_n 0, 1) := by decide +kernel
theorem dJ6_init_1 : decode cJ6_init 1 = .ok (.invokespecial 1, 3) := by decide +kernel
theorem dJ6_init_4 : decode cJ6_init 4 = .ok (.return_, 1) := by decide +kernel
theorem q111 : (Jvm.Cond.initialized "java/util/AbstractSet") ∈ lw_all := lw_g (lw_at lw_m1 9 rfl) rfl
theorem q302 : (Jvm.Cond.instanceMethod ({ cls := "java/util/AbstractSet", name := "<init>", desc := "()V" } : Jvm.MethodName)) ∈ lw_all := lw_g (lw_at lw_m1 200 rfl) rfl
theorem q303 : (Jvm.Cond.code ({ cls := "java/util/AbstractSet", name := "<init>", desc := "()V" } : Jvm.MethodName) prog_61_method_1_code (1 : Nat) (Option.none : Option Jvm.ClassFile.FieldType)) ∈ lw_all := lw_g (lw_at lw_m1 201 rfl) rfl
theorem q304 : (Jvm.Cond.methodLink "java/util/AbstractSet" (1 : Nat) ({ cls := "java/util/AbstractCollection", name := "<init>", desc := "()V" } : Jvm.MethodName)) ∈ lw_all := lw_g (lw_at lw_m1 202 rfl) rfl

set_option maxRecDepth 100000
abbrev cJ7_init : ByteArray := prog_75_method_5_code
def yJ7_init : MethodName := ⟨RJ7, "<init>", "(IFZ)V"⟩
def dkwJ7_init_0 : List UInt8 := [42, 183, 0, 1, 42, 187, 0, 42, 89, 27, 36, 183, 0, 44, 181, 0, 10, 177]
abbrev dktJ7_init_0 : List UInt8 := dkwJ7_init_0 ++ []
theorem dksJ7_init_0 : cJ7_init.data.toList.drop 0 = dktJ7_init_0 := by decide +kernel
theorem dJ7_init_0 : decode cJ7_init 0 = .ok (.aload_n 0, 1) := dk_42 (dk_at dksJ7_init_0 0 rfl rfl)
theorem dJ7_init_1 : decode cJ7_init 1 = .ok (.invokespecial 1, 3) := dk_183 0 1 (dk_at dksJ7_init_0 1 rfl rfl)
theorem dJ7_init_4 : decode cJ7_init 4 = .ok (.aload_n 0, 1) := dk_42 (dk_at dksJ7_init_0 4 rfl rfl)
theorem dJ7_init_5 : decode cJ7_init 5 = .ok (.new 42, 3) := dk_187 0 42 (dk_at dksJ7_init_0 5 rfl rfl)
theorem dJ7_init_8 : decode cJ7_init 8 = .ok (.dup, 1) := dk_89 (dk_at dksJ7_init_0 8 rfl rfl)
theorem dJ7_init_9 : decode cJ7_init 9 = .ok (.iload_n 1, 1) := dk_27 (dk_at dksJ7_init_0 9 rfl rfl)
theorem dJ7_init_10 : decode cJ7_init 10 = .ok (.fload_n 2, 1) := dk_36 (dk_at dksJ7_init_0 10 rfl rfl)
theorem dJ7_init_11 : decode cJ7_init 11 = .ok (.invokespecial 44, 3) := dk_183 0 44 (dk_at dksJ7_init_0 11 rfl rfl)
theorem dJ7_init_14 : decode cJ7_init 14 = .ok (.putfield 10, 3) := dk_181 0 10 (dk_at dksJ7_init_0 14 rfl rfl)
theorem dJ7_init_17 : decode cJ7_init 17 = .ok (.return_, 1) := dk_177 (dk_at dksJ7_init_0 17 rfl rfl)
abbrev cJ7_iterator : ByteArray := prog_75_method_6_code
def yJ7_iterator : MethodName := ⟨RJ7, "iterator", "()Ljava/util/Iterator;"⟩
def dkwJ7_iterator_0 : List UInt8 := [42, 180, 0, 10, 182, 0, 45, 185, 0, 49, 1, 0, 176]
abbrev dktJ7_iterator_0 : List UInt8 := dkwJ7_iterator_0 ++ []
theorem dksJ7_iterator_0 : cJ7_iterator.data.toList.drop 0 = dktJ7_iterator_0 := by decide +kernel
theorem dJ7_iterator_0 : decode cJ7_iterator 0 = .ok (.aload_n 0, 1) := dk_42 (dk_at dksJ7_iterator_0 0 rfl rfl)
theorem dJ7_iterator_1 : decode cJ7_iterator 1 = .ok (.getfield 10, 3) := dk_180 0 10 (dk_at dksJ7_iterator_0 1 rfl rfl)
theorem dJ7_iterator_4 : decode cJ7_iterator 4 = .ok (.invokevirtual 45, 3) := dk_182 0 45 (dk_at dksJ7_iterator_0 4 rfl rfl)
theorem dJ7_iterator_7 : decode cJ7_iterator 7 = .ok (.invokeinterface 49 1, 5) := by decide +kernel
theorem dJ7_iterator_12 : decode cJ7_iterator 12 = .ok (.areturn, 1) := dk_176 (dk_at dksJ7_iterator_0 12 rfl rfl)
abbrev cJ7_add : ByteArray := prog_75_method_10_code
def yJ7_add : MethodName := ⟨RJ7, "add", "(Ljava/lang/Object;)Z"⟩
def dkwJ7_add_0 : List UInt8 := [42, 180, 0, 10, 43, 178, 0, 64, 182, 0, 68, 199, 0, 7, 4, 167, 0, 4, 3, 172]
abbrev dktJ7_add_0 : List UInt8 := dkwJ7_add_0 ++ []
theorem dksJ7_add_0 : cJ7_add.data.toList.drop 0 = dktJ7_add_0 := by decide +kernel
theorem dJ7_add_0 : decode cJ7_add 0 = .ok (.aload_n 0, 1) := dk_42 (dk_at dksJ7_add_0 0 rfl rfl)
theorem dJ7_add_1 : decode cJ7_add 1 = .ok (.getfield 10, 3) := dk_180 0 10 (dk_at dksJ7_add_0 1 rfl rfl)
theorem dJ7_add_4 : decode cJ7_add 4 = .ok (.aload_n 1, 1) := dk_43 (dk_at dksJ7_add_0 4 rfl rfl)
theorem dJ7_add_5 : decode cJ7_add 5 = .ok (.getstatic 64, 3) := dk_178 0 64 (dk_at dksJ7_add_0 5 rfl rfl)
theorem dJ7_add_8 : decode cJ7_add 8 = .ok (.invokevirtual 68, 3) := dk_182 0 68 (dk_at dksJ7_add_0 8 rfl rfl)
theorem dJ7_add_11 : decode cJ7_add 11 = .ok (.ifnonnull 7, 3) := dk_199 0 7 (dk_at dksJ7_add_0 11 rfl rfl)
theorem dJ7_add_14 : decode cJ7_add 14 = .ok (.iconst 1, 1) := dk_4 (dk_at dksJ7_add_0 14 rfl rfl)
theorem dJ7_add_15 : decode cJ7_add 15 = .ok (.goto 4, 3) := dk_167 0 4 (dk_at dksJ7_add_0 15 rfl rfl)
theorem dJ7_add_18 : decode cJ7_add 18 = .ok (.iconst 0, 1) := dk_3 (dk_at dksJ7_add_0 18 rfl rfl)
theorem dJ7_add_19 : decode cJ7_add 19 = .ok (.ireturn, 1) := dk_172 (dk_at dksJ7_add_0 19 rfl rfl)
abbrev cJ7_size : ByteArray := prog_75_method_7_code
def yJ7_size : MethodName := ⟨RJ7, "size", "()I"⟩
def dkwJ7_size_0 : List UInt8 := [42, 180, 0, 10, 182, 0, 55, 172]
abbrev dktJ7_size_0 : List UInt8 := dkwJ7_size_0 ++ []
theorem dksJ7_size_0 : cJ7_size.data.toList.drop 0 = dktJ7_size_0 := by decide +kernel
theorem dJ7_size_0 : decode cJ7_size 0 = .ok (.aload_n 0, 1) := dk_42 (dk_at dksJ7_size_0 0 rfl rfl)
theorem dJ7_size_1 : decode cJ7_size 1 = .ok (.getfield 10, 3) := dk_180 0 10 (dk_at dksJ7_size_0 1 rfl rfl)
theorem dJ7_size_4 : decode cJ7_size 4 = .ok (.invokevirtual 55, 3) := dk_182 0 55 (dk_at dksJ7_size_0 4 rfl rfl)
theorem dJ7_size_7 : decode cJ7_size 7 = .ok (.ireturn, 1) := dk_172 (dk_at dksJ7_size_0 7 rfl rfl)
abbrev cJ7_contains : ByteArray := prog_75_method_9_code
def yJ7_contains : MethodName := ⟨RJ7, "contains", "(Ljava/lang/Object;)Z"⟩
def dkwJ7_contains_0 : List UInt8 := [42, 180, 0, 10, 43, 182, 0, 60, 172]
abbrev dktJ7_contains_0 : List UInt8 := dkwJ7_contains_0 ++ []
theorem dksJ7_contains_0 : cJ7_contains.data.toList.drop 0 = dktJ7_contains_0 := by decide +kernel
theorem dJ7_contains_0 : decode cJ7_contains 0 = .ok (.aload_n 0, 1) := dk_42 (dk_at dksJ7_contains_0 0 rfl rfl)
theorem dJ7_contains_1 : decode cJ7_contains 1 = .ok (.getfield 10, 3) := dk_180 0 10 (dk_at dksJ7_contains_0 1 rfl rfl)
theorem dJ7_contains_4 : decode cJ7_contains 4 = .ok (.aload_n 1, 1) := dk_43 (dk_at dksJ7_contains_0 4 rfl rfl)
theorem dJ7_contains_5 : decode cJ7_contains 5 = .ok (.invokevirtual 60, 3) := dk_182 0 60 (dk_at dksJ7_contains_0 5 rfl rfl)
theorem dJ7_contains_8 : decode cJ7_contains 8 = .ok (.ireturn, 1) := dk_172 (dk_at dksJ7_contains_0 8 rfl rfl)
theorem q112 : (Jvm.Cond.initialized "java/util/HashSet") ∈ lw_all := lw_g (lw_at lw_m1 10 rfl) rfl
theorem q299 : (Jvm.Cond.instanceMethod ({ cls := "java/util/HashSet", name := "<init>", desc := "(IFZ)V" } : Jvm.MethodName)) ∈ lw_all := lw_g (lw_at lw_m1 197 rfl) rfl
theorem q300 : (Jvm.Cond.code ({ cls := "java/util/HashSet", name := "<init>", desc := "(IFZ)V" } : Jvm.MethodName) prog_75_method_5_code (4 : Nat) (Option.none : Option Jvm.ClassFile.FieldType)) ∈ lw_all := lw_g (lw_at lw_m1 198 rfl) rfl
theorem q301 : (Jvm.Cond.methodLink "java/util/HashSet" (1 : Nat) ({ cls := "java/util/AbstractSet", name := "<init>", desc := "()V" } : Jvm.MethodName)) ∈ lw_all := lw_g (lw_at lw_m1 199 rfl) rfl
theorem q305 : (Jvm.Cond.classLink "java/util/HashSet" (42 : Nat) "java/util/LinkedHashMap") ∈ lw_all := lw_g (lw_at lw_m1 203 rfl) rfl
theorem q306 : (Jvm.Cond.methodLink "java/util/HashSet" (44 : Nat) ({ cls := "java/util/LinkedHashMap", name := "<init>", desc := "(IF)V" } : Jvm.MethodName)) ∈ lw_all := lw_g (lw_at lw_m1 204 rfl) rfl
theorem q1140 : (Jvm.Cond.fieldLink "java/util/HashSet" (10 : Nat) "java/util/HashSet" "map" "Ljava/util/HashMap;") ∈ lw_all := lw_g (lw_at lw_m5 78 rfl) rfl
theorem q1142 : (Jvm.Cond.soleField "java/util/HashSet" "map") ∈ lw_all := lw_g (lw_at lw_m5 80 rfl) rfl
theorem q2503 : (Jvm.Cond.instanceMethod ({ cls := "java/util/HashSet", name := "iterator", desc := "()Ljava/util/Iterator;" } : Jvm.MethodName)) ∈ lw_all := lw_g (lw_at lw_m11 1 rfl) rfl
theorem q2504 : (Jvm.Cond.publicMethod ({ cls := "java/util/HashSet", name := "iterator", desc := "()Ljava/util/Iterator;" } : Jvm.MethodName)) ∈ lw_tbl := lw_at lw_m11 2 rfl
theorem q2505 : (Jvm.Cond.code ({ cls := "java/util/HashSet", name := "iterator", desc := "()Ljava/util/Iterator;" } : Jvm.MethodName) prog_75_method_6_code (1 : Nat) (Option.some (Jvm.ClassFile.FieldType.object "java/util/Iterator"))) ∈ lw_all := lw_g (lw_at lw_m11 3 rfl) rfl
theorem q2506 : (Jvm.Cond.methodLink "java/util/HashSet" (45 : Nat) ({ cls := "java/util/HashMap", name := "keySet", desc := "()Ljava/util/Set;" } : Jvm.MethodName)) ∈ lw_all := lw_g (lw_at lw_m11 4 rfl) rfl
theorem q2511 : (Jvm.Cond.interfaceEntry "java/util/HashSet" (49 : Nat)) ∈ lw_tbl := lw_at lw_m11 9 rfl
theorem q2512 : (Jvm.Cond.methodLink "java/util/HashSet" (49 : Nat) ({ cls := "java/util/Set", name := "iterator", desc := "()Ljava/util/Iterator;" } : Jvm.MethodName)) ∈ lw_all := lw_g (lw_at lw_m11 10 rfl) rfl
theorem q2793 : (Jvm.Cond.instanceMethod ({ cls := "java/util/HashSet", name := "add", desc := "(Ljava/lang/Object;)Z" } : Jvm.MethodName)) ∈ lw_all := lw_g (lw_at lw_m12 51 rfl) rfl
theorem q2794 : (Jvm.Cond.publicMethod ({ cls := "java/util/HashSet", name := "add", desc := "(Ljava/lang/Object;)Z" } : Jvm.MethodName)) ∈ lw_tbl := lw_at lw_m12 52 rfl
theorem q2795 : (Jvm.Cond.code ({ cls := "java/util/HashSet", name := "add", desc := "(Ljava/lang/Object;)Z" } : Jvm.MethodName) prog_75_method_10_code (2 : Nat) (Option.some Jvm.ClassFile.FieldType.boolean)) ∈ lw_all := lw_g (lw_at lw_m12 53 rfl) rfl
theorem q2796 : (Jvm.Cond.fieldLink "java/util/HashSet" (64 : Nat) "java/util/HashSet" "PRESENT" "Ljava/lang/Object;") ∈ lw_all := lw_g (lw_at lw_m12 54 rfl) rfl
theorem q2797 : (Jvm.Cond.laysStatic "java/util/HashSet" "PRESENT" "Ljava/lang/Object;") ∈ lw_tbl := lw_at lw_m12 55 rfl
theorem q2798 : (Jvm.Cond.methodLink "java/util/HashSet" (68 : Nat) ({ cls := "java/util/HashMap", name := "put", desc := "(Ljava/lang/Object;Ljava/lang/Object;)Ljava/lang/Object;" } : Jvm.MethodName)) ∈ lw_all := lw_g (lw_at lw_m12 56 rfl) rfl
theorem q3151 : (Jvm.Cond.instanceMethod ({ cls := "java/util/HashSet", name := "size", desc := "()I" } : Jvm.MethodName)) ∈ lw_all := lw_g (lw_at lw_m13 169 rfl) rfl
theorem q3152 : (Jvm.Cond.publicMethod ({ cls := "java/util/HashSet", name := "size", desc := "()I" } : Jvm.MethodName)) ∈ lw_tbl := lw_at lw_m13 170 rfl
theorem q3153 : (Jvm.Cond.code ({ cls := "java/util/HashSet", name := "size", desc := "()I" } : Jvm.MethodName) prog_75_method_7_code (1 : Nat) (Option.some Jvm.ClassFile.FieldType.int)) ∈ lw_all := lw_g (lw_at lw_m13 171 rfl) rfl
theorem q3154 : (Jvm.Cond.methodLink "java/util/HashSet" (55 : Nat) ({ cls := "java/util/HashMap", name := "size", desc := "()I" } : Jvm.MethodName)) ∈ lw_all := lw_g (lw_at lw_m13 172 rfl) rfl
theorem q3666 : (Jvm.Cond.instanceMethod ({ cls := "java/util/HashSet", name := "contains", desc := "(Ljava/lang/Object;)Z" } : Jvm.MethodName)) ∈ lw_all := lw_g (lw_at lw_m15 204 rfl) rfl
theorem q3667 : (Jvm.Cond.publicMethod ({ cls := "java/util/HashSet", name := "contains", desc := "(Ljava/lang/Object;)Z" } : Jvm.MethodName)) ∈ lw_tbl := lw_at lw_m15 205 rfl
theorem q3668 : (Jvm.Cond.code ({ cls := "java/util/HashSet", name := "contains", desc := "(Ljava/lang/Object;)Z" } : Jvm.MethodName) prog_75_method_9_code (2 : Nat) (Option.some Jvm.ClassFile.FieldType.boolean)) ∈ lw_all := lw_g (lw_at lw_m15 206 rfl) rfl
theorem q3669 : (Jvm.Cond.methodLink "java/util/HashSet" (60 : Nat) ({ cls := "java/util/HashMap", name := "containsKey", desc := "(Ljava/lang/Object;)Z" } : Jvm.MethodName)) ∈ lw_all := lw_g (lw_at lw_m15 207 rfl) rfl

set_option maxRecDepth 100000
abbrev cJ8_init : ByteArray := prog_86_method_3_code
def yJ8_init : MethodName := ⟨RJ8, "<init>", "()V"⟩
def dkwJ8_init_0 : List UInt8 := [42, 16, 16, 18, 7, 4, 183, 0, 1, 177]
abbrev dktJ8_init_0 : List UInt8 := dkwJ8_init_0 ++ []
theorem dksJ8_init_0 : cJ8_init.data.toList.drop 0 = dktJ8_init_0 := by decide +kernel
theorem dJ8_init_0 : decode cJ8_init 0 = .ok (.aload_n 0, 1) := dk_42 (dk_at dksJ8_init_0 0 rfl rfl)
theorem dJ8_init_1 : decode cJ8_init 1 = .ok (.bipush 16, 2) := dk_16 16 (dk_at dksJ8_init_0 1 rfl rfl)
theorem dJ8_init_3 : decode cJ8_init 3 = .ok (.ldc 7, 2) := dk_18 7 (dk_at dksJ8_init_0 3 rfl rfl)
theorem dJ8_init_5 : decode cJ8_init 5 = .ok (.iconst 1, 1) := dk_4 (dk_at dksJ8_init_0 5 rfl rfl)
theorem dJ8_init_6 : decode cJ8_init 6 = .ok (.invokespecial 1, 3) := dk_183 0 1 (dk_at dksJ8_init_0 6 rfl rfl)
theorem dJ8_init_9 : decode cJ8_init 9 = .ok (.return_, 1) := dk_177 (dk_at dksJ8_init_0 9 rfl rfl)
abbrev cJ8_init_2 : ByteArray := prog_86_method_4_code
def yJ8_init_2 : MethodName := ⟨RJ8, "<init>", "(Ljava/util/Collection;)V"⟩
def dkwJ8_init_2_1 : List UInt8 := [182, 0, 26, 87, 177]
abbrev dktJ8_init_2_1 : List UInt8 := dkwJ8_init_2_1 ++ []
def dkwJ8_init_2_0 : List UInt8 := [42, 43, 185, 0, 8, 1, 0, 16, 12, 184, 0, 14, 184, 0, 20, 18, 7, 4, 183, 0, 1, 42, 43]
abbrev dktJ8_init_2_0 : List UInt8 := dkwJ8_init_2_0 ++ dktJ8_init_2_1
theorem dksJ8_init_2_0 : cJ8_init_2.data.toList.drop 0 = dktJ8_init_2_0 := by decide +kernel
theorem dksJ8_init_2_1 : cJ8_init_2.data.toList.drop 23 = dktJ8_init_2_1 := dk_seg dksJ8_init_2_0 23 rfl rfl
theorem dJ8_init_2_0 : decode cJ8_init_2 0 = .ok (.aload_n 0, 1) := dk_42 (dk_at dksJ8_init_2_0 0 rfl rfl)
theorem dJ8_init_2_1 : decode cJ8_init_2 1 = .ok (.aload_n 1, 1) := dk_43 (dk_at dksJ8_init_2_0 1 rfl rfl)
theorem dJ8_init_2_2 : decode cJ8_init_2 2 = .ok (.invokeinterface 8 1, 5) := by decide +kernel
theorem dJ8_init_2_7 : decode cJ8_init_2 7 = .ok (.bipush 12, 2) := dk_16 12 (dk_at dksJ8_init_2_0 7 rfl rfl)
theorem dJ8_init_2_9 : decode cJ8_init_2 9 = .ok (.invokestatic 14, 3) := dk_184 0 14 (dk_at dksJ8_init_2_0 9 rfl rfl)
theorem dJ8_init_2_12 : decode cJ8_init_2 12 = .ok (.invokestatic 20, 3) := dk_184 0 20 (dk_at dksJ8_init_2_0 12 rfl rfl)
theorem dJ8_init_2_15 : decode cJ8_init_2 15 = .ok (.ldc 7, 2) := dk_18 7 (dk_at dksJ8_init_2_0 15 rfl rfl)
theorem dJ8_init_2_17 : decode cJ8_init_2 17 = .ok (.iconst 1, 1) := dk_4 (dk_at dksJ8_init_2_0 17 rfl rfl)
theorem dJ8_init_2_18 : decode cJ8_init_2 18 = .ok (.invokespecial 1, 3) := dk_183 0 1 (dk_at dksJ8_init_2_0 18 rfl rfl)
theorem dJ8_init_2_21 : decode cJ8_init_2 21 = .ok (.aload_n 0, 1) := dk_42 (dk_at dksJ8_init_2_0 21 rfl rfl)
theorem dJ8_init_2_22 : decode cJ8_init_2 22 = .ok (.aload_n 1, 1) := dk_43 (dk_at dksJ8_init_2_0 22 rfl rfl)
theorem dJ8_init_2_23 : decode cJ8_init_2 23 = .ok (.invokevirtual 26, 3) := dk_182 0 26 (dk_at dksJ8_init_2_1 0 rfl rfl)
theorem dJ8_init_2_26 : decode cJ8_init_2 26 = .ok (.pop, 1) := dk_87 (dk_at dksJ8_init_2_1 3 rfl rfl)
theorem dJ8_init_2_27 : decode cJ8_init_2 27 = .ok (.return_, 1) := dk_177 (dk_at dksJ8_init_2_1 4 rfl rfl)
theorem q113 : (Jvm.Cond.initialized "java/util/LinkedHashSet") ∈ lw_all := lw_g (lw_at lw_m1 11 rfl) rfl
theorem q293 : (Jvm.Cond.instantiable "java/util/LinkedHashSet" (1 : Nat)) ∈ lw_all := lw_g (lw_at lw_m1 191 rfl) rfl
theorem q295 : (Jvm.Cond.instanceMethod ({ cls := "java/util/LinkedHashSet", name := "<init>", desc := "()V" } : Jvm.MethodName)) ∈ lw_all := lw_g (lw_at lw_m1 193 rfl) rfl
theorem q296 : (Jvm.Cond.code ({ cls := "java/util/LinkedHashSet", name := "<init>", desc := "()V" } : Jvm.MethodName) prog_86_method_3_code (1 : Nat) (Option.none : Option Jvm.ClassFile.FieldType)) ∈ lw_all := lw_g (lw_at lw_m1 194 rfl) rfl
theorem q297 : (Jvm.Cond.constantFloat "java/util/LinkedHashSet" (7 : Nat) (1061158912 : UInt32)) ∈ lw_all := lw_g (lw_at lw_m1 195 rfl) rfl
theorem q298 : (Jvm.Cond.methodLink "java/util/LinkedHashSet" (1 : Nat) ({ cls := "java/util/HashSet", name := "<init>", desc := "(IFZ)V" } : Jvm.MethodName)) ∈ lw_all := lw_g (lw_at lw_m1 196 rfl) rfl
theorem q1029 : (Jvm.Cond.selects "java/util/LinkedHashSet" ({ cls := "java/lang/Object", name := "getClass", desc := "()Ljava/lang/Class;" } : Jvm.MethodName) ({ cls := "java/lang/Object", name := "getClass", desc := "()Ljava/lang/Class;" } : Jvm.MethodName)) ∈ lw_all := lw_g (lw_at lw_m4 207 rfl) rfl
theorem q1141 : (Jvm.Cond.lays "java/util/LinkedHashSet" "java/util/HashSet" "map" "Ljava/util/HashMap;") ∈ lw_all := lw_g (lw_at lw_m5 79 rfl) rfl
theorem q1143 : (Jvm.Cond.superclass "java/util/LinkedHashSet" "java/util/HashSet") ∈ lw_all := lw_g (lw_at lw_m5 81 rfl) rfl
theorem q2500 : (Jvm.Cond.castable "java/util/LinkedHashSet" "java/util/Set") ∈ lw_tbl := lw_at lw_m10 238 rfl
theorem q2501 : (Jvm.Cond.selects "java/util/LinkedHashSet" ({ cls := "java/util/Set", name := "iterator", desc := "()Ljava/util/Iterator;" } : Jvm.MethodName) ({ cls := "java/util/HashSet", name := "iterator", desc := "()Ljava/util/Iterator;" } : Jvm.MethodName)) ∈ lw_all := lw_g (lw_at lw_m10 239 rfl) rfl
theorem q2502 : (Jvm.Cond.unhidden "java/util/LinkedHashSet" "iterator" "()Ljava/util/Iterator;") ∈ lw_tbl := lw_at lw_m11 0 rfl
theorem q2791 : (Jvm.Cond.selects "java/util/LinkedHashSet" ({ cls := "java/util/Set", name := "add", desc := "(Ljava/lang/Object;)Z" } : Jvm.MethodName) ({ cls := "java/util/HashSet", name := "add", desc := "(Ljava/lang/Object;)Z" } : Jvm.MethodName)) ∈ lw_all := lw_g (lw_at lw_m12 49 rfl) rfl
theorem q2792 : (Jvm.Cond.unhidden "java/util/LinkedHashSet" "add" "(Ljava/lang/Object;)Z") ∈ lw_tbl := lw_at lw_m12 50 rfl
theorem q3109 : (Jvm.Cond.castable "java/util/LinkedHashSet" "java/util/Collection") ∈ lw_tbl := lw_at lw_m13 127 rfl
theorem q3110 : (Jvm.Cond.selects "java/util/LinkedHashSet" ({ cls := "java/util/Collection", name := "iterator", desc := "()Ljava/util/Iterator;" } : Jvm.MethodName) ({ cls := "java/util/HashSet", name := "iterator", desc := "()Ljava/util/Iterator;" } : Jvm.MethodName)) ∈ lw_all := lw_g (lw_at lw_m13 128 rfl) rfl
theorem q3119 : (Jvm.Cond.instanceMethod ({ cls := "java/util/LinkedHashSet", name := "<init>", desc := "(Ljava/util/Collection;)V" } : Jvm.MethodName)) ∈ lw_all := lw_g (lw_at lw_m13 137 rfl) rfl
theorem q3120 : (Jvm.Cond.code ({ cls := "java/util/LinkedHashSet", name := "<init>", desc := "(Ljava/util/Collection;)V" } : Jvm.MethodName) prog_86_method_4_code (2 : Nat) (Option.none : Option Jvm.ClassFile.FieldType)) ∈ lw_all := lw_g (lw_at lw_m13 138 rfl) rfl
theorem q3121 : (Jvm.Cond.interfaceEntry "java/util/LinkedHashSet" (8 : Nat)) ∈ lw_tbl := lw_at lw_m13 139 rfl
theorem q3122 : (Jvm.Cond.methodLink "java/util/LinkedHashSet" (8 : Nat) ({ cls := "java/util/Collection", name := "size", desc := "()I" } : Jvm.MethodName)) ∈ lw_all := lw_g (lw_at lw_m13 140 rfl) rfl
theorem q3149 : (Jvm.Cond.selects "java/util/LinkedHashSet" ({ cls := "java/util/Collection", name := "size", desc := "()I" } : Jvm.MethodName) ({ cls := "java/util/HashSet", name := "size", desc := "()I" } : Jvm.MethodName)) ∈ lw_all := lw_g (lw_at lw_m13 167 rfl) rfl
theorem q3150 : (Jvm.Cond.unhidden "java/util/LinkedHashSet" "size" "()I") ∈ lw_tbl := lw_at lw_m13 168 rfl
theorem q3155 : (Jvm.Cond.methodLink "java/util/LinkedHashSet" (14 : Nat) ({ cls := "java/lang/Math", name := "max", desc := "(II)I" } : Jvm.MethodName)) ∈ lw_all := lw_g (lw_at lw_m13 173 rfl) rfl
theorem q3156 : (Jvm.Cond.methodLink "java/util/LinkedHashSet" (20 : Nat) ({ cls := "java/util/HashMap", name := "calculateHashMapCapacity", desc := "(I)I" } : Jvm.MethodName)) ∈ lw_all := lw_g (lw_at lw_m13 174 rfl) rfl
theorem q3160 : (Jvm.Cond.methodLink "java/util/LinkedHashSet" (26 : Nat) ({ cls := "java/util/LinkedHashSet", name := "addAll", desc := "(Ljava/util/Collection;)Z" } : Jvm.MethodName)) ∈ lw_all := lw_g (lw_at lw_m13 178 rfl) rfl
theorem q3161 : (Jvm.Cond.sameMethod "java/util/LinkedHashSet" "java/util/AbstractCollection" "addAll" "(Ljava/util/Collection;)Z") ∈ lw_all := lw_g (lw_at lw_m13 179 rfl) rfl
theorem q3163 : (Jvm.Cond.selects "java/util/LinkedHashSet" ({ cls := "java/util/LinkedHashSet", name := "addAll", desc := "(Ljava/util/Collection;)Z" } : Jvm.MethodName) ({ cls := "java/util/AbstractCollection", name := "addAll", desc := "(Ljava/util/Collection;)Z" } : Jvm.MethodName)) ∈ lw_all := lw_g (lw_at lw_m13 181 rfl) rfl
theorem q3664 : (Jvm.Cond.selects "java/util/LinkedHashSet" ({ cls := "java/util/Set", name := "contains", desc := "(Ljava/lang/Object;)Z" } : Jvm.MethodName) ({ cls := "java/util/HashSet", name := "contains", desc := "(Ljava/lang/Object;)Z" } : Jvm.MethodName)) ∈ lw_all := lw_g (lw_at lw_m15 202 rfl) rfl
theorem q3665 : (Jvm.Cond.unhidden "java/util/LinkedHashSet" "contains" "(Ljava/lang/Object;)Z") ∈ lw_tbl := lw_at lw_m15 203 rfl
theorem q4397 : (Jvm.Cond.selects "java/util/LinkedHashSet" ({ cls := "java/util/AbstractCollection", name := "add", desc := "(Ljava/lang/Object;)Z" } : Jvm.MethodName) ({ cls := "java/util/HashSet", name := "add", desc := "(Ljava/lang/Object;)Z" } : Jvm.MethodName)) ∈ lw_all := lw_g (lw_at lw_m18 215 rfl) rfl
theorem q4410 : (Jvm.Cond.castable "java/util/LinkedHashSet" "java/util/SequencedSet") ∈ lw_tbl := lw_at lw_m18 228 rfl
theorem q4424 : (Jvm.Cond.castable "java/util/LinkedHashSet" "java/util/SequencedCollection") ∈ lw_tbl := lw_at lw_m19 2 rfl
theorem q4433 : (Jvm.Cond.castable "java/util/LinkedHashSet" "java/lang/Object") ∈ lw_tbl := lw_at lw_m19 11 rfl

set_option maxRecDepth 100000
abbrev cJ40_iterator : ByteArray := prog_80_method_4_code
def yJ40_iterator : MethodName := ⟨RJ40, "iterator", "()Ljava/util/Iterator;"⟩
def dkwJ40_iterator_0 : List UInt8 := [187, 0, 26, 89, 42, 180, 0, 1, 42, 180, 0, 13, 183, 0, 28, 176]
abbrev dktJ40_iterator_0 : List UInt8 := dkwJ40_iterator_0 ++ []
theorem dksJ40_iterator_0 : cJ40_iterator.data.toList.drop 0 = dktJ40_iterator_0 := by decide +kernel
theorem dJ40_iterator_0 : decode cJ40_iterator 0 = .ok (.new 26, 3) := dk_187 0 26 (dk_at dksJ40_iterator_0 0 rfl rfl)
theorem dJ40_iterator_3 : decode cJ40_iterator 3 = .ok (.dup, 1) := dk_89 (dk_at dksJ40_iterator_0 3 rfl rfl)
theorem dJ40_iterator_4 : decode cJ40_iterator 4 = .ok (.aload_n 0, 1) := dk_42 (dk_at dksJ40_iterator_0 4 rfl rfl)
theorem dJ40_iterator_5 : decode cJ40_iterator 5 = .ok (.getfield 1, 3) := dk_180 0 1 (dk_at dksJ40_iterator_0 5 rfl rfl)
theorem dJ40_iterator_8 : decode cJ40_iterator 8 = .ok (.aload_n 0, 1) := dk_42 (dk_at dksJ40_iterator_0 8 rfl rfl)
theorem dJ40_iterator_9 : decode cJ40_iterator 9 = .ok (.getfield 13, 3) := dk_180 0 13 (dk_at dksJ40_iterator_0 9 rfl rfl)
theorem dJ40_iterator_12 : decode cJ40_iterator 12 = .ok (.invokespecial 28, 3) := dk_183 0 28 (dk_at dksJ40_iterator_0 12 rfl rfl)
theorem dJ40_iterator_15 : decode cJ40_iterator 15 = .ok (.areturn, 1) := dk_176 (dk_at dksJ40_iterator_0 15 rfl rfl)
abbrev cJ40_init : ByteArray := prog_80_method_1_code
def yJ40_init : MethodName := ⟨RJ40, "<init>", "(Ljava/util/LinkedHashMap;Z)V"⟩
def dkwJ40_init_0 : List UInt8 := [42, 43, 181, 0, 1, 42, 183, 0, 7, 42, 28, 181, 0, 13, 177]
abbrev dktJ40_init_0 : List UInt8 := dkwJ40_init_0 ++ []
theorem dksJ40_init_0 : cJ40_init.data.toList.drop 0 = dktJ40_init_0 := by decide +kernel
theorem dJ40_init_0 : decode cJ40_init 0 = .ok (.aload_n 0, 1) := dk_42 (dk_at dksJ40_init_0 0 rfl rfl)
theorem dJ40_init_1 : decode cJ40_init 1 = .ok (.aload_n 1, 1) := dk_43 (dk_at dksJ40_init_0 1 rfl rfl)
theorem dJ40_init_2 : decode cJ40_init 2 = .ok (.putfield 1, 3) := dk_181 0 1 (dk_at dksJ40_init_0 2 rfl rfl)
theorem dJ40_init_5 : decode cJ40_init 5 = .ok (.aload_n 0, 1) := dk_42 (dk_at dksJ40_init_0 5 rfl rfl)
theorem dJ40_init_6 : decode cJ40_init 6 = .ok (.invokespecial 7, 3) := dk_183 0 7 (dk_at dksJ40_init_0 6 rfl rfl)
theorem dJ40_init_9 : decode cJ40_init 9 = .ok (.aload_n 0, 1) := dk_42 (dk_at dksJ40_init_0 9 rfl rfl)
theorem dJ40_init_10 : decode cJ40_init 10 = .ok (.iload_n 2, 1) := dk_28 (dk_at dksJ40_init_0 10 rfl rfl)
theorem dJ40_init_11 : decode cJ40_init 11 = .ok (.putfield 13, 3) := dk_181 0 13 (dk_at dksJ40_init_0 11 rfl rfl)
theorem dJ40_init_14 : decode cJ40_init 14 = .ok (.return_, 1) := dk_177 (dk_at dksJ40_init_0 14 rfl rfl)
abbrev cJ40_size : ByteArray := prog_80_method_2_code
def yJ40_size : MethodName := ⟨RJ40, "size", "()I"⟩
def dkwJ40_size_0 : List UInt8 := [42, 180, 0, 1, 180, 0, 17, 172]
abbrev dktJ40_size_0 : List UInt8 := dkwJ40_size_0 ++ []
theorem dksJ40_size_0 : cJ40_size.data.toList.drop 0 = dktJ40_size_0 := by decide +kernel
theorem dJ40_size_0 : decode cJ40_size 0 = .ok (.aload_n 0, 1) := dk_42 (dk_at dksJ40_size_0 0 rfl rfl)
theorem dJ40_size_1 : decode cJ40_size 1 = .ok (.getfield 1, 3) := dk_180 0 1 (dk_at dksJ40_size_0 1 rfl rfl)
theorem dJ40_size_4 : decode cJ40_size 4 = .ok (.getfield 17, 3) := dk_180 0 17 (dk_at dksJ40_size_0 4 rfl rfl)
theorem dJ40_size_7 : decode cJ40_size 7 = .ok (.ireturn, 1) := dk_172 (dk_at dksJ40_size_0 7 rfl rfl)
abbrev cJ40_contains : ByteArray := prog_80_method_5_code
def yJ40_contains : MethodName := ⟨RJ40, "contains", "(Ljava/lang/Object;)Z"⟩
def dkwJ40_contains_2 : List UInt8 := [4, 167, 0, 4, 3, 172]
abbrev dktJ40_contains_2 : List UInt8 := dkwJ40_contains_2 ++ []
def dkwJ40_contains_1 : List UInt8 := [42, 180, 0, 1, 45, 182, 0, 37, 58, 4, 25, 4, 198, 0, 16, 25, 4, 44, 182, 0, 41, 153, 0, 7]
abbrev dktJ40_contains_1 : List UInt8 := dkwJ40_contains_1 ++ dktJ40_contains_2
def dkwJ40_contains_0 : List UInt8 := [43, 193, 0, 31, 153, 0, 11, 43, 192, 0, 31, 77, 167, 0, 5, 3, 172, 44, 185, 0, 33, 1, 0, 78]
abbrev dktJ40_contains_0 : List UInt8 := dkwJ40_contains_0 ++ dktJ40_contains_1
theorem dksJ40_contains_0 : cJ40_contains.data.toList.drop 0 = dktJ40_contains_0 := by decide +kernel
theorem dksJ40_contains_1 : cJ40_contains.data.toList.drop 24 = dktJ40_contains_1 := dk_seg dksJ40_contains_0 24 rfl rfl
theorem dksJ40_contains_2 : cJ40_contains.data.toList.drop 48 = dktJ40_contains_2 := dk_seg dksJ40_contains_1 24 rfl rfl
theorem dJ40_contains_0 : decode cJ40_contains 0 = .ok (.aload_n 1, 1) := dk_43 (dk_at dksJ40_contains_0 0 rfl rfl)
theorem dJ40_contains_1 : decode cJ40_contains 1 = .ok (.instanceof 31, 3) := dk_193 0 31 (dk_at dksJ40_contains_0 1 rfl rfl)
theorem dJ40_contains_4 : decode cJ40_contains 4 = .ok (.ifCond .eq 11, 3) := dk_153 0 11 (dk_at dksJ40_contains_0 4 rfl rfl)
theorem dJ40_contains_7 : decode cJ40_contains 7 = .ok (.aload_n 1, 1) := dk_43 (dk_at dksJ40_contains_0 7 rfl rfl)
theorem dJ40_contains_8 : decode cJ40_contains 8 = .ok (.checkcast 31, 3) := dk_192 0 31 (dk_at dksJ40_contains_0 8 rfl rfl)
theorem dJ40_contains_11 : decode cJ40_contains 11 = .ok (.astore_n 2, 1) := dk_77 (dk_at dksJ40_contains_0 11 rfl rfl)
theorem dJ40_contains_12 : decode cJ40_contains 12 = .ok (.goto 5, 3) := dk_167 0 5 (dk_at dksJ40_contains_0 12 rfl rfl)
theorem dJ40_contains_15 : decode cJ40_contains 15 = .ok (.iconst 0, 1) := dk_3 (dk_at dksJ40_contains_0 15 rfl rfl)
theorem dJ40_contains_16 : decode cJ40_contains 16 = .ok (.ireturn, 1) := dk_172 (dk_at dksJ40_contains_0 16 rfl rfl)
theorem dJ40_contains_17 : decode cJ40_contains 17 = .ok (.aload_n 2, 1) := dk_44 (dk_at dksJ40_contains_0 17 rfl rfl)
theorem dJ40_contains_18 : decode cJ40_contains 18 = .ok (.invokeinterface 33 1, 5) := by decide +kernel
theorem dJ40_contains_23 : decode cJ40_contains 23 = .ok (.astore_n 3, 1) := dk_78 (dk_at dksJ40_contains_0 23 rfl rfl)
theorem dJ40_contains_24 : decode cJ40_contains 24 = .ok (.aload_n 0, 1) := dk_42 (dk_at dksJ40_contains_1 0 rfl rfl)
theorem dJ40_contains_25 : decode cJ40_contains 25 = .ok (.getfield 1, 3) := dk_180 0 1 (dk_at dksJ40_contains_1 1 rfl rfl)
theorem dJ40_contains_28 : decode cJ40_contains 28 = .ok (.aload_n 3, 1) := dk_45 (dk_at dksJ40_contains_1 4 rfl rfl)
theorem dJ40_contains_29 : decode cJ40_contains 29 = .ok (.invokevirtual 37, 3) := dk_182 0 37 (dk_at dksJ40_contains_1 5 rfl rfl)
theorem dJ40_contains_32 : decode cJ40_contains 32 = .ok (.astore 4, 2) := dk_58 4 (dk_at dksJ40_contains_1 8 rfl rfl)
theorem dJ40_contains_34 : decode cJ40_contains 34 = .ok (.aload 4, 2) := dk_25 4 (dk_at dksJ40_contains_1 10 rfl rfl)
theorem dJ40_contains_36 : decode cJ40_contains 36 = .ok (.ifnull 16, 3) := dk_198 0 16 (dk_at dksJ40_contains_1 12 rfl rfl)
theorem dJ40_contains_39 : decode cJ40_contains 39 = .ok (.aload 4, 2) := dk_25 4 (dk_at dksJ40_contains_1 15 rfl rfl)
theorem dJ40_contains_41 : decode cJ40_contains 41 = .ok (.aload_n 2, 1) := dk_44 (dk_at dksJ40_contains_1 17 rfl rfl)
theorem dJ40_contains_42 : decode cJ40_contains 42 = .ok (.invokevirtual 41, 3) := dk_182 0 41 (dk_at dksJ40_contains_1 18 rfl rfl)
theorem dJ40_contains_45 : decode cJ40_contains 45 = .ok (.ifCond .eq 7, 3) := dk_153 0 7 (dk_at dksJ40_contains_1 21 rfl rfl)
theorem dJ40_contains_48 : decode cJ40_contains 48 = .ok (.iconst 1, 1) := dk_4 (dk_at dksJ40_contains_2 0 rfl rfl)
theorem dJ40_contains_49 : decode cJ40_contains 49 = .ok (.goto 4, 3) := dk_167 0 4 (dk_at dksJ40_contains_2 1 rfl rfl)
theorem dJ40_contains_52 : decode cJ40_contains 52 = .ok (.iconst 0, 1) := dk_3 (dk_at dksJ40_contains_2 4 rfl rfl)
theorem dJ40_contains_53 : decode cJ40_contains 53 = .ok (.ireturn, 1) := dk_172 (dk_at dksJ40_contains_2 5 rfl rfl)
theorem q149 : (Jvm.Cond.initialized "java/util/LinkedHashMap$LinkedEntrySet") ∈ lw_all := lw_g (lw_at lw_m1 47 rfl) rfl
theorem q249 : (Jvm.Cond.fieldLink "java/util/LinkedHashMap$LinkedEntrySet" (17 : Nat) "java/util/LinkedHashMap" "size" "I") ∈ lw_all := lw_g (lw_at lw_m1 147 rfl) rfl
theorem q1024 : (Jvm.Cond.selects "java/util/LinkedHashMap$LinkedEntrySet" ({ cls := "java/lang/Object", name := "getClass", desc := "()Ljava/lang/Class;" } : Jvm.MethodName) ({ cls := "java/lang/Object", name := "getClass", desc := "()Ljava/lang/Class;" } : Jvm.MethodName)) ∈ lw_all := lw_g (lw_at lw_m4 202 rfl) rfl
theorem q2451 : (Jvm.Cond.castable "java/util/LinkedHashMap$LinkedEntrySet" "java/util/Set") ∈ lw_tbl := lw_at lw_m10 189 rfl
theorem q2452 : (Jvm.Cond.selects "java/util/LinkedHashMap$LinkedEntrySet" ({ cls := "java/util/Set", name := "iterator", desc := "()Ljava/util/Iterator;" } : Jvm.MethodName) ({ cls := "java/util/LinkedHashMap$LinkedEntrySet", name := "iterator", desc := "()Ljava/util/Iterator;" } : Jvm.MethodName)) ∈ lw_all := lw_g (lw_at lw_m10 190 rfl) rfl
theorem q2453 : (Jvm.Cond.unhidden "java/util/LinkedHashMap$LinkedEntrySet" "iterator" "()Ljava/util/Iterator;") ∈ lw_tbl := lw_at lw_m10 191 rfl
theorem q2454 : (Jvm.Cond.instanceMethod ({ cls := "java/util/LinkedHashMap$LinkedEntrySet", name := "iterator", desc := "()Ljava/util/Iterator;" } : Jvm.MethodName)) ∈ lw_all := lw_g (lw_at lw_m10 192 rfl) rfl
theorem q2455 : (Jvm.Cond.publicMethod ({ cls := "java/util/LinkedHashMap$LinkedEntrySet", name := "iterator", desc := "()Ljava/util/Iterator;" } : Jvm.MethodName)) ∈ lw_tbl := lw_at lw_m10 193 rfl
theorem q2456 : (Jvm.Cond.code ({ cls := "java/util/LinkedHashMap$LinkedEntrySet", name := "iterator", desc := "()Ljava/util/Iterator;" } : Jvm.MethodName) prog_80_method_4_code (1 : Nat) (Option.some (Jvm.ClassFile.FieldType.object "java/util/Iterator"))) ∈ lw_all := lw_g (lw_at lw_m10 194 rfl) rfl
theorem q2457 : (Jvm.Cond.classLink "java/util/LinkedHashMap$LinkedEntrySet" (26 : Nat) "java/util/LinkedHashMap$LinkedEntryIterator") ∈ lw_all := lw_g (lw_at lw_m10 195 rfl) rfl
theorem q2459 : (Jvm.Cond.methodLink "java/util/LinkedHashMap$LinkedEntrySet" (28 : Nat) ({ cls := "java/util/LinkedHashMap$LinkedEntryIterator", name := "<init>", desc := "(Ljava/util/LinkedHashMap;Z)V" } : Jvm.MethodName)) ∈ lw_all := lw_g (lw_at lw_m10 197 rfl) rfl
theorem q2787 : (Jvm.Cond.selects "java/util/LinkedHashMap$LinkedEntrySet" ({ cls := "java/util/Set", name := "add", desc := "(Ljava/lang/Object;)Z" } : Jvm.MethodName) ({ cls := "java/util/AbstractCollection", name := "add", desc := "(Ljava/lang/Object;)Z" } : Jvm.MethodName)) ∈ lw_all := lw_g (lw_at lw_m12 45 rfl) rfl
theorem q2788 : (Jvm.Cond.unhidden "java/util/LinkedHashMap$LinkedEntrySet" "add" "(Ljava/lang/Object;)Z") ∈ lw_tbl := lw_at lw_m12 46 rfl
theorem q2917 : (Jvm.Cond.instantiable "java/util/LinkedHashMap$LinkedEntrySet" (2 : Nat)) ∈ lw_all := lw_g (lw_at lw_m12 175 rfl) rfl
theorem q2919 : (Jvm.Cond.instanceMethod ({ cls := "java/util/LinkedHashMap$LinkedEntrySet", name := "<init>", desc := "(Ljava/util/LinkedHashMap;Z)V" } : Jvm.MethodName)) ∈ lw_all := lw_g (lw_at lw_m12 177 rfl) rfl
theorem q2920 : (Jvm.Cond.code ({ cls := "java/util/LinkedHashMap$LinkedEntrySet", name := "<init>", desc := "(Ljava/util/LinkedHashMap;Z)V" } : Jvm.MethodName) prog_80_method_1_code (3 : Nat) (Option.none : Option Jvm.ClassFile.FieldType)) ∈ lw_all := lw_g (lw_at lw_m12 178 rfl) rfl
theorem q2921 : (Jvm.Cond.methodLink "java/util/LinkedHashMap$LinkedEntrySet" (7 : Nat) ({ cls := "java/util/AbstractSet", name := "<init>", desc := "()V" } : Jvm.MethodName)) ∈ lw_all := lw_g (lw_at lw_m12 179 rfl) rfl
theorem q2922 : (Jvm.Cond.fieldLink "java/util/LinkedHashMap$LinkedEntrySet" (13 : Nat) "java/util/LinkedHashMap$LinkedEntrySet" "reversed" "Z") ∈ lw_all := lw_g (lw_at lw_m12 180 rfl) rfl
theorem q2923 : (Jvm.Cond.fieldLink "java/util/LinkedHashMap$LinkedEntrySet" (1 : Nat) "java/util/LinkedHashMap$LinkedEntrySet" "this$0" "Ljava/util/LinkedHashMap;") ∈ lw_all := lw_g (lw_at lw_m12 181 rfl) rfl
theorem q2924 : (Jvm.Cond.laysFinal "java/util/LinkedHashMap$LinkedEntrySet" "java/util/LinkedHashMap$LinkedEntrySet" "reversed" "Z") ∈ lw_all := lw_g (lw_at lw_m12 182 rfl) rfl
theorem q2925 : (Jvm.Cond.soleField "java/util/LinkedHashMap$LinkedEntrySet" "reversed") ∈ lw_all := lw_g (lw_at lw_m12 183 rfl) rfl
theorem q2926 : (Jvm.Cond.laysFinal "java/util/LinkedHashMap$LinkedEntrySet" "java/util/LinkedHashMap$LinkedEntrySet" "this$0" "Ljava/util/LinkedHashMap;") ∈ lw_all := lw_g (lw_at lw_m12 184 rfl) rfl
theorem q2927 : (Jvm.Cond.soleField "java/util/LinkedHashMap$LinkedEntrySet" "this$0") ∈ lw_all := lw_g (lw_at lw_m12 185 rfl) rfl
theorem q2928 : (Jvm.Cond.superclass "java/util/LinkedHashMap$LinkedEntrySet" "java/util/AbstractSet") ∈ lw_all := lw_g (lw_at lw_m12 186 rfl) rfl
theorem q3087 : (Jvm.Cond.castable "java/util/LinkedHashMap$LinkedEntrySet" "java/util/Collection") ∈ lw_tbl := lw_at lw_m13 105 rfl
theorem q3088 : (Jvm.Cond.selects "java/util/LinkedHashMap$LinkedEntrySet" ({ cls := "java/util/Collection", name := "iterator", desc := "()Ljava/util/Iterator;" } : Jvm.MethodName) ({ cls := "java/util/LinkedHashMap$LinkedEntrySet", name := "iterator", desc := "()Ljava/util/Iterator;" } : Jvm.MethodName)) ∈ lw_all := lw_g (lw_at lw_m13 106 rfl) rfl
theorem q3134 : (Jvm.Cond.selects "java/util/LinkedHashMap$LinkedEntrySet" ({ cls := "java/util/Collection", name := "size", desc := "()I" } : Jvm.MethodName) ({ cls := "java/util/LinkedHashMap$LinkedEntrySet", name := "size", desc := "()I" } : Jvm.MethodName)) ∈ lw_all := lw_g (lw_at lw_m13 152 rfl) rfl
theorem q3135 : (Jvm.Cond.unhidden "java/util/LinkedHashMap$LinkedEntrySet" "size" "()I") ∈ lw_tbl := lw_at lw_m13 153 rfl
theorem q3136 : (Jvm.Cond.instanceMethod ({ cls := "java/util/LinkedHashMap$LinkedEntrySet", name := "size", desc := "()I" } : Jvm.MethodName)) ∈ lw_all := lw_g (lw_at lw_m13 154 rfl) rfl
theorem q3137 : (Jvm.Cond.publicMethod ({ cls := "java/util/LinkedHashMap$LinkedEntrySet", name := "size", desc := "()I" } : Jvm.MethodName)) ∈ lw_tbl := lw_at lw_m13 155 rfl
theorem q3138 : (Jvm.Cond.code ({ cls := "java/util/LinkedHashMap$LinkedEntrySet", name := "size", desc := "()I" } : Jvm.MethodName) prog_80_method_2_code (1 : Nat) (Option.some Jvm.ClassFile.FieldType.int)) ∈ lw_all := lw_g (lw_at lw_m13 156 rfl) rfl
theorem q3630 : (Jvm.Cond.selects "java/util/LinkedHashMap$LinkedEntrySet" ({ cls := "java/util/Set", name := "contains", desc := "(Ljava/lang/Object;)Z" } : Jvm.MethodName) ({ cls := "java/util/LinkedHashMap$LinkedEntrySet", name := "contains", desc := "(Ljava/lang/Object;)Z" } : Jvm.MethodName)) ∈ lw_all := lw_g (lw_at lw_m15 168 rfl) rfl
theorem q3631 : (Jvm.Cond.unhidden "java/util/LinkedHashMap$LinkedEntrySet" "contains" "(Ljava/lang/Object;)Z") ∈ lw_tbl := lw_at lw_m15 169 rfl
theorem q3632 : (Jvm.Cond.instanceMethod ({ cls := "java/util/LinkedHashMap$LinkedEntrySet", name := "contains", desc := "(Ljava/lang/Object;)Z" } : Jvm.MethodName)) ∈ lw_all := lw_g (lw_at lw_m15 170 rfl) rfl
theorem q3633 : (Jvm.Cond.publicMethod ({ cls := "java/util/LinkedHashMap$LinkedEntrySet", name := "contains", desc := "(Ljava/lang/Object;)Z" } : Jvm.MethodName)) ∈ lw_tbl := lw_at lw_m15 171 rfl
theorem q3634 : (Jvm.Cond.code ({ cls := "java/util/LinkedHashMap$LinkedEntrySet", name := "contains", desc := "(Ljava/lang/Object;)Z" } : Jvm.MethodName) prog_80_method_5_code (5 : Nat) (Option.some Jvm.ClassFile.FieldType.boolean)) ∈ lw_all := lw_g (lw_at lw_m15 172 rfl) rfl
theorem q3635 : (Jvm.Cond.classLink "java/util/LinkedHashMap$LinkedEntrySet" (31 : Nat) "java/util/Map$Entry") ∈ lw_all := lw_g (lw_at lw_m15 173 rfl) rfl
theorem q3636 : (Jvm.Cond.interfaceEntry "java/util/LinkedHashMap$LinkedEntrySet" (33 : Nat)) ∈ lw_tbl := lw_at lw_m15 174 rfl
theorem q3637 : (Jvm.Cond.methodLink "java/util/LinkedHashMap$LinkedEntrySet" (33 : Nat) ({ cls := "java/util/Map$Entry", name := "getKey", desc := "()Ljava/lang/Object;" } : Jvm.MethodName)) ∈ lw_all := lw_g (lw_at lw_m15 175 rfl) rfl
theorem q3638 : (Jvm.Cond.methodLink "java/util/LinkedHashMap$LinkedEntrySet" (37 : Nat) ({ cls := "java/util/LinkedHashMap", name := "getNode", desc := "(Ljava/lang/Object;)Ljava/util/HashMap$Node;" } : Jvm.MethodName)) ∈ lw_all := lw_g (lw_at lw_m15 176 rfl) rfl
theorem q3639 : (Jvm.Cond.methodLink "java/util/LinkedHashMap$LinkedEntrySet" (41 : Nat) ({ cls := "java/util/HashMap$Node", name := "equals", desc := "(Ljava/lang/Object;)Z" } : Jvm.MethodName)) ∈ lw_all := lw_g (lw_at lw_m15 177 rfl) rfl
theorem q4394 : (Jvm.Cond.selects "java/util/LinkedHashMap$LinkedEntrySet" ({ cls := "java/util/AbstractCollection", name := "add", desc := "(Ljava/lang/Object;)Z" } : Jvm.MethodName) ({ cls := "java/util/AbstractCollection", name := "add", desc := "(Ljava/lang/Object;)Z" } : Jvm.MethodName)) ∈ lw_all := lw_g (lw_at lw_m18 212 rfl) rfl
theorem q4408 : (Jvm.Cond.castable "java/util/LinkedHashMap$LinkedEntrySet" "java/util/SequencedSet") ∈ lw_tbl := lw_at lw_m18 226 rfl
theorem q4421 : (Jvm.Cond.castable "java/util/LinkedHashMap$LinkedEntrySet" "java/util/SequencedCollection") ∈ lw_tbl := lw_at lw_m18 239 rfl
theorem q4447 : (Jvm.Cond.castable "java/util/LinkedHashMap$LinkedEntrySet" "java/lang/Object") ∈ lw_tbl := lw_at lw_m19 25 rfl

set_option maxRecDepth 100000
abbrev cJ43_init : ByteArray := prog_81_method_1_code
def yJ43_init : MethodName := ⟨RJ43, "<init>", "(Ljava/util/LinkedHashMap;Z)V"⟩
def dkwJ43_init_1 : List UInt8 := [167, 0, 7, 43, 180, 0, 23, 181, 0, 26, 42, 43, 180, 0, 29, 181, 0, 33, 42, 1, 181, 0, 36, 177]
abbrev dktJ43_init_1 : List UInt8 := dkwJ43_init_1 ++ []
def dkwJ43_init_0 : List UInt8 := [42, 43, 181, 0, 1, 42, 183, 0, 7, 42, 28, 181, 0, 13, 42, 28, 153, 0, 10, 43, 180, 0, 17]
abbrev dktJ43_init_0 : List UInt8 := dkwJ43_init_0 ++ dktJ43_init_1
theorem dksJ43_init_0 : cJ43_init.data.toList.drop 0 = dktJ43_init_0 := by decide +kernel
theorem dksJ43_init_1 : cJ43_init.data.toList.drop 23 = dktJ43_init_1 := dk_seg dksJ43_init_0 23 rfl rfl
theorem dJ43_init_0 : decode cJ43_init 0 = .ok (.aload_n 0, 1) := dk_42 (dk_at dksJ43_init_0 0 rfl rfl)
theorem dJ43_init_1 : decode cJ43_init 1 = .ok (.aload_n 1, 1) := dk_43 (dk_at dksJ43_init_0 1 rfl rfl)
theorem dJ43_init_2 : decode cJ43_init 2 = .ok (.putfield 1, 3) := dk_181 0 1 (dk_at dksJ43_init_0 2 rfl rfl)
theorem dJ43_init_5 : decode cJ43_init 5 = .ok (.aload_n 0, 1) := dk_42 (dk_at dksJ43_init_0 5 rfl rfl)
theorem dJ43_init_6 : decode cJ43_init 6 = .ok (.invokespecial 7, 3) := dk_183 0 7 (dk_at dksJ43_init_0 6 rfl rfl)
theorem dJ43_init_9 : decode cJ43_init 9 = .ok (.aload_n 0, 1) := dk_42 (dk_at dksJ43_init_0 9 rfl rfl)
theorem dJ43_init_10 : decode cJ43_init 10 = .ok (.iload_n 2, 1) := dk_28 (dk_at dksJ43_init_0 10 rfl rfl)
theorem dJ43_init_11 : decode cJ43_init 11 = .ok (.putfield 13, 3) := dk_181 0 13 (dk_at dksJ43_init_0 11 rfl rfl)
theorem dJ43_init_14 : decode cJ43_init 14 = .ok (.aload_n 0, 1) := dk_42 (dk_at dksJ43_init_0 14 rfl rfl)
theorem dJ43_init_15 : decode cJ43_init 15 = .ok (.iload_n 2, 1) := dk_28 (dk_at dksJ43_init_0 15 rfl rfl)
theorem dJ43_init_16 : decode cJ43_init 16 = .ok (.ifCond .eq 10, 3) := dk_153 0 10 (dk_at dksJ43_init_0 16 rfl rfl)
theorem dJ43_init_19 : decode cJ43_init 19 = .ok (.aload_n 1, 1) := dk_43 (dk_at dksJ43_init_0 19 rfl rfl)
theorem dJ43_init_20 : decode cJ43_init 20 = .ok (.getfield 17, 3) := dk_180 0 17 (dk_at dksJ43_init_0 20 rfl rfl)
theorem dJ43_init_23 : decode cJ43_init 23 = .ok (.goto 7, 3) := dk_167 0 7 (dk_at dksJ43_init_1 0 rfl rfl)
theorem dJ43_init_26 : decode cJ43_init 26 = .ok (.aload_n 1, 1) := dk_43 (dk_at dksJ43_init_1 3 rfl rfl)
theorem dJ43_init_27 : decode cJ43_init 27 = .ok (.getfield 23, 3) := dk_180 0 23 (dk_at dksJ43_init_1 4 rfl rfl)
theorem dJ43_init_30 : decode cJ43_init 30 = .ok (.putfield 26, 3) := dk_181 0 26 (dk_at dksJ43_init_1 7 rfl rfl)
theorem dJ43_init_33 : decode cJ43_init 33 = .ok (.aload_n 0, 1) := dk_42 (dk_at dksJ43_init_1 10 rfl rfl)
theorem dJ43_init_34 : decode cJ43_init 34 = .ok (.aload_n 1, 1) := dk_43 (dk_at dksJ43_init_1 11 rfl rfl)
theorem dJ43_init_35 : decode cJ43_init 35 = .ok (.getfield 29, 3) := dk_180 0 29 (dk_at dksJ43_init_1 12 rfl rfl)
theorem dJ43_init_38 : decode cJ43_init 38 = .ok (.putfield 33, 3) := dk_181 0 33 (dk_at dksJ43_init_1 15 rfl rfl)
theorem dJ43_init_41 : decode cJ43_init 41 = .ok (.aload_n 0, 1) := dk_42 (dk_at dksJ43_init_1 18 rfl rfl)
theorem dJ43_init_42 : decode cJ43_init 42 = .ok (.aconst_null, 1) := dk_1 (dk_at dksJ43_init_1 19 rfl rfl)
theorem dJ43_init_43 : decode cJ43_init 43 = .ok (.putfield 36, 3) := dk_181 0 36 (dk_at dksJ43_init_1 20 rfl rfl)
theorem dJ43_init_46 : decode cJ43_init 46 = .ok (.return_, 1) := dk_177 (dk_at dksJ43_init_1 23 rfl rfl)
abbrev cJ43_hasNext : ByteArray := prog_81_method_2_code
def yJ43_hasNext : MethodName := ⟨RJ43, "hasNext", "()Z"⟩
def dkwJ43_hasNext_0 : List UInt8 := [42, 180, 0, 26, 198, 0, 7, 4, 167, 0, 4, 3, 172]
abbrev dktJ43_hasNext_0 : List UInt8 := dkwJ43_hasNext_0 ++ []
theorem dksJ43_hasNext_0 : cJ43_hasNext.data.toList.drop 0 = dktJ43_hasNext_0 := by decide +kernel
theorem dJ43_hasNext_0 : decode cJ43_hasNext 0 = .ok (.aload_n 0, 1) := dk_42 (dk_at dksJ43_hasNext_0 0 rfl rfl)
theorem dJ43_hasNext_1 : decode cJ43_hasNext 1 = .ok (.getfield 26, 3) := dk_180 0 26 (dk_at dksJ43_hasNext_0 1 rfl rfl)
theorem dJ43_hasNext_4 : decode cJ43_hasNext 4 = .ok (.ifnull 7, 3) := dk_198 0 7 (dk_at dksJ43_hasNext_0 4 rfl rfl)
theorem dJ43_hasNext_7 : decode cJ43_hasNext 7 = .ok (.iconst 1, 1) := dk_4 (dk_at dksJ43_hasNext_0 7 rfl rfl)
theorem dJ43_hasNext_8 : decode cJ43_hasNext 8 = .ok (.goto 4, 3) := dk_167 0 4 (dk_at dksJ43_hasNext_0 8 rfl rfl)
theorem dJ43_hasNext_11 : decode cJ43_hasNext 11 = .ok (.iconst 0, 1) := dk_3 (dk_at dksJ43_hasNext_0 11 rfl rfl)
theorem dJ43_hasNext_12 : decode cJ43_hasNext 12 = .ok (.ireturn, 1) := dk_172 (dk_at dksJ43_hasNext_0 12 rfl rfl)
abbrev cJ43_nextNode : ByteArray := prog_81_method_3_code
def yJ43_nextNode : MethodName := ⟨RJ43, "nextNode", "()Ljava/util/LinkedHashMap$Entry;"⟩
def dkwJ43_nextNode_2 : List UInt8 := [180, 0, 13, 153, 0, 10, 43, 180, 0, 45, 167, 0, 7, 43, 180, 0, 50, 181, 0, 26, 43, 176]
abbrev dktJ43_nextNode_2 : List UInt8 := dkwJ43_nextNode_2 ++ []
def dkwJ43_nextNode_1 : List UInt8 := [183, 0, 41, 191, 43, 199, 0, 11, 187, 0, 42, 89, 183, 0, 44, 191, 42, 43, 181, 0, 36, 42, 42]
abbrev dktJ43_nextNode_1 : List UInt8 := dkwJ43_nextNode_1 ++ dktJ43_nextNode_2
def dkwJ43_nextNode_0 : List UInt8 := [42, 180, 0, 26, 76, 42, 180, 0, 1, 180, 0, 29, 42, 180, 0, 33, 159, 0, 11, 187, 0, 39, 89]
abbrev dktJ43_nextNode_0 : List UInt8 := dkwJ43_nextNode_0 ++ dktJ43_nextNode_1
theorem dksJ43_nextNode_0 : cJ43_nextNode.data.toList.drop 0 = dktJ43_nextNode_0 := by decide +kernel
theorem dksJ43_nextNode_1 : cJ43_nextNode.data.toList.drop 23 = dktJ43_nextNode_1 := dk_seg dksJ43_nextNode_0 23 rfl rfl
theorem dksJ43_nextNode_2 : cJ43_nextNode.data.toList.drop 46 = dktJ43_nextNode_2 := dk_seg dksJ43_nextNode_1 23 rfl rfl
theorem dJ43_nextNode_0 : decode cJ43_nextNode 0 = .ok (.aload_n 0, 1) := dk_42 (dk_at dksJ43_nextNode_0 0 rfl rfl)
theorem dJ43_nextNode_1 : decode cJ43_nextNode 1 = .ok (.getfield 26, 3) := dk_180 0 26 (dk_at dksJ43_nextNode_0 1 rfl rfl)
theorem dJ43_nextNode_4 : decode cJ43_nextNode 4 = .ok (.astore_n 1, 1) := dk_76 (dk_at dksJ43_nextNode_0 4 rfl rfl)
theorem dJ43_nextNode_5 : decode cJ43_nextNode 5 = .ok (.aload_n 0, 1) := dk_42 (dk_at dksJ43_nextNode_0 5 rfl rfl)
theorem dJ43_nextNode_6 : decode cJ43_nextNode 6 = .ok (.getfield 1, 3) := dk_180 0 1 (dk_at dksJ43_nextNode_0 6 rfl rfl)
theorem dJ43_nextNode_9 : decode cJ43_nextNode 9 = .ok (.getfield 29, 3) := dk_180 0 29 (dk_at dksJ43_nextNode_0 9 rfl rfl)
theorem dJ43_nextNode_12 : decode cJ43_nextNode 12 = .ok (.aload_n 0, 1) := dk_42 (dk_at dksJ43_nextNode_0 12 rfl rfl)
theorem dJ43_nextNode_13 : decode cJ43_nextNode 13 = .ok (.getfield 33, 3) := dk_180 0 33 (dk_at dksJ43_nextNode_0 13 rfl rfl)
theorem dJ43_nextNode_16 : decode cJ43_nextNode 16 = .ok (.if_icmp .eq 11, 3) := dk_159 0 11 (dk_at dksJ43_nextNode_0 16 rfl rfl)
theorem dJ43_nextNode_19 : decode cJ43_nextNode 19 = .ok (.new 39, 3) := dk_187 0 39 (dk_at dksJ43_nextNode_0 19 rfl rfl)
theorem dJ43_nextNode_22 : decode cJ43_nextNode 22 = .ok (.dup, 1) := dk_89 (dk_at dksJ43_nextNode_0 22 rfl rfl)
theorem dJ43_nextNode_23 : decode cJ43_nextNode 23 = .ok (.invokespecial 41, 3) := dk_183 0 41 (dk_at dksJ43_nextNode_1 0 rfl rfl)
theorem dJ43_nextNode_26 : decode cJ43_nextNode 26 = .ok (.athrow, 1) := dk_191 (dk_at dksJ43_nextNode_1 3 rfl rfl)
theorem dJ43_nextNode_27 : decode cJ43_nextNode 27 = .ok (.aload_n 1, 1) := dk_43 (dk_at dksJ43_nextNode_1 4 rfl rfl)
theorem dJ43_nextNode_28 : decode cJ43_nextNode 28 = .ok (.ifnonnull 11, 3) := dk_199 0 11 (dk_at dksJ43_nextNode_1 5 rfl rfl)
theorem dJ43_nextNode_31 : decode cJ43_nextNode 31 = .ok (.new 42, 3) := dk_187 0 42 (dk_at dksJ43_nextNode_1 8 rfl rfl)
theorem dJ43_nextNode_34 : decode cJ43_nextNode 34 = .ok (.dup, 1) := dk_89 (dk_at dksJ43_nextNode_1 11 rfl rfl)
theorem dJ43_nextNode_35 : decode cJ43_nextNode 35 = .ok (.invokespecial 44, 3) := dk_183 0 44 (dk_at dksJ43_nextNode_1 12 rfl rfl)
theorem dJ43_nextNode_38 : decode cJ43_nextNode 38 = .ok (.athrow, 1) := dk_191 (dk_at dksJ43_nextNode_1 15 rfl rfl)
theorem dJ43_nextNode_39 : decode cJ43_nextNode 39 = .ok (.aload_n 0, 1) := dk_42 (dk_at dksJ43_nextNode_1 16 rfl rfl)
theorem dJ43_nextNode_40 : decode cJ43_nextNode 40 = .ok (.aload_n 1, 1) := dk_43 (dk_at dksJ43_nextNode_1 17 rfl rfl)
theorem dJ43_nextNode_41 : decode cJ43_nextNode 41 = .ok (.putfield 36, 3) := dk_181 0 36 (dk_at dksJ43_nextNode_1 18 rfl rfl)
theorem dJ43_nextNode_44 : decode cJ43_nextNode 44 = .ok (.aload_n 0, 1) := dk_42 (dk_at dksJ43_nextNode_1 21 rfl rfl)
theorem dJ43_nextNode_45 : decode cJ43_nextNode 45 = .ok (.aload_n 0, 1) := dk_42 (dk_at dksJ43_nextNode_1 22 rfl rfl)
theorem dJ43_nextNode_46 : decode cJ43_nextNode 46 = .ok (.getfield 13, 3) := dk_180 0 13 (dk_at dksJ43_nextNode_2 0 rfl rfl)
theorem dJ43_nextNode_49 : decode cJ43_nextNode 49 = .ok (.ifCond .eq 10, 3) := dk_153 0 10 (dk_at dksJ43_nextNode_2 3 rfl rfl)
theorem dJ43_nextNode_52 : decode cJ43_nextNode 52 = .ok (.aload_n 1, 1) := dk_43 (dk_at dksJ43_nextNode_2 6 rfl rfl)
theorem dJ43_nextNode_53 : decode cJ43_nextNode 53 = .ok (.getfield 45, 3) := dk_180 0 45 (dk_at dksJ43_nextNode_2 7 rfl rfl)
theorem dJ43_nextNode_56 : decode cJ43_nextNode 56 = .ok (.goto 7, 3) := dk_167 0 7 (dk_at dksJ43_nextNode_2 10 rfl rfl)
theorem dJ43_nextNode_59 : decode cJ43_nextNode 59 = .ok (.aload_n 1, 1) := dk_43 (dk_at dksJ43_nextNode_2 13 rfl rfl)
theorem dJ43_nextNode_60 : decode cJ43_nextNode 60 = .ok (.getfield 50, 3) := dk_180 0 50 (dk_at dksJ43_nextNode_2 14 rfl rfl)
theorem dJ43_nextNode_63 : decode cJ43_nextNode 63 = .ok (.putfield 26, 3) := dk_181 0 26 (dk_at dksJ43_nextNode_2 17 rfl rfl)
theorem dJ43_nextNode_66 : decode cJ43_nextNode 66 = .ok (.aload_n 1, 1) := dk_43 (dk_at dksJ43_nextNode_2 20 rfl rfl)
theorem dJ43_nextNode_67 : decode cJ43_nextNode 67 = .ok (.areturn, 1) := dk_176 (dk_at dksJ43_nextNode_2 21 rfl rfl)
theorem q152 : (Jvm.Cond.initialized "java/util/LinkedHashMap$LinkedHashIterator") ∈ lw_all := lw_g (lw_at lw_m1 50 rfl) rfl
theorem q238 : (Jvm.Cond.fieldLink "java/util/LinkedHashMap$LinkedHashIterator" (23 : Nat) "java/util/LinkedHashMap" "head" "Ljava/util/LinkedHashMap$Entry;") ∈ lw_all := lw_g (lw_at lw_m1 136 rfl) rfl
theorem q239 : (Jvm.Cond.fieldLink "java/util/LinkedHashMap$LinkedHashIterator" (17 : Nat) "java/util/LinkedHashMap" "tail" "Ljava/util/LinkedHashMap$Entry;") ∈ lw_all := lw_g (lw_at lw_m1 137 rfl) rfl
theorem q255 : (Jvm.Cond.fieldLink "java/util/LinkedHashMap$LinkedHashIterator" (29 : Nat) "java/util/LinkedHashMap" "modCount" "I") ∈ lw_all := lw_g (lw_at lw_m1 153 rfl) rfl
theorem q1848 : (Jvm.Cond.fieldLink "java/util/LinkedHashMap$LinkedHashIterator" (45 : Nat) "java/util/LinkedHashMap$Entry" "before" "Ljava/util/LinkedHashMap$Entry;") ∈ lw_all := lw_g (lw_at lw_m8 66 rfl) rfl
theorem q1850 : (Jvm.Cond.fieldLink "java/util/LinkedHashMap$LinkedHashIterator" (50 : Nat) "java/util/LinkedHashMap$Entry" "after" "Ljava/util/LinkedHashMap$Entry;") ∈ lw_all := lw_g (lw_at lw_m8 68 rfl) rfl
theorem q2463 : (Jvm.Cond.instanceMethod ({ cls := "java/util/LinkedHashMap$LinkedHashIterator", name := "<init>", desc := "(Ljava/util/LinkedHashMap;Z)V" } : Jvm.MethodName)) ∈ lw_all := lw_g (lw_at lw_m10 201 rfl) rfl
theorem q2464 : (Jvm.Cond.code ({ cls := "java/util/LinkedHashMap$LinkedHashIterator", name := "<init>", desc := "(Ljava/util/LinkedHashMap;Z)V" } : Jvm.MethodName) prog_81_method_1_code (3 : Nat) (Option.none : Option Jvm.ClassFile.FieldType)) ∈ lw_all := lw_g (lw_at lw_m10 202 rfl) rfl
theorem q2465 : (Jvm.Cond.methodLink "java/util/LinkedHashMap$LinkedHashIterator" (7 : Nat) ({ cls := "java/lang/Object", name := "<init>", desc := "()V" } : Jvm.MethodName)) ∈ lw_all := lw_g (lw_at lw_m10 203 rfl) rfl
theorem q2466 : (Jvm.Cond.fieldLink "java/util/LinkedHashMap$LinkedHashIterator" (26 : Nat) "java/util/LinkedHashMap$LinkedHashIterator" "next" "Ljava/util/LinkedHashMap$Entry;") ∈ lw_all := lw_g (lw_at lw_m10 204 rfl) rfl
theorem q2467 : (Jvm.Cond.fieldLink "java/util/LinkedHashMap$LinkedHashIterator" (36 : Nat) "java/util/LinkedHashMap$LinkedHashIterator" "current" "Ljava/util/LinkedHashMap$Entry;") ∈ lw_all := lw_g (lw_at lw_m10 205 rfl) rfl
theorem q2468 : (Jvm.Cond.fieldLink "java/util/LinkedHashMap$LinkedHashIterator" (33 : Nat) "java/util/LinkedHashMap$LinkedHashIterator" "expectedModCount" "I") ∈ lw_all := lw_g (lw_at lw_m10 206 rfl) rfl
theorem q2469 : (Jvm.Cond.fieldLink "java/util/LinkedHashMap$LinkedHashIterator" (13 : Nat) "java/util/LinkedHashMap$LinkedHashIterator" "reversed" "Z") ∈ lw_all := lw_g (lw_at lw_m10 207 rfl) rfl
theorem q2470 : (Jvm.Cond.fieldLink "java/util/LinkedHashMap$LinkedHashIterator" (1 : Nat) "java/util/LinkedHashMap$LinkedHashIterator" "this$0" "Ljava/util/LinkedHashMap;") ∈ lw_all := lw_g (lw_at lw_m10 208 rfl) rfl
theorem q2472 : (Jvm.Cond.soleField "java/util/LinkedHashMap$LinkedHashIterator" "next") ∈ lw_all := lw_g (lw_at lw_m10 210 rfl) rfl
theorem q2474 : (Jvm.Cond.soleField "java/util/LinkedHashMap$LinkedHashIterator" "current") ∈ lw_all := lw_g (lw_at lw_m10 212 rfl) rfl
theorem q2476 : (Jvm.Cond.soleField "java/util/LinkedHashMap$LinkedHashIterator" "expectedModCount") ∈ lw_all := lw_g (lw_at lw_m10 214 rfl) rfl
theorem q2478 : (Jvm.Cond.soleField "java/util/LinkedHashMap$LinkedHashIterator" "reversed") ∈ lw_all := lw_g (lw_at lw_m10 216 rfl) rfl
theorem q2480 : (Jvm.Cond.soleField "java/util/LinkedHashMap$LinkedHashIterator" "this$0") ∈ lw_all := lw_g (lw_at lw_m10 218 rfl) rfl
theorem q2538 : (Jvm.Cond.instanceMethod ({ cls := "java/util/LinkedHashMap$LinkedHashIterator", name := "hasNext", desc := "()Z" } : Jvm.MethodName)) ∈ lw_all := lw_g (lw_at lw_m11 36 rfl) rfl
theorem q2539 : (Jvm.Cond.publicMethod ({ cls := "java/util/LinkedHashMap$LinkedHashIterator", name := "hasNext", desc := "()Z" } : Jvm.MethodName)) ∈ lw_tbl := lw_at lw_m11 37 rfl
theorem q2540 : (Jvm.Cond.code ({ cls := "java/util/LinkedHashMap$LinkedHashIterator", name := "hasNext", desc := "()Z" } : Jvm.MethodName) prog_81_method_2_code (1 : Nat) (Option.some Jvm.ClassFile.FieldType.boolean)) ∈ lw_all := lw_g (lw_at lw_m11 38 rfl) rfl
theorem q2593 : (Jvm.Cond.declares ({ cls := "java/util/LinkedHashMap$LinkedHashIterator", name := "nextNode", desc := "()Ljava/util/LinkedHashMap$Entry;" } : Jvm.MethodName)) ∈ lw_tbl := lw_at lw_m11 91 rfl
theorem q2595 : (Jvm.Cond.instanceMethod ({ cls := "java/util/LinkedHashMap$LinkedHashIterator", name := "nextNode", desc := "()Ljava/util/LinkedHashMap$Entry;" } : Jvm.MethodName)) ∈ lw_all := lw_g (lw_at lw_m11 93 rfl) rfl
theorem q2596 : (Jvm.Cond.code ({ cls := "java/util/LinkedHashMap$LinkedHashIterator", name := "nextNode", desc := "()Ljava/util/LinkedHashMap$Entry;" } : Jvm.MethodName) prog_81_method_3_code (2 : Nat) (Option.some (Jvm.ClassFile.FieldType.object "java/util/LinkedHashMap$Entry"))) ∈ lw_all := lw_g (lw_at lw_m11 94 rfl) rfl

set_option maxRecDepth 100000
abbrev cJ44_init : ByteArray := prog_79_method_1_code
def yJ44_init : MethodName := ⟨RJ44, "<init>", "(Ljava/util/LinkedHashMap;Z)V"⟩
def dkwJ44_init_0 : List UInt8 := [42, 43, 28, 183, 0, 1, 177]
abbrev dktJ44_init_0 : List UInt8 := dkwJ44_init_0 ++ []
theorem dksJ44_init_0 : cJ44_init.data.toList.drop 0 = dktJ44_init_0 := by decide +kernel
theorem dJ44_init_0 : decode cJ44_init 0 = .ok (.aload_n 0, 1) := dk_42 (dk_at dksJ44_init_0 0 rfl rfl)
theorem dJ44_init_1 : decode cJ44_init 1 = .ok (.aload_n 1, 1) := dk_43 (dk_at dksJ44_init_0 1 rfl rfl)
theorem dJ44_init_2 : decode cJ44_init 2 = .ok (.iload_n 2, 1) := dk_28 (dk_at dksJ44_init_0 2 rfl rfl)
theorem dJ44_init_3 : decode cJ44_init 3 = .ok (.invokespecial 1, 3) := dk_183 0 1 (dk_at dksJ44_init_0 3 rfl rfl)
theorem dJ44_init_6 : decode cJ44_init 6 = .ok (.return_, 1) := dk_177 (dk_at dksJ44_init_0 6 rfl rfl)
abbrev cJ44_next : ByteArray := prog_79_method_3_code
def yJ44_next : MethodName := ⟨RJ44, "next", "()Ljava/lang/Object;"⟩
theorem dJ44_next_0 : decode cJ44_next 0 = .ok (.aload_n 0, 1) := by decide +kernel
theorem dJ44_next_1 : decode cJ44_next 1 = .ok (.invokevirtual 13, 3) := by decide +kernel
theorem dJ44_next_4 : decode cJ44_next 4 = .ok (.areturn, 1) := by decide +kernel
abbrev cJ44_next_2 : ByteArray := prog_79_method_2_code
def yJ44_next_2 : MethodName := ⟨RJ44, "next", "()Ljava/util/Map$Entry;"⟩
theorem dJ44_next_2_0 : decode cJ44_next_2 0 = .ok (.aload_n 0, 1) := by decide +kernel
theorem dJ44_next_2_1 : decode cJ44_next_2 1 = .ok (.invokevirtual 7, 3) := by decide +kernel
theorem dJ44_next_2_4 : decode cJ44_next_2 4 = .ok (.areturn, 1) := by decide +kernel
theorem q153 : (Jvm.Cond.initialized "java/util/LinkedHashMap$LinkedEntryIterator") ∈ lw_all := lw_g (lw_at lw_m1 51 rfl) rfl
theorem q1023 : (Jvm.Cond.selects "java/util/LinkedHashMap$LinkedEntryIterator" ({ cls := "java/lang/Object", name := "getClass", desc := "()Ljava/lang/Class;" } : Jvm.MethodName) ({ cls := "java/lang/Object", name := "getClass", desc := "()Ljava/lang/Class;" } : Jvm.MethodName)) ∈ lw_all := lw_g (lw_at lw_m4 201 rfl) rfl
theorem q2458 : (Jvm.Cond.instantiable "java/util/LinkedHashMap$LinkedEntryIterator" (5 : Nat)) ∈ lw_all := lw_g (lw_at lw_m10 196 rfl) rfl
theorem q2460 : (Jvm.Cond.instanceMethod ({ cls := "java/util/LinkedHashMap$LinkedEntryIterator", name := "<init>", desc := "(Ljava/util/LinkedHashMap;Z)V" } : Jvm.MethodName)) ∈ lw_all := lw_g (lw_at lw_m10 198 rfl) rfl
theorem q2461 : (Jvm.Cond.code ({ cls := "java/util/LinkedHashMap$LinkedEntryIterator", name := "<init>", desc := "(Ljava/util/LinkedHashMap;Z)V" } : Jvm.MethodName) prog_79_method_1_code (3 : Nat) (Option.none : Option Jvm.ClassFile.FieldType)) ∈ lw_all := lw_g (lw_at lw_m10 199 rfl) rfl
theorem q2462 : (Jvm.Cond.methodLink "java/util/LinkedHashMap$LinkedEntryIterator" (1 : Nat) ({ cls := "java/util/LinkedHashMap$LinkedHashIterator", name := "<init>", desc := "(Ljava/util/LinkedHashMap;Z)V" } : Jvm.MethodName)) ∈ lw_all := lw_g (lw_at lw_m10 200 rfl) rfl
theorem q2471 : (Jvm.Cond.lays "java/util/LinkedHashMap$LinkedEntryIterator" "java/util/LinkedHashMap$LinkedHashIterator" "next" "Ljava/util/LinkedHashMap$Entry;") ∈ lw_all := lw_g (lw_at lw_m10 209 rfl) rfl
theorem q2473 : (Jvm.Cond.lays "java/util/LinkedHashMap$LinkedEntryIterator" "java/util/LinkedHashMap$LinkedHashIterator" "current" "Ljava/util/LinkedHashMap$Entry;") ∈ lw_all := lw_g (lw_at lw_m10 211 rfl) rfl
theorem q2475 : (Jvm.Cond.lays "java/util/LinkedHashMap$LinkedEntryIterator" "java/util/LinkedHashMap$LinkedHashIterator" "expectedModCount" "I") ∈ lw_all := lw_g (lw_at lw_m10 213 rfl) rfl
theorem q2477 : (Jvm.Cond.lays "java/util/LinkedHashMap$LinkedEntryIterator" "java/util/LinkedHashMap$LinkedHashIterator" "reversed" "Z") ∈ lw_all := lw_g (lw_at lw_m10 215 rfl) rfl
theorem q2479 : (Jvm.Cond.laysFinal "java/util/LinkedHashMap$LinkedEntryIterator" "java/util/LinkedHashMap$LinkedHashIterator" "this$0" "Ljava/util/LinkedHashMap;") ∈ lw_all := lw_g (lw_at lw_m10 217 rfl) rfl
theorem q2481 : (Jvm.Cond.superclass "java/util/LinkedHashMap$LinkedEntryIterator" "java/util/LinkedHashMap$LinkedHashIterator") ∈ lw_all := lw_g (lw_at lw_m10 219 rfl) rfl
theorem q2535 : (Jvm.Cond.castable "java/util/LinkedHashMap$LinkedEntryIterator" "java/util/Iterator") ∈ lw_tbl := lw_at lw_m11 33 rfl
theorem q2536 : (Jvm.Cond.selects "java/util/LinkedHashMap$LinkedEntryIterator" ({ cls := "java/util/Iterator", name := "hasNext", desc := "()Z" } : Jvm.MethodName) ({ cls := "java/util/LinkedHashMap$LinkedHashIterator", name := "hasNext", desc := "()Z" } : Jvm.MethodName)) ∈ lw_all := lw_g (lw_at lw_m11 34 rfl) rfl
theorem q2537 : (Jvm.Cond.unhidden "java/util/LinkedHashMap$LinkedEntryIterator" "hasNext" "()Z") ∈ lw_tbl := lw_at lw_m11 35 rfl
theorem q2582 : (Jvm.Cond.selects "java/util/LinkedHashMap$LinkedEntryIterator" ({ cls := "java/util/Iterator", name := "next", desc := "()Ljava/lang/Object;" } : Jvm.MethodName) ({ cls := "java/util/LinkedHashMap$LinkedEntryIterator", name := "next", desc := "()Ljava/lang/Object;" } : Jvm.MethodName)) ∈ lw_all := lw_g (lw_at lw_m11 80 rfl) rfl
theorem q2583 : (Jvm.Cond.unhidden "java/util/LinkedHashMap$LinkedEntryIterator" "next" "()Ljava/lang/Object;") ∈ lw_tbl := lw_at lw_m11 81 rfl
theorem q2584 : (Jvm.Cond.instanceMethod ({ cls := "java/util/LinkedHashMap$LinkedEntryIterator", name := "next", desc := "()Ljava/lang/Object;" } : Jvm.MethodName)) ∈ lw_all := lw_g (lw_at lw_m11 82 rfl) rfl
theorem q2585 : (Jvm.Cond.publicMethod ({ cls := "java/util/LinkedHashMap$LinkedEntryIterator", name := "next", desc := "()Ljava/lang/Object;" } : Jvm.MethodName)) ∈ lw_tbl := lw_at lw_m11 83 rfl
theorem q2586 : (Jvm.Cond.code ({ cls := "java/util/LinkedHashMap$LinkedEntryIterator", name := "next", desc := "()Ljava/lang/Object;" } : Jvm.MethodName) prog_79_method_3_code (1 : Nat) (Option.some (Jvm.ClassFile.FieldType.object "java/lang/Object"))) ∈ lw_all := lw_g (lw_at lw_m11 84 rfl) rfl
theorem q2587 : (Jvm.Cond.methodLink "java/util/LinkedHashMap$LinkedEntryIterator" (13 : Nat) ({ cls := "java/util/LinkedHashMap$LinkedEntryIterator", name := "next", desc := "()Ljava/util/Map$Entry;" } : Jvm.MethodName)) ∈ lw_all := lw_g (lw_at lw_m11 85 rfl) rfl
theorem q2588 : (Jvm.Cond.instanceMethod ({ cls := "java/util/LinkedHashMap$LinkedEntryIterator", name := "next", desc := "()Ljava/util/Map$Entry;" } : Jvm.MethodName)) ∈ lw_all := lw_g (lw_at lw_m11 86 rfl) rfl
theorem q2589 : (Jvm.Cond.selects "java/util/LinkedHashMap$LinkedEntryIterator" ({ cls := "java/util/LinkedHashMap$LinkedEntryIterator", name := "next", desc := "()Ljava/util/Map$Entry;" } : Jvm.MethodName) ({ cls := "java/util/LinkedHashMap$LinkedEntryIterator", name := "next", desc := "()Ljava/util/Map$Entry;" } : Jvm.MethodName)) ∈ lw_all := lw_g (lw_at lw_m11 87 rfl) rfl
theorem q2590 : (Jvm.Cond.code ({ cls := "java/util/LinkedHashMap$LinkedEntryIterator", name := "next", desc := "()Ljava/util/Map$Entry;" } : Jvm.MethodName) prog_79_method_2_code (1 : Nat) (Option.some (Jvm.ClassFile.FieldType.object "java/util/Map$Entry"))) ∈ lw_all := lw_g (lw_at lw_m11 88 rfl) rfl
theorem q2591 : (Jvm.Cond.methodLink "java/util/LinkedHashMap$LinkedEntryIterator" (7 : Nat) ({ cls := "java/util/LinkedHashMap$LinkedEntryIterator", name := "nextNode", desc := "()Ljava/util/LinkedHashMap$Entry;" } : Jvm.MethodName)) ∈ lw_all := lw_g (lw_at lw_m11 89 rfl) rfl
theorem q2592 : (Jvm.Cond.sameMethod "java/util/LinkedHashMap$LinkedEntryIterator" "java/util/LinkedHashMap$LinkedHashIterator" "nextNode" "()Ljava/util/LinkedHashMap$Entry;") ∈ lw_all := lw_g (lw_at lw_m11 90 rfl) rfl
theorem q2594 : (Jvm.Cond.selects "java/util/LinkedHashMap$LinkedEntryIterator" ({ cls := "java/util/LinkedHashMap$LinkedEntryIterator", name := "nextNode", desc := "()Ljava/util/LinkedHashMap$Entry;" } : Jvm.MethodName) ({ cls := "java/util/LinkedHashMap$LinkedHashIterator", name := "nextNode", desc := "()Ljava/util/LinkedHashMap$Entry;" } : Jvm.MethodName)) ∈ lw_all := lw_g (lw_at lw_m11 92 rfl) rfl
theorem q4448 : (Jvm.Cond.castable "java/util/LinkedHashMap$LinkedEntryIterator" "java/lang/Object") ∈ lw_tbl := lw_at lw_m19 26 rfl

set_option maxRecDepth 100000
abbrev cJ45_init : ByteArray := prog_82_method_1_code
def yJ45_init : MethodName := ⟨RJ45, "<init>", "(Ljava/util/LinkedHashMap;Z)V"⟩
def dkwJ45_init_0 : List UInt8 := [42, 43, 28, 183, 0, 1, 177]
abbrev dktJ45_init_0 : List UInt8 := dkwJ45_init_0 ++ []
theorem dksJ45_init_0 : cJ45_init.data.toList.drop 0 = dktJ45_init_0 := by decide +kernel
theorem dJ45_init_0 : decode cJ45_init 0 = .ok (.aload_n 0, 1) := dk_42 (dk_at dksJ45_init_0 0 rfl rfl)
theorem dJ45_init_1 : decode cJ45_init 1 = .ok (.aload_n 1, 1) := dk_43 (dk_at dksJ45_init_0 1 rfl rfl)
theorem dJ45_init_2 : decode cJ45_init 2 = .ok (.iload_n 2, 1) := dk_28 (dk_at dksJ45_init_0 2 rfl rfl)
theorem dJ45_init_3 : decode cJ45_init 3 = .ok (.invokespecial 1, 3) := dk_183 0 1 (dk_at dksJ45_init_0 3 rfl rfl)
theorem dJ45_init_6 : decode cJ45_init 6 = .ok (.return_, 1) := dk_177 (dk_at dksJ45_init_0 6 rfl rfl)
abbrev cJ45_next : ByteArray := prog_82_method_2_code
def yJ45_next : MethodName := ⟨RJ45, "next", "()Ljava/lang/Object;"⟩
def dkwJ45_next_0 : List UInt8 := [42, 182, 0, 7, 182, 0, 13, 176]
abbrev dktJ45_next_0 : List UInt8 := dkwJ45_next_0 ++ []
theorem dksJ45_next_0 : cJ45_next.data.toList.drop 0 = dktJ45_next_0 := by decide +kernel
theorem dJ45_next_0 : decode cJ45_next 0 = .ok (.aload_n 0, 1) := dk_42 (dk_at dksJ45_next_0 0 rfl rfl)
theorem dJ45_next_1 : decode cJ45_next 1 = .ok (.invokevirtual 7, 3) := dk_182 0 7 (dk_at dksJ45_next_0 1 rfl rfl)
theorem dJ45_next_4 : decode cJ45_next 4 = .ok (.invokevirtual 13, 3) := dk_182 0 13 (dk_at dksJ45_next_0 4 rfl rfl)
theorem dJ45_next_7 : decode cJ45_next 7 = .ok (.areturn, 1) := dk_176 (dk_at dksJ45_next_0 7 rfl rfl)
theorem q154 : (Jvm.Cond.initialized "java/util/LinkedHashMap$LinkedKeyIterator") ∈ lw_all := lw_g (lw_at lw_m1 52 rfl) rfl
theorem q1025 : (Jvm.Cond.selects "java/util/LinkedHashMap$LinkedKeyIterator" ({ cls := "java/lang/Object", name := "getClass", desc := "()Ljava/lang/Class;" } : Jvm.MethodName) ({ cls := "java/lang/Object", name := "getClass", desc := "()Ljava/lang/Class;" } : Jvm.MethodName)) ∈ lw_all := lw_g (lw_at lw_m4 203 rfl) rfl
theorem q2489 : (Jvm.Cond.instantiable "java/util/LinkedHashMap$LinkedKeyIterator" (5 : Nat)) ∈ lw_all := lw_g (lw_at lw_m10 227 rfl) rfl
theorem q2491 : (Jvm.Cond.instanceMethod ({ cls := "java/util/LinkedHashMap$LinkedKeyIterator", name := "<init>", desc := "(Ljava/util/LinkedHashMap;Z)V" } : Jvm.MethodName)) ∈ lw_all := lw_g (lw_at lw_m10 229 rfl) rfl
theorem q2492 : (Jvm.Cond.code ({ cls := "java/util/LinkedHashMap$LinkedKeyIterator", name := "<init>", desc := "(Ljava/util/LinkedHashMap;Z)V" } : Jvm.MethodName) prog_82_method_1_code (3 : Nat) (Option.none : Option Jvm.ClassFile.FieldType)) ∈ lw_all := lw_g (lw_at lw_m10 230 rfl) rfl
theorem q2493 : (Jvm.Cond.methodLink "java/util/LinkedHashMap$LinkedKeyIterator" (1 : Nat) ({ cls := "java/util/LinkedHashMap$LinkedHashIterator", name := "<init>", desc := "(Ljava/util/LinkedHashMap;Z)V" } : Jvm.MethodName)) ∈ lw_all := lw_g (lw_at lw_m10 231 rfl) rfl
theorem q2494 : (Jvm.Cond.lays "java/util/LinkedHashMap$LinkedKeyIterator" "java/util/LinkedHashMap$LinkedHashIterator" "next" "Ljava/util/LinkedHashMap$Entry;") ∈ lw_all := lw_g (lw_at lw_m10 232 rfl) rfl
theorem q2495 : (Jvm.Cond.lays "java/util/LinkedHashMap$LinkedKeyIterator" "java/util/LinkedHashMap$LinkedHashIterator" "current" "Ljava/util/LinkedHashMap$Entry;") ∈ lw_all := lw_g (lw_at lw_m10 233 rfl) rfl
theorem q2496 : (Jvm.Cond.lays "java/util/LinkedHashMap$LinkedKeyIterator" "java/util/LinkedHashMap$LinkedHashIterator" "expectedModCount" "I") ∈ lw_all := lw_g (lw_at lw_m10 234 rfl) rfl
theorem q2497 : (Jvm.Cond.lays "java/util/LinkedHashMap$LinkedKeyIterator" "java/util/LinkedHashMap$LinkedHashIterator" "reversed" "Z") ∈ lw_all := lw_g (lw_at lw_m10 235 rfl) rfl
theorem q2498 : (Jvm.Cond.laysFinal "java/util/LinkedHashMap$LinkedKeyIterator" "java/util/LinkedHashMap$LinkedHashIterator" "this$0" "Ljava/util/LinkedHashMap;") ∈ lw_all := lw_g (lw_at lw_m10 236 rfl) rfl
theorem q2499 : (Jvm.Cond.superclass "java/util/LinkedHashMap$LinkedKeyIterator" "java/util/LinkedHashMap$LinkedHashIterator") ∈ lw_all := lw_g (lw_at lw_m10 237 rfl) rfl
theorem q2541 : (Jvm.Cond.castable "java/util/LinkedHashMap$LinkedKeyIterator" "java/util/Iterator") ∈ lw_tbl := lw_at lw_m11 39 rfl
theorem q2542 : (Jvm.Cond.selects "java/util/LinkedHashMap$LinkedKeyIterator" ({ cls := "java/util/Iterator", name := "hasNext", desc := "()Z" } : Jvm.MethodName) ({ cls := "java/util/LinkedHashMap$LinkedHashIterator", name := "hasNext", desc := "()Z" } : Jvm.MethodName)) ∈ lw_all := lw_g (lw_at lw_m11 40 rfl) rfl
theorem q2543 : (Jvm.Cond.unhidden "java/util/LinkedHashMap$LinkedKeyIterator" "hasNext" "()Z") ∈ lw_tbl := lw_at lw_m11 41 rfl
theorem q2597 : (Jvm.Cond.selects "java/util/LinkedHashMap$LinkedKeyIterator" ({ cls := "java/util/Iterator", name := "next", desc := "()Ljava/lang/Object;" } : Jvm.MethodName) ({ cls := "java/util/LinkedHashMap$LinkedKeyIterator", name := "next", desc := "()Ljava/lang/Object;" } : Jvm.MethodName)) ∈ lw_all := lw_g (lw_at lw_m11 95 rfl) rfl
theorem q2598 : (Jvm.Cond.unhidden "java/util/LinkedHashMap$LinkedKeyIterator" "next" "()Ljava/lang/Object;") ∈ lw_tbl := lw_at lw_m11 96 rfl
theorem q2599 : (Jvm.Cond.instanceMethod ({ cls := "java/util/LinkedHashMap$LinkedKeyIterator", name := "next", desc := "()Ljava/lang/Object;" } : Jvm.MethodName)) ∈ lw_all := lw_g (lw_at lw_m11 97 rfl) rfl
theorem q2600 : (Jvm.Cond.publicMethod ({ cls := "java/util/LinkedHashMap$LinkedKeyIterator", name := "next", desc := "()Ljava/lang/Object;" } : Jvm.MethodName)) ∈ lw_tbl := lw_at lw_m11 98 rfl
theorem q2601 : (Jvm.Cond.code ({ cls := "java/util/LinkedHashMap$LinkedKeyIterator", name := "next", desc := "()Ljava/lang/Object;" } : Jvm.MethodName) prog_82_method_2_code (1 : Nat) (Option.some (Jvm.ClassFile.FieldType.object "java/lang/Object"))) ∈ lw_all := lw_g (lw_at lw_m11 99 rfl) rfl
theorem q2602 : (Jvm.Cond.methodLink "java/util/LinkedHashMap$LinkedKeyIterator" (7 : Nat) ({ cls := "java/util/LinkedHashMap$LinkedKeyIterator", name := "nextNode", desc := "()Ljava/util/LinkedHashMap$Entry;" } : Jvm.MethodName)) ∈ lw_all := lw_g (lw_at lw_m11 100 rfl) rfl
theorem q2603 : (Jvm.Cond.sameMethod "java/util/LinkedHashMap$LinkedKeyIterator" "java/util/LinkedHashMap$LinkedHashIterator" "nextNode" "()Ljava/util/LinkedHashMap$Entry;") ∈ lw_all := lw_g (lw_at lw_m11 101 rfl) rfl
theorem q2604 : (Jvm.Cond.selects "java/util/LinkedHashMap$LinkedKeyIterator" ({ cls := "java/util/LinkedHashMap$LinkedKeyIterator", name := "nextNode", desc := "()Ljava/util/LinkedHashMap$Entry;" } : Jvm.MethodName) ({ cls := "java/util/LinkedHashMap$LinkedHashIterator", name := "nextNode", desc := "()Ljava/util/LinkedHashMap$Entry;" } : Jvm.MethodName)) ∈ lw_all := lw_g (lw_at lw_m11 102 rfl) rfl
theorem q2605 : (Jvm.Cond.methodLink "java/util/LinkedHashMap$LinkedKeyIterator" (13 : Nat) ({ cls := "java/util/LinkedHashMap$Entry", name := "getKey", desc := "()Ljava/lang/Object;" } : Jvm.MethodName)) ∈ lw_all := lw_g (lw_at lw_m11 103 rfl) rfl
theorem q4452 : (Jvm.Cond.castable "java/util/LinkedHashMap$LinkedKeyIterator" "java/lang/Object") ∈ lw_tbl := lw_at lw_m19 30 rfl

set_option maxRecDepth 100000
abbrev cJ47_init : ByteArray := prog_83_method_1_code
def yJ47_init : MethodName := ⟨RJ47, "<init>", "(Ljava/util/LinkedHashMap;Z)V"⟩
def dkwJ47_init_0 : List UInt8 := [42, 43, 181, 0, 1, 42, 183, 0, 7, 42, 28, 181, 0, 13, 177]
abbrev dktJ47_init_0 : List UInt8 := dkwJ47_init_0 ++ []
theorem dksJ47_init_0 : cJ47_init.data.toList.drop 0 = dktJ47_init_0 := by decide +kernel
theorem dJ47_init_0 : decode cJ47_init 0 = .ok (.aload_n 0, 1) := dk_42 (dk_at dksJ47_init_0 0 rfl rfl)
theorem dJ47_init_1 : decode cJ47_init 1 = .ok (.aload_n 1, 1) := dk_43 (dk_at dksJ47_init_0 1 rfl rfl)
theorem dJ47_init_2 : decode cJ47_init 2 = .ok (.putfield 1, 3) := dk_181 0 1 (dk_at dksJ47_init_0 2 rfl rfl)
theorem dJ47_init_5 : decode cJ47_init 5 = .ok (.aload_n 0, 1) := dk_42 (dk_at dksJ47_init_0 5 rfl rfl)
theorem dJ47_init_6 : decode cJ47_init 6 = .ok (.invokespecial 7, 3) := dk_183 0 7 (dk_at dksJ47_init_0 6 rfl rfl)
theorem dJ47_init_9 : decode cJ47_init 9 = .ok (.aload_n 0, 1) := dk_42 (dk_at dksJ47_init_0 9 rfl rfl)
theorem dJ47_init_10 : decode cJ47_init 10 = .ok (.iload_n 2, 1) := dk_28 (dk_at dksJ47_init_0 10 rfl rfl)
theorem dJ47_init_11 : decode cJ47_init 11 = .ok (.putfield 13, 3) := dk_181 0 13 (dk_at dksJ47_init_0 11 rfl rfl)
theorem dJ47_init_14 : decode cJ47_init 14 = .ok (.return_, 1) := dk_177 (dk_at dksJ47_init_0 14 rfl rfl)
abbrev cJ47_iterator : ByteArray := prog_83_method_4_code
def yJ47_iterator : MethodName := ⟨RJ47, "iterator", "()Ljava/util/Iterator;"⟩
def dkwJ47_iterator_0 : List UInt8 := [187, 0, 26, 89, 42, 180, 0, 1, 42, 180, 0, 13, 183, 0, 28, 176]
abbrev dktJ47_iterator_0 : List UInt8 := dkwJ47_iterator_0 ++ []
theorem dksJ47_iterator_0 : cJ47_iterator.data.toList.drop 0 = dktJ47_iterator_0 := by decide +kernel
theorem dJ47_iterator_0 : decode cJ47_iterator 0 = .ok (.new 26, 3) := dk_187 0 26 (dk_at dksJ47_iterator_0 0 rfl rfl)
theorem dJ47_iterator_3 : decode cJ47_iterator 3 = .ok (.dup, 1) := dk_89 (dk_at dksJ47_iterator_0 3 rfl rfl)
theorem dJ47_iterator_4 : decode cJ47_iterator 4 = .ok (.aload_n 0, 1) := dk_42 (dk_at dksJ47_iterator_0 4 rfl rfl)
theorem dJ47_iterator_5 : decode cJ47_iterator 5 = .ok (.getfield 1, 3) := dk_180 0 1 (dk_at dksJ47_iterator_0 5 rfl rfl)
theorem dJ47_iterator_8 : decode cJ47_iterator 8 = .ok (.aload_n 0, 1) := dk_42 (dk_at dksJ47_iterator_0 8 rfl rfl)
theorem dJ47_iterator_9 : decode cJ47_iterator 9 = .ok (.getfield 13, 3) := dk_180 0 13 (dk_at dksJ47_iterator_0 9 rfl rfl)
theorem dJ47_iterator_12 : decode cJ47_iterator 12 = .ok (.invokespecial 28, 3) := dk_183 0 28 (dk_at dksJ47_iterator_0 12 rfl rfl)
theorem dJ47_iterator_15 : decode cJ47_iterator 15 = .ok (.areturn, 1) := dk_176 (dk_at dksJ47_iterator_0 15 rfl rfl)
abbrev cJ47_size : ByteArray := prog_83_method_2_code
def yJ47_size : MethodName := ⟨RJ47, "size", "()I"⟩
def dkwJ47_size_0 : List UInt8 := [42, 180, 0, 1, 180, 0, 17, 172]
abbrev dktJ47_size_0 : List UInt8 := dkwJ47_size_0 ++ []
theorem dksJ47_size_0 : cJ47_size.data.toList.drop 0 = dktJ47_size_0 := by decide +kernel
theorem dJ47_size_0 : decode cJ47_size 0 = .ok (.aload_n 0, 1) := dk_42 (dk_at dksJ47_size_0 0 rfl rfl)
theorem dJ47_size_1 : decode cJ47_size 1 = .ok (.getfield 1, 3) := dk_180 0 1 (dk_at dksJ47_size_0 1 rfl rfl)
theorem dJ47_size_4 : decode cJ47_size 4 = .ok (.getfield 17, 3) := dk_180 0 17 (dk_at dksJ47_size_0 4 rfl rfl)
theorem dJ47_size_7 : decode cJ47_size 7 = .ok (.ireturn, 1) := dk_172 (dk_at dksJ47_size_0 7 rfl rfl)
abbrev cJ47_contains : ByteArray := prog_83_method_5_code
def yJ47_contains : MethodName := ⟨RJ47, "contains", "(Ljava/lang/Object;)Z"⟩
def dkwJ47_contains_0 : List UInt8 := [42, 180, 0, 1, 43, 182, 0, 31, 172]
abbrev dktJ47_contains_0 : List UInt8 := dkwJ47_contains_0 ++ []
theorem dksJ47_contains_0 : cJ47_contains.data.toList.drop 0 = dktJ47_contains_0 := by decide +kernel
theorem dJ47_contains_0 : decode cJ47_contains 0 = .ok (.aload_n 0, 1) := dk_42 (dk_at dksJ47_contains_0 0 rfl rfl)
theorem dJ47_contains_1 : decode cJ47_contains 1 = .ok (.getfield 1, 3) := dk_180 0 1 (dk_at dksJ47_contains_0 1 rfl rfl)
theorem dJ47_contains_4 : decode cJ47_contains 4 = .ok (.aload_n 1, 1) := dk_43 (dk_at dksJ47_contains_0 4 rfl rfl)
theorem dJ47_contains_5 : decode cJ47_contains 5 = .ok (.invokevirtual 31, 3) := dk_182 0 31 (dk_at dksJ47_contains_0 5 rfl rfl)
theorem dJ47_contains_8 : decode cJ47_contains 8 = .ok (.ireturn, 1) := dk_172 (dk_at dksJ47_contains_0 8 rfl rfl)
theorem q156 : (Jvm.Cond.initialized "java/util/LinkedHashMap$LinkedKeySet") ∈ lw_all := lw_g (lw_at lw_m1 54 rfl) rfl
theorem q251 : (Jvm.Cond.fieldLink "java/util/LinkedHashMap$LinkedKeySet" (17 : Nat) "java/util/LinkedHashMap" "size" "I") ∈ lw_all := lw_g (lw_at lw_m1 149 rfl) rfl
theorem q1026 : (Jvm.Cond.selects "java/util/LinkedHashMap$LinkedKeySet" ({ cls := "java/lang/Object", name := "getClass", desc := "()Ljava/lang/Class;" } : Jvm.MethodName) ({ cls := "java/lang/Object", name := "getClass", desc := "()Ljava/lang/Class;" } : Jvm.MethodName)) ∈ lw_all := lw_g (lw_at lw_m4 204 rfl) rfl
theorem q2403 : (Jvm.Cond.instantiable "java/util/LinkedHashMap$LinkedKeySet" (2 : Nat)) ∈ lw_all := lw_g (lw_at lw_m10 141 rfl) rfl
theorem q2405 : (Jvm.Cond.instanceMethod ({ cls := "java/util/LinkedHashMap$LinkedKeySet", name := "<init>", desc := "(Ljava/util/LinkedHashMap;Z)V" } : Jvm.MethodName)) ∈ lw_all := lw_g (lw_at lw_m10 143 rfl) rfl
theorem q2406 : (Jvm.Cond.code ({ cls := "java/util/LinkedHashMap$LinkedKeySet", name := "<init>", desc := "(Ljava/util/LinkedHashMap;Z)V" } : Jvm.MethodName) prog_83_method_1_code (3 : Nat) (Option.none : Option Jvm.ClassFile.FieldType)) ∈ lw_all := lw_g (lw_at lw_m10 144 rfl) rfl
theorem q2407 : (Jvm.Cond.methodLink "java/util/LinkedHashMap$LinkedKeySet" (7 : Nat) ({ cls := "java/util/AbstractSet", name := "<init>", desc := "()V" } : Jvm.MethodName)) ∈ lw_all := lw_g (lw_at lw_m10 145 rfl) rfl
theorem q2408 : (Jvm.Cond.fieldLink "java/util/LinkedHashMap$LinkedKeySet" (13 : Nat) "java/util/LinkedHashMap$LinkedKeySet" "reversed" "Z") ∈ lw_all := lw_g (lw_at lw_m10 146 rfl) rfl
theorem q2409 : (Jvm.Cond.fieldLink "java/util/LinkedHashMap$LinkedKeySet" (1 : Nat) "java/util/LinkedHashMap$LinkedKeySet" "this$0" "Ljava/util/LinkedHashMap;") ∈ lw_all := lw_g (lw_at lw_m10 147 rfl) rfl
theorem q2410 : (Jvm.Cond.laysFinal "java/util/LinkedHashMap$LinkedKeySet" "java/util/LinkedHashMap$LinkedKeySet" "reversed" "Z") ∈ lw_all := lw_g (lw_at lw_m10 148 rfl) rfl
theorem q2411 : (Jvm.Cond.soleField "java/util/LinkedHashMap$LinkedKeySet" "reversed") ∈ lw_all := lw_g (lw_at lw_m10 149 rfl) rfl
theorem q2412 : (Jvm.Cond.laysFinal "java/util/LinkedHashMap$LinkedKeySet" "java/util/LinkedHashMap$LinkedKeySet" "this$0" "Ljava/util/LinkedHashMap;") ∈ lw_all := lw_g (lw_at lw_m10 150 rfl) rfl
theorem q2413 : (Jvm.Cond.soleField "java/util/LinkedHashMap$LinkedKeySet" "this$0") ∈ lw_all := lw_g (lw_at lw_m10 151 rfl) rfl
theorem q2414 : (Jvm.Cond.superclass "java/util/LinkedHashMap$LinkedKeySet" "java/util/AbstractSet") ∈ lw_all := lw_g (lw_at lw_m10 152 rfl) rfl
theorem q2482 : (Jvm.Cond.castable "java/util/LinkedHashMap$LinkedKeySet" "java/util/Set") ∈ lw_tbl := lw_at lw_m10 220 rfl
theorem q2483 : (Jvm.Cond.selects "java/util/LinkedHashMap$LinkedKeySet" ({ cls := "java/util/Set", name := "iterator", desc := "()Ljava/util/Iterator;" } : Jvm.MethodName) ({ cls := "java/util/LinkedHashMap$LinkedKeySet", name := "iterator", desc := "()Ljava/util/Iterator;" } : Jvm.MethodName)) ∈ lw_all := lw_g (lw_at lw_m10 221 rfl) rfl
theorem q2484 : (Jvm.Cond.unhidden "java/util/LinkedHashMap$LinkedKeySet" "iterator" "()Ljava/util/Iterator;") ∈ lw_tbl := lw_at lw_m10 222 rfl
theorem q2485 : (Jvm.Cond.instanceMethod ({ cls := "java/util/LinkedHashMap$LinkedKeySet", name := "iterator", desc := "()Ljava/util/Iterator;" } : Jvm.MethodName)) ∈ lw_all := lw_g (lw_at lw_m10 223 rfl) rfl
theorem q2486 : (Jvm.Cond.publicMethod ({ cls := "java/util/LinkedHashMap$LinkedKeySet", name := "iterator", desc := "()Ljava/util/Iterator;" } : Jvm.MethodName)) ∈ lw_tbl := lw_at lw_m10 224 rfl
theorem q2487 : (Jvm.Cond.code ({ cls := "java/util/LinkedHashMap$LinkedKeySet", name := "iterator", desc := "()Ljava/util/Iterator;" } : Jvm.MethodName) prog_83_method_4_code (1 : Nat) (Option.some (Jvm.ClassFile.FieldType.object "java/util/Iterator"))) ∈ lw_all := lw_g (lw_at lw_m10 225 rfl) rfl
theorem q2488 : (Jvm.Cond.classLink "java/util/LinkedHashMap$LinkedKeySet" (26 : Nat) "java/util/LinkedHashMap$LinkedKeyIterator") ∈ lw_all := lw_g (lw_at lw_m10 226 rfl) rfl
theorem q2490 : (Jvm.Cond.methodLink "java/util/LinkedHashMap$LinkedKeySet" (28 : Nat) ({ cls := "java/util/LinkedHashMap$LinkedKeyIterator", name := "<init>", desc := "(Ljava/util/LinkedHashMap;Z)V" } : Jvm.MethodName)) ∈ lw_all := lw_g (lw_at lw_m10 228 rfl) rfl
theorem q2789 : (Jvm.Cond.selects "java/util/LinkedHashMap$LinkedKeySet" ({ cls := "java/util/Set", name := "add", desc := "(Ljava/lang/Object;)Z" } : Jvm.MethodName) ({ cls := "java/util/AbstractCollection", name := "add", desc := "(Ljava/lang/Object;)Z" } : Jvm.MethodName)) ∈ lw_all := lw_g (lw_at lw_m12 47 rfl) rfl
theorem q2790 : (Jvm.Cond.unhidden "java/util/LinkedHashMap$LinkedKeySet" "add" "(Ljava/lang/Object;)Z") ∈ lw_tbl := lw_at lw_m12 48 rfl
theorem q3089 : (Jvm.Cond.castable "java/util/LinkedHashMap$LinkedKeySet" "java/util/Collection") ∈ lw_tbl := lw_at lw_m13 107 rfl
theorem q3090 : (Jvm.Cond.selects "java/util/LinkedHashMap$LinkedKeySet" ({ cls := "java/util/Collection", name := "iterator", desc := "()Ljava/util/Iterator;" } : Jvm.MethodName) ({ cls := "java/util/LinkedHashMap$LinkedKeySet", name := "iterator", desc := "()Ljava/util/Iterator;" } : Jvm.MethodName)) ∈ lw_all := lw_g (lw_at lw_m13 108 rfl) rfl
theorem q3139 : (Jvm.Cond.selects "java/util/LinkedHashMap$LinkedKeySet" ({ cls := "java/util/Collection", name := "size", desc := "()I" } : Jvm.MethodName) ({ cls := "java/util/LinkedHashMap$LinkedKeySet", name := "size", desc := "()I" } : Jvm.MethodName)) ∈ lw_all := lw_g (lw_at lw_m13 157 rfl) rfl
theorem q3140 : (Jvm.Cond.unhidden "java/util/LinkedHashMap$LinkedKeySet" "size" "()I") ∈ lw_tbl := lw_at lw_m13 158 rfl
theorem q3141 : (Jvm.Cond.instanceMethod ({ cls := "java/util/LinkedHashMap$LinkedKeySet", name := "size", desc := "()I" } : Jvm.MethodName)) ∈ lw_all := lw_g (lw_at lw_m13 159 rfl) rfl
theorem q3142 : (Jvm.Cond.publicMethod ({ cls := "java/util/LinkedHashMap$LinkedKeySet", name := "size", desc := "()I" } : Jvm.MethodName)) ∈ lw_tbl := lw_at lw_m13 160 rfl
theorem q3143 : (Jvm.Cond.code ({ cls := "java/util/LinkedHashMap$LinkedKeySet", name := "size", desc := "()I" } : Jvm.MethodName) prog_83_method_2_code (1 : Nat) (Option.some Jvm.ClassFile.FieldType.int)) ∈ lw_all := lw_g (lw_at lw_m13 161 rfl) rfl
theorem q3655 : (Jvm.Cond.selects "java/util/LinkedHashMap$LinkedKeySet" ({ cls := "java/util/Set", name := "contains", desc := "(Ljava/lang/Object;)Z" } : Jvm.MethodName) ({ cls := "java/util/LinkedHashMap$LinkedKeySet", name := "contains", desc := "(Ljava/lang/Object;)Z" } : Jvm.MethodName)) ∈ lw_all := lw_g (lw_at lw_m15 193 rfl) rfl
theorem q3656 : (Jvm.Cond.unhidden "java/util/LinkedHashMap$LinkedKeySet" "contains" "(Ljava/lang/Object;)Z") ∈ lw_tbl := lw_at lw_m15 194 rfl
theorem q3657 : (Jvm.Cond.instanceMethod ({ cls := "java/util/LinkedHashMap$LinkedKeySet", name := "contains", desc := "(Ljava/lang/Object;)Z" } : Jvm.MethodName)) ∈ lw_all := lw_g (lw_at lw_m15 195 rfl) rfl
theorem q3658 : (Jvm.Cond.publicMethod ({ cls := "java/util/LinkedHashMap$LinkedKeySet", name := "contains", desc := "(Ljava/lang/Object;)Z" } : Jvm.MethodName)) ∈ lw_tbl := lw_at lw_m15 196 rfl
theorem q3659 : (Jvm.Cond.code ({ cls := "java/util/LinkedHashMap$LinkedKeySet", name := "contains", desc := "(Ljava/lang/Object;)Z" } : Jvm.MethodName) prog_83_method_5_code (2 : Nat) (Option.some Jvm.ClassFile.FieldType.boolean)) ∈ lw_all := lw_g (lw_at lw_m15 197 rfl) rfl
theorem q3660 : (Jvm.Cond.methodLink "java/util/LinkedHashMap$LinkedKeySet" (31 : Nat) ({ cls := "java/util/LinkedHashMap", name := "containsKey", desc := "(Ljava/lang/Object;)Z" } : Jvm.MethodName)) ∈ lw_all := lw_g (lw_at lw_m15 198 rfl) rfl
theorem q4395 : (Jvm.Cond.selects "java/util/LinkedHashMap$LinkedKeySet" ({ cls := "java/util/AbstractCollection", name := "add", desc := "(Ljava/lang/Object;)Z" } : Jvm.MethodName) ({ cls := "java/util/AbstractCollection", name := "add", desc := "(Ljava/lang/Object;)Z" } : Jvm.MethodName)) ∈ lw_all := lw_g (lw_at lw_m18 213 rfl) rfl
theorem q4409 : (Jvm.Cond.castable "java/util/LinkedHashMap$LinkedKeySet" "java/util/SequencedSet") ∈ lw_tbl := lw_at lw_m18 227 rfl
theorem q4422 : (Jvm.Cond.castable "java/util/LinkedHashMap$LinkedKeySet" "java/util/SequencedCollection") ∈ lw_tbl := lw_at lw_m19 0 rfl
theorem q4450 : (Jvm.Cond.castable "java/util/LinkedHashMap$LinkedKeySet" "java/lang/Object") ∈ lw_tbl := lw_at lw_m19 28 rfl

set_option maxRecDepth 100000
abbrev cJ48_init : ByteArray := prog_85_method_1_code
def yJ48_init : MethodName := ⟨RJ48, "<init>", "(Ljava/util/LinkedHashMap;Z)V"⟩
def dkwJ48_init_0 : List UInt8 := [42, 43, 181, 0, 1, 42, 183, 0, 7, 42, 28, 181, 0, 13, 177]
abbrev dktJ48_init_0 : List UInt8 := dkwJ48_init_0 ++ []
theorem dksJ48_init_0 : cJ48_init.data.toList.drop 0 = dktJ48_init_0 := by decide +kernel
theorem dJ48_init_0 : decode cJ48_init 0 = .ok (.aload_n 0, 1) := dk_42 (dk_at dksJ48_init_0 0 rfl rfl)
theorem dJ48_init_1 : decode cJ48_init 1 = .ok (.aload_n 1, 1) := dk_43 (dk_at dksJ48_init_0 1 rfl rfl)
theorem dJ48_init_2 : decode cJ48_init 2 = .ok (.putfield 1, 3) := dk_181 0 1 (dk_at dksJ48_init_0 2 rfl rfl)
theorem dJ48_init_5 : decode cJ48_init 5 = .ok (.aload_n 0, 1) := dk_42 (dk_at dksJ48_init_0 5 rfl rfl)
theorem dJ48_init_6 : decode cJ48_init 6 = .ok (.invokespecial 7, 3) := dk_183 0 7 (dk_at dksJ48_init_0 6 rfl rfl)
theorem dJ48_init_9 : decode cJ48_init 9 = .ok (.aload_n 0, 1) := dk_42 (dk_at dksJ48_init_0 9 rfl rfl)
theorem dJ48_init_10 : decode cJ48_init 10 = .ok (.iload_n 2, 1) := dk_28 (dk_at dksJ48_init_0 10 rfl rfl)
theorem dJ48_init_11 : decode cJ48_init 11 = .ok (.putfield 13, 3) := dk_181 0 13 (dk_at dksJ48_init_0 11 rfl rfl)
theorem dJ48_init_14 : decode cJ48_init 14 = .ok (.return_, 1) := dk_177 (dk_at dksJ48_init_0 14 rfl rfl)
abbrev cJ48_iterator : ByteArray := prog_85_method_4_code
def yJ48_iterator : MethodName := ⟨RJ48, "iterator", "()Ljava/util/Iterator;"⟩
def dkwJ48_iterator_0 : List UInt8 := [187, 0, 26, 89, 42, 180, 0, 1, 42, 180, 0, 13, 183, 0, 28, 176]
abbrev dktJ48_iterator_0 : List UInt8 := dkwJ48_iterator_0 ++ []
theorem dksJ48_iterator_0 : cJ48_iterator.data.toList.drop 0 = dktJ48_iterator_0 := by decide +kernel
theorem dJ48_iterator_0 : decode cJ48_iterator 0 = .ok (.new 26, 3) := dk_187 0 26 (dk_at dksJ48_iterator_0 0 rfl rfl)
theorem dJ48_iterator_3 : decode cJ48_iterator 3 = .ok (.dup, 1) := dk_89 (dk_at dksJ48_iterator_0 3 rfl rfl)
theorem dJ48_iterator_4 : decode cJ48_iterator 4 = .ok (.aload_n 0, 1) := dk_42 (dk_at dksJ48_iterator_0 4 rfl rfl)
theorem dJ48_iterator_5 : decode cJ48_iterator 5 = .ok (.getfield 1, 3) := dk_180 0 1 (dk_at dksJ48_iterator_0 5 rfl rfl)
theorem dJ48_iterator_8 : decode cJ48_iterator 8 = .ok (.aload_n 0, 1) := dk_42 (dk_at dksJ48_iterator_0 8 rfl rfl)
theorem dJ48_iterator_9 : decode cJ48_iterator 9 = .ok (.getfield 13, 3) := dk_180 0 13 (dk_at dksJ48_iterator_0 9 rfl rfl)
theorem dJ48_iterator_12 : decode cJ48_iterator 12 = .ok (.invokespecial 28, 3) := dk_183 0 28 (dk_at dksJ48_iterator_0 12 rfl rfl)
theorem dJ48_iterator_15 : decode cJ48_iterator 15 = .ok (.areturn, 1) := dk_176 (dk_at dksJ48_iterator_0 15 rfl rfl)
abbrev cJ48_size : ByteArray := prog_85_method_2_code
def yJ48_size : MethodName := ⟨RJ48, "size", "()I"⟩
def dkwJ48_size_0 : List UInt8 := [42, 180, 0, 1, 180, 0, 17, 172]
abbrev dktJ48_size_0 : List UInt8 := dkwJ48_size_0 ++ []
theorem dksJ48_size_0 : cJ48_size.data.toList.drop 0 = dktJ48_size_0 := by decide +kernel
theorem dJ48_size_0 : decode cJ48_size 0 = .ok (.aload_n 0, 1) := dk_42 (dk_at dksJ48_size_0 0 rfl rfl)
theorem dJ48_size_1 : decode cJ48_size 1 = .ok (.getfield 1, 3) := dk_180 0 1 (dk_at dksJ48_size_0 1 rfl rfl)
theorem dJ48_size_4 : decode cJ48_size 4 = .ok (.getfield 17, 3) := dk_180 0 17 (dk_at dksJ48_size_0 4 rfl rfl)
theorem dJ48_size_7 : decode cJ48_size 7 = .ok (.ireturn, 1) := dk_172 (dk_at dksJ48_size_0 7 rfl rfl)
theorem q159 : (Jvm.Cond.initialized "java/util/LinkedHashMap$LinkedValues") ∈ lw_all := lw_g (lw_at lw_m1 57 rfl) rfl
theorem q252 : (Jvm.Cond.fieldLink "java/util/LinkedHashMap$LinkedValues" (17 : Nat) "java/util/LinkedHashMap" "size" "I") ∈ lw_all := lw_g (lw_at lw_m1 150 rfl) rfl
theorem q1028 : (Jvm.Cond.selects "java/util/LinkedHashMap$LinkedValues" ({ cls := "java/lang/Object", name := "getClass", desc := "()Ljava/lang/Class;" } : Jvm.MethodName) ({ cls := "java/lang/Object", name := "getClass", desc := "()Ljava/lang/Class;" } : Jvm.MethodName)) ∈ lw_all := lw_g (lw_at lw_m4 206 rfl) rfl
theorem q3017 : (Jvm.Cond.instantiable "java/util/LinkedHashMap$LinkedValues" (2 : Nat)) ∈ lw_all := lw_g (lw_at lw_m13 35 rfl) rfl
theorem q3019 : (Jvm.Cond.instanceMethod ({ cls := "java/util/LinkedHashMap$LinkedValues", name := "<init>", desc := "(Ljava/util/LinkedHashMap;Z)V" } : Jvm.MethodName)) ∈ lw_all := lw_g (lw_at lw_m13 37 rfl) rfl
theorem q3020 : (Jvm.Cond.code ({ cls := "java/util/LinkedHashMap$LinkedValues", name := "<init>", desc := "(Ljava/util/LinkedHashMap;Z)V" } : Jvm.MethodName) prog_85_method_1_code (3 : Nat) (Option.none : Option Jvm.ClassFile.FieldType)) ∈ lw_all := lw_g (lw_at lw_m13 38 rfl) rfl
theorem q3021 : (Jvm.Cond.methodLink "java/util/LinkedHashMap$LinkedValues" (7 : Nat) ({ cls := "java/util/AbstractCollection", name := "<init>", desc := "()V" } : Jvm.MethodName)) ∈ lw_all := lw_g (lw_at lw_m13 39 rfl) rfl
theorem q3022 : (Jvm.Cond.fieldLink "java/util/LinkedHashMap$LinkedValues" (13 : Nat) "java/util/LinkedHashMap$LinkedValues" "reversed" "Z") ∈ lw_all := lw_g (lw_at lw_m13 40 rfl) rfl
theorem q3023 : (Jvm.Cond.fieldLink "java/util/LinkedHashMap$LinkedValues" (1 : Nat) "java/util/LinkedHashMap$LinkedValues" "this$0" "Ljava/util/LinkedHashMap;") ∈ lw_all := lw_g (lw_at lw_m13 41 rfl) rfl
theorem q3024 : (Jvm.Cond.laysFinal "java/util/LinkedHashMap$LinkedValues" "java/util/LinkedHashMap$LinkedValues" "reversed" "Z") ∈ lw_all := lw_g (lw_at lw_m13 42 rfl) rfl
theorem q3025 : (Jvm.Cond.soleField "java/util/LinkedHashMap$LinkedValues" "reversed") ∈ lw_all := lw_g (lw_at lw_m13 43 rfl) rfl
theorem q3026 : (Jvm.Cond.laysFinal "java/util/LinkedHashMap$LinkedValues" "java/util/LinkedHashMap$LinkedValues" "this$0" "Ljava/util/LinkedHashMap;") ∈ lw_all := lw_g (lw_at lw_m13 44 rfl) rfl
theorem q3027 : (Jvm.Cond.soleField "java/util/LinkedHashMap$LinkedValues" "this$0") ∈ lw_all := lw_g (lw_at lw_m13 45 rfl) rfl
theorem q3028 : (Jvm.Cond.superclass "java/util/LinkedHashMap$LinkedValues" "java/util/AbstractCollection") ∈ lw_all := lw_g (lw_at lw_m13 46 rfl) rfl
theorem q3091 : (Jvm.Cond.castable "java/util/LinkedHashMap$LinkedValues" "java/util/Collection") ∈ lw_tbl := lw_at lw_m13 109 rfl
theorem q3092 : (Jvm.Cond.selects "java/util/LinkedHashMap$LinkedValues" ({ cls := "java/util/Collection", name := "iterator", desc := "()Ljava/util/Iterator;" } : Jvm.MethodName) ({ cls := "java/util/LinkedHashMap$LinkedValues", name := "iterator", desc := "()Ljava/util/Iterator;" } : Jvm.MethodName)) ∈ lw_all := lw_g (lw_at lw_m13 110 rfl) rfl
theorem q3093 : (Jvm.Cond.unhidden "java/util/LinkedHashMap$LinkedValues" "iterator" "()Ljava/util/Iterator;") ∈ lw_tbl := lw_at lw_m13 111 rfl
theorem q3094 : (Jvm.Cond.instanceMethod ({ cls := "java/util/LinkedHashMap$LinkedValues", name := "iterator", desc := "()Ljava/util/Iterator;" } : Jvm.MethodName)) ∈ lw_all := lw_g (lw_at lw_m13 112 rfl) rfl
theorem q3095 : (Jvm.Cond.publicMethod ({ cls := "java/util/LinkedHashMap$LinkedValues", name := "iterator", desc := "()Ljava/util/Iterator;" } : Jvm.MethodName)) ∈ lw_tbl := lw_at lw_m13 113 rfl
theorem q3096 : (Jvm.Cond.code ({ cls := "java/util/LinkedHashMap$LinkedValues", name := "iterator", desc := "()Ljava/util/Iterator;" } : Jvm.MethodName) prog_85_method_4_code (1 : Nat) (Option.some (Jvm.ClassFile.FieldType.object "java/util/Iterator"))) ∈ lw_all := lw_g (lw_at lw_m13 114 rfl) rfl
theorem q3097 : (Jvm.Cond.classLink "java/util/LinkedHashMap$LinkedValues" (26 : Nat) "java/util/LinkedHashMap$LinkedValueIterator") ∈ lw_all := lw_g (lw_at lw_m13 115 rfl) rfl
theorem q3099 : (Jvm.Cond.methodLink "java/util/LinkedHashMap$LinkedValues" (28 : Nat) ({ cls := "java/util/LinkedHashMap$LinkedValueIterator", name := "<init>", desc := "(Ljava/util/LinkedHashMap;Z)V" } : Jvm.MethodName)) ∈ lw_all := lw_g (lw_at lw_m13 117 rfl) rfl
theorem q3144 : (Jvm.Cond.selects "java/util/LinkedHashMap$LinkedValues" ({ cls := "java/util/Collection", name := "size", desc := "()I" } : Jvm.MethodName) ({ cls := "java/util/LinkedHashMap$LinkedValues", name := "size", desc := "()I" } : Jvm.MethodName)) ∈ lw_all := lw_g (lw_at lw_m13 162 rfl) rfl
theorem q3145 : (Jvm.Cond.unhidden "java/util/LinkedHashMap$LinkedValues" "size" "()I") ∈ lw_tbl := lw_at lw_m13 163 rfl
theorem q3146 : (Jvm.Cond.instanceMethod ({ cls := "java/util/LinkedHashMap$LinkedValues", name := "size", desc := "()I" } : Jvm.MethodName)) ∈ lw_all := lw_g (lw_at lw_m13 164 rfl) rfl
theorem q3147 : (Jvm.Cond.publicMethod ({ cls := "java/util/LinkedHashMap$LinkedValues", name := "size", desc := "()I" } : Jvm.MethodName)) ∈ lw_tbl := lw_at lw_m13 165 rfl
theorem q3148 : (Jvm.Cond.code ({ cls := "java/util/LinkedHashMap$LinkedValues", name := "size", desc := "()I" } : Jvm.MethodName) prog_85_method_2_code (1 : Nat) (Option.some Jvm.ClassFile.FieldType.int)) ∈ lw_all := lw_g (lw_at lw_m13 166 rfl) rfl
theorem q4396 : (Jvm.Cond.selects "java/util/LinkedHashMap$LinkedValues" ({ cls := "java/util/AbstractCollection", name := "add", desc := "(Ljava/lang/Object;)Z" } : Jvm.MethodName) ({ cls := "java/util/AbstractCollection", name := "add", desc := "(Ljava/lang/Object;)Z" } : Jvm.MethodName)) ∈ lw_all := lw_g (lw_at lw_m18 214 rfl) rfl
theorem q4423 : (Jvm.Cond.castable "java/util/LinkedHashMap$LinkedValues" "java/util/SequencedCollection") ∈ lw_tbl := lw_at lw_m19 1 rfl
theorem q4456 : (Jvm.Cond.castable "java/util/LinkedHashMap$LinkedValues" "java/lang/Object") ∈ lw_tbl := lw_at lw_m19 34 rfl

set_option maxRecDepth 100000
abbrev cJ51_next : ByteArray := prog_84_method_2_code
def yJ51_next : MethodName := ⟨RJ51, "next", "()Ljava/lang/Object;"⟩
def dkwJ51_next_0 : List UInt8 := [42, 182, 0, 7, 180, 0, 13, 176]
abbrev dktJ51_next_0 : List UInt8 := dkwJ51_next_0 ++ []
theorem dksJ51_next_0 : cJ51_next.data.toList.drop 0 = dktJ51_next_0 := by decide +kernel
theorem dJ51_next_0 : decode cJ51_next 0 = .ok (.aload_n 0, 1) := dk_42 (dk_at dksJ51_next_0 0 rfl rfl)
theorem dJ51_next_1 : decode cJ51_next 1 = .ok (.invokevirtual 7, 3) := dk_182 0 7 (dk_at dksJ51_next_0 1 rfl rfl)
theorem dJ51_next_4 : decode cJ51_next 4 = .ok (.getfield 13, 3) := dk_180 0 13 (dk_at dksJ51_next_0 4 rfl rfl)
theorem dJ51_next_7 : decode cJ51_next 7 = .ok (.areturn, 1) := dk_176 (dk_at dksJ51_next_0 7 rfl rfl)
abbrev cJ51_init : ByteArray := prog_84_method_1_code
def yJ51_init : MethodName := ⟨RJ51, "<init>", "(Ljava/util/LinkedHashMap;Z)V"⟩
def dkwJ51_init_0 : List UInt8 := [42, 43, 28, 183, 0, 1, 177]
abbrev dktJ51_init_0 : List UInt8 := dkwJ51_init_0 ++ []
theorem dksJ51_init_0 : cJ51_init.data.toList.drop 0 = dktJ51_init_0 := by decide +kernel
theorem dJ51_init_0 : decode cJ51_init 0 = .ok (.aload_n 0, 1) := dk_42 (dk_at dksJ51_init_0 0 rfl rfl)
theorem dJ51_init_1 : decode cJ51_init 1 = .ok (.aload_n 1, 1) := dk_43 (dk_at dksJ51_init_0 1 rfl rfl)
theorem dJ51_init_2 : decode cJ51_init 2 = .ok (.iload_n 2, 1) := dk_28 (dk_at dksJ51_init_0 2 rfl rfl)
theorem dJ51_init_3 : decode cJ51_init 3 = .ok (.invokespecial 1, 3) := dk_183 0 1 (dk_at dksJ51_init_0 3 rfl rfl)
theorem dJ51_init_6 : decode cJ51_init 6 = .ok (.return_, 1) := dk_177 (dk_at dksJ51_init_0 6 rfl rfl)
theorem q162 : (Jvm.Cond.initialized "java/util/LinkedHashMap$LinkedValueIterator") ∈ lw_all := lw_g (lw_at lw_m1 60 rfl) rfl
theorem q1027 : (Jvm.Cond.selects "java/util/LinkedHashMap$LinkedValueIterator" ({ cls := "java/lang/Object", name := "getClass", desc := "()Ljava/lang/Class;" } : Jvm.MethodName) ({ cls := "java/lang/Object", name := "getClass", desc := "()Ljava/lang/Class;" } : Jvm.MethodName)) ∈ lw_all := lw_g (lw_at lw_m4 205 rfl) rfl
theorem q1865 : (Jvm.Cond.fieldLink "java/util/LinkedHashMap$LinkedValueIterator" (13 : Nat) "java/util/LinkedHashMap$Entry" "value" "Ljava/lang/Object;") ∈ lw_all := lw_g (lw_at lw_m8 83 rfl) rfl
theorem q2544 : (Jvm.Cond.castable "java/util/LinkedHashMap$LinkedValueIterator" "java/util/Iterator") ∈ lw_tbl := lw_at lw_m11 42 rfl
theorem q2545 : (Jvm.Cond.selects "java/util/LinkedHashMap$LinkedValueIterator" ({ cls := "java/util/Iterator", name := "hasNext", desc := "()Z" } : Jvm.MethodName) ({ cls := "java/util/LinkedHashMap$LinkedHashIterator", name := "hasNext", desc := "()Z" } : Jvm.MethodName)) ∈ lw_all := lw_g (lw_at lw_m11 43 rfl) rfl
theorem q2546 : (Jvm.Cond.unhidden "java/util/LinkedHashMap$LinkedValueIterator" "hasNext" "()Z") ∈ lw_tbl := lw_at lw_m11 44 rfl
theorem q2612 : (Jvm.Cond.selects "java/util/LinkedHashMap$LinkedValueIterator" ({ cls := "java/util/Iterator", name := "next", desc := "()Ljava/lang/Object;" } : Jvm.MethodName) ({ cls := "java/util/LinkedHashMap$LinkedValueIterator", name := "next", desc := "()Ljava/lang/Object;" } : Jvm.MethodName)) ∈ lw_all := lw_g (lw_at lw_m11 110 rfl) rfl
theorem q2613 : (Jvm.Cond.unhidden "java/util/LinkedHashMap$LinkedValueIterator" "next" "()Ljava/lang/Object;") ∈ lw_tbl := lw_at lw_m11 111 rfl
theorem q2614 : (Jvm.Cond.instanceMethod ({ cls := "java/util/LinkedHashMap$LinkedValueIterator", name := "next", desc := "()Ljava/lang/Object;" } : Jvm.MethodName)) ∈ lw_all := lw_g (lw_at lw_m11 112 rfl) rfl
theorem q2615 : (Jvm.Cond.publicMethod ({ cls := "java/util/LinkedHashMap$LinkedValueIterator", name := "next", desc := "()Ljava/lang/Object;" } : Jvm.MethodName)) ∈ lw_tbl := lw_at lw_m11 113 rfl
theorem q2616 : (Jvm.Cond.code ({ cls := "java/util/LinkedHashMap$LinkedValueIterator", name := "next", desc := "()Ljava/lang/Object;" } : Jvm.MethodName) prog_84_method_2_code (1 : Nat) (Option.some (Jvm.ClassFile.FieldType.object "java/lang/Object"))) ∈ lw_all := lw_g (lw_at lw_m11 114 rfl) rfl
theorem q2617 : (Jvm.Cond.methodLink "java/util/LinkedHashMap$LinkedValueIterator" (7 : Nat) ({ cls := "java/util/LinkedHashMap$LinkedValueIterator", name := "nextNode", desc := "()Ljava/util/LinkedHashMap$Entry;" } : Jvm.MethodName)) ∈ lw_all := lw_g (lw_at lw_m11 115 rfl) rfl
theorem q2618 : (Jvm.Cond.sameMethod "java/util/LinkedHashMap$LinkedValueIterator" "java/util/LinkedHashMap$LinkedHashIterator" "nextNode" "()Ljava/util/LinkedHashMap$Entry;") ∈ lw_all := lw_g (lw_at lw_m11 116 rfl) rfl
theorem q2619 : (Jvm.Cond.selects "java/util/LinkedHashMap$LinkedValueIterator" ({ cls := "java/util/LinkedHashMap$LinkedValueIterator", name := "nextNode", desc := "()Ljava/util/LinkedHashMap$Entry;" } : Jvm.MethodName) ({ cls := "java/util/LinkedHashMap$LinkedHashIterator", name := "nextNode", desc := "()Ljava/util/LinkedHashMap$Entry;" } : Jvm.MethodName)) ∈ lw_all := lw_g (lw_at lw_m11 117 rfl) rfl
theorem q3098 : (Jvm.Cond.instantiable "java/util/LinkedHashMap$LinkedValueIterator" (5 : Nat)) ∈ lw_all := lw_g (lw_at lw_m13 116 rfl) rfl
theorem q3100 : (Jvm.Cond.instanceMethod ({ cls := "java/util/LinkedHashMap$LinkedValueIterator", name := "<init>", desc := "(Ljava/util/LinkedHashMap;Z)V" } : Jvm.MethodName)) ∈ lw_all := lw_g (lw_at lw_m13 118 rfl) rfl
theorem q3101 : (Jvm.Cond.code ({ cls := "java/util/LinkedHashMap$LinkedValueIterator", name := "<init>", desc := "(Ljava/util/LinkedHashMap;Z)V" } : Jvm.MethodName) prog_84_method_1_code (3 : Nat) (Option.none : Option Jvm.ClassFile.FieldType)) ∈ lw_all := lw_g (lw_at lw_m13 119 rfl) rfl
theorem q3102 : (Jvm.Cond.methodLink "java/util/LinkedHashMap$LinkedValueIterator" (1 : Nat) ({ cls := "java/util/LinkedHashMap$LinkedHashIterator", name := "<init>", desc := "(Ljava/util/LinkedHashMap;Z)V" } : Jvm.MethodName)) ∈ lw_all := lw_g (lw_at lw_m13 120 rfl) rfl
theorem q3103 : (Jvm.Cond.lays "java/util/LinkedHashMap$LinkedValueIterator" "java/util/LinkedHashMap$LinkedHashIterator" "next" "Ljava/util/LinkedHashMap$Entry;") ∈ lw_all := lw_g (lw_at lw_m13 121 rfl) rfl
theorem q3104 : (Jvm.Cond.lays "java/util/LinkedHashMap$LinkedValueIterator" "java/util/LinkedHashMap$LinkedHashIterator" "current" "Ljava/util/LinkedHashMap$Entry;") ∈ lw_all := lw_g (lw_at lw_m13 122 rfl) rfl
theorem q3105 : (Jvm.Cond.lays "java/util/LinkedHashMap$LinkedValueIterator" "java/util/LinkedHashMap$LinkedHashIterator" "expectedModCount" "I") ∈ lw_all := lw_g (lw_at lw_m13 123 rfl) rfl
theorem q3106 : (Jvm.Cond.lays "java/util/LinkedHashMap$LinkedValueIterator" "java/util/LinkedHashMap$LinkedHashIterator" "reversed" "Z") ∈ lw_all := lw_g (lw_at lw_m13 124 rfl) rfl
theorem q3107 : (Jvm.Cond.laysFinal "java/util/LinkedHashMap$LinkedValueIterator" "java/util/LinkedHashMap$LinkedHashIterator" "this$0" "Ljava/util/LinkedHashMap;") ∈ lw_all := lw_g (lw_at lw_m13 125 rfl) rfl
theorem q3108 : (Jvm.Cond.superclass "java/util/LinkedHashMap$LinkedValueIterator" "java/util/LinkedHashMap$LinkedHashIterator") ∈ lw_all := lw_g (lw_at lw_m13 126 rfl) rfl
theorem q4459 : (Jvm.Cond.castable "java/util/LinkedHashMap$LinkedValueIterator" "java/lang/Object") ∈ lw_tbl := lw_at lw_m19 37 rfl

