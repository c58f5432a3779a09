theorem q4483 : (Jvm.Cond.castable "[C" "java/lang/Object") ∈ lw_tbl := lw_at lw_m19 61 rfl
set_option maxRecDepth 100000
theorem q860 : (Jvm.Cond.interfaceMethod "java/lang/CharSequence" "java/lang/CharSequence" "length" "()I") ∈ lw_tbl := lw_at lw_m4 38 rfl
set_option maxRecDepth 100000
theorem q861 : (Jvm.Cond.declares ({ cls := "java/lang/CharSequence", name := "length", desc := "()I" } : Jvm.MethodName)) ∈ lw_tbl := lw_at lw_m4 39 rfl
theorem q915 : (Jvm.Cond.interfaceMethod "java/lang/CharSequence" "java/lang/CharSequence" "charAt" "(I)C") ∈ lw_tbl := lw_at lw_m4 93 rfl
theorem q916 : (Jvm.Cond.declares ({ cls := "java/lang/CharSequence", name := "charAt", desc := "(I)C" } : Jvm.MethodName)) ∈ lw_tbl := lw_at lw_m4 94 rfl
theorem q787 : (Jvm.Cond.interfaceMethod "java/lang/Appendable" "java/lang/Appendable" "append" "(C)Ljava/lang/Appendable;") ∈ lw_tbl := lw_at lw_m3 205 rfl
set_option maxRecDepth 100000
theorem q788 : (Jvm.Cond.declares ({ cls := "java/lang/Appendable", name := "append", desc := "(C)Ljava/lang/Appendable;" } : Jvm.MethodName)) ∈ lw_tbl := lw_at lw_m3 206 rfl
theorem q817 : (Jvm.Cond.interfaceMethod "java/lang/Appendable" "java/lang/Appendable" "append" "(Ljava/lang/CharSequence;)Ljava/lang/Appendable;") ∈ lw_tbl := lw_at lw_m3 235 rfl
theorem q818 : (Jvm.Cond.declares ({ cls := "java/lang/Appendable", name := "append", desc := "(Ljava/lang/CharSequence;)Ljava/lang/Appendable;" } : Jvm.MethodName)) ∈ lw_tbl := lw_at lw_m3 236 rfl
theorem q1910 : (Jvm.Cond.interfaceMethod "java/lang/Comparable" "java/lang/Comparable" "compareTo" "(Ljava/lang/Object;)I") ∈ lw_tbl := lw_at lw_m8 128 rfl
set_option maxRecDepth 100000
theorem q1911 : (Jvm.Cond.declares ({ cls := "java/lang/Comparable", name := "compareTo", desc := "(Ljava/lang/Object;)I" } : Jvm.MethodName)) ∈ lw_tbl := lw_at lw_m8 129 rfl
theorem q780 : (Jvm.Cond.instanceMethod ({ cls := "java/lang/StringBuffer", name := "append", desc := "([C)Ljava/lang/StringBuffer;" } : Jvm.MethodName)) ∈ lw_all := lw_g (lw_at lw_m3 198 rfl) rfl
set_option maxRecDepth 100000
theorem q781 : (Jvm.Cond.selects "java/lang/StringBuffer" ({ cls := "java/lang/StringBuffer", name := "append", desc := "([C)Ljava/lang/StringBuffer;" } : Jvm.MethodName) ({ cls := "java/lang/StringBuffer", name := "append", desc := "([C)Ljava/lang/StringBuffer;" } : Jvm.MethodName)) ∈ lw_all := lw_g (lw_at lw_m3 199 rfl) rfl
theorem q782 : (Jvm.Cond.codeSync ({ cls := "java/lang/StringBuffer", name := "append", desc := "([C)Ljava/lang/StringBuffer;" } : Jvm.MethodName) prog_48_method_24_code (2 : Nat) (Option.some (Jvm.ClassFile.FieldType.object "java/lang/StringBuffer"))) ∈ lw_all := lw_g (lw_at lw_m3 200 rfl) rfl
theorem q783 : (Jvm.Cond.methodLink "java/lang/StringBuffer" (89 : Nat) ({ cls := "java/lang/AbstractStringBuilder", name := "append", desc := "([C)Ljava/lang/AbstractStringBuilder;" } : Jvm.MethodName)) ∈ lw_all := lw_g (lw_at lw_m3 201 rfl) rfl
theorem q784 : (Jvm.Cond.superclass "java/lang/StringBuffer" "java/lang/AbstractStringBuilder") ∈ lw_all := lw_g (lw_at lw_m3 202 rfl) rfl
theorem q4491 : (Jvm.Cond.fieldLink "java/lang/StringBuffer" (34 : Nat) "java/lang/StringBuffer" "toStringCache" "Ljava/lang/String;") ∈ lw_all := lw_g (lw_at lw_m19 69 rfl) rfl
set_option maxRecDepth 100000
abbrev cJ13_init : ByteArray := prog_24_method_2_code
def yJ13_init : MethodName := ⟨RJ13, "<init>", "(I)V"⟩
def dkwJ13_init_1 : List UInt8 := [167, 0, 16, 42, 27, 184, 0, 26, 181, 0, 15, 42, 4, 181, 0, 22, 177]
abbrev dktJ13_init_1 : List UInt8 := dkwJ13_init_1 ++ []
def dkwJ13_init_0 : List UInt8 := [42, 183, 0, 3, 178, 0, 18, 153, 0, 18, 42, 27, 188, 8, 181, 0, 15, 42, 3, 181, 0, 22]
abbrev dktJ13_init_0 : List UInt8 := dkwJ13_init_0 ++ dktJ13_init_1
theorem dksJ13_init_0 : cJ13_init.data.toList.drop 0 = dktJ13_init_0 := by decide +kernel
theorem dksJ13_init_1 : cJ13_init.data.toList.drop 22 = dktJ13_init_1 := dk_seg dksJ13_init_0 22 rfl rfl
theorem dJ13_init_0 : decode cJ13_init 0 = .ok (.aload_n 0, 1) := dk_42 (dk_at dksJ13_init_0 0 rfl rfl)
theorem dJ13_init_1 : decode cJ13_init 1 = .ok (.invokespecial 3, 3) := dk_183 0 3 (dk_at dksJ13_init_0 1 rfl rfl)
theorem dJ13_init_4 : decode cJ13_init 4 = .ok (.getstatic 18, 3) := dk_178 0 18 (dk_at dksJ13_init_0 4 rfl rfl)
theorem dJ13_init_7 : decode cJ13_init 7 = .ok (.ifCond .eq 18, 3) := dk_153 0 18 (dk_at dksJ13_init_0 7 rfl rfl)
theorem dJ13_init_10 : decode cJ13_init 10 = .ok (.aload_n 0, 1) := dk_42 (dk_at dksJ13_init_0 10 rfl rfl)
theorem dJ13_init_11 : decode cJ13_init 11 = .ok (.iload_n 1, 1) := dk_27 (dk_at dksJ13_init_0 11 rfl rfl)
theorem dJ13_init_12 : decode cJ13_init 12 = .ok (.newarray .byte, 2) := dk_188_8 (dk_at dksJ13_init_0 12 rfl rfl)
theorem dJ13_init_14 : decode cJ13_init 14 = .ok (.putfield 15, 3) := dk_181 0 15 (dk_at dksJ13_init_0 14 rfl rfl)
theorem dJ13_init_17 : decode cJ13_init 17 = .ok (.aload_n 0, 1) := dk_42 (dk_at dksJ13_init_0 17 rfl rfl)
theorem dJ13_init_18 : decode cJ13_init 18 = .ok (.iconst 0, 1) := dk_3 (dk_at dksJ13_init_0 18 rfl rfl)
theorem dJ13_init_19 : decode cJ13_init 19 = .ok (.putfield 22, 3) := dk_181 0 22 (dk_at dksJ13_init_0 19 rfl rfl)
theorem dJ13_init_22 : decode cJ13_init 22 = .ok (.goto 16, 3) := dk_167 0 16 (dk_at dksJ13_init_1 0 rfl rfl)
theorem dJ13_init_25 : decode cJ13_init 25 = .ok (.aload_n 0, 1) := dk_42 (dk_at dksJ13_init_1 3 rfl rfl)
theorem dJ13_init_26 : decode cJ13_init 26 = .ok (.iload_n 1, 1) := dk_27 (dk_at dksJ13_init_1 4 rfl rfl)
theorem dJ13_init_27 : decode cJ13_init 27 = .ok (.invokestatic 26, 3) := dk_184 0 26 (dk_at dksJ13_init_1 5 rfl rfl)
theorem dJ13_init_30 : decode cJ13_init 30 = .ok (.putfield 15, 3) := dk_181 0 15 (dk_at dksJ13_init_1 8 rfl rfl)
theorem dJ13_init_33 : decode cJ13_init 33 = .ok (.aload_n 0, 1) := dk_42 (dk_at dksJ13_init_1 11 rfl rfl)
theorem dJ13_init_34 : decode cJ13_init 34 = .ok (.iconst 1, 1) := dk_4 (dk_at dksJ13_init_1 12 rfl rfl)
theorem dJ13_init_35 : decode cJ13_init 35 = .ok (.putfield 22, 3) := dk_181 0 22 (dk_at dksJ13_init_1 13 rfl rfl)
theorem dJ13_init_38 : decode cJ13_init 38 = .ok (.return_, 1) := dk_177 (dk_at dksJ13_init_1 16 rfl rfl)
abbrev cJ13_append : ByteArray := prog_24_method_22_code
def yJ13_append : MethodName := ⟨RJ13, "append", "(Ljava/lang/String;)Ljava/lang/AbstractStringBuilder;"⟩
def dkwJ13_append_1 : List UInt8 := [42, 42, 180, 0, 79, 43, 182, 0, 208, 42, 89, 180, 0, 79, 28, 96, 181, 0, 79, 42, 176]
abbrev dktJ13_append_1 : List UInt8 := dkwJ13_append_1 ++ []
def dkwJ13_append_0 : List UInt8 := [43, 199, 0, 8, 42, 182, 0, 204, 176, 43, 182, 0, 32, 61, 42, 42, 180, 0, 79, 28, 96, 182, 0, 100]
abbrev dktJ13_append_0 : List UInt8 := dkwJ13_append_0 ++ dktJ13_append_1
theorem dksJ13_append_0 : cJ13_append.data.toList.drop 0 = dktJ13_append_0 := by decide +kernel
theorem dksJ13_append_1 : cJ13_append.data.toList.drop 24 = dktJ13_append_1 := dk_seg dksJ13_append_0 24 rfl rfl
theorem dJ13_append_0 : decode cJ13_append 0 = .ok (.aload_n 1, 1) := dk_43 (dk_at dksJ13_append_0 0 rfl rfl)
theorem dJ13_append_1 : decode cJ13_append 1 = .ok (.ifnonnull 8, 3) := dk_199 0 8 (dk_at dksJ13_append_0 1 rfl rfl)
theorem dJ13_append_4 : decode cJ13_append 4 = .ok (.aload_n 0, 1) := dk_42 (dk_at dksJ13_append_0 4 rfl rfl)
theorem dJ13_append_5 : decode cJ13_append 5 = .ok (.invokevirtual 204, 3) := dk_182 0 204 (dk_at dksJ13_append_0 5 rfl rfl)
theorem dJ13_append_8 : decode cJ13_append 8 = .ok (.areturn, 1) := dk_176 (dk_at dksJ13_append_0 8 rfl rfl)
theorem dJ13_append_9 : decode cJ13_append 9 = .ok (.aload_n 1, 1) := dk_43 (dk_at dksJ13_append_0 9 rfl rfl)
theorem dJ13_append_10 : decode cJ13_append 10 = .ok (.invokevirtual 32, 3) := dk_182 0 32 (dk_at dksJ13_append_0 10 rfl rfl)
theorem dJ13_append_13 : decode cJ13_append 13 = .ok (.istore_n 2, 1) := dk_61 (dk_at dksJ13_append_0 13 rfl rfl)
theorem dJ13_append_14 : decode cJ13_append 14 = .ok (.aload_n 0, 1) := dk_42 (dk_at dksJ13_append_0 14 rfl rfl)
theorem dJ13_append_15 : decode cJ13_append 15 = .ok (.aload_n 0, 1) := dk_42 (dk_at dksJ13_append_0 15 rfl rfl)
theorem dJ13_append_16 : decode cJ13_append 16 = .ok (.getfield 79, 3) := dk_180 0 79 (dk_at dksJ13_append_0 16 rfl rfl)
theorem dJ13_append_19 : decode cJ13_append 19 = .ok (.iload_n 2, 1) := dk_28 (dk_at dksJ13_append_0 19 rfl rfl)
theorem dJ13_append_20 : decode cJ13_append 20 = .ok (.iadd, 1) := dk_96 (dk_at dksJ13_append_0 20 rfl rfl)
theorem dJ13_append_21 : decode cJ13_append 21 = .ok (.invokevirtual 100, 3) := dk_182 0 100 (dk_at dksJ13_append_0 21 rfl rfl)
theorem dJ13_append_24 : decode cJ13_append 24 = .ok (.aload_n 0, 1) := dk_42 (dk_at dksJ13_append_1 0 rfl rfl)
theorem dJ13_append_25 : decode cJ13_append 25 = .ok (.aload_n 0, 1) := dk_42 (dk_at dksJ13_append_1 1 rfl rfl)
theorem dJ13_append_26 : decode cJ13_append 26 = .ok (.getfield 79, 3) := dk_180 0 79 (dk_at dksJ13_append_1 2 rfl rfl)
theorem dJ13_append_29 : decode cJ13_append 29 = .ok (.aload_n 1, 1) := dk_43 (dk_at dksJ13_append_1 5 rfl rfl)
theorem dJ13_append_30 : decode cJ13_append 30 = .ok (.invokevirtual 208, 3) := dk_182 0 208 (dk_at dksJ13_append_1 6 rfl rfl)
theorem dJ13_append_33 : decode cJ13_append 33 = .ok (.aload_n 0, 1) := dk_42 (dk_at dksJ13_append_1 9 rfl rfl)
theorem dJ13_append_34 : decode cJ13_append 34 = .ok (.dup, 1) := dk_89 (dk_at dksJ13_append_1 10 rfl rfl)
theorem dJ13_append_35 : decode cJ13_append 35 = .ok (.getfield 79, 3) := dk_180 0 79 (dk_at dksJ13_append_1 11 rfl rfl)
theorem dJ13_append_38 : decode cJ13_append 38 = .ok (.iload_n 2, 1) := dk_28 (dk_at dksJ13_append_1 14 rfl rfl)
theorem dJ13_append_39 : decode cJ13_append 39 = .ok (.iadd, 1) := dk_96 (dk_at dksJ13_append_1 15 rfl rfl)
theorem dJ13_append_40 : decode cJ13_append 40 = .ok (.putfield 79, 3) := dk_181 0 79 (dk_at dksJ13_append_1 16 rfl rfl)
theorem dJ13_append_43 : decode cJ13_append 43 = .ok (.aload_n 0, 1) := dk_42 (dk_at dksJ13_append_1 19 rfl rfl)
theorem dJ13_append_44 : decode cJ13_append 44 = .ok (.areturn, 1) := dk_176 (dk_at dksJ13_append_1 20 rfl rfl)
abbrev cJ13_appendNull : ByteArray := prog_24_method_26_code
def yJ13_appendNull : MethodName := ⟨RJ13, "appendNull", "()Ljava/lang/AbstractStringBuilder;"⟩
def dkwJ13_appendNull_3 : List UInt8 := [184, 0, 226, 60, 42, 27, 181, 0, 79, 42, 176]
abbrev dktJ13_appendNull_3 : List UInt8 := dkwJ13_appendNull_3 ++ []
def dkwJ13_appendNull_2 : List UInt8 := [16, 108, 84, 44, 27, 132, 1, 1, 16, 108, 84, 167, 0, 17, 44, 27, 16, 110, 16, 117, 16, 108, 16, 108]
abbrev dktJ13_appendNull_2 : List UInt8 := dkwJ13_appendNull_2 ++ dktJ13_appendNull_3
def dkwJ13_appendNull_1 : List UInt8 := [153, 0, 38, 44, 27, 132, 1, 1, 16, 110, 84, 44, 27, 132, 1, 1, 16, 117, 84, 44, 27, 132, 1, 1]
abbrev dktJ13_appendNull_1 : List UInt8 := dkwJ13_appendNull_1 ++ dktJ13_appendNull_2
def dkwJ13_appendNull_0 : List UInt8 := [42, 42, 180, 0, 79, 7, 96, 182, 0, 100, 42, 180, 0, 79, 60, 42, 180, 0, 15, 77, 42, 182, 0, 83]
abbrev dktJ13_appendNull_0 : List UInt8 := dkwJ13_appendNull_0 ++ dktJ13_appendNull_1
theorem dksJ13_appendNull_0 : cJ13_appendNull.data.toList.drop 0 = dktJ13_appendNull_0 := by decide +kernel
theorem dksJ13_appendNull_1 : cJ13_appendNull.data.toList.drop 24 = dktJ13_appendNull_1 := dk_seg dksJ13_appendNull_0 24 rfl rfl
theorem dksJ13_appendNull_2 : cJ13_appendNull.data.toList.drop 48 = dktJ13_appendNull_2 := dk_seg dksJ13_appendNull_1 24 rfl rfl
theorem dksJ13_appendNull_3 : cJ13_appendNull.data.toList.drop 72 = dktJ13_appendNull_3 := dk_seg dksJ13_appendNull_2 24 rfl rfl
theorem dJ13_appendNull_0 : decode cJ13_appendNull 0 = .ok (.aload_n 0, 1) := dk_42 (dk_at dksJ13_appendNull_0 0 rfl rfl)
theorem dJ13_appendNull_1 : decode cJ13_appendNull 1 = .ok (.aload_n 0, 1) := dk_42 (dk_at dksJ13_appendNull_0 1 rfl rfl)
theorem dJ13_appendNull_2 : decode cJ13_appendNull 2 = .ok (.getfield 79, 3) := dk_180 0 79 (dk_at dksJ13_appendNull_0 2 rfl rfl)
theorem dJ13_appendNull_5 : decode cJ13_appendNull 5 = .ok (.iconst 4, 1) := dk_7 (dk_at dksJ13_appendNull_0 5 rfl rfl)
theorem dJ13_appendNull_6 : decode cJ13_appendNull 6 = .ok (.iadd, 1) := dk_96 (dk_at dksJ13_appendNull_0 6 rfl rfl)
theorem dJ13_appendNull_7 : decode cJ13_appendNull 7 = .ok (.invokevirtual 100, 3) := dk_182 0 100 (dk_at dksJ13_appendNull_0 7 rfl rfl)
theorem dJ13_appendNull_10 : decode cJ13_appendNull 10 = .ok (.aload_n 0, 1) := dk_42 (dk_at dksJ13_appendNull_0 10 rfl rfl)
theorem dJ13_appendNull_11 : decode cJ13_appendNull 11 = .ok (.getfield 79, 3) := dk_180 0 79 (dk_at dksJ13_appendNull_0 11 rfl rfl)
theorem dJ13_appendNull_14 : decode cJ13_appendNull 14 = .ok (.istore_n 1, 1) := dk_60 (dk_at dksJ13_appendNull_0 14 rfl rfl)
theorem dJ13_appendNull_15 : decode cJ13_appendNull 15 = .ok (.aload_n 0, 1) := dk_42 (dk_at dksJ13_appendNull_0 15 rfl rfl)
theorem dJ13_appendNull_16 : decode cJ13_appendNull 16 = .ok (.getfield 15, 3) := dk_180 0 15 (dk_at dksJ13_appendNull_0 16 rfl rfl)
theorem dJ13_appendNull_19 : decode cJ13_appendNull 19 = .ok (.astore_n 2, 1) := dk_77 (dk_at dksJ13_appendNull_0 19 rfl rfl)
theorem dJ13_appendNull_20 : decode cJ13_appendNull 20 = .ok (.aload_n 0, 1) := dk_42 (dk_at dksJ13_appendNull_0 20 rfl rfl)
theorem dJ13_appendNull_21 : decode cJ13_appendNull 21 = .ok (.invokevirtual 83, 3) := dk_182 0 83 (dk_at dksJ13_appendNull_0 21 rfl rfl)
theorem dJ13_appendNull_24 : decode cJ13_appendNull 24 = .ok (.ifCond .eq 38, 3) := dk_153 0 38 (dk_at dksJ13_appendNull_1 0 rfl rfl)
theorem dJ13_appendNull_27 : decode cJ13_appendNull 27 = .ok (.aload_n 2, 1) := dk_44 (dk_at dksJ13_appendNull_1 3 rfl rfl)
theorem dJ13_appendNull_28 : decode cJ13_appendNull 28 = .ok (.iload_n 1, 1) := dk_27 (dk_at dksJ13_appendNull_1 4 rfl rfl)
theorem dJ13_appendNull_29 : decode cJ13_appendNull 29 = .ok (.iinc 1 1, 3) := dk_132 1 1 (dk_at dksJ13_appendNull_1 5 rfl rfl)
theorem dJ13_appendNull_32 : decode cJ13_appendNull 32 = .ok (.bipush 110, 2) := dk_16 110 (dk_at dksJ13_appendNull_1 8 rfl rfl)
theorem dJ13_appendNull_34 : decode cJ13_appendNull 34 = .ok (.bastore, 1) := dk_84 (dk_at dksJ13_appendNull_1 10 rfl rfl)
theorem dJ13_appendNull_35 : decode cJ13_appendNull 35 = .ok (.aload_n 2, 1) := dk_44 (dk_at dksJ13_appendNull_1 11 rfl rfl)
theorem dJ13_appendNull_36 : decode cJ13_appendNull 36 = .ok (.iload_n 1, 1) := dk_27 (dk_at dksJ13_appendNull_1 12 rfl rfl)
theorem dJ13_appendNull_37 : decode cJ13_appendNull 37 = .ok (.iinc 1 1, 3) := dk_132 1 1 (dk_at dksJ13_appendNull_1 13 rfl rfl)
theorem dJ13_appendNull_40 : decode cJ13_appendNull 40 = .ok (.bipush 117, 2) := dk_16 117 (dk_at dksJ13_appendNull_1 16 rfl rfl)
theorem dJ13_appendNull_42 : decode cJ13_appendNull 42 = .ok (.bastore, 1) := dk_84 (dk_at dksJ13_appendNull_1 18 rfl rfl)
theorem dJ13_appendNull_43 : decode cJ13_appendNull 43 = .ok (.aload_n 2, 1) := dk_44 (dk_at dksJ13_appendNull_1 19 rfl rfl)
theorem dJ13_appendNull_44 : decode cJ13_appendNull 44 = .ok (.iload_n 1, 1) := dk_27 (dk_at dksJ13_appendNull_1 20 rfl rfl)
theorem dJ13_appendNull_45 : decode cJ13_appendNull 45 = .ok (.iinc 1 1, 3) := dk_132 1 1 (dk_at dksJ13_appendNull_1 21 rfl rfl)
theorem dJ13_appendNull_48 : decode cJ13_appendNull 48 = .ok (.bipush 108, 2) := dk_16 108 (dk_at dksJ13_appendNull_2 0 rfl rfl)
theorem dJ13_appendNull_50 : decode cJ13_appendNull 50 = .ok (.bastore, 1) := dk_84 (dk_at dksJ13_appendNull_2 2 rfl rfl)
theorem dJ13_appendNull_51 : decode cJ13_appendNull 51 = .ok (.aload_n 2, 1) := dk_44 (dk_at dksJ13_appendNull_2 3 rfl rfl)
theorem dJ13_appendNull_52 : decode cJ13_appendNull 52 = .ok (.iload_n 1, 1) := dk_27 (dk_at dksJ13_appendNull_2 4 rfl rfl)
theorem dJ13_appendNull_53 : decode cJ13_appendNull 53 = .ok (.iinc 1 1, 3) := dk_132 1 1 (dk_at dksJ13_appendNull_2 5 rfl rfl)
theorem dJ13_appendNull_56 : decode cJ13_appendNull 56 = .ok (.bipush 108, 2) := dk_16 108 (dk_at dksJ13_appendNull_2 8 rfl rfl)
theorem dJ13_appendNull_58 : decode cJ13_appendNull 58 = .ok (.bastore, 1) := dk_84 (dk_at dksJ13_appendNull_2 10 rfl rfl)
theorem dJ13_appendNull_59 : decode cJ13_appendNull 59 = .ok (.goto 17, 3) := dk_167 0 17 (dk_at dksJ13_appendNull_2 11 rfl rfl)
theorem dJ13_appendNull_62 : decode cJ13_appendNull 62 = .ok (.aload_n 2, 1) := dk_44 (dk_at dksJ13_appendNull_2 14 rfl rfl)
theorem dJ13_appendNull_63 : decode cJ13_appendNull 63 = .ok (.iload_n 1, 1) := dk_27 (dk_at dksJ13_appendNull_2 15 rfl rfl)
theorem dJ13_appendNull_64 : decode cJ13_appendNull 64 = .ok (.bipush 110, 2) := dk_16 110 (dk_at dksJ13_appendNull_2 16 rfl rfl)
theorem dJ13_appendNull_66 : decode cJ13_appendNull 66 = .ok (.bipush 117, 2) := dk_16 117 (dk_at dksJ13_appendNull_2 18 rfl rfl)
theorem dJ13_appendNull_68 : decode cJ13_appendNull 68 = .ok (.bipush 108, 2) := dk_16 108 (dk_at dksJ13_appendNull_2 20 rfl rfl)
theorem dJ13_appendNull_70 : decode cJ13_appendNull 70 = .ok (.bipush 108, 2) := dk_16 108 (dk_at dksJ13_appendNull_2 22 rfl rfl)
theorem dJ13_appendNull_72 : decode cJ13_appendNull 72 = .ok (.invokestatic 226, 3) := dk_184 0 226 (dk_at dksJ13_appendNull_3 0 rfl rfl)
theorem dJ13_appendNull_75 : decode cJ13_appendNull 75 = .ok (.istore_n 1, 1) := dk_60 (dk_at dksJ13_appendNull_3 3 rfl rfl)
theorem dJ13_appendNull_76 : decode cJ13_appendNull 76 = .ok (.aload_n 0, 1) := dk_42 (dk_at dksJ13_appendNull_3 4 rfl rfl)
theorem dJ13_appendNull_77 : decode cJ13_appendNull 77 = .ok (.iload_n 1, 1) := dk_27 (dk_at dksJ13_appendNull_3 5 rfl rfl)
theorem dJ13_appendNull_78 : decode cJ13_appendNull 78 = .ok (.putfield 79, 3) := dk_181 0 79 (dk_at dksJ13_appendNull_3 6 rfl rfl)
theorem dJ13_appendNull_81 : decode cJ13_appendNull 81 = .ok (.aload_n 0, 1) := dk_42 (dk_at dksJ13_appendNull_3 9 rfl rfl)
theorem dJ13_appendNull_82 : decode cJ13_appendNull 82 = .ok (.areturn, 1) := dk_176 (dk_at dksJ13_appendNull_3 10 rfl rfl)
abbrev cJ13_ensureCapacityInternal : ByteArray := prog_24_method_9_code
def yJ13_ensureCapacityInternal : MethodName := ⟨RJ13, "ensureCapacityInternal", "(I)V"⟩
def dkwJ13_ensureCapacityInternal_1 : List UInt8 := [182, 0, 104, 42, 180, 0, 22, 120, 184, 0, 108, 181, 0, 15, 177]
abbrev dktJ13_ensureCapacityInternal_1 : List UInt8 := dkwJ13_ensureCapacityInternal_1 ++ []
def dkwJ13_ensureCapacityInternal_0 : List UInt8 := [42, 180, 0, 15, 190, 42, 180, 0, 22, 122, 61, 27, 28, 100, 158, 0, 24, 42, 42, 180, 0, 15, 42, 27]
abbrev dktJ13_ensureCapacityInternal_0 : List UInt8 := dkwJ13_ensureCapacityInternal_0 ++ dktJ13_ensureCapacityInternal_1
theorem dksJ13_ensureCapacityInternal_0 : cJ13_ensureCapacityInternal.data.toList.drop 0 = dktJ13_ensureCapacityInternal_0 := by decide +kernel
theorem dksJ13_ensureCapacityInternal_1 : cJ13_ensureCapacityInternal.data.toList.drop 24 = dktJ13_ensureCapacityInternal_1 := dk_seg dksJ13_ensureCapacityInternal_0 24 rfl rfl
theorem dJ13_ensureCapacityInternal_0 : decode cJ13_ensureCapacityInternal 0 = .ok (.aload_n 0, 1) := dk_42 (dk_at dksJ13_ensureCapacityInternal_0 0 rfl rfl)
theorem dJ13_ensureCapacityInternal_1 : decode cJ13_ensureCapacityInternal 1 = .ok (.getfield 15, 3) := dk_180 0 15 (dk_at dksJ13_ensureCapacityInternal_0 1 rfl rfl)
theorem dJ13_ensureCapacityInternal_4 : decode cJ13_ensureCapacityInternal 4 = .ok (.arraylength, 1) := dk_190 (dk_at dksJ13_ensureCapacityInternal_0 4 rfl rfl)
theorem dJ13_ensureCapacityInternal_5 : decode cJ13_ensureCapacityInternal 5 = .ok (.aload_n 0, 1) := dk_42 (dk_at dksJ13_ensureCapacityInternal_0 5 rfl rfl)
theorem dJ13_ensureCapacityInternal_6 : decode cJ13_ensureCapacityInternal 6 = .ok (.getfield 22, 3) := dk_180 0 22 (dk_at dksJ13_ensureCapacityInternal_0 6 rfl rfl)
theorem dJ13_ensureCapacityInternal_9 : decode cJ13_ensureCapacityInternal 9 = .ok (.ishr, 1) := dk_122 (dk_at dksJ13_ensureCapacityInternal_0 9 rfl rfl)
theorem dJ13_ensureCapacityInternal_10 : decode cJ13_ensureCapacityInternal 10 = .ok (.istore_n 2, 1) := dk_61 (dk_at dksJ13_ensureCapacityInternal_0 10 rfl rfl)
theorem dJ13_ensureCapacityInternal_11 : decode cJ13_ensureCapacityInternal 11 = .ok (.iload_n 1, 1) := dk_27 (dk_at dksJ13_ensureCapacityInternal_0 11 rfl rfl)
theorem dJ13_ensureCapacityInternal_12 : decode cJ13_ensureCapacityInternal 12 = .ok (.iload_n 2, 1) := dk_28 (dk_at dksJ13_ensureCapacityInternal_0 12 rfl rfl)
theorem dJ13_ensureCapacityInternal_13 : decode cJ13_ensureCapacityInternal 13 = .ok (.isub, 1) := dk_100 (dk_at dksJ13_ensureCapacityInternal_0 13 rfl rfl)
theorem dJ13_ensureCapacityInternal_14 : decode cJ13_ensureCapacityInternal 14 = .ok (.ifCond .le 24, 3) := dk_158 0 24 (dk_at dksJ13_ensureCapacityInternal_0 14 rfl rfl)
theorem dJ13_ensureCapacityInternal_17 : decode cJ13_ensureCapacityInternal 17 = .ok (.aload_n 0, 1) := dk_42 (dk_at dksJ13_ensureCapacityInternal_0 17 rfl rfl)
theorem dJ13_ensureCapacityInternal_18 : decode cJ13_ensureCapacityInternal 18 = .ok (.aload_n 0, 1) := dk_42 (dk_at dksJ13_ensureCapacityInternal_0 18 rfl rfl)
theorem dJ13_ensureCapacityInternal_19 : decode cJ13_ensureCapacityInternal 19 = .ok (.getfield 15, 3) := dk_180 0 15 (dk_at dksJ13_ensureCapacityInternal_0 19 rfl rfl)
theorem dJ13_ensureCapacityInternal_22 : decode cJ13_ensureCapacityInternal 22 = .ok (.aload_n 0, 1) := dk_42 (dk_at dksJ13_ensureCapacityInternal_0 22 rfl rfl)
theorem dJ13_ensureCapacityInternal_23 : decode cJ13_ensureCapacityInternal 23 = .ok (.iload_n 1, 1) := dk_27 (dk_at dksJ13_ensureCapacityInternal_0 23 rfl rfl)
theorem dJ13_ensureCapacityInternal_24 : decode cJ13_ensureCapacityInternal 24 = .ok (.invokevirtual 104, 3) := dk_182 0 104 (dk_at dksJ13_ensureCapacityInternal_1 0 rfl rfl)
theorem dJ13_ensureCapacityInternal_27 : decode cJ13_ensureCapacityInternal 27 = .ok (.aload_n 0, 1) := dk_42 (dk_at dksJ13_ensureCapacityInternal_1 3 rfl rfl)
theorem dJ13_ensureCapacityInternal_28 : decode cJ13_ensureCapacityInternal 28 = .ok (.getfield 22, 3) := dk_180 0 22 (dk_at dksJ13_ensureCapacityInternal_1 4 rfl rfl)
theorem dJ13_ensureCapacityInternal_31 : decode cJ13_ensureCapacityInternal 31 = .ok (.ishl, 1) := dk_120 (dk_at dksJ13_ensureCapacityInternal_1 7 rfl rfl)
theorem dJ13_ensureCapacityInternal_32 : decode cJ13_ensureCapacityInternal 32 = .ok (.invokestatic 108, 3) := dk_184 0 108 (dk_at dksJ13_ensureCapacityInternal_1 8 rfl rfl)
theorem dJ13_ensureCapacityInternal_35 : decode cJ13_ensureCapacityInternal 35 = .ok (.putfield 15, 3) := dk_181 0 15 (dk_at dksJ13_ensureCapacityInternal_1 11 rfl rfl)
theorem dJ13_ensureCapacityInternal_38 : decode cJ13_ensureCapacityInternal 38 = .ok (.return_, 1) := dk_177 (dk_at dksJ13_ensureCapacityInternal_1 14 rfl rfl)
abbrev cJ13_newCapacity : ByteArray := prog_24_method_10_code
def yJ13_newCapacity : MethodName := ⟨RJ13, "newCapacity", "(I)I"⟩
def dkwJ13_newCapacity_2 : List UInt8 := [183, 0, 124, 191, 21, 5, 42, 180, 0, 22, 122, 172]
abbrev dktJ13_newCapacity_2 : List UInt8 := dkwJ13_newCapacity_2 ++ []
def dkwJ13_newCapacity_1 : List UInt8 := [180, 0, 22, 120, 96, 184, 0, 114, 54, 5, 21, 5, 18, 39, 160, 0, 13, 187, 0, 120, 89, 18, 122]
abbrev dktJ13_newCapacity_1 : List UInt8 := dkwJ13_newCapacity_1 ++ dktJ13_newCapacity_2
def dkwJ13_newCapacity_0 : List UInt8 := [42, 180, 0, 15, 190, 61, 27, 42, 180, 0, 22, 120, 62, 29, 28, 100, 54, 4, 28, 21, 4, 28, 5, 42]
abbrev dktJ13_newCapacity_0 : List UInt8 := dkwJ13_newCapacity_0 ++ dktJ13_newCapacity_1
theorem dksJ13_newCapacity_0 : cJ13_newCapacity.data.toList.drop 0 = dktJ13_newCapacity_0 := by decide +kernel
theorem dksJ13_newCapacity_1 : cJ13_newCapacity.data.toList.drop 24 = dktJ13_newCapacity_1 := dk_seg dksJ13_newCapacity_0 24 rfl rfl
theorem dksJ13_newCapacity_2 : cJ13_newCapacity.data.toList.drop 47 = dktJ13_newCapacity_2 := dk_seg dksJ13_newCapacity_1 23 rfl rfl
theorem dJ13_newCapacity_0 : decode cJ13_newCapacity 0 = .ok (.aload_n 0, 1) := dk_42 (dk_at dksJ13_newCapacity_0 0 rfl rfl)
theorem dJ13_newCapacity_1 : decode cJ13_newCapacity 1 = .ok (.getfield 15, 3) := dk_180 0 15 (dk_at dksJ13_newCapacity_0 1 rfl rfl)
theorem dJ13_newCapacity_4 : decode cJ13_newCapacity 4 = .ok (.arraylength, 1) := dk_190 (dk_at dksJ13_newCapacity_0 4 rfl rfl)
theorem dJ13_newCapacity_5 : decode cJ13_newCapacity 5 = .ok (.istore_n 2, 1) := dk_61 (dk_at dksJ13_newCapacity_0 5 rfl rfl)
theorem dJ13_newCapacity_6 : decode cJ13_newCapacity 6 = .ok (.iload_n 1, 1) := dk_27 (dk_at dksJ13_newCapacity_0 6 rfl rfl)
theorem dJ13_newCapacity_7 : decode cJ13_newCapacity 7 = .ok (.aload_n 0, 1) := dk_42 (dk_at dksJ13_newCapacity_0 7 rfl rfl)
theorem dJ13_newCapacity_8 : decode cJ13_newCapacity 8 = .ok (.getfield 22, 3) := dk_180 0 22 (dk_at dksJ13_newCapacity_0 8 rfl rfl)
theorem dJ13_newCapacity_11 : decode cJ13_newCapacity 11 = .ok (.ishl, 1) := dk_120 (dk_at dksJ13_newCapacity_0 11 rfl rfl)
theorem dJ13_newCapacity_12 : decode cJ13_newCapacity 12 = .ok (.istore_n 3, 1) := dk_62 (dk_at dksJ13_newCapacity_0 12 rfl rfl)
theorem dJ13_newCapacity_13 : decode cJ13_newCapacity 13 = .ok (.iload_n 3, 1) := dk_29 (dk_at dksJ13_newCapacity_0 13 rfl rfl)
theorem dJ13_newCapacity_14 : decode cJ13_newCapacity 14 = .ok (.iload_n 2, 1) := dk_28 (dk_at dksJ13_newCapacity_0 14 rfl rfl)
theorem dJ13_newCapacity_15 : decode cJ13_newCapacity 15 = .ok (.isub, 1) := dk_100 (dk_at dksJ13_newCapacity_0 15 rfl rfl)
theorem dJ13_newCapacity_16 : decode cJ13_newCapacity 16 = .ok (.istore 4, 2) := dk_54 4 (dk_at dksJ13_newCapacity_0 16 rfl rfl)
theorem dJ13_newCapacity_18 : decode cJ13_newCapacity 18 = .ok (.iload_n 2, 1) := dk_28 (dk_at dksJ13_newCapacity_0 18 rfl rfl)
theorem dJ13_newCapacity_19 : decode cJ13_newCapacity 19 = .ok (.iload 4, 2) := dk_21 4 (dk_at dksJ13_newCapacity_0 19 rfl rfl)
theorem dJ13_newCapacity_21 : decode cJ13_newCapacity 21 = .ok (.iload_n 2, 1) := dk_28 (dk_at dksJ13_newCapacity_0 21 rfl rfl)
theorem dJ13_newCapacity_22 : decode cJ13_newCapacity 22 = .ok (.iconst 2, 1) := dk_5 (dk_at dksJ13_newCapacity_0 22 rfl rfl)
theorem dJ13_newCapacity_23 : decode cJ13_newCapacity 23 = .ok (.aload_n 0, 1) := dk_42 (dk_at dksJ13_newCapacity_0 23 rfl rfl)
theorem dJ13_newCapacity_24 : decode cJ13_newCapacity 24 = .ok (.getfield 22, 3) := dk_180 0 22 (dk_at dksJ13_newCapacity_1 0 rfl rfl)
theorem dJ13_newCapacity_27 : decode cJ13_newCapacity 27 = .ok (.ishl, 1) := dk_120 (dk_at dksJ13_newCapacity_1 3 rfl rfl)
theorem dJ13_newCapacity_28 : decode cJ13_newCapacity 28 = .ok (.iadd, 1) := dk_96 (dk_at dksJ13_newCapacity_1 4 rfl rfl)
theorem dJ13_newCapacity_29 : decode cJ13_newCapacity 29 = .ok (.invokestatic 114, 3) := dk_184 0 114 (dk_at dksJ13_newCapacity_1 5 rfl rfl)
theorem dJ13_newCapacity_32 : decode cJ13_newCapacity 32 = .ok (.istore 5, 2) := dk_54 5 (dk_at dksJ13_newCapacity_1 8 rfl rfl)
theorem dJ13_newCapacity_34 : decode cJ13_newCapacity 34 = .ok (.iload 5, 2) := dk_21 5 (dk_at dksJ13_newCapacity_1 10 rfl rfl)
theorem dJ13_newCapacity_36 : decode cJ13_newCapacity 36 = .ok (.ldc 39, 2) := dk_18 39 (dk_at dksJ13_newCapacity_1 12 rfl rfl)
theorem dJ13_newCapacity_38 : decode cJ13_newCapacity 38 = .ok (.if_icmp .ne 13, 3) := dk_160 0 13 (dk_at dksJ13_newCapacity_1 14 rfl rfl)
theorem dJ13_newCapacity_41 : decode cJ13_newCapacity 41 = .ok (.new 120, 3) := dk_187 0 120 (dk_at dksJ13_newCapacity_1 17 rfl rfl)
theorem dJ13_newCapacity_44 : decode cJ13_newCapacity 44 = .ok (.dup, 1) := dk_89 (dk_at dksJ13_newCapacity_1 20 rfl rfl)
theorem dJ13_newCapacity_45 : decode cJ13_newCapacity 45 = .ok (.ldc 122, 2) := dk_18 122 (dk_at dksJ13_newCapacity_1 21 rfl rfl)
theorem dJ13_newCapacity_47 : decode cJ13_newCapacity 47 = .ok (.invokespecial 124, 3) := dk_183 0 124 (dk_at dksJ13_newCapacity_2 0 rfl rfl)
theorem dJ13_newCapacity_50 : decode cJ13_newCapacity 50 = .ok (.athrow, 1) := dk_191 (dk_at dksJ13_newCapacity_2 3 rfl rfl)
theorem dJ13_newCapacity_51 : decode cJ13_newCapacity 51 = .ok (.iload 5, 2) := dk_21 5 (dk_at dksJ13_newCapacity_2 4 rfl rfl)
theorem dJ13_newCapacity_53 : decode cJ13_newCapacity 53 = .ok (.aload_n 0, 1) := dk_42 (dk_at dksJ13_newCapacity_2 6 rfl rfl)
theorem dJ13_newCapacity_54 : decode cJ13_newCapacity 54 = .ok (.getfield 22, 3) := dk_180 0 22 (dk_at dksJ13_newCapacity_2 7 rfl rfl)
theorem dJ13_newCapacity_57 : decode cJ13_newCapacity 57 = .ok (.ishr, 1) := dk_122 (dk_at dksJ13_newCapacity_2 10 rfl rfl)
theorem dJ13_newCapacity_58 : decode cJ13_newCapacity 58 = .ok (.ireturn, 1) := dk_172 (dk_at dksJ13_newCapacity_2 11 rfl rfl)
abbrev cJ13_isLatin1 : ByteArray := prog_24_method_68_code
def yJ13_isLatin1 : MethodName := ⟨RJ13, "isLatin1", "()Z"⟩
def dkwJ13_isLatin1_0 : List UInt8 := [178, 0, 18, 153, 0, 14, 42, 180, 0, 22, 154, 0, 7, 4, 167, 0, 4, 3, 172]
abbrev dktJ13_isLatin1_0 : List UInt8 := dkwJ13_isLatin1_0 ++ []
theorem dksJ13_isLatin1_0 : cJ13_isLatin1.data.toList.drop 0 = dktJ13_isLatin1_0 := by decide +kernel
theorem dJ13_isLatin1_0 : decode cJ13_isLatin1 0 = .ok (.getstatic 18, 3) := dk_178 0 18 (dk_at dksJ13_isLatin1_0 0 rfl rfl)
theorem dJ13_isLatin1_3 : decode cJ13_isLatin1 3 = .ok (.ifCond .eq 14, 3) := dk_153 0 14 (dk_at dksJ13_isLatin1_0 3 rfl rfl)
theorem dJ13_isLatin1_6 : decode cJ13_isLatin1 6 = .ok (.aload_n 0, 1) := dk_42 (dk_at dksJ13_isLatin1_0 6 rfl rfl)
theorem dJ13_isLatin1_7 : decode cJ13_isLatin1 7 = .ok (.getfield 22, 3) := dk_180 0 22 (dk_at dksJ13_isLatin1_0 7 rfl rfl)
theorem dJ13_isLatin1_10 : decode cJ13_isLatin1 10 = .ok (.ifCond .ne 7, 3) := dk_154 0 7 (dk_at dksJ13_isLatin1_0 10 rfl rfl)
theorem dJ13_isLatin1_13 : decode cJ13_isLatin1 13 = .ok (.iconst 1, 1) := dk_4 (dk_at dksJ13_isLatin1_0 13 rfl rfl)
theorem dJ13_isLatin1_14 : decode cJ13_isLatin1 14 = .ok (.goto 4, 3) := dk_167 0 4 (dk_at dksJ13_isLatin1_0 14 rfl rfl)
theorem dJ13_isLatin1_17 : decode cJ13_isLatin1 17 = .ok (.iconst 0, 1) := dk_3 (dk_at dksJ13_isLatin1_0 17 rfl rfl)
theorem dJ13_isLatin1_18 : decode cJ13_isLatin1 18 = .ok (.ireturn, 1) := dk_172 (dk_at dksJ13_isLatin1_0 18 rfl rfl)
abbrev cJ13_putStringAt : ByteArray := prog_24_method_73_code
def yJ13_putStringAt : MethodName := ⟨RJ13, "putStringAt", "(ILjava/lang/String;)V"⟩
def dkwJ13_putStringAt_0 : List UInt8 := [42, 44, 182, 1, 141, 44, 42, 180, 0, 15, 27, 42, 180, 0, 22, 182, 1, 143, 177]
abbrev dktJ13_putStringAt_0 : List UInt8 := dkwJ13_putStringAt_0 ++ []
theorem dksJ13_putStringAt_0 : cJ13_putStringAt.data.toList.drop 0 = dktJ13_putStringAt_0 := by decide +kernel
theorem dJ13_putStringAt_0 : decode cJ13_putStringAt 0 = .ok (.aload_n 0, 1) := dk_42 (dk_at dksJ13_putStringAt_0 0 rfl rfl)
theorem dJ13_putStringAt_1 : decode cJ13_putStringAt 1 = .ok (.aload_n 2, 1) := dk_44 (dk_at dksJ13_putStringAt_0 1 rfl rfl)
theorem dJ13_putStringAt_2 : decode cJ13_putStringAt 2 = .ok (.invokevirtual 397, 3) := dk_182 1 141 (dk_at dksJ13_putStringAt_0 2 rfl rfl)
theorem dJ13_putStringAt_5 : decode cJ13_putStringAt 5 = .ok (.aload_n 2, 1) := dk_44 (dk_at dksJ13_putStringAt_0 5 rfl rfl)
theorem dJ13_putStringAt_6 : decode cJ13_putStringAt 6 = .ok (.aload_n 0, 1) := dk_42 (dk_at dksJ13_putStringAt_0 6 rfl rfl)
theorem dJ13_putStringAt_7 : decode cJ13_putStringAt 7 = .ok (.getfield 15, 3) := dk_180 0 15 (dk_at dksJ13_putStringAt_0 7 rfl rfl)
theorem dJ13_putStringAt_10 : decode cJ13_putStringAt 10 = .ok (.iload_n 1, 1) := dk_27 (dk_at dksJ13_putStringAt_0 10 rfl rfl)
theorem dJ13_putStringAt_11 : decode cJ13_putStringAt 11 = .ok (.aload_n 0, 1) := dk_42 (dk_at dksJ13_putStringAt_0 11 rfl rfl)
theorem dJ13_putStringAt_12 : decode cJ13_putStringAt 12 = .ok (.getfield 22, 3) := dk_180 0 22 (dk_at dksJ13_putStringAt_0 12 rfl rfl)
theorem dJ13_putStringAt_15 : decode cJ13_putStringAt 15 = .ok (.invokevirtual 399, 3) := dk_182 1 143 (dk_at dksJ13_putStringAt_0 15 rfl rfl)
theorem dJ13_putStringAt_18 : decode cJ13_putStringAt 18 = .ok (.return_, 1) := dk_177 (dk_at dksJ13_putStringAt_0 18 rfl rfl)
abbrev cJ13_inflateIfNeededFor : ByteArray := prog_24_method_71_code
def yJ13_inflateIfNeededFor : MethodName := ⟨RJ13, "inflateIfNeededFor", "(Ljava/lang/String;)V"⟩
def dkwJ13_inflateIfNeededFor_0 : List UInt8 := [178, 0, 18, 153, 0, 18, 42, 180, 0, 22, 43, 182, 0, 40, 159, 0, 7, 42, 182, 0, 195, 177]
abbrev dktJ13_inflateIfNeededFor_0 : List UInt8 := dkwJ13_inflateIfNeededFor_0 ++ []
theorem dksJ13_inflateIfNeededFor_0 : cJ13_inflateIfNeededFor.data.toList.drop 0 = dktJ13_inflateIfNeededFor_0 := by decide +kernel
theorem dJ13_inflateIfNeededFor_0 : decode cJ13_inflateIfNeededFor 0 = .ok (.getstatic 18, 3) := dk_178 0 18 (dk_at dksJ13_inflateIfNeededFor_0 0 rfl rfl)
theorem dJ13_inflateIfNeededFor_3 : decode cJ13_inflateIfNeededFor 3 = .ok (.ifCond .eq 18, 3) := dk_153 0 18 (dk_at dksJ13_inflateIfNeededFor_0 3 rfl rfl)
theorem dJ13_inflateIfNeededFor_6 : decode cJ13_inflateIfNeededFor 6 = .ok (.aload_n 0, 1) := dk_42 (dk_at dksJ13_inflateIfNeededFor_0 6 rfl rfl)
theorem dJ13_inflateIfNeededFor_7 : decode cJ13_inflateIfNeededFor 7 = .ok (.getfield 22, 3) := dk_180 0 22 (dk_at dksJ13_inflateIfNeededFor_0 7 rfl rfl)
theorem dJ13_inflateIfNeededFor_10 : decode cJ13_inflateIfNeededFor 10 = .ok (.aload_n 1, 1) := dk_43 (dk_at dksJ13_inflateIfNeededFor_0 10 rfl rfl)
theorem dJ13_inflateIfNeededFor_11 : decode cJ13_inflateIfNeededFor 11 = .ok (.invokevirtual 40, 3) := dk_182 0 40 (dk_at dksJ13_inflateIfNeededFor_0 11 rfl rfl)
theorem dJ13_inflateIfNeededFor_14 : decode cJ13_inflateIfNeededFor 14 = .ok (.if_icmp .eq 7, 3) := dk_159 0 7 (dk_at dksJ13_inflateIfNeededFor_0 14 rfl rfl)
theorem dJ13_inflateIfNeededFor_17 : decode cJ13_inflateIfNeededFor 17 = .ok (.aload_n 0, 1) := dk_42 (dk_at dksJ13_inflateIfNeededFor_0 17 rfl rfl)
theorem dJ13_inflateIfNeededFor_18 : decode cJ13_inflateIfNeededFor 18 = .ok (.invokevirtual 195, 3) := dk_182 0 195 (dk_at dksJ13_inflateIfNeededFor_0 18 rfl rfl)
theorem dJ13_inflateIfNeededFor_21 : decode cJ13_inflateIfNeededFor 21 = .ok (.return_, 1) := dk_177 (dk_at dksJ13_inflateIfNeededFor_0 21 rfl rfl)
abbrev cJ13_inflate : ByteArray := prog_24_method_11_code
def yJ13_inflate : MethodName := ⟨RJ13, "inflate", "()V"⟩
def dkwJ13_inflate_1 : List UInt8 := [42, 180, 0, 79, 184, 0, 125, 42, 43, 181, 0, 15, 42, 4, 181, 0, 22, 177]
abbrev dktJ13_inflate_1 : List UInt8 := dkwJ13_inflate_1 ++ []
def dkwJ13_inflate_0 : List UInt8 := [42, 182, 0, 83, 154, 0, 4, 177, 42, 180, 0, 15, 190, 184, 0, 26, 76, 42, 180, 0, 15, 3, 43, 3]
abbrev dktJ13_inflate_0 : List UInt8 := dkwJ13_inflate_0 ++ dktJ13_inflate_1
theorem dksJ13_inflate_0 : cJ13_inflate.data.toList.drop 0 = dktJ13_inflate_0 := by decide +kernel
theorem dksJ13_inflate_1 : cJ13_inflate.data.toList.drop 24 = dktJ13_inflate_1 := dk_seg dksJ13_inflate_0 24 rfl rfl
theorem dJ13_inflate_0 : decode cJ13_inflate 0 = .ok (.aload_n 0, 1) := dk_42 (dk_at dksJ13_inflate_0 0 rfl rfl)
theorem dJ13_inflate_1 : decode cJ13_inflate 1 = .ok (.invokevirtual 83, 3) := dk_182 0 83 (dk_at dksJ13_inflate_0 1 rfl rfl)
theorem dJ13_inflate_4 : decode cJ13_inflate 4 = .ok (.ifCond .ne 4, 3) := dk_154 0 4 (dk_at dksJ13_inflate_0 4 rfl rfl)
theorem dJ13_inflate_7 : decode cJ13_inflate 7 = .ok (.return_, 1) := dk_177 (dk_at dksJ13_inflate_0 7 rfl rfl)
theorem dJ13_inflate_8 : decode cJ13_inflate 8 = .ok (.aload_n 0, 1) := dk_42 (dk_at dksJ13_inflate_0 8 rfl rfl)
theorem dJ13_inflate_9 : decode cJ13_inflate 9 = .ok (.getfield 15, 3) := dk_180 0 15 (dk_at dksJ13_inflate_0 9 rfl rfl)
theorem dJ13_inflate_12 : decode cJ13_inflate 12 = .ok (.arraylength, 1) := dk_190 (dk_at dksJ13_inflate_0 12 rfl rfl)
theorem dJ13_inflate_13 : decode cJ13_inflate 13 = .ok (.invokestatic 26, 3) := dk_184 0 26 (dk_at dksJ13_inflate_0 13 rfl rfl)
theorem dJ13_inflate_16 : decode cJ13_inflate 16 = .ok (.astore_n 1, 1) := dk_76 (dk_at dksJ13_inflate_0 16 rfl rfl)
theorem dJ13_inflate_17 : decode cJ13_inflate 17 = .ok (.aload_n 0, 1) := dk_42 (dk_at dksJ13_inflate_0 17 rfl rfl)
theorem dJ13_inflate_18 : decode cJ13_inflate 18 = .ok (.getfield 15, 3) := dk_180 0 15 (dk_at dksJ13_inflate_0 18 rfl rfl)
theorem dJ13_inflate_21 : decode cJ13_inflate 21 = .ok (.iconst 0, 1) := dk_3 (dk_at dksJ13_inflate_0 21 rfl rfl)
theorem dJ13_inflate_22 : decode cJ13_inflate 22 = .ok (.aload_n 1, 1) := dk_43 (dk_at dksJ13_inflate_0 22 rfl rfl)
theorem dJ13_inflate_23 : decode cJ13_inflate 23 = .ok (.iconst 0, 1) := dk_3 (dk_at dksJ13_inflate_0 23 rfl rfl)
theorem dJ13_inflate_24 : decode cJ13_inflate 24 = .ok (.aload_n 0, 1) := dk_42 (dk_at dksJ13_inflate_1 0 rfl rfl)
theorem dJ13_inflate_25 : decode cJ13_inflate 25 = .ok (.getfield 79, 3) := dk_180 0 79 (dk_at dksJ13_inflate_1 1 rfl rfl)
theorem dJ13_inflate_28 : decode cJ13_inflate 28 = .ok (.invokestatic 125, 3) := dk_184 0 125 (dk_at dksJ13_inflate_1 4 rfl rfl)
theorem dJ13_inflate_31 : decode cJ13_inflate 31 = .ok (.aload_n 0, 1) := dk_42 (dk_at dksJ13_inflate_1 7 rfl rfl)
theorem dJ13_inflate_32 : decode cJ13_inflate 32 = .ok (.aload_n 1, 1) := dk_43 (dk_at dksJ13_inflate_1 8 rfl rfl)
theorem dJ13_inflate_33 : decode cJ13_inflate 33 = .ok (.putfield 15, 3) := dk_181 0 15 (dk_at dksJ13_inflate_1 9 rfl rfl)
theorem dJ13_inflate_36 : decode cJ13_inflate 36 = .ok (.aload_n 0, 1) := dk_42 (dk_at dksJ13_inflate_1 12 rfl rfl)
theorem dJ13_inflate_37 : decode cJ13_inflate 37 = .ok (.iconst 1, 1) := dk_4 (dk_at dksJ13_inflate_1 13 rfl rfl)
theorem dJ13_inflate_38 : decode cJ13_inflate 38 = .ok (.putfield 22, 3) := dk_181 0 22 (dk_at dksJ13_inflate_1 14 rfl rfl)
theorem dJ13_inflate_41 : decode cJ13_inflate 41 = .ok (.return_, 1) := dk_177 (dk_at dksJ13_inflate_1 17 rfl rfl)
abbrev cJ13_append_2 : ByteArray := prog_24_method_32_code
def yJ13_append_2 : MethodName := ⟨RJ13, "append", "(I)Ljava/lang/AbstractStringBuilder;"⟩
def dkwJ13_append_2_2 : List UInt8 := [42, 29, 181, 0, 79, 42, 176]
abbrev dktJ13_append_2_2 : List UInt8 := dkwJ13_append_2_2 ++ []
def dkwJ13_append_2_1 : List UInt8 := [27, 29, 42, 180, 0, 15, 184, 0, 248, 87, 167, 0, 14, 27, 28, 29, 42, 180, 0, 15, 184, 0, 251, 87]
abbrev dktJ13_append_2_1 : List UInt8 := dkwJ13_append_2_1 ++ dktJ13_append_2_2
def dkwJ13_append_2_0 : List UInt8 := [42, 180, 0, 79, 61, 28, 27, 184, 0, 245, 96, 62, 42, 29, 182, 0, 100, 42, 182, 0, 83, 153, 0, 16]
abbrev dktJ13_append_2_0 : List UInt8 := dkwJ13_append_2_0 ++ dktJ13_append_2_1
theorem dksJ13_append_2_0 : cJ13_append_2.data.toList.drop 0 = dktJ13_append_2_0 := by decide +kernel
theorem dksJ13_append_2_1 : cJ13_append_2.data.toList.drop 24 = dktJ13_append_2_1 := dk_seg dksJ13_append_2_0 24 rfl rfl
theorem dksJ13_append_2_2 : cJ13_append_2.data.toList.drop 48 = dktJ13_append_2_2 := dk_seg dksJ13_append_2_1 24 rfl rfl
theorem dJ13_append_2_0 : decode cJ13_append_2 0 = .ok (.aload_n 0, 1) := dk_42 (dk_at dksJ13_append_2_0 0 rfl rfl)
theorem dJ13_append_2_1 : decode cJ13_append_2 1 = .ok (.getfield 79, 3) := dk_180 0 79 (dk_at dksJ13_append_2_0 1 rfl rfl)
theorem dJ13_append_2_4 : decode cJ13_append_2 4 = .ok (.istore_n 2, 1) := dk_61 (dk_at dksJ13_append_2_0 4 rfl rfl)
theorem dJ13_append_2_5 : decode cJ13_append_2 5 = .ok (.iload_n 2, 1) := dk_28 (dk_at dksJ13_append_2_0 5 rfl rfl)
theorem dJ13_append_2_6 : decode cJ13_append_2 6 = .ok (.iload_n 1, 1) := dk_27 (dk_at dksJ13_append_2_0 6 rfl rfl)
theorem dJ13_append_2_7 : decode cJ13_append_2 7 = .ok (.invokestatic 245, 3) := dk_184 0 245 (dk_at dksJ13_append_2_0 7 rfl rfl)
theorem dJ13_append_2_10 : decode cJ13_append_2 10 = .ok (.iadd, 1) := dk_96 (dk_at dksJ13_append_2_0 10 rfl rfl)
theorem dJ13_append_2_11 : decode cJ13_append_2 11 = .ok (.istore_n 3, 1) := dk_62 (dk_at dksJ13_append_2_0 11 rfl rfl)
theorem dJ13_append_2_12 : decode cJ13_append_2 12 = .ok (.aload_n 0, 1) := dk_42 (dk_at dksJ13_append_2_0 12 rfl rfl)
theorem dJ13_append_2_13 : decode cJ13_append_2 13 = .ok (.iload_n 3, 1) := dk_29 (dk_at dksJ13_append_2_0 13 rfl rfl)
theorem dJ13_append_2_14 : decode cJ13_append_2 14 = .ok (.invokevirtual 100, 3) := dk_182 0 100 (dk_at dksJ13_append_2_0 14 rfl rfl)
theorem dJ13_append_2_17 : decode cJ13_append_2 17 = .ok (.aload_n 0, 1) := dk_42 (dk_at dksJ13_append_2_0 17 rfl rfl)
theorem dJ13_append_2_18 : decode cJ13_append_2 18 = .ok (.invokevirtual 83, 3) := dk_182 0 83 (dk_at dksJ13_append_2_0 18 rfl rfl)
theorem dJ13_append_2_21 : decode cJ13_append_2 21 = .ok (.ifCond .eq 16, 3) := dk_153 0 16 (dk_at dksJ13_append_2_0 21 rfl rfl)
theorem dJ13_append_2_24 : decode cJ13_append_2 24 = .ok (.iload_n 1, 1) := dk_27 (dk_at dksJ13_append_2_1 0 rfl rfl)
theorem dJ13_append_2_25 : decode cJ13_append_2 25 = .ok (.iload_n 3, 1) := dk_29 (dk_at dksJ13_append_2_1 1 rfl rfl)
theorem dJ13_append_2_26 : decode cJ13_append_2 26 = .ok (.aload_n 0, 1) := dk_42 (dk_at dksJ13_append_2_1 2 rfl rfl)
theorem dJ13_append_2_27 : decode cJ13_append_2 27 = .ok (.getfield 15, 3) := dk_180 0 15 (dk_at dksJ13_append_2_1 3 rfl rfl)
theorem dJ13_append_2_30 : decode cJ13_append_2 30 = .ok (.invokestatic 248, 3) := dk_184 0 248 (dk_at dksJ13_append_2_1 6 rfl rfl)
theorem dJ13_append_2_33 : decode cJ13_append_2 33 = .ok (.pop, 1) := dk_87 (dk_at dksJ13_append_2_1 9 rfl rfl)
theorem dJ13_append_2_34 : decode cJ13_append_2 34 = .ok (.goto 14, 3) := dk_167 0 14 (dk_at dksJ13_append_2_1 10 rfl rfl)
theorem dJ13_append_2_37 : decode cJ13_append_2 37 = .ok (.iload_n 1, 1) := dk_27 (dk_at dksJ13_append_2_1 13 rfl rfl)
theorem dJ13_append_2_38 : decode cJ13_append_2 38 = .ok (.iload_n 2, 1) := dk_28 (dk_at dksJ13_append_2_1 14 rfl rfl)
theorem dJ13_append_2_39 : decode cJ13_append_2 39 = .ok (.iload_n 3, 1) := dk_29 (dk_at dksJ13_append_2_1 15 rfl rfl)
theorem dJ13_append_2_40 : decode cJ13_append_2 40 = .ok (.aload_n 0, 1) := dk_42 (dk_at dksJ13_append_2_1 16 rfl rfl)
theorem dJ13_append_2_41 : decode cJ13_append_2 41 = .ok (.getfield 15, 3) := dk_180 0 15 (dk_at dksJ13_append_2_1 17 rfl rfl)
theorem dJ13_append_2_44 : decode cJ13_append_2 44 = .ok (.invokestatic 251, 3) := dk_184 0 251 (dk_at dksJ13_append_2_1 20 rfl rfl)
theorem dJ13_append_2_47 : decode cJ13_append_2 47 = .ok (.pop, 1) := dk_87 (dk_at dksJ13_append_2_1 23 rfl rfl)
theorem dJ13_append_2_48 : decode cJ13_append_2 48 = .ok (.aload_n 0, 1) := dk_42 (dk_at dksJ13_append_2_2 0 rfl rfl)
theorem dJ13_append_2_49 : decode cJ13_append_2 49 = .ok (.iload_n 3, 1) := dk_29 (dk_at dksJ13_append_2_2 1 rfl rfl)
theorem dJ13_append_2_50 : decode cJ13_append_2 50 = .ok (.putfield 79, 3) := dk_181 0 79 (dk_at dksJ13_append_2_2 2 rfl rfl)
theorem dJ13_append_2_53 : decode cJ13_append_2 53 = .ok (.aload_n 0, 1) := dk_42 (dk_at dksJ13_append_2_2 5 rfl rfl)
theorem dJ13_append_2_54 : decode cJ13_append_2 54 = .ok (.areturn, 1) := dk_176 (dk_at dksJ13_append_2_2 6 rfl rfl)
abbrev cJ13_getValue : ByteArray := prog_24_method_64_code
def yJ13_getValue : MethodName := ⟨RJ13, "getValue", "()[B"⟩
theorem dJ13_getValue_0 : decode cJ13_getValue 0 = .ok (.aload_n 0, 1) := by decide +kernel
theorem dJ13_getValue_1 : decode cJ13_getValue 1 = .ok (.getfield 15, 3) := by decide +kernel
theorem dJ13_getValue_4 : decode cJ13_getValue 4 = .ok (.areturn, 1) := by decide +kernel
abbrev cJ13_length : ByteArray := prog_24_method_6_code
def yJ13_length : MethodName := ⟨RJ13, "length", "()I"⟩
theorem dJ13_length_0 : decode cJ13_length 0 = .ok (.aload_n 0, 1) := by decide +kernel
theorem dJ13_length_1 : decode cJ13_length 1 = .ok (.getfield 79, 3) := by decide +kernel
theorem dJ13_length_4 : decode cJ13_length 4 = .ok (.ireturn, 1) := by decide +kernel
abbrev cJ13_append_3 : ByteArray := prog_24_method_34_code
def yJ13_append_3 : MethodName := ⟨RJ13, "append", "(F)Ljava/lang/AbstractStringBuilder;"⟩
def dkwJ13_append_3_0 : List UInt8 := [35, 42, 184, 1, 9, 87, 167, 0, 13, 77, 187, 1, 17, 89, 44, 183, 1, 19, 191, 42, 176]
abbrev dktJ13_append_3_0 : List UInt8 := dkwJ13_append_3_0 ++ []
theorem dksJ13_append_3_0 : cJ13_append_3.data.toList.drop 0 = dktJ13_append_3_0 := by decide +kernel
theorem dJ13_append_3_0 : decode cJ13_append_3 0 = .ok (.fload_n 1, 1) := dk_35 (dk_at dksJ13_append_3_0 0 rfl rfl)
theorem dJ13_append_3_1 : decode cJ13_append_3 1 = .ok (.aload_n 0, 1) := dk_42 (dk_at dksJ13_append_3_0 1 rfl rfl)
theorem dJ13_append_3_2 : decode cJ13_append_3 2 = .ok (.invokestatic 265, 3) := dk_184 1 9 (dk_at dksJ13_append_3_0 2 rfl rfl)
theorem dJ13_append_3_5 : decode cJ13_append_3 5 = .ok (.pop, 1) := dk_87 (dk_at dksJ13_append_3_0 5 rfl rfl)
theorem dJ13_append_3_6 : decode cJ13_append_3 6 = .ok (.goto 13, 3) := dk_167 0 13 (dk_at dksJ13_append_3_0 6 rfl rfl)
theorem dJ13_append_3_9 : decode cJ13_append_3 9 = .ok (.astore_n 2, 1) := dk_77 (dk_at dksJ13_append_3_0 9 rfl rfl)
theorem dJ13_append_3_10 : decode cJ13_append_3 10 = .ok (.new 273, 3) := dk_187 1 17 (dk_at dksJ13_append_3_0 10 rfl rfl)
theorem dJ13_append_3_13 : decode cJ13_append_3 13 = .ok (.dup, 1) := dk_89 (dk_at dksJ13_append_3_0 13 rfl rfl)
theorem dJ13_append_3_14 : decode cJ13_append_3 14 = .ok (.aload_n 2, 1) := dk_44 (dk_at dksJ13_append_3_0 14 rfl rfl)
theorem dJ13_append_3_15 : decode cJ13_append_3 15 = .ok (.invokespecial 275, 3) := dk_183 1 19 (dk_at dksJ13_append_3_0 15 rfl rfl)
theorem dJ13_append_3_18 : decode cJ13_append_3 18 = .ok (.athrow, 1) := dk_191 (dk_at dksJ13_append_3_0 18 rfl rfl)
theorem dJ13_append_3_19 : decode cJ13_append_3 19 = .ok (.aload_n 0, 1) := dk_42 (dk_at dksJ13_append_3_0 19 rfl rfl)
theorem dJ13_append_3_20 : decode cJ13_append_3 20 = .ok (.areturn, 1) := dk_176 (dk_at dksJ13_append_3_0 20 rfl rfl)
abbrev cJ13_append_4 : ByteArray := prog_24_method_28_code
def yJ13_append_4 : MethodName := ⟨RJ13, "append", "([C)Ljava/lang/AbstractStringBuilder;"⟩
def dkwJ13_append_4_0 : List UInt8 := [43, 190, 61, 42, 42, 180, 0, 79, 28, 96, 182, 0, 100, 42, 43, 3, 28, 182, 0, 239, 42, 176]
abbrev dktJ13_append_4_0 : List UInt8 := dkwJ13_append_4_0 ++ []
theorem dksJ13_append_4_0 : cJ13_append_4.data.toList.drop 0 = dktJ13_append_4_0 := by decide +kernel
theorem dJ13_append_4_0 : decode cJ13_append_4 0 = .ok (.aload_n 1, 1) := dk_43 (dk_at dksJ13_append_4_0 0 rfl rfl)
theorem dJ13_append_4_1 : decode cJ13_append_4 1 = .ok (.arraylength, 1) := dk_190 (dk_at dksJ13_append_4_0 1 rfl rfl)
theorem dJ13_append_4_2 : decode cJ13_append_4 2 = .ok (.istore_n 2, 1) := dk_61 (dk_at dksJ13_append_4_0 2 rfl rfl)
theorem dJ13_append_4_3 : decode cJ13_append_4 3 = .ok (.aload_n 0, 1) := dk_42 (dk_at dksJ13_append_4_0 3 rfl rfl)
theorem dJ13_append_4_4 : decode cJ13_append_4 4 = .ok (.aload_n 0, 1) := dk_42 (dk_at dksJ13_append_4_0 4 rfl rfl)
theorem dJ13_append_4_5 : decode cJ13_append_4 5 = .ok (.getfield 79, 3) := dk_180 0 79 (dk_at dksJ13_append_4_0 5 rfl rfl)
theorem dJ13_append_4_8 : decode cJ13_append_4 8 = .ok (.iload_n 2, 1) := dk_28 (dk_at dksJ13_append_4_0 8 rfl rfl)
theorem dJ13_append_4_9 : decode cJ13_append_4 9 = .ok (.iadd, 1) := dk_96 (dk_at dksJ13_append_4_0 9 rfl rfl)
theorem dJ13_append_4_10 : decode cJ13_append_4 10 = .ok (.invokevirtual 100, 3) := dk_182 0 100 (dk_at dksJ13_append_4_0 10 rfl rfl)
theorem dJ13_append_4_13 : decode cJ13_append_4 13 = .ok (.aload_n 0, 1) := dk_42 (dk_at dksJ13_append_4_0 13 rfl rfl)
theorem dJ13_append_4_14 : decode cJ13_append_4 14 = .ok (.aload_n 1, 1) := dk_43 (dk_at dksJ13_append_4_0 14 rfl rfl)
theorem dJ13_append_4_15 : decode cJ13_append_4 15 = .ok (.iconst 0, 1) := dk_3 (dk_at dksJ13_append_4_0 15 rfl rfl)
theorem dJ13_append_4_16 : decode cJ13_append_4 16 = .ok (.iload_n 2, 1) := dk_28 (dk_at dksJ13_append_4_0 16 rfl rfl)
theorem dJ13_append_4_17 : decode cJ13_append_4 17 = .ok (.invokevirtual 239, 3) := dk_182 0 239 (dk_at dksJ13_append_4_0 17 rfl rfl)
theorem dJ13_append_4_20 : decode cJ13_append_4 20 = .ok (.aload_n 0, 1) := dk_42 (dk_at dksJ13_append_4_0 20 rfl rfl)
theorem dJ13_append_4_21 : decode cJ13_append_4 21 = .ok (.areturn, 1) := dk_176 (dk_at dksJ13_append_4_0 21 rfl rfl)
abbrev cJ13_appendChars : ByteArray := prog_24_method_74_code
def yJ13_appendChars : MethodName := ⟨RJ13, "appendChars", "([CII)V"⟩
def dkwJ13_appendChars_5 : List UInt8 := [184, 1, 130, 42, 21, 4, 29, 96, 28, 100, 181, 0, 79, 177]
abbrev dktJ13_appendChars_5 : List UInt8 := dkwJ13_appendChars_5 ++ []
def dkwJ13_appendChars_4 : List UInt8 := [181, 0, 79, 177, 132, 6, 1, 167, 255, 181, 167, 0, 15, 42, 180, 0, 15, 21, 4, 43, 28, 29]
abbrev dktJ13_appendChars_4 : List UInt8 := dkwJ13_appendChars_4 ++ dktJ13_appendChars_5
def dkwJ13_appendChars_3 : List UInt8 := [182, 0, 195, 42, 180, 0, 15, 21, 7, 43, 21, 6, 29, 184, 1, 130, 42, 21, 4, 29, 96, 21, 6, 100]
abbrev dktJ13_appendChars_3 : List UInt8 := dkwJ13_appendChars_3 ++ dktJ13_appendChars_4
def dkwJ13_appendChars_2 : List UInt8 := [21, 7, 132, 7, 1, 21, 8, 145, 84, 167, 0, 41, 42, 21, 7, 89, 54, 4, 181, 0, 79, 42]
abbrev dktJ13_appendChars_2 : List UInt8 := dkwJ13_appendChars_2 ++ dktJ13_appendChars_3
def dkwJ13_appendChars_1 : List UInt8 := [54, 7, 21, 6, 29, 162, 0, 75, 43, 21, 6, 52, 54, 8, 21, 8, 184, 0, 191, 153, 0, 17, 25, 5]
abbrev dktJ13_appendChars_1 : List UInt8 := dkwJ13_appendChars_1 ++ dktJ13_appendChars_2
def dkwJ13_appendChars_0 : List UInt8 := [42, 180, 0, 79, 54, 4, 42, 182, 0, 83, 153, 0, 97, 42, 180, 0, 15, 58, 5, 28, 54, 6, 21, 4]
abbrev dktJ13_appendChars_0 : List UInt8 := dkwJ13_appendChars_0 ++ dktJ13_appendChars_1
theorem dksJ13_appendChars_0 : cJ13_appendChars.data.toList.drop 0 = dktJ13_appendChars_0 := by decide +kernel
theorem dksJ13_appendChars_1 : cJ13_appendChars.data.toList.drop 24 = dktJ13_appendChars_1 := dk_seg dksJ13_appendChars_0 24 rfl rfl
theorem dksJ13_appendChars_2 : cJ13_appendChars.data.toList.drop 48 = dktJ13_appendChars_2 := dk_seg dksJ13_appendChars_1 24 rfl rfl
theorem dksJ13_appendChars_3 : cJ13_appendChars.data.toList.drop 70 = dktJ13_appendChars_3 := dk_seg dksJ13_appendChars_2 22 rfl rfl
theorem dksJ13_appendChars_4 : cJ13_appendChars.data.toList.drop 94 = dktJ13_appendChars_4 := dk_seg dksJ13_appendChars_3 24 rfl rfl
theorem dksJ13_appendChars_5 : cJ13_appendChars.data.toList.drop 116 = dktJ13_appendChars_5 := dk_seg dksJ13_appendChars_4 22 rfl rfl
theorem dJ13_appendChars_0 : decode cJ13_appendChars 0 = .ok (.aload_n 0, 1) := dk_42 (dk_at dksJ13_appendChars_0 0 rfl rfl)
theorem dJ13_appendChars_1 : decode cJ13_appendChars 1 = .ok (.getfield 79, 3) := dk_180 0 79 (dk_at dksJ13_appendChars_0 1 rfl rfl)
theorem dJ13_appendChars_4 : decode cJ13_appendChars 4 = .ok (.istore 4, 2) := dk_54 4 (dk_at dksJ13_appendChars_0 4 rfl rfl)
theorem dJ13_appendChars_6 : decode cJ13_appendChars 6 = .ok (.aload_n 0, 1) := dk_42 (dk_at dksJ13_appendChars_0 6 rfl rfl)
theorem dJ13_appendChars_7 : decode cJ13_appendChars 7 = .ok (.invokevirtual 83, 3) := dk_182 0 83 (dk_at dksJ13_appendChars_0 7 rfl rfl)
theorem dJ13_appendChars_10 : decode cJ13_appendChars 10 = .ok (.ifCond .eq 97, 3) := dk_153 0 97 (dk_at dksJ13_appendChars_0 10 rfl rfl)
theorem dJ13_appendChars_13 : decode cJ13_appendChars 13 = .ok (.aload_n 0, 1) := dk_42 (dk_at dksJ13_appendChars_0 13 rfl rfl)
theorem dJ13_appendChars_14 : decode cJ13_appendChars 14 = .ok (.getfield 15, 3) := dk_180 0 15 (dk_at dksJ13_appendChars_0 14 rfl rfl)
theorem dJ13_appendChars_17 : decode cJ13_appendChars 17 = .ok (.astore 5, 2) := dk_58 5 (dk_at dksJ13_appendChars_0 17 rfl rfl)
theorem dJ13_appendChars_19 : decode cJ13_appendChars 19 = .ok (.iload_n 2, 1) := dk_28 (dk_at dksJ13_appendChars_0 19 rfl rfl)
theorem dJ13_appendChars_20 : decode cJ13_appendChars 20 = .ok (.istore 6, 2) := dk_54 6 (dk_at dksJ13_appendChars_0 20 rfl rfl)
theorem dJ13_appendChars_22 : decode cJ13_appendChars 22 = .ok (.iload 4, 2) := dk_21 4 (dk_at dksJ13_appendChars_0 22 rfl rfl)
theorem dJ13_appendChars_24 : decode cJ13_appendChars 24 = .ok (.istore 7, 2) := dk_54 7 (dk_at dksJ13_appendChars_1 0 rfl rfl)
theorem dJ13_appendChars_26 : decode cJ13_appendChars 26 = .ok (.iload 6, 2) := dk_21 6 (dk_at dksJ13_appendChars_1 2 rfl rfl)
theorem dJ13_appendChars_28 : decode cJ13_appendChars 28 = .ok (.iload_n 3, 1) := dk_29 (dk_at dksJ13_appendChars_1 4 rfl rfl)
theorem dJ13_appendChars_29 : decode cJ13_appendChars 29 = .ok (.if_icmp .ge 75, 3) := dk_162 0 75 (dk_at dksJ13_appendChars_1 5 rfl rfl)
theorem dJ13_appendChars_32 : decode cJ13_appendChars 32 = .ok (.aload_n 1, 1) := dk_43 (dk_at dksJ13_appendChars_1 8 rfl rfl)
theorem dJ13_appendChars_33 : decode cJ13_appendChars 33 = .ok (.iload 6, 2) := dk_21 6 (dk_at dksJ13_appendChars_1 9 rfl rfl)
theorem dJ13_appendChars_35 : decode cJ13_appendChars 35 = .ok (.caload, 1) := dk_52 (dk_at dksJ13_appendChars_1 11 rfl rfl)
theorem dJ13_appendChars_36 : decode cJ13_appendChars 36 = .ok (.istore 8, 2) := dk_54 8 (dk_at dksJ13_appendChars_1 12 rfl rfl)
theorem dJ13_appendChars_38 : decode cJ13_appendChars 38 = .ok (.iload 8, 2) := dk_21 8 (dk_at dksJ13_appendChars_1 14 rfl rfl)
theorem dJ13_appendChars_40 : decode cJ13_appendChars 40 = .ok (.invokestatic 191, 3) := dk_184 0 191 (dk_at dksJ13_appendChars_1 16 rfl rfl)
theorem dJ13_appendChars_43 : decode cJ13_appendChars 43 = .ok (.ifCond .eq 17, 3) := dk_153 0 17 (dk_at dksJ13_appendChars_1 19 rfl rfl)
theorem dJ13_appendChars_46 : decode cJ13_appendChars 46 = .ok (.aload 5, 2) := dk_25 5 (dk_at dksJ13_appendChars_1 22 rfl rfl)
theorem dJ13_appendChars_48 : decode cJ13_appendChars 48 = .ok (.iload 7, 2) := dk_21 7 (dk_at dksJ13_appendChars_2 0 rfl rfl)
theorem dJ13_appendChars_50 : decode cJ13_appendChars 50 = .ok (.iinc 7 1, 3) := dk_132 7 1 (dk_at dksJ13_appendChars_2 2 rfl rfl)
theorem dJ13_appendChars_53 : decode cJ13_appendChars 53 = .ok (.iload 8, 2) := dk_21 8 (dk_at dksJ13_appendChars_2 5 rfl rfl)
theorem dJ13_appendChars_55 : decode cJ13_appendChars 55 = .ok (.i2b, 1) := dk_145 (dk_at dksJ13_appendChars_2 7 rfl rfl)
theorem dJ13_appendChars_56 : decode cJ13_appendChars 56 = .ok (.bastore, 1) := dk_84 (dk_at dksJ13_appendChars_2 8 rfl rfl)
theorem dJ13_appendChars_57 : decode cJ13_appendChars 57 = .ok (.goto 41, 3) := dk_167 0 41 (dk_at dksJ13_appendChars_2 9 rfl rfl)
theorem dJ13_appendChars_60 : decode cJ13_appendChars 60 = .ok (.aload_n 0, 1) := dk_42 (dk_at dksJ13_appendChars_2 12 rfl rfl)
theorem dJ13_appendChars_61 : decode cJ13_appendChars 61 = .ok (.iload 7, 2) := dk_21 7 (dk_at dksJ13_appendChars_2 13 rfl rfl)
theorem dJ13_appendChars_63 : decode cJ13_appendChars 63 = .ok (.dup, 1) := dk_89 (dk_at dksJ13_appendChars_2 15 rfl rfl)
theorem dJ13_appendChars_64 : decode cJ13_appendChars 64 = .ok (.istore 4, 2) := dk_54 4 (dk_at dksJ13_appendChars_2 16 rfl rfl)
theorem dJ13_appendChars_66 : decode cJ13_appendChars 66 = .ok (.putfield 79, 3) := dk_181 0 79 (dk_at dksJ13_appendChars_2 18 rfl rfl)
theorem dJ13_appendChars_69 : decode cJ13_appendChars 69 = .ok (.aload_n 0, 1) := dk_42 (dk_at dksJ13_appendChars_2 21 rfl rfl)
theorem dJ13_appendChars_70 : decode cJ13_appendChars 70 = .ok (.invokevirtual 195, 3) := dk_182 0 195 (dk_at dksJ13_appendChars_3 0 rfl rfl)
theorem dJ13_appendChars_73 : decode cJ13_appendChars 73 = .ok (.aload_n 0, 1) := dk_42 (dk_at dksJ13_appendChars_3 3 rfl rfl)
theorem dJ13_appendChars_74 : decode cJ13_appendChars 74 = .ok (.getfield 15, 3) := dk_180 0 15 (dk_at dksJ13_appendChars_3 4 rfl rfl)
theorem dJ13_appendChars_77 : decode cJ13_appendChars 77 = .ok (.iload 7, 2) := dk_21 7 (dk_at dksJ13_appendChars_3 7 rfl rfl)
theorem dJ13_appendChars_79 : decode cJ13_appendChars 79 = .ok (.aload_n 1, 1) := dk_43 (dk_at dksJ13_appendChars_3 9 rfl rfl)
theorem dJ13_appendChars_80 : decode cJ13_appendChars 80 = .ok (.iload 6, 2) := dk_21 6 (dk_at dksJ13_appendChars_3 10 rfl rfl)
theorem dJ13_appendChars_82 : decode cJ13_appendChars 82 = .ok (.iload_n 3, 1) := dk_29 (dk_at dksJ13_appendChars_3 12 rfl rfl)
theorem dJ13_appendChars_83 : decode cJ13_appendChars 83 = .ok (.invokestatic 386, 3) := dk_184 1 130 (dk_at dksJ13_appendChars_3 13 rfl rfl)
theorem dJ13_appendChars_86 : decode cJ13_appendChars 86 = .ok (.aload_n 0, 1) := dk_42 (dk_at dksJ13_appendChars_3 16 rfl rfl)
theorem dJ13_appendChars_87 : decode cJ13_appendChars 87 = .ok (.iload 4, 2) := dk_21 4 (dk_at dksJ13_appendChars_3 17 rfl rfl)
theorem dJ13_appendChars_89 : decode cJ13_appendChars 89 = .ok (.iload_n 3, 1) := dk_29 (dk_at dksJ13_appendChars_3 19 rfl rfl)
theorem dJ13_appendChars_90 : decode cJ13_appendChars 90 = .ok (.iadd, 1) := dk_96 (dk_at dksJ13_appendChars_3 20 rfl rfl)
theorem dJ13_appendChars_91 : decode cJ13_appendChars 91 = .ok (.iload 6, 2) := dk_21 6 (dk_at dksJ13_appendChars_3 21 rfl rfl)
theorem dJ13_appendChars_93 : decode cJ13_appendChars 93 = .ok (.isub, 1) := dk_100 (dk_at dksJ13_appendChars_3 23 rfl rfl)
theorem dJ13_appendChars_94 : decode cJ13_appendChars 94 = .ok (.putfield 79, 3) := dk_181 0 79 (dk_at dksJ13_appendChars_4 0 rfl rfl)
theorem dJ13_appendChars_97 : decode cJ13_appendChars 97 = .ok (.return_, 1) := dk_177 (dk_at dksJ13_appendChars_4 3 rfl rfl)
theorem dJ13_appendChars_98 : decode cJ13_appendChars 98 = .ok (.iinc 6 1, 3) := dk_132 6 1 (dk_at dksJ13_appendChars_4 4 rfl rfl)
theorem dJ13_appendChars_101 : decode cJ13_appendChars 101 = .ok (.goto (-75), 3) := dk_167 255 181 (dk_at dksJ13_appendChars_4 7 rfl rfl)
theorem dJ13_appendChars_104 : decode cJ13_appendChars 104 = .ok (.goto 15, 3) := dk_167 0 15 (dk_at dksJ13_appendChars_4 10 rfl rfl)
theorem dJ13_appendChars_107 : decode cJ13_appendChars 107 = .ok (.aload_n 0, 1) := dk_42 (dk_at dksJ13_appendChars_4 13 rfl rfl)
theorem dJ13_appendChars_108 : decode cJ13_appendChars 108 = .ok (.getfield 15, 3) := dk_180 0 15 (dk_at dksJ13_appendChars_4 14 rfl rfl)
theorem dJ13_appendChars_111 : decode cJ13_appendChars 111 = .ok (.iload 4, 2) := dk_21 4 (dk_at dksJ13_appendChars_4 17 rfl rfl)
theorem dJ13_appendChars_113 : decode cJ13_appendChars 113 = .ok (.aload_n 1, 1) := dk_43 (dk_at dksJ13_appendChars_4 19 rfl rfl)
theorem dJ13_appendChars_114 : decode cJ13_appendChars 114 = .ok (.iload_n 2, 1) := dk_28 (dk_at dksJ13_appendChars_4 20 rfl rfl)
theorem dJ13_appendChars_115 : decode cJ13_appendChars 115 = .ok (.iload_n 3, 1) := dk_29 (dk_at dksJ13_appendChars_4 21 rfl rfl)
theorem dJ13_appendChars_116 : decode cJ13_appendChars 116 = .ok (.invokestatic 386, 3) := dk_184 1 130 (dk_at dksJ13_appendChars_5 0 rfl rfl)
theorem dJ13_appendChars_119 : decode cJ13_appendChars 119 = .ok (.aload_n 0, 1) := dk_42 (dk_at dksJ13_appendChars_5 3 rfl rfl)
theorem dJ13_appendChars_120 : decode cJ13_appendChars 120 = .ok (.iload 4, 2) := dk_21 4 (dk_at dksJ13_appendChars_5 4 rfl rfl)
theorem dJ13_appendChars_122 : decode cJ13_appendChars 122 = .ok (.iload_n 3, 1) := dk_29 (dk_at dksJ13_appendChars_5 6 rfl rfl)
theorem dJ13_appendChars_123 : decode cJ13_appendChars 123 = .ok (.iadd, 1) := dk_96 (dk_at dksJ13_appendChars_5 7 rfl rfl)
theorem dJ13_appendChars_124 : decode cJ13_appendChars 124 = .ok (.iload_n 2, 1) := dk_28 (dk_at dksJ13_appendChars_5 8 rfl rfl)
theorem dJ13_appendChars_125 : decode cJ13_appendChars 125 = .ok (.isub, 1) := dk_100 (dk_at dksJ13_appendChars_5 9 rfl rfl)
theorem dJ13_appendChars_126 : decode cJ13_appendChars 126 = .ok (.putfield 79, 3) := dk_181 0 79 (dk_at dksJ13_appendChars_5 10 rfl rfl)
theorem dJ13_appendChars_129 : decode cJ13_appendChars 129 = .ok (.return_, 1) := dk_177 (dk_at dksJ13_appendChars_5 13 rfl rfl)
abbrev cJ13_append_5 : ByteArray := prog_24_method_31_code
def yJ13_append_5 : MethodName := ⟨RJ13, "append", "(C)Ljava/lang/AbstractStringBuilder;"⟩
def dkwJ13_append_5_3 : List UInt8 := [181, 0, 79, 27, 184, 0, 197, 42, 176]
abbrev dktJ13_append_5_3 : List UInt8 := dkwJ13_append_5_3 ++ []
def dkwJ13_append_5_2 : List UInt8 := [182, 0, 83, 153, 0, 7, 42, 182, 0, 195, 42, 180, 0, 15, 42, 89, 180, 0, 79, 90, 4, 96]
abbrev dktJ13_append_5_2 : List UInt8 := dkwJ13_append_5_2 ++ dktJ13_append_5_3
def dkwJ13_append_5_1 : List UInt8 := [42, 180, 0, 15, 42, 89, 180, 0, 79, 90, 4, 96, 181, 0, 79, 27, 145, 84, 167, 0, 33, 42]
abbrev dktJ13_append_5_1 : List UInt8 := dkwJ13_append_5_1 ++ dktJ13_append_5_2
def dkwJ13_append_5_0 : List UInt8 := [42, 42, 180, 0, 79, 4, 96, 182, 0, 100, 42, 182, 0, 83, 153, 0, 31, 27, 184, 0, 191, 153, 0, 24]
abbrev dktJ13_append_5_0 : List UInt8 := dkwJ13_append_5_0 ++ dktJ13_append_5_1
theorem dksJ13_append_5_0 : cJ13_append_5.data.toList.drop 0 = dktJ13_append_5_0 := by decide +kernel
theorem dksJ13_append_5_1 : cJ13_append_5.data.toList.drop 24 = dktJ13_append_5_1 := dk_seg dksJ13_append_5_0 24 rfl rfl
theorem dksJ13_append_5_2 : cJ13_append_5.data.toList.drop 46 = dktJ13_append_5_2 := dk_seg dksJ13_append_5_1 22 rfl rfl
theorem dksJ13_append_5_3 : cJ13_append_5.data.toList.drop 68 = dktJ13_append_5_3 := dk_seg dksJ13_append_5_2 22 rfl rfl
theorem dJ13_append_5_0 : decode cJ13_append_5 0 = .ok (.aload_n 0, 1) := dk_42 (dk_at dksJ13_append_5_0 0 rfl rfl)
theorem dJ13_append_5_1 : decode cJ13_append_5 1 = .ok (.aload_n 0, 1) := dk_42 (dk_at dksJ13_append_5_0 1 rfl rfl)
theorem dJ13_append_5_2 : decode cJ13_append_5 2 = .ok (.getfield 79, 3) := dk_180 0 79 (dk_at dksJ13_append_5_0 2 rfl rfl)
theorem dJ13_append_5_5 : decode cJ13_append_5 5 = .ok (.iconst 1, 1) := dk_4 (dk_at dksJ13_append_5_0 5 rfl rfl)
theorem dJ13_append_5_6 : decode cJ13_append_5 6 = .ok (.iadd, 1) := dk_96 (dk_at dksJ13_append_5_0 6 rfl rfl)
theorem dJ13_append_5_7 : decode cJ13_append_5 7 = .ok (.invokevirtual 100, 3) := dk_182 0 100 (dk_at dksJ13_append_5_0 7 rfl rfl)
theorem dJ13_append_5_10 : decode cJ13_append_5 10 = .ok (.aload_n 0, 1) := dk_42 (dk_at dksJ13_append_5_0 10 rfl rfl)
theorem dJ13_append_5_11 : decode cJ13_append_5 11 = .ok (.invokevirtual 83, 3) := dk_182 0 83 (dk_at dksJ13_append_5_0 11 rfl rfl)
theorem dJ13_append_5_14 : decode cJ13_append_5 14 = .ok (.ifCond .eq 31, 3) := dk_153 0 31 (dk_at dksJ13_append_5_0 14 rfl rfl)
theorem dJ13_append_5_17 : decode cJ13_append_5 17 = .ok (.iload_n 1, 1) := dk_27 (dk_at dksJ13_append_5_0 17 rfl rfl)
theorem dJ13_append_5_18 : decode cJ13_append_5 18 = .ok (.invokestatic 191, 3) := dk_184 0 191 (dk_at dksJ13_append_5_0 18 rfl rfl)
theorem dJ13_append_5_21 : decode cJ13_append_5 21 = .ok (.ifCond .eq 24, 3) := dk_153 0 24 (dk_at dksJ13_append_5_0 21 rfl rfl)
theorem dJ13_append_5_24 : decode cJ13_append_5 24 = .ok (.aload_n 0, 1) := dk_42 (dk_at dksJ13_append_5_1 0 rfl rfl)
theorem dJ13_append_5_25 : decode cJ13_append_5 25 = .ok (.getfield 15, 3) := dk_180 0 15 (dk_at dksJ13_append_5_1 1 rfl rfl)
theorem dJ13_append_5_28 : decode cJ13_append_5 28 = .ok (.aload_n 0, 1) := dk_42 (dk_at dksJ13_append_5_1 4 rfl rfl)
theorem dJ13_append_5_29 : decode cJ13_append_5 29 = .ok (.dup, 1) := dk_89 (dk_at dksJ13_append_5_1 5 rfl rfl)
theorem dJ13_append_5_30 : decode cJ13_append_5 30 = .ok (.getfield 79, 3) := dk_180 0 79 (dk_at dksJ13_append_5_1 6 rfl rfl)
theorem dJ13_append_5_33 : decode cJ13_append_5 33 = .ok (.dup_x1, 1) := dk_90 (dk_at dksJ13_append_5_1 9 rfl rfl)
theorem dJ13_append_5_34 : decode cJ13_append_5 34 = .ok (.iconst 1, 1) := dk_4 (dk_at dksJ13_append_5_1 10 rfl rfl)
theorem dJ13_append_5_35 : decode cJ13_append_5 35 = .ok (.iadd, 1) := dk_96 (dk_at dksJ13_append_5_1 11 rfl rfl)
theorem dJ13_append_5_36 : decode cJ13_append_5 36 = .ok (.putfield 79, 3) := dk_181 0 79 (dk_at dksJ13_append_5_1 12 rfl rfl)
theorem dJ13_append_5_39 : decode cJ13_append_5 39 = .ok (.iload_n 1, 1) := dk_27 (dk_at dksJ13_append_5_1 15 rfl rfl)
theorem dJ13_append_5_40 : decode cJ13_append_5 40 = .ok (.i2b, 1) := dk_145 (dk_at dksJ13_append_5_1 16 rfl rfl)
theorem dJ13_append_5_41 : decode cJ13_append_5 41 = .ok (.bastore, 1) := dk_84 (dk_at dksJ13_append_5_1 17 rfl rfl)
theorem dJ13_append_5_42 : decode cJ13_append_5 42 = .ok (.goto 33, 3) := dk_167 0 33 (dk_at dksJ13_append_5_1 18 rfl rfl)
theorem dJ13_append_5_45 : decode cJ13_append_5 45 = .ok (.aload_n 0, 1) := dk_42 (dk_at dksJ13_append_5_1 21 rfl rfl)
theorem dJ13_append_5_46 : decode cJ13_append_5 46 = .ok (.invokevirtual 83, 3) := dk_182 0 83 (dk_at dksJ13_append_5_2 0 rfl rfl)
theorem dJ13_append_5_49 : decode cJ13_append_5 49 = .ok (.ifCond .eq 7, 3) := dk_153 0 7 (dk_at dksJ13_append_5_2 3 rfl rfl)
theorem dJ13_append_5_52 : decode cJ13_append_5 52 = .ok (.aload_n 0, 1) := dk_42 (dk_at dksJ13_append_5_2 6 rfl rfl)
theorem dJ13_append_5_53 : decode cJ13_append_5 53 = .ok (.invokevirtual 195, 3) := dk_182 0 195 (dk_at dksJ13_append_5_2 7 rfl rfl)
theorem dJ13_append_5_56 : decode cJ13_append_5 56 = .ok (.aload_n 0, 1) := dk_42 (dk_at dksJ13_append_5_2 10 rfl rfl)
theorem dJ13_append_5_57 : decode cJ13_append_5 57 = .ok (.getfield 15, 3) := dk_180 0 15 (dk_at dksJ13_append_5_2 11 rfl rfl)
theorem dJ13_append_5_60 : decode cJ13_append_5 60 = .ok (.aload_n 0, 1) := dk_42 (dk_at dksJ13_append_5_2 14 rfl rfl)
theorem dJ13_append_5_61 : decode cJ13_append_5 61 = .ok (.dup, 1) := dk_89 (dk_at dksJ13_append_5_2 15 rfl rfl)
theorem dJ13_append_5_62 : decode cJ13_append_5 62 = .ok (.getfield 79, 3) := dk_180 0 79 (dk_at dksJ13_append_5_2 16 rfl rfl)
theorem dJ13_append_5_65 : decode cJ13_append_5 65 = .ok (.dup_x1, 1) := dk_90 (dk_at dksJ13_append_5_2 19 rfl rfl)
theorem dJ13_append_5_66 : decode cJ13_append_5 66 = .ok (.iconst 1, 1) := dk_4 (dk_at dksJ13_append_5_2 20 rfl rfl)
theorem dJ13_append_5_67 : decode cJ13_append_5 67 = .ok (.iadd, 1) := dk_96 (dk_at dksJ13_append_5_2 21 rfl rfl)
theorem dJ13_append_5_68 : decode cJ13_append_5 68 = .ok (.putfield 79, 3) := dk_181 0 79 (dk_at dksJ13_append_5_3 0 rfl rfl)
theorem dJ13_append_5_71 : decode cJ13_append_5 71 = .ok (.iload_n 1, 1) := dk_27 (dk_at dksJ13_append_5_3 3 rfl rfl)
theorem dJ13_append_5_72 : decode cJ13_append_5 72 = .ok (.invokestatic 197, 3) := dk_184 0 197 (dk_at dksJ13_append_5_3 4 rfl rfl)
theorem dJ13_append_5_75 : decode cJ13_append_5 75 = .ok (.aload_n 0, 1) := dk_42 (dk_at dksJ13_append_5_3 7 rfl rfl)
theorem dJ13_append_5_76 : decode cJ13_append_5 76 = .ok (.areturn, 1) := dk_176 (dk_at dksJ13_append_5_3 8 rfl rfl)
abbrev cJ13_append_6 : ByteArray := prog_24_method_25_code
def yJ13_append_6 : MethodName := ⟨RJ13, "append", "(Ljava/lang/CharSequence;)Ljava/lang/AbstractStringBuilder;"⟩
def dkwJ13_append_6_2 : List UInt8 := [185, 0, 47, 1, 0, 182, 0, 223, 176]
abbrev dktJ13_append_6_2 : List UInt8 := dkwJ13_append_6_2 ++ []
def dkwJ13_append_6_1 : List UInt8 := [176, 43, 193, 0, 10, 153, 0, 12, 42, 43, 192, 0, 10, 182, 0, 212, 176, 42, 43, 3, 43]
abbrev dktJ13_append_6_1 : List UInt8 := dkwJ13_append_6_1 ++ dktJ13_append_6_2
def dkwJ13_append_6_0 : List UInt8 := [43, 199, 0, 8, 42, 182, 0, 204, 176, 43, 193, 0, 1, 153, 0, 12, 42, 43, 192, 0, 1, 182, 0, 43]
abbrev dktJ13_append_6_0 : List UInt8 := dkwJ13_append_6_0 ++ dktJ13_append_6_1
theorem dksJ13_append_6_0 : cJ13_append_6.data.toList.drop 0 = dktJ13_append_6_0 := by decide +kernel
theorem dksJ13_append_6_1 : cJ13_append_6.data.toList.drop 24 = dktJ13_append_6_1 := dk_seg dksJ13_append_6_0 24 rfl rfl
theorem dksJ13_append_6_2 : cJ13_append_6.data.toList.drop 45 = dktJ13_append_6_2 := dk_seg dksJ13_append_6_1 21 rfl rfl
theorem dJ13_append_6_0 : decode cJ13_append_6 0 = .ok (.aload_n 1, 1) := dk_43 (dk_at dksJ13_append_6_0 0 rfl rfl)
theorem dJ13_append_6_1 : decode cJ13_append_6 1 = .ok (.ifnonnull 8, 3) := dk_199 0 8 (dk_at dksJ13_append_6_0 1 rfl rfl)
theorem dJ13_append_6_4 : decode cJ13_append_6 4 = .ok (.aload_n 0, 1) := dk_42 (dk_at dksJ13_append_6_0 4 rfl rfl)
theorem dJ13_append_6_5 : decode cJ13_append_6 5 = .ok (.invokevirtual 204, 3) := dk_182 0 204 (dk_at dksJ13_append_6_0 5 rfl rfl)
theorem dJ13_append_6_8 : decode cJ13_append_6 8 = .ok (.areturn, 1) := dk_176 (dk_at dksJ13_append_6_0 8 rfl rfl)
theorem dJ13_append_6_9 : decode cJ13_append_6 9 = .ok (.aload_n 1, 1) := dk_43 (dk_at dksJ13_append_6_0 9 rfl rfl)
theorem dJ13_append_6_10 : decode cJ13_append_6 10 = .ok (.instanceof 1, 3) := dk_193 0 1 (dk_at dksJ13_append_6_0 10 rfl rfl)
theorem dJ13_append_6_13 : decode cJ13_append_6 13 = .ok (.ifCond .eq 12, 3) := dk_153 0 12 (dk_at dksJ13_append_6_0 13 rfl rfl)
theorem dJ13_append_6_16 : decode cJ13_append_6 16 = .ok (.aload_n 0, 1) := dk_42 (dk_at dksJ13_append_6_0 16 rfl rfl)
theorem dJ13_append_6_17 : decode cJ13_append_6 17 = .ok (.aload_n 1, 1) := dk_43 (dk_at dksJ13_append_6_0 17 rfl rfl)
theorem dJ13_append_6_18 : decode cJ13_append_6 18 = .ok (.checkcast 1, 3) := dk_192 0 1 (dk_at dksJ13_append_6_0 18 rfl rfl)
theorem dJ13_append_6_21 : decode cJ13_append_6 21 = .ok (.invokevirtual 43, 3) := dk_182 0 43 (dk_at dksJ13_append_6_0 21 rfl rfl)
theorem dJ13_append_6_24 : decode cJ13_append_6 24 = .ok (.areturn, 1) := dk_176 (dk_at dksJ13_append_6_1 0 rfl rfl)
theorem dJ13_append_6_25 : decode cJ13_append_6 25 = .ok (.aload_n 1, 1) := dk_43 (dk_at dksJ13_append_6_1 1 rfl rfl)
theorem dJ13_append_6_26 : decode cJ13_append_6 26 = .ok (.instanceof 10, 3) := dk_193 0 10 (dk_at dksJ13_append_6_1 2 rfl rfl)
theorem dJ13_append_6_29 : decode cJ13_append_6 29 = .ok (.ifCond .eq 12, 3) := dk_153 0 12 (dk_at dksJ13_append_6_1 5 rfl rfl)
theorem dJ13_append_6_32 : decode cJ13_append_6 32 = .ok (.aload_n 0, 1) := dk_42 (dk_at dksJ13_append_6_1 8 rfl rfl)
theorem dJ13_append_6_33 : decode cJ13_append_6 33 = .ok (.aload_n 1, 1) := dk_43 (dk_at dksJ13_append_6_1 9 rfl rfl)
theorem dJ13_append_6_34 : decode cJ13_append_6 34 = .ok (.checkcast 10, 3) := dk_192 0 10 (dk_at dksJ13_append_6_1 10 rfl rfl)
theorem dJ13_append_6_37 : decode cJ13_append_6 37 = .ok (.invokevirtual 212, 3) := dk_182 0 212 (dk_at dksJ13_append_6_1 13 rfl rfl)
theorem dJ13_append_6_40 : decode cJ13_append_6 40 = .ok (.areturn, 1) := dk_176 (dk_at dksJ13_append_6_1 16 rfl rfl)
theorem dJ13_append_6_41 : decode cJ13_append_6 41 = .ok (.aload_n 0, 1) := dk_42 (dk_at dksJ13_append_6_1 17 rfl rfl)
theorem dJ13_append_6_42 : decode cJ13_append_6 42 = .ok (.aload_n 1, 1) := dk_43 (dk_at dksJ13_append_6_1 18 rfl rfl)
theorem dJ13_append_6_43 : decode cJ13_append_6 43 = .ok (.iconst 0, 1) := dk_3 (dk_at dksJ13_append_6_1 19 rfl rfl)
theorem dJ13_append_6_44 : decode cJ13_append_6 44 = .ok (.aload_n 1, 1) := dk_43 (dk_at dksJ13_append_6_1 20 rfl rfl)
theorem dJ13_append_6_45 : decode cJ13_append_6 45 = .ok (.invokeinterface 47 1, 5) := by decide +kernel
theorem dJ13_append_6_50 : decode cJ13_append_6 50 = .ok (.invokevirtual 223, 3) := dk_182 0 223 (dk_at dksJ13_append_6_2 5 rfl rfl)
theorem dJ13_append_6_53 : decode cJ13_append_6 53 = .ok (.areturn, 1) := dk_176 (dk_at dksJ13_append_6_2 8 rfl rfl)
abbrev cJ13_append_7 : ByteArray := prog_24_method_24_code
def yJ13_append_7 : MethodName := ⟨RJ13, "append", "(Ljava/lang/AbstractStringBuilder;)Ljava/lang/AbstractStringBuilder;"⟩
def dkwJ13_append_7_2 : List UInt8 := [180, 0, 79, 28, 96, 181, 0, 79, 42, 89, 180, 0, 73, 43, 180, 0, 73, 128, 181, 0, 73, 42, 176]
abbrev dktJ13_append_7_2 : List UInt8 := dkwJ13_append_7_2 ++ []
def dkwJ13_append_7_1 : List UInt8 := [42, 43, 182, 0, 215, 43, 42, 180, 0, 15, 42, 180, 0, 79, 42, 180, 0, 22, 182, 0, 219, 42, 89]
abbrev dktJ13_append_7_1 : List UInt8 := dkwJ13_append_7_1 ++ dktJ13_append_7_2
def dkwJ13_append_7_0 : List UInt8 := [43, 199, 0, 8, 42, 182, 0, 204, 176, 43, 182, 0, 160, 61, 42, 42, 180, 0, 79, 28, 96, 182, 0, 100]
abbrev dktJ13_append_7_0 : List UInt8 := dkwJ13_append_7_0 ++ dktJ13_append_7_1
theorem dksJ13_append_7_0 : cJ13_append_7.data.toList.drop 0 = dktJ13_append_7_0 := by decide +kernel
theorem dksJ13_append_7_1 : cJ13_append_7.data.toList.drop 24 = dktJ13_append_7_1 := dk_seg dksJ13_append_7_0 24 rfl rfl
theorem dksJ13_append_7_2 : cJ13_append_7.data.toList.drop 47 = dktJ13_append_7_2 := dk_seg dksJ13_append_7_1 23 rfl rfl
theorem dJ13_append_7_0 : decode cJ13_append_7 0 = .ok (.aload_n 1, 1) := dk_43 (dk_at dksJ13_append_7_0 0 rfl rfl)
theorem dJ13_append_7_1 : decode cJ13_append_7 1 = .ok (.ifnonnull 8, 3) := dk_199 0 8 (dk_at dksJ13_append_7_0 1 rfl rfl)
theorem dJ13_append_7_4 : decode cJ13_append_7 4 = .ok (.aload_n 0, 1) := dk_42 (dk_at dksJ13_append_7_0 4 rfl rfl)
theorem dJ13_append_7_5 : decode cJ13_append_7 5 = .ok (.invokevirtual 204, 3) := dk_182 0 204 (dk_at dksJ13_append_7_0 5 rfl rfl)
theorem dJ13_append_7_8 : decode cJ13_append_7 8 = .ok (.areturn, 1) := dk_176 (dk_at dksJ13_append_7_0 8 rfl rfl)
theorem dJ13_append_7_9 : decode cJ13_append_7 9 = .ok (.aload_n 1, 1) := dk_43 (dk_at dksJ13_append_7_0 9 rfl rfl)
theorem dJ13_append_7_10 : decode cJ13_append_7 10 = .ok (.invokevirtual 160, 3) := dk_182 0 160 (dk_at dksJ13_append_7_0 10 rfl rfl)
theorem dJ13_append_7_13 : decode cJ13_append_7 13 = .ok (.istore_n 2, 1) := dk_61 (dk_at dksJ13_append_7_0 13 rfl rfl)
theorem dJ13_append_7_14 : decode cJ13_append_7 14 = .ok (.aload_n 0, 1) := dk_42 (dk_at dksJ13_append_7_0 14 rfl rfl)
theorem dJ13_append_7_15 : decode cJ13_append_7 15 = .ok (.aload_n 0, 1) := dk_42 (dk_at dksJ13_append_7_0 15 rfl rfl)
theorem dJ13_append_7_16 : decode cJ13_append_7 16 = .ok (.getfield 79, 3) := dk_180 0 79 (dk_at dksJ13_append_7_0 16 rfl rfl)
theorem dJ13_append_7_19 : decode cJ13_append_7 19 = .ok (.iload_n 2, 1) := dk_28 (dk_at dksJ13_append_7_0 19 rfl rfl)
theorem dJ13_append_7_20 : decode cJ13_append_7 20 = .ok (.iadd, 1) := dk_96 (dk_at dksJ13_append_7_0 20 rfl rfl)
theorem dJ13_append_7_21 : decode cJ13_append_7 21 = .ok (.invokevirtual 100, 3) := dk_182 0 100 (dk_at dksJ13_append_7_0 21 rfl rfl)
theorem dJ13_append_7_24 : decode cJ13_append_7 24 = .ok (.aload_n 0, 1) := dk_42 (dk_at dksJ13_append_7_1 0 rfl rfl)
theorem dJ13_append_7_25 : decode cJ13_append_7 25 = .ok (.aload_n 1, 1) := dk_43 (dk_at dksJ13_append_7_1 1 rfl rfl)
theorem dJ13_append_7_26 : decode cJ13_append_7 26 = .ok (.invokevirtual 215, 3) := dk_182 0 215 (dk_at dksJ13_append_7_1 2 rfl rfl)
theorem dJ13_append_7_29 : decode cJ13_append_7 29 = .ok (.aload_n 1, 1) := dk_43 (dk_at dksJ13_append_7_1 5 rfl rfl)
theorem dJ13_append_7_30 : decode cJ13_append_7 30 = .ok (.aload_n 0, 1) := dk_42 (dk_at dksJ13_append_7_1 6 rfl rfl)
theorem dJ13_append_7_31 : decode cJ13_append_7 31 = .ok (.getfield 15, 3) := dk_180 0 15 (dk_at dksJ13_append_7_1 7 rfl rfl)
theorem dJ13_append_7_34 : decode cJ13_append_7 34 = .ok (.aload_n 0, 1) := dk_42 (dk_at dksJ13_append_7_1 10 rfl rfl)
theorem dJ13_append_7_35 : decode cJ13_append_7 35 = .ok (.getfield 79, 3) := dk_180 0 79 (dk_at dksJ13_append_7_1 11 rfl rfl)
theorem dJ13_append_7_38 : decode cJ13_append_7 38 = .ok (.aload_n 0, 1) := dk_42 (dk_at dksJ13_append_7_1 14 rfl rfl)
theorem dJ13_append_7_39 : decode cJ13_append_7 39 = .ok (.getfield 22, 3) := dk_180 0 22 (dk_at dksJ13_append_7_1 15 rfl rfl)
theorem dJ13_append_7_42 : decode cJ13_append_7 42 = .ok (.invokevirtual 219, 3) := dk_182 0 219 (dk_at dksJ13_append_7_1 18 rfl rfl)
theorem dJ13_append_7_45 : decode cJ13_append_7 45 = .ok (.aload_n 0, 1) := dk_42 (dk_at dksJ13_append_7_1 21 rfl rfl)
theorem dJ13_append_7_46 : decode cJ13_append_7 46 = .ok (.dup, 1) := dk_89 (dk_at dksJ13_append_7_1 22 rfl rfl)
theorem dJ13_append_7_47 : decode cJ13_append_7 47 = .ok (.getfield 79, 3) := dk_180 0 79 (dk_at dksJ13_append_7_2 0 rfl rfl)
theorem dJ13_append_7_50 : decode cJ13_append_7 50 = .ok (.iload_n 2, 1) := dk_28 (dk_at dksJ13_append_7_2 3 rfl rfl)
theorem dJ13_append_7_51 : decode cJ13_append_7 51 = .ok (.iadd, 1) := dk_96 (dk_at dksJ13_append_7_2 4 rfl rfl)
theorem dJ13_append_7_52 : decode cJ13_append_7 52 = .ok (.putfield 79, 3) := dk_181 0 79 (dk_at dksJ13_append_7_2 5 rfl rfl)
theorem dJ13_append_7_55 : decode cJ13_append_7 55 = .ok (.aload_n 0, 1) := dk_42 (dk_at dksJ13_append_7_2 8 rfl rfl)
theorem dJ13_append_7_56 : decode cJ13_append_7 56 = .ok (.dup, 1) := dk_89 (dk_at dksJ13_append_7_2 9 rfl rfl)
theorem dJ13_append_7_57 : decode cJ13_append_7 57 = .ok (.getfield 73, 3) := dk_180 0 73 (dk_at dksJ13_append_7_2 10 rfl rfl)
theorem dJ13_append_7_60 : decode cJ13_append_7 60 = .ok (.aload_n 1, 1) := dk_43 (dk_at dksJ13_append_7_2 13 rfl rfl)
theorem dJ13_append_7_61 : decode cJ13_append_7 61 = .ok (.getfield 73, 3) := dk_180 0 73 (dk_at dksJ13_append_7_2 14 rfl rfl)
theorem dJ13_append_7_64 : decode cJ13_append_7 64 = .ok (.ior, 1) := dk_128 (dk_at dksJ13_append_7_2 17 rfl rfl)
theorem dJ13_append_7_65 : decode cJ13_append_7 65 = .ok (.putfield 73, 3) := dk_181 0 73 (dk_at dksJ13_append_7_2 18 rfl rfl)
theorem dJ13_append_7_68 : decode cJ13_append_7 68 = .ok (.aload_n 0, 1) := dk_42 (dk_at dksJ13_append_7_2 21 rfl rfl)
theorem dJ13_append_7_69 : decode cJ13_append_7 69 = .ok (.areturn, 1) := dk_176 (dk_at dksJ13_append_7_2 22 rfl rfl)
abbrev cJ13_inflateIfNeededFor_2 : ByteArray := prog_24_method_72_code
def yJ13_inflateIfNeededFor_2 : MethodName := ⟨RJ13, "inflateIfNeededFor", "(Ljava/lang/AbstractStringBuilder;)V"⟩
def dkwJ13_inflateIfNeededFor_2_0 : List UInt8 := [178, 0, 18, 153, 0, 18, 42, 180, 0, 22, 43, 182, 0, 70, 159, 0, 7, 42, 182, 0, 195, 177]
abbrev dktJ13_inflateIfNeededFor_2_0 : List UInt8 := dkwJ13_inflateIfNeededFor_2_0 ++ []
theorem dksJ13_inflateIfNeededFor_2_0 : cJ13_inflateIfNeededFor_2.data.toList.drop 0 = dktJ13_inflateIfNeededFor_2_0 := by decide +kernel
theorem dJ13_inflateIfNeededFor_2_0 : decode cJ13_inflateIfNeededFor_2 0 = .ok (.getstatic 18, 3) := dk_178 0 18 (dk_at dksJ13_inflateIfNeededFor_2_0 0 rfl rfl)
theorem dJ13_inflateIfNeededFor_2_3 : decode cJ13_inflateIfNeededFor_2 3 = .ok (.ifCond .eq 18, 3) := dk_153 0 18 (dk_at dksJ13_inflateIfNeededFor_2_0 3 rfl rfl)
theorem dJ13_inflateIfNeededFor_2_6 : decode cJ13_inflateIfNeededFor_2 6 = .ok (.aload_n 0, 1) := dk_42 (dk_at dksJ13_inflateIfNeededFor_2_0 6 rfl rfl)
theorem dJ13_inflateIfNeededFor_2_7 : decode cJ13_inflateIfNeededFor_2 7 = .ok (.getfield 22, 3) := dk_180 0 22 (dk_at dksJ13_inflateIfNeededFor_2_0 7 rfl rfl)
theorem dJ13_inflateIfNeededFor_2_10 : decode cJ13_inflateIfNeededFor_2 10 = .ok (.aload_n 1, 1) := dk_43 (dk_at dksJ13_inflateIfNeededFor_2_0 10 rfl rfl)
theorem dJ13_inflateIfNeededFor_2_11 : decode cJ13_inflateIfNeededFor_2 11 = .ok (.invokevirtual 70, 3) := dk_182 0 70 (dk_at dksJ13_inflateIfNeededFor_2_0 11 rfl rfl)
theorem dJ13_inflateIfNeededFor_2_14 : decode cJ13_inflateIfNeededFor_2 14 = .ok (.if_icmp .eq 7, 3) := dk_159 0 7 (dk_at dksJ13_inflateIfNeededFor_2_0 14 rfl rfl)
theorem dJ13_inflateIfNeededFor_2_17 : decode cJ13_inflateIfNeededFor_2 17 = .ok (.aload_n 0, 1) := dk_42 (dk_at dksJ13_inflateIfNeededFor_2_0 17 rfl rfl)
theorem dJ13_inflateIfNeededFor_2_18 : decode cJ13_inflateIfNeededFor_2 18 = .ok (.invokevirtual 195, 3) := dk_182 0 195 (dk_at dksJ13_inflateIfNeededFor_2_0 18 rfl rfl)
theorem dJ13_inflateIfNeededFor_2_21 : decode cJ13_inflateIfNeededFor_2 21 = .ok (.return_, 1) := dk_177 (dk_at dksJ13_inflateIfNeededFor_2_0 21 rfl rfl)
abbrev cJ13_getCoder : ByteArray := prog_24_method_67_code
def yJ13_getCoder : MethodName := ⟨RJ13, "getCoder", "()B"⟩
def dkwJ13_getCoder_0 : List UInt8 := [178, 0, 18, 153, 0, 10, 42, 180, 0, 22, 167, 0, 4, 4, 172]
abbrev dktJ13_getCoder_0 : List UInt8 := dkwJ13_getCoder_0 ++ []
theorem dksJ13_getCoder_0 : cJ13_getCoder.data.toList.drop 0 = dktJ13_getCoder_0 := by decide +kernel
theorem dJ13_getCoder_0 : decode cJ13_getCoder 0 = .ok (.getstatic 18, 3) := dk_178 0 18 (dk_at dksJ13_getCoder_0 0 rfl rfl)
theorem dJ13_getCoder_3 : decode cJ13_getCoder 3 = .ok (.ifCond .eq 10, 3) := dk_153 0 10 (dk_at dksJ13_getCoder_0 3 rfl rfl)
theorem dJ13_getCoder_6 : decode cJ13_getCoder 6 = .ok (.aload_n 0, 1) := dk_42 (dk_at dksJ13_getCoder_0 6 rfl rfl)
theorem dJ13_getCoder_7 : decode cJ13_getCoder 7 = .ok (.getfield 22, 3) := dk_180 0 22 (dk_at dksJ13_getCoder_0 7 rfl rfl)
theorem dJ13_getCoder_10 : decode cJ13_getCoder 10 = .ok (.goto 4, 3) := dk_167 0 4 (dk_at dksJ13_getCoder_0 10 rfl rfl)
theorem dJ13_getCoder_13 : decode cJ13_getCoder 13 = .ok (.iconst 1, 1) := dk_4 (dk_at dksJ13_getCoder_0 13 rfl rfl)
theorem dJ13_getCoder_14 : decode cJ13_getCoder 14 = .ok (.ireturn, 1) := dk_172 (dk_at dksJ13_getCoder_0 14 rfl rfl)
abbrev cJ13_getBytes : ByteArray := prog_24_method_65_code
def yJ13_getBytes : MethodName := ⟨RJ13, "getBytes", "([BIB)V"⟩
def dkwJ13_getBytes_1 : List UInt8 := [184, 1, 53, 167, 0, 17, 42, 180, 0, 15, 3, 43, 28, 42, 180, 0, 79, 184, 0, 125, 177]
abbrev dktJ13_getBytes_1 : List UInt8 := dkwJ13_getBytes_1 ++ []
def dkwJ13_getBytes_0 : List UInt8 := [42, 180, 0, 22, 29, 160, 0, 24, 42, 180, 0, 15, 3, 43, 28, 29, 120, 42, 180, 0, 79, 29, 120]
abbrev dktJ13_getBytes_0 : List UInt8 := dkwJ13_getBytes_0 ++ dktJ13_getBytes_1
theorem dksJ13_getBytes_0 : cJ13_getBytes.data.toList.drop 0 = dktJ13_getBytes_0 := by decide +kernel
theorem dksJ13_getBytes_1 : cJ13_getBytes.data.toList.drop 23 = dktJ13_getBytes_1 := dk_seg dksJ13_getBytes_0 23 rfl rfl
theorem dJ13_getBytes_0 : decode cJ13_getBytes 0 = .ok (.aload_n 0, 1) := dk_42 (dk_at dksJ13_getBytes_0 0 rfl rfl)
theorem dJ13_getBytes_1 : decode cJ13_getBytes 1 = .ok (.getfield 22, 3) := dk_180 0 22 (dk_at dksJ13_getBytes_0 1 rfl rfl)
theorem dJ13_getBytes_4 : decode cJ13_getBytes 4 = .ok (.iload_n 3, 1) := dk_29 (dk_at dksJ13_getBytes_0 4 rfl rfl)
theorem dJ13_getBytes_5 : decode cJ13_getBytes 5 = .ok (.if_icmp .ne 24, 3) := dk_160 0 24 (dk_at dksJ13_getBytes_0 5 rfl rfl)
theorem dJ13_getBytes_8 : decode cJ13_getBytes 8 = .ok (.aload_n 0, 1) := dk_42 (dk_at dksJ13_getBytes_0 8 rfl rfl)
theorem dJ13_getBytes_9 : decode cJ13_getBytes 9 = .ok (.getfield 15, 3) := dk_180 0 15 (dk_at dksJ13_getBytes_0 9 rfl rfl)
theorem dJ13_getBytes_12 : decode cJ13_getBytes 12 = .ok (.iconst 0, 1) := dk_3 (dk_at dksJ13_getBytes_0 12 rfl rfl)
theorem dJ13_getBytes_13 : decode cJ13_getBytes 13 = .ok (.aload_n 1, 1) := dk_43 (dk_at dksJ13_getBytes_0 13 rfl rfl)
theorem dJ13_getBytes_14 : decode cJ13_getBytes 14 = .ok (.iload_n 2, 1) := dk_28 (dk_at dksJ13_getBytes_0 14 rfl rfl)
theorem dJ13_getBytes_15 : decode cJ13_getBytes 15 = .ok (.iload_n 3, 1) := dk_29 (dk_at dksJ13_getBytes_0 15 rfl rfl)
theorem dJ13_getBytes_16 : decode cJ13_getBytes 16 = .ok (.ishl, 1) := dk_120 (dk_at dksJ13_getBytes_0 16 rfl rfl)
theorem dJ13_getBytes_17 : decode cJ13_getBytes 17 = .ok (.aload_n 0, 1) := dk_42 (dk_at dksJ13_getBytes_0 17 rfl rfl)
theorem dJ13_getBytes_18 : decode cJ13_getBytes 18 = .ok (.getfield 79, 3) := dk_180 0 79 (dk_at dksJ13_getBytes_0 18 rfl rfl)
theorem dJ13_getBytes_21 : decode cJ13_getBytes 21 = .ok (.iload_n 3, 1) := dk_29 (dk_at dksJ13_getBytes_0 21 rfl rfl)
theorem dJ13_getBytes_22 : decode cJ13_getBytes 22 = .ok (.ishl, 1) := dk_120 (dk_at dksJ13_getBytes_0 22 rfl rfl)
theorem dJ13_getBytes_23 : decode cJ13_getBytes 23 = .ok (.invokestatic 309, 3) := dk_184 1 53 (dk_at dksJ13_getBytes_1 0 rfl rfl)
theorem dJ13_getBytes_26 : decode cJ13_getBytes 26 = .ok (.goto 17, 3) := dk_167 0 17 (dk_at dksJ13_getBytes_1 3 rfl rfl)
theorem dJ13_getBytes_29 : decode cJ13_getBytes 29 = .ok (.aload_n 0, 1) := dk_42 (dk_at dksJ13_getBytes_1 6 rfl rfl)
theorem dJ13_getBytes_30 : decode cJ13_getBytes 30 = .ok (.getfield 15, 3) := dk_180 0 15 (dk_at dksJ13_getBytes_1 7 rfl rfl)
theorem dJ13_getBytes_33 : decode cJ13_getBytes 33 = .ok (.iconst 0, 1) := dk_3 (dk_at dksJ13_getBytes_1 10 rfl rfl)
theorem dJ13_getBytes_34 : decode cJ13_getBytes 34 = .ok (.aload_n 1, 1) := dk_43 (dk_at dksJ13_getBytes_1 11 rfl rfl)
theorem dJ13_getBytes_35 : decode cJ13_getBytes 35 = .ok (.iload_n 2, 1) := dk_28 (dk_at dksJ13_getBytes_1 12 rfl rfl)
theorem dJ13_getBytes_36 : decode cJ13_getBytes 36 = .ok (.aload_n 0, 1) := dk_42 (dk_at dksJ13_getBytes_1 13 rfl rfl)
theorem dJ13_getBytes_37 : decode cJ13_getBytes 37 = .ok (.getfield 79, 3) := dk_180 0 79 (dk_at dksJ13_getBytes_1 14 rfl rfl)
theorem dJ13_getBytes_40 : decode cJ13_getBytes 40 = .ok (.invokestatic 125, 3) := dk_184 0 125 (dk_at dksJ13_getBytes_1 17 rfl rfl)
theorem dJ13_getBytes_43 : decode cJ13_getBytes 43 = .ok (.return_, 1) := dk_177 (dk_at dksJ13_getBytes_1 20 rfl rfl)
abbrev cJ13_append_8 : ByteArray := prog_24_method_27_code
def yJ13_append_8 : MethodName := ⟨RJ13, "append", "(Ljava/lang/CharSequence;II)Ljava/lang/AbstractStringBuilder;"⟩
def dkwJ13_append_8_2 : List UInt8 := [192, 0, 1, 28, 29, 182, 0, 232, 167, 0, 10, 42, 43, 28, 29, 182, 0, 236, 42, 176]
abbrev dktJ13_append_8_2 : List UInt8 := dkwJ13_append_8_2 ++ []
def dkwJ13_append_8_1 : List UInt8 := [100, 54, 4, 42, 42, 180, 0, 79, 21, 4, 96, 182, 0, 100, 43, 193, 0, 1, 153, 0, 16, 42, 43]
abbrev dktJ13_append_8_1 : List UInt8 := dkwJ13_append_8_1 ++ dktJ13_append_8_2
def dkwJ13_append_8_0 : List UInt8 := [43, 199, 0, 6, 18, 230, 76, 28, 29, 43, 185, 0, 47, 1, 0, 178, 0, 183, 184, 0, 161, 87, 29, 28]
abbrev dktJ13_append_8_0 : List UInt8 := dkwJ13_append_8_0 ++ dktJ13_append_8_1
theorem dksJ13_append_8_0 : cJ13_append_8.data.toList.drop 0 = dktJ13_append_8_0 := by decide +kernel
theorem dksJ13_append_8_1 : cJ13_append_8.data.toList.drop 24 = dktJ13_append_8_1 := dk_seg dksJ13_append_8_0 24 rfl rfl
theorem dksJ13_append_8_2 : cJ13_append_8.data.toList.drop 47 = dktJ13_append_8_2 := dk_seg dksJ13_append_8_1 23 rfl rfl
theorem dJ13_append_8_0 : decode cJ13_append_8 0 = .ok (.aload_n 1, 1) := dk_43 (dk_at dksJ13_append_8_0 0 rfl rfl)
theorem dJ13_append_8_1 : decode cJ13_append_8 1 = .ok (.ifnonnull 6, 3) := dk_199 0 6 (dk_at dksJ13_append_8_0 1 rfl rfl)
theorem dJ13_append_8_4 : decode cJ13_append_8 4 = .ok (.ldc 230, 2) := dk_18 230 (dk_at dksJ13_append_8_0 4 rfl rfl)
theorem dJ13_append_8_6 : decode cJ13_append_8 6 = .ok (.astore_n 1, 1) := dk_76 (dk_at dksJ13_append_8_0 6 rfl rfl)
theorem dJ13_append_8_7 : decode cJ13_append_8 7 = .ok (.iload_n 2, 1) := dk_28 (dk_at dksJ13_append_8_0 7 rfl rfl)
theorem dJ13_append_8_8 : decode cJ13_append_8 8 = .ok (.iload_n 3, 1) := dk_29 (dk_at dksJ13_append_8_0 8 rfl rfl)
theorem dJ13_append_8_9 : decode cJ13_append_8 9 = .ok (.aload_n 1, 1) := dk_43 (dk_at dksJ13_append_8_0 9 rfl rfl)
theorem dJ13_append_8_10 : decode cJ13_append_8 10 = .ok (.invokeinterface 47 1, 5) := by decide +kernel
theorem dJ13_append_8_15 : decode cJ13_append_8 15 = .ok (.getstatic 183, 3) := dk_178 0 183 (dk_at dksJ13_append_8_0 15 rfl rfl)
theorem dJ13_append_8_18 : decode cJ13_append_8 18 = .ok (.invokestatic 161, 3) := dk_184 0 161 (dk_at dksJ13_append_8_0 18 rfl rfl)
theorem dJ13_append_8_21 : decode cJ13_append_8 21 = .ok (.pop, 1) := dk_87 (dk_at dksJ13_append_8_0 21 rfl rfl)
theorem dJ13_append_8_22 : decode cJ13_append_8 22 = .ok (.iload_n 3, 1) := dk_29 (dk_at dksJ13_append_8_0 22 rfl rfl)
theorem dJ13_append_8_23 : decode cJ13_append_8 23 = .ok (.iload_n 2, 1) := dk_28 (dk_at dksJ13_append_8_0 23 rfl rfl)
theorem dJ13_append_8_24 : decode cJ13_append_8 24 = .ok (.isub, 1) := dk_100 (dk_at dksJ13_append_8_1 0 rfl rfl)
theorem dJ13_append_8_25 : decode cJ13_append_8 25 = .ok (.istore 4, 2) := dk_54 4 (dk_at dksJ13_append_8_1 1 rfl rfl)
theorem dJ13_append_8_27 : decode cJ13_append_8 27 = .ok (.aload_n 0, 1) := dk_42 (dk_at dksJ13_append_8_1 3 rfl rfl)
theorem dJ13_append_8_28 : decode cJ13_append_8 28 = .ok (.aload_n 0, 1) := dk_42 (dk_at dksJ13_append_8_1 4 rfl rfl)
theorem dJ13_append_8_29 : decode cJ13_append_8 29 = .ok (.getfield 79, 3) := dk_180 0 79 (dk_at dksJ13_append_8_1 5 rfl rfl)
theorem dJ13_append_8_32 : decode cJ13_append_8 32 = .ok (.iload 4, 2) := dk_21 4 (dk_at dksJ13_append_8_1 8 rfl rfl)
theorem dJ13_append_8_34 : decode cJ13_append_8 34 = .ok (.iadd, 1) := dk_96 (dk_at dksJ13_append_8_1 10 rfl rfl)
theorem dJ13_append_8_35 : decode cJ13_append_8 35 = .ok (.invokevirtual 100, 3) := dk_182 0 100 (dk_at dksJ13_append_8_1 11 rfl rfl)
theorem dJ13_append_8_38 : decode cJ13_append_8 38 = .ok (.aload_n 1, 1) := dk_43 (dk_at dksJ13_append_8_1 14 rfl rfl)
theorem dJ13_append_8_39 : decode cJ13_append_8 39 = .ok (.instanceof 1, 3) := dk_193 0 1 (dk_at dksJ13_append_8_1 15 rfl rfl)
theorem dJ13_append_8_42 : decode cJ13_append_8 42 = .ok (.ifCond .eq 16, 3) := dk_153 0 16 (dk_at dksJ13_append_8_1 18 rfl rfl)
theorem dJ13_append_8_45 : decode cJ13_append_8 45 = .ok (.aload_n 0, 1) := dk_42 (dk_at dksJ13_append_8_1 21 rfl rfl)
theorem dJ13_append_8_46 : decode cJ13_append_8 46 = .ok (.aload_n 1, 1) := dk_43 (dk_at dksJ13_append_8_1 22 rfl rfl)
theorem dJ13_append_8_47 : decode cJ13_append_8 47 = .ok (.checkcast 1, 3) := dk_192 0 1 (dk_at dksJ13_append_8_2 0 rfl rfl)
theorem dJ13_append_8_50 : decode cJ13_append_8 50 = .ok (.iload_n 2, 1) := dk_28 (dk_at dksJ13_append_8_2 3 rfl rfl)
theorem dJ13_append_8_51 : decode cJ13_append_8 51 = .ok (.iload_n 3, 1) := dk_29 (dk_at dksJ13_append_8_2 4 rfl rfl)
theorem dJ13_append_8_52 : decode cJ13_append_8 52 = .ok (.invokevirtual 232, 3) := dk_182 0 232 (dk_at dksJ13_append_8_2 5 rfl rfl)
theorem dJ13_append_8_55 : decode cJ13_append_8 55 = .ok (.goto 10, 3) := dk_167 0 10 (dk_at dksJ13_append_8_2 8 rfl rfl)
theorem dJ13_append_8_58 : decode cJ13_append_8 58 = .ok (.aload_n 0, 1) := dk_42 (dk_at dksJ13_append_8_2 11 rfl rfl)
theorem dJ13_append_8_59 : decode cJ13_append_8 59 = .ok (.aload_n 1, 1) := dk_43 (dk_at dksJ13_append_8_2 12 rfl rfl)
theorem dJ13_append_8_60 : decode cJ13_append_8 60 = .ok (.iload_n 2, 1) := dk_28 (dk_at dksJ13_append_8_2 13 rfl rfl)
theorem dJ13_append_8_61 : decode cJ13_append_8 61 = .ok (.iload_n 3, 1) := dk_29 (dk_at dksJ13_append_8_2 14 rfl rfl)
theorem dJ13_append_8_62 : decode cJ13_append_8 62 = .ok (.invokevirtual 236, 3) := dk_182 0 236 (dk_at dksJ13_append_8_2 15 rfl rfl)
theorem dJ13_append_8_65 : decode cJ13_append_8 65 = .ok (.aload_n 0, 1) := dk_42 (dk_at dksJ13_append_8_2 18 rfl rfl)
theorem dJ13_append_8_66 : decode cJ13_append_8 66 = .ok (.areturn, 1) := dk_176 (dk_at dksJ13_append_8_2 19 rfl rfl)
abbrev cJ13_appendChars_2 : ByteArray := prog_24_method_75_code
def yJ13_appendChars_2 : MethodName := ⟨RJ13, "appendChars", "(Ljava/lang/String;II)V"⟩
def dkwJ13_appendChars_2_8 : List UInt8 := [120, 184, 1, 53, 42, 89, 180, 0, 79, 29, 28, 100, 96, 181, 0, 79, 177]
abbrev dktJ13_appendChars_2_8 : List UInt8 := dkwJ13_appendChars_2_8 ++ []
def dkwJ13_appendChars_2_7 : List UInt8 := [167, 0, 28, 43, 182, 1, 145, 28, 4, 120, 42, 180, 0, 15, 42, 180, 0, 79, 4, 120, 29, 28, 100, 4]
abbrev dktJ13_appendChars_2_7 : List UInt8 := dkwJ13_appendChars_2_7 ++ dktJ13_appendChars_2_8
def dkwJ13_appendChars_2_6 : List UInt8 := [167, 0, 52, 43, 182, 1, 144, 153, 0, 20, 42, 180, 0, 15, 42, 180, 0, 79, 43, 28, 29, 184, 1, 138]
abbrev dktJ13_appendChars_2_6 : List UInt8 := dkwJ13_appendChars_2_6 ++ dktJ13_appendChars_2_7
def dkwJ13_appendChars_2_5 : List UInt8 := [120, 184, 1, 53, 42, 89, 180, 0, 79, 29, 21, 5, 100, 96, 181, 0, 79, 177, 132, 5, 1, 167, 255, 168]
abbrev dktJ13_appendChars_2_5 : List UInt8 := dkwJ13_appendChars_2_5 ++ dktJ13_appendChars_2_6
def dkwJ13_appendChars_2_4 : List UInt8 := [182, 0, 195, 43, 182, 1, 145, 21, 5, 4, 120, 42, 180, 0, 15, 21, 6, 4, 120, 29, 21, 5, 100, 4]
abbrev dktJ13_appendChars_2_4 : List UInt8 := dkwJ13_appendChars_2_4 ++ dktJ13_appendChars_2_5
def dkwJ13_appendChars_2_3 : List UInt8 := [153, 0, 17, 25, 4, 21, 6, 132, 6, 1, 21, 7, 145, 84, 167, 0, 52, 42, 21, 6, 181, 0, 79, 42]
abbrev dktJ13_appendChars_2_3 : List UInt8 := dkwJ13_appendChars_2_3 ++ dktJ13_appendChars_2_4
def dkwJ13_appendChars_2_2 : List UInt8 := [180, 0, 79, 54, 6, 21, 5, 29, 162, 0, 88, 43, 21, 5, 182, 1, 148, 54, 7, 21, 7, 184, 0, 191]
abbrev dktJ13_appendChars_2_2 : List UInt8 := dkwJ13_appendChars_2_2 ++ dktJ13_appendChars_2_3
def dkwJ13_appendChars_2_1 : List UInt8 := [180, 0, 79, 29, 28, 100, 184, 1, 53, 167, 0, 161, 42, 180, 0, 15, 58, 4, 28, 54, 5, 42]
abbrev dktJ13_appendChars_2_1 : List UInt8 := dkwJ13_appendChars_2_1 ++ dktJ13_appendChars_2_2
def dkwJ13_appendChars_2_0 : List UInt8 := [42, 182, 0, 83, 153, 0, 141, 43, 182, 1, 144, 153, 0, 25, 43, 182, 1, 145, 28, 42, 180, 0, 15, 42]
abbrev dktJ13_appendChars_2_0 : List UInt8 := dkwJ13_appendChars_2_0 ++ dktJ13_appendChars_2_1
theorem dksJ13_appendChars_2_0 : cJ13_appendChars_2.data.toList.drop 0 = dktJ13_appendChars_2_0 := by decide +kernel
theorem dksJ13_appendChars_2_1 : cJ13_appendChars_2.data.toList.drop 24 = dktJ13_appendChars_2_1 := dk_seg dksJ13_appendChars_2_0 24 rfl rfl
theorem dksJ13_appendChars_2_2 : cJ13_appendChars_2.data.toList.drop 46 = dktJ13_appendChars_2_2 := dk_seg dksJ13_appendChars_2_1 22 rfl rfl
theorem dksJ13_appendChars_2_3 : cJ13_appendChars_2.data.toList.drop 70 = dktJ13_appendChars_2_3 := dk_seg dksJ13_appendChars_2_2 24 rfl rfl
theorem dksJ13_appendChars_2_4 : cJ13_appendChars_2.data.toList.drop 94 = dktJ13_appendChars_2_4 := dk_seg dksJ13_appendChars_2_3 24 rfl rfl
theorem dksJ13_appendChars_2_5 : cJ13_appendChars_2.data.toList.drop 118 = dktJ13_appendChars_2_5 := dk_seg dksJ13_appendChars_2_4 24 rfl rfl
theorem dksJ13_appendChars_2_6 : cJ13_appendChars_2.data.toList.drop 142 = dktJ13_appendChars_2_6 := dk_seg dksJ13_appendChars_2_5 24 rfl rfl
theorem dksJ13_appendChars_2_7 : cJ13_appendChars_2.data.toList.drop 166 = dktJ13_appendChars_2_7 := dk_seg dksJ13_appendChars_2_6 24 rfl rfl
theorem dksJ13_appendChars_2_8 : cJ13_appendChars_2.data.toList.drop 190 = dktJ13_appendChars_2_8 := dk_seg dksJ13_appendChars_2_7 24 rfl rfl
theorem dJ13_appendChars_2_0 : decode cJ13_appendChars_2 0 = .ok (.aload_n 0, 1) := dk_42 (dk_at dksJ13_appendChars_2_0 0 rfl rfl)
theorem dJ13_appendChars_2_1 : decode cJ13_appendChars_2 1 = .ok (.invokevirtual 83, 3) := dk_182 0 83 (dk_at dksJ13_appendChars_2_0 1 rfl rfl)
theorem dJ13_appendChars_2_4 : decode cJ13_appendChars_2 4 = .ok (.ifCond .eq 141, 3) := dk_153 0 141 (dk_at dksJ13_appendChars_2_0 4 rfl rfl)
theorem dJ13_appendChars_2_7 : decode cJ13_appendChars_2 7 = .ok (.aload_n 1, 1) := dk_43 (dk_at dksJ13_appendChars_2_0 7 rfl rfl)
theorem dJ13_appendChars_2_8 : decode cJ13_appendChars_2 8 = .ok (.invokevirtual 400, 3) := dk_182 1 144 (dk_at dksJ13_appendChars_2_0 8 rfl rfl)
theorem dJ13_appendChars_2_11 : decode cJ13_appendChars_2 11 = .ok (.ifCond .eq 25, 3) := dk_153 0 25 (dk_at dksJ13_appendChars_2_0 11 rfl rfl)
theorem dJ13_appendChars_2_14 : decode cJ13_appendChars_2 14 = .ok (.aload_n 1, 1) := dk_43 (dk_at dksJ13_appendChars_2_0 14 rfl rfl)
theorem dJ13_appendChars_2_15 : decode cJ13_appendChars_2 15 = .ok (.invokevirtual 401, 3) := dk_182 1 145 (dk_at dksJ13_appendChars_2_0 15 rfl rfl)
theorem dJ13_appendChars_2_18 : decode cJ13_appendChars_2 18 = .ok (.iload_n 2, 1) := dk_28 (dk_at dksJ13_appendChars_2_0 18 rfl rfl)
theorem dJ13_appendChars_2_19 : decode cJ13_appendChars_2 19 = .ok (.aload_n 0, 1) := dk_42 (dk_at dksJ13_appendChars_2_0 19 rfl rfl)
theorem dJ13_appendChars_2_20 : decode cJ13_appendChars_2 20 = .ok (.getfield 15, 3) := dk_180 0 15 (dk_at dksJ13_appendChars_2_0 20 rfl rfl)
theorem dJ13_appendChars_2_23 : decode cJ13_appendChars_2 23 = .ok (.aload_n 0, 1) := dk_42 (dk_at dksJ13_appendChars_2_0 23 rfl rfl)
theorem dJ13_appendChars_2_24 : decode cJ13_appendChars_2 24 = .ok (.getfield 79, 3) := dk_180 0 79 (dk_at dksJ13_appendChars_2_1 0 rfl rfl)
theorem dJ13_appendChars_2_27 : decode cJ13_appendChars_2 27 = .ok (.iload_n 3, 1) := dk_29 (dk_at dksJ13_appendChars_2_1 3 rfl rfl)
theorem dJ13_appendChars_2_28 : decode cJ13_appendChars_2 28 = .ok (.iload_n 2, 1) := dk_28 (dk_at dksJ13_appendChars_2_1 4 rfl rfl)
theorem dJ13_appendChars_2_29 : decode cJ13_appendChars_2 29 = .ok (.isub, 1) := dk_100 (dk_at dksJ13_appendChars_2_1 5 rfl rfl)
theorem dJ13_appendChars_2_30 : decode cJ13_appendChars_2 30 = .ok (.invokestatic 309, 3) := dk_184 1 53 (dk_at dksJ13_appendChars_2_1 6 rfl rfl)
theorem dJ13_appendChars_2_33 : decode cJ13_appendChars_2 33 = .ok (.goto 161, 3) := dk_167 0 161 (dk_at dksJ13_appendChars_2_1 9 rfl rfl)
theorem dJ13_appendChars_2_36 : decode cJ13_appendChars_2 36 = .ok (.aload_n 0, 1) := dk_42 (dk_at dksJ13_appendChars_2_1 12 rfl rfl)
theorem dJ13_appendChars_2_37 : decode cJ13_appendChars_2 37 = .ok (.getfield 15, 3) := dk_180 0 15 (dk_at dksJ13_appendChars_2_1 13 rfl rfl)
theorem dJ13_appendChars_2_40 : decode cJ13_appendChars_2 40 = .ok (.astore 4, 2) := dk_58 4 (dk_at dksJ13_appendChars_2_1 16 rfl rfl)
theorem dJ13_appendChars_2_42 : decode cJ13_appendChars_2 42 = .ok (.iload_n 2, 1) := dk_28 (dk_at dksJ13_appendChars_2_1 18 rfl rfl)
theorem dJ13_appendChars_2_43 : decode cJ13_appendChars_2 43 = .ok (.istore 5, 2) := dk_54 5 (dk_at dksJ13_appendChars_2_1 19 rfl rfl)
theorem dJ13_appendChars_2_45 : decode cJ13_appendChars_2 45 = .ok (.aload_n 0, 1) := dk_42 (dk_at dksJ13_appendChars_2_1 21 rfl rfl)
theorem dJ13_appendChars_2_46 : decode cJ13_appendChars_2 46 = .ok (.getfield 79, 3) := dk_180 0 79 (dk_at dksJ13_appendChars_2_2 0 rfl rfl)
theorem dJ13_appendChars_2_49 : decode cJ13_appendChars_2 49 = .ok (.istore 6, 2) := dk_54 6 (dk_at dksJ13_appendChars_2_2 3 rfl rfl)
theorem dJ13_appendChars_2_51 : decode cJ13_appendChars_2 51 = .ok (.iload 5, 2) := dk_21 5 (dk_at dksJ13_appendChars_2_2 5 rfl rfl)
theorem dJ13_appendChars_2_53 : decode cJ13_appendChars_2 53 = .ok (.iload_n 3, 1) := dk_29 (dk_at dksJ13_appendChars_2_2 7 rfl rfl)
theorem dJ13_appendChars_2_54 : decode cJ13_appendChars_2 54 = .ok (.if_icmp .ge 88, 3) := dk_162 0 88 (dk_at dksJ13_appendChars_2_2 8 rfl rfl)
theorem dJ13_appendChars_2_57 : decode cJ13_appendChars_2 57 = .ok (.aload_n 1, 1) := dk_43 (dk_at dksJ13_appendChars_2_2 11 rfl rfl)
theorem dJ13_appendChars_2_58 : decode cJ13_appendChars_2 58 = .ok (.iload 5, 2) := dk_21 5 (dk_at dksJ13_appendChars_2_2 12 rfl rfl)
theorem dJ13_appendChars_2_60 : decode cJ13_appendChars_2 60 = .ok (.invokevirtual 404, 3) := dk_182 1 148 (dk_at dksJ13_appendChars_2_2 14 rfl rfl)
theorem dJ13_appendChars_2_63 : decode cJ13_appendChars_2 63 = .ok (.istore 7, 2) := dk_54 7 (dk_at dksJ13_appendChars_2_2 17 rfl rfl)
theorem dJ13_appendChars_2_65 : decode cJ13_appendChars_2 65 = .ok (.iload 7, 2) := dk_21 7 (dk_at dksJ13_appendChars_2_2 19 rfl rfl)
theorem dJ13_appendChars_2_67 : decode cJ13_appendChars_2 67 = .ok (.invokestatic 191, 3) := dk_184 0 191 (dk_at dksJ13_appendChars_2_2 21 rfl rfl)
theorem dJ13_appendChars_2_70 : decode cJ13_appendChars_2 70 = .ok (.ifCond .eq 17, 3) := dk_153 0 17 (dk_at dksJ13_appendChars_2_3 0 rfl rfl)
theorem dJ13_appendChars_2_73 : decode cJ13_appendChars_2 73 = .ok (.aload 4, 2) := dk_25 4 (dk_at dksJ13_appendChars_2_3 3 rfl rfl)
theorem dJ13_appendChars_2_75 : decode cJ13_appendChars_2 75 = .ok (.iload 6, 2) := dk_21 6 (dk_at dksJ13_appendChars_2_3 5 rfl rfl)
theorem dJ13_appendChars_2_77 : decode cJ13_appendChars_2 77 = .ok (.iinc 6 1, 3) := dk_132 6 1 (dk_at dksJ13_appendChars_2_3 7 rfl rfl)
theorem dJ13_appendChars_2_80 : decode cJ13_appendChars_2 80 = .ok (.iload 7, 2) := dk_21 7 (dk_at dksJ13_appendChars_2_3 10 rfl rfl)
theorem dJ13_appendChars_2_82 : decode cJ13_appendChars_2 82 = .ok (.i2b, 1) := dk_145 (dk_at dksJ13_appendChars_2_3 12 rfl rfl)
theorem dJ13_appendChars_2_83 : decode cJ13_appendChars_2 83 = .ok (.bastore, 1) := dk_84 (dk_at dksJ13_appendChars_2_3 13 rfl rfl)
theorem dJ13_appendChars_2_84 : decode cJ13_appendChars_2 84 = .ok (.goto 52, 3) := dk_167 0 52 (dk_at dksJ13_appendChars_2_3 14 rfl rfl)
theorem dJ13_appendChars_2_87 : decode cJ13_appendChars_2 87 = .ok (.aload_n 0, 1) := dk_42 (dk_at dksJ13_appendChars_2_3 17 rfl rfl)
theorem dJ13_appendChars_2_88 : decode cJ13_appendChars_2 88 = .ok (.iload 6, 2) := dk_21 6 (dk_at dksJ13_appendChars_2_3 18 rfl rfl)
theorem dJ13_appendChars_2_90 : decode cJ13_appendChars_2 90 = .ok (.putfield 79, 3) := dk_181 0 79 (dk_at dksJ13_appendChars_2_3 20 rfl rfl)
theorem dJ13_appendChars_2_93 : decode cJ13_appendChars_2 93 = .ok (.aload_n 0, 1) := dk_42 (dk_at dksJ13_appendChars_2_3 23 rfl rfl)
theorem dJ13_appendChars_2_94 : decode cJ13_appendChars_2 94 = .ok (.invokevirtual 195, 3) := dk_182 0 195 (dk_at dksJ13_appendChars_2_4 0 rfl rfl)
theorem dJ13_appendChars_2_97 : decode cJ13_appendChars_2 97 = .ok (.aload_n 1, 1) := dk_43 (dk_at dksJ13_appendChars_2_4 3 rfl rfl)
theorem dJ13_appendChars_2_98 : decode cJ13_appendChars_2 98 = .ok (.invokevirtual 401, 3) := dk_182 1 145 (dk_at dksJ13_appendChars_2_4 4 rfl rfl)
theorem dJ13_appendChars_2_101 : decode cJ13_appendChars_2 101 = .ok (.iload 5, 2) := dk_21 5 (dk_at dksJ13_appendChars_2_4 7 rfl rfl)
theorem dJ13_appendChars_2_103 : decode cJ13_appendChars_2 103 = .ok (.iconst 1, 1) := dk_4 (dk_at dksJ13_appendChars_2_4 9 rfl rfl)
theorem dJ13_appendChars_2_104 : decode cJ13_appendChars_2 104 = .ok (.ishl, 1) := dk_120 (dk_at dksJ13_appendChars_2_4 10 rfl rfl)
theorem dJ13_appendChars_2_105 : decode cJ13_appendChars_2 105 = .ok (.aload_n 0, 1) := dk_42 (dk_at dksJ13_appendChars_2_4 11 rfl rfl)
theorem dJ13_appendChars_2_106 : decode cJ13_appendChars_2 106 = .ok (.getfield 15, 3) := dk_180 0 15 (dk_at dksJ13_appendChars_2_4 12 rfl rfl)
theorem dJ13_appendChars_2_109 : decode cJ13_appendChars_2 109 = .ok (.iload 6, 2) := dk_21 6 (dk_at dksJ13_appendChars_2_4 15 rfl rfl)
theorem dJ13_appendChars_2_111 : decode cJ13_appendChars_2 111 = .ok (.iconst 1, 1) := dk_4 (dk_at dksJ13_appendChars_2_4 17 rfl rfl)
theorem dJ13_appendChars_2_112 : decode cJ13_appendChars_2 112 = .ok (.ishl, 1) := dk_120 (dk_at dksJ13_appendChars_2_4 18 rfl rfl)
theorem dJ13_appendChars_2_113 : decode cJ13_appendChars_2 113 = .ok (.iload_n 3, 1) := dk_29 (dk_at dksJ13_appendChars_2_4 19 rfl rfl)
theorem dJ13_appendChars_2_114 : decode cJ13_appendChars_2 114 = .ok (.iload 5, 2) := dk_21 5 (dk_at dksJ13_appendChars_2_4 20 rfl rfl)
theorem dJ13_appendChars_2_116 : decode cJ13_appendChars_2 116 = .ok (.isub, 1) := dk_100 (dk_at dksJ13_appendChars_2_4 22 rfl rfl)
theorem dJ13_appendChars_2_117 : decode cJ13_appendChars_2 117 = .ok (.iconst 1, 1) := dk_4 (dk_at dksJ13_appendChars_2_4 23 rfl rfl)
theorem dJ13_appendChars_2_118 : decode cJ13_appendChars_2 118 = .ok (.ishl, 1) := dk_120 (dk_at dksJ13_appendChars_2_5 0 rfl rfl)
theorem dJ13_appendChars_2_119 : decode cJ13_appendChars_2 119 = .ok (.invokestatic 309, 3) := dk_184 1 53 (dk_at dksJ13_appendChars_2_5 1 rfl rfl)
theorem dJ13_appendChars_2_122 : decode cJ13_appendChars_2 122 = .ok (.aload_n 0, 1) := dk_42 (dk_at dksJ13_appendChars_2_5 4 rfl rfl)
theorem dJ13_appendChars_2_123 : decode cJ13_appendChars_2 123 = .ok (.dup, 1) := dk_89 (dk_at dksJ13_appendChars_2_5 5 rfl rfl)
theorem dJ13_appendChars_2_124 : decode cJ13_appendChars_2 124 = .ok (.getfield 79, 3) := dk_180 0 79 (dk_at dksJ13_appendChars_2_5 6 rfl rfl)
theorem dJ13_appendChars_2_127 : decode cJ13_appendChars_2 127 = .ok (.iload_n 3, 1) := dk_29 (dk_at dksJ13_appendChars_2_5 9 rfl rfl)
theorem dJ13_appendChars_2_128 : decode cJ13_appendChars_2 128 = .ok (.iload 5, 2) := dk_21 5 (dk_at dksJ13_appendChars_2_5 10 rfl rfl)
theorem dJ13_appendChars_2_130 : decode cJ13_appendChars_2 130 = .ok (.isub, 1) := dk_100 (dk_at dksJ13_appendChars_2_5 12 rfl rfl)
theorem dJ13_appendChars_2_131 : decode cJ13_appendChars_2 131 = .ok (.iadd, 1) := dk_96 (dk_at dksJ13_appendChars_2_5 13 rfl rfl)
theorem dJ13_appendChars_2_132 : decode cJ13_appendChars_2 132 = .ok (.putfield 79, 3) := dk_181 0 79 (dk_at dksJ13_appendChars_2_5 14 rfl rfl)
theorem dJ13_appendChars_2_135 : decode cJ13_appendChars_2 135 = .ok (.return_, 1) := dk_177 (dk_at dksJ13_appendChars_2_5 17 rfl rfl)
theorem dJ13_appendChars_2_136 : decode cJ13_appendChars_2 136 = .ok (.iinc 5 1, 3) := dk_132 5 1 (dk_at dksJ13_appendChars_2_5 18 rfl rfl)
theorem dJ13_appendChars_2_139 : decode cJ13_appendChars_2 139 = .ok (.goto (-88), 3) := dk_167 255 168 (dk_at dksJ13_appendChars_2_5 21 rfl rfl)
theorem dJ13_appendChars_2_142 : decode cJ13_appendChars_2 142 = .ok (.goto 52, 3) := dk_167 0 52 (dk_at dksJ13_appendChars_2_6 0 rfl rfl)
theorem dJ13_appendChars_2_145 : decode cJ13_appendChars_2 145 = .ok (.aload_n 1, 1) := dk_43 (dk_at dksJ13_appendChars_2_6 3 rfl rfl)
theorem dJ13_appendChars_2_146 : decode cJ13_appendChars_2 146 = .ok (.invokevirtual 400, 3) := dk_182 1 144 (dk_at dksJ13_appendChars_2_6 4 rfl rfl)
theorem dJ13_appendChars_2_149 : decode cJ13_appendChars_2 149 = .ok (.ifCond .eq 20, 3) := dk_153 0 20 (dk_at dksJ13_appendChars_2_6 7 rfl rfl)
theorem dJ13_appendChars_2_152 : decode cJ13_appendChars_2 152 = .ok (.aload_n 0, 1) := dk_42 (dk_at dksJ13_appendChars_2_6 10 rfl rfl)
theorem dJ13_appendChars_2_153 : decode cJ13_appendChars_2 153 = .ok (.getfield 15, 3) := dk_180 0 15 (dk_at dksJ13_appendChars_2_6 11 rfl rfl)
theorem dJ13_appendChars_2_156 : decode cJ13_appendChars_2 156 = .ok (.aload_n 0, 1) := dk_42 (dk_at dksJ13_appendChars_2_6 14 rfl rfl)
theorem dJ13_appendChars_2_157 : decode cJ13_appendChars_2 157 = .ok (.getfield 79, 3) := dk_180 0 79 (dk_at dksJ13_appendChars_2_6 15 rfl rfl)
theorem dJ13_appendChars_2_160 : decode cJ13_appendChars_2 160 = .ok (.aload_n 1, 1) := dk_43 (dk_at dksJ13_appendChars_2_6 18 rfl rfl)
theorem dJ13_appendChars_2_161 : decode cJ13_appendChars_2 161 = .ok (.iload_n 2, 1) := dk_28 (dk_at dksJ13_appendChars_2_6 19 rfl rfl)
theorem dJ13_appendChars_2_162 : decode cJ13_appendChars_2 162 = .ok (.iload_n 3, 1) := dk_29 (dk_at dksJ13_appendChars_2_6 20 rfl rfl)
theorem dJ13_appendChars_2_163 : decode cJ13_appendChars_2 163 = .ok (.invokestatic 394, 3) := dk_184 1 138 (dk_at dksJ13_appendChars_2_6 21 rfl rfl)
theorem dJ13_appendChars_2_166 : decode cJ13_appendChars_2 166 = .ok (.goto 28, 3) := dk_167 0 28 (dk_at dksJ13_appendChars_2_7 0 rfl rfl)
theorem dJ13_appendChars_2_169 : decode cJ13_appendChars_2 169 = .ok (.aload_n 1, 1) := dk_43 (dk_at dksJ13_appendChars_2_7 3 rfl rfl)
theorem dJ13_appendChars_2_170 : decode cJ13_appendChars_2 170 = .ok (.invokevirtual 401, 3) := dk_182 1 145 (dk_at dksJ13_appendChars_2_7 4 rfl rfl)
theorem dJ13_appendChars_2_173 : decode cJ13_appendChars_2 173 = .ok (.iload_n 2, 1) := dk_28 (dk_at dksJ13_appendChars_2_7 7 rfl rfl)
theorem dJ13_appendChars_2_174 : decode cJ13_appendChars_2 174 = .ok (.iconst 1, 1) := dk_4 (dk_at dksJ13_appendChars_2_7 8 rfl rfl)
theorem dJ13_appendChars_2_175 : decode cJ13_appendChars_2 175 = .ok (.ishl, 1) := dk_120 (dk_at dksJ13_appendChars_2_7 9 rfl rfl)
theorem dJ13_appendChars_2_176 : decode cJ13_appendChars_2 176 = .ok (.aload_n 0, 1) := dk_42 (dk_at dksJ13_appendChars_2_7 10 rfl rfl)
theorem dJ13_appendChars_2_177 : decode cJ13_appendChars_2 177 = .ok (.getfield 15, 3) := dk_180 0 15 (dk_at dksJ13_appendChars_2_7 11 rfl rfl)
theorem dJ13_appendChars_2_180 : decode cJ13_appendChars_2 180 = .ok (.aload_n 0, 1) := dk_42 (dk_at dksJ13_appendChars_2_7 14 rfl rfl)
theorem dJ13_appendChars_2_181 : decode cJ13_appendChars_2 181 = .ok (.getfield 79, 3) := dk_180 0 79 (dk_at dksJ13_appendChars_2_7 15 rfl rfl)
theorem dJ13_appendChars_2_184 : decode cJ13_appendChars_2 184 = .ok (.iconst 1, 1) := dk_4 (dk_at dksJ13_appendChars_2_7 18 rfl rfl)
theorem dJ13_appendChars_2_185 : decode cJ13_appendChars_2 185 = .ok (.ishl, 1) := dk_120 (dk_at dksJ13_appendChars_2_7 19 rfl rfl)
theorem dJ13_appendChars_2_186 : decode cJ13_appendChars_2 186 = .ok (.iload_n 3, 1) := dk_29 (dk_at dksJ13_appendChars_2_7 20 rfl rfl)
theorem dJ13_appendChars_2_187 : decode cJ13_appendChars_2 187 = .ok (.iload_n 2, 1) := dk_28 (dk_at dksJ13_appendChars_2_7 21 rfl rfl)
theorem dJ13_appendChars_2_188 : decode cJ13_appendChars_2 188 = .ok (.isub, 1) := dk_100 (dk_at dksJ13_appendChars_2_7 22 rfl rfl)
theorem dJ13_appendChars_2_189 : decode cJ13_appendChars_2 189 = .ok (.iconst 1, 1) := dk_4 (dk_at dksJ13_appendChars_2_7 23 rfl rfl)
theorem dJ13_appendChars_2_190 : decode cJ13_appendChars_2 190 = .ok (.ishl, 1) := dk_120 (dk_at dksJ13_appendChars_2_8 0 rfl rfl)
theorem dJ13_appendChars_2_191 : decode cJ13_appendChars_2 191 = .ok (.invokestatic 309, 3) := dk_184 1 53 (dk_at dksJ13_appendChars_2_8 1 rfl rfl)
theorem dJ13_appendChars_2_194 : decode cJ13_appendChars_2 194 = .ok (.aload_n 0, 1) := dk_42 (dk_at dksJ13_appendChars_2_8 4 rfl rfl)
theorem dJ13_appendChars_2_195 : decode cJ13_appendChars_2 195 = .ok (.dup, 1) := dk_89 (dk_at dksJ13_appendChars_2_8 5 rfl rfl)
theorem dJ13_appendChars_2_196 : decode cJ13_appendChars_2 196 = .ok (.getfield 79, 3) := dk_180 0 79 (dk_at dksJ13_appendChars_2_8 6 rfl rfl)
theorem dJ13_appendChars_2_199 : decode cJ13_appendChars_2 199 = .ok (.iload_n 3, 1) := dk_29 (dk_at dksJ13_appendChars_2_8 9 rfl rfl)
theorem dJ13_appendChars_2_200 : decode cJ13_appendChars_2 200 = .ok (.iload_n 2, 1) := dk_28 (dk_at dksJ13_appendChars_2_8 10 rfl rfl)
theorem dJ13_appendChars_2_201 : decode cJ13_appendChars_2 201 = .ok (.isub, 1) := dk_100 (dk_at dksJ13_appendChars_2_8 11 rfl rfl)
theorem dJ13_appendChars_2_202 : decode cJ13_appendChars_2 202 = .ok (.iadd, 1) := dk_96 (dk_at dksJ13_appendChars_2_8 12 rfl rfl)
theorem dJ13_appendChars_2_203 : decode cJ13_appendChars_2 203 = .ok (.putfield 79, 3) := dk_181 0 79 (dk_at dksJ13_appendChars_2_8 13 rfl rfl)
theorem dJ13_appendChars_2_206 : decode cJ13_appendChars_2 206 = .ok (.return_, 1) := dk_177 (dk_at dksJ13_appendChars_2_8 16 rfl rfl)
abbrev cJ13_charAt : ByteArray := prog_24_method_14_code
def yJ13_charAt : MethodName := ⟨RJ13, "charAt", "(I)C"⟩
def dkwJ13_charAt_1 : List UInt8 := [21, 4, 184, 0, 144, 28, 154, 0, 12, 45, 27, 51, 17, 0, 255, 126, 146, 172, 45, 27, 184, 0, 148, 172]
abbrev dktJ13_charAt_1 : List UInt8 := dkwJ13_charAt_1 ++ []
def dkwJ13_charAt_0 : List UInt8 := [42, 180, 0, 22, 61, 42, 180, 0, 15, 78, 42, 180, 0, 79, 45, 190, 28, 122, 184, 0, 138, 54, 4, 27]
abbrev dktJ13_charAt_0 : List UInt8 := dkwJ13_charAt_0 ++ dktJ13_charAt_1
theorem dksJ13_charAt_0 : cJ13_charAt.data.toList.drop 0 = dktJ13_charAt_0 := by decide +kernel
theorem dksJ13_charAt_1 : cJ13_charAt.data.toList.drop 24 = dktJ13_charAt_1 := dk_seg dksJ13_charAt_0 24 rfl rfl
theorem dJ13_charAt_0 : decode cJ13_charAt 0 = .ok (.aload_n 0, 1) := dk_42 (dk_at dksJ13_charAt_0 0 rfl rfl)
theorem dJ13_charAt_1 : decode cJ13_charAt 1 = .ok (.getfield 22, 3) := dk_180 0 22 (dk_at dksJ13_charAt_0 1 rfl rfl)
theorem dJ13_charAt_4 : decode cJ13_charAt 4 = .ok (.istore_n 2, 1) := dk_61 (dk_at dksJ13_charAt_0 4 rfl rfl)
theorem dJ13_charAt_5 : decode cJ13_charAt 5 = .ok (.aload_n 0, 1) := dk_42 (dk_at dksJ13_charAt_0 5 rfl rfl)
theorem dJ13_charAt_6 : decode cJ13_charAt 6 = .ok (.getfield 15, 3) := dk_180 0 15 (dk_at dksJ13_charAt_0 6 rfl rfl)
theorem dJ13_charAt_9 : decode cJ13_charAt 9 = .ok (.astore_n 3, 1) := dk_78 (dk_at dksJ13_charAt_0 9 rfl rfl)
theorem dJ13_charAt_10 : decode cJ13_charAt 10 = .ok (.aload_n 0, 1) := dk_42 (dk_at dksJ13_charAt_0 10 rfl rfl)
theorem dJ13_charAt_11 : decode cJ13_charAt 11 = .ok (.getfield 79, 3) := dk_180 0 79 (dk_at dksJ13_charAt_0 11 rfl rfl)
theorem dJ13_charAt_14 : decode cJ13_charAt 14 = .ok (.aload_n 3, 1) := dk_45 (dk_at dksJ13_charAt_0 14 rfl rfl)
theorem dJ13_charAt_15 : decode cJ13_charAt 15 = .ok (.arraylength, 1) := dk_190 (dk_at dksJ13_charAt_0 15 rfl rfl)
theorem dJ13_charAt_16 : decode cJ13_charAt 16 = .ok (.iload_n 2, 1) := dk_28 (dk_at dksJ13_charAt_0 16 rfl rfl)
theorem dJ13_charAt_17 : decode cJ13_charAt 17 = .ok (.ishr, 1) := dk_122 (dk_at dksJ13_charAt_0 17 rfl rfl)
theorem dJ13_charAt_18 : decode cJ13_charAt 18 = .ok (.invokestatic 138, 3) := dk_184 0 138 (dk_at dksJ13_charAt_0 18 rfl rfl)
theorem dJ13_charAt_21 : decode cJ13_charAt 21 = .ok (.istore 4, 2) := dk_54 4 (dk_at dksJ13_charAt_0 21 rfl rfl)
theorem dJ13_charAt_23 : decode cJ13_charAt 23 = .ok (.iload_n 1, 1) := dk_27 (dk_at dksJ13_charAt_0 23 rfl rfl)
theorem dJ13_charAt_24 : decode cJ13_charAt 24 = .ok (.iload 4, 2) := dk_21 4 (dk_at dksJ13_charAt_1 0 rfl rfl)
theorem dJ13_charAt_26 : decode cJ13_charAt 26 = .ok (.invokestatic 144, 3) := dk_184 0 144 (dk_at dksJ13_charAt_1 2 rfl rfl)
theorem dJ13_charAt_29 : decode cJ13_charAt 29 = .ok (.iload_n 2, 1) := dk_28 (dk_at dksJ13_charAt_1 5 rfl rfl)
theorem dJ13_charAt_30 : decode cJ13_charAt 30 = .ok (.ifCond .ne 12, 3) := dk_154 0 12 (dk_at dksJ13_charAt_1 6 rfl rfl)
theorem dJ13_charAt_33 : decode cJ13_charAt 33 = .ok (.aload_n 3, 1) := dk_45 (dk_at dksJ13_charAt_1 9 rfl rfl)
theorem dJ13_charAt_34 : decode cJ13_charAt 34 = .ok (.iload_n 1, 1) := dk_27 (dk_at dksJ13_charAt_1 10 rfl rfl)
theorem dJ13_charAt_35 : decode cJ13_charAt 35 = .ok (.baload, 1) := dk_51 (dk_at dksJ13_charAt_1 11 rfl rfl)
theorem dJ13_charAt_36 : decode cJ13_charAt 36 = .ok (.sipush 255, 3) := dk_17 0 255 (dk_at dksJ13_charAt_1 12 rfl rfl)
theorem dJ13_charAt_39 : decode cJ13_charAt 39 = .ok (.iand, 1) := dk_126 (dk_at dksJ13_charAt_1 15 rfl rfl)
theorem dJ13_charAt_40 : decode cJ13_charAt 40 = .ok (.i2c, 1) := dk_146 (dk_at dksJ13_charAt_1 16 rfl rfl)
theorem dJ13_charAt_41 : decode cJ13_charAt 41 = .ok (.ireturn, 1) := dk_172 (dk_at dksJ13_charAt_1 17 rfl rfl)
theorem dJ13_charAt_42 : decode cJ13_charAt 42 = .ok (.aload_n 3, 1) := dk_45 (dk_at dksJ13_charAt_1 18 rfl rfl)
theorem dJ13_charAt_43 : decode cJ13_charAt 43 = .ok (.iload_n 1, 1) := dk_27 (dk_at dksJ13_charAt_1 19 rfl rfl)
theorem dJ13_charAt_44 : decode cJ13_charAt 44 = .ok (.invokestatic 148, 3) := dk_184 0 148 (dk_at dksJ13_charAt_1 20 rfl rfl)
theorem dJ13_charAt_47 : decode cJ13_charAt 47 = .ok (.ireturn, 1) := dk_172 (dk_at dksJ13_charAt_1 23 rfl rfl)
abbrev cJ13_appendChars_3 : ByteArray := prog_24_method_76_code
def yJ13_appendChars_3 : MethodName := ⟨RJ13, "appendChars", "(Ljava/lang/CharSequence;II)V"⟩
def dkwJ13_appendChars_3_6 : List UInt8 := [184, 1, 138, 42, 89, 180, 0, 79, 29, 28, 100, 96, 181, 0, 79, 177]
abbrev dktJ13_appendChars_3_6 : List UInt8 := dkwJ13_appendChars_3_6 ++ []
def dkwJ13_appendChars_3_5 : List UInt8 := [181, 0, 79, 177, 132, 5, 1, 167, 255, 155, 167, 0, 17, 42, 180, 0, 15, 42, 180, 0, 79, 43, 28, 29]
abbrev dktJ13_appendChars_3_5 : List UInt8 := dkwJ13_appendChars_3_5 ++ dktJ13_appendChars_3_6
def dkwJ13_appendChars_3_4 : List UInt8 := [180, 0, 15, 21, 6, 43, 21, 5, 29, 184, 1, 138, 42, 89, 180, 0, 79, 29, 21, 5, 100, 96]
abbrev dktJ13_appendChars_3_4 : List UInt8 := dkwJ13_appendChars_3_4 ++ dktJ13_appendChars_3_5
def dkwJ13_appendChars_3_3 : List UInt8 := [180, 0, 15, 21, 6, 132, 6, 1, 21, 7, 184, 0, 197, 42, 21, 6, 181, 0, 79, 132, 5, 1, 42]
abbrev dktJ13_appendChars_3_3 : List UInt8 := dkwJ13_appendChars_3_3 ++ dktJ13_appendChars_3_4
def dkwJ13_appendChars_3_2 : List UInt8 := [21, 6, 132, 6, 1, 21, 7, 145, 84, 167, 0, 63, 42, 21, 6, 181, 0, 79, 42, 182, 0, 195, 42]
abbrev dktJ13_appendChars_3_2 : List UInt8 := dkwJ13_appendChars_3_2 ++ dktJ13_appendChars_3_3
def dkwJ13_appendChars_3_1 : List UInt8 := [29, 162, 0, 101, 43, 21, 5, 185, 1, 134, 2, 0, 54, 7, 21, 7, 184, 0, 191, 153, 0, 17, 25, 4]
abbrev dktJ13_appendChars_3_1 : List UInt8 := dkwJ13_appendChars_3_1 ++ dktJ13_appendChars_3_2
def dkwJ13_appendChars_3_0 : List UInt8 := [42, 182, 0, 83, 153, 0, 125, 42, 180, 0, 15, 58, 4, 28, 54, 5, 42, 180, 0, 79, 54, 6, 21, 5]
abbrev dktJ13_appendChars_3_0 : List UInt8 := dkwJ13_appendChars_3_0 ++ dktJ13_appendChars_3_1
theorem dksJ13_appendChars_3_0 : cJ13_appendChars_3.data.toList.drop 0 = dktJ13_appendChars_3_0 := by decide +kernel
theorem dksJ13_appendChars_3_1 : cJ13_appendChars_3.data.toList.drop 24 = dktJ13_appendChars_3_1 := dk_seg dksJ13_appendChars_3_0 24 rfl rfl
theorem dksJ13_appendChars_3_2 : cJ13_appendChars_3.data.toList.drop 48 = dktJ13_appendChars_3_2 := dk_seg dksJ13_appendChars_3_1 24 rfl rfl
theorem dksJ13_appendChars_3_3 : cJ13_appendChars_3.data.toList.drop 71 = dktJ13_appendChars_3_3 := dk_seg dksJ13_appendChars_3_2 23 rfl rfl
theorem dksJ13_appendChars_3_4 : cJ13_appendChars_3.data.toList.drop 94 = dktJ13_appendChars_3_4 := dk_seg dksJ13_appendChars_3_3 23 rfl rfl
theorem dksJ13_appendChars_3_5 : cJ13_appendChars_3.data.toList.drop 116 = dktJ13_appendChars_3_5 := dk_seg dksJ13_appendChars_3_4 22 rfl rfl
theorem dksJ13_appendChars_3_6 : cJ13_appendChars_3.data.toList.drop 140 = dktJ13_appendChars_3_6 := dk_seg dksJ13_appendChars_3_5 24 rfl rfl
theorem dJ13_appendChars_3_0 : decode cJ13_appendChars_3 0 = .ok (.aload_n 0, 1) := dk_42 (dk_at dksJ13_appendChars_3_0 0 rfl rfl)
theorem dJ13_appendChars_3_1 : decode cJ13_appendChars_3 1 = .ok (.invokevirtual 83, 3) := dk_182 0 83 (dk_at dksJ13_appendChars_3_0 1 rfl rfl)
theorem dJ13_appendChars_3_4 : decode cJ13_appendChars_3 4 = .ok (.ifCond .eq 125, 3) := dk_153 0 125 (dk_at dksJ13_appendChars_3_0 4 rfl rfl)
theorem dJ13_appendChars_3_7 : decode cJ13_appendChars_3 7 = .ok (.aload_n 0, 1) := dk_42 (dk_at dksJ13_appendChars_3_0 7 rfl rfl)
theorem dJ13_appendChars_3_8 : decode cJ13_appendChars_3 8 = .ok (.getfield 15, 3) := dk_180 0 15 (dk_at dksJ13_appendChars_3_0 8 rfl rfl)
theorem dJ13_appendChars_3_11 : decode cJ13_appendChars_3 11 = .ok (.astore 4, 2) := dk_58 4 (dk_at dksJ13_appendChars_3_0 11 rfl rfl)
theorem dJ13_appendChars_3_13 : decode cJ13_appendChars_3 13 = .ok (.iload_n 2, 1) := dk_28 (dk_at dksJ13_appendChars_3_0 13 rfl rfl)
theorem dJ13_appendChars_3_14 : decode cJ13_appendChars_3 14 = .ok (.istore 5, 2) := dk_54 5 (dk_at dksJ13_appendChars_3_0 14 rfl rfl)
theorem dJ13_appendChars_3_16 : decode cJ13_appendChars_3 16 = .ok (.aload_n 0, 1) := dk_42 (dk_at dksJ13_appendChars_3_0 16 rfl rfl)
theorem dJ13_appendChars_3_17 : decode cJ13_appendChars_3 17 = .ok (.getfield 79, 3) := dk_180 0 79 (dk_at dksJ13_appendChars_3_0 17 rfl rfl)
theorem dJ13_appendChars_3_20 : decode cJ13_appendChars_3 20 = .ok (.istore 6, 2) := dk_54 6 (dk_at dksJ13_appendChars_3_0 20 rfl rfl)
theorem dJ13_appendChars_3_22 : decode cJ13_appendChars_3 22 = .ok (.iload 5, 2) := dk_21 5 (dk_at dksJ13_appendChars_3_0 22 rfl rfl)
theorem dJ13_appendChars_3_24 : decode cJ13_appendChars_3 24 = .ok (.iload_n 3, 1) := dk_29 (dk_at dksJ13_appendChars_3_1 0 rfl rfl)
theorem dJ13_appendChars_3_25 : decode cJ13_appendChars_3 25 = .ok (.if_icmp .ge 101, 3) := dk_162 0 101 (dk_at dksJ13_appendChars_3_1 1 rfl rfl)
theorem dJ13_appendChars_3_28 : decode cJ13_appendChars_3 28 = .ok (.aload_n 1, 1) := dk_43 (dk_at dksJ13_appendChars_3_1 4 rfl rfl)
theorem dJ13_appendChars_3_29 : decode cJ13_appendChars_3 29 = .ok (.iload 5, 2) := dk_21 5 (dk_at dksJ13_appendChars_3_1 5 rfl rfl)
theorem dJ13_appendChars_3_31 : decode cJ13_appendChars_3 31 = .ok (.invokeinterface 390 2, 5) := by decide +kernel
theorem dJ13_appendChars_3_36 : decode cJ13_appendChars_3 36 = .ok (.istore 7, 2) := dk_54 7 (dk_at dksJ13_appendChars_3_1 12 rfl rfl)
theorem dJ13_appendChars_3_38 : decode cJ13_appendChars_3 38 = .ok (.iload 7, 2) := dk_21 7 (dk_at dksJ13_appendChars_3_1 14 rfl rfl)
theorem dJ13_appendChars_3_40 : decode cJ13_appendChars_3 40 = .ok (.invokestatic 191, 3) := dk_184 0 191 (dk_at dksJ13_appendChars_3_1 16 rfl rfl)
theorem dJ13_appendChars_3_43 : decode cJ13_appendChars_3 43 = .ok (.ifCond .eq 17, 3) := dk_153 0 17 (dk_at dksJ13_appendChars_3_1 19 rfl rfl)
theorem dJ13_appendChars_3_46 : decode cJ13_appendChars_3 46 = .ok (.aload 4, 2) := dk_25 4 (dk_at dksJ13_appendChars_3_1 22 rfl rfl)
theorem dJ13_appendChars_3_48 : decode cJ13_appendChars_3 48 = .ok (.iload 6, 2) := dk_21 6 (dk_at dksJ13_appendChars_3_2 0 rfl rfl)
theorem dJ13_appendChars_3_50 : decode cJ13_appendChars_3 50 = .ok (.iinc 6 1, 3) := dk_132 6 1 (dk_at dksJ13_appendChars_3_2 2 rfl rfl)
theorem dJ13_appendChars_3_53 : decode cJ13_appendChars_3 53 = .ok (.iload 7, 2) := dk_21 7 (dk_at dksJ13_appendChars_3_2 5 rfl rfl)
theorem dJ13_appendChars_3_55 : decode cJ13_appendChars_3 55 = .ok (.i2b, 1) := dk_145 (dk_at dksJ13_appendChars_3_2 7 rfl rfl)
theorem dJ13_appendChars_3_56 : decode cJ13_appendChars_3 56 = .ok (.bastore, 1) := dk_84 (dk_at dksJ13_appendChars_3_2 8 rfl rfl)
theorem dJ13_appendChars_3_57 : decode cJ13_appendChars_3 57 = .ok (.goto 63, 3) := dk_167 0 63 (dk_at dksJ13_appendChars_3_2 9 rfl rfl)
theorem dJ13_appendChars_3_60 : decode cJ13_appendChars_3 60 = .ok (.aload_n 0, 1) := dk_42 (dk_at dksJ13_appendChars_3_2 12 rfl rfl)
theorem dJ13_appendChars_3_61 : decode cJ13_appendChars_3 61 = .ok (.iload 6, 2) := dk_21 6 (dk_at dksJ13_appendChars_3_2 13 rfl rfl)
theorem dJ13_appendChars_3_63 : decode cJ13_appendChars_3 63 = .ok (.putfield 79, 3) := dk_181 0 79 (dk_at dksJ13_appendChars_3_2 15 rfl rfl)
theorem dJ13_appendChars_3_66 : decode cJ13_appendChars_3 66 = .ok (.aload_n 0, 1) := dk_42 (dk_at dksJ13_appendChars_3_2 18 rfl rfl)
theorem dJ13_appendChars_3_67 : decode cJ13_appendChars_3 67 = .ok (.invokevirtual 195, 3) := dk_182 0 195 (dk_at dksJ13_appendChars_3_2 19 rfl rfl)
theorem dJ13_appendChars_3_70 : decode cJ13_appendChars_3 70 = .ok (.aload_n 0, 1) := dk_42 (dk_at dksJ13_appendChars_3_2 22 rfl rfl)
theorem dJ13_appendChars_3_71 : decode cJ13_appendChars_3 71 = .ok (.getfield 15, 3) := dk_180 0 15 (dk_at dksJ13_appendChars_3_3 0 rfl rfl)
theorem dJ13_appendChars_3_74 : decode cJ13_appendChars_3 74 = .ok (.iload 6, 2) := dk_21 6 (dk_at dksJ13_appendChars_3_3 3 rfl rfl)
theorem dJ13_appendChars_3_76 : decode cJ13_appendChars_3 76 = .ok (.iinc 6 1, 3) := dk_132 6 1 (dk_at dksJ13_appendChars_3_3 5 rfl rfl)
theorem dJ13_appendChars_3_79 : decode cJ13_appendChars_3 79 = .ok (.iload 7, 2) := dk_21 7 (dk_at dksJ13_appendChars_3_3 8 rfl rfl)
theorem dJ13_appendChars_3_81 : decode cJ13_appendChars_3 81 = .ok (.invokestatic 197, 3) := dk_184 0 197 (dk_at dksJ13_appendChars_3_3 10 rfl rfl)
theorem dJ13_appendChars_3_84 : decode cJ13_appendChars_3 84 = .ok (.aload_n 0, 1) := dk_42 (dk_at dksJ13_appendChars_3_3 13 rfl rfl)
theorem dJ13_appendChars_3_85 : decode cJ13_appendChars_3 85 = .ok (.iload 6, 2) := dk_21 6 (dk_at dksJ13_appendChars_3_3 14 rfl rfl)
theorem dJ13_appendChars_3_87 : decode cJ13_appendChars_3 87 = .ok (.putfield 79, 3) := dk_181 0 79 (dk_at dksJ13_appendChars_3_3 16 rfl rfl)
theorem dJ13_appendChars_3_90 : decode cJ13_appendChars_3 90 = .ok (.iinc 5 1, 3) := dk_132 5 1 (dk_at dksJ13_appendChars_3_3 19 rfl rfl)
theorem dJ13_appendChars_3_93 : decode cJ13_appendChars_3 93 = .ok (.aload_n 0, 1) := dk_42 (dk_at dksJ13_appendChars_3_3 22 rfl rfl)
theorem dJ13_appendChars_3_94 : decode cJ13_appendChars_3 94 = .ok (.getfield 15, 3) := dk_180 0 15 (dk_at dksJ13_appendChars_3_4 0 rfl rfl)
theorem dJ13_appendChars_3_97 : decode cJ13_appendChars_3 97 = .ok (.iload 6, 2) := dk_21 6 (dk_at dksJ13_appendChars_3_4 3 rfl rfl)
theorem dJ13_appendChars_3_99 : decode cJ13_appendChars_3 99 = .ok (.aload_n 1, 1) := dk_43 (dk_at dksJ13_appendChars_3_4 5 rfl rfl)
theorem dJ13_appendChars_3_100 : decode cJ13_appendChars_3 100 = .ok (.iload 5, 2) := dk_21 5 (dk_at dksJ13_appendChars_3_4 6 rfl rfl)
theorem dJ13_appendChars_3_102 : decode cJ13_appendChars_3 102 = .ok (.iload_n 3, 1) := dk_29 (dk_at dksJ13_appendChars_3_4 8 rfl rfl)
theorem dJ13_appendChars_3_103 : decode cJ13_appendChars_3 103 = .ok (.invokestatic 394, 3) := dk_184 1 138 (dk_at dksJ13_appendChars_3_4 9 rfl rfl)
theorem dJ13_appendChars_3_106 : decode cJ13_appendChars_3 106 = .ok (.aload_n 0, 1) := dk_42 (dk_at dksJ13_appendChars_3_4 12 rfl rfl)
theorem dJ13_appendChars_3_107 : decode cJ13_appendChars_3 107 = .ok (.dup, 1) := dk_89 (dk_at dksJ13_appendChars_3_4 13 rfl rfl)
theorem dJ13_appendChars_3_108 : decode cJ13_appendChars_3 108 = .ok (.getfield 79, 3) := dk_180 0 79 (dk_at dksJ13_appendChars_3_4 14 rfl rfl)
theorem dJ13_appendChars_3_111 : decode cJ13_appendChars_3 111 = .ok (.iload_n 3, 1) := dk_29 (dk_at dksJ13_appendChars_3_4 17 rfl rfl)
theorem dJ13_appendChars_3_112 : decode cJ13_appendChars_3 112 = .ok (.iload 5, 2) := dk_21 5 (dk_at dksJ13_appendChars_3_4 18 rfl rfl)
theorem dJ13_appendChars_3_114 : decode cJ13_appendChars_3 114 = .ok (.isub, 1) := dk_100 (dk_at dksJ13_appendChars_3_4 20 rfl rfl)
theorem dJ13_appendChars_3_115 : decode cJ13_appendChars_3 115 = .ok (.iadd, 1) := dk_96 (dk_at dksJ13_appendChars_3_4 21 rfl rfl)
theorem dJ13_appendChars_3_116 : decode cJ13_appendChars_3 116 = .ok (.putfield 79, 3) := dk_181 0 79 (dk_at dksJ13_appendChars_3_5 0 rfl rfl)
theorem dJ13_appendChars_3_119 : decode cJ13_appendChars_3 119 = .ok (.return_, 1) := dk_177 (dk_at dksJ13_appendChars_3_5 3 rfl rfl)
theorem dJ13_appendChars_3_120 : decode cJ13_appendChars_3 120 = .ok (.iinc 5 1, 3) := dk_132 5 1 (dk_at dksJ13_appendChars_3_5 4 rfl rfl)
theorem dJ13_appendChars_3_123 : decode cJ13_appendChars_3 123 = .ok (.goto (-101), 3) := dk_167 255 155 (dk_at dksJ13_appendChars_3_5 7 rfl rfl)
theorem dJ13_appendChars_3_126 : decode cJ13_appendChars_3 126 = .ok (.goto 17, 3) := dk_167 0 17 (dk_at dksJ13_appendChars_3_5 10 rfl rfl)
theorem dJ13_appendChars_3_129 : decode cJ13_appendChars_3 129 = .ok (.aload_n 0, 1) := dk_42 (dk_at dksJ13_appendChars_3_5 13 rfl rfl)
theorem dJ13_appendChars_3_130 : decode cJ13_appendChars_3 130 = .ok (.getfield 15, 3) := dk_180 0 15 (dk_at dksJ13_appendChars_3_5 14 rfl rfl)
theorem dJ13_appendChars_3_133 : decode cJ13_appendChars_3 133 = .ok (.aload_n 0, 1) := dk_42 (dk_at dksJ13_appendChars_3_5 17 rfl rfl)
theorem dJ13_appendChars_3_134 : decode cJ13_appendChars_3 134 = .ok (.getfield 79, 3) := dk_180 0 79 (dk_at dksJ13_appendChars_3_5 18 rfl rfl)
theorem dJ13_appendChars_3_137 : decode cJ13_appendChars_3 137 = .ok (.aload_n 1, 1) := dk_43 (dk_at dksJ13_appendChars_3_5 21 rfl rfl)
theorem dJ13_appendChars_3_138 : decode cJ13_appendChars_3 138 = .ok (.iload_n 2, 1) := dk_28 (dk_at dksJ13_appendChars_3_5 22 rfl rfl)
theorem dJ13_appendChars_3_139 : decode cJ13_appendChars_3 139 = .ok (.iload_n 3, 1) := dk_29 (dk_at dksJ13_appendChars_3_5 23 rfl rfl)
theorem dJ13_appendChars_3_140 : decode cJ13_appendChars_3 140 = .ok (.invokestatic 394, 3) := dk_184 1 138 (dk_at dksJ13_appendChars_3_6 0 rfl rfl)
theorem dJ13_appendChars_3_143 : decode cJ13_appendChars_3 143 = .ok (.aload_n 0, 1) := dk_42 (dk_at dksJ13_appendChars_3_6 3 rfl rfl)
theorem dJ13_appendChars_3_144 : decode cJ13_appendChars_3 144 = .ok (.dup, 1) := dk_89 (dk_at dksJ13_appendChars_3_6 4 rfl rfl)
theorem dJ13_appendChars_3_145 : decode cJ13_appendChars_3 145 = .ok (.getfield 79, 3) := dk_180 0 79 (dk_at dksJ13_appendChars_3_6 5 rfl rfl)
theorem dJ13_appendChars_3_148 : decode cJ13_appendChars_3 148 = .ok (.iload_n 3, 1) := dk_29 (dk_at dksJ13_appendChars_3_6 8 rfl rfl)
theorem dJ13_appendChars_3_149 : decode cJ13_appendChars_3 149 = .ok (.iload_n 2, 1) := dk_28 (dk_at dksJ13_appendChars_3_6 9 rfl rfl)
theorem dJ13_appendChars_3_150 : decode cJ13_appendChars_3 150 = .ok (.isub, 1) := dk_100 (dk_at dksJ13_appendChars_3_6 10 rfl rfl)
theorem dJ13_appendChars_3_151 : decode cJ13_appendChars_3 151 = .ok (.iadd, 1) := dk_96 (dk_at dksJ13_appendChars_3_6 11 rfl rfl)
theorem dJ13_appendChars_3_152 : decode cJ13_appendChars_3 152 = .ok (.putfield 79, 3) := dk_181 0 79 (dk_at dksJ13_appendChars_3_6 12 rfl rfl)
theorem dJ13_appendChars_3_155 : decode cJ13_appendChars_3 155 = .ok (.return_, 1) := dk_177 (dk_at dksJ13_appendChars_3_6 15 rfl rfl)
abbrev cJ13_setLength : ByteArray := prog_24_method_13_code
def yJ13_setLength : MethodName := ⟨RJ13, "setLength", "(I)V"⟩
def dkwJ13_setLength_3 : List UInt8 := [164, 0, 8, 42, 4, 181, 0, 73, 42, 27, 181, 0, 79, 177]
abbrev dktJ13_setLength_3 : List UInt8 := dkwJ13_setLength_3 ++ []
def dkwJ13_setLength_2 : List UInt8 := [167, 0, 31, 42, 180, 0, 15, 42, 180, 0, 79, 27, 184, 0, 137, 167, 0, 16, 42, 180, 0, 79, 27]
abbrev dktJ13_setLength_2 : List UInt8 := dkwJ13_setLength_2 ++ dktJ13_setLength_3
def dkwJ13_setLength_1 : List UInt8 := [162, 0, 40, 42, 182, 0, 83, 153, 0, 18, 42, 180, 0, 15, 42, 180, 0, 79, 27, 184, 0, 133]
abbrev dktJ13_setLength_1 : List UInt8 := dkwJ13_setLength_1 ++ dktJ13_setLength_2
def dkwJ13_setLength_0 : List UInt8 := [27, 156, 0, 12, 187, 0, 129, 89, 27, 183, 0, 131, 191, 42, 27, 182, 0, 100, 42, 180, 0, 79, 27]
abbrev dktJ13_setLength_0 : List UInt8 := dkwJ13_setLength_0 ++ dktJ13_setLength_1
theorem dksJ13_setLength_0 : cJ13_setLength.data.toList.drop 0 = dktJ13_setLength_0 := by decide +kernel
theorem dksJ13_setLength_1 : cJ13_setLength.data.toList.drop 23 = dktJ13_setLength_1 := dk_seg dksJ13_setLength_0 23 rfl rfl
theorem dksJ13_setLength_2 : cJ13_setLength.data.toList.drop 45 = dktJ13_setLength_2 := dk_seg dksJ13_setLength_1 22 rfl rfl
theorem dksJ13_setLength_3 : cJ13_setLength.data.toList.drop 68 = dktJ13_setLength_3 := dk_seg dksJ13_setLength_2 23 rfl rfl
theorem dJ13_setLength_0 : decode cJ13_setLength 0 = .ok (.iload_n 1, 1) := dk_27 (dk_at dksJ13_setLength_0 0 rfl rfl)
theorem dJ13_setLength_1 : decode cJ13_setLength 1 = .ok (.ifCond .ge 12, 3) := dk_156 0 12 (dk_at dksJ13_setLength_0 1 rfl rfl)
theorem dJ13_setLength_4 : decode cJ13_setLength 4 = .ok (.new 129, 3) := dk_187 0 129 (dk_at dksJ13_setLength_0 4 rfl rfl)
theorem dJ13_setLength_7 : decode cJ13_setLength 7 = .ok (.dup, 1) := dk_89 (dk_at dksJ13_setLength_0 7 rfl rfl)
theorem dJ13_setLength_8 : decode cJ13_setLength 8 = .ok (.iload_n 1, 1) := dk_27 (dk_at dksJ13_setLength_0 8 rfl rfl)
theorem dJ13_setLength_9 : decode cJ13_setLength 9 = .ok (.invokespecial 131, 3) := dk_183 0 131 (dk_at dksJ13_setLength_0 9 rfl rfl)
theorem dJ13_setLength_12 : decode cJ13_setLength 12 = .ok (.athrow, 1) := dk_191 (dk_at dksJ13_setLength_0 12 rfl rfl)
theorem dJ13_setLength_13 : decode cJ13_setLength 13 = .ok (.aload_n 0, 1) := dk_42 (dk_at dksJ13_setLength_0 13 rfl rfl)
theorem dJ13_setLength_14 : decode cJ13_setLength 14 = .ok (.iload_n 1, 1) := dk_27 (dk_at dksJ13_setLength_0 14 rfl rfl)
theorem dJ13_setLength_15 : decode cJ13_setLength 15 = .ok (.invokevirtual 100, 3) := dk_182 0 100 (dk_at dksJ13_setLength_0 15 rfl rfl)
theorem dJ13_setLength_18 : decode cJ13_setLength 18 = .ok (.aload_n 0, 1) := dk_42 (dk_at dksJ13_setLength_0 18 rfl rfl)
theorem dJ13_setLength_19 : decode cJ13_setLength 19 = .ok (.getfield 79, 3) := dk_180 0 79 (dk_at dksJ13_setLength_0 19 rfl rfl)
theorem dJ13_setLength_22 : decode cJ13_setLength 22 = .ok (.iload_n 1, 1) := dk_27 (dk_at dksJ13_setLength_0 22 rfl rfl)
theorem dJ13_setLength_23 : decode cJ13_setLength 23 = .ok (.if_icmp .ge 40, 3) := dk_162 0 40 (dk_at dksJ13_setLength_1 0 rfl rfl)
theorem dJ13_setLength_26 : decode cJ13_setLength 26 = .ok (.aload_n 0, 1) := dk_42 (dk_at dksJ13_setLength_1 3 rfl rfl)
theorem dJ13_setLength_27 : decode cJ13_setLength 27 = .ok (.invokevirtual 83, 3) := dk_182 0 83 (dk_at dksJ13_setLength_1 4 rfl rfl)
theorem dJ13_setLength_30 : decode cJ13_setLength 30 = .ok (.ifCond .eq 18, 3) := dk_153 0 18 (dk_at dksJ13_setLength_1 7 rfl rfl)
theorem dJ13_setLength_33 : decode cJ13_setLength 33 = .ok (.aload_n 0, 1) := dk_42 (dk_at dksJ13_setLength_1 10 rfl rfl)
theorem dJ13_setLength_34 : decode cJ13_setLength 34 = .ok (.getfield 15, 3) := dk_180 0 15 (dk_at dksJ13_setLength_1 11 rfl rfl)
theorem dJ13_setLength_37 : decode cJ13_setLength 37 = .ok (.aload_n 0, 1) := dk_42 (dk_at dksJ13_setLength_1 14 rfl rfl)
theorem dJ13_setLength_38 : decode cJ13_setLength 38 = .ok (.getfield 79, 3) := dk_180 0 79 (dk_at dksJ13_setLength_1 15 rfl rfl)
theorem dJ13_setLength_41 : decode cJ13_setLength 41 = .ok (.iload_n 1, 1) := dk_27 (dk_at dksJ13_setLength_1 18 rfl rfl)
theorem dJ13_setLength_42 : decode cJ13_setLength 42 = .ok (.invokestatic 133, 3) := dk_184 0 133 (dk_at dksJ13_setLength_1 19 rfl rfl)
theorem dJ13_setLength_45 : decode cJ13_setLength 45 = .ok (.goto 31, 3) := dk_167 0 31 (dk_at dksJ13_setLength_2 0 rfl rfl)
theorem dJ13_setLength_48 : decode cJ13_setLength 48 = .ok (.aload_n 0, 1) := dk_42 (dk_at dksJ13_setLength_2 3 rfl rfl)
theorem dJ13_setLength_49 : decode cJ13_setLength 49 = .ok (.getfield 15, 3) := dk_180 0 15 (dk_at dksJ13_setLength_2 4 rfl rfl)
theorem dJ13_setLength_52 : decode cJ13_setLength 52 = .ok (.aload_n 0, 1) := dk_42 (dk_at dksJ13_setLength_2 7 rfl rfl)
theorem dJ13_setLength_53 : decode cJ13_setLength 53 = .ok (.getfield 79, 3) := dk_180 0 79 (dk_at dksJ13_setLength_2 8 rfl rfl)
theorem dJ13_setLength_56 : decode cJ13_setLength 56 = .ok (.iload_n 1, 1) := dk_27 (dk_at dksJ13_setLength_2 11 rfl rfl)
theorem dJ13_setLength_57 : decode cJ13_setLength 57 = .ok (.invokestatic 137, 3) := dk_184 0 137 (dk_at dksJ13_setLength_2 12 rfl rfl)
theorem dJ13_setLength_60 : decode cJ13_setLength 60 = .ok (.goto 16, 3) := dk_167 0 16 (dk_at dksJ13_setLength_2 15 rfl rfl)
theorem dJ13_setLength_63 : decode cJ13_setLength 63 = .ok (.aload_n 0, 1) := dk_42 (dk_at dksJ13_setLength_2 18 rfl rfl)
theorem dJ13_setLength_64 : decode cJ13_setLength 64 = .ok (.getfield 79, 3) := dk_180 0 79 (dk_at dksJ13_setLength_2 19 rfl rfl)
theorem dJ13_setLength_67 : decode cJ13_setLength 67 = .ok (.iload_n 1, 1) := dk_27 (dk_at dksJ13_setLength_2 22 rfl rfl)
theorem dJ13_setLength_68 : decode cJ13_setLength 68 = .ok (.if_icmp .le 8, 3) := dk_164 0 8 (dk_at dksJ13_setLength_3 0 rfl rfl)
theorem dJ13_setLength_71 : decode cJ13_setLength 71 = .ok (.aload_n 0, 1) := dk_42 (dk_at dksJ13_setLength_3 3 rfl rfl)
theorem dJ13_setLength_72 : decode cJ13_setLength 72 = .ok (.iconst 1, 1) := dk_4 (dk_at dksJ13_setLength_3 4 rfl rfl)
theorem dJ13_setLength_73 : decode cJ13_setLength 73 = .ok (.putfield 73, 3) := dk_181 0 73 (dk_at dksJ13_setLength_3 5 rfl rfl)
theorem dJ13_setLength_76 : decode cJ13_setLength 76 = .ok (.aload_n 0, 1) := dk_42 (dk_at dksJ13_setLength_3 8 rfl rfl)
theorem dJ13_setLength_77 : decode cJ13_setLength 77 = .ok (.iload_n 1, 1) := dk_27 (dk_at dksJ13_setLength_3 9 rfl rfl)
theorem dJ13_setLength_78 : decode cJ13_setLength 78 = .ok (.putfield 79, 3) := dk_181 0 79 (dk_at dksJ13_setLength_3 10 rfl rfl)
theorem dJ13_setLength_81 : decode cJ13_setLength 81 = .ok (.return_, 1) := dk_177 (dk_at dksJ13_setLength_3 13 rfl rfl)
abbrev cJ13_compareTo : ByteArray := prog_24_method_5_code
def yJ13_compareTo : MethodName := ⟨RJ13, "compareTo", "(Ljava/lang/AbstractStringBuilder;)I"⟩
def dkwJ13_compareTo_4 : List UInt8 := [184, 0, 97, 172]
abbrev dktJ13_compareTo_4 : List UInt8 := dkwJ13_compareTo_4 ++ []
def dkwJ13_compareTo_3 : List UInt8 := [182, 0, 83, 153, 0, 15, 44, 45, 21, 4, 21, 5, 184, 0, 94, 167, 0, 12, 44, 45, 21, 4, 21, 5]
abbrev dktJ13_compareTo_3 : List UInt8 := dkwJ13_compareTo_3 ++ dktJ13_compareTo_4
def dkwJ13_compareTo_2 : List UInt8 := [45, 21, 4, 21, 5, 184, 0, 87, 167, 0, 12, 44, 45, 21, 4, 21, 5, 184, 0, 93, 172, 42]
abbrev dktJ13_compareTo_2 : List UInt8 := dkwJ13_compareTo_2 ++ dktJ13_compareTo_3
def dkwJ13_compareTo_1 : List UInt8 := [180, 0, 79, 54, 5, 42, 180, 0, 22, 43, 180, 0, 22, 160, 0, 32, 42, 182, 0, 83, 153, 0, 15, 44]
abbrev dktJ13_compareTo_1 : List UInt8 := dkwJ13_compareTo_1 ++ dktJ13_compareTo_2
def dkwJ13_compareTo_0 : List UInt8 := [42, 43, 166, 0, 5, 3, 172, 42, 180, 0, 15, 77, 43, 180, 0, 15, 78, 42, 180, 0, 79, 54, 4, 43]
abbrev dktJ13_compareTo_0 : List UInt8 := dkwJ13_compareTo_0 ++ dktJ13_compareTo_1
theorem dksJ13_compareTo_0 : cJ13_compareTo.data.toList.drop 0 = dktJ13_compareTo_0 := by decide +kernel
theorem dksJ13_compareTo_1 : cJ13_compareTo.data.toList.drop 24 = dktJ13_compareTo_1 := dk_seg dksJ13_compareTo_0 24 rfl rfl
theorem dksJ13_compareTo_2 : cJ13_compareTo.data.toList.drop 48 = dktJ13_compareTo_2 := dk_seg dksJ13_compareTo_1 24 rfl rfl
theorem dksJ13_compareTo_3 : cJ13_compareTo.data.toList.drop 70 = dktJ13_compareTo_3 := dk_seg dksJ13_compareTo_2 22 rfl rfl
theorem dksJ13_compareTo_4 : cJ13_compareTo.data.toList.drop 94 = dktJ13_compareTo_4 := dk_seg dksJ13_compareTo_3 24 rfl rfl
theorem dJ13_compareTo_0 : decode cJ13_compareTo 0 = .ok (.aload_n 0, 1) := dk_42 (dk_at dksJ13_compareTo_0 0 rfl rfl)
theorem dJ13_compareTo_1 : decode cJ13_compareTo 1 = .ok (.aload_n 1, 1) := dk_43 (dk_at dksJ13_compareTo_0 1 rfl rfl)
theorem dJ13_compareTo_2 : decode cJ13_compareTo 2 = .ok (.if_acmp .ne 5, 3) := dk_166 0 5 (dk_at dksJ13_compareTo_0 2 rfl rfl)
theorem dJ13_compareTo_5 : decode cJ13_compareTo 5 = .ok (.iconst 0, 1) := dk_3 (dk_at dksJ13_compareTo_0 5 rfl rfl)
theorem dJ13_compareTo_6 : decode cJ13_compareTo 6 = .ok (.ireturn, 1) := dk_172 (dk_at dksJ13_compareTo_0 6 rfl rfl)
theorem dJ13_compareTo_7 : decode cJ13_compareTo 7 = .ok (.aload_n 0, 1) := dk_42 (dk_at dksJ13_compareTo_0 7 rfl rfl)
theorem dJ13_compareTo_8 : decode cJ13_compareTo 8 = .ok (.getfield 15, 3) := dk_180 0 15 (dk_at dksJ13_compareTo_0 8 rfl rfl)
theorem dJ13_compareTo_11 : decode cJ13_compareTo 11 = .ok (.astore_n 2, 1) := dk_77 (dk_at dksJ13_compareTo_0 11 rfl rfl)
theorem dJ13_compareTo_12 : decode cJ13_compareTo 12 = .ok (.aload_n 1, 1) := dk_43 (dk_at dksJ13_compareTo_0 12 rfl rfl)
theorem dJ13_compareTo_13 : decode cJ13_compareTo 13 = .ok (.getfield 15, 3) := dk_180 0 15 (dk_at dksJ13_compareTo_0 13 rfl rfl)
theorem dJ13_compareTo_16 : decode cJ13_compareTo 16 = .ok (.astore_n 3, 1) := dk_78 (dk_at dksJ13_compareTo_0 16 rfl rfl)
theorem dJ13_compareTo_17 : decode cJ13_compareTo 17 = .ok (.aload_n 0, 1) := dk_42 (dk_at dksJ13_compareTo_0 17 rfl rfl)
theorem dJ13_compareTo_18 : decode cJ13_compareTo 18 = .ok (.getfield 79, 3) := dk_180 0 79 (dk_at dksJ13_compareTo_0 18 rfl rfl)
theorem dJ13_compareTo_21 : decode cJ13_compareTo 21 = .ok (.istore 4, 2) := dk_54 4 (dk_at dksJ13_compareTo_0 21 rfl rfl)
theorem dJ13_compareTo_23 : decode cJ13_compareTo 23 = .ok (.aload_n 1, 1) := dk_43 (dk_at dksJ13_compareTo_0 23 rfl rfl)
theorem dJ13_compareTo_24 : decode cJ13_compareTo 24 = .ok (.getfield 79, 3) := dk_180 0 79 (dk_at dksJ13_compareTo_1 0 rfl rfl)
theorem dJ13_compareTo_27 : decode cJ13_compareTo 27 = .ok (.istore 5, 2) := dk_54 5 (dk_at dksJ13_compareTo_1 3 rfl rfl)
theorem dJ13_compareTo_29 : decode cJ13_compareTo 29 = .ok (.aload_n 0, 1) := dk_42 (dk_at dksJ13_compareTo_1 5 rfl rfl)
theorem dJ13_compareTo_30 : decode cJ13_compareTo 30 = .ok (.getfield 22, 3) := dk_180 0 22 (dk_at dksJ13_compareTo_1 6 rfl rfl)
theorem dJ13_compareTo_33 : decode cJ13_compareTo 33 = .ok (.aload_n 1, 1) := dk_43 (dk_at dksJ13_compareTo_1 9 rfl rfl)
theorem dJ13_compareTo_34 : decode cJ13_compareTo 34 = .ok (.getfield 22, 3) := dk_180 0 22 (dk_at dksJ13_compareTo_1 10 rfl rfl)
theorem dJ13_compareTo_37 : decode cJ13_compareTo 37 = .ok (.if_icmp .ne 32, 3) := dk_160 0 32 (dk_at dksJ13_compareTo_1 13 rfl rfl)
theorem dJ13_compareTo_40 : decode cJ13_compareTo 40 = .ok (.aload_n 0, 1) := dk_42 (dk_at dksJ13_compareTo_1 16 rfl rfl)
theorem dJ13_compareTo_41 : decode cJ13_compareTo 41 = .ok (.invokevirtual 83, 3) := dk_182 0 83 (dk_at dksJ13_compareTo_1 17 rfl rfl)
theorem dJ13_compareTo_44 : decode cJ13_compareTo 44 = .ok (.ifCond .eq 15, 3) := dk_153 0 15 (dk_at dksJ13_compareTo_1 20 rfl rfl)
theorem dJ13_compareTo_47 : decode cJ13_compareTo 47 = .ok (.aload_n 2, 1) := dk_44 (dk_at dksJ13_compareTo_1 23 rfl rfl)
theorem dJ13_compareTo_48 : decode cJ13_compareTo 48 = .ok (.aload_n 3, 1) := dk_45 (dk_at dksJ13_compareTo_2 0 rfl rfl)
theorem dJ13_compareTo_49 : decode cJ13_compareTo 49 = .ok (.iload 4, 2) := dk_21 4 (dk_at dksJ13_compareTo_2 1 rfl rfl)
theorem dJ13_compareTo_51 : decode cJ13_compareTo 51 = .ok (.iload 5, 2) := dk_21 5 (dk_at dksJ13_compareTo_2 3 rfl rfl)
theorem dJ13_compareTo_53 : decode cJ13_compareTo 53 = .ok (.invokestatic 87, 3) := dk_184 0 87 (dk_at dksJ13_compareTo_2 5 rfl rfl)
theorem dJ13_compareTo_56 : decode cJ13_compareTo 56 = .ok (.goto 12, 3) := dk_167 0 12 (dk_at dksJ13_compareTo_2 8 rfl rfl)
theorem dJ13_compareTo_59 : decode cJ13_compareTo 59 = .ok (.aload_n 2, 1) := dk_44 (dk_at dksJ13_compareTo_2 11 rfl rfl)
theorem dJ13_compareTo_60 : decode cJ13_compareTo 60 = .ok (.aload_n 3, 1) := dk_45 (dk_at dksJ13_compareTo_2 12 rfl rfl)
theorem dJ13_compareTo_61 : decode cJ13_compareTo 61 = .ok (.iload 4, 2) := dk_21 4 (dk_at dksJ13_compareTo_2 13 rfl rfl)
theorem dJ13_compareTo_63 : decode cJ13_compareTo 63 = .ok (.iload 5, 2) := dk_21 5 (dk_at dksJ13_compareTo_2 15 rfl rfl)
theorem dJ13_compareTo_65 : decode cJ13_compareTo 65 = .ok (.invokestatic 93, 3) := dk_184 0 93 (dk_at dksJ13_compareTo_2 17 rfl rfl)
theorem dJ13_compareTo_68 : decode cJ13_compareTo 68 = .ok (.ireturn, 1) := dk_172 (dk_at dksJ13_compareTo_2 20 rfl rfl)
theorem dJ13_compareTo_69 : decode cJ13_compareTo 69 = .ok (.aload_n 0, 1) := dk_42 (dk_at dksJ13_compareTo_2 21 rfl rfl)
theorem dJ13_compareTo_70 : decode cJ13_compareTo 70 = .ok (.invokevirtual 83, 3) := dk_182 0 83 (dk_at dksJ13_compareTo_3 0 rfl rfl)
theorem dJ13_compareTo_73 : decode cJ13_compareTo 73 = .ok (.ifCond .eq 15, 3) := dk_153 0 15 (dk_at dksJ13_compareTo_3 3 rfl rfl)
theorem dJ13_compareTo_76 : decode cJ13_compareTo 76 = .ok (.aload_n 2, 1) := dk_44 (dk_at dksJ13_compareTo_3 6 rfl rfl)
theorem dJ13_compareTo_77 : decode cJ13_compareTo 77 = .ok (.aload_n 3, 1) := dk_45 (dk_at dksJ13_compareTo_3 7 rfl rfl)
theorem dJ13_compareTo_78 : decode cJ13_compareTo 78 = .ok (.iload 4, 2) := dk_21 4 (dk_at dksJ13_compareTo_3 8 rfl rfl)
theorem dJ13_compareTo_80 : decode cJ13_compareTo 80 = .ok (.iload 5, 2) := dk_21 5 (dk_at dksJ13_compareTo_3 10 rfl rfl)
theorem dJ13_compareTo_82 : decode cJ13_compareTo 82 = .ok (.invokestatic 94, 3) := dk_184 0 94 (dk_at dksJ13_compareTo_3 12 rfl rfl)
theorem dJ13_compareTo_85 : decode cJ13_compareTo 85 = .ok (.goto 12, 3) := dk_167 0 12 (dk_at dksJ13_compareTo_3 15 rfl rfl)
theorem dJ13_compareTo_88 : decode cJ13_compareTo 88 = .ok (.aload_n 2, 1) := dk_44 (dk_at dksJ13_compareTo_3 18 rfl rfl)
theorem dJ13_compareTo_89 : decode cJ13_compareTo 89 = .ok (.aload_n 3, 1) := dk_45 (dk_at dksJ13_compareTo_3 19 rfl rfl)
theorem dJ13_compareTo_90 : decode cJ13_compareTo 90 = .ok (.iload 4, 2) := dk_21 4 (dk_at dksJ13_compareTo_3 20 rfl rfl)
theorem dJ13_compareTo_92 : decode cJ13_compareTo 92 = .ok (.iload 5, 2) := dk_21 5 (dk_at dksJ13_compareTo_3 22 rfl rfl)
theorem dJ13_compareTo_94 : decode cJ13_compareTo 94 = .ok (.invokestatic 97, 3) := dk_184 0 97 (dk_at dksJ13_compareTo_4 0 rfl rfl)
theorem dJ13_compareTo_97 : decode cJ13_compareTo 97 = .ok (.ireturn, 1) := dk_172 (dk_at dksJ13_compareTo_4 3 rfl rfl)
theorem q118 : (Jvm.Cond.initialized "java/lang/AbstractStringBuilder") ∈ lw_all := lw_g (lw_at lw_m1 16 rfl) rfl
theorem q362 : (Jvm.Cond.instanceMethod ({ cls := "java/lang/AbstractStringBuilder", name := "<init>", desc := "(I)V" } : Jvm.MethodName)) ∈ lw_all := lw_g (lw_at lw_m2 20 rfl) rfl
theorem q363 : (Jvm.Cond.code ({ cls := "java/lang/AbstractStringBuilder", name := "<init>", desc := "(I)V" } : Jvm.MethodName) prog_24_method_2_code (2 : Nat) (Option.none : Option Jvm.ClassFile.FieldType)) ∈ lw_all := lw_g (lw_at lw_m2 21 rfl) rfl
theorem q364 : (Jvm.Cond.methodLink "java/lang/AbstractStringBuilder" (3 : Nat) ({ cls := "java/lang/Object", name := "<init>", desc := "()V" } : Jvm.MethodName)) ∈ lw_all := lw_g (lw_at lw_m2 22 rfl) rfl
theorem q365 : (Jvm.Cond.fieldLink "java/lang/AbstractStringBuilder" (18 : Nat) "java/lang/String" "COMPACT_STRINGS" "Z") ∈ lw_all := lw_g (lw_at lw_m2 23 rfl) rfl
theorem q367 : (Jvm.Cond.methodLink "java/lang/AbstractStringBuilder" (26 : Nat) ({ cls := "java/lang/StringUTF16", name := "newBytesFor", desc := "(I)[B" } : Jvm.MethodName)) ∈ lw_all := lw_g (lw_at lw_m2 25 rfl) rfl
theorem q374 : (Jvm.Cond.fieldLink "java/lang/AbstractStringBuilder" (15 : Nat) "java/lang/AbstractStringBuilder" "value" "[B") ∈ lw_all := lw_g (lw_at lw_m2 32 rfl) rfl
theorem q375 : (Jvm.Cond.fieldLink "java/lang/AbstractStringBuilder" (22 : Nat) "java/lang/AbstractStringBuilder" "coder" "B") ∈ lw_all := lw_g (lw_at lw_m2 33 rfl) rfl
theorem q376 : (Jvm.Cond.fieldLink "java/lang/AbstractStringBuilder" (73 : Nat) "java/lang/AbstractStringBuilder" "maybeLatin1" "Z") ∈ lw_all := lw_g (lw_at lw_m2 34 rfl) rfl
theorem q378 : (Jvm.Cond.fieldLink "java/lang/AbstractStringBuilder" (79 : Nat) "java/lang/AbstractStringBuilder" "count" "I") ∈ lw_all := lw_g (lw_at lw_m2 36 rfl) rfl
theorem q380 : (Jvm.Cond.soleField "java/lang/AbstractStringBuilder" "value") ∈ lw_all := lw_g (lw_at lw_m2 38 rfl) rfl
theorem q382 : (Jvm.Cond.soleField "java/lang/AbstractStringBuilder" "coder") ∈ lw_all := lw_g (lw_at lw_m2 40 rfl) rfl
theorem q384 : (Jvm.Cond.soleField "java/lang/AbstractStringBuilder" "maybeLatin1") ∈ lw_all := lw_g (lw_at lw_m2 42 rfl) rfl
theorem q386 : (Jvm.Cond.soleField "java/lang/AbstractStringBuilder" "count") ∈ lw_all := lw_g (lw_at lw_m2 44 rfl) rfl
theorem q397 : (Jvm.Cond.instanceMethod ({ cls := "java/lang/AbstractStringBuilder", name := "append", desc := "(Ljava/lang/String;)Ljava/lang/AbstractStringBuilder;" } : Jvm.MethodName)) ∈ lw_all := lw_g (lw_at lw_m2 55 rfl) rfl
theorem q398 : (Jvm.Cond.code ({ cls := "java/lang/AbstractStringBuilder", name := "append", desc := "(Ljava/lang/String;)Ljava/lang/AbstractStringBuilder;" } : Jvm.MethodName) prog_24_method_22_code (3 : Nat) (Option.some (Jvm.ClassFile.FieldType.object "java/lang/AbstractStringBuilder"))) ∈ lw_all := lw_g (lw_at lw_m2 56 rfl) rfl
theorem q399 : (Jvm.Cond.methodLink "java/lang/AbstractStringBuilder" (204 : Nat) ({ cls := "java/lang/AbstractStringBuilder", name := "appendNull", desc := "()Ljava/lang/AbstractStringBuilder;" } : Jvm.MethodName)) ∈ lw_all := lw_g (lw_at lw_m2 57 rfl) rfl
theorem q400 : (Jvm.Cond.privateMethod ({ cls := "java/lang/AbstractStringBuilder", name := "appendNull", desc := "()Ljava/lang/AbstractStringBuilder;" } : Jvm.MethodName)) ∈ lw_tbl := lw_at lw_m2 58 rfl
theorem q401 : (Jvm.Cond.instanceMethod ({ cls := "java/lang/AbstractStringBuilder", name := "appendNull", desc := "()Ljava/lang/AbstractStringBuilder;" } : Jvm.MethodName)) ∈ lw_all := lw_g (lw_at lw_m2 59 rfl) rfl
theorem q402 : (Jvm.Cond.code ({ cls := "java/lang/AbstractStringBuilder", name := "appendNull", desc := "()Ljava/lang/AbstractStringBuilder;" } : Jvm.MethodName) prog_24_method_26_code (3 : Nat) (Option.some (Jvm.ClassFile.FieldType.object "java/lang/AbstractStringBuilder"))) ∈ lw_all := lw_g (lw_at lw_m2 60 rfl) rfl
theorem q403 : (Jvm.Cond.methodLink "java/lang/AbstractStringBuilder" (100 : Nat) ({ cls := "java/lang/AbstractStringBuilder", name := "ensureCapacityInternal", desc := "(I)V" } : Jvm.MethodName)) ∈ lw_all := lw_g (lw_at lw_m2 61 rfl) rfl
theorem q404 : (Jvm.Cond.privateMethod ({ cls := "java/lang/AbstractStringBuilder", name := "ensureCapacityInternal", desc := "(I)V" } : Jvm.MethodName)) ∈ lw_tbl := lw_at lw_m2 62 rfl
theorem q405 : (Jvm.Cond.instanceMethod ({ cls := "java/lang/AbstractStringBuilder", name := "ensureCapacityInternal", desc := "(I)V" } : Jvm.MethodName)) ∈ lw_all := lw_g (lw_at lw_m2 63 rfl) rfl
theorem q406 : (Jvm.Cond.code ({ cls := "java/lang/AbstractStringBuilder", name := "ensureCapacityInternal", desc := "(I)V" } : Jvm.MethodName) prog_24_method_9_code (3 : Nat) (Option.none : Option Jvm.ClassFile.FieldType)) ∈ lw_all := lw_g (lw_at lw_m2 64 rfl) rfl
theorem q407 : (Jvm.Cond.methodLink "java/lang/AbstractStringBuilder" (104 : Nat) ({ cls := "java/lang/AbstractStringBuilder", name := "newCapacity", desc := "(I)I" } : Jvm.MethodName)) ∈ lw_all := lw_g (lw_at lw_m2 65 rfl) rfl
theorem q408 : (Jvm.Cond.privateMethod ({ cls := "java/lang/AbstractStringBuilder", name := "newCapacity", desc := "(I)I" } : Jvm.MethodName)) ∈ lw_tbl := lw_at lw_m2 66 rfl
theorem q409 : (Jvm.Cond.instanceMethod ({ cls := "java/lang/AbstractStringBuilder", name := "newCapacity", desc := "(I)I" } : Jvm.MethodName)) ∈ lw_all := lw_g (lw_at lw_m2 67 rfl) rfl
theorem q410 : (Jvm.Cond.code ({ cls := "java/lang/AbstractStringBuilder", name := "newCapacity", desc := "(I)I" } : Jvm.MethodName) prog_24_method_10_code (6 : Nat) (Option.some Jvm.ClassFile.FieldType.int)) ∈ lw_all := lw_g (lw_at lw_m2 68 rfl) rfl
theorem q411 : (Jvm.Cond.methodLink "java/lang/AbstractStringBuilder" (114 : Nat) ({ cls := "jdk/internal/util/ArraysSupport", name := "newLength", desc := "(III)I" } : Jvm.MethodName)) ∈ lw_all := lw_g (lw_at lw_m2 69 rfl) rfl
theorem q421 : (Jvm.Cond.constant "java/lang/AbstractStringBuilder" (39 : Nat) (2147483647 : Int32)) ∈ lw_all := lw_g (lw_at lw_m2 79 rfl) rfl
theorem q422 : (Jvm.Cond.methodLink "java/lang/AbstractStringBuilder" (108 : Nat) ({ cls := "java/util/Arrays", name := "copyOf", desc := "([BI)[B" } : Jvm.MethodName)) ∈ lw_all := lw_g (lw_at lw_m2 80 rfl) rfl
theorem q438 : (Jvm.Cond.methodLink "java/lang/AbstractStringBuilder" (83 : Nat) ({ cls := "java/lang/AbstractStringBuilder", name := "isLatin1", desc := "()Z" } : Jvm.MethodName)) ∈ lw_all := lw_g (lw_at lw_m2 96 rfl) rfl
theorem q439 : (Jvm.Cond.instanceMethod ({ cls := "java/lang/AbstractStringBuilder", name := "isLatin1", desc := "()Z" } : Jvm.MethodName)) ∈ lw_all := lw_g (lw_at lw_m2 97 rfl) rfl
theorem q440 : (Jvm.Cond.sameMethod "java/lang/AbstractStringBuilder" "java/lang/AbstractStringBuilder" "isLatin1" "()Z") ∈ lw_all := lw_g (lw_at lw_m2 98 rfl) rfl
theorem q442 : (Jvm.Cond.code ({ cls := "java/lang/AbstractStringBuilder", name := "isLatin1", desc := "()Z" } : Jvm.MethodName) prog_24_method_68_code (1 : Nat) (Option.some Jvm.ClassFile.FieldType.boolean)) ∈ lw_all := lw_g (lw_at lw_m2 100 rfl) rfl
theorem q443 : (Jvm.Cond.methodLink "java/lang/AbstractStringBuilder" (226 : Nat) ({ cls := "java/lang/StringUTF16", name := "putCharsAt", desc := "([BICCCC)I" } : Jvm.MethodName)) ∈ lw_all := lw_g (lw_at lw_m2 101 rfl) rfl
theorem q469 : (Jvm.Cond.methodLink "java/lang/AbstractStringBuilder" (32 : Nat) ({ cls := "java/lang/String", name := "length", desc := "()I" } : Jvm.MethodName)) ∈ lw_all := lw_g (lw_at lw_m2 127 rfl) rfl
theorem q478 : (Jvm.Cond.methodLink "java/lang/AbstractStringBuilder" (208 : Nat) ({ cls := "java/lang/AbstractStringBuilder", name := "putStringAt", desc := "(ILjava/lang/String;)V" } : Jvm.MethodName)) ∈ lw_all := lw_g (lw_at lw_m2 136 rfl) rfl
theorem q479 : (Jvm.Cond.privateMethod ({ cls := "java/lang/AbstractStringBuilder", name := "putStringAt", desc := "(ILjava/lang/String;)V" } : Jvm.MethodName)) ∈ lw_tbl := lw_at lw_m2 137 rfl
theorem q480 : (Jvm.Cond.instanceMethod ({ cls := "java/lang/AbstractStringBuilder", name := "putStringAt", desc := "(ILjava/lang/String;)V" } : Jvm.MethodName)) ∈ lw_all := lw_g (lw_at lw_m2 138 rfl) rfl
theorem q481 : (Jvm.Cond.code ({ cls := "java/lang/AbstractStringBuilder", name := "putStringAt", desc := "(ILjava/lang/String;)V" } : Jvm.MethodName) prog_24_method_73_code (3 : Nat) (Option.none : Option Jvm.ClassFile.FieldType)) ∈ lw_all := lw_g (lw_at lw_m2 139 rfl) rfl
theorem q482 : (Jvm.Cond.methodLink "java/lang/AbstractStringBuilder" (397 : Nat) ({ cls := "java/lang/AbstractStringBuilder", name := "inflateIfNeededFor", desc := "(Ljava/lang/String;)V" } : Jvm.MethodName)) ∈ lw_all := lw_g (lw_at lw_m2 140 rfl) rfl
theorem q483 : (Jvm.Cond.privateMethod ({ cls := "java/lang/AbstractStringBuilder", name := "inflateIfNeededFor", desc := "(Ljava/lang/String;)V" } : Jvm.MethodName)) ∈ lw_tbl := lw_at lw_m2 141 rfl
theorem q484 : (Jvm.Cond.instanceMethod ({ cls := "java/lang/AbstractStringBuilder", name := "inflateIfNeededFor", desc := "(Ljava/lang/String;)V" } : Jvm.MethodName)) ∈ lw_all := lw_g (lw_at lw_m2 142 rfl) rfl
theorem q485 : (Jvm.Cond.code ({ cls := "java/lang/AbstractStringBuilder", name := "inflateIfNeededFor", desc := "(Ljava/lang/String;)V" } : Jvm.MethodName) prog_24_method_71_code (2 : Nat) (Option.none : Option Jvm.ClassFile.FieldType)) ∈ lw_all := lw_g (lw_at lw_m2 143 rfl) rfl
theorem q486 : (Jvm.Cond.methodLink "java/lang/AbstractStringBuilder" (40 : Nat) ({ cls := "java/lang/String", name := "coder", desc := "()B" } : Jvm.MethodName)) ∈ lw_all := lw_g (lw_at lw_m2 144 rfl) rfl
theorem q487 : (Jvm.Cond.methodLink "java/lang/AbstractStringBuilder" (195 : Nat) ({ cls := "java/lang/AbstractStringBuilder", name := "inflate", desc := "()V" } : Jvm.MethodName)) ∈ lw_all := lw_g (lw_at lw_m2 145 rfl) rfl
theorem q488 : (Jvm.Cond.privateMethod ({ cls := "java/lang/AbstractStringBuilder", name := "inflate", desc := "()V" } : Jvm.MethodName)) ∈ lw_tbl := lw_at lw_m2 146 rfl
theorem q489 : (Jvm.Cond.instanceMethod ({ cls := "java/lang/AbstractStringBuilder", name := "inflate", desc := "()V" } : Jvm.MethodName)) ∈ lw_all := lw_g (lw_at lw_m2 147 rfl) rfl
theorem q490 : (Jvm.Cond.code ({ cls := "java/lang/AbstractStringBuilder", name := "inflate", desc := "()V" } : Jvm.MethodName) prog_24_method_11_code (2 : Nat) (Option.none : Option Jvm.ClassFile.FieldType)) ∈ lw_all := lw_g (lw_at lw_m2 148 rfl) rfl
theorem q491 : (Jvm.Cond.methodLink "java/lang/AbstractStringBuilder" (125 : Nat) ({ cls := "java/lang/StringLatin1", name := "inflate", desc := "([BI[BII)V" } : Jvm.MethodName)) ∈ lw_all := lw_g (lw_at lw_m2 149 rfl) rfl
theorem q506 : (Jvm.Cond.methodLink "java/lang/AbstractStringBuilder" (399 : Nat) ({ cls := "java/lang/String", name := "getBytes", desc := "([BIB)V" } : Jvm.MethodName)) ∈ lw_all := lw_g (lw_at lw_m2 164 rfl) rfl
theorem q517 : (Jvm.Cond.instanceMethod ({ cls := "java/lang/AbstractStringBuilder", name := "append", desc := "(I)Ljava/lang/AbstractStringBuilder;" } : Jvm.MethodName)) ∈ lw_all := lw_g (lw_at lw_m2 175 rfl) rfl
theorem q518 : (Jvm.Cond.code ({ cls := "java/lang/AbstractStringBuilder", name := "append", desc := "(I)Ljava/lang/AbstractStringBuilder;" } : Jvm.MethodName) prog_24_method_32_code (4 : Nat) (Option.some (Jvm.ClassFile.FieldType.object "java/lang/AbstractStringBuilder"))) ∈ lw_all := lw_g (lw_at lw_m2 176 rfl) rfl
theorem q519 : (Jvm.Cond.methodLink "java/lang/AbstractStringBuilder" (245 : Nat) ({ cls := "java/lang/Integer", name := "stringSize", desc := "(I)I" } : Jvm.MethodName)) ∈ lw_all := lw_g (lw_at lw_m2 177 rfl) rfl
theorem q522 : (Jvm.Cond.methodLink "java/lang/AbstractStringBuilder" (248 : Nat) ({ cls := "java/lang/Integer", name := "getChars", desc := "(II[B)I" } : Jvm.MethodName)) ∈ lw_all := lw_g (lw_at lw_m2 180 rfl) rfl
theorem q529 : (Jvm.Cond.methodLink "java/lang/AbstractStringBuilder" (251 : Nat) ({ cls := "java/lang/StringUTF16", name := "getChars", desc := "(III[B)I" } : Jvm.MethodName)) ∈ lw_all := lw_g (lw_at lw_m2 187 rfl) rfl
theorem q551 : (Jvm.Cond.instanceMethod ({ cls := "java/lang/AbstractStringBuilder", name := "getValue", desc := "()[B" } : Jvm.MethodName)) ∈ lw_all := lw_g (lw_at lw_m2 209 rfl) rfl
theorem q552 : (Jvm.Cond.sameMethod "java/lang/AbstractStringBuilder" "java/lang/AbstractStringBuilder" "getValue" "()[B") ∈ lw_all := lw_g (lw_at lw_m2 210 rfl) rfl
theorem q554 : (Jvm.Cond.code ({ cls := "java/lang/AbstractStringBuilder", name := "getValue", desc := "()[B" } : Jvm.MethodName) prog_24_method_64_code (1 : Nat) (Option.some (Jvm.ClassFile.FieldType.array Jvm.ClassFile.FieldType.byte))) ∈ lw_all := lw_g (lw_at lw_m2 212 rfl) rfl
theorem q556 : (Jvm.Cond.instanceMethod ({ cls := "java/lang/AbstractStringBuilder", name := "length", desc := "()I" } : Jvm.MethodName)) ∈ lw_all := lw_g (lw_at lw_m2 214 rfl) rfl
theorem q557 : (Jvm.Cond.sameMethod "java/lang/AbstractStringBuilder" "java/lang/AbstractStringBuilder" "length" "()I") ∈ lw_all := lw_g (lw_at lw_m2 215 rfl) rfl
theorem q562 : (Jvm.Cond.code ({ cls := "java/lang/AbstractStringBuilder", name := "length", desc := "()I" } : Jvm.MethodName) prog_24_method_6_code (1 : Nat) (Option.some Jvm.ClassFile.FieldType.int)) ∈ lw_all := lw_g (lw_at lw_m2 220 rfl) rfl
theorem q642 : (Jvm.Cond.instanceMethod ({ cls := "java/lang/AbstractStringBuilder", name := "append", desc := "(F)Ljava/lang/AbstractStringBuilder;" } : Jvm.MethodName)) ∈ lw_all := lw_g (lw_at lw_m3 60 rfl) rfl
theorem q643 : (Jvm.Cond.codeWith ({ cls := "java/lang/AbstractStringBuilder", name := "append", desc := "(F)Ljava/lang/AbstractStringBuilder;" } : Jvm.MethodName) prog_24_method_34_code (3 : Nat) (Option.some (Jvm.ClassFile.FieldType.object "java/lang/AbstractStringBuilder")) [((0 : Nat), (6 : Nat), (9 : Nat), (271 : Nat))]) ∈ lw_all := lw_g (lw_at lw_m3 61 rfl) rfl
theorem q644 : (Jvm.Cond.methodLink "java/lang/AbstractStringBuilder" (265 : Nat) ({ cls := "jdk/internal/math/FloatToDecimal", name := "appendTo", desc := "(FLjava/lang/Appendable;)Ljava/lang/Appendable;" } : Jvm.MethodName)) ∈ lw_all := lw_g (lw_at lw_m3 62 rfl) rfl
theorem q763 : (Jvm.Cond.instanceMethod ({ cls := "java/lang/AbstractStringBuilder", name := "append", desc := "([C)Ljava/lang/AbstractStringBuilder;" } : Jvm.MethodName)) ∈ lw_all := lw_g (lw_at lw_m3 181 rfl) rfl
theorem q764 : (Jvm.Cond.code ({ cls := "java/lang/AbstractStringBuilder", name := "append", desc := "([C)Ljava/lang/AbstractStringBuilder;" } : Jvm.MethodName) prog_24_method_28_code (3 : Nat) (Option.some (Jvm.ClassFile.FieldType.object "java/lang/AbstractStringBuilder"))) ∈ lw_all := lw_g (lw_at lw_m3 182 rfl) rfl
theorem q765 : (Jvm.Cond.methodLink "java/lang/AbstractStringBuilder" (239 : Nat) ({ cls := "java/lang/AbstractStringBuilder", name := "appendChars", desc := "([CII)V" } : Jvm.MethodName)) ∈ lw_all := lw_g (lw_at lw_m3 183 rfl) rfl
theorem q766 : (Jvm.Cond.privateMethod ({ cls := "java/lang/AbstractStringBuilder", name := "appendChars", desc := "([CII)V" } : Jvm.MethodName)) ∈ lw_tbl := lw_at lw_m3 184 rfl
theorem q767 : (Jvm.Cond.instanceMethod ({ cls := "java/lang/AbstractStringBuilder", name := "appendChars", desc := "([CII)V" } : Jvm.MethodName)) ∈ lw_all := lw_g (lw_at lw_m3 185 rfl) rfl
theorem q768 : (Jvm.Cond.code ({ cls := "java/lang/AbstractStringBuilder", name := "appendChars", desc := "([CII)V" } : Jvm.MethodName) prog_24_method_74_code (9 : Nat) (Option.none : Option Jvm.ClassFile.FieldType)) ∈ lw_all := lw_g (lw_at lw_m3 186 rfl) rfl
theorem q769 : (Jvm.Cond.methodLink "java/lang/AbstractStringBuilder" (191 : Nat) ({ cls := "java/lang/StringLatin1", name := "canEncode", desc := "(C)Z" } : Jvm.MethodName)) ∈ lw_all := lw_g (lw_at lw_m3 187 rfl) rfl
theorem q772 : (Jvm.Cond.methodLink "java/lang/AbstractStringBuilder" (386 : Nat) ({ cls := "java/lang/StringUTF16", name := "putCharsSB", desc := "([BI[CII)V" } : Jvm.MethodName)) ∈ lw_all := lw_g (lw_at lw_m3 190 rfl) rfl
theorem q800 : (Jvm.Cond.instanceMethod ({ cls := "java/lang/AbstractStringBuilder", name := "append", desc := "(C)Ljava/lang/AbstractStringBuilder;" } : Jvm.MethodName)) ∈ lw_all := lw_g (lw_at lw_m3 218 rfl) rfl
theorem q801 : (Jvm.Cond.code ({ cls := "java/lang/AbstractStringBuilder", name := "append", desc := "(C)Ljava/lang/AbstractStringBuilder;" } : Jvm.MethodName) prog_24_method_31_code (2 : Nat) (Option.some (Jvm.ClassFile.FieldType.object "java/lang/AbstractStringBuilder"))) ∈ lw_all := lw_g (lw_at lw_m3 219 rfl) rfl
theorem q802 : (Jvm.Cond.methodLink "java/lang/AbstractStringBuilder" (197 : Nat) ({ cls := "java/lang/StringUTF16", name := "putCharSB", desc := "([BII)V" } : Jvm.MethodName)) ∈ lw_all := lw_g (lw_at lw_m3 220 rfl) rfl
theorem q829 : (Jvm.Cond.instanceMethod ({ cls := "java/lang/AbstractStringBuilder", name := "append", desc := "(Ljava/lang/CharSequence;)Ljava/lang/AbstractStringBuilder;" } : Jvm.MethodName)) ∈ lw_all := lw_g (lw_at lw_m4 7 rfl) rfl
theorem q830 : (Jvm.Cond.code ({ cls := "java/lang/AbstractStringBuilder", name := "append", desc := "(Ljava/lang/CharSequence;)Ljava/lang/AbstractStringBuilder;" } : Jvm.MethodName) prog_24_method_25_code (2 : Nat) (Option.some (Jvm.ClassFile.FieldType.object "java/lang/AbstractStringBuilder"))) ∈ lw_all := lw_g (lw_at lw_m4 8 rfl) rfl
theorem q831 : (Jvm.Cond.classLink "java/lang/AbstractStringBuilder" (1 : Nat) "java/lang/String") ∈ lw_all := lw_g (lw_at lw_m4 9 rfl) rfl
theorem q832 : (Jvm.Cond.methodLink "java/lang/AbstractStringBuilder" (43 : Nat) ({ cls := "java/lang/AbstractStringBuilder", name := "append", desc := "(Ljava/lang/String;)Ljava/lang/AbstractStringBuilder;" } : Jvm.MethodName)) ∈ lw_all := lw_g (lw_at lw_m4 10 rfl) rfl
theorem q836 : (Jvm.Cond.classLink "java/lang/AbstractStringBuilder" (10 : Nat) "java/lang/AbstractStringBuilder") ∈ lw_all := lw_g (lw_at lw_m4 14 rfl) rfl
theorem q837 : (Jvm.Cond.methodLink "java/lang/AbstractStringBuilder" (212 : Nat) ({ cls := "java/lang/AbstractStringBuilder", name := "append", desc := "(Ljava/lang/AbstractStringBuilder;)Ljava/lang/AbstractStringBuilder;" } : Jvm.MethodName)) ∈ lw_all := lw_g (lw_at lw_m4 15 rfl) rfl
theorem q838 : (Jvm.Cond.instanceMethod ({ cls := "java/lang/AbstractStringBuilder", name := "append", desc := "(Ljava/lang/AbstractStringBuilder;)Ljava/lang/AbstractStringBuilder;" } : Jvm.MethodName)) ∈ lw_all := lw_g (lw_at lw_m4 16 rfl) rfl
theorem q839 : (Jvm.Cond.sameMethod "java/lang/AbstractStringBuilder" "java/lang/AbstractStringBuilder" "append" "(Ljava/lang/AbstractStringBuilder;)Ljava/lang/AbstractStringBuilder;") ∈ lw_all := lw_g (lw_at lw_m4 17 rfl) rfl
theorem q841 : (Jvm.Cond.code ({ cls := "java/lang/AbstractStringBuilder", name := "append", desc := "(Ljava/lang/AbstractStringBuilder;)Ljava/lang/AbstractStringBuilder;" } : Jvm.MethodName) prog_24_method_24_code (3 : Nat) (Option.some (Jvm.ClassFile.FieldType.object "java/lang/AbstractStringBuilder"))) ∈ lw_all := lw_g (lw_at lw_m4 19 rfl) rfl
theorem q842 : (Jvm.Cond.methodLink "java/lang/AbstractStringBuilder" (160 : Nat) ({ cls := "java/lang/AbstractStringBuilder", name := "length", desc := "()I" } : Jvm.MethodName)) ∈ lw_all := lw_g (lw_at lw_m4 20 rfl) rfl
theorem q843 : (Jvm.Cond.methodLink "java/lang/AbstractStringBuilder" (215 : Nat) ({ cls := "java/lang/AbstractStringBuilder", name := "inflateIfNeededFor", desc := "(Ljava/lang/AbstractStringBuilder;)V" } : Jvm.MethodName)) ∈ lw_all := lw_g (lw_at lw_m4 21 rfl) rfl
theorem q844 : (Jvm.Cond.privateMethod ({ cls := "java/lang/AbstractStringBuilder", name := "inflateIfNeededFor", desc := "(Ljava/lang/AbstractStringBuilder;)V" } : Jvm.MethodName)) ∈ lw_tbl := lw_at lw_m4 22 rfl
theorem q845 : (Jvm.Cond.instanceMethod ({ cls := "java/lang/AbstractStringBuilder", name := "inflateIfNeededFor", desc := "(Ljava/lang/AbstractStringBuilder;)V" } : Jvm.MethodName)) ∈ lw_all := lw_g (lw_at lw_m4 23 rfl) rfl
theorem q846 : (Jvm.Cond.code ({ cls := "java/lang/AbstractStringBuilder", name := "inflateIfNeededFor", desc := "(Ljava/lang/AbstractStringBuilder;)V" } : Jvm.MethodName) prog_24_method_72_code (2 : Nat) (Option.none : Option Jvm.ClassFile.FieldType)) ∈ lw_all := lw_g (lw_at lw_m4 24 rfl) rfl
theorem q847 : (Jvm.Cond.methodLink "java/lang/AbstractStringBuilder" (70 : Nat) ({ cls := "java/lang/AbstractStringBuilder", name := "getCoder", desc := "()B" } : Jvm.MethodName)) ∈ lw_all := lw_g (lw_at lw_m4 25 rfl) rfl
theorem q848 : (Jvm.Cond.instanceMethod ({ cls := "java/lang/AbstractStringBuilder", name := "getCoder", desc := "()B" } : Jvm.MethodName)) ∈ lw_all := lw_g (lw_at lw_m4 26 rfl) rfl
theorem q849 : (Jvm.Cond.sameMethod "java/lang/AbstractStringBuilder" "java/lang/AbstractStringBuilder" "getCoder" "()B") ∈ lw_all := lw_g (lw_at lw_m4 27 rfl) rfl
theorem q851 : (Jvm.Cond.code ({ cls := "java/lang/AbstractStringBuilder", name := "getCoder", desc := "()B" } : Jvm.MethodName) prog_24_method_67_code (1 : Nat) (Option.some Jvm.ClassFile.FieldType.byte)) ∈ lw_all := lw_g (lw_at lw_m4 29 rfl) rfl
theorem q852 : (Jvm.Cond.methodLink "java/lang/AbstractStringBuilder" (219 : Nat) ({ cls := "java/lang/AbstractStringBuilder", name := "getBytes", desc := "([BIB)V" } : Jvm.MethodName)) ∈ lw_all := lw_g (lw_at lw_m4 30 rfl) rfl
theorem q853 : (Jvm.Cond.instanceMethod ({ cls := "java/lang/AbstractStringBuilder", name := "getBytes", desc := "([BIB)V" } : Jvm.MethodName)) ∈ lw_all := lw_g (lw_at lw_m4 31 rfl) rfl
theorem q854 : (Jvm.Cond.sameMethod "java/lang/AbstractStringBuilder" "java/lang/AbstractStringBuilder" "getBytes" "([BIB)V") ∈ lw_all := lw_g (lw_at lw_m4 32 rfl) rfl
theorem q856 : (Jvm.Cond.code ({ cls := "java/lang/AbstractStringBuilder", name := "getBytes", desc := "([BIB)V" } : Jvm.MethodName) prog_24_method_65_code (4 : Nat) (Option.none : Option Jvm.ClassFile.FieldType)) ∈ lw_all := lw_g (lw_at lw_m4 34 rfl) rfl
theorem q857 : (Jvm.Cond.methodLink "java/lang/AbstractStringBuilder" (309 : Nat) ({ cls := "java/lang/System", name := "arraycopy", desc := "(Ljava/lang/Object;ILjava/lang/Object;II)V" } : Jvm.MethodName)) ∈ lw_all := lw_g (lw_at lw_m4 35 rfl) rfl
theorem q858 : (Jvm.Cond.interfaceEntry "java/lang/AbstractStringBuilder" (47 : Nat)) ∈ lw_tbl := lw_at lw_m4 36 rfl
theorem q859 : (Jvm.Cond.methodLink "java/lang/AbstractStringBuilder" (47 : Nat) ({ cls := "java/lang/CharSequence", name := "length", desc := "()I" } : Jvm.MethodName)) ∈ lw_all := lw_g (lw_at lw_m4 37 rfl) rfl
theorem q870 : (Jvm.Cond.methodLink "java/lang/AbstractStringBuilder" (223 : Nat) ({ cls := "java/lang/AbstractStringBuilder", name := "append", desc := "(Ljava/lang/CharSequence;II)Ljava/lang/AbstractStringBuilder;" } : Jvm.MethodName)) ∈ lw_all := lw_g (lw_at lw_m4 48 rfl) rfl
theorem q871 : (Jvm.Cond.instanceMethod ({ cls := "java/lang/AbstractStringBuilder", name := "append", desc := "(Ljava/lang/CharSequence;II)Ljava/lang/AbstractStringBuilder;" } : Jvm.MethodName)) ∈ lw_all := lw_g (lw_at lw_m4 49 rfl) rfl
theorem q872 : (Jvm.Cond.sameMethod "java/lang/AbstractStringBuilder" "java/lang/AbstractStringBuilder" "append" "(Ljava/lang/CharSequence;II)Ljava/lang/AbstractStringBuilder;") ∈ lw_all := lw_g (lw_at lw_m4 50 rfl) rfl
theorem q881 : (Jvm.Cond.code ({ cls := "java/lang/AbstractStringBuilder", name := "append", desc := "(Ljava/lang/CharSequence;II)Ljava/lang/AbstractStringBuilder;" } : Jvm.MethodName) prog_24_method_27_code (5 : Nat) (Option.some (Jvm.ClassFile.FieldType.object "java/lang/AbstractStringBuilder"))) ∈ lw_all := lw_g (lw_at lw_m4 59 rfl) rfl
theorem q882 : (Jvm.Cond.stringRef "java/lang/AbstractStringBuilder" (230 : Nat) "null") ∈ lw_tbl := lw_at lw_m4 60 rfl
theorem q883 : (Jvm.Cond.fieldLink "java/lang/AbstractStringBuilder" (183 : Nat) "jdk/internal/util/Preconditions" "IOOBE_FORMATTER" "Ljava/util/function/BiFunction;") ∈ lw_all := lw_g (lw_at lw_m4 61 rfl) rfl
theorem q885 : (Jvm.Cond.methodLink "java/lang/AbstractStringBuilder" (161 : Nat) ({ cls := "jdk/internal/util/Preconditions", name := "checkFromToIndex", desc := "(IIILjava/util/function/BiFunction;)I" } : Jvm.MethodName)) ∈ lw_all := lw_g (lw_at lw_m4 63 rfl) rfl
theorem q886 : (Jvm.Cond.methodLink "java/lang/AbstractStringBuilder" (232 : Nat) ({ cls := "java/lang/AbstractStringBuilder", name := "appendChars", desc := "(Ljava/lang/String;II)V" } : Jvm.MethodName)) ∈ lw_all := lw_g (lw_at lw_m4 64 rfl) rfl
theorem q887 : (Jvm.Cond.privateMethod ({ cls := "java/lang/AbstractStringBuilder", name := "appendChars", desc := "(Ljava/lang/String;II)V" } : Jvm.MethodName)) ∈ lw_tbl := lw_at lw_m4 65 rfl
theorem q888 : (Jvm.Cond.instanceMethod ({ cls := "java/lang/AbstractStringBuilder", name := "appendChars", desc := "(Ljava/lang/String;II)V" } : Jvm.MethodName)) ∈ lw_all := lw_g (lw_at lw_m4 66 rfl) rfl
theorem q889 : (Jvm.Cond.code ({ cls := "java/lang/AbstractStringBuilder", name := "appendChars", desc := "(Ljava/lang/String;II)V" } : Jvm.MethodName) prog_24_method_75_code (8 : Nat) (Option.none : Option Jvm.ClassFile.FieldType)) ∈ lw_all := lw_g (lw_at lw_m4 67 rfl) rfl
theorem q890 : (Jvm.Cond.methodLink "java/lang/AbstractStringBuilder" (400 : Nat) ({ cls := "java/lang/String", name := "isLatin1", desc := "()Z" } : Jvm.MethodName)) ∈ lw_all := lw_g (lw_at lw_m4 68 rfl) rfl
theorem q894 : (Jvm.Cond.methodLink "java/lang/AbstractStringBuilder" (401 : Nat) ({ cls := "java/lang/String", name := "value", desc := "()[B" } : Jvm.MethodName)) ∈ lw_all := lw_g (lw_at lw_m4 72 rfl) rfl
theorem q898 : (Jvm.Cond.methodLink "java/lang/AbstractStringBuilder" (404 : Nat) ({ cls := "java/lang/String", name := "charAt", desc := "(I)C" } : Jvm.MethodName)) ∈ lw_all := lw_g (lw_at lw_m4 76 rfl) rfl
theorem q910 : (Jvm.Cond.methodLink "java/lang/AbstractStringBuilder" (394 : Nat) ({ cls := "java/lang/StringUTF16", name := "putCharsSB", desc := "([BILjava/lang/CharSequence;II)V" } : Jvm.MethodName)) ∈ lw_all := lw_g (lw_at lw_m4 88 rfl) rfl
theorem q926 : (Jvm.Cond.instanceMethod ({ cls := "java/lang/AbstractStringBuilder", name := "charAt", desc := "(I)C" } : Jvm.MethodName)) ∈ lw_all := lw_g (lw_at lw_m4 104 rfl) rfl
theorem q927 : (Jvm.Cond.code ({ cls := "java/lang/AbstractStringBuilder", name := "charAt", desc := "(I)C" } : Jvm.MethodName) prog_24_method_14_code (5 : Nat) (Option.some Jvm.ClassFile.FieldType.char)) ∈ lw_all := lw_g (lw_at lw_m4 105 rfl) rfl
theorem q928 : (Jvm.Cond.methodLink "java/lang/AbstractStringBuilder" (138 : Nat) ({ cls := "java/lang/Math", name := "min", desc := "(II)I" } : Jvm.MethodName)) ∈ lw_all := lw_g (lw_at lw_m4 106 rfl) rfl
theorem q929 : (Jvm.Cond.methodLink "java/lang/AbstractStringBuilder" (144 : Nat) ({ cls := "java/lang/String", name := "checkIndex", desc := "(II)V" } : Jvm.MethodName)) ∈ lw_all := lw_g (lw_at lw_m4 107 rfl) rfl
theorem q930 : (Jvm.Cond.methodLink "java/lang/AbstractStringBuilder" (148 : Nat) ({ cls := "java/lang/StringUTF16", name := "getChar", desc := "([BI)C" } : Jvm.MethodName)) ∈ lw_all := lw_g (lw_at lw_m4 108 rfl) rfl
theorem q931 : (Jvm.Cond.methodLink "java/lang/AbstractStringBuilder" (236 : Nat) ({ cls := "java/lang/AbstractStringBuilder", name := "appendChars", desc := "(Ljava/lang/CharSequence;II)V" } : Jvm.MethodName)) ∈ lw_all := lw_g (lw_at lw_m4 109 rfl) rfl
theorem q932 : (Jvm.Cond.privateMethod ({ cls := "java/lang/AbstractStringBuilder", name := "appendChars", desc := "(Ljava/lang/CharSequence;II)V" } : Jvm.MethodName)) ∈ lw_tbl := lw_at lw_m4 110 rfl
theorem q933 : (Jvm.Cond.instanceMethod ({ cls := "java/lang/AbstractStringBuilder", name := "appendChars", desc := "(Ljava/lang/CharSequence;II)V" } : Jvm.MethodName)) ∈ lw_all := lw_g (lw_at lw_m4 111 rfl) rfl
theorem q934 : (Jvm.Cond.code ({ cls := "java/lang/AbstractStringBuilder", name := "appendChars", desc := "(Ljava/lang/CharSequence;II)V" } : Jvm.MethodName) prog_24_method_76_code (8 : Nat) (Option.none : Option Jvm.ClassFile.FieldType)) ∈ lw_all := lw_g (lw_at lw_m4 112 rfl) rfl
theorem q935 : (Jvm.Cond.interfaceEntry "java/lang/AbstractStringBuilder" (390 : Nat)) ∈ lw_tbl := lw_at lw_m4 113 rfl
theorem q936 : (Jvm.Cond.methodLink "java/lang/AbstractStringBuilder" (390 : Nat) ({ cls := "java/lang/CharSequence", name := "charAt", desc := "(I)C" } : Jvm.MethodName)) ∈ lw_all := lw_g (lw_at lw_m4 114 rfl) rfl
theorem q941 : (Jvm.Cond.classLink "java/lang/AbstractStringBuilder" (273 : Nat) "java/lang/AssertionError") ∈ lw_all := lw_g (lw_at lw_m4 119 rfl) rfl
theorem q952 : (Jvm.Cond.methodLink "java/lang/AbstractStringBuilder" (275 : Nat) ({ cls := "java/lang/AssertionError", name := "<init>", desc := "(Ljava/lang/Object;)V" } : Jvm.MethodName)) ∈ lw_all := lw_g (lw_at lw_m4 130 rfl) rfl
theorem q1397 : (Jvm.Cond.instanceMethod ({ cls := "java/lang/AbstractStringBuilder", name := "setLength", desc := "(I)V" } : Jvm.MethodName)) ∈ lw_all := lw_g (lw_at lw_m6 95 rfl) rfl
theorem q1398 : (Jvm.Cond.code ({ cls := "java/lang/AbstractStringBuilder", name := "setLength", desc := "(I)V" } : Jvm.MethodName) prog_24_method_13_code (2 : Nat) (Option.none : Option Jvm.ClassFile.FieldType)) ∈ lw_all := lw_g (lw_at lw_m6 96 rfl) rfl
theorem q1399 : (Jvm.Cond.classLink "java/lang/AbstractStringBuilder" (129 : Nat) "java/lang/StringIndexOutOfBoundsException") ∈ lw_all := lw_g (lw_at lw_m6 97 rfl) rfl
theorem q1401 : (Jvm.Cond.methodLink "java/lang/AbstractStringBuilder" (131 : Nat) ({ cls := "java/lang/StringIndexOutOfBoundsException", name := "<init>", desc := "(I)V" } : Jvm.MethodName)) ∈ lw_all := lw_g (lw_at lw_m6 99 rfl) rfl
theorem q1421 : (Jvm.Cond.methodLink "java/lang/AbstractStringBuilder" (133 : Nat) ({ cls := "java/lang/StringLatin1", name := "fillNull", desc := "([BII)V" } : Jvm.MethodName)) ∈ lw_all := lw_g (lw_at lw_m6 119 rfl) rfl
theorem q1456 : (Jvm.Cond.methodLink "java/lang/AbstractStringBuilder" (137 : Nat) ({ cls := "java/lang/StringUTF16", name := "fillNull", desc := "([BII)V" } : Jvm.MethodName)) ∈ lw_all := lw_g (lw_at lw_m6 154 rfl) rfl
theorem q2115 : (Jvm.Cond.instanceMethod ({ cls := "java/lang/AbstractStringBuilder", name := "compareTo", desc := "(Ljava/lang/AbstractStringBuilder;)I" } : Jvm.MethodName)) ∈ lw_all := lw_g (lw_at lw_m9 93 rfl) rfl
theorem q2116 : (Jvm.Cond.code ({ cls := "java/lang/AbstractStringBuilder", name := "compareTo", desc := "(Ljava/lang/AbstractStringBuilder;)I" } : Jvm.MethodName) prog_24_method_5_code (6 : Nat) (Option.some Jvm.ClassFile.FieldType.int)) ∈ lw_all := lw_g (lw_at lw_m9 94 rfl) rfl
theorem q2117 : (Jvm.Cond.methodLink "java/lang/AbstractStringBuilder" (87 : Nat) ({ cls := "java/lang/StringLatin1", name := "compareTo", desc := "([B[BII)I" } : Jvm.MethodName)) ∈ lw_all := lw_g (lw_at lw_m9 95 rfl) rfl
theorem q2118 : (Jvm.Cond.methodLink "java/lang/AbstractStringBuilder" (93 : Nat) ({ cls := "java/lang/StringUTF16", name := "compareTo", desc := "([B[BII)I" } : Jvm.MethodName)) ∈ lw_all := lw_g (lw_at lw_m9 96 rfl) rfl
theorem q2127 : (Jvm.Cond.methodLink "java/lang/AbstractStringBuilder" (94 : Nat) ({ cls := "java/lang/StringLatin1", name := "compareToUTF16", desc := "([B[BII)I" } : Jvm.MethodName)) ∈ lw_all := lw_g (lw_at lw_m9 105 rfl) rfl
theorem q2131 : (Jvm.Cond.methodLink "java/lang/AbstractStringBuilder" (97 : Nat) ({ cls := "java/lang/StringUTF16", name := "compareToLatin1", desc := "([B[BII)I" } : Jvm.MethodName)) ∈ lw_all := lw_g (lw_at lw_m9 109 rfl) rfl
theorem q4364 : (Jvm.Cond.sameMethod "java/lang/AbstractStringBuilder" "java/lang/AbstractStringBuilder" "append" "(Ljava/lang/String;)Ljava/lang/AbstractStringBuilder;") ∈ lw_all := lw_g (lw_at lw_m18 182 rfl) rfl
theorem q4365 : (Jvm.Cond.sameMethod "java/lang/AbstractStringBuilder" "java/lang/AbstractStringBuilder" "appendNull" "()Ljava/lang/AbstractStringBuilder;") ∈ lw_all := lw_g (lw_at lw_m18 183 rfl) rfl
theorem q4366 : (Jvm.Cond.sameMethod "java/lang/AbstractStringBuilder" "java/lang/AbstractStringBuilder" "ensureCapacityInternal" "(I)V") ∈ lw_all := lw_g (lw_at lw_m18 184 rfl) rfl
theorem q4367 : (Jvm.Cond.sameMethod "java/lang/AbstractStringBuilder" "java/lang/AbstractStringBuilder" "newCapacity" "(I)I") ∈ lw_all := lw_g (lw_at lw_m18 185 rfl) rfl
theorem q4368 : (Jvm.Cond.sameMethod "java/lang/AbstractStringBuilder" "java/lang/AbstractStringBuilder" "putStringAt" "(ILjava/lang/String;)V") ∈ lw_all := lw_g (lw_at lw_m18 186 rfl) rfl
theorem q4369 : (Jvm.Cond.sameMethod "java/lang/AbstractStringBuilder" "java/lang/AbstractStringBuilder" "inflateIfNeededFor" "(Ljava/lang/String;)V") ∈ lw_all := lw_g (lw_at lw_m18 187 rfl) rfl
theorem q4370 : (Jvm.Cond.sameMethod "java/lang/AbstractStringBuilder" "java/lang/AbstractStringBuilder" "inflate" "()V") ∈ lw_all := lw_g (lw_at lw_m18 188 rfl) rfl
theorem q4371 : (Jvm.Cond.sameMethod "java/lang/AbstractStringBuilder" "java/lang/AbstractStringBuilder" "append" "(I)Ljava/lang/AbstractStringBuilder;") ∈ lw_all := lw_g (lw_at lw_m18 189 rfl) rfl
theorem q4372 : (Jvm.Cond.sameMethod "java/lang/AbstractStringBuilder" "java/lang/AbstractStringBuilder" "append" "(F)Ljava/lang/AbstractStringBuilder;") ∈ lw_all := lw_g (lw_at lw_m18 190 rfl) rfl
theorem q4373 : (Jvm.Cond.sameMethod "java/lang/AbstractStringBuilder" "java/lang/AbstractStringBuilder" "append" "([C)Ljava/lang/AbstractStringBuilder;") ∈ lw_all := lw_g (lw_at lw_m18 191 rfl) rfl
theorem q4374 : (Jvm.Cond.sameMethod "java/lang/AbstractStringBuilder" "java/lang/AbstractStringBuilder" "appendChars" "([CII)V") ∈ lw_all := lw_g (lw_at lw_m18 192 rfl) rfl
theorem q4375 : (Jvm.Cond.sameMethod "java/lang/AbstractStringBuilder" "java/lang/AbstractStringBuilder" "append" "(C)Ljava/lang/AbstractStringBuilder;") ∈ lw_all := lw_g (lw_at lw_m18 193 rfl) rfl
theorem q4376 : (Jvm.Cond.sameMethod "java/lang/AbstractStringBuilder" "java/lang/AbstractStringBuilder" "append" "(Ljava/lang/CharSequence;)Ljava/lang/AbstractStringBuilder;") ∈ lw_all := lw_g (lw_at lw_m18 194 rfl) rfl
theorem q4378 : (Jvm.Cond.sameMethod "java/lang/AbstractStringBuilder" "java/lang/AbstractStringBuilder" "inflateIfNeededFor" "(Ljava/lang/AbstractStringBuilder;)V") ∈ lw_all := lw_g (lw_at lw_m18 196 rfl) rfl
theorem q4379 : (Jvm.Cond.sameMethod "java/lang/AbstractStringBuilder" "java/lang/AbstractStringBuilder" "appendChars" "(Ljava/lang/String;II)V") ∈ lw_all := lw_g (lw_at lw_m18 197 rfl) rfl
theorem q4380 : (Jvm.Cond.sameMethod "java/lang/AbstractStringBuilder" "java/lang/AbstractStringBuilder" "charAt" "(I)C") ∈ lw_all := lw_g (lw_at lw_m18 198 rfl) rfl
theorem q4381 : (Jvm.Cond.sameMethod "java/lang/AbstractStringBuilder" "java/lang/AbstractStringBuilder" "appendChars" "(Ljava/lang/CharSequence;II)V") ∈ lw_all := lw_g (lw_at lw_m18 199 rfl) rfl
theorem q4383 : (Jvm.Cond.sameMethod "java/lang/AbstractStringBuilder" "java/lang/AbstractStringBuilder" "setLength" "(I)V") ∈ lw_all := lw_g (lw_at lw_m18 201 rfl) rfl
theorem q4385 : (Jvm.Cond.sameMethod "java/lang/AbstractStringBuilder" "java/lang/AbstractStringBuilder" "compareTo" "(Ljava/lang/AbstractStringBuilder;)I") ∈ lw_all := lw_g (lw_at lw_m18 203 rfl) rfl

set_option maxRecDepth 100000
abbrev cJ14_init : ByteArray := prog_49_method_1_code
def yJ14_init : MethodName := ⟨RJ14, "<init>", "()V"⟩
def dkwJ14_init_0 : List UInt8 := [42, 16, 16, 183, 0, 1, 177]
abbrev dktJ14_init_0 : List UInt8 := dkwJ14_init_0 ++ []
theorem dksJ14_init_0 : cJ14_init.data.toList.drop 0 = dktJ14_init_0 := by decide +kernel
theorem dJ14_init_0 : decode cJ14_init 0 = .ok (.aload_n 0, 1) := dk_42 (dk_at dksJ14_init_0 0 rfl rfl)
theorem dJ14_init_1 : decode cJ14_init 1 = .ok (.bipush 16, 2) := dk_16 16 (dk_at dksJ14_init_0 1 rfl rfl)
theorem dJ14_init_3 : decode cJ14_init 3 = .ok (.invokespecial 1, 3) := dk_183 0 1 (dk_at dksJ14_init_0 3 rfl rfl)
theorem dJ14_init_6 : decode cJ14_init 6 = .ok (.return_, 1) := dk_177 (dk_at dksJ14_init_0 6 rfl rfl)
abbrev cJ14_append : ByteArray := prog_49_method_7_code
def yJ14_append : MethodName := ⟨RJ14, "append", "(Ljava/lang/String;)Ljava/lang/StringBuilder;"⟩
def dkwJ14_append_0 : List UInt8 := [42, 43, 183, 0, 29, 87, 42, 176]
abbrev dktJ14_append_0 : List UInt8 := dkwJ14_append_0 ++ []
theorem dksJ14_append_0 : cJ14_append.data.toList.drop 0 = dktJ14_append_0 := by decide +kernel
theorem dJ14_append_0 : decode cJ14_append 0 = .ok (.aload_n 0, 1) := dk_42 (dk_at dksJ14_append_0 0 rfl rfl)
theorem dJ14_append_1 : decode cJ14_append 1 = .ok (.aload_n 1, 1) := dk_43 (dk_at dksJ14_append_0 1 rfl rfl)
theorem dJ14_append_2 : decode cJ14_append 2 = .ok (.invokespecial 29, 3) := dk_183 0 29 (dk_at dksJ14_append_0 2 rfl rfl)
theorem dJ14_append_5 : decode cJ14_append 5 = .ok (.pop, 1) := dk_87 (dk_at dksJ14_append_0 5 rfl rfl)
theorem dJ14_append_6 : decode cJ14_append 6 = .ok (.aload_n 0, 1) := dk_42 (dk_at dksJ14_append_0 6 rfl rfl)
theorem dJ14_append_7 : decode cJ14_append 7 = .ok (.areturn, 1) := dk_176 (dk_at dksJ14_append_0 7 rfl rfl)
abbrev cJ14_append_2 : ByteArray := prog_49_method_15_code
def yJ14_append_2 : MethodName := ⟨RJ14, "append", "(I)Ljava/lang/StringBuilder;"⟩
def dkwJ14_append_2_0 : List UInt8 := [42, 27, 183, 0, 53, 87, 42, 176]
abbrev dktJ14_append_2_0 : List UInt8 := dkwJ14_append_2_0 ++ []
theorem dksJ14_append_2_0 : cJ14_append_2.data.toList.drop 0 = dktJ14_append_2_0 := by decide +kernel
theorem dJ14_append_2_0 : decode cJ14_append_2 0 = .ok (.aload_n 0, 1) := dk_42 (dk_at dksJ14_append_2_0 0 rfl rfl)
theorem dJ14_append_2_1 : decode cJ14_append_2 1 = .ok (.iload_n 1, 1) := dk_27 (dk_at dksJ14_append_2_0 1 rfl rfl)
theorem dJ14_append_2_2 : decode cJ14_append_2 2 = .ok (.invokespecial 53, 3) := dk_183 0 53 (dk_at dksJ14_append_2_0 2 rfl rfl)
theorem dJ14_append_2_5 : decode cJ14_append_2 5 = .ok (.pop, 1) := dk_87 (dk_at dksJ14_append_2_0 5 rfl rfl)
theorem dJ14_append_2_6 : decode cJ14_append_2 6 = .ok (.aload_n 0, 1) := dk_42 (dk_at dksJ14_append_2_0 6 rfl rfl)
theorem dJ14_append_2_7 : decode cJ14_append_2 7 = .ok (.areturn, 1) := dk_176 (dk_at dksJ14_append_2_0 7 rfl rfl)
abbrev cJ14_toString : ByteArray := prog_49_method_42_code
def yJ14_toString : MethodName := ⟨RJ14, "toString", "()Ljava/lang/String;"⟩
def dkwJ14_toString_0 : List UInt8 := [187, 0, 18, 89, 42, 183, 0, 137, 176]
abbrev dktJ14_toString_0 : List UInt8 := dkwJ14_toString_0 ++ []
theorem dksJ14_toString_0 : cJ14_toString.data.toList.drop 0 = dktJ14_toString_0 := by decide +kernel
theorem dJ14_toString_0 : decode cJ14_toString 0 = .ok (.new 18, 3) := dk_187 0 18 (dk_at dksJ14_toString_0 0 rfl rfl)
theorem dJ14_toString_3 : decode cJ14_toString 3 = .ok (.dup, 1) := dk_89 (dk_at dksJ14_toString_0 3 rfl rfl)
theorem dJ14_toString_4 : decode cJ14_toString 4 = .ok (.aload_n 0, 1) := dk_42 (dk_at dksJ14_toString_0 4 rfl rfl)
theorem dJ14_toString_5 : decode cJ14_toString 5 = .ok (.invokespecial 137, 3) := dk_183 0 137 (dk_at dksJ14_toString_0 5 rfl rfl)
theorem dJ14_toString_8 : decode cJ14_toString 8 = .ok (.areturn, 1) := dk_176 (dk_at dksJ14_toString_0 8 rfl rfl)
abbrev cJ14_length : ByteArray := prog_49_method_93_code
def yJ14_length : MethodName := ⟨RJ14, "length", "()I"⟩
theorem dJ14_length_0 : decode cJ14_length 0 = .ok (.aload_n 0, 1) := by decide +kernel
theorem dJ14_length_1 : decode cJ14_length 1 = .ok (.invokespecial 343, 3) := by decide +kernel
theorem dJ14_length_4 : decode cJ14_length 4 = .ok (.ireturn, 1) := by decide +kernel
abbrev cJ14_append_3 : ByteArray := prog_49_method_17_code
def yJ14_append_3 : MethodName := ⟨RJ14, "append", "(F)Ljava/lang/StringBuilder;"⟩
def dkwJ14_append_3_0 : List UInt8 := [42, 35, 183, 0, 59, 87, 42, 176]
abbrev dktJ14_append_3_0 : List UInt8 := dkwJ14_append_3_0 ++ []
theorem dksJ14_append_3_0 : cJ14_append_3.data.toList.drop 0 = dktJ14_append_3_0 := by decide +kernel
theorem dJ14_append_3_0 : decode cJ14_append_3 0 = .ok (.aload_n 0, 1) := dk_42 (dk_at dksJ14_append_3_0 0 rfl rfl)
theorem dJ14_append_3_1 : decode cJ14_append_3 1 = .ok (.fload_n 1, 1) := dk_35 (dk_at dksJ14_append_3_0 1 rfl rfl)
theorem dJ14_append_3_2 : decode cJ14_append_3 2 = .ok (.invokespecial 59, 3) := dk_183 0 59 (dk_at dksJ14_append_3_0 2 rfl rfl)
theorem dJ14_append_3_5 : decode cJ14_append_3 5 = .ok (.pop, 1) := dk_87 (dk_at dksJ14_append_3_0 5 rfl rfl)
theorem dJ14_append_3_6 : decode cJ14_append_3 6 = .ok (.aload_n 0, 1) := dk_42 (dk_at dksJ14_append_3_0 6 rfl rfl)
theorem dJ14_append_3_7 : decode cJ14_append_3 7 = .ok (.areturn, 1) := dk_176 (dk_at dksJ14_append_3_0 7 rfl rfl)
abbrev cJ14_append_4 : ByteArray := prog_49_method_11_code
def yJ14_append_4 : MethodName := ⟨RJ14, "append", "([C)Ljava/lang/StringBuilder;"⟩
def dkwJ14_append_4_0 : List UInt8 := [42, 43, 183, 0, 41, 87, 42, 176]
abbrev dktJ14_append_4_0 : List UInt8 := dkwJ14_append_4_0 ++ []
theorem dksJ14_append_4_0 : cJ14_append_4.data.toList.drop 0 = dktJ14_append_4_0 := by decide +kernel
theorem dJ14_append_4_0 : decode cJ14_append_4 0 = .ok (.aload_n 0, 1) := dk_42 (dk_at dksJ14_append_4_0 0 rfl rfl)
theorem dJ14_append_4_1 : decode cJ14_append_4 1 = .ok (.aload_n 1, 1) := dk_43 (dk_at dksJ14_append_4_0 1 rfl rfl)
theorem dJ14_append_4_2 : decode cJ14_append_4 2 = .ok (.invokespecial 41, 3) := dk_183 0 41 (dk_at dksJ14_append_4_0 2 rfl rfl)
theorem dJ14_append_4_5 : decode cJ14_append_4 5 = .ok (.pop, 1) := dk_87 (dk_at dksJ14_append_4_0 5 rfl rfl)
theorem dJ14_append_4_6 : decode cJ14_append_4 6 = .ok (.aload_n 0, 1) := dk_42 (dk_at dksJ14_append_4_0 6 rfl rfl)
theorem dJ14_append_4_7 : decode cJ14_append_4 7 = .ok (.areturn, 1) := dk_176 (dk_at dksJ14_append_4_0 7 rfl rfl)
abbrev cJ14_append_5 : ByteArray := prog_49_method_94_code
def yJ14_append_5 : MethodName := ⟨RJ14, "append", "(C)Ljava/lang/Appendable;"⟩
def dkwJ14_append_5_0 : List UInt8 := [42, 27, 182, 1, 28, 176]
abbrev dktJ14_append_5_0 : List UInt8 := dkwJ14_append_5_0 ++ []
theorem dksJ14_append_5_0 : cJ14_append_5.data.toList.drop 0 = dktJ14_append_5_0 := by decide +kernel
theorem dJ14_append_5_0 : decode cJ14_append_5 0 = .ok (.aload_n 0, 1) := dk_42 (dk_at dksJ14_append_5_0 0 rfl rfl)
theorem dJ14_append_5_1 : decode cJ14_append_5 1 = .ok (.iload_n 1, 1) := dk_27 (dk_at dksJ14_append_5_0 1 rfl rfl)
theorem dJ14_append_5_2 : decode cJ14_append_5 2 = .ok (.invokevirtual 284, 3) := dk_182 1 28 (dk_at dksJ14_append_5_0 2 rfl rfl)
theorem dJ14_append_5_5 : decode cJ14_append_5 5 = .ok (.areturn, 1) := dk_176 (dk_at dksJ14_append_5_0 5 rfl rfl)
abbrev cJ14_append_6 : ByteArray := prog_49_method_14_code
def yJ14_append_6 : MethodName := ⟨RJ14, "append", "(C)Ljava/lang/StringBuilder;"⟩
def dkwJ14_append_6_0 : List UInt8 := [42, 27, 183, 0, 50, 87, 42, 176]
abbrev dktJ14_append_6_0 : List UInt8 := dkwJ14_append_6_0 ++ []
theorem dksJ14_append_6_0 : cJ14_append_6.data.toList.drop 0 = dktJ14_append_6_0 := by decide +kernel
theorem dJ14_append_6_0 : decode cJ14_append_6 0 = .ok (.aload_n 0, 1) := dk_42 (dk_at dksJ14_append_6_0 0 rfl rfl)
theorem dJ14_append_6_1 : decode cJ14_append_6 1 = .ok (.iload_n 1, 1) := dk_27 (dk_at dksJ14_append_6_0 1 rfl rfl)
theorem dJ14_append_6_2 : decode cJ14_append_6 2 = .ok (.invokespecial 50, 3) := dk_183 0 50 (dk_at dksJ14_append_6_0 2 rfl rfl)
theorem dJ14_append_6_5 : decode cJ14_append_6 5 = .ok (.pop, 1) := dk_87 (dk_at dksJ14_append_6_0 5 rfl rfl)
theorem dJ14_append_6_6 : decode cJ14_append_6 6 = .ok (.aload_n 0, 1) := dk_42 (dk_at dksJ14_append_6_0 6 rfl rfl)
theorem dJ14_append_6_7 : decode cJ14_append_6 7 = .ok (.areturn, 1) := dk_176 (dk_at dksJ14_append_6_0 7 rfl rfl)
abbrev cJ14_append_7 : ByteArray := prog_49_method_96_code
def yJ14_append_7 : MethodName := ⟨RJ14, "append", "(Ljava/lang/CharSequence;)Ljava/lang/Appendable;"⟩
def dkwJ14_append_7_0 : List UInt8 := [42, 43, 182, 1, 43, 176]
abbrev dktJ14_append_7_0 : List UInt8 := dkwJ14_append_7_0 ++ []
theorem dksJ14_append_7_0 : cJ14_append_7.data.toList.drop 0 = dktJ14_append_7_0 := by decide +kernel
theorem dJ14_append_7_0 : decode cJ14_append_7 0 = .ok (.aload_n 0, 1) := dk_42 (dk_at dksJ14_append_7_0 0 rfl rfl)
theorem dJ14_append_7_1 : decode cJ14_append_7 1 = .ok (.aload_n 1, 1) := dk_43 (dk_at dksJ14_append_7_0 1 rfl rfl)
theorem dJ14_append_7_2 : decode cJ14_append_7 2 = .ok (.invokevirtual 299, 3) := dk_182 1 43 (dk_at dksJ14_append_7_0 2 rfl rfl)
theorem dJ14_append_7_5 : decode cJ14_append_7 5 = .ok (.areturn, 1) := dk_176 (dk_at dksJ14_append_7_0 5 rfl rfl)
abbrev cJ14_append_8 : ByteArray := prog_49_method_9_code
def yJ14_append_8 : MethodName := ⟨RJ14, "append", "(Ljava/lang/CharSequence;)Ljava/lang/StringBuilder;"⟩
def dkwJ14_append_8_0 : List UInt8 := [42, 43, 183, 0, 35, 87, 42, 176]
abbrev dktJ14_append_8_0 : List UInt8 := dkwJ14_append_8_0 ++ []
theorem dksJ14_append_8_0 : cJ14_append_8.data.toList.drop 0 = dktJ14_append_8_0 := by decide +kernel
theorem dJ14_append_8_0 : decode cJ14_append_8 0 = .ok (.aload_n 0, 1) := dk_42 (dk_at dksJ14_append_8_0 0 rfl rfl)
theorem dJ14_append_8_1 : decode cJ14_append_8 1 = .ok (.aload_n 1, 1) := dk_43 (dk_at dksJ14_append_8_0 1 rfl rfl)
theorem dJ14_append_8_2 : decode cJ14_append_8 2 = .ok (.invokespecial 35, 3) := dk_183 0 35 (dk_at dksJ14_append_8_0 2 rfl rfl)
theorem dJ14_append_8_5 : decode cJ14_append_8 5 = .ok (.pop, 1) := dk_87 (dk_at dksJ14_append_8_0 5 rfl rfl)
theorem dJ14_append_8_6 : decode cJ14_append_8 6 = .ok (.aload_n 0, 1) := dk_42 (dk_at dksJ14_append_8_0 6 rfl rfl)
theorem dJ14_append_8_7 : decode cJ14_append_8 7 = .ok (.areturn, 1) := dk_176 (dk_at dksJ14_append_8_0 7 rfl rfl)
abbrev cJ14_append_9 : ByteArray := prog_49_method_80_code
def yJ14_append_9 : MethodName := ⟨RJ14, "append", "(Ljava/lang/String;)Ljava/lang/AbstractStringBuilder;"⟩
def dkwJ14_append_9_0 : List UInt8 := [42, 43, 182, 0, 23, 176]
abbrev dktJ14_append_9_0 : List UInt8 := dkwJ14_append_9_0 ++ []
theorem dksJ14_append_9_0 : cJ14_append_9.data.toList.drop 0 = dktJ14_append_9_0 := by decide +kernel
theorem dJ14_append_9_0 : decode cJ14_append_9 0 = .ok (.aload_n 0, 1) := dk_42 (dk_at dksJ14_append_9_0 0 rfl rfl)
theorem dJ14_append_9_1 : decode cJ14_append_9 1 = .ok (.aload_n 1, 1) := dk_43 (dk_at dksJ14_append_9_0 1 rfl rfl)
theorem dJ14_append_9_2 : decode cJ14_append_9 2 = .ok (.invokevirtual 23, 3) := dk_182 0 23 (dk_at dksJ14_append_9_0 2 rfl rfl)
theorem dJ14_append_9_5 : decode cJ14_append_9 5 = .ok (.areturn, 1) := dk_176 (dk_at dksJ14_append_9_0 5 rfl rfl)
abbrev cJ14_append_10 : ByteArray := prog_49_method_77_code
def yJ14_append_10 : MethodName := ⟨RJ14, "append", "(Ljava/lang/CharSequence;II)Ljava/lang/AbstractStringBuilder;"⟩
def dkwJ14_append_10_0 : List UInt8 := [42, 43, 28, 29, 182, 1, 40, 176]
abbrev dktJ14_append_10_0 : List UInt8 := dkwJ14_append_10_0 ++ []
theorem dksJ14_append_10_0 : cJ14_append_10.data.toList.drop 0 = dktJ14_append_10_0 := by decide +kernel
theorem dJ14_append_10_0 : decode cJ14_append_10 0 = .ok (.aload_n 0, 1) := dk_42 (dk_at dksJ14_append_10_0 0 rfl rfl)
theorem dJ14_append_10_1 : decode cJ14_append_10 1 = .ok (.aload_n 1, 1) := dk_43 (dk_at dksJ14_append_10_0 1 rfl rfl)
theorem dJ14_append_10_2 : decode cJ14_append_10 2 = .ok (.iload_n 2, 1) := dk_28 (dk_at dksJ14_append_10_0 2 rfl rfl)
theorem dJ14_append_10_3 : decode cJ14_append_10 3 = .ok (.iload_n 3, 1) := dk_29 (dk_at dksJ14_append_10_0 3 rfl rfl)
theorem dJ14_append_10_4 : decode cJ14_append_10 4 = .ok (.invokevirtual 296, 3) := dk_182 1 40 (dk_at dksJ14_append_10_0 4 rfl rfl)
theorem dJ14_append_10_7 : decode cJ14_append_10 7 = .ok (.areturn, 1) := dk_176 (dk_at dksJ14_append_10_0 7 rfl rfl)
abbrev cJ14_append_11 : ByteArray := prog_49_method_10_code
def yJ14_append_11 : MethodName := ⟨RJ14, "append", "(Ljava/lang/CharSequence;II)Ljava/lang/StringBuilder;"⟩
def dkwJ14_append_11_0 : List UInt8 := [42, 43, 28, 29, 183, 0, 38, 87, 42, 176]
abbrev dktJ14_append_11_0 : List UInt8 := dkwJ14_append_11_0 ++ []
theorem dksJ14_append_11_0 : cJ14_append_11.data.toList.drop 0 = dktJ14_append_11_0 := by decide +kernel
theorem dJ14_append_11_0 : decode cJ14_append_11 0 = .ok (.aload_n 0, 1) := dk_42 (dk_at dksJ14_append_11_0 0 rfl rfl)
theorem dJ14_append_11_1 : decode cJ14_append_11 1 = .ok (.aload_n 1, 1) := dk_43 (dk_at dksJ14_append_11_0 1 rfl rfl)
theorem dJ14_append_11_2 : decode cJ14_append_11 2 = .ok (.iload_n 2, 1) := dk_28 (dk_at dksJ14_append_11_0 2 rfl rfl)
theorem dJ14_append_11_3 : decode cJ14_append_11 3 = .ok (.iload_n 3, 1) := dk_29 (dk_at dksJ14_append_11_0 3 rfl rfl)
theorem dJ14_append_11_4 : decode cJ14_append_11 4 = .ok (.invokespecial 38, 3) := dk_183 0 38 (dk_at dksJ14_append_11_0 4 rfl rfl)
theorem dJ14_append_11_7 : decode cJ14_append_11 7 = .ok (.pop, 1) := dk_87 (dk_at dksJ14_append_11_0 7 rfl rfl)
theorem dJ14_append_11_8 : decode cJ14_append_11 8 = .ok (.aload_n 0, 1) := dk_42 (dk_at dksJ14_append_11_0 8 rfl rfl)
theorem dJ14_append_11_9 : decode cJ14_append_11 9 = .ok (.areturn, 1) := dk_176 (dk_at dksJ14_append_11_0 9 rfl rfl)
abbrev cJ14_charAt : ByteArray := prog_49_method_88_code
def yJ14_charAt : MethodName := ⟨RJ14, "charAt", "(I)C"⟩
def dkwJ14_charAt_0 : List UInt8 := [42, 27, 183, 1, 73, 172]
abbrev dktJ14_charAt_0 : List UInt8 := dkwJ14_charAt_0 ++ []
theorem dksJ14_charAt_0 : cJ14_charAt.data.toList.drop 0 = dktJ14_charAt_0 := by decide +kernel
theorem dJ14_charAt_0 : decode cJ14_charAt 0 = .ok (.aload_n 0, 1) := dk_42 (dk_at dksJ14_charAt_0 0 rfl rfl)
theorem dJ14_charAt_1 : decode cJ14_charAt 1 = .ok (.iload_n 1, 1) := dk_27 (dk_at dksJ14_charAt_0 1 rfl rfl)
theorem dJ14_charAt_2 : decode cJ14_charAt 2 = .ok (.invokespecial 329, 3) := dk_183 1 73 (dk_at dksJ14_charAt_0 2 rfl rfl)
theorem dJ14_charAt_5 : decode cJ14_charAt 5 = .ok (.ireturn, 1) := dk_172 (dk_at dksJ14_charAt_0 5 rfl rfl)
abbrev cJ14_setLength : ByteArray := prog_49_method_89_code
def yJ14_setLength : MethodName := ⟨RJ14, "setLength", "(I)V"⟩
def dkwJ14_setLength_0 : List UInt8 := [42, 27, 183, 1, 77, 177]
abbrev dktJ14_setLength_0 : List UInt8 := dkwJ14_setLength_0 ++ []
theorem dksJ14_setLength_0 : cJ14_setLength.data.toList.drop 0 = dktJ14_setLength_0 := by decide +kernel
theorem dJ14_setLength_0 : decode cJ14_setLength 0 = .ok (.aload_n 0, 1) := dk_42 (dk_at dksJ14_setLength_0 0 rfl rfl)
theorem dJ14_setLength_1 : decode cJ14_setLength 1 = .ok (.iload_n 1, 1) := dk_27 (dk_at dksJ14_setLength_0 1 rfl rfl)
theorem dJ14_setLength_2 : decode cJ14_setLength 2 = .ok (.invokespecial 333, 3) := dk_183 1 77 (dk_at dksJ14_setLength_0 2 rfl rfl)
theorem dJ14_setLength_5 : decode cJ14_setLength 5 = .ok (.return_, 1) := dk_177 (dk_at dksJ14_setLength_0 5 rfl rfl)
abbrev cJ14_compareTo : ByteArray := prog_49_method_97_code
def yJ14_compareTo : MethodName := ⟨RJ14, "compareTo", "(Ljava/lang/Object;)I"⟩
def dkwJ14_compareTo_0 : List UInt8 := [42, 43, 192, 0, 24, 182, 1, 90, 172]
abbrev dktJ14_compareTo_0 : List UInt8 := dkwJ14_compareTo_0 ++ []
theorem dksJ14_compareTo_0 : cJ14_compareTo.data.toList.drop 0 = dktJ14_compareTo_0 := by decide +kernel
theorem dJ14_compareTo_0 : decode cJ14_compareTo 0 = .ok (.aload_n 0, 1) := dk_42 (dk_at dksJ14_compareTo_0 0 rfl rfl)
theorem dJ14_compareTo_1 : decode cJ14_compareTo 1 = .ok (.aload_n 1, 1) := dk_43 (dk_at dksJ14_compareTo_0 1 rfl rfl)
theorem dJ14_compareTo_2 : decode cJ14_compareTo 2 = .ok (.checkcast 24, 3) := dk_192 0 24 (dk_at dksJ14_compareTo_0 2 rfl rfl)
theorem dJ14_compareTo_5 : decode cJ14_compareTo 5 = .ok (.invokevirtual 346, 3) := dk_182 1 90 (dk_at dksJ14_compareTo_0 5 rfl rfl)
theorem dJ14_compareTo_8 : decode cJ14_compareTo 8 = .ok (.ireturn, 1) := dk_172 (dk_at dksJ14_compareTo_0 8 rfl rfl)
abbrev cJ14_compareTo_2 : ByteArray := prog_49_method_5_code
def yJ14_compareTo_2 : MethodName := ⟨RJ14, "compareTo", "(Ljava/lang/StringBuilder;)I"⟩
def dkwJ14_compareTo_2_0 : List UInt8 := [42, 43, 183, 0, 13, 172]
abbrev dktJ14_compareTo_2_0 : List UInt8 := dkwJ14_compareTo_2_0 ++ []
theorem dksJ14_compareTo_2_0 : cJ14_compareTo_2.data.toList.drop 0 = dktJ14_compareTo_2_0 := by decide +kernel
theorem dJ14_compareTo_2_0 : decode cJ14_compareTo_2 0 = .ok (.aload_n 0, 1) := dk_42 (dk_at dksJ14_compareTo_2_0 0 rfl rfl)
theorem dJ14_compareTo_2_1 : decode cJ14_compareTo_2 1 = .ok (.aload_n 1, 1) := dk_43 (dk_at dksJ14_compareTo_2_0 1 rfl rfl)
theorem dJ14_compareTo_2_2 : decode cJ14_compareTo_2 2 = .ok (.invokespecial 13, 3) := dk_183 0 13 (dk_at dksJ14_compareTo_2_0 2 rfl rfl)
theorem dJ14_compareTo_2_5 : decode cJ14_compareTo_2 5 = .ok (.ireturn, 1) := dk_172 (dk_at dksJ14_compareTo_2_0 5 rfl rfl)
theorem q119 : (Jvm.Cond.initialized "java/lang/StringBuilder") ∈ lw_all := lw_g (lw_at lw_m1 17 rfl) rfl
theorem q357 : (Jvm.Cond.instantiable "java/lang/StringBuilder" (4 : Nat)) ∈ lw_all := lw_g (lw_at lw_m2 15 rfl) rfl
theorem q359 : (Jvm.Cond.instanceMethod ({ cls := "java/lang/StringBuilder", name := "<init>", desc := "()V" } : Jvm.MethodName)) ∈ lw_all := lw_g (lw_at lw_m2 17 rfl) rfl
theorem q360 : (Jvm.Cond.code ({ cls := "java/lang/StringBuilder", name := "<init>", desc := "()V" } : Jvm.MethodName) prog_49_method_1_code (1 : Nat) (Option.none : Option Jvm.ClassFile.FieldType)) ∈ lw_all := lw_g (lw_at lw_m2 18 rfl) rfl
theorem q361 : (Jvm.Cond.methodLink "java/lang/StringBuilder" (1 : Nat) ({ cls := "java/lang/AbstractStringBuilder", name := "<init>", desc := "(I)V" } : Jvm.MethodName)) ∈ lw_all := lw_g (lw_at lw_m2 19 rfl) rfl
theorem q379 : (Jvm.Cond.lays "java/lang/StringBuilder" "java/lang/AbstractStringBuilder" "value" "[B") ∈ lw_all := lw_g (lw_at lw_m2 37 rfl) rfl
theorem q381 : (Jvm.Cond.lays "java/lang/StringBuilder" "java/lang/AbstractStringBuilder" "coder" "B") ∈ lw_all := lw_g (lw_at lw_m2 39 rfl) rfl
theorem q383 : (Jvm.Cond.lays "java/lang/StringBuilder" "java/lang/AbstractStringBuilder" "maybeLatin1" "Z") ∈ lw_all := lw_g (lw_at lw_m2 41 rfl) rfl
theorem q385 : (Jvm.Cond.lays "java/lang/StringBuilder" "java/lang/AbstractStringBuilder" "count" "I") ∈ lw_all := lw_g (lw_at lw_m2 43 rfl) rfl
theorem q387 : (Jvm.Cond.superclass "java/lang/StringBuilder" "java/lang/AbstractStringBuilder") ∈ lw_all := lw_g (lw_at lw_m2 45 rfl) rfl
theorem q393 : (Jvm.Cond.instanceMethod ({ cls := "java/lang/StringBuilder", name := "append", desc := "(Ljava/lang/String;)Ljava/lang/StringBuilder;" } : Jvm.MethodName)) ∈ lw_all := lw_g (lw_at lw_m2 51 rfl) rfl
theorem q394 : (Jvm.Cond.selects "java/lang/StringBuilder" ({ cls := "java/lang/StringBuilder", name := "append", desc := "(Ljava/lang/String;)Ljava/lang/StringBuilder;" } : Jvm.MethodName) ({ cls := "java/lang/StringBuilder", name := "append", desc := "(Ljava/lang/String;)Ljava/lang/StringBuilder;" } : Jvm.MethodName)) ∈ lw_all := lw_g (lw_at lw_m2 52 rfl) rfl
theorem q395 : (Jvm.Cond.code ({ cls := "java/lang/StringBuilder", name := "append", desc := "(Ljava/lang/String;)Ljava/lang/StringBuilder;" } : Jvm.MethodName) prog_49_method_7_code (2 : Nat) (Option.some (Jvm.ClassFile.FieldType.object "java/lang/StringBuilder"))) ∈ lw_all := lw_g (lw_at lw_m2 53 rfl) rfl
theorem q396 : (Jvm.Cond.methodLink "java/lang/StringBuilder" (29 : Nat) ({ cls := "java/lang/AbstractStringBuilder", name := "append", desc := "(Ljava/lang/String;)Ljava/lang/AbstractStringBuilder;" } : Jvm.MethodName)) ∈ lw_all := lw_g (lw_at lw_m2 54 rfl) rfl
theorem q441 : (Jvm.Cond.selects "java/lang/StringBuilder" ({ cls := "java/lang/AbstractStringBuilder", name := "isLatin1", desc := "()Z" } : Jvm.MethodName) ({ cls := "java/lang/AbstractStringBuilder", name := "isLatin1", desc := "()Z" } : Jvm.MethodName)) ∈ lw_all := lw_g (lw_at lw_m2 99 rfl) rfl
theorem q513 : (Jvm.Cond.instanceMethod ({ cls := "java/lang/StringBuilder", name := "append", desc := "(I)Ljava/lang/StringBuilder;" } : Jvm.MethodName)) ∈ lw_all := lw_g (lw_at lw_m2 171 rfl) rfl
theorem q514 : (Jvm.Cond.selects "java/lang/StringBuilder" ({ cls := "java/lang/StringBuilder", name := "append", desc := "(I)Ljava/lang/StringBuilder;" } : Jvm.MethodName) ({ cls := "java/lang/StringBuilder", name := "append", desc := "(I)Ljava/lang/StringBuilder;" } : Jvm.MethodName)) ∈ lw_all := lw_g (lw_at lw_m2 172 rfl) rfl
theorem q515 : (Jvm.Cond.code ({ cls := "java/lang/StringBuilder", name := "append", desc := "(I)Ljava/lang/StringBuilder;" } : Jvm.MethodName) prog_49_method_15_code (2 : Nat) (Option.some (Jvm.ClassFile.FieldType.object "java/lang/StringBuilder"))) ∈ lw_all := lw_g (lw_at lw_m2 173 rfl) rfl
theorem q516 : (Jvm.Cond.methodLink "java/lang/StringBuilder" (53 : Nat) ({ cls := "java/lang/AbstractStringBuilder", name := "append", desc := "(I)Ljava/lang/AbstractStringBuilder;" } : Jvm.MethodName)) ∈ lw_all := lw_g (lw_at lw_m2 174 rfl) rfl
theorem q538 : (Jvm.Cond.instanceMethod ({ cls := "java/lang/StringBuilder", name := "toString", desc := "()Ljava/lang/String;" } : Jvm.MethodName)) ∈ lw_all := lw_g (lw_at lw_m2 196 rfl) rfl
theorem q539 : (Jvm.Cond.selects "java/lang/StringBuilder" ({ cls := "java/lang/StringBuilder", name := "toString", desc := "()Ljava/lang/String;" } : Jvm.MethodName) ({ cls := "java/lang/StringBuilder", name := "toString", desc := "()Ljava/lang/String;" } : Jvm.MethodName)) ∈ lw_all := lw_g (lw_at lw_m2 197 rfl) rfl
theorem q540 : (Jvm.Cond.code ({ cls := "java/lang/StringBuilder", name := "toString", desc := "()Ljava/lang/String;" } : Jvm.MethodName) prog_49_method_42_code (1 : Nat) (Option.some (Jvm.ClassFile.FieldType.object "java/lang/String"))) ∈ lw_all := lw_g (lw_at lw_m2 198 rfl) rfl
theorem q541 : (Jvm.Cond.classLink "java/lang/StringBuilder" (18 : Nat) "java/lang/String") ∈ lw_all := lw_g (lw_at lw_m2 199 rfl) rfl
theorem q543 : (Jvm.Cond.methodLink "java/lang/StringBuilder" (137 : Nat) ({ cls := "java/lang/String", name := "<init>", desc := "(Ljava/lang/StringBuilder;)V" } : Jvm.MethodName)) ∈ lw_all := lw_g (lw_at lw_m2 201 rfl) rfl
theorem q553 : (Jvm.Cond.selects "java/lang/StringBuilder" ({ cls := "java/lang/AbstractStringBuilder", name := "getValue", desc := "()[B" } : Jvm.MethodName) ({ cls := "java/lang/AbstractStringBuilder", name := "getValue", desc := "()[B" } : Jvm.MethodName)) ∈ lw_all := lw_g (lw_at lw_m2 211 rfl) rfl
theorem q558 : (Jvm.Cond.selects "java/lang/StringBuilder" ({ cls := "java/lang/AbstractStringBuilder", name := "length", desc := "()I" } : Jvm.MethodName) ({ cls := "java/lang/StringBuilder", name := "length", desc := "()I" } : Jvm.MethodName)) ∈ lw_all := lw_g (lw_at lw_m2 216 rfl) rfl
theorem q559 : (Jvm.Cond.instanceMethod ({ cls := "java/lang/StringBuilder", name := "length", desc := "()I" } : Jvm.MethodName)) ∈ lw_all := lw_g (lw_at lw_m2 217 rfl) rfl
theorem q560 : (Jvm.Cond.code ({ cls := "java/lang/StringBuilder", name := "length", desc := "()I" } : Jvm.MethodName) prog_49_method_93_code (1 : Nat) (Option.some Jvm.ClassFile.FieldType.int)) ∈ lw_all := lw_g (lw_at lw_m2 218 rfl) rfl
theorem q561 : (Jvm.Cond.methodLink "java/lang/StringBuilder" (343 : Nat) ({ cls := "java/lang/AbstractStringBuilder", name := "length", desc := "()I" } : Jvm.MethodName)) ∈ lw_all := lw_g (lw_at lw_m2 219 rfl) rfl
theorem q638 : (Jvm.Cond.instanceMethod ({ cls := "java/lang/StringBuilder", name := "append", desc := "(F)Ljava/lang/StringBuilder;" } : Jvm.MethodName)) ∈ lw_all := lw_g (lw_at lw_m3 56 rfl) rfl
theorem q639 : (Jvm.Cond.selects "java/lang/StringBuilder" ({ cls := "java/lang/StringBuilder", name := "append", desc := "(F)Ljava/lang/StringBuilder;" } : Jvm.MethodName) ({ cls := "java/lang/StringBuilder", name := "append", desc := "(F)Ljava/lang/StringBuilder;" } : Jvm.MethodName)) ∈ lw_all := lw_g (lw_at lw_m3 57 rfl) rfl
theorem q640 : (Jvm.Cond.code ({ cls := "java/lang/StringBuilder", name := "append", desc := "(F)Ljava/lang/StringBuilder;" } : Jvm.MethodName) prog_49_method_17_code (2 : Nat) (Option.some (Jvm.ClassFile.FieldType.object "java/lang/StringBuilder"))) ∈ lw_all := lw_g (lw_at lw_m3 58 rfl) rfl
theorem q641 : (Jvm.Cond.methodLink "java/lang/StringBuilder" (59 : Nat) ({ cls := "java/lang/AbstractStringBuilder", name := "append", desc := "(F)Ljava/lang/AbstractStringBuilder;" } : Jvm.MethodName)) ∈ lw_all := lw_g (lw_at lw_m3 59 rfl) rfl
theorem q759 : (Jvm.Cond.instanceMethod ({ cls := "java/lang/StringBuilder", name := "append", desc := "([C)Ljava/lang/StringBuilder;" } : Jvm.MethodName)) ∈ lw_all := lw_g (lw_at lw_m3 177 rfl) rfl
theorem q760 : (Jvm.Cond.selects "java/lang/StringBuilder" ({ cls := "java/lang/StringBuilder", name := "append", desc := "([C)Ljava/lang/StringBuilder;" } : Jvm.MethodName) ({ cls := "java/lang/StringBuilder", name := "append", desc := "([C)Ljava/lang/StringBuilder;" } : Jvm.MethodName)) ∈ lw_all := lw_g (lw_at lw_m3 178 rfl) rfl
theorem q761 : (Jvm.Cond.code ({ cls := "java/lang/StringBuilder", name := "append", desc := "([C)Ljava/lang/StringBuilder;" } : Jvm.MethodName) prog_49_method_11_code (2 : Nat) (Option.some (Jvm.ClassFile.FieldType.object "java/lang/StringBuilder"))) ∈ lw_all := lw_g (lw_at lw_m3 179 rfl) rfl
theorem q762 : (Jvm.Cond.methodLink "java/lang/StringBuilder" (41 : Nat) ({ cls := "java/lang/AbstractStringBuilder", name := "append", desc := "([C)Ljava/lang/AbstractStringBuilder;" } : Jvm.MethodName)) ∈ lw_all := lw_g (lw_at lw_m3 180 rfl) rfl
theorem q789 : (Jvm.Cond.castable "java/lang/StringBuilder" "java/lang/Appendable") ∈ lw_tbl := lw_at lw_m3 207 rfl
theorem q790 : (Jvm.Cond.selects "java/lang/StringBuilder" ({ cls := "java/lang/Appendable", name := "append", desc := "(C)Ljava/lang/Appendable;" } : Jvm.MethodName) ({ cls := "java/lang/StringBuilder", name := "append", desc := "(C)Ljava/lang/Appendable;" } : Jvm.MethodName)) ∈ lw_all := lw_g (lw_at lw_m3 208 rfl) rfl
theorem q791 : (Jvm.Cond.unhidden "java/lang/StringBuilder" "append" "(C)Ljava/lang/Appendable;") ∈ lw_tbl := lw_at lw_m3 209 rfl
theorem q792 : (Jvm.Cond.instanceMethod ({ cls := "java/lang/StringBuilder", name := "append", desc := "(C)Ljava/lang/Appendable;" } : Jvm.MethodName)) ∈ lw_all := lw_g (lw_at lw_m3 210 rfl) rfl
theorem q793 : (Jvm.Cond.publicMethod ({ cls := "java/lang/StringBuilder", name := "append", desc := "(C)Ljava/lang/Appendable;" } : Jvm.MethodName)) ∈ lw_tbl := lw_at lw_m3 211 rfl
theorem q794 : (Jvm.Cond.code ({ cls := "java/lang/StringBuilder", name := "append", desc := "(C)Ljava/lang/Appendable;" } : Jvm.MethodName) prog_49_method_94_code (2 : Nat) (Option.some (Jvm.ClassFile.FieldType.object "java/lang/Appendable"))) ∈ lw_all := lw_g (lw_at lw_m3 212 rfl) rfl
theorem q795 : (Jvm.Cond.methodLink "java/lang/StringBuilder" (284 : Nat) ({ cls := "java/lang/StringBuilder", name := "append", desc := "(C)Ljava/lang/StringBuilder;" } : Jvm.MethodName)) ∈ lw_all := lw_g (lw_at lw_m3 213 rfl) rfl
theorem q796 : (Jvm.Cond.instanceMethod ({ cls := "java/lang/StringBuilder", name := "append", desc := "(C)Ljava/lang/StringBuilder;" } : Jvm.MethodName)) ∈ lw_all := lw_g (lw_at lw_m3 214 rfl) rfl
theorem q797 : (Jvm.Cond.selects "java/lang/StringBuilder" ({ cls := "java/lang/StringBuilder", name := "append", desc := "(C)Ljava/lang/StringBuilder;" } : Jvm.MethodName) ({ cls := "java/lang/StringBuilder", name := "append", desc := "(C)Ljava/lang/StringBuilder;" } : Jvm.MethodName)) ∈ lw_all := lw_g (lw_at lw_m3 215 rfl) rfl
theorem q798 : (Jvm.Cond.code ({ cls := "java/lang/StringBuilder", name := "append", desc := "(C)Ljava/lang/StringBuilder;" } : Jvm.MethodName) prog_49_method_14_code (2 : Nat) (Option.some (Jvm.ClassFile.FieldType.object "java/lang/StringBuilder"))) ∈ lw_all := lw_g (lw_at lw_m3 216 rfl) rfl
theorem q799 : (Jvm.Cond.methodLink "java/lang/StringBuilder" (50 : Nat) ({ cls := "java/lang/AbstractStringBuilder", name := "append", desc := "(C)Ljava/lang/AbstractStringBuilder;" } : Jvm.MethodName)) ∈ lw_all := lw_g (lw_at lw_m3 217 rfl) rfl
theorem q819 : (Jvm.Cond.selects "java/lang/StringBuilder" ({ cls := "java/lang/Appendable", name := "append", desc := "(Ljava/lang/CharSequence;)Ljava/lang/Appendable;" } : Jvm.MethodName) ({ cls := "java/lang/StringBuilder", name := "append", desc := "(Ljava/lang/CharSequence;)Ljava/lang/Appendable;" } : Jvm.MethodName)) ∈ lw_all := lw_g (lw_at lw_m3 237 rfl) rfl
theorem q820 : (Jvm.Cond.unhidden "java/lang/StringBuilder" "append" "(Ljava/lang/CharSequence;)Ljava/lang/Appendable;") ∈ lw_tbl := lw_at lw_m3 238 rfl
theorem q821 : (Jvm.Cond.instanceMethod ({ cls := "java/lang/StringBuilder", name := "append", desc := "(Ljava/lang/CharSequence;)Ljava/lang/Appendable;" } : Jvm.MethodName)) ∈ lw_all := lw_g (lw_at lw_m3 239 rfl) rfl
theorem q822 : (Jvm.Cond.publicMethod ({ cls := "java/lang/StringBuilder", name := "append", desc := "(Ljava/lang/CharSequence;)Ljava/lang/Appendable;" } : Jvm.MethodName)) ∈ lw_tbl := lw_at lw_m4 0 rfl
theorem q823 : (Jvm.Cond.code ({ cls := "java/lang/StringBuilder", name := "append", desc := "(Ljava/lang/CharSequence;)Ljava/lang/Appendable;" } : Jvm.MethodName) prog_49_method_96_code (2 : Nat) (Option.some (Jvm.ClassFile.FieldType.object "java/lang/Appendable"))) ∈ lw_all := lw_g (lw_at lw_m4 1 rfl) rfl
theorem q824 : (Jvm.Cond.methodLink "java/lang/StringBuilder" (299 : Nat) ({ cls := "java/lang/StringBuilder", name := "append", desc := "(Ljava/lang/CharSequence;)Ljava/lang/StringBuilder;" } : Jvm.MethodName)) ∈ lw_all := lw_g (lw_at lw_m4 2 rfl) rfl
theorem q825 : (Jvm.Cond.instanceMethod ({ cls := "java/lang/StringBuilder", name := "append", desc := "(Ljava/lang/CharSequence;)Ljava/lang/StringBuilder;" } : Jvm.MethodName)) ∈ lw_all := lw_g (lw_at lw_m4 3 rfl) rfl
theorem q826 : (Jvm.Cond.selects "java/lang/StringBuilder" ({ cls := "java/lang/StringBuilder", name := "append", desc := "(Ljava/lang/CharSequence;)Ljava/lang/StringBuilder;" } : Jvm.MethodName) ({ cls := "java/lang/StringBuilder", name := "append", desc := "(Ljava/lang/CharSequence;)Ljava/lang/StringBuilder;" } : Jvm.MethodName)) ∈ lw_all := lw_g (lw_at lw_m4 4 rfl) rfl
theorem q827 : (Jvm.Cond.code ({ cls := "java/lang/StringBuilder", name := "append", desc := "(Ljava/lang/CharSequence;)Ljava/lang/StringBuilder;" } : Jvm.MethodName) prog_49_method_9_code (2 : Nat) (Option.some (Jvm.ClassFile.FieldType.object "java/lang/StringBuilder"))) ∈ lw_all := lw_g (lw_at lw_m4 5 rfl) rfl
theorem q828 : (Jvm.Cond.methodLink "java/lang/StringBuilder" (35 : Nat) ({ cls := "java/lang/AbstractStringBuilder", name := "append", desc := "(Ljava/lang/CharSequence;)Ljava/lang/AbstractStringBuilder;" } : Jvm.MethodName)) ∈ lw_all := lw_g (lw_at lw_m4 6 rfl) rfl
theorem q833 : (Jvm.Cond.instanceMethod ({ cls := "java/lang/StringBuilder", name := "append", desc := "(Ljava/lang/String;)Ljava/lang/AbstractStringBuilder;" } : Jvm.MethodName)) ∈ lw_all := lw_g (lw_at lw_m4 11 rfl) rfl
theorem q834 : (Jvm.Cond.code ({ cls := "java/lang/StringBuilder", name := "append", desc := "(Ljava/lang/String;)Ljava/lang/AbstractStringBuilder;" } : Jvm.MethodName) prog_49_method_80_code (2 : Nat) (Option.some (Jvm.ClassFile.FieldType.object "java/lang/AbstractStringBuilder"))) ∈ lw_all := lw_g (lw_at lw_m4 12 rfl) rfl
theorem q835 : (Jvm.Cond.methodLink "java/lang/StringBuilder" (23 : Nat) ({ cls := "java/lang/StringBuilder", name := "append", desc := "(Ljava/lang/String;)Ljava/lang/StringBuilder;" } : Jvm.MethodName)) ∈ lw_all := lw_g (lw_at lw_m4 13 rfl) rfl
theorem q840 : (Jvm.Cond.selects "java/lang/StringBuilder" ({ cls := "java/lang/AbstractStringBuilder", name := "append", desc := "(Ljava/lang/AbstractStringBuilder;)Ljava/lang/AbstractStringBuilder;" } : Jvm.MethodName) ({ cls := "java/lang/AbstractStringBuilder", name := "append", desc := "(Ljava/lang/AbstractStringBuilder;)Ljava/lang/AbstractStringBuilder;" } : Jvm.MethodName)) ∈ lw_all := lw_g (lw_at lw_m4 18 rfl) rfl
theorem q850 : (Jvm.Cond.selects "java/lang/StringBuilder" ({ cls := "java/lang/AbstractStringBuilder", name := "getCoder", desc := "()B" } : Jvm.MethodName) ({ cls := "java/lang/AbstractStringBuilder", name := "getCoder", desc := "()B" } : Jvm.MethodName)) ∈ lw_all := lw_g (lw_at lw_m4 28 rfl) rfl
theorem q855 : (Jvm.Cond.selects "java/lang/StringBuilder" ({ cls := "java/lang/AbstractStringBuilder", name := "getBytes", desc := "([BIB)V" } : Jvm.MethodName) ({ cls := "java/lang/AbstractStringBuilder", name := "getBytes", desc := "([BIB)V" } : Jvm.MethodName)) ∈ lw_all := lw_g (lw_at lw_m4 33 rfl) rfl
theorem q866 : (Jvm.Cond.castable "java/lang/StringBuilder" "java/lang/CharSequence") ∈ lw_tbl := lw_at lw_m4 44 rfl
theorem q867 : (Jvm.Cond.selects "java/lang/StringBuilder" ({ cls := "java/lang/CharSequence", name := "length", desc := "()I" } : Jvm.MethodName) ({ cls := "java/lang/StringBuilder", name := "length", desc := "()I" } : Jvm.MethodName)) ∈ lw_all := lw_g (lw_at lw_m4 45 rfl) rfl
theorem q868 : (Jvm.Cond.unhidden "java/lang/StringBuilder" "length" "()I") ∈ lw_tbl := lw_at lw_m4 46 rfl
theorem q869 : (Jvm.Cond.publicMethod ({ cls := "java/lang/StringBuilder", name := "length", desc := "()I" } : Jvm.MethodName)) ∈ lw_tbl := lw_at lw_m4 47 rfl
theorem q873 : (Jvm.Cond.selects "java/lang/StringBuilder" ({ cls := "java/lang/AbstractStringBuilder", name := "append", desc := "(Ljava/lang/CharSequence;II)Ljava/lang/AbstractStringBuilder;" } : Jvm.MethodName) ({ cls := "java/lang/StringBuilder", name := "append", desc := "(Ljava/lang/CharSequence;II)Ljava/lang/AbstractStringBuilder;" } : Jvm.MethodName)) ∈ lw_all := lw_g (lw_at lw_m4 51 rfl) rfl
theorem q874 : (Jvm.Cond.instanceMethod ({ cls := "java/lang/StringBuilder", name := "append", desc := "(Ljava/lang/CharSequence;II)Ljava/lang/AbstractStringBuilder;" } : Jvm.MethodName)) ∈ lw_all := lw_g (lw_at lw_m4 52 rfl) rfl
theorem q875 : (Jvm.Cond.code ({ cls := "java/lang/StringBuilder", name := "append", desc := "(Ljava/lang/CharSequence;II)Ljava/lang/AbstractStringBuilder;" } : Jvm.MethodName) prog_49_method_77_code (4 : Nat) (Option.some (Jvm.ClassFile.FieldType.object "java/lang/AbstractStringBuilder"))) ∈ lw_all := lw_g (lw_at lw_m4 53 rfl) rfl
theorem q876 : (Jvm.Cond.methodLink "java/lang/StringBuilder" (296 : Nat) ({ cls := "java/lang/StringBuilder", name := "append", desc := "(Ljava/lang/CharSequence;II)Ljava/lang/StringBuilder;" } : Jvm.MethodName)) ∈ lw_all := lw_g (lw_at lw_m4 54 rfl) rfl
theorem q877 : (Jvm.Cond.instanceMethod ({ cls := "java/lang/StringBuilder", name := "append", desc := "(Ljava/lang/CharSequence;II)Ljava/lang/StringBuilder;" } : Jvm.MethodName)) ∈ lw_all := lw_g (lw_at lw_m4 55 rfl) rfl
theorem q878 : (Jvm.Cond.selects "java/lang/StringBuilder" ({ cls := "java/lang/StringBuilder", name := "append", desc := "(Ljava/lang/CharSequence;II)Ljava/lang/StringBuilder;" } : Jvm.MethodName) ({ cls := "java/lang/StringBuilder", name := "append", desc := "(Ljava/lang/CharSequence;II)Ljava/lang/StringBuilder;" } : Jvm.MethodName)) ∈ lw_all := lw_g (lw_at lw_m4 56 rfl) rfl
theorem q879 : (Jvm.Cond.code ({ cls := "java/lang/StringBuilder", name := "append", desc := "(Ljava/lang/CharSequence;II)Ljava/lang/StringBuilder;" } : Jvm.MethodName) prog_49_method_10_code (4 : Nat) (Option.some (Jvm.ClassFile.FieldType.object "java/lang/StringBuilder"))) ∈ lw_all := lw_g (lw_at lw_m4 57 rfl) rfl
theorem q880 : (Jvm.Cond.methodLink "java/lang/StringBuilder" (38 : Nat) ({ cls := "java/lang/AbstractStringBuilder", name := "append", desc := "(Ljava/lang/CharSequence;II)Ljava/lang/AbstractStringBuilder;" } : Jvm.MethodName)) ∈ lw_all := lw_g (lw_at lw_m4 58 rfl) rfl
theorem q920 : (Jvm.Cond.selects "java/lang/StringBuilder" ({ cls := "java/lang/CharSequence", name := "charAt", desc := "(I)C" } : Jvm.MethodName) ({ cls := "java/lang/StringBuilder", name := "charAt", desc := "(I)C" } : Jvm.MethodName)) ∈ lw_all := lw_g (lw_at lw_m4 98 rfl) rfl
theorem q921 : (Jvm.Cond.unhidden "java/lang/StringBuilder" "charAt" "(I)C") ∈ lw_tbl := lw_at lw_m4 99 rfl
theorem q922 : (Jvm.Cond.instanceMethod ({ cls := "java/lang/StringBuilder", name := "charAt", desc := "(I)C" } : Jvm.MethodName)) ∈ lw_all := lw_g (lw_at lw_m4 100 rfl) rfl
theorem q923 : (Jvm.Cond.publicMethod ({ cls := "java/lang/StringBuilder", name := "charAt", desc := "(I)C" } : Jvm.MethodName)) ∈ lw_tbl := lw_at lw_m4 101 rfl
theorem q924 : (Jvm.Cond.code ({ cls := "java/lang/StringBuilder", name := "charAt", desc := "(I)C" } : Jvm.MethodName) prog_49_method_88_code (2 : Nat) (Option.some Jvm.ClassFile.FieldType.char)) ∈ lw_all := lw_g (lw_at lw_m4 102 rfl) rfl
theorem q925 : (Jvm.Cond.methodLink "java/lang/StringBuilder" (329 : Nat) ({ cls := "java/lang/AbstractStringBuilder", name := "charAt", desc := "(I)C" } : Jvm.MethodName)) ∈ lw_all := lw_g (lw_at lw_m4 103 rfl) rfl
theorem q1010 : (Jvm.Cond.selects "java/lang/StringBuilder" ({ cls := "java/lang/Object", name := "getClass", desc := "()Ljava/lang/Class;" } : Jvm.MethodName) ({ cls := "java/lang/Object", name := "getClass", desc := "()Ljava/lang/Class;" } : Jvm.MethodName)) ∈ lw_all := lw_g (lw_at lw_m4 188 rfl) rfl
theorem q1079 : (Jvm.Cond.selects "java/lang/StringBuilder" ({ cls := "java/lang/Object", name := "toString", desc := "()Ljava/lang/String;" } : Jvm.MethodName) ({ cls := "java/lang/StringBuilder", name := "toString", desc := "()Ljava/lang/String;" } : Jvm.MethodName)) ∈ lw_all := lw_g (lw_at lw_m5 17 rfl) rfl
theorem q1393 : (Jvm.Cond.instanceMethod ({ cls := "java/lang/StringBuilder", name := "setLength", desc := "(I)V" } : Jvm.MethodName)) ∈ lw_all := lw_g (lw_at lw_m6 91 rfl) rfl
theorem q1394 : (Jvm.Cond.selects "java/lang/StringBuilder" ({ cls := "java/lang/StringBuilder", name := "setLength", desc := "(I)V" } : Jvm.MethodName) ({ cls := "java/lang/StringBuilder", name := "setLength", desc := "(I)V" } : Jvm.MethodName)) ∈ lw_all := lw_g (lw_at lw_m6 92 rfl) rfl
theorem q1395 : (Jvm.Cond.code ({ cls := "java/lang/StringBuilder", name := "setLength", desc := "(I)V" } : Jvm.MethodName) prog_49_method_89_code (2 : Nat) (Option.none : Option Jvm.ClassFile.FieldType)) ∈ lw_all := lw_g (lw_at lw_m6 93 rfl) rfl
theorem q1396 : (Jvm.Cond.methodLink "java/lang/StringBuilder" (333 : Nat) ({ cls := "java/lang/AbstractStringBuilder", name := "setLength", desc := "(I)V" } : Jvm.MethodName)) ∈ lw_all := lw_g (lw_at lw_m6 94 rfl) rfl
theorem q1802 : (Jvm.Cond.selects "java/lang/StringBuilder" ({ cls := "java/lang/Object", name := "hashCode", desc := "()I" } : Jvm.MethodName) ({ cls := "java/lang/Object", name := "hashCode", desc := "()I" } : Jvm.MethodName)) ∈ lw_all := lw_g (lw_at lw_m8 20 rfl) rfl
theorem q2103 : (Jvm.Cond.castable "java/lang/StringBuilder" "java/lang/Comparable") ∈ lw_tbl := lw_at lw_m9 81 rfl
theorem q2104 : (Jvm.Cond.selects "java/lang/StringBuilder" ({ cls := "java/lang/Comparable", name := "compareTo", desc := "(Ljava/lang/Object;)I" } : Jvm.MethodName) ({ cls := "java/lang/StringBuilder", name := "compareTo", desc := "(Ljava/lang/Object;)I" } : Jvm.MethodName)) ∈ lw_all := lw_g (lw_at lw_m9 82 rfl) rfl
theorem q2105 : (Jvm.Cond.unhidden "java/lang/StringBuilder" "compareTo" "(Ljava/lang/Object;)I") ∈ lw_tbl := lw_at lw_m9 83 rfl
theorem q2106 : (Jvm.Cond.instanceMethod ({ cls := "java/lang/StringBuilder", name := "compareTo", desc := "(Ljava/lang/Object;)I" } : Jvm.MethodName)) ∈ lw_all := lw_g (lw_at lw_m9 84 rfl) rfl
theorem q2107 : (Jvm.Cond.publicMethod ({ cls := "java/lang/StringBuilder", name := "compareTo", desc := "(Ljava/lang/Object;)I" } : Jvm.MethodName)) ∈ lw_tbl := lw_at lw_m9 85 rfl
theorem q2108 : (Jvm.Cond.code ({ cls := "java/lang/StringBuilder", name := "compareTo", desc := "(Ljava/lang/Object;)I" } : Jvm.MethodName) prog_49_method_97_code (2 : Nat) (Option.some Jvm.ClassFile.FieldType.int)) ∈ lw_all := lw_g (lw_at lw_m9 86 rfl) rfl
theorem q2109 : (Jvm.Cond.classLink "java/lang/StringBuilder" (24 : Nat) "java/lang/StringBuilder") ∈ lw_all := lw_g (lw_at lw_m9 87 rfl) rfl
theorem q2110 : (Jvm.Cond.methodLink "java/lang/StringBuilder" (346 : Nat) ({ cls := "java/lang/StringBuilder", name := "compareTo", desc := "(Ljava/lang/StringBuilder;)I" } : Jvm.MethodName)) ∈ lw_all := lw_g (lw_at lw_m9 88 rfl) rfl
theorem q2111 : (Jvm.Cond.instanceMethod ({ cls := "java/lang/StringBuilder", name := "compareTo", desc := "(Ljava/lang/StringBuilder;)I" } : Jvm.MethodName)) ∈ lw_all := lw_g (lw_at lw_m9 89 rfl) rfl
theorem q2112 : (Jvm.Cond.selects "java/lang/StringBuilder" ({ cls := "java/lang/StringBuilder", name := "compareTo", desc := "(Ljava/lang/StringBuilder;)I" } : Jvm.MethodName) ({ cls := "java/lang/StringBuilder", name := "compareTo", desc := "(Ljava/lang/StringBuilder;)I" } : Jvm.MethodName)) ∈ lw_all := lw_g (lw_at lw_m9 90 rfl) rfl
theorem q2113 : (Jvm.Cond.code ({ cls := "java/lang/StringBuilder", name := "compareTo", desc := "(Ljava/lang/StringBuilder;)I" } : Jvm.MethodName) prog_49_method_5_code (2 : Nat) (Option.some Jvm.ClassFile.FieldType.int)) ∈ lw_all := lw_g (lw_at lw_m9 91 rfl) rfl
theorem q2114 : (Jvm.Cond.methodLink "java/lang/StringBuilder" (13 : Nat) ({ cls := "java/lang/AbstractStringBuilder", name := "compareTo", desc := "(Ljava/lang/AbstractStringBuilder;)I" } : Jvm.MethodName)) ∈ lw_all := lw_g (lw_at lw_m9 92 rfl) rfl
theorem q2206 : (Jvm.Cond.selects "java/lang/StringBuilder" ({ cls := "java/lang/Object", name := "equals", desc := "(Ljava/lang/Object;)Z" } : Jvm.MethodName) ({ cls := "java/lang/Object", name := "equals", desc := "(Ljava/lang/Object;)Z" } : Jvm.MethodName)) ∈ lw_all := lw_g (lw_at lw_m9 184 rfl) rfl
theorem q4377 : (Jvm.Cond.selects "java/lang/StringBuilder" ({ cls := "java/lang/AbstractStringBuilder", name := "append", desc := "(Ljava/lang/String;)Ljava/lang/AbstractStringBuilder;" } : Jvm.MethodName) ({ cls := "java/lang/StringBuilder", name := "append", desc := "(Ljava/lang/String;)Ljava/lang/AbstractStringBuilder;" } : Jvm.MethodName)) ∈ lw_all := lw_g (lw_at lw_m18 195 rfl) rfl
theorem q4382 : (Jvm.Cond.selects "java/lang/StringBuilder" ({ cls := "java/lang/StringBuilder", name := "length", desc := "()I" } : Jvm.MethodName) ({ cls := "java/lang/StringBuilder", name := "length", desc := "()I" } : Jvm.MethodName)) ∈ lw_all := lw_g (lw_at lw_m18 200 rfl) rfl
theorem q4384 : (Jvm.Cond.selects "java/lang/StringBuilder" ({ cls := "java/lang/StringBuilder", name := "charAt", desc := "(I)C" } : Jvm.MethodName) ({ cls := "java/lang/StringBuilder", name := "charAt", desc := "(I)C" } : Jvm.MethodName)) ∈ lw_all := lw_g (lw_at lw_m18 202 rfl) rfl
theorem q4411 : (Jvm.Cond.castable "java/lang/StringBuilder" "java/lang/AbstractStringBuilder") ∈ lw_tbl := lw_at lw_m18 229 rfl
theorem q4435 : (Jvm.Cond.castable "java/lang/StringBuilder" "java/lang/Object") ∈ lw_tbl := lw_at lw_m19 13 rfl

set_option maxRecDepth 100000
abbrev cJ15_checkBoundsBeginEnd : ByteArray := prog_47_method_158_code
def yJ15_checkBoundsBeginEnd : MethodName := ⟨RJ15, "checkBoundsBeginEnd", "(III)V"⟩
def dkwJ15_checkBoundsBeginEnd_0 : List UInt8 := [26, 27, 28, 178, 4, 29, 184, 4, 38, 87, 177]
abbrev dktJ15_checkBoundsBeginEnd_0 : List UInt8 := dkwJ15_checkBoundsBeginEnd_0 ++ []
theorem dksJ15_checkBoundsBeginEnd_0 : cJ15_checkBoundsBeginEnd.data.toList.drop 0 = dktJ15_checkBoundsBeginEnd_0 := by decide +kernel
theorem dJ15_checkBoundsBeginEnd_0 : decode cJ15_checkBoundsBeginEnd 0 = .ok (.iload_n 0, 1) := dk_26 (dk_at dksJ15_checkBoundsBeginEnd_0 0 rfl rfl)
theorem dJ15_checkBoundsBeginEnd_1 : decode cJ15_checkBoundsBeginEnd 1 = .ok (.iload_n 1, 1) := dk_27 (dk_at dksJ15_checkBoundsBeginEnd_0 1 rfl rfl)
theorem dJ15_checkBoundsBeginEnd_2 : decode cJ15_checkBoundsBeginEnd 2 = .ok (.iload_n 2, 1) := dk_28 (dk_at dksJ15_checkBoundsBeginEnd_0 2 rfl rfl)
theorem dJ15_checkBoundsBeginEnd_3 : decode cJ15_checkBoundsBeginEnd 3 = .ok (.getstatic 1053, 3) := dk_178 4 29 (dk_at dksJ15_checkBoundsBeginEnd_0 3 rfl rfl)
theorem dJ15_checkBoundsBeginEnd_6 : decode cJ15_checkBoundsBeginEnd 6 = .ok (.invokestatic 1062, 3) := dk_184 4 38 (dk_at dksJ15_checkBoundsBeginEnd_0 6 rfl rfl)
theorem dJ15_checkBoundsBeginEnd_9 : decode cJ15_checkBoundsBeginEnd 9 = .ok (.pop, 1) := dk_87 (dk_at dksJ15_checkBoundsBeginEnd_0 9 rfl rfl)
theorem dJ15_checkBoundsBeginEnd_10 : decode cJ15_checkBoundsBeginEnd 10 = .ok (.return_, 1) := dk_177 (dk_at dksJ15_checkBoundsBeginEnd_0 10 rfl rfl)
abbrev cJ15_length : ByteArray := prog_47_method_54_code
def yJ15_length : MethodName := ⟨RJ15, "length", "()I"⟩
def dkwJ15_length_0 : List UInt8 := [42, 180, 0, 9, 190, 42, 182, 1, 79, 122, 172]
abbrev dktJ15_length_0 : List UInt8 := dkwJ15_length_0 ++ []
theorem dksJ15_length_0 : cJ15_length.data.toList.drop 0 = dktJ15_length_0 := by decide +kernel
theorem dJ15_length_0 : decode cJ15_length 0 = .ok (.aload_n 0, 1) := dk_42 (dk_at dksJ15_length_0 0 rfl rfl)
theorem dJ15_length_1 : decode cJ15_length 1 = .ok (.getfield 9, 3) := dk_180 0 9 (dk_at dksJ15_length_0 1 rfl rfl)
theorem dJ15_length_4 : decode cJ15_length 4 = .ok (.arraylength, 1) := dk_190 (dk_at dksJ15_length_0 4 rfl rfl)
theorem dJ15_length_5 : decode cJ15_length 5 = .ok (.aload_n 0, 1) := dk_42 (dk_at dksJ15_length_0 5 rfl rfl)
theorem dJ15_length_6 : decode cJ15_length 6 = .ok (.invokevirtual 335, 3) := dk_182 1 79 (dk_at dksJ15_length_0 6 rfl rfl)
theorem dJ15_length_9 : decode cJ15_length 9 = .ok (.ishr, 1) := dk_122 (dk_at dksJ15_length_0 9 rfl rfl)
theorem dJ15_length_10 : decode cJ15_length 10 = .ok (.ireturn, 1) := dk_172 (dk_at dksJ15_length_0 10 rfl rfl)
abbrev cJ15_coder : ByteArray := prog_47_method_152_code
def yJ15_coder : MethodName := ⟨RJ15, "coder", "()B"⟩
def dkwJ15_coder_0 : List UInt8 := [178, 0, 38, 153, 0, 10, 42, 180, 0, 15, 167, 0, 4, 4, 172]
abbrev dktJ15_coder_0 : List UInt8 := dkwJ15_coder_0 ++ []
theorem dksJ15_coder_0 : cJ15_coder.data.toList.drop 0 = dktJ15_coder_0 := by decide +kernel
theorem dJ15_coder_0 : decode cJ15_coder 0 = .ok (.getstatic 38, 3) := dk_178 0 38 (dk_at dksJ15_coder_0 0 rfl rfl)
theorem dJ15_coder_3 : decode cJ15_coder 3 = .ok (.ifCond .eq 10, 3) := dk_153 0 10 (dk_at dksJ15_coder_0 3 rfl rfl)
theorem dJ15_coder_6 : decode cJ15_coder 6 = .ok (.aload_n 0, 1) := dk_42 (dk_at dksJ15_coder_0 6 rfl rfl)
theorem dJ15_coder_7 : decode cJ15_coder 7 = .ok (.getfield 15, 3) := dk_180 0 15 (dk_at dksJ15_coder_0 7 rfl rfl)
theorem dJ15_coder_10 : decode cJ15_coder 10 = .ok (.goto 4, 3) := dk_167 0 4 (dk_at dksJ15_coder_0 10 rfl rfl)
theorem dJ15_coder_13 : decode cJ15_coder 13 = .ok (.iconst 1, 1) := dk_4 (dk_at dksJ15_coder_0 13 rfl rfl)
theorem dJ15_coder_14 : decode cJ15_coder 14 = .ok (.ireturn, 1) := dk_172 (dk_at dksJ15_coder_0 14 rfl rfl)
abbrev cJ15_checkBoundsOffCount : ByteArray := prog_47_method_157_code
def yJ15_checkBoundsOffCount : MethodName := ⟨RJ15, "checkBoundsOffCount", "(III)I"⟩
def dkwJ15_checkBoundsOffCount_0 : List UInt8 := [26, 27, 28, 178, 4, 29, 184, 4, 41, 172]
abbrev dktJ15_checkBoundsOffCount_0 : List UInt8 := dkwJ15_checkBoundsOffCount_0 ++ []
theorem dksJ15_checkBoundsOffCount_0 : cJ15_checkBoundsOffCount.data.toList.drop 0 = dktJ15_checkBoundsOffCount_0 := by decide +kernel
theorem dJ15_checkBoundsOffCount_0 : decode cJ15_checkBoundsOffCount 0 = .ok (.iload_n 0, 1) := dk_26 (dk_at dksJ15_checkBoundsOffCount_0 0 rfl rfl)
theorem dJ15_checkBoundsOffCount_1 : decode cJ15_checkBoundsOffCount 1 = .ok (.iload_n 1, 1) := dk_27 (dk_at dksJ15_checkBoundsOffCount_0 1 rfl rfl)
theorem dJ15_checkBoundsOffCount_2 : decode cJ15_checkBoundsOffCount 2 = .ok (.iload_n 2, 1) := dk_28 (dk_at dksJ15_checkBoundsOffCount_0 2 rfl rfl)
theorem dJ15_checkBoundsOffCount_3 : decode cJ15_checkBoundsOffCount 3 = .ok (.getstatic 1053, 3) := dk_178 4 29 (dk_at dksJ15_checkBoundsOffCount_0 3 rfl rfl)
theorem dJ15_checkBoundsOffCount_6 : decode cJ15_checkBoundsOffCount 6 = .ok (.invokestatic 1065, 3) := dk_184 4 41 (dk_at dksJ15_checkBoundsOffCount_0 6 rfl rfl)
theorem dJ15_checkBoundsOffCount_9 : decode cJ15_checkBoundsOffCount 9 = .ok (.ireturn, 1) := dk_172 (dk_at dksJ15_checkBoundsOffCount_0 9 rfl rfl)
abbrev cJ15_getBytes : ByteArray := prog_47_method_147_code
def yJ15_getBytes : MethodName := ⟨RJ15, "getBytes", "([BIB)V"⟩
def dkwJ15_getBytes_1 : List UInt8 := [184, 0, 212, 167, 0, 18, 42, 180, 0, 9, 3, 43, 28, 42, 180, 0, 9, 190, 184, 0, 106, 177]
abbrev dktJ15_getBytes_1 : List UInt8 := dkwJ15_getBytes_1 ++ []
def dkwJ15_getBytes_0 : List UInt8 := [42, 182, 1, 79, 29, 160, 0, 23, 42, 180, 0, 9, 3, 43, 28, 29, 120, 42, 180, 0, 9, 190]
abbrev dktJ15_getBytes_0 : List UInt8 := dkwJ15_getBytes_0 ++ dktJ15_getBytes_1
theorem dksJ15_getBytes_0 : cJ15_getBytes.data.toList.drop 0 = dktJ15_getBytes_0 := by decide +kernel
theorem dksJ15_getBytes_1 : cJ15_getBytes.data.toList.drop 22 = dktJ15_getBytes_1 := dk_seg dksJ15_getBytes_0 22 rfl rfl
theorem dJ15_getBytes_0 : decode cJ15_getBytes 0 = .ok (.aload_n 0, 1) := dk_42 (dk_at dksJ15_getBytes_0 0 rfl rfl)
theorem dJ15_getBytes_1 : decode cJ15_getBytes 1 = .ok (.invokevirtual 335, 3) := dk_182 1 79 (dk_at dksJ15_getBytes_0 1 rfl rfl)
theorem dJ15_getBytes_4 : decode cJ15_getBytes 4 = .ok (.iload_n 3, 1) := dk_29 (dk_at dksJ15_getBytes_0 4 rfl rfl)
theorem dJ15_getBytes_5 : decode cJ15_getBytes 5 = .ok (.if_icmp .ne 23, 3) := dk_160 0 23 (dk_at dksJ15_getBytes_0 5 rfl rfl)
theorem dJ15_getBytes_8 : decode cJ15_getBytes 8 = .ok (.aload_n 0, 1) := dk_42 (dk_at dksJ15_getBytes_0 8 rfl rfl)
theorem dJ15_getBytes_9 : decode cJ15_getBytes 9 = .ok (.getfield 9, 3) := dk_180 0 9 (dk_at dksJ15_getBytes_0 9 rfl rfl)
theorem dJ15_getBytes_12 : decode cJ15_getBytes 12 = .ok (.iconst 0, 1) := dk_3 (dk_at dksJ15_getBytes_0 12 rfl rfl)
theorem dJ15_getBytes_13 : decode cJ15_getBytes 13 = .ok (.aload_n 1, 1) := dk_43 (dk_at dksJ15_getBytes_0 13 rfl rfl)
theorem dJ15_getBytes_14 : decode cJ15_getBytes 14 = .ok (.iload_n 2, 1) := dk_28 (dk_at dksJ15_getBytes_0 14 rfl rfl)
theorem dJ15_getBytes_15 : decode cJ15_getBytes 15 = .ok (.iload_n 3, 1) := dk_29 (dk_at dksJ15_getBytes_0 15 rfl rfl)
theorem dJ15_getBytes_16 : decode cJ15_getBytes 16 = .ok (.ishl, 1) := dk_120 (dk_at dksJ15_getBytes_0 16 rfl rfl)
theorem dJ15_getBytes_17 : decode cJ15_getBytes 17 = .ok (.aload_n 0, 1) := dk_42 (dk_at dksJ15_getBytes_0 17 rfl rfl)
theorem dJ15_getBytes_18 : decode cJ15_getBytes 18 = .ok (.getfield 9, 3) := dk_180 0 9 (dk_at dksJ15_getBytes_0 18 rfl rfl)
theorem dJ15_getBytes_21 : decode cJ15_getBytes 21 = .ok (.arraylength, 1) := dk_190 (dk_at dksJ15_getBytes_0 21 rfl rfl)
theorem dJ15_getBytes_22 : decode cJ15_getBytes 22 = .ok (.invokestatic 212, 3) := dk_184 0 212 (dk_at dksJ15_getBytes_1 0 rfl rfl)
theorem dJ15_getBytes_25 : decode cJ15_getBytes 25 = .ok (.goto 18, 3) := dk_167 0 18 (dk_at dksJ15_getBytes_1 3 rfl rfl)
theorem dJ15_getBytes_28 : decode cJ15_getBytes 28 = .ok (.aload_n 0, 1) := dk_42 (dk_at dksJ15_getBytes_1 6 rfl rfl)
theorem dJ15_getBytes_29 : decode cJ15_getBytes 29 = .ok (.getfield 9, 3) := dk_180 0 9 (dk_at dksJ15_getBytes_1 7 rfl rfl)
theorem dJ15_getBytes_32 : decode cJ15_getBytes 32 = .ok (.iconst 0, 1) := dk_3 (dk_at dksJ15_getBytes_1 10 rfl rfl)
theorem dJ15_getBytes_33 : decode cJ15_getBytes 33 = .ok (.aload_n 1, 1) := dk_43 (dk_at dksJ15_getBytes_1 11 rfl rfl)
theorem dJ15_getBytes_34 : decode cJ15_getBytes 34 = .ok (.iload_n 2, 1) := dk_28 (dk_at dksJ15_getBytes_1 12 rfl rfl)
theorem dJ15_getBytes_35 : decode cJ15_getBytes 35 = .ok (.aload_n 0, 1) := dk_42 (dk_at dksJ15_getBytes_1 13 rfl rfl)
theorem dJ15_getBytes_36 : decode cJ15_getBytes 36 = .ok (.getfield 9, 3) := dk_180 0 9 (dk_at dksJ15_getBytes_1 14 rfl rfl)
theorem dJ15_getBytes_39 : decode cJ15_getBytes 39 = .ok (.arraylength, 1) := dk_190 (dk_at dksJ15_getBytes_1 17 rfl rfl)
theorem dJ15_getBytes_40 : decode cJ15_getBytes 40 = .ok (.invokestatic 106, 3) := dk_184 0 106 (dk_at dksJ15_getBytes_1 18 rfl rfl)
theorem dJ15_getBytes_43 : decode cJ15_getBytes 43 = .ok (.return_, 1) := dk_177 (dk_at dksJ15_getBytes_1 21 rfl rfl)
abbrev cJ15_init : ByteArray := prog_47_method_53_code
def yJ15_init : MethodName := ⟨RJ15, "<init>", "(Ljava/lang/StringBuilder;)V"⟩
def dkwJ15_init_0 : List UInt8 := [42, 43, 1, 183, 1, 233, 177]
abbrev dktJ15_init_0 : List UInt8 := dkwJ15_init_0 ++ []
theorem dksJ15_init_0 : cJ15_init.data.toList.drop 0 = dktJ15_init_0 := by decide +kernel
theorem dJ15_init_0 : decode cJ15_init 0 = .ok (.aload_n 0, 1) := dk_42 (dk_at dksJ15_init_0 0 rfl rfl)
theorem dJ15_init_1 : decode cJ15_init 1 = .ok (.aload_n 1, 1) := dk_43 (dk_at dksJ15_init_0 1 rfl rfl)
theorem dJ15_init_2 : decode cJ15_init 2 = .ok (.aconst_null, 1) := dk_1 (dk_at dksJ15_init_0 2 rfl rfl)
theorem dJ15_init_3 : decode cJ15_init 3 = .ok (.invokespecial 489, 3) := dk_183 1 233 (dk_at dksJ15_init_0 3 rfl rfl)
theorem dJ15_init_6 : decode cJ15_init 6 = .ok (.return_, 1) := dk_177 (dk_at dksJ15_init_0 6 rfl rfl)
abbrev cJ15_init_2 : ByteArray := prog_47_method_150_code
def yJ15_init_2 : MethodName := ⟨RJ15, "<init>", "(Ljava/lang/AbstractStringBuilder;Ljava/lang/Void;)V"⟩
def dkwJ15_init_2_4 : List UInt8 := [181, 0, 9, 177]
abbrev dktJ15_init_2_4 : List UInt8 := dkwJ15_init_2_4 ++ []
def dkwJ15_init_2_3 : List UInt8 := [184, 0, 47, 181, 0, 15, 177, 42, 4, 181, 0, 15, 42, 45, 3, 21, 4, 4, 120, 184, 0, 54]
abbrev dktJ15_init_2_3 : List UInt8 := dkwJ15_init_2_3 ++ dktJ15_init_2_4
def dkwJ15_init_2_2 : List UInt8 := [180, 4, 24, 153, 0, 28, 42, 45, 3, 21, 4, 184, 4, 27, 181, 0, 9, 42, 42, 180, 0, 9, 21, 4]
abbrev dktJ15_init_2_2 : List UInt8 := dkwJ15_init_2_2 ++ dktJ15_init_2_3
def dkwJ15_init_2_1 : List UInt8 := [181, 0, 15, 42, 45, 3, 21, 4, 184, 0, 54, 181, 0, 9, 167, 0, 59, 178, 0, 38, 153, 0, 35, 43]
abbrev dktJ15_init_2_1 : List UInt8 := dkwJ15_init_2_1 ++ dktJ15_init_2_2
def dkwJ15_init_2_0 : List UInt8 := [42, 183, 0, 1, 43, 182, 2, 40, 78, 43, 182, 2, 37, 54, 4, 43, 182, 4, 23, 153, 0, 22, 42, 3]
abbrev dktJ15_init_2_0 : List UInt8 := dkwJ15_init_2_0 ++ dktJ15_init_2_1
theorem dksJ15_init_2_0 : cJ15_init_2.data.toList.drop 0 = dktJ15_init_2_0 := by decide +kernel
theorem dksJ15_init_2_1 : cJ15_init_2.data.toList.drop 24 = dktJ15_init_2_1 := dk_seg dksJ15_init_2_0 24 rfl rfl
theorem dksJ15_init_2_2 : cJ15_init_2.data.toList.drop 48 = dktJ15_init_2_2 := dk_seg dksJ15_init_2_1 24 rfl rfl
theorem dksJ15_init_2_3 : cJ15_init_2.data.toList.drop 72 = dktJ15_init_2_3 := dk_seg dksJ15_init_2_2 24 rfl rfl
theorem dksJ15_init_2_4 : cJ15_init_2.data.toList.drop 94 = dktJ15_init_2_4 := dk_seg dksJ15_init_2_3 22 rfl rfl
theorem dJ15_init_2_0 : decode cJ15_init_2 0 = .ok (.aload_n 0, 1) := dk_42 (dk_at dksJ15_init_2_0 0 rfl rfl)
theorem dJ15_init_2_1 : decode cJ15_init_2 1 = .ok (.invokespecial 1, 3) := dk_183 0 1 (dk_at dksJ15_init_2_0 1 rfl rfl)
theorem dJ15_init_2_4 : decode cJ15_init_2 4 = .ok (.aload_n 1, 1) := dk_43 (dk_at dksJ15_init_2_0 4 rfl rfl)
theorem dJ15_init_2_5 : decode cJ15_init_2 5 = .ok (.invokevirtual 552, 3) := dk_182 2 40 (dk_at dksJ15_init_2_0 5 rfl rfl)
theorem dJ15_init_2_8 : decode cJ15_init_2 8 = .ok (.astore_n 3, 1) := dk_78 (dk_at dksJ15_init_2_0 8 rfl rfl)
theorem dJ15_init_2_9 : decode cJ15_init_2 9 = .ok (.aload_n 1, 1) := dk_43 (dk_at dksJ15_init_2_0 9 rfl rfl)
theorem dJ15_init_2_10 : decode cJ15_init_2 10 = .ok (.invokevirtual 549, 3) := dk_182 2 37 (dk_at dksJ15_init_2_0 10 rfl rfl)
theorem dJ15_init_2_13 : decode cJ15_init_2 13 = .ok (.istore 4, 2) := dk_54 4 (dk_at dksJ15_init_2_0 13 rfl rfl)
theorem dJ15_init_2_15 : decode cJ15_init_2 15 = .ok (.aload_n 1, 1) := dk_43 (dk_at dksJ15_init_2_0 15 rfl rfl)
theorem dJ15_init_2_16 : decode cJ15_init_2 16 = .ok (.invokevirtual 1047, 3) := dk_182 4 23 (dk_at dksJ15_init_2_0 16 rfl rfl)
theorem dJ15_init_2_19 : decode cJ15_init_2 19 = .ok (.ifCond .eq 22, 3) := dk_153 0 22 (dk_at dksJ15_init_2_0 19 rfl rfl)
theorem dJ15_init_2_22 : decode cJ15_init_2 22 = .ok (.aload_n 0, 1) := dk_42 (dk_at dksJ15_init_2_0 22 rfl rfl)
theorem dJ15_init_2_23 : decode cJ15_init_2 23 = .ok (.iconst 0, 1) := dk_3 (dk_at dksJ15_init_2_0 23 rfl rfl)
theorem dJ15_init_2_24 : decode cJ15_init_2 24 = .ok (.putfield 15, 3) := dk_181 0 15 (dk_at dksJ15_init_2_1 0 rfl rfl)
theorem dJ15_init_2_27 : decode cJ15_init_2 27 = .ok (.aload_n 0, 1) := dk_42 (dk_at dksJ15_init_2_1 3 rfl rfl)
theorem dJ15_init_2_28 : decode cJ15_init_2 28 = .ok (.aload_n 3, 1) := dk_45 (dk_at dksJ15_init_2_1 4 rfl rfl)
theorem dJ15_init_2_29 : decode cJ15_init_2 29 = .ok (.iconst 0, 1) := dk_3 (dk_at dksJ15_init_2_1 5 rfl rfl)
theorem dJ15_init_2_30 : decode cJ15_init_2 30 = .ok (.iload 4, 2) := dk_21 4 (dk_at dksJ15_init_2_1 6 rfl rfl)
theorem dJ15_init_2_32 : decode cJ15_init_2 32 = .ok (.invokestatic 54, 3) := dk_184 0 54 (dk_at dksJ15_init_2_1 8 rfl rfl)
theorem dJ15_init_2_35 : decode cJ15_init_2 35 = .ok (.putfield 9, 3) := dk_181 0 9 (dk_at dksJ15_init_2_1 11 rfl rfl)
theorem dJ15_init_2_38 : decode cJ15_init_2 38 = .ok (.goto 59, 3) := dk_167 0 59 (dk_at dksJ15_init_2_1 14 rfl rfl)
theorem dJ15_init_2_41 : decode cJ15_init_2 41 = .ok (.getstatic 38, 3) := dk_178 0 38 (dk_at dksJ15_init_2_1 17 rfl rfl)
theorem dJ15_init_2_44 : decode cJ15_init_2 44 = .ok (.ifCond .eq 35, 3) := dk_153 0 35 (dk_at dksJ15_init_2_1 20 rfl rfl)
theorem dJ15_init_2_47 : decode cJ15_init_2 47 = .ok (.aload_n 1, 1) := dk_43 (dk_at dksJ15_init_2_1 23 rfl rfl)
theorem dJ15_init_2_48 : decode cJ15_init_2 48 = .ok (.getfield 1048, 3) := dk_180 4 24 (dk_at dksJ15_init_2_2 0 rfl rfl)
theorem dJ15_init_2_51 : decode cJ15_init_2 51 = .ok (.ifCond .eq 28, 3) := dk_153 0 28 (dk_at dksJ15_init_2_2 3 rfl rfl)
theorem dJ15_init_2_54 : decode cJ15_init_2 54 = .ok (.aload_n 0, 1) := dk_42 (dk_at dksJ15_init_2_2 6 rfl rfl)
theorem dJ15_init_2_55 : decode cJ15_init_2 55 = .ok (.aload_n 3, 1) := dk_45 (dk_at dksJ15_init_2_2 7 rfl rfl)
theorem dJ15_init_2_56 : decode cJ15_init_2 56 = .ok (.iconst 0, 1) := dk_3 (dk_at dksJ15_init_2_2 8 rfl rfl)
theorem dJ15_init_2_57 : decode cJ15_init_2 57 = .ok (.iload 4, 2) := dk_21 4 (dk_at dksJ15_init_2_2 9 rfl rfl)
theorem dJ15_init_2_59 : decode cJ15_init_2 59 = .ok (.invokestatic 1051, 3) := dk_184 4 27 (dk_at dksJ15_init_2_2 11 rfl rfl)
theorem dJ15_init_2_62 : decode cJ15_init_2 62 = .ok (.putfield 9, 3) := dk_181 0 9 (dk_at dksJ15_init_2_2 14 rfl rfl)
theorem dJ15_init_2_65 : decode cJ15_init_2 65 = .ok (.aload_n 0, 1) := dk_42 (dk_at dksJ15_init_2_2 17 rfl rfl)
theorem dJ15_init_2_66 : decode cJ15_init_2 66 = .ok (.aload_n 0, 1) := dk_42 (dk_at dksJ15_init_2_2 18 rfl rfl)
theorem dJ15_init_2_67 : decode cJ15_init_2 67 = .ok (.getfield 9, 3) := dk_180 0 9 (dk_at dksJ15_init_2_2 19 rfl rfl)
theorem dJ15_init_2_70 : decode cJ15_init_2 70 = .ok (.iload 4, 2) := dk_21 4 (dk_at dksJ15_init_2_2 22 rfl rfl)
theorem dJ15_init_2_72 : decode cJ15_init_2 72 = .ok (.invokestatic 47, 3) := dk_184 0 47 (dk_at dksJ15_init_2_3 0 rfl rfl)
theorem dJ15_init_2_75 : decode cJ15_init_2 75 = .ok (.putfield 15, 3) := dk_181 0 15 (dk_at dksJ15_init_2_3 3 rfl rfl)
theorem dJ15_init_2_78 : decode cJ15_init_2 78 = .ok (.return_, 1) := dk_177 (dk_at dksJ15_init_2_3 6 rfl rfl)
theorem dJ15_init_2_79 : decode cJ15_init_2 79 = .ok (.aload_n 0, 1) := dk_42 (dk_at dksJ15_init_2_3 7 rfl rfl)
theorem dJ15_init_2_80 : decode cJ15_init_2 80 = .ok (.iconst 1, 1) := dk_4 (dk_at dksJ15_init_2_3 8 rfl rfl)
theorem dJ15_init_2_81 : decode cJ15_init_2 81 = .ok (.putfield 15, 3) := dk_181 0 15 (dk_at dksJ15_init_2_3 9 rfl rfl)
theorem dJ15_init_2_84 : decode cJ15_init_2 84 = .ok (.aload_n 0, 1) := dk_42 (dk_at dksJ15_init_2_3 12 rfl rfl)
theorem dJ15_init_2_85 : decode cJ15_init_2 85 = .ok (.aload_n 3, 1) := dk_45 (dk_at dksJ15_init_2_3 13 rfl rfl)
theorem dJ15_init_2_86 : decode cJ15_init_2 86 = .ok (.iconst 0, 1) := dk_3 (dk_at dksJ15_init_2_3 14 rfl rfl)
theorem dJ15_init_2_87 : decode cJ15_init_2 87 = .ok (.iload 4, 2) := dk_21 4 (dk_at dksJ15_init_2_3 15 rfl rfl)
theorem dJ15_init_2_89 : decode cJ15_init_2 89 = .ok (.iconst 1, 1) := dk_4 (dk_at dksJ15_init_2_3 17 rfl rfl)
theorem dJ15_init_2_90 : decode cJ15_init_2 90 = .ok (.ishl, 1) := dk_120 (dk_at dksJ15_init_2_3 18 rfl rfl)
theorem dJ15_init_2_91 : decode cJ15_init_2 91 = .ok (.invokestatic 54, 3) := dk_184 0 54 (dk_at dksJ15_init_2_3 19 rfl rfl)
theorem dJ15_init_2_94 : decode cJ15_init_2 94 = .ok (.putfield 9, 3) := dk_181 0 9 (dk_at dksJ15_init_2_4 0 rfl rfl)
theorem dJ15_init_2_97 : decode cJ15_init_2 97 = .ok (.return_, 1) := dk_177 (dk_at dksJ15_init_2_4 3 rfl rfl)
abbrev cJ15_checkIndex : ByteArray := prog_47_method_155_code
def yJ15_checkIndex : MethodName := ⟨RJ15, "checkIndex", "(II)V"⟩
def dkwJ15_checkIndex_0 : List UInt8 := [26, 27, 178, 4, 29, 184, 4, 35, 87, 177]
abbrev dktJ15_checkIndex_0 : List UInt8 := dkwJ15_checkIndex_0 ++ []
theorem dksJ15_checkIndex_0 : cJ15_checkIndex.data.toList.drop 0 = dktJ15_checkIndex_0 := by decide +kernel
theorem dJ15_checkIndex_0 : decode cJ15_checkIndex 0 = .ok (.iload_n 0, 1) := dk_26 (dk_at dksJ15_checkIndex_0 0 rfl rfl)
theorem dJ15_checkIndex_1 : decode cJ15_checkIndex 1 = .ok (.iload_n 1, 1) := dk_27 (dk_at dksJ15_checkIndex_0 1 rfl rfl)
theorem dJ15_checkIndex_2 : decode cJ15_checkIndex 2 = .ok (.getstatic 1053, 3) := dk_178 4 29 (dk_at dksJ15_checkIndex_0 2 rfl rfl)
theorem dJ15_checkIndex_5 : decode cJ15_checkIndex 5 = .ok (.invokestatic 1059, 3) := dk_184 4 35 (dk_at dksJ15_checkIndex_0 5 rfl rfl)
theorem dJ15_checkIndex_8 : decode cJ15_checkIndex 8 = .ok (.pop, 1) := dk_87 (dk_at dksJ15_checkIndex_0 8 rfl rfl)
theorem dJ15_checkIndex_9 : decode cJ15_checkIndex 9 = .ok (.return_, 1) := dk_177 (dk_at dksJ15_checkIndex_0 9 rfl rfl)
abbrev cJ15_isLatin1 : ByteArray := prog_47_method_154_code
def yJ15_isLatin1 : MethodName := ⟨RJ15, "isLatin1", "()Z"⟩
def dkwJ15_isLatin1_0 : List UInt8 := [178, 0, 38, 153, 0, 14, 42, 180, 0, 15, 154, 0, 7, 4, 167, 0, 4, 3, 172]
abbrev dktJ15_isLatin1_0 : List UInt8 := dkwJ15_isLatin1_0 ++ []
theorem dksJ15_isLatin1_0 : cJ15_isLatin1.data.toList.drop 0 = dktJ15_isLatin1_0 := by decide +kernel
theorem dJ15_isLatin1_0 : decode cJ15_isLatin1 0 = .ok (.getstatic 38, 3) := dk_178 0 38 (dk_at dksJ15_isLatin1_0 0 rfl rfl)
theorem dJ15_isLatin1_3 : decode cJ15_isLatin1 3 = .ok (.ifCond .eq 14, 3) := dk_153 0 14 (dk_at dksJ15_isLatin1_0 3 rfl rfl)
theorem dJ15_isLatin1_6 : decode cJ15_isLatin1 6 = .ok (.aload_n 0, 1) := dk_42 (dk_at dksJ15_isLatin1_0 6 rfl rfl)
theorem dJ15_isLatin1_7 : decode cJ15_isLatin1 7 = .ok (.getfield 15, 3) := dk_180 0 15 (dk_at dksJ15_isLatin1_0 7 rfl rfl)
theorem dJ15_isLatin1_10 : decode cJ15_isLatin1 10 = .ok (.ifCond .ne 7, 3) := dk_154 0 7 (dk_at dksJ15_isLatin1_0 10 rfl rfl)
theorem dJ15_isLatin1_13 : decode cJ15_isLatin1 13 = .ok (.iconst 1, 1) := dk_4 (dk_at dksJ15_isLatin1_0 13 rfl rfl)
theorem dJ15_isLatin1_14 : decode cJ15_isLatin1 14 = .ok (.goto 4, 3) := dk_167 0 4 (dk_at dksJ15_isLatin1_0 14 rfl rfl)
theorem dJ15_isLatin1_17 : decode cJ15_isLatin1 17 = .ok (.iconst 0, 1) := dk_3 (dk_at dksJ15_isLatin1_0 17 rfl rfl)
theorem dJ15_isLatin1_18 : decode cJ15_isLatin1 18 = .ok (.ireturn, 1) := dk_172 (dk_at dksJ15_isLatin1_0 18 rfl rfl)
abbrev cJ15_value : ByteArray := prog_47_method_153_code
def yJ15_value : MethodName := ⟨RJ15, "value", "()[B"⟩
theorem dJ15_value_0 : decode cJ15_value 0 = .ok (.aload_n 0, 1) := by decide +kernel
theorem dJ15_value_1 : decode cJ15_value 1 = .ok (.getfield 9, 3) := by decide +kernel
theorem dJ15_value_4 : decode cJ15_value 4 = .ok (.areturn, 1) := by decide +kernel
abbrev cJ15_charAt : ByteArray := prog_47_method_56_code
def yJ15_charAt : MethodName := ⟨RJ15, "charAt", "(I)C"⟩
def dkwJ15_charAt_1 : List UInt8 := [172]
abbrev dktJ15_charAt_1 : List UInt8 := dkwJ15_charAt_1 ++ []
def dkwJ15_charAt_0 : List UInt8 := [42, 182, 1, 236, 153, 0, 12, 42, 180, 0, 9, 27, 184, 1, 239, 172, 42, 180, 0, 9, 27, 184, 1, 242]
abbrev dktJ15_charAt_0 : List UInt8 := dkwJ15_charAt_0 ++ dktJ15_charAt_1
theorem dksJ15_charAt_0 : cJ15_charAt.data.toList.drop 0 = dktJ15_charAt_0 := by decide +kernel
theorem dksJ15_charAt_1 : cJ15_charAt.data.toList.drop 24 = dktJ15_charAt_1 := dk_seg dksJ15_charAt_0 24 rfl rfl
theorem dJ15_charAt_0 : decode cJ15_charAt 0 = .ok (.aload_n 0, 1) := dk_42 (dk_at dksJ15_charAt_0 0 rfl rfl)
theorem dJ15_charAt_1 : decode cJ15_charAt 1 = .ok (.invokevirtual 492, 3) := dk_182 1 236 (dk_at dksJ15_charAt_0 1 rfl rfl)
theorem dJ15_charAt_4 : decode cJ15_charAt 4 = .ok (.ifCond .eq 12, 3) := dk_153 0 12 (dk_at dksJ15_charAt_0 4 rfl rfl)
theorem dJ15_charAt_7 : decode cJ15_charAt 7 = .ok (.aload_n 0, 1) := dk_42 (dk_at dksJ15_charAt_0 7 rfl rfl)
theorem dJ15_charAt_8 : decode cJ15_charAt 8 = .ok (.getfield 9, 3) := dk_180 0 9 (dk_at dksJ15_charAt_0 8 rfl rfl)
theorem dJ15_charAt_11 : decode cJ15_charAt 11 = .ok (.iload_n 1, 1) := dk_27 (dk_at dksJ15_charAt_0 11 rfl rfl)
theorem dJ15_charAt_12 : decode cJ15_charAt 12 = .ok (.invokestatic 495, 3) := dk_184 1 239 (dk_at dksJ15_charAt_0 12 rfl rfl)
theorem dJ15_charAt_15 : decode cJ15_charAt 15 = .ok (.ireturn, 1) := dk_172 (dk_at dksJ15_charAt_0 15 rfl rfl)
theorem dJ15_charAt_16 : decode cJ15_charAt 16 = .ok (.aload_n 0, 1) := dk_42 (dk_at dksJ15_charAt_0 16 rfl rfl)
theorem dJ15_charAt_17 : decode cJ15_charAt 17 = .ok (.getfield 9, 3) := dk_180 0 9 (dk_at dksJ15_charAt_0 17 rfl rfl)
theorem dJ15_charAt_20 : decode cJ15_charAt 20 = .ok (.iload_n 1, 1) := dk_27 (dk_at dksJ15_charAt_0 20 rfl rfl)
theorem dJ15_charAt_21 : decode cJ15_charAt 21 = .ok (.invokestatic 498, 3) := dk_184 1 242 (dk_at dksJ15_charAt_0 21 rfl rfl)
theorem dJ15_charAt_24 : decode cJ15_charAt 24 = .ok (.ireturn, 1) := dk_172 (dk_at dksJ15_charAt_1 0 rfl rfl)
abbrev cJ15_valueOf : ByteArray := prog_47_method_133_code
def yJ15_valueOf : MethodName := ⟨RJ15, "valueOf", "(Ljava/lang/Object;)Ljava/lang/String;"⟩
def dkwJ15_valueOf_0 : List UInt8 := [42, 199, 0, 9, 19, 3, 237, 167, 0, 7, 42, 182, 3, 239, 176]
abbrev dktJ15_valueOf_0 : List UInt8 := dkwJ15_valueOf_0 ++ []
theorem dksJ15_valueOf_0 : cJ15_valueOf.data.toList.drop 0 = dktJ15_valueOf_0 := by decide +kernel
theorem dJ15_valueOf_0 : decode cJ15_valueOf 0 = .ok (.aload_n 0, 1) := dk_42 (dk_at dksJ15_valueOf_0 0 rfl rfl)
theorem dJ15_valueOf_1 : decode cJ15_valueOf 1 = .ok (.ifnonnull 9, 3) := dk_199 0 9 (dk_at dksJ15_valueOf_0 1 rfl rfl)
theorem dJ15_valueOf_4 : decode cJ15_valueOf 4 = .ok (.ldc_w 1005, 3) := dk_19 3 237 (dk_at dksJ15_valueOf_0 4 rfl rfl)
theorem dJ15_valueOf_7 : decode cJ15_valueOf 7 = .ok (.goto 7, 3) := dk_167 0 7 (dk_at dksJ15_valueOf_0 7 rfl rfl)
theorem dJ15_valueOf_10 : decode cJ15_valueOf 10 = .ok (.aload_n 0, 1) := dk_42 (dk_at dksJ15_valueOf_0 10 rfl rfl)
theorem dJ15_valueOf_11 : decode cJ15_valueOf 11 = .ok (.invokevirtual 1007, 3) := dk_182 3 239 (dk_at dksJ15_valueOf_0 11 rfl rfl)
theorem dJ15_valueOf_14 : decode cJ15_valueOf 14 = .ok (.areturn, 1) := dk_176 (dk_at dksJ15_valueOf_0 14 rfl rfl)
abbrev cJ15_init_3 : ByteArray := prog_47_method_151_code
def yJ15_init_3 : MethodName := ⟨RJ15, "<init>", "([BB)V"⟩
def dkwJ15_init_3_0 : List UInt8 := [42, 183, 0, 1, 42, 43, 181, 0, 9, 42, 28, 181, 0, 15, 177]
abbrev dktJ15_init_3_0 : List UInt8 := dkwJ15_init_3_0 ++ []
theorem dksJ15_init_3_0 : cJ15_init_3.data.toList.drop 0 = dktJ15_init_3_0 := by decide +kernel
theorem dJ15_init_3_0 : decode cJ15_init_3 0 = .ok (.aload_n 0, 1) := dk_42 (dk_at dksJ15_init_3_0 0 rfl rfl)
theorem dJ15_init_3_1 : decode cJ15_init_3 1 = .ok (.invokespecial 1, 3) := dk_183 0 1 (dk_at dksJ15_init_3_0 1 rfl rfl)
theorem dJ15_init_3_4 : decode cJ15_init_3 4 = .ok (.aload_n 0, 1) := dk_42 (dk_at dksJ15_init_3_0 4 rfl rfl)
theorem dJ15_init_3_5 : decode cJ15_init_3 5 = .ok (.aload_n 1, 1) := dk_43 (dk_at dksJ15_init_3_0 5 rfl rfl)
theorem dJ15_init_3_6 : decode cJ15_init_3 6 = .ok (.putfield 9, 3) := dk_181 0 9 (dk_at dksJ15_init_3_0 6 rfl rfl)
theorem dJ15_init_3_9 : decode cJ15_init_3 9 = .ok (.aload_n 0, 1) := dk_42 (dk_at dksJ15_init_3_0 9 rfl rfl)
theorem dJ15_init_3_10 : decode cJ15_init_3 10 = .ok (.iload_n 2, 1) := dk_28 (dk_at dksJ15_init_3_0 10 rfl rfl)
theorem dJ15_init_3_11 : decode cJ15_init_3 11 = .ok (.putfield 15, 3) := dk_181 0 15 (dk_at dksJ15_init_3_0 11 rfl rfl)
theorem dJ15_init_3_14 : decode cJ15_init_3 14 = .ok (.return_, 1) := dk_177 (dk_at dksJ15_init_3_0 14 rfl rfl)
abbrev cJ15_toString : ByteArray := prog_47_method_126_code
def yJ15_toString : MethodName := ⟨RJ15, "toString", "()Ljava/lang/String;"⟩
theorem dJ15_toString_0 : decode cJ15_toString 0 = .ok (.aload_n 0, 1) := by decide +kernel
theorem dJ15_toString_1 : decode cJ15_toString 1 = .ok (.areturn, 1) := by decide +kernel
abbrev cJ15_hashCode : ByteArray := prog_47_method_78_code
def yJ15_hashCode : MethodName := ⟨RJ15, "hashCode", "()I"⟩
def dkwJ15_hashCode_2 : List UInt8 := [181, 0, 23, 167, 0, 8, 42, 27, 181, 0, 19, 27, 172]
abbrev dktJ15_hashCode_2 : List UInt8 := dkwJ15_hashCode_2 ++ []
def dkwJ15_hashCode_1 : List UInt8 := [180, 0, 9, 184, 2, 116, 167, 0, 10, 42, 180, 0, 9, 184, 2, 120, 60, 27, 154, 0, 11, 42, 4]
abbrev dktJ15_hashCode_1 : List UInt8 := dkwJ15_hashCode_1 ++ dktJ15_hashCode_2
def dkwJ15_hashCode_0 : List UInt8 := [42, 180, 0, 19, 60, 27, 154, 0, 52, 42, 180, 0, 23, 154, 0, 45, 42, 182, 1, 236, 153, 0, 13, 42]
abbrev dktJ15_hashCode_0 : List UInt8 := dkwJ15_hashCode_0 ++ dktJ15_hashCode_1
theorem dksJ15_hashCode_0 : cJ15_hashCode.data.toList.drop 0 = dktJ15_hashCode_0 := by decide +kernel
theorem dksJ15_hashCode_1 : cJ15_hashCode.data.toList.drop 24 = dktJ15_hashCode_1 := dk_seg dksJ15_hashCode_0 24 rfl rfl
theorem dksJ15_hashCode_2 : cJ15_hashCode.data.toList.drop 47 = dktJ15_hashCode_2 := dk_seg dksJ15_hashCode_1 23 rfl rfl
theorem dJ15_hashCode_0 : decode cJ15_hashCode 0 = .ok (.aload_n 0, 1) := dk_42 (dk_at dksJ15_hashCode_0 0 rfl rfl)
theorem dJ15_hashCode_1 : decode cJ15_hashCode 1 = .ok (.getfield 19, 3) := dk_180 0 19 (dk_at dksJ15_hashCode_0 1 rfl rfl)
theorem dJ15_hashCode_4 : decode cJ15_hashCode 4 = .ok (.istore_n 1, 1) := dk_60 (dk_at dksJ15_hashCode_0 4 rfl rfl)
theorem dJ15_hashCode_5 : decode cJ15_hashCode 5 = .ok (.iload_n 1, 1) := dk_27 (dk_at dksJ15_hashCode_0 5 rfl rfl)
theorem dJ15_hashCode_6 : decode cJ15_hashCode 6 = .ok (.ifCond .ne 52, 3) := dk_154 0 52 (dk_at dksJ15_hashCode_0 6 rfl rfl)
theorem dJ15_hashCode_9 : decode cJ15_hashCode 9 = .ok (.aload_n 0, 1) := dk_42 (dk_at dksJ15_hashCode_0 9 rfl rfl)
theorem dJ15_hashCode_10 : decode cJ15_hashCode 10 = .ok (.getfield 23, 3) := dk_180 0 23 (dk_at dksJ15_hashCode_0 10 rfl rfl)
theorem dJ15_hashCode_13 : decode cJ15_hashCode 13 = .ok (.ifCond .ne 45, 3) := dk_154 0 45 (dk_at dksJ15_hashCode_0 13 rfl rfl)
theorem dJ15_hashCode_16 : decode cJ15_hashCode 16 = .ok (.aload_n 0, 1) := dk_42 (dk_at dksJ15_hashCode_0 16 rfl rfl)
theorem dJ15_hashCode_17 : decode cJ15_hashCode 17 = .ok (.invokevirtual 492, 3) := dk_182 1 236 (dk_at dksJ15_hashCode_0 17 rfl rfl)
theorem dJ15_hashCode_20 : decode cJ15_hashCode 20 = .ok (.ifCond .eq 13, 3) := dk_153 0 13 (dk_at dksJ15_hashCode_0 20 rfl rfl)
theorem dJ15_hashCode_23 : decode cJ15_hashCode 23 = .ok (.aload_n 0, 1) := dk_42 (dk_at dksJ15_hashCode_0 23 rfl rfl)
theorem dJ15_hashCode_24 : decode cJ15_hashCode 24 = .ok (.getfield 9, 3) := dk_180 0 9 (dk_at dksJ15_hashCode_1 0 rfl rfl)
theorem dJ15_hashCode_27 : decode cJ15_hashCode 27 = .ok (.invokestatic 628, 3) := dk_184 2 116 (dk_at dksJ15_hashCode_1 3 rfl rfl)
theorem dJ15_hashCode_30 : decode cJ15_hashCode 30 = .ok (.goto 10, 3) := dk_167 0 10 (dk_at dksJ15_hashCode_1 6 rfl rfl)
theorem dJ15_hashCode_33 : decode cJ15_hashCode 33 = .ok (.aload_n 0, 1) := dk_42 (dk_at dksJ15_hashCode_1 9 rfl rfl)
theorem dJ15_hashCode_34 : decode cJ15_hashCode 34 = .ok (.getfield 9, 3) := dk_180 0 9 (dk_at dksJ15_hashCode_1 10 rfl rfl)
theorem dJ15_hashCode_37 : decode cJ15_hashCode 37 = .ok (.invokestatic 632, 3) := dk_184 2 120 (dk_at dksJ15_hashCode_1 13 rfl rfl)
theorem dJ15_hashCode_40 : decode cJ15_hashCode 40 = .ok (.istore_n 1, 1) := dk_60 (dk_at dksJ15_hashCode_1 16 rfl rfl)
theorem dJ15_hashCode_41 : decode cJ15_hashCode 41 = .ok (.iload_n 1, 1) := dk_27 (dk_at dksJ15_hashCode_1 17 rfl rfl)
theorem dJ15_hashCode_42 : decode cJ15_hashCode 42 = .ok (.ifCond .ne 11, 3) := dk_154 0 11 (dk_at dksJ15_hashCode_1 18 rfl rfl)
theorem dJ15_hashCode_45 : decode cJ15_hashCode 45 = .ok (.aload_n 0, 1) := dk_42 (dk_at dksJ15_hashCode_1 21 rfl rfl)
theorem dJ15_hashCode_46 : decode cJ15_hashCode 46 = .ok (.iconst 1, 1) := dk_4 (dk_at dksJ15_hashCode_1 22 rfl rfl)
theorem dJ15_hashCode_47 : decode cJ15_hashCode 47 = .ok (.putfield 23, 3) := dk_181 0 23 (dk_at dksJ15_hashCode_2 0 rfl rfl)
theorem dJ15_hashCode_50 : decode cJ15_hashCode 50 = .ok (.goto 8, 3) := dk_167 0 8 (dk_at dksJ15_hashCode_2 3 rfl rfl)
theorem dJ15_hashCode_53 : decode cJ15_hashCode 53 = .ok (.aload_n 0, 1) := dk_42 (dk_at dksJ15_hashCode_2 6 rfl rfl)
theorem dJ15_hashCode_54 : decode cJ15_hashCode 54 = .ok (.iload_n 1, 1) := dk_27 (dk_at dksJ15_hashCode_2 7 rfl rfl)
theorem dJ15_hashCode_55 : decode cJ15_hashCode 55 = .ok (.putfield 19, 3) := dk_181 0 19 (dk_at dksJ15_hashCode_2 8 rfl rfl)
theorem dJ15_hashCode_58 : decode cJ15_hashCode 58 = .ok (.iload_n 1, 1) := dk_27 (dk_at dksJ15_hashCode_2 11 rfl rfl)
theorem dJ15_hashCode_59 : decode cJ15_hashCode 59 = .ok (.ireturn, 1) := dk_172 (dk_at dksJ15_hashCode_2 12 rfl rfl)
abbrev cJ15_compareTo : ByteArray := prog_47_method_162_code
def yJ15_compareTo : MethodName := ⟨RJ15, "compareTo", "(Ljava/lang/Object;)I"⟩
def dkwJ15_compareTo_0 : List UInt8 := [42, 43, 192, 0, 10, 182, 4, 60, 172]
abbrev dktJ15_compareTo_0 : List UInt8 := dkwJ15_compareTo_0 ++ []
theorem dksJ15_compareTo_0 : cJ15_compareTo.data.toList.drop 0 = dktJ15_compareTo_0 := by decide +kernel
theorem dJ15_compareTo_0 : decode cJ15_compareTo 0 = .ok (.aload_n 0, 1) := dk_42 (dk_at dksJ15_compareTo_0 0 rfl rfl)
theorem dJ15_compareTo_1 : decode cJ15_compareTo 1 = .ok (.aload_n 1, 1) := dk_43 (dk_at dksJ15_compareTo_0 1 rfl rfl)
theorem dJ15_compareTo_2 : decode cJ15_compareTo 2 = .ok (.checkcast 10, 3) := dk_192 0 10 (dk_at dksJ15_compareTo_0 2 rfl rfl)
theorem dJ15_compareTo_5 : decode cJ15_compareTo 5 = .ok (.invokevirtual 1084, 3) := dk_182 4 60 (dk_at dksJ15_compareTo_0 5 rfl rfl)
theorem dJ15_compareTo_8 : decode cJ15_compareTo 8 = .ok (.ireturn, 1) := dk_172 (dk_at dksJ15_compareTo_0 8 rfl rfl)
abbrev cJ15_compareTo_2 : ByteArray := prog_47_method_71_code
def yJ15_compareTo_2 : MethodName := ⟨RJ15, "compareTo", "(Ljava/lang/String;)I"⟩
def dkwJ15_compareTo_2_2 : List UInt8 := [154, 0, 11, 44, 45, 184, 2, 79, 167, 0, 8, 44, 45, 184, 2, 82, 172]
abbrev dktJ15_compareTo_2_2 : List UInt8 := dkwJ15_compareTo_2_2 ++ []
def dkwJ15_compareTo_2_1 : List UInt8 := [160, 0, 22, 21, 4, 154, 0, 11, 44, 45, 184, 2, 74, 167, 0, 8, 44, 45, 184, 2, 78, 172, 21, 4]
abbrev dktJ15_compareTo_2_1 : List UInt8 := dkwJ15_compareTo_2_1 ++ dktJ15_compareTo_2_2
def dkwJ15_compareTo_2_0 : List UInt8 := [42, 180, 0, 9, 77, 43, 180, 0, 9, 78, 42, 182, 1, 79, 54, 4, 21, 4, 43, 182, 1, 79]
abbrev dktJ15_compareTo_2_0 : List UInt8 := dkwJ15_compareTo_2_0 ++ dktJ15_compareTo_2_1
theorem dksJ15_compareTo_2_0 : cJ15_compareTo_2.data.toList.drop 0 = dktJ15_compareTo_2_0 := by decide +kernel
theorem dksJ15_compareTo_2_1 : cJ15_compareTo_2.data.toList.drop 22 = dktJ15_compareTo_2_1 := dk_seg dksJ15_compareTo_2_0 22 rfl rfl
theorem dksJ15_compareTo_2_2 : cJ15_compareTo_2.data.toList.drop 46 = dktJ15_compareTo_2_2 := dk_seg dksJ15_compareTo_2_1 24 rfl rfl
theorem dJ15_compareTo_2_0 : decode cJ15_compareTo_2 0 = .ok (.aload_n 0, 1) := dk_42 (dk_at dksJ15_compareTo_2_0 0 rfl rfl)
theorem dJ15_compareTo_2_1 : decode cJ15_compareTo_2 1 = .ok (.getfield 9, 3) := dk_180 0 9 (dk_at dksJ15_compareTo_2_0 1 rfl rfl)
theorem dJ15_compareTo_2_4 : decode cJ15_compareTo_2 4 = .ok (.astore_n 2, 1) := dk_77 (dk_at dksJ15_compareTo_2_0 4 rfl rfl)
theorem dJ15_compareTo_2_5 : decode cJ15_compareTo_2 5 = .ok (.aload_n 1, 1) := dk_43 (dk_at dksJ15_compareTo_2_0 5 rfl rfl)
theorem dJ15_compareTo_2_6 : decode cJ15_compareTo_2 6 = .ok (.getfield 9, 3) := dk_180 0 9 (dk_at dksJ15_compareTo_2_0 6 rfl rfl)
theorem dJ15_compareTo_2_9 : decode cJ15_compareTo_2 9 = .ok (.astore_n 3, 1) := dk_78 (dk_at dksJ15_compareTo_2_0 9 rfl rfl)
theorem dJ15_compareTo_2_10 : decode cJ15_compareTo_2 10 = .ok (.aload_n 0, 1) := dk_42 (dk_at dksJ15_compareTo_2_0 10 rfl rfl)
theorem dJ15_compareTo_2_11 : decode cJ15_compareTo_2 11 = .ok (.invokevirtual 335, 3) := dk_182 1 79 (dk_at dksJ15_compareTo_2_0 11 rfl rfl)
theorem dJ15_compareTo_2_14 : decode cJ15_compareTo_2 14 = .ok (.istore 4, 2) := dk_54 4 (dk_at dksJ15_compareTo_2_0 14 rfl rfl)
theorem dJ15_compareTo_2_16 : decode cJ15_compareTo_2 16 = .ok (.iload 4, 2) := dk_21 4 (dk_at dksJ15_compareTo_2_0 16 rfl rfl)
theorem dJ15_compareTo_2_18 : decode cJ15_compareTo_2 18 = .ok (.aload_n 1, 1) := dk_43 (dk_at dksJ15_compareTo_2_0 18 rfl rfl)
theorem dJ15_compareTo_2_19 : decode cJ15_compareTo_2 19 = .ok (.invokevirtual 335, 3) := dk_182 1 79 (dk_at dksJ15_compareTo_2_0 19 rfl rfl)
theorem dJ15_compareTo_2_22 : decode cJ15_compareTo_2 22 = .ok (.if_icmp .ne 22, 3) := dk_160 0 22 (dk_at dksJ15_compareTo_2_1 0 rfl rfl)
theorem dJ15_compareTo_2_25 : decode cJ15_compareTo_2 25 = .ok (.iload 4, 2) := dk_21 4 (dk_at dksJ15_compareTo_2_1 3 rfl rfl)
theorem dJ15_compareTo_2_27 : decode cJ15_compareTo_2 27 = .ok (.ifCond .ne 11, 3) := dk_154 0 11 (dk_at dksJ15_compareTo_2_1 5 rfl rfl)
theorem dJ15_compareTo_2_30 : decode cJ15_compareTo_2 30 = .ok (.aload_n 2, 1) := dk_44 (dk_at dksJ15_compareTo_2_1 8 rfl rfl)
theorem dJ15_compareTo_2_31 : decode cJ15_compareTo_2 31 = .ok (.aload_n 3, 1) := dk_45 (dk_at dksJ15_compareTo_2_1 9 rfl rfl)
theorem dJ15_compareTo_2_32 : decode cJ15_compareTo_2 32 = .ok (.invokestatic 586, 3) := dk_184 2 74 (dk_at dksJ15_compareTo_2_1 10 rfl rfl)
theorem dJ15_compareTo_2_35 : decode cJ15_compareTo_2 35 = .ok (.goto 8, 3) := dk_167 0 8 (dk_at dksJ15_compareTo_2_1 13 rfl rfl)
theorem dJ15_compareTo_2_38 : decode cJ15_compareTo_2 38 = .ok (.aload_n 2, 1) := dk_44 (dk_at dksJ15_compareTo_2_1 16 rfl rfl)
theorem dJ15_compareTo_2_39 : decode cJ15_compareTo_2 39 = .ok (.aload_n 3, 1) := dk_45 (dk_at dksJ15_compareTo_2_1 17 rfl rfl)
theorem dJ15_compareTo_2_40 : decode cJ15_compareTo_2 40 = .ok (.invokestatic 590, 3) := dk_184 2 78 (dk_at dksJ15_compareTo_2_1 18 rfl rfl)
theorem dJ15_compareTo_2_43 : decode cJ15_compareTo_2 43 = .ok (.ireturn, 1) := dk_172 (dk_at dksJ15_compareTo_2_1 21 rfl rfl)
theorem dJ15_compareTo_2_44 : decode cJ15_compareTo_2 44 = .ok (.iload 4, 2) := dk_21 4 (dk_at dksJ15_compareTo_2_1 22 rfl rfl)
theorem dJ15_compareTo_2_46 : decode cJ15_compareTo_2 46 = .ok (.ifCond .ne 11, 3) := dk_154 0 11 (dk_at dksJ15_compareTo_2_2 0 rfl rfl)
theorem dJ15_compareTo_2_49 : decode cJ15_compareTo_2 49 = .ok (.aload_n 2, 1) := dk_44 (dk_at dksJ15_compareTo_2_2 3 rfl rfl)
theorem dJ15_compareTo_2_50 : decode cJ15_compareTo_2 50 = .ok (.aload_n 3, 1) := dk_45 (dk_at dksJ15_compareTo_2_2 4 rfl rfl)
theorem dJ15_compareTo_2_51 : decode cJ15_compareTo_2 51 = .ok (.invokestatic 591, 3) := dk_184 2 79 (dk_at dksJ15_compareTo_2_2 5 rfl rfl)
theorem dJ15_compareTo_2_54 : decode cJ15_compareTo_2 54 = .ok (.goto 8, 3) := dk_167 0 8 (dk_at dksJ15_compareTo_2_2 8 rfl rfl)
theorem dJ15_compareTo_2_57 : decode cJ15_compareTo_2 57 = .ok (.aload_n 2, 1) := dk_44 (dk_at dksJ15_compareTo_2_2 11 rfl rfl)
theorem dJ15_compareTo_2_58 : decode cJ15_compareTo_2 58 = .ok (.aload_n 3, 1) := dk_45 (dk_at dksJ15_compareTo_2_2 12 rfl rfl)
theorem dJ15_compareTo_2_59 : decode cJ15_compareTo_2 59 = .ok (.invokestatic 594, 3) := dk_184 2 82 (dk_at dksJ15_compareTo_2_2 13 rfl rfl)
theorem dJ15_compareTo_2_62 : decode cJ15_compareTo_2 62 = .ok (.ireturn, 1) := dk_172 (dk_at dksJ15_compareTo_2_2 16 rfl rfl)
abbrev cJ15_checkOffset : ByteArray := prog_47_method_156_code
def yJ15_checkOffset : MethodName := ⟨RJ15, "checkOffset", "(II)V"⟩
def dkwJ15_checkOffset_0 : List UInt8 := [26, 27, 27, 178, 4, 29, 184, 4, 38, 87, 177]
abbrev dktJ15_checkOffset_0 : List UInt8 := dkwJ15_checkOffset_0 ++ []
theorem dksJ15_checkOffset_0 : cJ15_checkOffset.data.toList.drop 0 = dktJ15_checkOffset_0 := by decide +kernel
theorem dJ15_checkOffset_0 : decode cJ15_checkOffset 0 = .ok (.iload_n 0, 1) := dk_26 (dk_at dksJ15_checkOffset_0 0 rfl rfl)
theorem dJ15_checkOffset_1 : decode cJ15_checkOffset 1 = .ok (.iload_n 1, 1) := dk_27 (dk_at dksJ15_checkOffset_0 1 rfl rfl)
theorem dJ15_checkOffset_2 : decode cJ15_checkOffset 2 = .ok (.iload_n 1, 1) := dk_27 (dk_at dksJ15_checkOffset_0 2 rfl rfl)
theorem dJ15_checkOffset_3 : decode cJ15_checkOffset 3 = .ok (.getstatic 1053, 3) := dk_178 4 29 (dk_at dksJ15_checkOffset_0 3 rfl rfl)
theorem dJ15_checkOffset_6 : decode cJ15_checkOffset 6 = .ok (.invokestatic 1062, 3) := dk_184 4 38 (dk_at dksJ15_checkOffset_0 6 rfl rfl)
theorem dJ15_checkOffset_9 : decode cJ15_checkOffset 9 = .ok (.pop, 1) := dk_87 (dk_at dksJ15_checkOffset_0 9 rfl rfl)
theorem dJ15_checkOffset_10 : decode cJ15_checkOffset 10 = .ok (.return_, 1) := dk_177 (dk_at dksJ15_checkOffset_0 10 rfl rfl)
abbrev cJ15_equals : ByteArray := prog_47_method_66_code
def yJ15_equals : MethodName := ⟨RJ15, "equals", "(Ljava/lang/Object;)Z"⟩
def dkwJ15_equals_2 : List UInt8 := [184, 2, 29, 153, 0, 7, 4, 167, 0, 4, 3, 172]
abbrev dktJ15_equals_2 : List UInt8 := dkwJ15_equals_2 ++ []
def dkwJ15_equals_1 : List UInt8 := [153, 0, 14, 42, 180, 0, 15, 44, 180, 0, 15, 160, 0, 21, 42, 180, 0, 9, 44, 180, 0, 9]
abbrev dktJ15_equals_1 : List UInt8 := dkwJ15_equals_1 ++ dktJ15_equals_2
def dkwJ15_equals_0 : List UInt8 := [42, 43, 166, 0, 5, 4, 172, 43, 193, 0, 10, 153, 0, 43, 43, 192, 0, 10, 77, 178, 0, 38]
abbrev dktJ15_equals_0 : List UInt8 := dkwJ15_equals_0 ++ dktJ15_equals_1
theorem dksJ15_equals_0 : cJ15_equals.data.toList.drop 0 = dktJ15_equals_0 := by decide +kernel
theorem dksJ15_equals_1 : cJ15_equals.data.toList.drop 22 = dktJ15_equals_1 := dk_seg dksJ15_equals_0 22 rfl rfl
theorem dksJ15_equals_2 : cJ15_equals.data.toList.drop 44 = dktJ15_equals_2 := dk_seg dksJ15_equals_1 22 rfl rfl
theorem dJ15_equals_0 : decode cJ15_equals 0 = .ok (.aload_n 0, 1) := dk_42 (dk_at dksJ15_equals_0 0 rfl rfl)
theorem dJ15_equals_1 : decode cJ15_equals 1 = .ok (.aload_n 1, 1) := dk_43 (dk_at dksJ15_equals_0 1 rfl rfl)
theorem dJ15_equals_2 : decode cJ15_equals 2 = .ok (.if_acmp .ne 5, 3) := dk_166 0 5 (dk_at dksJ15_equals_0 2 rfl rfl)
theorem dJ15_equals_5 : decode cJ15_equals 5 = .ok (.iconst 1, 1) := dk_4 (dk_at dksJ15_equals_0 5 rfl rfl)
theorem dJ15_equals_6 : decode cJ15_equals 6 = .ok (.ireturn, 1) := dk_172 (dk_at dksJ15_equals_0 6 rfl rfl)
theorem dJ15_equals_7 : decode cJ15_equals 7 = .ok (.aload_n 1, 1) := dk_43 (dk_at dksJ15_equals_0 7 rfl rfl)
theorem dJ15_equals_8 : decode cJ15_equals 8 = .ok (.instanceof 10, 3) := dk_193 0 10 (dk_at dksJ15_equals_0 8 rfl rfl)
theorem dJ15_equals_11 : decode cJ15_equals 11 = .ok (.ifCond .eq 43, 3) := dk_153 0 43 (dk_at dksJ15_equals_0 11 rfl rfl)
theorem dJ15_equals_14 : decode cJ15_equals 14 = .ok (.aload_n 1, 1) := dk_43 (dk_at dksJ15_equals_0 14 rfl rfl)
theorem dJ15_equals_15 : decode cJ15_equals 15 = .ok (.checkcast 10, 3) := dk_192 0 10 (dk_at dksJ15_equals_0 15 rfl rfl)
theorem dJ15_equals_18 : decode cJ15_equals 18 = .ok (.astore_n 2, 1) := dk_77 (dk_at dksJ15_equals_0 18 rfl rfl)
theorem dJ15_equals_19 : decode cJ15_equals 19 = .ok (.getstatic 38, 3) := dk_178 0 38 (dk_at dksJ15_equals_0 19 rfl rfl)
theorem dJ15_equals_22 : decode cJ15_equals 22 = .ok (.ifCond .eq 14, 3) := dk_153 0 14 (dk_at dksJ15_equals_1 0 rfl rfl)
theorem dJ15_equals_25 : decode cJ15_equals 25 = .ok (.aload_n 0, 1) := dk_42 (dk_at dksJ15_equals_1 3 rfl rfl)
theorem dJ15_equals_26 : decode cJ15_equals 26 = .ok (.getfield 15, 3) := dk_180 0 15 (dk_at dksJ15_equals_1 4 rfl rfl)
theorem dJ15_equals_29 : decode cJ15_equals 29 = .ok (.aload_n 2, 1) := dk_44 (dk_at dksJ15_equals_1 7 rfl rfl)
theorem dJ15_equals_30 : decode cJ15_equals 30 = .ok (.getfield 15, 3) := dk_180 0 15 (dk_at dksJ15_equals_1 8 rfl rfl)
theorem dJ15_equals_33 : decode cJ15_equals 33 = .ok (.if_icmp .ne 21, 3) := dk_160 0 21 (dk_at dksJ15_equals_1 11 rfl rfl)
theorem dJ15_equals_36 : decode cJ15_equals 36 = .ok (.aload_n 0, 1) := dk_42 (dk_at dksJ15_equals_1 14 rfl rfl)
theorem dJ15_equals_37 : decode cJ15_equals 37 = .ok (.getfield 9, 3) := dk_180 0 9 (dk_at dksJ15_equals_1 15 rfl rfl)
theorem dJ15_equals_40 : decode cJ15_equals 40 = .ok (.aload_n 2, 1) := dk_44 (dk_at dksJ15_equals_1 18 rfl rfl)
theorem dJ15_equals_41 : decode cJ15_equals 41 = .ok (.getfield 9, 3) := dk_180 0 9 (dk_at dksJ15_equals_1 19 rfl rfl)
theorem dJ15_equals_44 : decode cJ15_equals 44 = .ok (.invokestatic 541, 3) := dk_184 2 29 (dk_at dksJ15_equals_2 0 rfl rfl)
theorem dJ15_equals_47 : decode cJ15_equals 47 = .ok (.ifCond .eq 7, 3) := dk_153 0 7 (dk_at dksJ15_equals_2 3 rfl rfl)
theorem dJ15_equals_50 : decode cJ15_equals 50 = .ok (.iconst 1, 1) := dk_4 (dk_at dksJ15_equals_2 6 rfl rfl)
theorem dJ15_equals_51 : decode cJ15_equals 51 = .ok (.goto 4, 3) := dk_167 0 4 (dk_at dksJ15_equals_2 7 rfl rfl)
theorem dJ15_equals_54 : decode cJ15_equals 54 = .ok (.iconst 0, 1) := dk_3 (dk_at dksJ15_equals_2 10 rfl rfl)
theorem dJ15_equals_55 : decode cJ15_equals 55 = .ok (.ireturn, 1) := dk_172 (dk_at dksJ15_equals_2 11 rfl rfl)
theorem q120 : (Jvm.Cond.initialized "java/lang/String") ∈ lw_all := lw_g (lw_at lw_m1 18 rfl) rfl
theorem q366 : (Jvm.Cond.laysStatic "java/lang/String" "COMPACT_STRINGS" "Z") ∈ lw_tbl := lw_at lw_m2 24 rfl
theorem q377 : (Jvm.Cond.fieldLink "java/lang/String" (1048 : Nat) "java/lang/AbstractStringBuilder" "maybeLatin1" "Z") ∈ lw_all := lw_g (lw_at lw_m2 35 rfl) rfl
theorem q453 : (Jvm.Cond.static ({ cls := "java/lang/String", name := "checkBoundsBeginEnd", desc := "(III)V" } : Jvm.MethodName)) ∈ lw_all := lw_g (lw_at lw_m2 111 rfl) rfl
theorem q454 : (Jvm.Cond.code ({ cls := "java/lang/String", name := "checkBoundsBeginEnd", desc := "(III)V" } : Jvm.MethodName) prog_47_method_158_code (3 : Nat) (Option.none : Option Jvm.ClassFile.FieldType)) ∈ lw_all := lw_g (lw_at lw_m2 112 rfl) rfl
theorem q455 : (Jvm.Cond.fieldLink "java/lang/String" (1053 : Nat) "jdk/internal/util/Preconditions" "SIOOBE_FORMATTER" "Ljava/util/function/BiFunction;") ∈ lw_all := lw_g (lw_at lw_m2 113 rfl) rfl
theorem q457 : (Jvm.Cond.methodLink "java/lang/String" (1062 : Nat) ({ cls := "jdk/internal/util/Preconditions", name := "checkFromToIndex", desc := "(IIILjava/util/function/BiFunction;)I" } : Jvm.MethodName)) ∈ lw_all := lw_g (lw_at lw_m2 115 rfl) rfl
theorem q470 : (Jvm.Cond.instanceMethod ({ cls := "java/lang/String", name := "length", desc := "()I" } : Jvm.MethodName)) ∈ lw_all := lw_g (lw_at lw_m2 128 rfl) rfl
theorem q471 : (Jvm.Cond.selects "java/lang/String" ({ cls := "java/lang/String", name := "length", desc := "()I" } : Jvm.MethodName) ({ cls := "java/lang/String", name := "length", desc := "()I" } : Jvm.MethodName)) ∈ lw_all := lw_g (lw_at lw_m2 129 rfl) rfl
theorem q472 : (Jvm.Cond.code ({ cls := "java/lang/String", name := "length", desc := "()I" } : Jvm.MethodName) prog_47_method_54_code (1 : Nat) (Option.some Jvm.ClassFile.FieldType.int)) ∈ lw_all := lw_g (lw_at lw_m2 130 rfl) rfl
theorem q473 : (Jvm.Cond.methodLink "java/lang/String" (335 : Nat) ({ cls := "java/lang/String", name := "coder", desc := "()B" } : Jvm.MethodName)) ∈ lw_all := lw_g (lw_at lw_m2 131 rfl) rfl
theorem q474 : (Jvm.Cond.instanceMethod ({ cls := "java/lang/String", name := "coder", desc := "()B" } : Jvm.MethodName)) ∈ lw_all := lw_g (lw_at lw_m2 132 rfl) rfl
theorem q475 : (Jvm.Cond.selects "java/lang/String" ({ cls := "java/lang/String", name := "coder", desc := "()B" } : Jvm.MethodName) ({ cls := "java/lang/String", name := "coder", desc := "()B" } : Jvm.MethodName)) ∈ lw_all := lw_g (lw_at lw_m2 133 rfl) rfl
theorem q476 : (Jvm.Cond.code ({ cls := "java/lang/String", name := "coder", desc := "()B" } : Jvm.MethodName) prog_47_method_152_code (1 : Nat) (Option.some Jvm.ClassFile.FieldType.byte)) ∈ lw_all := lw_g (lw_at lw_m2 134 rfl) rfl
theorem q477 : (Jvm.Cond.fieldLink "java/lang/String" (38 : Nat) "java/lang/String" "COMPACT_STRINGS" "Z") ∈ lw_all := lw_g (lw_at lw_m2 135 rfl) rfl
theorem q501 : (Jvm.Cond.static ({ cls := "java/lang/String", name := "checkBoundsOffCount", desc := "(III)I" } : Jvm.MethodName)) ∈ lw_all := lw_g (lw_at lw_m2 159 rfl) rfl
theorem q502 : (Jvm.Cond.code ({ cls := "java/lang/String", name := "checkBoundsOffCount", desc := "(III)I" } : Jvm.MethodName) prog_47_method_157_code (3 : Nat) (Option.some Jvm.ClassFile.FieldType.int)) ∈ lw_all := lw_g (lw_at lw_m2 160 rfl) rfl
theorem q503 : (Jvm.Cond.methodLink "java/lang/String" (1065 : Nat) ({ cls := "jdk/internal/util/Preconditions", name := "checkFromIndexSize", desc := "(IIILjava/util/function/BiFunction;)I" } : Jvm.MethodName)) ∈ lw_all := lw_g (lw_at lw_m2 161 rfl) rfl
theorem q507 : (Jvm.Cond.instanceMethod ({ cls := "java/lang/String", name := "getBytes", desc := "([BIB)V" } : Jvm.MethodName)) ∈ lw_all := lw_g (lw_at lw_m2 165 rfl) rfl
theorem q508 : (Jvm.Cond.selects "java/lang/String" ({ cls := "java/lang/String", name := "getBytes", desc := "([BIB)V" } : Jvm.MethodName) ({ cls := "java/lang/String", name := "getBytes", desc := "([BIB)V" } : Jvm.MethodName)) ∈ lw_all := lw_g (lw_at lw_m2 166 rfl) rfl
theorem q509 : (Jvm.Cond.code ({ cls := "java/lang/String", name := "getBytes", desc := "([BIB)V" } : Jvm.MethodName) prog_47_method_147_code (4 : Nat) (Option.none : Option Jvm.ClassFile.FieldType)) ∈ lw_all := lw_g (lw_at lw_m2 167 rfl) rfl
theorem q510 : (Jvm.Cond.methodLink "java/lang/String" (212 : Nat) ({ cls := "java/lang/System", name := "arraycopy", desc := "(Ljava/lang/Object;ILjava/lang/Object;II)V" } : Jvm.MethodName)) ∈ lw_all := lw_g (lw_at lw_m2 168 rfl) rfl
theorem q511 : (Jvm.Cond.methodLink "java/lang/String" (106 : Nat) ({ cls := "java/lang/StringLatin1", name := "inflate", desc := "([BI[BII)V" } : Jvm.MethodName)) ∈ lw_all := lw_g (lw_at lw_m2 169 rfl) rfl
theorem q542 : (Jvm.Cond.instantiable "java/lang/String" (4 : Nat)) ∈ lw_all := lw_g (lw_at lw_m2 200 rfl) rfl
theorem q544 : (Jvm.Cond.instanceMethod ({ cls := "java/lang/String", name := "<init>", desc := "(Ljava/lang/StringBuilder;)V" } : Jvm.MethodName)) ∈ lw_all := lw_g (lw_at lw_m2 202 rfl) rfl
theorem q545 : (Jvm.Cond.code ({ cls := "java/lang/String", name := "<init>", desc := "(Ljava/lang/StringBuilder;)V" } : Jvm.MethodName) prog_47_method_53_code (2 : Nat) (Option.none : Option Jvm.ClassFile.FieldType)) ∈ lw_all := lw_g (lw_at lw_m2 203 rfl) rfl
theorem q546 : (Jvm.Cond.methodLink "java/lang/String" (489 : Nat) ({ cls := "java/lang/String", name := "<init>", desc := "(Ljava/lang/AbstractStringBuilder;Ljava/lang/Void;)V" } : Jvm.MethodName)) ∈ lw_all := lw_g (lw_at lw_m2 204 rfl) rfl
theorem q547 : (Jvm.Cond.instanceMethod ({ cls := "java/lang/String", name := "<init>", desc := "(Ljava/lang/AbstractStringBuilder;Ljava/lang/Void;)V" } : Jvm.MethodName)) ∈ lw_all := lw_g (lw_at lw_m2 205 rfl) rfl
theorem q548 : (Jvm.Cond.code ({ cls := "java/lang/String", name := "<init>", desc := "(Ljava/lang/AbstractStringBuilder;Ljava/lang/Void;)V" } : Jvm.MethodName) prog_47_method_150_code (5 : Nat) (Option.none : Option Jvm.ClassFile.FieldType)) ∈ lw_all := lw_g (lw_at lw_m2 206 rfl) rfl
theorem q549 : (Jvm.Cond.methodLink "java/lang/String" (1 : Nat) ({ cls := "java/lang/Object", name := "<init>", desc := "()V" } : Jvm.MethodName)) ∈ lw_all := lw_g (lw_at lw_m2 207 rfl) rfl
theorem q550 : (Jvm.Cond.methodLink "java/lang/String" (552 : Nat) ({ cls := "java/lang/AbstractStringBuilder", name := "getValue", desc := "()[B" } : Jvm.MethodName)) ∈ lw_all := lw_g (lw_at lw_m2 208 rfl) rfl
theorem q555 : (Jvm.Cond.methodLink "java/lang/String" (549 : Nat) ({ cls := "java/lang/AbstractStringBuilder", name := "length", desc := "()I" } : Jvm.MethodName)) ∈ lw_all := lw_g (lw_at lw_m2 213 rfl) rfl
theorem q563 : (Jvm.Cond.methodLink "java/lang/String" (1047 : Nat) ({ cls := "java/lang/AbstractStringBuilder", name := "isLatin1", desc := "()Z" } : Jvm.MethodName)) ∈ lw_all := lw_g (lw_at lw_m2 221 rfl) rfl
theorem q564 : (Jvm.Cond.methodLink "java/lang/String" (54 : Nat) ({ cls := "java/util/Arrays", name := "copyOfRange", desc := "([BII)[B" } : Jvm.MethodName)) ∈ lw_all := lw_g (lw_at lw_m2 222 rfl) rfl
theorem q605 : (Jvm.Cond.methodLink "java/lang/String" (1051 : Nat) ({ cls := "java/lang/StringUTF16", name := "compress", desc := "([BII)[B" } : Jvm.MethodName)) ∈ lw_all := lw_g (lw_at lw_m3 23 rfl) rfl
theorem q615 : (Jvm.Cond.methodLink "java/lang/String" (47 : Nat) ({ cls := "java/lang/StringUTF16", name := "coderFromArrayLen", desc := "([BI)B" } : Jvm.MethodName)) ∈ lw_all := lw_g (lw_at lw_m3 33 rfl) rfl
theorem q618 : (Jvm.Cond.fieldLink "java/lang/String" (9 : Nat) "java/lang/String" "value" "[B") ∈ lw_all := lw_g (lw_at lw_m3 36 rfl) rfl
theorem q619 : (Jvm.Cond.fieldLink "java/lang/String" (15 : Nat) "java/lang/String" "coder" "B") ∈ lw_all := lw_g (lw_at lw_m3 37 rfl) rfl
theorem q620 : (Jvm.Cond.fieldLink "java/lang/String" (19 : Nat) "java/lang/String" "hash" "I") ∈ lw_all := lw_g (lw_at lw_m3 38 rfl) rfl
theorem q621 : (Jvm.Cond.fieldLink "java/lang/String" (23 : Nat) "java/lang/String" "hashIsZero" "Z") ∈ lw_all := lw_g (lw_at lw_m3 39 rfl) rfl
theorem q622 : (Jvm.Cond.laysFinal "java/lang/String" "java/lang/String" "value" "[B") ∈ lw_all := lw_g (lw_at lw_m3 40 rfl) rfl
theorem q623 : (Jvm.Cond.soleField "java/lang/String" "value") ∈ lw_all := lw_g (lw_at lw_m3 41 rfl) rfl
theorem q624 : (Jvm.Cond.laysFinal "java/lang/String" "java/lang/String" "coder" "B") ∈ lw_all := lw_g (lw_at lw_m3 42 rfl) rfl
theorem q625 : (Jvm.Cond.soleField "java/lang/String" "coder") ∈ lw_all := lw_g (lw_at lw_m3 43 rfl) rfl
theorem q626 : (Jvm.Cond.lays "java/lang/String" "java/lang/String" "hash" "I") ∈ lw_all := lw_g (lw_at lw_m3 44 rfl) rfl
theorem q627 : (Jvm.Cond.soleField "java/lang/String" "hash") ∈ lw_all := lw_g (lw_at lw_m3 45 rfl) rfl
theorem q628 : (Jvm.Cond.lays "java/lang/String" "java/lang/String" "hashIsZero" "Z") ∈ lw_all := lw_g (lw_at lw_m3 46 rfl) rfl
theorem q629 : (Jvm.Cond.soleField "java/lang/String" "hashIsZero") ∈ lw_all := lw_g (lw_at lw_m3 47 rfl) rfl
theorem q630 : (Jvm.Cond.superclass "java/lang/String" "java/lang/Object") ∈ lw_all := lw_g (lw_at lw_m3 48 rfl) rfl
theorem q809 : (Jvm.Cond.static ({ cls := "java/lang/String", name := "checkIndex", desc := "(II)V" } : Jvm.MethodName)) ∈ lw_all := lw_g (lw_at lw_m3 227 rfl) rfl
theorem q810 : (Jvm.Cond.code ({ cls := "java/lang/String", name := "checkIndex", desc := "(II)V" } : Jvm.MethodName) prog_47_method_155_code (2 : Nat) (Option.none : Option Jvm.ClassFile.FieldType)) ∈ lw_all := lw_g (lw_at lw_m3 228 rfl) rfl
theorem q811 : (Jvm.Cond.methodLink "java/lang/String" (1059 : Nat) ({ cls := "jdk/internal/util/Preconditions", name := "checkIndex", desc := "(IILjava/util/function/BiFunction;)I" } : Jvm.MethodName)) ∈ lw_all := lw_g (lw_at lw_m3 229 rfl) rfl
theorem q862 : (Jvm.Cond.castable "java/lang/String" "java/lang/CharSequence") ∈ lw_tbl := lw_at lw_m4 40 rfl
theorem q863 : (Jvm.Cond.selects "java/lang/String" ({ cls := "java/lang/CharSequence", name := "length", desc := "()I" } : Jvm.MethodName) ({ cls := "java/lang/String", name := "length", desc := "()I" } : Jvm.MethodName)) ∈ lw_all := lw_g (lw_at lw_m4 41 rfl) rfl
theorem q864 : (Jvm.Cond.unhidden "java/lang/String" "length" "()I") ∈ lw_tbl := lw_at lw_m4 42 rfl
theorem q865 : (Jvm.Cond.publicMethod ({ cls := "java/lang/String", name := "length", desc := "()I" } : Jvm.MethodName)) ∈ lw_tbl := lw_at lw_m4 43 rfl
theorem q891 : (Jvm.Cond.instanceMethod ({ cls := "java/lang/String", name := "isLatin1", desc := "()Z" } : Jvm.MethodName)) ∈ lw_all := lw_g (lw_at lw_m4 69 rfl) rfl
theorem q892 : (Jvm.Cond.selects "java/lang/String" ({ cls := "java/lang/String", name := "isLatin1", desc := "()Z" } : Jvm.MethodName) ({ cls := "java/lang/String", name := "isLatin1", desc := "()Z" } : Jvm.MethodName)) ∈ lw_all := lw_g (lw_at lw_m4 70 rfl) rfl
theorem q893 : (Jvm.Cond.code ({ cls := "java/lang/String", name := "isLatin1", desc := "()Z" } : Jvm.MethodName) prog_47_method_154_code (1 : Nat) (Option.some Jvm.ClassFile.FieldType.boolean)) ∈ lw_all := lw_g (lw_at lw_m4 71 rfl) rfl
theorem q895 : (Jvm.Cond.instanceMethod ({ cls := "java/lang/String", name := "value", desc := "()[B" } : Jvm.MethodName)) ∈ lw_all := lw_g (lw_at lw_m4 73 rfl) rfl
theorem q896 : (Jvm.Cond.selects "java/lang/String" ({ cls := "java/lang/String", name := "value", desc := "()[B" } : Jvm.MethodName) ({ cls := "java/lang/String", name := "value", desc := "()[B" } : Jvm.MethodName)) ∈ lw_all := lw_g (lw_at lw_m4 74 rfl) rfl
theorem q897 : (Jvm.Cond.code ({ cls := "java/lang/String", name := "value", desc := "()[B" } : Jvm.MethodName) prog_47_method_153_code (1 : Nat) (Option.some (Jvm.ClassFile.FieldType.array Jvm.ClassFile.FieldType.byte))) ∈ lw_all := lw_g (lw_at lw_m4 75 rfl) rfl
theorem q899 : (Jvm.Cond.instanceMethod ({ cls := "java/lang/String", name := "charAt", desc := "(I)C" } : Jvm.MethodName)) ∈ lw_all := lw_g (lw_at lw_m4 77 rfl) rfl
theorem q900 : (Jvm.Cond.selects "java/lang/String" ({ cls := "java/lang/String", name := "charAt", desc := "(I)C" } : Jvm.MethodName) ({ cls := "java/lang/String", name := "charAt", desc := "(I)C" } : Jvm.MethodName)) ∈ lw_all := lw_g (lw_at lw_m4 78 rfl) rfl
theorem q901 : (Jvm.Cond.code ({ cls := "java/lang/String", name := "charAt", desc := "(I)C" } : Jvm.MethodName) prog_47_method_56_code (2 : Nat) (Option.some Jvm.ClassFile.FieldType.char)) ∈ lw_all := lw_g (lw_at lw_m4 79 rfl) rfl
theorem q902 : (Jvm.Cond.methodLink "java/lang/String" (492 : Nat) ({ cls := "java/lang/String", name := "isLatin1", desc := "()Z" } : Jvm.MethodName)) ∈ lw_all := lw_g (lw_at lw_m4 80 rfl) rfl
theorem q903 : (Jvm.Cond.methodLink "java/lang/String" (495 : Nat) ({ cls := "java/lang/StringLatin1", name := "charAt", desc := "([BI)C" } : Jvm.MethodName)) ∈ lw_all := lw_g (lw_at lw_m4 81 rfl) rfl
theorem q907 : (Jvm.Cond.methodLink "java/lang/String" (498 : Nat) ({ cls := "java/lang/StringUTF16", name := "charAt", desc := "([BI)C" } : Jvm.MethodName)) ∈ lw_all := lw_g (lw_at lw_m4 85 rfl) rfl
theorem q917 : (Jvm.Cond.selects "java/lang/String" ({ cls := "java/lang/CharSequence", name := "charAt", desc := "(I)C" } : Jvm.MethodName) ({ cls := "java/lang/String", name := "charAt", desc := "(I)C" } : Jvm.MethodName)) ∈ lw_all := lw_g (lw_at lw_m4 95 rfl) rfl
theorem q918 : (Jvm.Cond.unhidden "java/lang/String" "charAt" "(I)C") ∈ lw_tbl := lw_at lw_m4 96 rfl
theorem q919 : (Jvm.Cond.publicMethod ({ cls := "java/lang/String", name := "charAt", desc := "(I)C" } : Jvm.MethodName)) ∈ lw_tbl := lw_at lw_m4 97 rfl
theorem q956 : (Jvm.Cond.static ({ cls := "java/lang/String", name := "valueOf", desc := "(Ljava/lang/Object;)Ljava/lang/String;" } : Jvm.MethodName)) ∈ lw_all := lw_g (lw_at lw_m4 134 rfl) rfl
theorem q957 : (Jvm.Cond.code ({ cls := "java/lang/String", name := "valueOf", desc := "(Ljava/lang/Object;)Ljava/lang/String;" } : Jvm.MethodName) prog_47_method_133_code (1 : Nat) (Option.some (Jvm.ClassFile.FieldType.object "java/lang/String"))) ∈ lw_all := lw_g (lw_at lw_m4 135 rfl) rfl
theorem q958 : (Jvm.Cond.stringRef "java/lang/String" (1005 : Nat) "null") ∈ lw_tbl := lw_at lw_m4 136 rfl
theorem q960 : (Jvm.Cond.methodLink "java/lang/String" (1007 : Nat) ({ cls := "java/lang/Object", name := "toString", desc := "()Ljava/lang/String;" } : Jvm.MethodName)) ∈ lw_all := lw_g (lw_at lw_m4 138 rfl) rfl
theorem q1009 : (Jvm.Cond.selects "java/lang/String" ({ cls := "java/lang/Object", name := "getClass", desc := "()Ljava/lang/Class;" } : Jvm.MethodName) ({ cls := "java/lang/Object", name := "getClass", desc := "()Ljava/lang/Class;" } : Jvm.MethodName)) ∈ lw_all := lw_g (lw_at lw_m4 187 rfl) rfl
theorem q1073 : (Jvm.Cond.instanceMethod ({ cls := "java/lang/String", name := "<init>", desc := "([BB)V" } : Jvm.MethodName)) ∈ lw_all := lw_g (lw_at lw_m5 11 rfl) rfl
theorem q1074 : (Jvm.Cond.code ({ cls := "java/lang/String", name := "<init>", desc := "([BB)V" } : Jvm.MethodName) prog_47_method_151_code (3 : Nat) (Option.none : Option Jvm.ClassFile.FieldType)) ∈ lw_all := lw_g (lw_at lw_m5 12 rfl) rfl
theorem q1076 : (Jvm.Cond.selects "java/lang/String" ({ cls := "java/lang/Object", name := "toString", desc := "()Ljava/lang/String;" } : Jvm.MethodName) ({ cls := "java/lang/String", name := "toString", desc := "()Ljava/lang/String;" } : Jvm.MethodName)) ∈ lw_all := lw_g (lw_at lw_m5 14 rfl) rfl
theorem q1077 : (Jvm.Cond.instanceMethod ({ cls := "java/lang/String", name := "toString", desc := "()Ljava/lang/String;" } : Jvm.MethodName)) ∈ lw_all := lw_g (lw_at lw_m5 15 rfl) rfl
theorem q1078 : (Jvm.Cond.code ({ cls := "java/lang/String", name := "toString", desc := "()Ljava/lang/String;" } : Jvm.MethodName) prog_47_method_126_code (1 : Nat) (Option.some (Jvm.ClassFile.FieldType.object "java/lang/String"))) ∈ lw_all := lw_g (lw_at lw_m5 16 rfl) rfl
theorem q1746 : (Jvm.Cond.selects "java/lang/String" ({ cls := "java/lang/Object", name := "hashCode", desc := "()I" } : Jvm.MethodName) ({ cls := "java/lang/String", name := "hashCode", desc := "()I" } : Jvm.MethodName)) ∈ lw_all := lw_g (lw_at lw_m7 204 rfl) rfl
theorem q1747 : (Jvm.Cond.instanceMethod ({ cls := "java/lang/String", name := "hashCode", desc := "()I" } : Jvm.MethodName)) ∈ lw_all := lw_g (lw_at lw_m7 205 rfl) rfl
theorem q1748 : (Jvm.Cond.code ({ cls := "java/lang/String", name := "hashCode", desc := "()I" } : Jvm.MethodName) prog_47_method_78_code (2 : Nat) (Option.some Jvm.ClassFile.FieldType.int)) ∈ lw_all := lw_g (lw_at lw_m7 206 rfl) rfl
theorem q1749 : (Jvm.Cond.methodLink "java/lang/String" (628 : Nat) ({ cls := "java/lang/StringLatin1", name := "hashCode", desc := "([B)I" } : Jvm.MethodName)) ∈ lw_all := lw_g (lw_at lw_m7 207 rfl) rfl
theorem q1798 : (Jvm.Cond.methodLink "java/lang/String" (632 : Nat) ({ cls := "java/lang/StringUTF16", name := "hashCode", desc := "([B)I" } : Jvm.MethodName)) ∈ lw_all := lw_g (lw_at lw_m8 16 rfl) rfl
theorem q1959 : (Jvm.Cond.castable "java/lang/String" "java/lang/Comparable") ∈ lw_tbl := lw_at lw_m8 177 rfl
theorem q1960 : (Jvm.Cond.selects "java/lang/String" ({ cls := "java/lang/Comparable", name := "compareTo", desc := "(Ljava/lang/Object;)I" } : Jvm.MethodName) ({ cls := "java/lang/String", name := "compareTo", desc := "(Ljava/lang/Object;)I" } : Jvm.MethodName)) ∈ lw_all := lw_g (lw_at lw_m8 178 rfl) rfl
theorem q1961 : (Jvm.Cond.unhidden "java/lang/String" "compareTo" "(Ljava/lang/Object;)I") ∈ lw_tbl := lw_at lw_m8 179 rfl
theorem q1962 : (Jvm.Cond.instanceMethod ({ cls := "java/lang/String", name := "compareTo", desc := "(Ljava/lang/Object;)I" } : Jvm.MethodName)) ∈ lw_all := lw_g (lw_at lw_m8 180 rfl) rfl
theorem q1963 : (Jvm.Cond.publicMethod ({ cls := "java/lang/String", name := "compareTo", desc := "(Ljava/lang/Object;)I" } : Jvm.MethodName)) ∈ lw_tbl := lw_at lw_m8 181 rfl
theorem q1964 : (Jvm.Cond.code ({ cls := "java/lang/String", name := "compareTo", desc := "(Ljava/lang/Object;)I" } : Jvm.MethodName) prog_47_method_162_code (2 : Nat) (Option.some Jvm.ClassFile.FieldType.int)) ∈ lw_all := lw_g (lw_at lw_m8 182 rfl) rfl
theorem q1965 : (Jvm.Cond.classLink "java/lang/String" (10 : Nat) "java/lang/String") ∈ lw_all := lw_g (lw_at lw_m8 183 rfl) rfl
theorem q1966 : (Jvm.Cond.methodLink "java/lang/String" (1084 : Nat) ({ cls := "java/lang/String", name := "compareTo", desc := "(Ljava/lang/String;)I" } : Jvm.MethodName)) ∈ lw_all := lw_g (lw_at lw_m8 184 rfl) rfl
theorem q1967 : (Jvm.Cond.instanceMethod ({ cls := "java/lang/String", name := "compareTo", desc := "(Ljava/lang/String;)I" } : Jvm.MethodName)) ∈ lw_all := lw_g (lw_at lw_m8 185 rfl) rfl
theorem q1968 : (Jvm.Cond.selects "java/lang/String" ({ cls := "java/lang/String", name := "compareTo", desc := "(Ljava/lang/String;)I" } : Jvm.MethodName) ({ cls := "java/lang/String", name := "compareTo", desc := "(Ljava/lang/String;)I" } : Jvm.MethodName)) ∈ lw_all := lw_g (lw_at lw_m8 186 rfl) rfl
theorem q1969 : (Jvm.Cond.code ({ cls := "java/lang/String", name := "compareTo", desc := "(Ljava/lang/String;)I" } : Jvm.MethodName) prog_47_method_71_code (5 : Nat) (Option.some Jvm.ClassFile.FieldType.int)) ∈ lw_all := lw_g (lw_at lw_m8 187 rfl) rfl
theorem q1970 : (Jvm.Cond.methodLink "java/lang/String" (586 : Nat) ({ cls := "java/lang/StringLatin1", name := "compareTo", desc := "([B[B)I" } : Jvm.MethodName)) ∈ lw_all := lw_g (lw_at lw_m8 188 rfl) rfl
theorem q2081 : (Jvm.Cond.methodLink "java/lang/String" (590 : Nat) ({ cls := "java/lang/StringUTF16", name := "compareTo", desc := "([B[B)I" } : Jvm.MethodName)) ∈ lw_all := lw_g (lw_at lw_m9 59 rfl) rfl
theorem q2088 : (Jvm.Cond.methodLink "java/lang/String" (591 : Nat) ({ cls := "java/lang/StringLatin1", name := "compareToUTF16", desc := "([B[B)I" } : Jvm.MethodName)) ∈ lw_all := lw_g (lw_at lw_m9 66 rfl) rfl
theorem q2099 : (Jvm.Cond.methodLink "java/lang/String" (594 : Nat) ({ cls := "java/lang/StringUTF16", name := "compareToLatin1", desc := "([B[B)I" } : Jvm.MethodName)) ∈ lw_all := lw_g (lw_at lw_m9 77 rfl) rfl
theorem q2125 : (Jvm.Cond.static ({ cls := "java/lang/String", name := "checkOffset", desc := "(II)V" } : Jvm.MethodName)) ∈ lw_all := lw_g (lw_at lw_m9 103 rfl) rfl
theorem q2126 : (Jvm.Cond.code ({ cls := "java/lang/String", name := "checkOffset", desc := "(II)V" } : Jvm.MethodName) prog_47_method_156_code (2 : Nat) (Option.none : Option Jvm.ClassFile.FieldType)) ∈ lw_all := lw_g (lw_at lw_m9 104 rfl) rfl
theorem q2200 : (Jvm.Cond.selects "java/lang/String" ({ cls := "java/lang/Object", name := "equals", desc := "(Ljava/lang/Object;)Z" } : Jvm.MethodName) ({ cls := "java/lang/String", name := "equals", desc := "(Ljava/lang/Object;)Z" } : Jvm.MethodName)) ∈ lw_all := lw_g (lw_at lw_m9 178 rfl) rfl
theorem q2201 : (Jvm.Cond.instanceMethod ({ cls := "java/lang/String", name := "equals", desc := "(Ljava/lang/Object;)Z" } : Jvm.MethodName)) ∈ lw_all := lw_g (lw_at lw_m9 179 rfl) rfl
theorem q2202 : (Jvm.Cond.code ({ cls := "java/lang/String", name := "equals", desc := "(Ljava/lang/Object;)Z" } : Jvm.MethodName) prog_47_method_66_code (3 : Nat) (Option.some Jvm.ClassFile.FieldType.boolean)) ∈ lw_all := lw_g (lw_at lw_m9 180 rfl) rfl
theorem q2203 : (Jvm.Cond.methodLink "java/lang/String" (541 : Nat) ({ cls := "java/lang/StringLatin1", name := "equals", desc := "([B[B)Z" } : Jvm.MethodName)) ∈ lw_all := lw_g (lw_at lw_m9 181 rfl) rfl
theorem q4436 : (Jvm.Cond.castable "java/lang/String" "java/lang/Object") ∈ lw_tbl := lw_at lw_m19 14 rfl

set_option maxRecDepth 100000
abbrev cJ21_inflate : ByteArray := prog_51_method_50_code
def yJ21_inflate : MethodName := ⟨RJ21, "inflate", "([BI[BII)V"⟩
def dkwJ21_inflate_0 : List UInt8 := [42, 27, 44, 29, 21, 4, 184, 0, 240, 177]
abbrev dktJ21_inflate_0 : List UInt8 := dkwJ21_inflate_0 ++ []
theorem dksJ21_inflate_0 : cJ21_inflate.data.toList.drop 0 = dktJ21_inflate_0 := by decide +kernel
theorem dJ21_inflate_0 : decode cJ21_inflate 0 = .ok (.aload_n 0, 1) := dk_42 (dk_at dksJ21_inflate_0 0 rfl rfl)
theorem dJ21_inflate_1 : decode cJ21_inflate 1 = .ok (.iload_n 1, 1) := dk_27 (dk_at dksJ21_inflate_0 1 rfl rfl)
theorem dJ21_inflate_2 : decode cJ21_inflate 2 = .ok (.aload_n 2, 1) := dk_44 (dk_at dksJ21_inflate_0 2 rfl rfl)
theorem dJ21_inflate_3 : decode cJ21_inflate 3 = .ok (.iload_n 3, 1) := dk_29 (dk_at dksJ21_inflate_0 3 rfl rfl)
theorem dJ21_inflate_4 : decode cJ21_inflate 4 = .ok (.iload 4, 2) := dk_21 4 (dk_at dksJ21_inflate_0 4 rfl rfl)
theorem dJ21_inflate_6 : decode cJ21_inflate 6 = .ok (.invokestatic 240, 3) := dk_184 0 240 (dk_at dksJ21_inflate_0 6 rfl rfl)
theorem dJ21_inflate_9 : decode cJ21_inflate 9 = .ok (.return_, 1) := dk_177 (dk_at dksJ21_inflate_0 9 rfl rfl)
abbrev cJ21_canEncode : ByteArray := prog_51_method_3_code
def yJ21_canEncode : MethodName := ⟨RJ21, "canEncode", "(C)Z"⟩
def dkwJ21_canEncode_0 : List UInt8 := [26, 17, 0, 255, 163, 0, 7, 4, 167, 0, 4, 3, 172]
abbrev dktJ21_canEncode_0 : List UInt8 := dkwJ21_canEncode_0 ++ []
theorem dksJ21_canEncode_0 : cJ21_canEncode.data.toList.drop 0 = dktJ21_canEncode_0 := by decide +kernel
theorem dJ21_canEncode_0 : decode cJ21_canEncode 0 = .ok (.iload_n 0, 1) := dk_26 (dk_at dksJ21_canEncode_0 0 rfl rfl)
theorem dJ21_canEncode_1 : decode cJ21_canEncode 1 = .ok (.sipush 255, 3) := dk_17 0 255 (dk_at dksJ21_canEncode_0 1 rfl rfl)
theorem dJ21_canEncode_4 : decode cJ21_canEncode 4 = .ok (.if_icmp .gt 7, 3) := dk_163 0 7 (dk_at dksJ21_canEncode_0 4 rfl rfl)
theorem dJ21_canEncode_7 : decode cJ21_canEncode 7 = .ok (.iconst 1, 1) := dk_4 (dk_at dksJ21_canEncode_0 7 rfl rfl)
theorem dJ21_canEncode_8 : decode cJ21_canEncode 8 = .ok (.goto 4, 3) := dk_167 0 4 (dk_at dksJ21_canEncode_0 8 rfl rfl)
theorem dJ21_canEncode_11 : decode cJ21_canEncode 11 = .ok (.iconst 0, 1) := dk_3 (dk_at dksJ21_canEncode_0 11 rfl rfl)
theorem dJ21_canEncode_12 : decode cJ21_canEncode 12 = .ok (.ireturn, 1) := dk_172 (dk_at dksJ21_canEncode_0 12 rfl rfl)
abbrev cJ21_charAt : ByteArray := prog_51_method_2_code
def yJ21_charAt : MethodName := ⟨RJ21, "charAt", "([BI)C"⟩
def dkwJ21_charAt_0 : List UInt8 := [27, 42, 190, 184, 0, 9, 42, 27, 51, 17, 0, 255, 126, 146, 172]
abbrev dktJ21_charAt_0 : List UInt8 := dkwJ21_charAt_0 ++ []
theorem dksJ21_charAt_0 : cJ21_charAt.data.toList.drop 0 = dktJ21_charAt_0 := by decide +kernel
theorem dJ21_charAt_0 : decode cJ21_charAt 0 = .ok (.iload_n 1, 1) := dk_27 (dk_at dksJ21_charAt_0 0 rfl rfl)
theorem dJ21_charAt_1 : decode cJ21_charAt 1 = .ok (.aload_n 0, 1) := dk_42 (dk_at dksJ21_charAt_0 1 rfl rfl)
theorem dJ21_charAt_2 : decode cJ21_charAt 2 = .ok (.arraylength, 1) := dk_190 (dk_at dksJ21_charAt_0 2 rfl rfl)
theorem dJ21_charAt_3 : decode cJ21_charAt 3 = .ok (.invokestatic 9, 3) := dk_184 0 9 (dk_at dksJ21_charAt_0 3 rfl rfl)
theorem dJ21_charAt_6 : decode cJ21_charAt 6 = .ok (.aload_n 0, 1) := dk_42 (dk_at dksJ21_charAt_0 6 rfl rfl)
theorem dJ21_charAt_7 : decode cJ21_charAt 7 = .ok (.iload_n 1, 1) := dk_27 (dk_at dksJ21_charAt_0 7 rfl rfl)
theorem dJ21_charAt_8 : decode cJ21_charAt 8 = .ok (.baload, 1) := dk_51 (dk_at dksJ21_charAt_0 8 rfl rfl)
theorem dJ21_charAt_9 : decode cJ21_charAt 9 = .ok (.sipush 255, 3) := dk_17 0 255 (dk_at dksJ21_charAt_0 9 rfl rfl)
theorem dJ21_charAt_12 : decode cJ21_charAt 12 = .ok (.iand, 1) := dk_126 (dk_at dksJ21_charAt_0 12 rfl rfl)
theorem dJ21_charAt_13 : decode cJ21_charAt 13 = .ok (.i2c, 1) := dk_146 (dk_at dksJ21_charAt_0 13 rfl rfl)
theorem dJ21_charAt_14 : decode cJ21_charAt 14 = .ok (.ireturn, 1) := dk_172 (dk_at dksJ21_charAt_0 14 rfl rfl)
abbrev cJ21_fillNull : ByteArray := prog_51_method_48_code
def yJ21_fillNull : MethodName := ⟨RJ21, "fillNull", "([BII)V"⟩
def dkwJ21_fillNull_0 : List UInt8 := [42, 27, 28, 3, 184, 0, 236, 177]
abbrev dktJ21_fillNull_0 : List UInt8 := dkwJ21_fillNull_0 ++ []
theorem dksJ21_fillNull_0 : cJ21_fillNull.data.toList.drop 0 = dktJ21_fillNull_0 := by decide +kernel
theorem dJ21_fillNull_0 : decode cJ21_fillNull 0 = .ok (.aload_n 0, 1) := dk_42 (dk_at dksJ21_fillNull_0 0 rfl rfl)
theorem dJ21_fillNull_1 : decode cJ21_fillNull 1 = .ok (.iload_n 1, 1) := dk_27 (dk_at dksJ21_fillNull_0 1 rfl rfl)
theorem dJ21_fillNull_2 : decode cJ21_fillNull 2 = .ok (.iload_n 2, 1) := dk_28 (dk_at dksJ21_fillNull_0 2 rfl rfl)
theorem dJ21_fillNull_3 : decode cJ21_fillNull 3 = .ok (.iconst 0, 1) := dk_3 (dk_at dksJ21_fillNull_0 3 rfl rfl)
theorem dJ21_fillNull_4 : decode cJ21_fillNull 4 = .ok (.invokestatic 236, 3) := dk_184 0 236 (dk_at dksJ21_fillNull_0 4 rfl rfl)
theorem dJ21_fillNull_7 : decode cJ21_fillNull 7 = .ok (.return_, 1) := dk_177 (dk_at dksJ21_fillNull_0 7 rfl rfl)
abbrev cJ21_hashCode : ByteArray := prog_51_method_21_code
def yJ21_hashCode : MethodName := ⟨RJ21, "hashCode", "([B)I"⟩
def dkwJ21_hashCode_2 : List UInt8 := [3, 167, 0, 22, 42, 3, 51, 17, 0, 255, 126, 167, 0, 12, 42, 3, 42, 190, 3, 7, 184, 0, 84, 172]
abbrev dktJ21_hashCode_2 : List UInt8 := dkwJ21_hashCode_2 ++ []
def dkwJ21_hashCode_1 : List UInt8 := [171, 0, 0, 0, 0, 40, 0, 0, 0, 2, 0, 0, 0, 0, 0, 0, 0, 26, 0, 0, 0, 1, 0, 0, 0, 30]
abbrev dktJ21_hashCode_1 : List UInt8 := dkwJ21_hashCode_1 ++ dktJ21_hashCode_2
def dkwJ21_hashCode_0 : List UInt8 := [42, 190]
abbrev dktJ21_hashCode_0 : List UInt8 := dkwJ21_hashCode_0 ++ dktJ21_hashCode_1
theorem dksJ21_hashCode_0 : cJ21_hashCode.data.toList.drop 0 = dktJ21_hashCode_0 := by decide +kernel
theorem dksJ21_hashCode_1 : cJ21_hashCode.data.toList.drop 2 = dktJ21_hashCode_1 := dk_seg dksJ21_hashCode_0 2 rfl rfl
theorem dksJ21_hashCode_2 : cJ21_hashCode.data.toList.drop 28 = dktJ21_hashCode_2 := dk_seg dksJ21_hashCode_1 26 rfl rfl
theorem dJ21_hashCode_0 : decode cJ21_hashCode 0 = .ok (.aload_n 0, 1) := dk_42 (dk_at dksJ21_hashCode_0 0 rfl rfl)
theorem dJ21_hashCode_1 : decode cJ21_hashCode 1 = .ok (.arraylength, 1) := dk_190 (dk_at dksJ21_hashCode_0 1 rfl rfl)
theorem dJ21_hashCode_2 : decode cJ21_hashCode 2 = .ok (.lookupswitch 40 #[(0, 26), (1, 30)], 26) := by decide +kernel
theorem dJ21_hashCode_28 : decode cJ21_hashCode 28 = .ok (.iconst 0, 1) := dk_3 (dk_at dksJ21_hashCode_2 0 rfl rfl)
theorem dJ21_hashCode_29 : decode cJ21_hashCode 29 = .ok (.goto 22, 3) := dk_167 0 22 (dk_at dksJ21_hashCode_2 1 rfl rfl)
theorem dJ21_hashCode_32 : decode cJ21_hashCode 32 = .ok (.aload_n 0, 1) := dk_42 (dk_at dksJ21_hashCode_2 4 rfl rfl)
theorem dJ21_hashCode_33 : decode cJ21_hashCode 33 = .ok (.iconst 0, 1) := dk_3 (dk_at dksJ21_hashCode_2 5 rfl rfl)
theorem dJ21_hashCode_34 : decode cJ21_hashCode 34 = .ok (.baload, 1) := dk_51 (dk_at dksJ21_hashCode_2 6 rfl rfl)
theorem dJ21_hashCode_35 : decode cJ21_hashCode 35 = .ok (.sipush 255, 3) := dk_17 0 255 (dk_at dksJ21_hashCode_2 7 rfl rfl)
theorem dJ21_hashCode_38 : decode cJ21_hashCode 38 = .ok (.iand, 1) := dk_126 (dk_at dksJ21_hashCode_2 10 rfl rfl)
theorem dJ21_hashCode_39 : decode cJ21_hashCode 39 = .ok (.goto 12, 3) := dk_167 0 12 (dk_at dksJ21_hashCode_2 11 rfl rfl)
theorem dJ21_hashCode_42 : decode cJ21_hashCode 42 = .ok (.aload_n 0, 1) := dk_42 (dk_at dksJ21_hashCode_2 14 rfl rfl)
theorem dJ21_hashCode_43 : decode cJ21_hashCode 43 = .ok (.iconst 0, 1) := dk_3 (dk_at dksJ21_hashCode_2 15 rfl rfl)
theorem dJ21_hashCode_44 : decode cJ21_hashCode 44 = .ok (.aload_n 0, 1) := dk_42 (dk_at dksJ21_hashCode_2 16 rfl rfl)
theorem dJ21_hashCode_45 : decode cJ21_hashCode 45 = .ok (.arraylength, 1) := dk_190 (dk_at dksJ21_hashCode_2 17 rfl rfl)
theorem dJ21_hashCode_46 : decode cJ21_hashCode 46 = .ok (.iconst 0, 1) := dk_3 (dk_at dksJ21_hashCode_2 18 rfl rfl)
theorem dJ21_hashCode_47 : decode cJ21_hashCode 47 = .ok (.iconst 4, 1) := dk_7 (dk_at dksJ21_hashCode_2 19 rfl rfl)
theorem dJ21_hashCode_48 : decode cJ21_hashCode 48 = .ok (.invokestatic 84, 3) := dk_184 0 84 (dk_at dksJ21_hashCode_2 20 rfl rfl)
theorem dJ21_hashCode_51 : decode cJ21_hashCode 51 = .ok (.ireturn, 1) := dk_172 (dk_at dksJ21_hashCode_2 23 rfl rfl)
abbrev cJ21_compareTo : ByteArray := prog_51_method_14_code
def yJ21_compareTo : MethodName := ⟨RJ21, "compareTo", "([B[B)I"⟩
def dkwJ21_compareTo_0 : List UInt8 := [42, 190, 61, 43, 190, 62, 42, 43, 28, 29, 184, 0, 34, 172]
abbrev dktJ21_compareTo_0 : List UInt8 := dkwJ21_compareTo_0 ++ []
theorem dksJ21_compareTo_0 : cJ21_compareTo.data.toList.drop 0 = dktJ21_compareTo_0 := by decide +kernel
theorem dJ21_compareTo_0 : decode cJ21_compareTo 0 = .ok (.aload_n 0, 1) := dk_42 (dk_at dksJ21_compareTo_0 0 rfl rfl)
theorem dJ21_compareTo_1 : decode cJ21_compareTo 1 = .ok (.arraylength, 1) := dk_190 (dk_at dksJ21_compareTo_0 1 rfl rfl)
theorem dJ21_compareTo_2 : decode cJ21_compareTo 2 = .ok (.istore_n 2, 1) := dk_61 (dk_at dksJ21_compareTo_0 2 rfl rfl)
theorem dJ21_compareTo_3 : decode cJ21_compareTo 3 = .ok (.aload_n 1, 1) := dk_43 (dk_at dksJ21_compareTo_0 3 rfl rfl)
theorem dJ21_compareTo_4 : decode cJ21_compareTo 4 = .ok (.arraylength, 1) := dk_190 (dk_at dksJ21_compareTo_0 4 rfl rfl)
theorem dJ21_compareTo_5 : decode cJ21_compareTo 5 = .ok (.istore_n 3, 1) := dk_62 (dk_at dksJ21_compareTo_0 5 rfl rfl)
theorem dJ21_compareTo_6 : decode cJ21_compareTo 6 = .ok (.aload_n 0, 1) := dk_42 (dk_at dksJ21_compareTo_0 6 rfl rfl)
theorem dJ21_compareTo_7 : decode cJ21_compareTo 7 = .ok (.aload_n 1, 1) := dk_43 (dk_at dksJ21_compareTo_0 7 rfl rfl)
theorem dJ21_compareTo_8 : decode cJ21_compareTo 8 = .ok (.iload_n 2, 1) := dk_28 (dk_at dksJ21_compareTo_0 8 rfl rfl)
theorem dJ21_compareTo_9 : decode cJ21_compareTo 9 = .ok (.iload_n 3, 1) := dk_29 (dk_at dksJ21_compareTo_0 9 rfl rfl)
theorem dJ21_compareTo_10 : decode cJ21_compareTo 10 = .ok (.invokestatic 34, 3) := dk_184 0 34 (dk_at dksJ21_compareTo_0 10 rfl rfl)
theorem dJ21_compareTo_13 : decode cJ21_compareTo 13 = .ok (.ireturn, 1) := dk_172 (dk_at dksJ21_compareTo_0 13 rfl rfl)
abbrev cJ21_compareTo_2 : ByteArray := prog_51_method_15_code
def yJ21_compareTo_2 : MethodName := ⟨RJ21, "compareTo", "([B[BII)I"⟩
def dkwJ21_compareTo_2_1 : List UInt8 := [167, 0, 16, 42, 21, 5, 184, 0, 50, 43, 21, 5, 184, 0, 50, 100, 172]
abbrev dktJ21_compareTo_2_1 : List UInt8 := dkwJ21_compareTo_2_1 ++ []
def dkwJ21_compareTo_2_0 : List UInt8 := [28, 29, 184, 0, 38, 54, 4, 42, 43, 21, 4, 184, 0, 44, 54, 5, 21, 5, 156, 0, 9, 28, 29, 100]
abbrev dktJ21_compareTo_2_0 : List UInt8 := dkwJ21_compareTo_2_0 ++ dktJ21_compareTo_2_1
theorem dksJ21_compareTo_2_0 : cJ21_compareTo_2.data.toList.drop 0 = dktJ21_compareTo_2_0 := by decide +kernel
theorem dksJ21_compareTo_2_1 : cJ21_compareTo_2.data.toList.drop 24 = dktJ21_compareTo_2_1 := dk_seg dksJ21_compareTo_2_0 24 rfl rfl
theorem dJ21_compareTo_2_0 : decode cJ21_compareTo_2 0 = .ok (.iload_n 2, 1) := dk_28 (dk_at dksJ21_compareTo_2_0 0 rfl rfl)
theorem dJ21_compareTo_2_1 : decode cJ21_compareTo_2 1 = .ok (.iload_n 3, 1) := dk_29 (dk_at dksJ21_compareTo_2_0 1 rfl rfl)
theorem dJ21_compareTo_2_2 : decode cJ21_compareTo_2 2 = .ok (.invokestatic 38, 3) := dk_184 0 38 (dk_at dksJ21_compareTo_2_0 2 rfl rfl)
theorem dJ21_compareTo_2_5 : decode cJ21_compareTo_2 5 = .ok (.istore 4, 2) := dk_54 4 (dk_at dksJ21_compareTo_2_0 5 rfl rfl)
theorem dJ21_compareTo_2_7 : decode cJ21_compareTo_2 7 = .ok (.aload_n 0, 1) := dk_42 (dk_at dksJ21_compareTo_2_0 7 rfl rfl)
theorem dJ21_compareTo_2_8 : decode cJ21_compareTo_2 8 = .ok (.aload_n 1, 1) := dk_43 (dk_at dksJ21_compareTo_2_0 8 rfl rfl)
theorem dJ21_compareTo_2_9 : decode cJ21_compareTo_2 9 = .ok (.iload 4, 2) := dk_21 4 (dk_at dksJ21_compareTo_2_0 9 rfl rfl)
theorem dJ21_compareTo_2_11 : decode cJ21_compareTo_2 11 = .ok (.invokestatic 44, 3) := dk_184 0 44 (dk_at dksJ21_compareTo_2_0 11 rfl rfl)
theorem dJ21_compareTo_2_14 : decode cJ21_compareTo_2 14 = .ok (.istore 5, 2) := dk_54 5 (dk_at dksJ21_compareTo_2_0 14 rfl rfl)
theorem dJ21_compareTo_2_16 : decode cJ21_compareTo_2 16 = .ok (.iload 5, 2) := dk_21 5 (dk_at dksJ21_compareTo_2_0 16 rfl rfl)
theorem dJ21_compareTo_2_18 : decode cJ21_compareTo_2 18 = .ok (.ifCond .ge 9, 3) := dk_156 0 9 (dk_at dksJ21_compareTo_2_0 18 rfl rfl)
theorem dJ21_compareTo_2_21 : decode cJ21_compareTo_2 21 = .ok (.iload_n 2, 1) := dk_28 (dk_at dksJ21_compareTo_2_0 21 rfl rfl)
theorem dJ21_compareTo_2_22 : decode cJ21_compareTo_2 22 = .ok (.iload_n 3, 1) := dk_29 (dk_at dksJ21_compareTo_2_0 22 rfl rfl)
theorem dJ21_compareTo_2_23 : decode cJ21_compareTo_2 23 = .ok (.isub, 1) := dk_100 (dk_at dksJ21_compareTo_2_0 23 rfl rfl)
theorem dJ21_compareTo_2_24 : decode cJ21_compareTo_2 24 = .ok (.goto 16, 3) := dk_167 0 16 (dk_at dksJ21_compareTo_2_1 0 rfl rfl)
theorem dJ21_compareTo_2_27 : decode cJ21_compareTo_2 27 = .ok (.aload_n 0, 1) := dk_42 (dk_at dksJ21_compareTo_2_1 3 rfl rfl)
theorem dJ21_compareTo_2_28 : decode cJ21_compareTo_2 28 = .ok (.iload 5, 2) := dk_21 5 (dk_at dksJ21_compareTo_2_1 4 rfl rfl)
theorem dJ21_compareTo_2_30 : decode cJ21_compareTo_2 30 = .ok (.invokestatic 50, 3) := dk_184 0 50 (dk_at dksJ21_compareTo_2_1 6 rfl rfl)
theorem dJ21_compareTo_2_33 : decode cJ21_compareTo_2 33 = .ok (.aload_n 1, 1) := dk_43 (dk_at dksJ21_compareTo_2_1 9 rfl rfl)
theorem dJ21_compareTo_2_34 : decode cJ21_compareTo_2 34 = .ok (.iload 5, 2) := dk_21 5 (dk_at dksJ21_compareTo_2_1 10 rfl rfl)
theorem dJ21_compareTo_2_36 : decode cJ21_compareTo_2 36 = .ok (.invokestatic 50, 3) := dk_184 0 50 (dk_at dksJ21_compareTo_2_1 12 rfl rfl)
theorem dJ21_compareTo_2_39 : decode cJ21_compareTo_2 39 = .ok (.isub, 1) := dk_100 (dk_at dksJ21_compareTo_2_1 15 rfl rfl)
theorem dJ21_compareTo_2_40 : decode cJ21_compareTo_2 40 = .ok (.ireturn, 1) := dk_172 (dk_at dksJ21_compareTo_2_1 16 rfl rfl)
abbrev cJ21_getChar : ByteArray := prog_51_method_44_code
def yJ21_getChar : MethodName := ⟨RJ21, "getChar", "([BI)C"⟩
def dkwJ21_getChar_0 : List UInt8 := [42, 27, 51, 17, 0, 255, 126, 146, 172]
abbrev dktJ21_getChar_0 : List UInt8 := dkwJ21_getChar_0 ++ []
theorem dksJ21_getChar_0 : cJ21_getChar.data.toList.drop 0 = dktJ21_getChar_0 := by decide +kernel
theorem dJ21_getChar_0 : decode cJ21_getChar 0 = .ok (.aload_n 0, 1) := dk_42 (dk_at dksJ21_getChar_0 0 rfl rfl)
theorem dJ21_getChar_1 : decode cJ21_getChar 1 = .ok (.iload_n 1, 1) := dk_27 (dk_at dksJ21_getChar_0 1 rfl rfl)
theorem dJ21_getChar_2 : decode cJ21_getChar 2 = .ok (.baload, 1) := dk_51 (dk_at dksJ21_getChar_0 2 rfl rfl)
theorem dJ21_getChar_3 : decode cJ21_getChar 3 = .ok (.sipush 255, 3) := dk_17 0 255 (dk_at dksJ21_getChar_0 3 rfl rfl)
theorem dJ21_getChar_6 : decode cJ21_getChar 6 = .ok (.iand, 1) := dk_126 (dk_at dksJ21_getChar_0 6 rfl rfl)
theorem dJ21_getChar_7 : decode cJ21_getChar 7 = .ok (.i2c, 1) := dk_146 (dk_at dksJ21_getChar_0 7 rfl rfl)
theorem dJ21_getChar_8 : decode cJ21_getChar 8 = .ok (.ireturn, 1) := dk_172 (dk_at dksJ21_getChar_0 8 rfl rfl)
abbrev cJ21_compareToUTF16 : ByteArray := prog_51_method_16_code
def yJ21_compareToUTF16 : MethodName := ⟨RJ21, "compareToUTF16", "([B[B)I"⟩
def dkwJ21_compareToUTF16_0 : List UInt8 := [42, 184, 0, 54, 61, 43, 184, 0, 58, 62, 42, 43, 28, 29, 184, 0, 59, 172]
abbrev dktJ21_compareToUTF16_0 : List UInt8 := dkwJ21_compareToUTF16_0 ++ []
theorem dksJ21_compareToUTF16_0 : cJ21_compareToUTF16.data.toList.drop 0 = dktJ21_compareToUTF16_0 := by decide +kernel
theorem dJ21_compareToUTF16_0 : decode cJ21_compareToUTF16 0 = .ok (.aload_n 0, 1) := dk_42 (dk_at dksJ21_compareToUTF16_0 0 rfl rfl)
theorem dJ21_compareToUTF16_1 : decode cJ21_compareToUTF16 1 = .ok (.invokestatic 54, 3) := dk_184 0 54 (dk_at dksJ21_compareToUTF16_0 1 rfl rfl)
theorem dJ21_compareToUTF16_4 : decode cJ21_compareToUTF16 4 = .ok (.istore_n 2, 1) := dk_61 (dk_at dksJ21_compareToUTF16_0 4 rfl rfl)
theorem dJ21_compareToUTF16_5 : decode cJ21_compareToUTF16 5 = .ok (.aload_n 1, 1) := dk_43 (dk_at dksJ21_compareToUTF16_0 5 rfl rfl)
theorem dJ21_compareToUTF16_6 : decode cJ21_compareToUTF16 6 = .ok (.invokestatic 58, 3) := dk_184 0 58 (dk_at dksJ21_compareToUTF16_0 6 rfl rfl)
theorem dJ21_compareToUTF16_9 : decode cJ21_compareToUTF16 9 = .ok (.istore_n 3, 1) := dk_62 (dk_at dksJ21_compareToUTF16_0 9 rfl rfl)
theorem dJ21_compareToUTF16_10 : decode cJ21_compareToUTF16 10 = .ok (.aload_n 0, 1) := dk_42 (dk_at dksJ21_compareToUTF16_0 10 rfl rfl)
theorem dJ21_compareToUTF16_11 : decode cJ21_compareToUTF16 11 = .ok (.aload_n 1, 1) := dk_43 (dk_at dksJ21_compareToUTF16_0 11 rfl rfl)
theorem dJ21_compareToUTF16_12 : decode cJ21_compareToUTF16 12 = .ok (.iload_n 2, 1) := dk_28 (dk_at dksJ21_compareToUTF16_0 12 rfl rfl)
theorem dJ21_compareToUTF16_13 : decode cJ21_compareToUTF16 13 = .ok (.iload_n 3, 1) := dk_29 (dk_at dksJ21_compareToUTF16_0 13 rfl rfl)
theorem dJ21_compareToUTF16_14 : decode cJ21_compareToUTF16 14 = .ok (.invokestatic 59, 3) := dk_184 0 59 (dk_at dksJ21_compareToUTF16_0 14 rfl rfl)
theorem dJ21_compareToUTF16_17 : decode cJ21_compareToUTF16 17 = .ok (.ireturn, 1) := dk_172 (dk_at dksJ21_compareToUTF16_0 17 rfl rfl)
abbrev cJ21_length : ByteArray := prog_51_method_5_code
def yJ21_length : MethodName := ⟨RJ21, "length", "([B)I"⟩
theorem dJ21_length_0 : decode cJ21_length 0 = .ok (.aload_n 0, 1) := by decide +kernel
theorem dJ21_length_1 : decode cJ21_length 1 = .ok (.arraylength, 1) := by decide +kernel
theorem dJ21_length_2 : decode cJ21_length 2 = .ok (.ireturn, 1) := by decide +kernel
abbrev cJ21_compareToUTF16Values : ByteArray := prog_51_method_18_code
def yJ21_compareToUTF16Values : MethodName := ⟨RJ21, "compareToUTF16Values", "([B[BII)I"⟩
def dkwJ21_compareToUTF16Values_2 : List UInt8 := [132, 5, 1, 167, 255, 217, 28, 29, 100, 172]
abbrev dktJ21_compareToUTF16Values_2 : List UInt8 := dkwJ21_compareToUTF16Values_2 ++ []
def dkwJ21_compareToUTF16Values_1 : List UInt8 := [54, 6, 43, 21, 5, 184, 0, 65, 54, 7, 21, 6, 21, 7, 159, 0, 9, 21, 6, 21, 7, 100, 172]
abbrev dktJ21_compareToUTF16Values_1 : List UInt8 := dkwJ21_compareToUTF16Values_1 ++ dktJ21_compareToUTF16Values_2
def dkwJ21_compareToUTF16Values_0 : List UInt8 := [28, 29, 184, 0, 38, 54, 4, 3, 54, 5, 21, 5, 21, 4, 162, 0, 38, 42, 21, 5, 184, 0, 50]
abbrev dktJ21_compareToUTF16Values_0 : List UInt8 := dkwJ21_compareToUTF16Values_0 ++ dktJ21_compareToUTF16Values_1
theorem dksJ21_compareToUTF16Values_0 : cJ21_compareToUTF16Values.data.toList.drop 0 = dktJ21_compareToUTF16Values_0 := by decide +kernel
theorem dksJ21_compareToUTF16Values_1 : cJ21_compareToUTF16Values.data.toList.drop 23 = dktJ21_compareToUTF16Values_1 := dk_seg dksJ21_compareToUTF16Values_0 23 rfl rfl
theorem dksJ21_compareToUTF16Values_2 : cJ21_compareToUTF16Values.data.toList.drop 46 = dktJ21_compareToUTF16Values_2 := dk_seg dksJ21_compareToUTF16Values_1 23 rfl rfl
theorem dJ21_compareToUTF16Values_0 : decode cJ21_compareToUTF16Values 0 = .ok (.iload_n 2, 1) := dk_28 (dk_at dksJ21_compareToUTF16Values_0 0 rfl rfl)
theorem dJ21_compareToUTF16Values_1 : decode cJ21_compareToUTF16Values 1 = .ok (.iload_n 3, 1) := dk_29 (dk_at dksJ21_compareToUTF16Values_0 1 rfl rfl)
theorem dJ21_compareToUTF16Values_2 : decode cJ21_compareToUTF16Values 2 = .ok (.invokestatic 38, 3) := dk_184 0 38 (dk_at dksJ21_compareToUTF16Values_0 2 rfl rfl)
theorem dJ21_compareToUTF16Values_5 : decode cJ21_compareToUTF16Values 5 = .ok (.istore 4, 2) := dk_54 4 (dk_at dksJ21_compareToUTF16Values_0 5 rfl rfl)
theorem dJ21_compareToUTF16Values_7 : decode cJ21_compareToUTF16Values 7 = .ok (.iconst 0, 1) := dk_3 (dk_at dksJ21_compareToUTF16Values_0 7 rfl rfl)
theorem dJ21_compareToUTF16Values_8 : decode cJ21_compareToUTF16Values 8 = .ok (.istore 5, 2) := dk_54 5 (dk_at dksJ21_compareToUTF16Values_0 8 rfl rfl)
theorem dJ21_compareToUTF16Values_10 : decode cJ21_compareToUTF16Values 10 = .ok (.iload 5, 2) := dk_21 5 (dk_at dksJ21_compareToUTF16Values_0 10 rfl rfl)
theorem dJ21_compareToUTF16Values_12 : decode cJ21_compareToUTF16Values 12 = .ok (.iload 4, 2) := dk_21 4 (dk_at dksJ21_compareToUTF16Values_0 12 rfl rfl)
theorem dJ21_compareToUTF16Values_14 : decode cJ21_compareToUTF16Values 14 = .ok (.if_icmp .ge 38, 3) := dk_162 0 38 (dk_at dksJ21_compareToUTF16Values_0 14 rfl rfl)
theorem dJ21_compareToUTF16Values_17 : decode cJ21_compareToUTF16Values 17 = .ok (.aload_n 0, 1) := dk_42 (dk_at dksJ21_compareToUTF16Values_0 17 rfl rfl)
theorem dJ21_compareToUTF16Values_18 : decode cJ21_compareToUTF16Values 18 = .ok (.iload 5, 2) := dk_21 5 (dk_at dksJ21_compareToUTF16Values_0 18 rfl rfl)
theorem dJ21_compareToUTF16Values_20 : decode cJ21_compareToUTF16Values 20 = .ok (.invokestatic 50, 3) := dk_184 0 50 (dk_at dksJ21_compareToUTF16Values_0 20 rfl rfl)
theorem dJ21_compareToUTF16Values_23 : decode cJ21_compareToUTF16Values 23 = .ok (.istore 6, 2) := dk_54 6 (dk_at dksJ21_compareToUTF16Values_1 0 rfl rfl)
theorem dJ21_compareToUTF16Values_25 : decode cJ21_compareToUTF16Values 25 = .ok (.aload_n 1, 1) := dk_43 (dk_at dksJ21_compareToUTF16Values_1 2 rfl rfl)
theorem dJ21_compareToUTF16Values_26 : decode cJ21_compareToUTF16Values 26 = .ok (.iload 5, 2) := dk_21 5 (dk_at dksJ21_compareToUTF16Values_1 3 rfl rfl)
theorem dJ21_compareToUTF16Values_28 : decode cJ21_compareToUTF16Values 28 = .ok (.invokestatic 65, 3) := dk_184 0 65 (dk_at dksJ21_compareToUTF16Values_1 5 rfl rfl)
theorem dJ21_compareToUTF16Values_31 : decode cJ21_compareToUTF16Values 31 = .ok (.istore 7, 2) := dk_54 7 (dk_at dksJ21_compareToUTF16Values_1 8 rfl rfl)
theorem dJ21_compareToUTF16Values_33 : decode cJ21_compareToUTF16Values 33 = .ok (.iload 6, 2) := dk_21 6 (dk_at dksJ21_compareToUTF16Values_1 10 rfl rfl)
theorem dJ21_compareToUTF16Values_35 : decode cJ21_compareToUTF16Values 35 = .ok (.iload 7, 2) := dk_21 7 (dk_at dksJ21_compareToUTF16Values_1 12 rfl rfl)
theorem dJ21_compareToUTF16Values_37 : decode cJ21_compareToUTF16Values 37 = .ok (.if_icmp .eq 9, 3) := dk_159 0 9 (dk_at dksJ21_compareToUTF16Values_1 14 rfl rfl)
theorem dJ21_compareToUTF16Values_40 : decode cJ21_compareToUTF16Values 40 = .ok (.iload 6, 2) := dk_21 6 (dk_at dksJ21_compareToUTF16Values_1 17 rfl rfl)
theorem dJ21_compareToUTF16Values_42 : decode cJ21_compareToUTF16Values 42 = .ok (.iload 7, 2) := dk_21 7 (dk_at dksJ21_compareToUTF16Values_1 19 rfl rfl)
theorem dJ21_compareToUTF16Values_44 : decode cJ21_compareToUTF16Values 44 = .ok (.isub, 1) := dk_100 (dk_at dksJ21_compareToUTF16Values_1 21 rfl rfl)
theorem dJ21_compareToUTF16Values_45 : decode cJ21_compareToUTF16Values 45 = .ok (.ireturn, 1) := dk_172 (dk_at dksJ21_compareToUTF16Values_1 22 rfl rfl)
theorem dJ21_compareToUTF16Values_46 : decode cJ21_compareToUTF16Values 46 = .ok (.iinc 5 1, 3) := dk_132 5 1 (dk_at dksJ21_compareToUTF16Values_2 0 rfl rfl)
theorem dJ21_compareToUTF16Values_49 : decode cJ21_compareToUTF16Values 49 = .ok (.goto (-39), 3) := dk_167 255 217 (dk_at dksJ21_compareToUTF16Values_2 3 rfl rfl)
theorem dJ21_compareToUTF16Values_52 : decode cJ21_compareToUTF16Values 52 = .ok (.iload_n 2, 1) := dk_28 (dk_at dksJ21_compareToUTF16Values_2 6 rfl rfl)
theorem dJ21_compareToUTF16Values_53 : decode cJ21_compareToUTF16Values 53 = .ok (.iload_n 3, 1) := dk_29 (dk_at dksJ21_compareToUTF16Values_2 7 rfl rfl)
theorem dJ21_compareToUTF16Values_54 : decode cJ21_compareToUTF16Values 54 = .ok (.isub, 1) := dk_100 (dk_at dksJ21_compareToUTF16Values_2 8 rfl rfl)
theorem dJ21_compareToUTF16Values_55 : decode cJ21_compareToUTF16Values 55 = .ok (.ireturn, 1) := dk_172 (dk_at dksJ21_compareToUTF16Values_2 9 rfl rfl)
abbrev cJ21_compareToUTF16_2 : ByteArray := prog_51_method_17_code
def yJ21_compareToUTF16_2 : MethodName := ⟨RJ21, "compareToUTF16", "([B[BII)I"⟩
def dkwJ21_compareToUTF16_2_0 : List UInt8 := [28, 42, 184, 0, 54, 184, 0, 62, 29, 43, 184, 0, 58, 184, 0, 62, 42, 43, 28, 29, 184, 0, 59, 172]
abbrev dktJ21_compareToUTF16_2_0 : List UInt8 := dkwJ21_compareToUTF16_2_0 ++ []
theorem dksJ21_compareToUTF16_2_0 : cJ21_compareToUTF16_2.data.toList.drop 0 = dktJ21_compareToUTF16_2_0 := by decide +kernel
theorem dJ21_compareToUTF16_2_0 : decode cJ21_compareToUTF16_2 0 = .ok (.iload_n 2, 1) := dk_28 (dk_at dksJ21_compareToUTF16_2_0 0 rfl rfl)
theorem dJ21_compareToUTF16_2_1 : decode cJ21_compareToUTF16_2 1 = .ok (.aload_n 0, 1) := dk_42 (dk_at dksJ21_compareToUTF16_2_0 1 rfl rfl)
theorem dJ21_compareToUTF16_2_2 : decode cJ21_compareToUTF16_2 2 = .ok (.invokestatic 54, 3) := dk_184 0 54 (dk_at dksJ21_compareToUTF16_2_0 2 rfl rfl)
theorem dJ21_compareToUTF16_2_5 : decode cJ21_compareToUTF16_2 5 = .ok (.invokestatic 62, 3) := dk_184 0 62 (dk_at dksJ21_compareToUTF16_2_0 5 rfl rfl)
theorem dJ21_compareToUTF16_2_8 : decode cJ21_compareToUTF16_2 8 = .ok (.iload_n 3, 1) := dk_29 (dk_at dksJ21_compareToUTF16_2_0 8 rfl rfl)
theorem dJ21_compareToUTF16_2_9 : decode cJ21_compareToUTF16_2 9 = .ok (.aload_n 1, 1) := dk_43 (dk_at dksJ21_compareToUTF16_2_0 9 rfl rfl)
theorem dJ21_compareToUTF16_2_10 : decode cJ21_compareToUTF16_2 10 = .ok (.invokestatic 58, 3) := dk_184 0 58 (dk_at dksJ21_compareToUTF16_2_0 10 rfl rfl)
theorem dJ21_compareToUTF16_2_13 : decode cJ21_compareToUTF16_2 13 = .ok (.invokestatic 62, 3) := dk_184 0 62 (dk_at dksJ21_compareToUTF16_2_0 13 rfl rfl)
theorem dJ21_compareToUTF16_2_16 : decode cJ21_compareToUTF16_2 16 = .ok (.aload_n 0, 1) := dk_42 (dk_at dksJ21_compareToUTF16_2_0 16 rfl rfl)
theorem dJ21_compareToUTF16_2_17 : decode cJ21_compareToUTF16_2 17 = .ok (.aload_n 1, 1) := dk_43 (dk_at dksJ21_compareToUTF16_2_0 17 rfl rfl)
theorem dJ21_compareToUTF16_2_18 : decode cJ21_compareToUTF16_2 18 = .ok (.iload_n 2, 1) := dk_28 (dk_at dksJ21_compareToUTF16_2_0 18 rfl rfl)
theorem dJ21_compareToUTF16_2_19 : decode cJ21_compareToUTF16_2 19 = .ok (.iload_n 3, 1) := dk_29 (dk_at dksJ21_compareToUTF16_2_0 19 rfl rfl)
theorem dJ21_compareToUTF16_2_20 : decode cJ21_compareToUTF16_2 20 = .ok (.invokestatic 59, 3) := dk_184 0 59 (dk_at dksJ21_compareToUTF16_2_0 20 rfl rfl)
theorem dJ21_compareToUTF16_2_23 : decode cJ21_compareToUTF16_2 23 = .ok (.ireturn, 1) := dk_172 (dk_at dksJ21_compareToUTF16_2_0 23 rfl rfl)
abbrev cJ21_equals : ByteArray := prog_51_method_13_code
def yJ21_equals : MethodName := ⟨RJ21, "equals", "([B[B)Z"⟩
def dkwJ21_equals_1 : List UInt8 := [3, 172, 132, 2, 1, 167, 255, 236, 4, 172, 3, 172]
abbrev dktJ21_equals_1 : List UInt8 := dkwJ21_equals_1 ++ []
def dkwJ21_equals_0 : List UInt8 := [42, 190, 43, 190, 160, 0, 30, 3, 61, 28, 42, 190, 162, 0, 20, 42, 28, 51, 43, 28, 51, 159, 0, 5]
abbrev dktJ21_equals_0 : List UInt8 := dkwJ21_equals_0 ++ dktJ21_equals_1
theorem dksJ21_equals_0 : cJ21_equals.data.toList.drop 0 = dktJ21_equals_0 := by decide +kernel
theorem dksJ21_equals_1 : cJ21_equals.data.toList.drop 24 = dktJ21_equals_1 := dk_seg dksJ21_equals_0 24 rfl rfl
theorem dJ21_equals_0 : decode cJ21_equals 0 = .ok (.aload_n 0, 1) := dk_42 (dk_at dksJ21_equals_0 0 rfl rfl)
theorem dJ21_equals_1 : decode cJ21_equals 1 = .ok (.arraylength, 1) := dk_190 (dk_at dksJ21_equals_0 1 rfl rfl)
theorem dJ21_equals_2 : decode cJ21_equals 2 = .ok (.aload_n 1, 1) := dk_43 (dk_at dksJ21_equals_0 2 rfl rfl)
theorem dJ21_equals_3 : decode cJ21_equals 3 = .ok (.arraylength, 1) := dk_190 (dk_at dksJ21_equals_0 3 rfl rfl)
theorem dJ21_equals_4 : decode cJ21_equals 4 = .ok (.if_icmp .ne 30, 3) := dk_160 0 30 (dk_at dksJ21_equals_0 4 rfl rfl)
theorem dJ21_equals_7 : decode cJ21_equals 7 = .ok (.iconst 0, 1) := dk_3 (dk_at dksJ21_equals_0 7 rfl rfl)
theorem dJ21_equals_8 : decode cJ21_equals 8 = .ok (.istore_n 2, 1) := dk_61 (dk_at dksJ21_equals_0 8 rfl rfl)
theorem dJ21_equals_9 : decode cJ21_equals 9 = .ok (.iload_n 2, 1) := dk_28 (dk_at dksJ21_equals_0 9 rfl rfl)
theorem dJ21_equals_10 : decode cJ21_equals 10 = .ok (.aload_n 0, 1) := dk_42 (dk_at dksJ21_equals_0 10 rfl rfl)
theorem dJ21_equals_11 : decode cJ21_equals 11 = .ok (.arraylength, 1) := dk_190 (dk_at dksJ21_equals_0 11 rfl rfl)
theorem dJ21_equals_12 : decode cJ21_equals 12 = .ok (.if_icmp .ge 20, 3) := dk_162 0 20 (dk_at dksJ21_equals_0 12 rfl rfl)
theorem dJ21_equals_15 : decode cJ21_equals 15 = .ok (.aload_n 0, 1) := dk_42 (dk_at dksJ21_equals_0 15 rfl rfl)
theorem dJ21_equals_16 : decode cJ21_equals 16 = .ok (.iload_n 2, 1) := dk_28 (dk_at dksJ21_equals_0 16 rfl rfl)
theorem dJ21_equals_17 : decode cJ21_equals 17 = .ok (.baload, 1) := dk_51 (dk_at dksJ21_equals_0 17 rfl rfl)
theorem dJ21_equals_18 : decode cJ21_equals 18 = .ok (.aload_n 1, 1) := dk_43 (dk_at dksJ21_equals_0 18 rfl rfl)
theorem dJ21_equals_19 : decode cJ21_equals 19 = .ok (.iload_n 2, 1) := dk_28 (dk_at dksJ21_equals_0 19 rfl rfl)
theorem dJ21_equals_20 : decode cJ21_equals 20 = .ok (.baload, 1) := dk_51 (dk_at dksJ21_equals_0 20 rfl rfl)
theorem dJ21_equals_21 : decode cJ21_equals 21 = .ok (.if_icmp .eq 5, 3) := dk_159 0 5 (dk_at dksJ21_equals_0 21 rfl rfl)
theorem dJ21_equals_24 : decode cJ21_equals 24 = .ok (.iconst 0, 1) := dk_3 (dk_at dksJ21_equals_1 0 rfl rfl)
theorem dJ21_equals_25 : decode cJ21_equals 25 = .ok (.ireturn, 1) := dk_172 (dk_at dksJ21_equals_1 1 rfl rfl)
theorem dJ21_equals_26 : decode cJ21_equals 26 = .ok (.iinc 2 1, 3) := dk_132 2 1 (dk_at dksJ21_equals_1 2 rfl rfl)
theorem dJ21_equals_29 : decode cJ21_equals 29 = .ok (.goto (-20), 3) := dk_167 255 236 (dk_at dksJ21_equals_1 5 rfl rfl)
theorem dJ21_equals_32 : decode cJ21_equals 32 = .ok (.iconst 1, 1) := dk_4 (dk_at dksJ21_equals_1 8 rfl rfl)
theorem dJ21_equals_33 : decode cJ21_equals 33 = .ok (.ireturn, 1) := dk_172 (dk_at dksJ21_equals_1 9 rfl rfl)
theorem dJ21_equals_34 : decode cJ21_equals 34 = .ok (.iconst 0, 1) := dk_3 (dk_at dksJ21_equals_1 10 rfl rfl)
theorem dJ21_equals_35 : decode cJ21_equals 35 = .ok (.ireturn, 1) := dk_172 (dk_at dksJ21_equals_1 11 rfl rfl)
theorem q127 : (Jvm.Cond.initialized "java/lang/StringLatin1") ∈ lw_all := lw_g (lw_at lw_m1 25 rfl) rfl
theorem q492 : (Jvm.Cond.static ({ cls := "java/lang/StringLatin1", name := "inflate", desc := "([BI[BII)V" } : Jvm.MethodName)) ∈ lw_all := lw_g (lw_at lw_m2 150 rfl) rfl
theorem q493 : (Jvm.Cond.code ({ cls := "java/lang/StringLatin1", name := "inflate", desc := "([BI[BII)V" } : Jvm.MethodName) prog_51_method_50_code (5 : Nat) (Option.none : Option Jvm.ClassFile.FieldType)) ∈ lw_all := lw_g (lw_at lw_m2 151 rfl) rfl
theorem q494 : (Jvm.Cond.methodLink "java/lang/StringLatin1" (240 : Nat) ({ cls := "java/lang/StringUTF16", name := "inflate", desc := "([BI[BII)V" } : Jvm.MethodName)) ∈ lw_all := lw_g (lw_at lw_m2 152 rfl) rfl
theorem q770 : (Jvm.Cond.static ({ cls := "java/lang/StringLatin1", name := "canEncode", desc := "(C)Z" } : Jvm.MethodName)) ∈ lw_all := lw_g (lw_at lw_m3 188 rfl) rfl
theorem q771 : (Jvm.Cond.code ({ cls := "java/lang/StringLatin1", name := "canEncode", desc := "(C)Z" } : Jvm.MethodName) prog_51_method_3_code (1 : Nat) (Option.some Jvm.ClassFile.FieldType.boolean)) ∈ lw_all := lw_g (lw_at lw_m3 189 rfl) rfl
theorem q904 : (Jvm.Cond.static ({ cls := "java/lang/StringLatin1", name := "charAt", desc := "([BI)C" } : Jvm.MethodName)) ∈ lw_all := lw_g (lw_at lw_m4 82 rfl) rfl
theorem q905 : (Jvm.Cond.code ({ cls := "java/lang/StringLatin1", name := "charAt", desc := "([BI)C" } : Jvm.MethodName) prog_51_method_2_code (2 : Nat) (Option.some Jvm.ClassFile.FieldType.char)) ∈ lw_all := lw_g (lw_at lw_m4 83 rfl) rfl
theorem q906 : (Jvm.Cond.methodLink "java/lang/StringLatin1" (9 : Nat) ({ cls := "java/lang/String", name := "checkIndex", desc := "(II)V" } : Jvm.MethodName)) ∈ lw_all := lw_g (lw_at lw_m4 84 rfl) rfl
theorem q1422 : (Jvm.Cond.static ({ cls := "java/lang/StringLatin1", name := "fillNull", desc := "([BII)V" } : Jvm.MethodName)) ∈ lw_all := lw_g (lw_at lw_m6 120 rfl) rfl
theorem q1423 : (Jvm.Cond.code ({ cls := "java/lang/StringLatin1", name := "fillNull", desc := "([BII)V" } : Jvm.MethodName) prog_51_method_48_code (3 : Nat) (Option.none : Option Jvm.ClassFile.FieldType)) ∈ lw_all := lw_g (lw_at lw_m6 121 rfl) rfl
theorem q1424 : (Jvm.Cond.methodLink "java/lang/StringLatin1" (236 : Nat) ({ cls := "java/util/Arrays", name := "fill", desc := "([BIIB)V" } : Jvm.MethodName)) ∈ lw_all := lw_g (lw_at lw_m6 122 rfl) rfl
theorem q1750 : (Jvm.Cond.static ({ cls := "java/lang/StringLatin1", name := "hashCode", desc := "([B)I" } : Jvm.MethodName)) ∈ lw_all := lw_g (lw_at lw_m7 208 rfl) rfl
theorem q1751 : (Jvm.Cond.code ({ cls := "java/lang/StringLatin1", name := "hashCode", desc := "([B)I" } : Jvm.MethodName) prog_51_method_21_code (1 : Nat) (Option.some Jvm.ClassFile.FieldType.int)) ∈ lw_all := lw_g (lw_at lw_m7 209 rfl) rfl
theorem q1752 : (Jvm.Cond.methodLink "java/lang/StringLatin1" (84 : Nat) ({ cls := "jdk/internal/util/ArraysSupport", name := "vectorizedHashCode", desc := "(Ljava/lang/Object;IIII)I" } : Jvm.MethodName)) ∈ lw_all := lw_g (lw_at lw_m7 210 rfl) rfl
theorem q1971 : (Jvm.Cond.static ({ cls := "java/lang/StringLatin1", name := "compareTo", desc := "([B[B)I" } : Jvm.MethodName)) ∈ lw_all := lw_g (lw_at lw_m8 189 rfl) rfl
theorem q1972 : (Jvm.Cond.code ({ cls := "java/lang/StringLatin1", name := "compareTo", desc := "([B[B)I" } : Jvm.MethodName) prog_51_method_14_code (4 : Nat) (Option.some Jvm.ClassFile.FieldType.int)) ∈ lw_all := lw_g (lw_at lw_m8 190 rfl) rfl
theorem q1973 : (Jvm.Cond.methodLink "java/lang/StringLatin1" (34 : Nat) ({ cls := "java/lang/StringLatin1", name := "compareTo", desc := "([B[BII)I" } : Jvm.MethodName)) ∈ lw_all := lw_g (lw_at lw_m8 191 rfl) rfl
theorem q1974 : (Jvm.Cond.static ({ cls := "java/lang/StringLatin1", name := "compareTo", desc := "([B[BII)I" } : Jvm.MethodName)) ∈ lw_all := lw_g (lw_at lw_m8 192 rfl) rfl
theorem q1975 : (Jvm.Cond.code ({ cls := "java/lang/StringLatin1", name := "compareTo", desc := "([B[BII)I" } : Jvm.MethodName) prog_51_method_15_code (6 : Nat) (Option.some Jvm.ClassFile.FieldType.int)) ∈ lw_all := lw_g (lw_at lw_m8 193 rfl) rfl
theorem q1976 : (Jvm.Cond.methodLink "java/lang/StringLatin1" (38 : Nat) ({ cls := "java/lang/Math", name := "min", desc := "(II)I" } : Jvm.MethodName)) ∈ lw_all := lw_g (lw_at lw_m8 194 rfl) rfl
theorem q1977 : (Jvm.Cond.methodLink "java/lang/StringLatin1" (44 : Nat) ({ cls := "jdk/internal/util/ArraysSupport", name := "mismatch", desc := "([B[BI)I" } : Jvm.MethodName)) ∈ lw_all := lw_g (lw_at lw_m8 195 rfl) rfl
theorem q2078 : (Jvm.Cond.methodLink "java/lang/StringLatin1" (50 : Nat) ({ cls := "java/lang/StringLatin1", name := "getChar", desc := "([BI)C" } : Jvm.MethodName)) ∈ lw_all := lw_g (lw_at lw_m9 56 rfl) rfl
theorem q2079 : (Jvm.Cond.static ({ cls := "java/lang/StringLatin1", name := "getChar", desc := "([BI)C" } : Jvm.MethodName)) ∈ lw_all := lw_g (lw_at lw_m9 57 rfl) rfl
theorem q2080 : (Jvm.Cond.code ({ cls := "java/lang/StringLatin1", name := "getChar", desc := "([BI)C" } : Jvm.MethodName) prog_51_method_44_code (2 : Nat) (Option.some Jvm.ClassFile.FieldType.char)) ∈ lw_all := lw_g (lw_at lw_m9 58 rfl) rfl
theorem q2089 : (Jvm.Cond.static ({ cls := "java/lang/StringLatin1", name := "compareToUTF16", desc := "([B[B)I" } : Jvm.MethodName)) ∈ lw_all := lw_g (lw_at lw_m9 67 rfl) rfl
theorem q2090 : (Jvm.Cond.code ({ cls := "java/lang/StringLatin1", name := "compareToUTF16", desc := "([B[B)I" } : Jvm.MethodName) prog_51_method_16_code (4 : Nat) (Option.some Jvm.ClassFile.FieldType.int)) ∈ lw_all := lw_g (lw_at lw_m9 68 rfl) rfl
theorem q2091 : (Jvm.Cond.methodLink "java/lang/StringLatin1" (54 : Nat) ({ cls := "java/lang/StringLatin1", name := "length", desc := "([B)I" } : Jvm.MethodName)) ∈ lw_all := lw_g (lw_at lw_m9 69 rfl) rfl
theorem q2092 : (Jvm.Cond.static ({ cls := "java/lang/StringLatin1", name := "length", desc := "([B)I" } : Jvm.MethodName)) ∈ lw_all := lw_g (lw_at lw_m9 70 rfl) rfl
theorem q2093 : (Jvm.Cond.code ({ cls := "java/lang/StringLatin1", name := "length", desc := "([B)I" } : Jvm.MethodName) prog_51_method_5_code (1 : Nat) (Option.some Jvm.ClassFile.FieldType.int)) ∈ lw_all := lw_g (lw_at lw_m9 71 rfl) rfl
theorem q2094 : (Jvm.Cond.methodLink "java/lang/StringLatin1" (58 : Nat) ({ cls := "java/lang/StringUTF16", name := "length", desc := "([B)I" } : Jvm.MethodName)) ∈ lw_all := lw_g (lw_at lw_m9 72 rfl) rfl
theorem q2095 : (Jvm.Cond.methodLink "java/lang/StringLatin1" (59 : Nat) ({ cls := "java/lang/StringLatin1", name := "compareToUTF16Values", desc := "([B[BII)I" } : Jvm.MethodName)) ∈ lw_all := lw_g (lw_at lw_m9 73 rfl) rfl
theorem q2096 : (Jvm.Cond.static ({ cls := "java/lang/StringLatin1", name := "compareToUTF16Values", desc := "([B[BII)I" } : Jvm.MethodName)) ∈ lw_all := lw_g (lw_at lw_m9 74 rfl) rfl
theorem q2097 : (Jvm.Cond.code ({ cls := "java/lang/StringLatin1", name := "compareToUTF16Values", desc := "([B[BII)I" } : Jvm.MethodName) prog_51_method_18_code (8 : Nat) (Option.some Jvm.ClassFile.FieldType.int)) ∈ lw_all := lw_g (lw_at lw_m9 75 rfl) rfl
theorem q2098 : (Jvm.Cond.methodLink "java/lang/StringLatin1" (65 : Nat) ({ cls := "java/lang/StringUTF16", name := "getChar", desc := "([BI)C" } : Jvm.MethodName)) ∈ lw_all := lw_g (lw_at lw_m9 76 rfl) rfl
theorem q2128 : (Jvm.Cond.static ({ cls := "java/lang/StringLatin1", name := "compareToUTF16", desc := "([B[BII)I" } : Jvm.MethodName)) ∈ lw_all := lw_g (lw_at lw_m9 106 rfl) rfl
theorem q2129 : (Jvm.Cond.code ({ cls := "java/lang/StringLatin1", name := "compareToUTF16", desc := "([B[BII)I" } : Jvm.MethodName) prog_51_method_17_code (4 : Nat) (Option.some Jvm.ClassFile.FieldType.int)) ∈ lw_all := lw_g (lw_at lw_m9 107 rfl) rfl
theorem q2130 : (Jvm.Cond.methodLink "java/lang/StringLatin1" (62 : Nat) ({ cls := "java/lang/String", name := "checkOffset", desc := "(II)V" } : Jvm.MethodName)) ∈ lw_all := lw_g (lw_at lw_m9 108 rfl) rfl
theorem q2204 : (Jvm.Cond.static ({ cls := "java/lang/StringLatin1", name := "equals", desc := "([B[B)Z" } : Jvm.MethodName)) ∈ lw_all := lw_g (lw_at lw_m9 182 rfl) rfl
theorem q2205 : (Jvm.Cond.code ({ cls := "java/lang/StringLatin1", name := "equals", desc := "([B[B)Z" } : Jvm.MethodName) prog_51_method_13_code (3 : Nat) (Option.some Jvm.ClassFile.FieldType.boolean)) ∈ lw_all := lw_g (lw_at lw_m9 183 rfl) rfl

