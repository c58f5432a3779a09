theorem q170 : (Jvm.Cond.initialized "java/lang/Integer$IntegerCache") ∈ lw_all := lw_g (lw_at lw_m1 68 rfl) rfl
set_option maxRecDepth 100000
theorem q3387 : (Jvm.Cond.laysStatic "java/lang/Integer$IntegerCache" "high" "I") ∈ lw_tbl := lw_at lw_m14 165 rfl
theorem q3389 : (Jvm.Cond.laysStatic "java/lang/Integer$IntegerCache" "cache" "[Ljava/lang/Integer;") ∈ lw_tbl := lw_at lw_m14 167 rfl
theorem q4488 : (Jvm.Cond.castable "[F" "java/lang/Object") ∈ lw_tbl := lw_at lw_m19 66 rfl
set_option maxRecDepth 100000
set_option maxRecDepth 100000
abbrev cJ23_stringSize : ByteArray := prog_39_method_13_code
def yJ23_stringSize : MethodName := ⟨RJ23, "stringSize", "(I)I"⟩
def dkwJ23_stringSize_1 : List UInt8 := [164, 0, 7, 29, 27, 96, 172, 16, 10, 28, 104, 61, 132, 3, 1, 167, 255, 233, 16, 10, 27, 96, 172]
abbrev dktJ23_stringSize_1 : List UInt8 := dkwJ23_stringSize_1 ++ []
def dkwJ23_stringSize_0 : List UInt8 := [4, 60, 26, 155, 0, 8, 3, 60, 26, 116, 59, 16, 246, 61, 4, 62, 29, 16, 10, 162, 0, 23, 26, 28]
abbrev dktJ23_stringSize_0 : List UInt8 := dkwJ23_stringSize_0 ++ dktJ23_stringSize_1
theorem dksJ23_stringSize_0 : cJ23_stringSize.data.toList.drop 0 = dktJ23_stringSize_0 := by decide +kernel
theorem dksJ23_stringSize_1 : cJ23_stringSize.data.toList.drop 24 = dktJ23_stringSize_1 := dk_seg dksJ23_stringSize_0 24 rfl rfl
theorem dJ23_stringSize_0 : decode cJ23_stringSize 0 = .ok (.iconst 1, 1) := dk_4 (dk_at dksJ23_stringSize_0 0 rfl rfl)
theorem dJ23_stringSize_1 : decode cJ23_stringSize 1 = .ok (.istore_n 1, 1) := dk_60 (dk_at dksJ23_stringSize_0 1 rfl rfl)
theorem dJ23_stringSize_2 : decode cJ23_stringSize 2 = .ok (.iload_n 0, 1) := dk_26 (dk_at dksJ23_stringSize_0 2 rfl rfl)
theorem dJ23_stringSize_3 : decode cJ23_stringSize 3 = .ok (.ifCond .lt 8, 3) := dk_155 0 8 (dk_at dksJ23_stringSize_0 3 rfl rfl)
theorem dJ23_stringSize_6 : decode cJ23_stringSize 6 = .ok (.iconst 0, 1) := dk_3 (dk_at dksJ23_stringSize_0 6 rfl rfl)
theorem dJ23_stringSize_7 : decode cJ23_stringSize 7 = .ok (.istore_n 1, 1) := dk_60 (dk_at dksJ23_stringSize_0 7 rfl rfl)
theorem dJ23_stringSize_8 : decode cJ23_stringSize 8 = .ok (.iload_n 0, 1) := dk_26 (dk_at dksJ23_stringSize_0 8 rfl rfl)
theorem dJ23_stringSize_9 : decode cJ23_stringSize 9 = .ok (.ineg, 1) := dk_116 (dk_at dksJ23_stringSize_0 9 rfl rfl)
theorem dJ23_stringSize_10 : decode cJ23_stringSize 10 = .ok (.istore_n 0, 1) := dk_59 (dk_at dksJ23_stringSize_0 10 rfl rfl)
theorem dJ23_stringSize_11 : decode cJ23_stringSize 11 = .ok (.bipush (-10), 2) := dk_16 246 (dk_at dksJ23_stringSize_0 11 rfl rfl)
theorem dJ23_stringSize_13 : decode cJ23_stringSize 13 = .ok (.istore_n 2, 1) := dk_61 (dk_at dksJ23_stringSize_0 13 rfl rfl)
theorem dJ23_stringSize_14 : decode cJ23_stringSize 14 = .ok (.iconst 1, 1) := dk_4 (dk_at dksJ23_stringSize_0 14 rfl rfl)
theorem dJ23_stringSize_15 : decode cJ23_stringSize 15 = .ok (.istore_n 3, 1) := dk_62 (dk_at dksJ23_stringSize_0 15 rfl rfl)
theorem dJ23_stringSize_16 : decode cJ23_stringSize 16 = .ok (.iload_n 3, 1) := dk_29 (dk_at dksJ23_stringSize_0 16 rfl rfl)
theorem dJ23_stringSize_17 : decode cJ23_stringSize 17 = .ok (.bipush 10, 2) := dk_16 10 (dk_at dksJ23_stringSize_0 17 rfl rfl)
theorem dJ23_stringSize_19 : decode cJ23_stringSize 19 = .ok (.if_icmp .ge 23, 3) := dk_162 0 23 (dk_at dksJ23_stringSize_0 19 rfl rfl)
theorem dJ23_stringSize_22 : decode cJ23_stringSize 22 = .ok (.iload_n 0, 1) := dk_26 (dk_at dksJ23_stringSize_0 22 rfl rfl)
theorem dJ23_stringSize_23 : decode cJ23_stringSize 23 = .ok (.iload_n 2, 1) := dk_28 (dk_at dksJ23_stringSize_0 23 rfl rfl)
theorem dJ23_stringSize_24 : decode cJ23_stringSize 24 = .ok (.if_icmp .le 7, 3) := dk_164 0 7 (dk_at dksJ23_stringSize_1 0 rfl rfl)
theorem dJ23_stringSize_27 : decode cJ23_stringSize 27 = .ok (.iload_n 3, 1) := dk_29 (dk_at dksJ23_stringSize_1 3 rfl rfl)
theorem dJ23_stringSize_28 : decode cJ23_stringSize 28 = .ok (.iload_n 1, 1) := dk_27 (dk_at dksJ23_stringSize_1 4 rfl rfl)
theorem dJ23_stringSize_29 : decode cJ23_stringSize 29 = .ok (.iadd, 1) := dk_96 (dk_at dksJ23_stringSize_1 5 rfl rfl)
theorem dJ23_stringSize_30 : decode cJ23_stringSize 30 = .ok (.ireturn, 1) := dk_172 (dk_at dksJ23_stringSize_1 6 rfl rfl)
theorem dJ23_stringSize_31 : decode cJ23_stringSize 31 = .ok (.bipush 10, 2) := dk_16 10 (dk_at dksJ23_stringSize_1 7 rfl rfl)
theorem dJ23_stringSize_33 : decode cJ23_stringSize 33 = .ok (.iload_n 2, 1) := dk_28 (dk_at dksJ23_stringSize_1 9 rfl rfl)
theorem dJ23_stringSize_34 : decode cJ23_stringSize 34 = .ok (.imul, 1) := dk_104 (dk_at dksJ23_stringSize_1 10 rfl rfl)
theorem dJ23_stringSize_35 : decode cJ23_stringSize 35 = .ok (.istore_n 2, 1) := dk_61 (dk_at dksJ23_stringSize_1 11 rfl rfl)
theorem dJ23_stringSize_36 : decode cJ23_stringSize 36 = .ok (.iinc 3 1, 3) := dk_132 3 1 (dk_at dksJ23_stringSize_1 12 rfl rfl)
theorem dJ23_stringSize_39 : decode cJ23_stringSize 39 = .ok (.goto (-23), 3) := dk_167 255 233 (dk_at dksJ23_stringSize_1 15 rfl rfl)
theorem dJ23_stringSize_42 : decode cJ23_stringSize 42 = .ok (.bipush 10, 2) := dk_16 10 (dk_at dksJ23_stringSize_1 18 rfl rfl)
theorem dJ23_stringSize_44 : decode cJ23_stringSize 44 = .ok (.iload_n 1, 1) := dk_27 (dk_at dksJ23_stringSize_1 20 rfl rfl)
theorem dJ23_stringSize_45 : decode cJ23_stringSize 45 = .ok (.iadd, 1) := dk_96 (dk_at dksJ23_stringSize_1 21 rfl rfl)
theorem dJ23_stringSize_46 : decode cJ23_stringSize 46 = .ok (.ireturn, 1) := dk_172 (dk_at dksJ23_stringSize_1 22 rfl rfl)
abbrev cJ23_getChars : ByteArray := prog_39_method_12_code
def yJ23_getChars : MethodName := ⟨RJ23, "getChars", "(II[B)I"⟩
def dkwJ23_getChars_5 : List UInt8 := [16, 45, 84, 21, 5, 172]
abbrev dktJ23_getChars_5 : List UInt8 := dkwJ23_getChars_5 ++ []
def dkwJ23_getChars_4 : List UInt8 := [132, 5, 255, 21, 5, 178, 0, 87, 26, 116, 51, 84, 21, 6, 153, 0, 12, 44, 132, 5, 255, 21, 5]
abbrev dktJ23_getChars_4 : List UInt8 := dkwJ23_getChars_4 ++ dktJ23_getChars_5
def dkwJ23_getChars_3 : List UInt8 := [167, 255, 209, 44, 132, 5, 255, 21, 5, 178, 0, 83, 26, 116, 51, 84, 26, 16, 247, 162, 0, 16, 44]
abbrev dktJ23_getChars_3 : List UInt8 := dkwJ23_getChars_3 ++ dktJ23_getChars_4
def dkwJ23_getChars_2 : List UInt8 := [21, 5, 178, 0, 83, 21, 4, 51, 84, 44, 132, 5, 255, 21, 5, 178, 0, 87, 21, 4, 51, 84]
abbrev dktJ23_getChars_2 : List UInt8 := dkwJ23_getChars_2 ++ dktJ23_getChars_3
def dkwJ23_getChars_1 : List UInt8 := [16, 156, 163, 0, 47, 26, 16, 100, 108, 62, 29, 16, 100, 104, 26, 100, 54, 4, 29, 59, 44, 132, 5, 255]
abbrev dktJ23_getChars_1 : List UInt8 := dkwJ23_getChars_1 ++ dktJ23_getChars_2
def dkwJ23_getChars_0 : List UInt8 := [27, 54, 5, 26, 156, 0, 7, 4, 167, 0, 4, 3, 54, 6, 21, 6, 154, 0, 6, 26, 116, 59, 26]
abbrev dktJ23_getChars_0 : List UInt8 := dkwJ23_getChars_0 ++ dktJ23_getChars_1
theorem dksJ23_getChars_0 : cJ23_getChars.data.toList.drop 0 = dktJ23_getChars_0 := by decide +kernel
theorem dksJ23_getChars_1 : cJ23_getChars.data.toList.drop 23 = dktJ23_getChars_1 := dk_seg dksJ23_getChars_0 23 rfl rfl
theorem dksJ23_getChars_2 : cJ23_getChars.data.toList.drop 47 = dktJ23_getChars_2 := dk_seg dksJ23_getChars_1 24 rfl rfl
theorem dksJ23_getChars_3 : cJ23_getChars.data.toList.drop 69 = dktJ23_getChars_3 := dk_seg dksJ23_getChars_2 22 rfl rfl
theorem dksJ23_getChars_4 : cJ23_getChars.data.toList.drop 92 = dktJ23_getChars_4 := dk_seg dksJ23_getChars_3 23 rfl rfl
theorem dksJ23_getChars_5 : cJ23_getChars.data.toList.drop 115 = dktJ23_getChars_5 := dk_seg dksJ23_getChars_4 23 rfl rfl
theorem dJ23_getChars_0 : decode cJ23_getChars 0 = .ok (.iload_n 1, 1) := dk_27 (dk_at dksJ23_getChars_0 0 rfl rfl)
theorem dJ23_getChars_1 : decode cJ23_getChars 1 = .ok (.istore 5, 2) := dk_54 5 (dk_at dksJ23_getChars_0 1 rfl rfl)
theorem dJ23_getChars_3 : decode cJ23_getChars 3 = .ok (.iload_n 0, 1) := dk_26 (dk_at dksJ23_getChars_0 3 rfl rfl)
theorem dJ23_getChars_4 : decode cJ23_getChars 4 = .ok (.ifCond .ge 7, 3) := dk_156 0 7 (dk_at dksJ23_getChars_0 4 rfl rfl)
theorem dJ23_getChars_7 : decode cJ23_getChars 7 = .ok (.iconst 1, 1) := dk_4 (dk_at dksJ23_getChars_0 7 rfl rfl)
theorem dJ23_getChars_8 : decode cJ23_getChars 8 = .ok (.goto 4, 3) := dk_167 0 4 (dk_at dksJ23_getChars_0 8 rfl rfl)
theorem dJ23_getChars_11 : decode cJ23_getChars 11 = .ok (.iconst 0, 1) := dk_3 (dk_at dksJ23_getChars_0 11 rfl rfl)
theorem dJ23_getChars_12 : decode cJ23_getChars 12 = .ok (.istore 6, 2) := dk_54 6 (dk_at dksJ23_getChars_0 12 rfl rfl)
theorem dJ23_getChars_14 : decode cJ23_getChars 14 = .ok (.iload 6, 2) := dk_21 6 (dk_at dksJ23_getChars_0 14 rfl rfl)
theorem dJ23_getChars_16 : decode cJ23_getChars 16 = .ok (.ifCond .ne 6, 3) := dk_154 0 6 (dk_at dksJ23_getChars_0 16 rfl rfl)
theorem dJ23_getChars_19 : decode cJ23_getChars 19 = .ok (.iload_n 0, 1) := dk_26 (dk_at dksJ23_getChars_0 19 rfl rfl)
theorem dJ23_getChars_20 : decode cJ23_getChars 20 = .ok (.ineg, 1) := dk_116 (dk_at dksJ23_getChars_0 20 rfl rfl)
theorem dJ23_getChars_21 : decode cJ23_getChars 21 = .ok (.istore_n 0, 1) := dk_59 (dk_at dksJ23_getChars_0 21 rfl rfl)
theorem dJ23_getChars_22 : decode cJ23_getChars 22 = .ok (.iload_n 0, 1) := dk_26 (dk_at dksJ23_getChars_0 22 rfl rfl)
theorem dJ23_getChars_23 : decode cJ23_getChars 23 = .ok (.bipush (-100), 2) := dk_16 156 (dk_at dksJ23_getChars_1 0 rfl rfl)
theorem dJ23_getChars_25 : decode cJ23_getChars 25 = .ok (.if_icmp .gt 47, 3) := dk_163 0 47 (dk_at dksJ23_getChars_1 2 rfl rfl)
theorem dJ23_getChars_28 : decode cJ23_getChars 28 = .ok (.iload_n 0, 1) := dk_26 (dk_at dksJ23_getChars_1 5 rfl rfl)
theorem dJ23_getChars_29 : decode cJ23_getChars 29 = .ok (.bipush 100, 2) := dk_16 100 (dk_at dksJ23_getChars_1 6 rfl rfl)
theorem dJ23_getChars_31 : decode cJ23_getChars 31 = .ok (.idiv, 1) := dk_108 (dk_at dksJ23_getChars_1 8 rfl rfl)
theorem dJ23_getChars_32 : decode cJ23_getChars 32 = .ok (.istore_n 3, 1) := dk_62 (dk_at dksJ23_getChars_1 9 rfl rfl)
theorem dJ23_getChars_33 : decode cJ23_getChars 33 = .ok (.iload_n 3, 1) := dk_29 (dk_at dksJ23_getChars_1 10 rfl rfl)
theorem dJ23_getChars_34 : decode cJ23_getChars 34 = .ok (.bipush 100, 2) := dk_16 100 (dk_at dksJ23_getChars_1 11 rfl rfl)
theorem dJ23_getChars_36 : decode cJ23_getChars 36 = .ok (.imul, 1) := dk_104 (dk_at dksJ23_getChars_1 13 rfl rfl)
theorem dJ23_getChars_37 : decode cJ23_getChars 37 = .ok (.iload_n 0, 1) := dk_26 (dk_at dksJ23_getChars_1 14 rfl rfl)
theorem dJ23_getChars_38 : decode cJ23_getChars 38 = .ok (.isub, 1) := dk_100 (dk_at dksJ23_getChars_1 15 rfl rfl)
theorem dJ23_getChars_39 : decode cJ23_getChars 39 = .ok (.istore 4, 2) := dk_54 4 (dk_at dksJ23_getChars_1 16 rfl rfl)
theorem dJ23_getChars_41 : decode cJ23_getChars 41 = .ok (.iload_n 3, 1) := dk_29 (dk_at dksJ23_getChars_1 18 rfl rfl)
theorem dJ23_getChars_42 : decode cJ23_getChars 42 = .ok (.istore_n 0, 1) := dk_59 (dk_at dksJ23_getChars_1 19 rfl rfl)
theorem dJ23_getChars_43 : decode cJ23_getChars 43 = .ok (.aload_n 2, 1) := dk_44 (dk_at dksJ23_getChars_1 20 rfl rfl)
theorem dJ23_getChars_44 : decode cJ23_getChars 44 = .ok (.iinc 5 (-1), 3) := dk_132 5 255 (dk_at dksJ23_getChars_1 21 rfl rfl)
theorem dJ23_getChars_47 : decode cJ23_getChars 47 = .ok (.iload 5, 2) := dk_21 5 (dk_at dksJ23_getChars_2 0 rfl rfl)
theorem dJ23_getChars_49 : decode cJ23_getChars 49 = .ok (.getstatic 83, 3) := dk_178 0 83 (dk_at dksJ23_getChars_2 2 rfl rfl)
theorem dJ23_getChars_52 : decode cJ23_getChars 52 = .ok (.iload 4, 2) := dk_21 4 (dk_at dksJ23_getChars_2 5 rfl rfl)
theorem dJ23_getChars_54 : decode cJ23_getChars 54 = .ok (.baload, 1) := dk_51 (dk_at dksJ23_getChars_2 7 rfl rfl)
theorem dJ23_getChars_55 : decode cJ23_getChars 55 = .ok (.bastore, 1) := dk_84 (dk_at dksJ23_getChars_2 8 rfl rfl)
theorem dJ23_getChars_56 : decode cJ23_getChars 56 = .ok (.aload_n 2, 1) := dk_44 (dk_at dksJ23_getChars_2 9 rfl rfl)
theorem dJ23_getChars_57 : decode cJ23_getChars 57 = .ok (.iinc 5 (-1), 3) := dk_132 5 255 (dk_at dksJ23_getChars_2 10 rfl rfl)
theorem dJ23_getChars_60 : decode cJ23_getChars 60 = .ok (.iload 5, 2) := dk_21 5 (dk_at dksJ23_getChars_2 13 rfl rfl)
theorem dJ23_getChars_62 : decode cJ23_getChars 62 = .ok (.getstatic 87, 3) := dk_178 0 87 (dk_at dksJ23_getChars_2 15 rfl rfl)
theorem dJ23_getChars_65 : decode cJ23_getChars 65 = .ok (.iload 4, 2) := dk_21 4 (dk_at dksJ23_getChars_2 18 rfl rfl)
theorem dJ23_getChars_67 : decode cJ23_getChars 67 = .ok (.baload, 1) := dk_51 (dk_at dksJ23_getChars_2 20 rfl rfl)
theorem dJ23_getChars_68 : decode cJ23_getChars 68 = .ok (.bastore, 1) := dk_84 (dk_at dksJ23_getChars_2 21 rfl rfl)
theorem dJ23_getChars_69 : decode cJ23_getChars 69 = .ok (.goto (-47), 3) := dk_167 255 209 (dk_at dksJ23_getChars_3 0 rfl rfl)
theorem dJ23_getChars_72 : decode cJ23_getChars 72 = .ok (.aload_n 2, 1) := dk_44 (dk_at dksJ23_getChars_3 3 rfl rfl)
theorem dJ23_getChars_73 : decode cJ23_getChars 73 = .ok (.iinc 5 (-1), 3) := dk_132 5 255 (dk_at dksJ23_getChars_3 4 rfl rfl)
theorem dJ23_getChars_76 : decode cJ23_getChars 76 = .ok (.iload 5, 2) := dk_21 5 (dk_at dksJ23_getChars_3 7 rfl rfl)
theorem dJ23_getChars_78 : decode cJ23_getChars 78 = .ok (.getstatic 83, 3) := dk_178 0 83 (dk_at dksJ23_getChars_3 9 rfl rfl)
theorem dJ23_getChars_81 : decode cJ23_getChars 81 = .ok (.iload_n 0, 1) := dk_26 (dk_at dksJ23_getChars_3 12 rfl rfl)
theorem dJ23_getChars_82 : decode cJ23_getChars 82 = .ok (.ineg, 1) := dk_116 (dk_at dksJ23_getChars_3 13 rfl rfl)
theorem dJ23_getChars_83 : decode cJ23_getChars 83 = .ok (.baload, 1) := dk_51 (dk_at dksJ23_getChars_3 14 rfl rfl)
theorem dJ23_getChars_84 : decode cJ23_getChars 84 = .ok (.bastore, 1) := dk_84 (dk_at dksJ23_getChars_3 15 rfl rfl)
theorem dJ23_getChars_85 : decode cJ23_getChars 85 = .ok (.iload_n 0, 1) := dk_26 (dk_at dksJ23_getChars_3 16 rfl rfl)
theorem dJ23_getChars_86 : decode cJ23_getChars 86 = .ok (.bipush (-9), 2) := dk_16 247 (dk_at dksJ23_getChars_3 17 rfl rfl)
theorem dJ23_getChars_88 : decode cJ23_getChars 88 = .ok (.if_icmp .ge 16, 3) := dk_162 0 16 (dk_at dksJ23_getChars_3 19 rfl rfl)
theorem dJ23_getChars_91 : decode cJ23_getChars 91 = .ok (.aload_n 2, 1) := dk_44 (dk_at dksJ23_getChars_3 22 rfl rfl)
theorem dJ23_getChars_92 : decode cJ23_getChars 92 = .ok (.iinc 5 (-1), 3) := dk_132 5 255 (dk_at dksJ23_getChars_4 0 rfl rfl)
theorem dJ23_getChars_95 : decode cJ23_getChars 95 = .ok (.iload 5, 2) := dk_21 5 (dk_at dksJ23_getChars_4 3 rfl rfl)
theorem dJ23_getChars_97 : decode cJ23_getChars 97 = .ok (.getstatic 87, 3) := dk_178 0 87 (dk_at dksJ23_getChars_4 5 rfl rfl)
theorem dJ23_getChars_100 : decode cJ23_getChars 100 = .ok (.iload_n 0, 1) := dk_26 (dk_at dksJ23_getChars_4 8 rfl rfl)
theorem dJ23_getChars_101 : decode cJ23_getChars 101 = .ok (.ineg, 1) := dk_116 (dk_at dksJ23_getChars_4 9 rfl rfl)
theorem dJ23_getChars_102 : decode cJ23_getChars 102 = .ok (.baload, 1) := dk_51 (dk_at dksJ23_getChars_4 10 rfl rfl)
theorem dJ23_getChars_103 : decode cJ23_getChars 103 = .ok (.bastore, 1) := dk_84 (dk_at dksJ23_getChars_4 11 rfl rfl)
theorem dJ23_getChars_104 : decode cJ23_getChars 104 = .ok (.iload 6, 2) := dk_21 6 (dk_at dksJ23_getChars_4 12 rfl rfl)
theorem dJ23_getChars_106 : decode cJ23_getChars 106 = .ok (.ifCond .eq 12, 3) := dk_153 0 12 (dk_at dksJ23_getChars_4 14 rfl rfl)
theorem dJ23_getChars_109 : decode cJ23_getChars 109 = .ok (.aload_n 2, 1) := dk_44 (dk_at dksJ23_getChars_4 17 rfl rfl)
theorem dJ23_getChars_110 : decode cJ23_getChars 110 = .ok (.iinc 5 (-1), 3) := dk_132 5 255 (dk_at dksJ23_getChars_4 18 rfl rfl)
theorem dJ23_getChars_113 : decode cJ23_getChars 113 = .ok (.iload 5, 2) := dk_21 5 (dk_at dksJ23_getChars_4 21 rfl rfl)
theorem dJ23_getChars_115 : decode cJ23_getChars 115 = .ok (.bipush 45, 2) := dk_16 45 (dk_at dksJ23_getChars_5 0 rfl rfl)
theorem dJ23_getChars_117 : decode cJ23_getChars 117 = .ok (.bastore, 1) := dk_84 (dk_at dksJ23_getChars_5 2 rfl rfl)
theorem dJ23_getChars_118 : decode cJ23_getChars 118 = .ok (.iload 5, 2) := dk_21 5 (dk_at dksJ23_getChars_5 3 rfl rfl)
theorem dJ23_getChars_120 : decode cJ23_getChars 120 = .ok (.ireturn, 1) := dk_172 (dk_at dksJ23_getChars_5 5 rfl rfl)
abbrev cJ23_numberOfLeadingZeros : ByteArray := prog_39_method_47_code
def yJ23_numberOfLeadingZeros : MethodName := ⟨RJ23, "numberOfLeadingZeros", "(I)I"⟩
def dkwJ23_numberOfLeadingZeros_3 : List UInt8 := [5, 124, 59, 27, 26, 4, 124, 100, 172]
abbrev dktJ23_numberOfLeadingZeros_3 : List UInt8 := dkwJ23_numberOfLeadingZeros_3 ++ []
def dkwJ23_numberOfLeadingZeros_2 : List UInt8 := [124, 59, 26, 16, 16, 161, 0, 10, 132, 1, 252, 26, 7, 124, 59, 26, 7, 161, 0, 10, 132, 1, 254, 26]
abbrev dktJ23_numberOfLeadingZeros_2 : List UInt8 := dkwJ23_numberOfLeadingZeros_2 ++ dktJ23_numberOfLeadingZeros_3
def dkwJ23_numberOfLeadingZeros_1 : List UInt8 := [161, 0, 11, 132, 1, 240, 26, 16, 16, 124, 59, 26, 17, 1, 0, 161, 0, 11, 132, 1, 248, 26, 16, 8]
abbrev dktJ23_numberOfLeadingZeros_1 : List UInt8 := dkwJ23_numberOfLeadingZeros_1 ++ dktJ23_numberOfLeadingZeros_2
def dkwJ23_numberOfLeadingZeros_0 : List UInt8 := [26, 157, 0, 14, 26, 154, 0, 8, 16, 32, 167, 0, 4, 3, 172, 16, 31, 60, 26, 19, 1, 8]
abbrev dktJ23_numberOfLeadingZeros_0 : List UInt8 := dkwJ23_numberOfLeadingZeros_0 ++ dktJ23_numberOfLeadingZeros_1
theorem dksJ23_numberOfLeadingZeros_0 : cJ23_numberOfLeadingZeros.data.toList.drop 0 = dktJ23_numberOfLeadingZeros_0 := by decide +kernel
theorem dksJ23_numberOfLeadingZeros_1 : cJ23_numberOfLeadingZeros.data.toList.drop 22 = dktJ23_numberOfLeadingZeros_1 := dk_seg dksJ23_numberOfLeadingZeros_0 22 rfl rfl
theorem dksJ23_numberOfLeadingZeros_2 : cJ23_numberOfLeadingZeros.data.toList.drop 46 = dktJ23_numberOfLeadingZeros_2 := dk_seg dksJ23_numberOfLeadingZeros_1 24 rfl rfl
theorem dksJ23_numberOfLeadingZeros_3 : cJ23_numberOfLeadingZeros.data.toList.drop 70 = dktJ23_numberOfLeadingZeros_3 := dk_seg dksJ23_numberOfLeadingZeros_2 24 rfl rfl
theorem dJ23_numberOfLeadingZeros_0 : decode cJ23_numberOfLeadingZeros 0 = .ok (.iload_n 0, 1) := dk_26 (dk_at dksJ23_numberOfLeadingZeros_0 0 rfl rfl)
theorem dJ23_numberOfLeadingZeros_1 : decode cJ23_numberOfLeadingZeros 1 = .ok (.ifCond .gt 14, 3) := dk_157 0 14 (dk_at dksJ23_numberOfLeadingZeros_0 1 rfl rfl)
theorem dJ23_numberOfLeadingZeros_4 : decode cJ23_numberOfLeadingZeros 4 = .ok (.iload_n 0, 1) := dk_26 (dk_at dksJ23_numberOfLeadingZeros_0 4 rfl rfl)
theorem dJ23_numberOfLeadingZeros_5 : decode cJ23_numberOfLeadingZeros 5 = .ok (.ifCond .ne 8, 3) := dk_154 0 8 (dk_at dksJ23_numberOfLeadingZeros_0 5 rfl rfl)
theorem dJ23_numberOfLeadingZeros_8 : decode cJ23_numberOfLeadingZeros 8 = .ok (.bipush 32, 2) := dk_16 32 (dk_at dksJ23_numberOfLeadingZeros_0 8 rfl rfl)
theorem dJ23_numberOfLeadingZeros_10 : decode cJ23_numberOfLeadingZeros 10 = .ok (.goto 4, 3) := dk_167 0 4 (dk_at dksJ23_numberOfLeadingZeros_0 10 rfl rfl)
theorem dJ23_numberOfLeadingZeros_13 : decode cJ23_numberOfLeadingZeros 13 = .ok (.iconst 0, 1) := dk_3 (dk_at dksJ23_numberOfLeadingZeros_0 13 rfl rfl)
theorem dJ23_numberOfLeadingZeros_14 : decode cJ23_numberOfLeadingZeros 14 = .ok (.ireturn, 1) := dk_172 (dk_at dksJ23_numberOfLeadingZeros_0 14 rfl rfl)
theorem dJ23_numberOfLeadingZeros_15 : decode cJ23_numberOfLeadingZeros 15 = .ok (.bipush 31, 2) := dk_16 31 (dk_at dksJ23_numberOfLeadingZeros_0 15 rfl rfl)
theorem dJ23_numberOfLeadingZeros_17 : decode cJ23_numberOfLeadingZeros 17 = .ok (.istore_n 1, 1) := dk_60 (dk_at dksJ23_numberOfLeadingZeros_0 17 rfl rfl)
theorem dJ23_numberOfLeadingZeros_18 : decode cJ23_numberOfLeadingZeros 18 = .ok (.iload_n 0, 1) := dk_26 (dk_at dksJ23_numberOfLeadingZeros_0 18 rfl rfl)
theorem dJ23_numberOfLeadingZeros_19 : decode cJ23_numberOfLeadingZeros 19 = .ok (.ldc_w 264, 3) := dk_19 1 8 (dk_at dksJ23_numberOfLeadingZeros_0 19 rfl rfl)
theorem dJ23_numberOfLeadingZeros_22 : decode cJ23_numberOfLeadingZeros 22 = .ok (.if_icmp .lt 11, 3) := dk_161 0 11 (dk_at dksJ23_numberOfLeadingZeros_1 0 rfl rfl)
theorem dJ23_numberOfLeadingZeros_25 : decode cJ23_numberOfLeadingZeros 25 = .ok (.iinc 1 (-16), 3) := dk_132 1 240 (dk_at dksJ23_numberOfLeadingZeros_1 3 rfl rfl)
theorem dJ23_numberOfLeadingZeros_28 : decode cJ23_numberOfLeadingZeros 28 = .ok (.iload_n 0, 1) := dk_26 (dk_at dksJ23_numberOfLeadingZeros_1 6 rfl rfl)
theorem dJ23_numberOfLeadingZeros_29 : decode cJ23_numberOfLeadingZeros 29 = .ok (.bipush 16, 2) := dk_16 16 (dk_at dksJ23_numberOfLeadingZeros_1 7 rfl rfl)
theorem dJ23_numberOfLeadingZeros_31 : decode cJ23_numberOfLeadingZeros 31 = .ok (.iushr, 1) := dk_124 (dk_at dksJ23_numberOfLeadingZeros_1 9 rfl rfl)
theorem dJ23_numberOfLeadingZeros_32 : decode cJ23_numberOfLeadingZeros 32 = .ok (.istore_n 0, 1) := dk_59 (dk_at dksJ23_numberOfLeadingZeros_1 10 rfl rfl)
theorem dJ23_numberOfLeadingZeros_33 : decode cJ23_numberOfLeadingZeros 33 = .ok (.iload_n 0, 1) := dk_26 (dk_at dksJ23_numberOfLeadingZeros_1 11 rfl rfl)
theorem dJ23_numberOfLeadingZeros_34 : decode cJ23_numberOfLeadingZeros 34 = .ok (.sipush 256, 3) := dk_17 1 0 (dk_at dksJ23_numberOfLeadingZeros_1 12 rfl rfl)
theorem dJ23_numberOfLeadingZeros_37 : decode cJ23_numberOfLeadingZeros 37 = .ok (.if_icmp .lt 11, 3) := dk_161 0 11 (dk_at dksJ23_numberOfLeadingZeros_1 15 rfl rfl)
theorem dJ23_numberOfLeadingZeros_40 : decode cJ23_numberOfLeadingZeros 40 = .ok (.iinc 1 (-8), 3) := dk_132 1 248 (dk_at dksJ23_numberOfLeadingZeros_1 18 rfl rfl)
theorem dJ23_numberOfLeadingZeros_43 : decode cJ23_numberOfLeadingZeros 43 = .ok (.iload_n 0, 1) := dk_26 (dk_at dksJ23_numberOfLeadingZeros_1 21 rfl rfl)
theorem dJ23_numberOfLeadingZeros_44 : decode cJ23_numberOfLeadingZeros 44 = .ok (.bipush 8, 2) := dk_16 8 (dk_at dksJ23_numberOfLeadingZeros_1 22 rfl rfl)
theorem dJ23_numberOfLeadingZeros_46 : decode cJ23_numberOfLeadingZeros 46 = .ok (.iushr, 1) := dk_124 (dk_at dksJ23_numberOfLeadingZeros_2 0 rfl rfl)
theorem dJ23_numberOfLeadingZeros_47 : decode cJ23_numberOfLeadingZeros 47 = .ok (.istore_n 0, 1) := dk_59 (dk_at dksJ23_numberOfLeadingZeros_2 1 rfl rfl)
theorem dJ23_numberOfLeadingZeros_48 : decode cJ23_numberOfLeadingZeros 48 = .ok (.iload_n 0, 1) := dk_26 (dk_at dksJ23_numberOfLeadingZeros_2 2 rfl rfl)
theorem dJ23_numberOfLeadingZeros_49 : decode cJ23_numberOfLeadingZeros 49 = .ok (.bipush 16, 2) := dk_16 16 (dk_at dksJ23_numberOfLeadingZeros_2 3 rfl rfl)
theorem dJ23_numberOfLeadingZeros_51 : decode cJ23_numberOfLeadingZeros 51 = .ok (.if_icmp .lt 10, 3) := dk_161 0 10 (dk_at dksJ23_numberOfLeadingZeros_2 5 rfl rfl)
theorem dJ23_numberOfLeadingZeros_54 : decode cJ23_numberOfLeadingZeros 54 = .ok (.iinc 1 (-4), 3) := dk_132 1 252 (dk_at dksJ23_numberOfLeadingZeros_2 8 rfl rfl)
theorem dJ23_numberOfLeadingZeros_57 : decode cJ23_numberOfLeadingZeros 57 = .ok (.iload_n 0, 1) := dk_26 (dk_at dksJ23_numberOfLeadingZeros_2 11 rfl rfl)
theorem dJ23_numberOfLeadingZeros_58 : decode cJ23_numberOfLeadingZeros 58 = .ok (.iconst 4, 1) := dk_7 (dk_at dksJ23_numberOfLeadingZeros_2 12 rfl rfl)
theorem dJ23_numberOfLeadingZeros_59 : decode cJ23_numberOfLeadingZeros 59 = .ok (.iushr, 1) := dk_124 (dk_at dksJ23_numberOfLeadingZeros_2 13 rfl rfl)
theorem dJ23_numberOfLeadingZeros_60 : decode cJ23_numberOfLeadingZeros 60 = .ok (.istore_n 0, 1) := dk_59 (dk_at dksJ23_numberOfLeadingZeros_2 14 rfl rfl)
theorem dJ23_numberOfLeadingZeros_61 : decode cJ23_numberOfLeadingZeros 61 = .ok (.iload_n 0, 1) := dk_26 (dk_at dksJ23_numberOfLeadingZeros_2 15 rfl rfl)
theorem dJ23_numberOfLeadingZeros_62 : decode cJ23_numberOfLeadingZeros 62 = .ok (.iconst 4, 1) := dk_7 (dk_at dksJ23_numberOfLeadingZeros_2 16 rfl rfl)
theorem dJ23_numberOfLeadingZeros_63 : decode cJ23_numberOfLeadingZeros 63 = .ok (.if_icmp .lt 10, 3) := dk_161 0 10 (dk_at dksJ23_numberOfLeadingZeros_2 17 rfl rfl)
theorem dJ23_numberOfLeadingZeros_66 : decode cJ23_numberOfLeadingZeros 66 = .ok (.iinc 1 (-2), 3) := dk_132 1 254 (dk_at dksJ23_numberOfLeadingZeros_2 20 rfl rfl)
theorem dJ23_numberOfLeadingZeros_69 : decode cJ23_numberOfLeadingZeros 69 = .ok (.iload_n 0, 1) := dk_26 (dk_at dksJ23_numberOfLeadingZeros_2 23 rfl rfl)
theorem dJ23_numberOfLeadingZeros_70 : decode cJ23_numberOfLeadingZeros 70 = .ok (.iconst 2, 1) := dk_5 (dk_at dksJ23_numberOfLeadingZeros_3 0 rfl rfl)
theorem dJ23_numberOfLeadingZeros_71 : decode cJ23_numberOfLeadingZeros 71 = .ok (.iushr, 1) := dk_124 (dk_at dksJ23_numberOfLeadingZeros_3 1 rfl rfl)
theorem dJ23_numberOfLeadingZeros_72 : decode cJ23_numberOfLeadingZeros 72 = .ok (.istore_n 0, 1) := dk_59 (dk_at dksJ23_numberOfLeadingZeros_3 2 rfl rfl)
theorem dJ23_numberOfLeadingZeros_73 : decode cJ23_numberOfLeadingZeros 73 = .ok (.iload_n 1, 1) := dk_27 (dk_at dksJ23_numberOfLeadingZeros_3 3 rfl rfl)
theorem dJ23_numberOfLeadingZeros_74 : decode cJ23_numberOfLeadingZeros 74 = .ok (.iload_n 0, 1) := dk_26 (dk_at dksJ23_numberOfLeadingZeros_3 4 rfl rfl)
theorem dJ23_numberOfLeadingZeros_75 : decode cJ23_numberOfLeadingZeros 75 = .ok (.iconst 1, 1) := dk_4 (dk_at dksJ23_numberOfLeadingZeros_3 5 rfl rfl)
theorem dJ23_numberOfLeadingZeros_76 : decode cJ23_numberOfLeadingZeros 76 = .ok (.iushr, 1) := dk_124 (dk_at dksJ23_numberOfLeadingZeros_3 6 rfl rfl)
theorem dJ23_numberOfLeadingZeros_77 : decode cJ23_numberOfLeadingZeros 77 = .ok (.isub, 1) := dk_100 (dk_at dksJ23_numberOfLeadingZeros_3 7 rfl rfl)
theorem dJ23_numberOfLeadingZeros_78 : decode cJ23_numberOfLeadingZeros 78 = .ok (.ireturn, 1) := dk_172 (dk_at dksJ23_numberOfLeadingZeros_3 8 rfl rfl)
abbrev cJ23_toString : ByteArray := prog_39_method_31_code
def yJ23_toString : MethodName := ⟨RJ23, "toString", "()Ljava/lang/String;"⟩
def dkwJ23_toString_0 : List UInt8 := [42, 180, 0, 205, 184, 0, 9, 176]
abbrev dktJ23_toString_0 : List UInt8 := dkwJ23_toString_0 ++ []
theorem dksJ23_toString_0 : cJ23_toString.data.toList.drop 0 = dktJ23_toString_0 := by decide +kernel
theorem dJ23_toString_0 : decode cJ23_toString 0 = .ok (.aload_n 0, 1) := dk_42 (dk_at dksJ23_toString_0 0 rfl rfl)
theorem dJ23_toString_1 : decode cJ23_toString 1 = .ok (.getfield 205, 3) := dk_180 0 205 (dk_at dksJ23_toString_0 1 rfl rfl)
theorem dJ23_toString_4 : decode cJ23_toString 4 = .ok (.invokestatic 9, 3) := dk_184 0 9 (dk_at dksJ23_toString_0 4 rfl rfl)
theorem dJ23_toString_7 : decode cJ23_toString 7 = .ok (.areturn, 1) := dk_176 (dk_at dksJ23_toString_0 7 rfl rfl)
abbrev cJ23_toString_2 : ByteArray := prog_39_method_10_code
def yJ23_toString_2 : MethodName := ⟨RJ23, "toString", "(I)Ljava/lang/String;"⟩
def dkwJ23_toString_2_2 : List UInt8 := [187, 0, 5, 89, 44, 4, 183, 0, 65, 176]
abbrev dktJ23_toString_2_2 : List UInt8 := dkwJ23_toString_2_2 ++ []
def dkwJ23_toString_2_1 : List UInt8 := [187, 0, 5, 89, 44, 3, 183, 0, 65, 176, 27, 5, 104, 188, 8, 77, 26, 27, 44, 184, 0, 79, 87]
abbrev dktJ23_toString_2_1 : List UInt8 := dkwJ23_toString_2_1 ++ dktJ23_toString_2_2
def dkwJ23_toString_2_0 : List UInt8 := [26, 184, 0, 72, 60, 178, 0, 13, 153, 0, 24, 27, 188, 8, 77, 26, 27, 44, 184, 0, 75, 87]
abbrev dktJ23_toString_2_0 : List UInt8 := dkwJ23_toString_2_0 ++ dktJ23_toString_2_1
theorem dksJ23_toString_2_0 : cJ23_toString_2.data.toList.drop 0 = dktJ23_toString_2_0 := by decide +kernel
theorem dksJ23_toString_2_1 : cJ23_toString_2.data.toList.drop 22 = dktJ23_toString_2_1 := dk_seg dksJ23_toString_2_0 22 rfl rfl
theorem dksJ23_toString_2_2 : cJ23_toString_2.data.toList.drop 45 = dktJ23_toString_2_2 := dk_seg dksJ23_toString_2_1 23 rfl rfl
theorem dJ23_toString_2_0 : decode cJ23_toString_2 0 = .ok (.iload_n 0, 1) := dk_26 (dk_at dksJ23_toString_2_0 0 rfl rfl)
theorem dJ23_toString_2_1 : decode cJ23_toString_2 1 = .ok (.invokestatic 72, 3) := dk_184 0 72 (dk_at dksJ23_toString_2_0 1 rfl rfl)
theorem dJ23_toString_2_4 : decode cJ23_toString_2 4 = .ok (.istore_n 1, 1) := dk_60 (dk_at dksJ23_toString_2_0 4 rfl rfl)
theorem dJ23_toString_2_5 : decode cJ23_toString_2 5 = .ok (.getstatic 13, 3) := dk_178 0 13 (dk_at dksJ23_toString_2_0 5 rfl rfl)
theorem dJ23_toString_2_8 : decode cJ23_toString_2 8 = .ok (.ifCond .eq 24, 3) := dk_153 0 24 (dk_at dksJ23_toString_2_0 8 rfl rfl)
theorem dJ23_toString_2_11 : decode cJ23_toString_2 11 = .ok (.iload_n 1, 1) := dk_27 (dk_at dksJ23_toString_2_0 11 rfl rfl)
theorem dJ23_toString_2_12 : decode cJ23_toString_2 12 = .ok (.newarray .byte, 2) := dk_188_8 (dk_at dksJ23_toString_2_0 12 rfl rfl)
theorem dJ23_toString_2_14 : decode cJ23_toString_2 14 = .ok (.astore_n 2, 1) := dk_77 (dk_at dksJ23_toString_2_0 14 rfl rfl)
theorem dJ23_toString_2_15 : decode cJ23_toString_2 15 = .ok (.iload_n 0, 1) := dk_26 (dk_at dksJ23_toString_2_0 15 rfl rfl)
theorem dJ23_toString_2_16 : decode cJ23_toString_2 16 = .ok (.iload_n 1, 1) := dk_27 (dk_at dksJ23_toString_2_0 16 rfl rfl)
theorem dJ23_toString_2_17 : decode cJ23_toString_2 17 = .ok (.aload_n 2, 1) := dk_44 (dk_at dksJ23_toString_2_0 17 rfl rfl)
theorem dJ23_toString_2_18 : decode cJ23_toString_2 18 = .ok (.invokestatic 75, 3) := dk_184 0 75 (dk_at dksJ23_toString_2_0 18 rfl rfl)
theorem dJ23_toString_2_21 : decode cJ23_toString_2 21 = .ok (.pop, 1) := dk_87 (dk_at dksJ23_toString_2_0 21 rfl rfl)
theorem dJ23_toString_2_22 : decode cJ23_toString_2 22 = .ok (.new 5, 3) := dk_187 0 5 (dk_at dksJ23_toString_2_1 0 rfl rfl)
theorem dJ23_toString_2_25 : decode cJ23_toString_2 25 = .ok (.dup, 1) := dk_89 (dk_at dksJ23_toString_2_1 3 rfl rfl)
theorem dJ23_toString_2_26 : decode cJ23_toString_2 26 = .ok (.aload_n 2, 1) := dk_44 (dk_at dksJ23_toString_2_1 4 rfl rfl)
theorem dJ23_toString_2_27 : decode cJ23_toString_2 27 = .ok (.iconst 0, 1) := dk_3 (dk_at dksJ23_toString_2_1 5 rfl rfl)
theorem dJ23_toString_2_28 : decode cJ23_toString_2 28 = .ok (.invokespecial 65, 3) := dk_183 0 65 (dk_at dksJ23_toString_2_1 6 rfl rfl)
theorem dJ23_toString_2_31 : decode cJ23_toString_2 31 = .ok (.areturn, 1) := dk_176 (dk_at dksJ23_toString_2_1 9 rfl rfl)
theorem dJ23_toString_2_32 : decode cJ23_toString_2 32 = .ok (.iload_n 1, 1) := dk_27 (dk_at dksJ23_toString_2_1 10 rfl rfl)
theorem dJ23_toString_2_33 : decode cJ23_toString_2 33 = .ok (.iconst 2, 1) := dk_5 (dk_at dksJ23_toString_2_1 11 rfl rfl)
theorem dJ23_toString_2_34 : decode cJ23_toString_2 34 = .ok (.imul, 1) := dk_104 (dk_at dksJ23_toString_2_1 12 rfl rfl)
theorem dJ23_toString_2_35 : decode cJ23_toString_2 35 = .ok (.newarray .byte, 2) := dk_188_8 (dk_at dksJ23_toString_2_1 13 rfl rfl)
theorem dJ23_toString_2_37 : decode cJ23_toString_2 37 = .ok (.astore_n 2, 1) := dk_77 (dk_at dksJ23_toString_2_1 15 rfl rfl)
theorem dJ23_toString_2_38 : decode cJ23_toString_2 38 = .ok (.iload_n 0, 1) := dk_26 (dk_at dksJ23_toString_2_1 16 rfl rfl)
theorem dJ23_toString_2_39 : decode cJ23_toString_2 39 = .ok (.iload_n 1, 1) := dk_27 (dk_at dksJ23_toString_2_1 17 rfl rfl)
theorem dJ23_toString_2_40 : decode cJ23_toString_2 40 = .ok (.aload_n 2, 1) := dk_44 (dk_at dksJ23_toString_2_1 18 rfl rfl)
theorem dJ23_toString_2_41 : decode cJ23_toString_2 41 = .ok (.invokestatic 79, 3) := dk_184 0 79 (dk_at dksJ23_toString_2_1 19 rfl rfl)
theorem dJ23_toString_2_44 : decode cJ23_toString_2 44 = .ok (.pop, 1) := dk_87 (dk_at dksJ23_toString_2_1 22 rfl rfl)
theorem dJ23_toString_2_45 : decode cJ23_toString_2 45 = .ok (.new 5, 3) := dk_187 0 5 (dk_at dksJ23_toString_2_2 0 rfl rfl)
theorem dJ23_toString_2_48 : decode cJ23_toString_2 48 = .ok (.dup, 1) := dk_89 (dk_at dksJ23_toString_2_2 3 rfl rfl)
theorem dJ23_toString_2_49 : decode cJ23_toString_2 49 = .ok (.aload_n 2, 1) := dk_44 (dk_at dksJ23_toString_2_2 4 rfl rfl)
theorem dJ23_toString_2_50 : decode cJ23_toString_2 50 = .ok (.iconst 1, 1) := dk_4 (dk_at dksJ23_toString_2_2 5 rfl rfl)
theorem dJ23_toString_2_51 : decode cJ23_toString_2 51 = .ok (.invokespecial 65, 3) := dk_183 0 65 (dk_at dksJ23_toString_2_2 6 rfl rfl)
theorem dJ23_toString_2_54 : decode cJ23_toString_2 54 = .ok (.areturn, 1) := dk_176 (dk_at dksJ23_toString_2_2 9 rfl rfl)
abbrev cJ23_hashCode : ByteArray := prog_39_method_32_code
def yJ23_hashCode : MethodName := ⟨RJ23, "hashCode", "()I"⟩
def dkwJ23_hashCode_0 : List UInt8 := [42, 180, 0, 205, 184, 0, 208, 172]
abbrev dktJ23_hashCode_0 : List UInt8 := dkwJ23_hashCode_0 ++ []
theorem dksJ23_hashCode_0 : cJ23_hashCode.data.toList.drop 0 = dktJ23_hashCode_0 := by decide +kernel
theorem dJ23_hashCode_0 : decode cJ23_hashCode 0 = .ok (.aload_n 0, 1) := dk_42 (dk_at dksJ23_hashCode_0 0 rfl rfl)
theorem dJ23_hashCode_1 : decode cJ23_hashCode 1 = .ok (.getfield 205, 3) := dk_180 0 205 (dk_at dksJ23_hashCode_0 1 rfl rfl)
theorem dJ23_hashCode_4 : decode cJ23_hashCode 4 = .ok (.invokestatic 208, 3) := dk_184 0 208 (dk_at dksJ23_hashCode_0 4 rfl rfl)
theorem dJ23_hashCode_7 : decode cJ23_hashCode 7 = .ok (.ireturn, 1) := dk_172 (dk_at dksJ23_hashCode_0 7 rfl rfl)
abbrev cJ23_hashCode_2 : ByteArray := prog_39_method_33_code
def yJ23_hashCode_2 : MethodName := ⟨RJ23, "hashCode", "(I)I"⟩
theorem dJ23_hashCode_2_0 : decode cJ23_hashCode_2 0 = .ok (.iload_n 0, 1) := by decide +kernel
theorem dJ23_hashCode_2_1 : decode cJ23_hashCode_2 1 = .ok (.ireturn, 1) := by decide +kernel
abbrev cJ23_compareTo : ByteArray := prog_39_method_63_code
def yJ23_compareTo : MethodName := ⟨RJ23, "compareTo", "(Ljava/lang/Object;)I"⟩
def dkwJ23_compareTo_0 : List UInt8 := [42, 43, 192, 0, 1, 182, 1, 28, 172]
abbrev dktJ23_compareTo_0 : List UInt8 := dkwJ23_compareTo_0 ++ []
theorem dksJ23_compareTo_0 : cJ23_compareTo.data.toList.drop 0 = dktJ23_compareTo_0 := by decide +kernel
theorem dJ23_compareTo_0 : decode cJ23_compareTo 0 = .ok (.aload_n 0, 1) := dk_42 (dk_at dksJ23_compareTo_0 0 rfl rfl)
theorem dJ23_compareTo_1 : decode cJ23_compareTo 1 = .ok (.aload_n 1, 1) := dk_43 (dk_at dksJ23_compareTo_0 1 rfl rfl)
theorem dJ23_compareTo_2 : decode cJ23_compareTo 2 = .ok (.checkcast 1, 3) := dk_192 0 1 (dk_at dksJ23_compareTo_0 2 rfl rfl)
theorem dJ23_compareTo_5 : decode cJ23_compareTo 5 = .ok (.invokevirtual 284, 3) := dk_182 1 28 (dk_at dksJ23_compareTo_0 5 rfl rfl)
theorem dJ23_compareTo_8 : decode cJ23_compareTo 8 = .ok (.ireturn, 1) := dk_172 (dk_at dksJ23_compareTo_0 8 rfl rfl)
abbrev cJ23_compareTo_2 : ByteArray := prog_39_method_39_code
def yJ23_compareTo_2 : MethodName := ⟨RJ23, "compareTo", "(Ljava/lang/Integer;)I"⟩
def dkwJ23_compareTo_2_0 : List UInt8 := [42, 180, 0, 205, 43, 180, 0, 205, 184, 1, 3, 172]
abbrev dktJ23_compareTo_2_0 : List UInt8 := dkwJ23_compareTo_2_0 ++ []
theorem dksJ23_compareTo_2_0 : cJ23_compareTo_2.data.toList.drop 0 = dktJ23_compareTo_2_0 := by decide +kernel
theorem dJ23_compareTo_2_0 : decode cJ23_compareTo_2 0 = .ok (.aload_n 0, 1) := dk_42 (dk_at dksJ23_compareTo_2_0 0 rfl rfl)
theorem dJ23_compareTo_2_1 : decode cJ23_compareTo_2 1 = .ok (.getfield 205, 3) := dk_180 0 205 (dk_at dksJ23_compareTo_2_0 1 rfl rfl)
theorem dJ23_compareTo_2_4 : decode cJ23_compareTo_2 4 = .ok (.aload_n 1, 1) := dk_43 (dk_at dksJ23_compareTo_2_0 4 rfl rfl)
theorem dJ23_compareTo_2_5 : decode cJ23_compareTo_2 5 = .ok (.getfield 205, 3) := dk_180 0 205 (dk_at dksJ23_compareTo_2_0 5 rfl rfl)
theorem dJ23_compareTo_2_8 : decode cJ23_compareTo_2 8 = .ok (.invokestatic 259, 3) := dk_184 1 3 (dk_at dksJ23_compareTo_2_0 8 rfl rfl)
theorem dJ23_compareTo_2_11 : decode cJ23_compareTo_2 11 = .ok (.ireturn, 1) := dk_172 (dk_at dksJ23_compareTo_2_0 11 rfl rfl)
abbrev cJ23_compare : ByteArray := prog_39_method_40_code
def yJ23_compare : MethodName := ⟨RJ23, "compare", "(II)I"⟩
def dkwJ23_compare_0 : List UInt8 := [26, 27, 162, 0, 7, 2, 167, 0, 13, 26, 27, 160, 0, 7, 3, 167, 0, 4, 4, 172]
abbrev dktJ23_compare_0 : List UInt8 := dkwJ23_compare_0 ++ []
theorem dksJ23_compare_0 : cJ23_compare.data.toList.drop 0 = dktJ23_compare_0 := by decide +kernel
theorem dJ23_compare_0 : decode cJ23_compare 0 = .ok (.iload_n 0, 1) := dk_26 (dk_at dksJ23_compare_0 0 rfl rfl)
theorem dJ23_compare_1 : decode cJ23_compare 1 = .ok (.iload_n 1, 1) := dk_27 (dk_at dksJ23_compare_0 1 rfl rfl)
theorem dJ23_compare_2 : decode cJ23_compare 2 = .ok (.if_icmp .ge 7, 3) := dk_162 0 7 (dk_at dksJ23_compare_0 2 rfl rfl)
theorem dJ23_compare_5 : decode cJ23_compare 5 = .ok (.iconst (-1), 1) := dk_2 (dk_at dksJ23_compare_0 5 rfl rfl)
theorem dJ23_compare_6 : decode cJ23_compare 6 = .ok (.goto 13, 3) := dk_167 0 13 (dk_at dksJ23_compare_0 6 rfl rfl)
theorem dJ23_compare_9 : decode cJ23_compare 9 = .ok (.iload_n 0, 1) := dk_26 (dk_at dksJ23_compare_0 9 rfl rfl)
theorem dJ23_compare_10 : decode cJ23_compare 10 = .ok (.iload_n 1, 1) := dk_27 (dk_at dksJ23_compare_0 10 rfl rfl)
theorem dJ23_compare_11 : decode cJ23_compare 11 = .ok (.if_icmp .ne 7, 3) := dk_160 0 7 (dk_at dksJ23_compare_0 11 rfl rfl)
theorem dJ23_compare_14 : decode cJ23_compare 14 = .ok (.iconst 0, 1) := dk_3 (dk_at dksJ23_compare_0 14 rfl rfl)
theorem dJ23_compare_15 : decode cJ23_compare 15 = .ok (.goto 4, 3) := dk_167 0 4 (dk_at dksJ23_compare_0 15 rfl rfl)
theorem dJ23_compare_18 : decode cJ23_compare 18 = .ok (.iconst 1, 1) := dk_4 (dk_at dksJ23_compare_0 18 rfl rfl)
theorem dJ23_compare_19 : decode cJ23_compare 19 = .ok (.ireturn, 1) := dk_172 (dk_at dksJ23_compare_0 19 rfl rfl)
abbrev cJ23_numberOfTrailingZeros : ByteArray := prog_39_method_48_code
def yJ23_numberOfTrailingZeros : MethodName := ⟨RJ23, "numberOfTrailingZeros", "(I)I"⟩
def dkwJ23_numberOfTrailingZeros_3 : List UInt8 := [5, 124, 59, 27, 26, 4, 124, 96, 172]
abbrev dktJ23_numberOfTrailingZeros_3 : List UInt8 := dkwJ23_numberOfTrailingZeros_3 ++ []
def dkwJ23_numberOfTrailingZeros_2 : List UInt8 := [124, 59, 26, 16, 16, 164, 0, 10, 132, 1, 4, 26, 7, 124, 59, 26, 7, 164, 0, 10, 132, 1, 2, 26]
abbrev dktJ23_numberOfTrailingZeros_2 : List UInt8 := dkwJ23_numberOfTrailingZeros_2 ++ dktJ23_numberOfTrailingZeros_3
def dkwJ23_numberOfTrailingZeros_1 : List UInt8 := [164, 0, 11, 132, 1, 16, 26, 16, 16, 124, 59, 26, 17, 1, 0, 164, 0, 11, 132, 1, 8, 26, 16, 8]
abbrev dktJ23_numberOfTrailingZeros_1 : List UInt8 := dkwJ23_numberOfTrailingZeros_1 ++ dktJ23_numberOfTrailingZeros_2
def dkwJ23_numberOfTrailingZeros_0 : List UInt8 := [26, 2, 130, 26, 4, 100, 126, 59, 26, 157, 0, 8, 26, 16, 32, 126, 172, 4, 60, 26, 19, 1, 8]
abbrev dktJ23_numberOfTrailingZeros_0 : List UInt8 := dkwJ23_numberOfTrailingZeros_0 ++ dktJ23_numberOfTrailingZeros_1
theorem dksJ23_numberOfTrailingZeros_0 : cJ23_numberOfTrailingZeros.data.toList.drop 0 = dktJ23_numberOfTrailingZeros_0 := by decide +kernel
theorem dksJ23_numberOfTrailingZeros_1 : cJ23_numberOfTrailingZeros.data.toList.drop 23 = dktJ23_numberOfTrailingZeros_1 := dk_seg dksJ23_numberOfTrailingZeros_0 23 rfl rfl
theorem dksJ23_numberOfTrailingZeros_2 : cJ23_numberOfTrailingZeros.data.toList.drop 47 = dktJ23_numberOfTrailingZeros_2 := dk_seg dksJ23_numberOfTrailingZeros_1 24 rfl rfl
theorem dksJ23_numberOfTrailingZeros_3 : cJ23_numberOfTrailingZeros.data.toList.drop 71 = dktJ23_numberOfTrailingZeros_3 := dk_seg dksJ23_numberOfTrailingZeros_2 24 rfl rfl
theorem dJ23_numberOfTrailingZeros_0 : decode cJ23_numberOfTrailingZeros 0 = .ok (.iload_n 0, 1) := dk_26 (dk_at dksJ23_numberOfTrailingZeros_0 0 rfl rfl)
theorem dJ23_numberOfTrailingZeros_1 : decode cJ23_numberOfTrailingZeros 1 = .ok (.iconst (-1), 1) := dk_2 (dk_at dksJ23_numberOfTrailingZeros_0 1 rfl rfl)
theorem dJ23_numberOfTrailingZeros_2 : decode cJ23_numberOfTrailingZeros 2 = .ok (.ixor, 1) := dk_130 (dk_at dksJ23_numberOfTrailingZeros_0 2 rfl rfl)
theorem dJ23_numberOfTrailingZeros_3 : decode cJ23_numberOfTrailingZeros 3 = .ok (.iload_n 0, 1) := dk_26 (dk_at dksJ23_numberOfTrailingZeros_0 3 rfl rfl)
theorem dJ23_numberOfTrailingZeros_4 : decode cJ23_numberOfTrailingZeros 4 = .ok (.iconst 1, 1) := dk_4 (dk_at dksJ23_numberOfTrailingZeros_0 4 rfl rfl)
theorem dJ23_numberOfTrailingZeros_5 : decode cJ23_numberOfTrailingZeros 5 = .ok (.isub, 1) := dk_100 (dk_at dksJ23_numberOfTrailingZeros_0 5 rfl rfl)
theorem dJ23_numberOfTrailingZeros_6 : decode cJ23_numberOfTrailingZeros 6 = .ok (.iand, 1) := dk_126 (dk_at dksJ23_numberOfTrailingZeros_0 6 rfl rfl)
theorem dJ23_numberOfTrailingZeros_7 : decode cJ23_numberOfTrailingZeros 7 = .ok (.istore_n 0, 1) := dk_59 (dk_at dksJ23_numberOfTrailingZeros_0 7 rfl rfl)
theorem dJ23_numberOfTrailingZeros_8 : decode cJ23_numberOfTrailingZeros 8 = .ok (.iload_n 0, 1) := dk_26 (dk_at dksJ23_numberOfTrailingZeros_0 8 rfl rfl)
theorem dJ23_numberOfTrailingZeros_9 : decode cJ23_numberOfTrailingZeros 9 = .ok (.ifCond .gt 8, 3) := dk_157 0 8 (dk_at dksJ23_numberOfTrailingZeros_0 9 rfl rfl)
theorem dJ23_numberOfTrailingZeros_12 : decode cJ23_numberOfTrailingZeros 12 = .ok (.iload_n 0, 1) := dk_26 (dk_at dksJ23_numberOfTrailingZeros_0 12 rfl rfl)
theorem dJ23_numberOfTrailingZeros_13 : decode cJ23_numberOfTrailingZeros 13 = .ok (.bipush 32, 2) := dk_16 32 (dk_at dksJ23_numberOfTrailingZeros_0 13 rfl rfl)
theorem dJ23_numberOfTrailingZeros_15 : decode cJ23_numberOfTrailingZeros 15 = .ok (.iand, 1) := dk_126 (dk_at dksJ23_numberOfTrailingZeros_0 15 rfl rfl)
theorem dJ23_numberOfTrailingZeros_16 : decode cJ23_numberOfTrailingZeros 16 = .ok (.ireturn, 1) := dk_172 (dk_at dksJ23_numberOfTrailingZeros_0 16 rfl rfl)
theorem dJ23_numberOfTrailingZeros_17 : decode cJ23_numberOfTrailingZeros 17 = .ok (.iconst 1, 1) := dk_4 (dk_at dksJ23_numberOfTrailingZeros_0 17 rfl rfl)
theorem dJ23_numberOfTrailingZeros_18 : decode cJ23_numberOfTrailingZeros 18 = .ok (.istore_n 1, 1) := dk_60 (dk_at dksJ23_numberOfTrailingZeros_0 18 rfl rfl)
theorem dJ23_numberOfTrailingZeros_19 : decode cJ23_numberOfTrailingZeros 19 = .ok (.iload_n 0, 1) := dk_26 (dk_at dksJ23_numberOfTrailingZeros_0 19 rfl rfl)
theorem dJ23_numberOfTrailingZeros_20 : decode cJ23_numberOfTrailingZeros 20 = .ok (.ldc_w 264, 3) := dk_19 1 8 (dk_at dksJ23_numberOfTrailingZeros_0 20 rfl rfl)
theorem dJ23_numberOfTrailingZeros_23 : decode cJ23_numberOfTrailingZeros 23 = .ok (.if_icmp .le 11, 3) := dk_164 0 11 (dk_at dksJ23_numberOfTrailingZeros_1 0 rfl rfl)
theorem dJ23_numberOfTrailingZeros_26 : decode cJ23_numberOfTrailingZeros 26 = .ok (.iinc 1 16, 3) := dk_132 1 16 (dk_at dksJ23_numberOfTrailingZeros_1 3 rfl rfl)
theorem dJ23_numberOfTrailingZeros_29 : decode cJ23_numberOfTrailingZeros 29 = .ok (.iload_n 0, 1) := dk_26 (dk_at dksJ23_numberOfTrailingZeros_1 6 rfl rfl)
theorem dJ23_numberOfTrailingZeros_30 : decode cJ23_numberOfTrailingZeros 30 = .ok (.bipush 16, 2) := dk_16 16 (dk_at dksJ23_numberOfTrailingZeros_1 7 rfl rfl)
theorem dJ23_numberOfTrailingZeros_32 : decode cJ23_numberOfTrailingZeros 32 = .ok (.iushr, 1) := dk_124 (dk_at dksJ23_numberOfTrailingZeros_1 9 rfl rfl)
theorem dJ23_numberOfTrailingZeros_33 : decode cJ23_numberOfTrailingZeros 33 = .ok (.istore_n 0, 1) := dk_59 (dk_at dksJ23_numberOfTrailingZeros_1 10 rfl rfl)
theorem dJ23_numberOfTrailingZeros_34 : decode cJ23_numberOfTrailingZeros 34 = .ok (.iload_n 0, 1) := dk_26 (dk_at dksJ23_numberOfTrailingZeros_1 11 rfl rfl)
theorem dJ23_numberOfTrailingZeros_35 : decode cJ23_numberOfTrailingZeros 35 = .ok (.sipush 256, 3) := dk_17 1 0 (dk_at dksJ23_numberOfTrailingZeros_1 12 rfl rfl)
theorem dJ23_numberOfTrailingZeros_38 : decode cJ23_numberOfTrailingZeros 38 = .ok (.if_icmp .le 11, 3) := dk_164 0 11 (dk_at dksJ23_numberOfTrailingZeros_1 15 rfl rfl)
theorem dJ23_numberOfTrailingZeros_41 : decode cJ23_numberOfTrailingZeros 41 = .ok (.iinc 1 8, 3) := dk_132 1 8 (dk_at dksJ23_numberOfTrailingZeros_1 18 rfl rfl)
theorem dJ23_numberOfTrailingZeros_44 : decode cJ23_numberOfTrailingZeros 44 = .ok (.iload_n 0, 1) := dk_26 (dk_at dksJ23_numberOfTrailingZeros_1 21 rfl rfl)
theorem dJ23_numberOfTrailingZeros_45 : decode cJ23_numberOfTrailingZeros 45 = .ok (.bipush 8, 2) := dk_16 8 (dk_at dksJ23_numberOfTrailingZeros_1 22 rfl rfl)
theorem dJ23_numberOfTrailingZeros_47 : decode cJ23_numberOfTrailingZeros 47 = .ok (.iushr, 1) := dk_124 (dk_at dksJ23_numberOfTrailingZeros_2 0 rfl rfl)
theorem dJ23_numberOfTrailingZeros_48 : decode cJ23_numberOfTrailingZeros 48 = .ok (.istore_n 0, 1) := dk_59 (dk_at dksJ23_numberOfTrailingZeros_2 1 rfl rfl)
theorem dJ23_numberOfTrailingZeros_49 : decode cJ23_numberOfTrailingZeros 49 = .ok (.iload_n 0, 1) := dk_26 (dk_at dksJ23_numberOfTrailingZeros_2 2 rfl rfl)
theorem dJ23_numberOfTrailingZeros_50 : decode cJ23_numberOfTrailingZeros 50 = .ok (.bipush 16, 2) := dk_16 16 (dk_at dksJ23_numberOfTrailingZeros_2 3 rfl rfl)
theorem dJ23_numberOfTrailingZeros_52 : decode cJ23_numberOfTrailingZeros 52 = .ok (.if_icmp .le 10, 3) := dk_164 0 10 (dk_at dksJ23_numberOfTrailingZeros_2 5 rfl rfl)
theorem dJ23_numberOfTrailingZeros_55 : decode cJ23_numberOfTrailingZeros 55 = .ok (.iinc 1 4, 3) := dk_132 1 4 (dk_at dksJ23_numberOfTrailingZeros_2 8 rfl rfl)
theorem dJ23_numberOfTrailingZeros_58 : decode cJ23_numberOfTrailingZeros 58 = .ok (.iload_n 0, 1) := dk_26 (dk_at dksJ23_numberOfTrailingZeros_2 11 rfl rfl)
theorem dJ23_numberOfTrailingZeros_59 : decode cJ23_numberOfTrailingZeros 59 = .ok (.iconst 4, 1) := dk_7 (dk_at dksJ23_numberOfTrailingZeros_2 12 rfl rfl)
theorem dJ23_numberOfTrailingZeros_60 : decode cJ23_numberOfTrailingZeros 60 = .ok (.iushr, 1) := dk_124 (dk_at dksJ23_numberOfTrailingZeros_2 13 rfl rfl)
theorem dJ23_numberOfTrailingZeros_61 : decode cJ23_numberOfTrailingZeros 61 = .ok (.istore_n 0, 1) := dk_59 (dk_at dksJ23_numberOfTrailingZeros_2 14 rfl rfl)
theorem dJ23_numberOfTrailingZeros_62 : decode cJ23_numberOfTrailingZeros 62 = .ok (.iload_n 0, 1) := dk_26 (dk_at dksJ23_numberOfTrailingZeros_2 15 rfl rfl)
theorem dJ23_numberOfTrailingZeros_63 : decode cJ23_numberOfTrailingZeros 63 = .ok (.iconst 4, 1) := dk_7 (dk_at dksJ23_numberOfTrailingZeros_2 16 rfl rfl)
theorem dJ23_numberOfTrailingZeros_64 : decode cJ23_numberOfTrailingZeros 64 = .ok (.if_icmp .le 10, 3) := dk_164 0 10 (dk_at dksJ23_numberOfTrailingZeros_2 17 rfl rfl)
theorem dJ23_numberOfTrailingZeros_67 : decode cJ23_numberOfTrailingZeros 67 = .ok (.iinc 1 2, 3) := dk_132 1 2 (dk_at dksJ23_numberOfTrailingZeros_2 20 rfl rfl)
theorem dJ23_numberOfTrailingZeros_70 : decode cJ23_numberOfTrailingZeros 70 = .ok (.iload_n 0, 1) := dk_26 (dk_at dksJ23_numberOfTrailingZeros_2 23 rfl rfl)
theorem dJ23_numberOfTrailingZeros_71 : decode cJ23_numberOfTrailingZeros 71 = .ok (.iconst 2, 1) := dk_5 (dk_at dksJ23_numberOfTrailingZeros_3 0 rfl rfl)
theorem dJ23_numberOfTrailingZeros_72 : decode cJ23_numberOfTrailingZeros 72 = .ok (.iushr, 1) := dk_124 (dk_at dksJ23_numberOfTrailingZeros_3 1 rfl rfl)
theorem dJ23_numberOfTrailingZeros_73 : decode cJ23_numberOfTrailingZeros 73 = .ok (.istore_n 0, 1) := dk_59 (dk_at dksJ23_numberOfTrailingZeros_3 2 rfl rfl)
theorem dJ23_numberOfTrailingZeros_74 : decode cJ23_numberOfTrailingZeros 74 = .ok (.iload_n 1, 1) := dk_27 (dk_at dksJ23_numberOfTrailingZeros_3 3 rfl rfl)
theorem dJ23_numberOfTrailingZeros_75 : decode cJ23_numberOfTrailingZeros 75 = .ok (.iload_n 0, 1) := dk_26 (dk_at dksJ23_numberOfTrailingZeros_3 4 rfl rfl)
theorem dJ23_numberOfTrailingZeros_76 : decode cJ23_numberOfTrailingZeros 76 = .ok (.iconst 1, 1) := dk_4 (dk_at dksJ23_numberOfTrailingZeros_3 5 rfl rfl)
theorem dJ23_numberOfTrailingZeros_77 : decode cJ23_numberOfTrailingZeros 77 = .ok (.iushr, 1) := dk_124 (dk_at dksJ23_numberOfTrailingZeros_3 6 rfl rfl)
theorem dJ23_numberOfTrailingZeros_78 : decode cJ23_numberOfTrailingZeros 78 = .ok (.iadd, 1) := dk_96 (dk_at dksJ23_numberOfTrailingZeros_3 7 rfl rfl)
theorem dJ23_numberOfTrailingZeros_79 : decode cJ23_numberOfTrailingZeros 79 = .ok (.ireturn, 1) := dk_172 (dk_at dksJ23_numberOfTrailingZeros_3 8 rfl rfl)
abbrev cJ23_equals : ByteArray := prog_39_method_34_code
def yJ23_equals : MethodName := ⟨RJ23, "equals", "(Ljava/lang/Object;)Z"⟩
def dkwJ23_equals_1 : List UInt8 := [167, 0, 4, 3, 172, 3, 172]
abbrev dktJ23_equals_1 : List UInt8 := dkwJ23_equals_1 ++ []
def dkwJ23_equals_0 : List UInt8 := [43, 193, 0, 1, 153, 0, 23, 42, 180, 0, 205, 43, 192, 0, 1, 182, 0, 211, 160, 0, 7, 4]
abbrev dktJ23_equals_0 : List UInt8 := dkwJ23_equals_0 ++ dktJ23_equals_1
theorem dksJ23_equals_0 : cJ23_equals.data.toList.drop 0 = dktJ23_equals_0 := by decide +kernel
theorem dksJ23_equals_1 : cJ23_equals.data.toList.drop 22 = dktJ23_equals_1 := dk_seg dksJ23_equals_0 22 rfl rfl
theorem dJ23_equals_0 : decode cJ23_equals 0 = .ok (.aload_n 1, 1) := dk_43 (dk_at dksJ23_equals_0 0 rfl rfl)
theorem dJ23_equals_1 : decode cJ23_equals 1 = .ok (.instanceof 1, 3) := dk_193 0 1 (dk_at dksJ23_equals_0 1 rfl rfl)
theorem dJ23_equals_4 : decode cJ23_equals 4 = .ok (.ifCond .eq 23, 3) := dk_153 0 23 (dk_at dksJ23_equals_0 4 rfl rfl)
theorem dJ23_equals_7 : decode cJ23_equals 7 = .ok (.aload_n 0, 1) := dk_42 (dk_at dksJ23_equals_0 7 rfl rfl)
theorem dJ23_equals_8 : decode cJ23_equals 8 = .ok (.getfield 205, 3) := dk_180 0 205 (dk_at dksJ23_equals_0 8 rfl rfl)
theorem dJ23_equals_11 : decode cJ23_equals 11 = .ok (.aload_n 1, 1) := dk_43 (dk_at dksJ23_equals_0 11 rfl rfl)
theorem dJ23_equals_12 : decode cJ23_equals 12 = .ok (.checkcast 1, 3) := dk_192 0 1 (dk_at dksJ23_equals_0 12 rfl rfl)
theorem dJ23_equals_15 : decode cJ23_equals 15 = .ok (.invokevirtual 211, 3) := dk_182 0 211 (dk_at dksJ23_equals_0 15 rfl rfl)
theorem dJ23_equals_18 : decode cJ23_equals 18 = .ok (.if_icmp .ne 7, 3) := dk_160 0 7 (dk_at dksJ23_equals_0 18 rfl rfl)
theorem dJ23_equals_21 : decode cJ23_equals 21 = .ok (.iconst 1, 1) := dk_4 (dk_at dksJ23_equals_0 21 rfl rfl)
theorem dJ23_equals_22 : decode cJ23_equals 22 = .ok (.goto 4, 3) := dk_167 0 4 (dk_at dksJ23_equals_1 0 rfl rfl)
theorem dJ23_equals_25 : decode cJ23_equals 25 = .ok (.iconst 0, 1) := dk_3 (dk_at dksJ23_equals_1 3 rfl rfl)
theorem dJ23_equals_26 : decode cJ23_equals 26 = .ok (.ireturn, 1) := dk_172 (dk_at dksJ23_equals_1 4 rfl rfl)
theorem dJ23_equals_27 : decode cJ23_equals 27 = .ok (.iconst 0, 1) := dk_3 (dk_at dksJ23_equals_1 5 rfl rfl)
theorem dJ23_equals_28 : decode cJ23_equals 28 = .ok (.ireturn, 1) := dk_172 (dk_at dksJ23_equals_1 6 rfl rfl)
abbrev cJ23_intValue : ByteArray := prog_39_method_27_code
def yJ23_intValue : MethodName := ⟨RJ23, "intValue", "()I"⟩
theorem dJ23_intValue_0 : decode cJ23_intValue 0 = .ok (.aload_n 0, 1) := by decide +kernel
theorem dJ23_intValue_1 : decode cJ23_intValue 1 = .ok (.getfield 205, 3) := by decide +kernel
theorem dJ23_intValue_4 : decode cJ23_intValue 4 = .ok (.ireturn, 1) := by decide +kernel
abbrev cJ23_signum : ByteArray := prog_39_method_56_code
def yJ23_signum : MethodName := ⟨RJ23, "signum", "(I)I"⟩
def dkwJ23_signum_0 : List UInt8 := [26, 16, 31, 122, 26, 116, 16, 31, 124, 128, 172]
abbrev dktJ23_signum_0 : List UInt8 := dkwJ23_signum_0 ++ []
theorem dksJ23_signum_0 : cJ23_signum.data.toList.drop 0 = dktJ23_signum_0 := by decide +kernel
theorem dJ23_signum_0 : decode cJ23_signum 0 = .ok (.iload_n 0, 1) := dk_26 (dk_at dksJ23_signum_0 0 rfl rfl)
theorem dJ23_signum_1 : decode cJ23_signum 1 = .ok (.bipush 31, 2) := dk_16 31 (dk_at dksJ23_signum_0 1 rfl rfl)
theorem dJ23_signum_3 : decode cJ23_signum 3 = .ok (.ishr, 1) := dk_122 (dk_at dksJ23_signum_0 3 rfl rfl)
theorem dJ23_signum_4 : decode cJ23_signum 4 = .ok (.iload_n 0, 1) := dk_26 (dk_at dksJ23_signum_0 4 rfl rfl)
theorem dJ23_signum_5 : decode cJ23_signum 5 = .ok (.ineg, 1) := dk_116 (dk_at dksJ23_signum_0 5 rfl rfl)
theorem dJ23_signum_6 : decode cJ23_signum 6 = .ok (.bipush 31, 2) := dk_16 31 (dk_at dksJ23_signum_0 6 rfl rfl)
theorem dJ23_signum_8 : decode cJ23_signum 8 = .ok (.iushr, 1) := dk_124 (dk_at dksJ23_signum_0 8 rfl rfl)
theorem dJ23_signum_9 : decode cJ23_signum 9 = .ok (.ior, 1) := dk_128 (dk_at dksJ23_signum_0 9 rfl rfl)
theorem dJ23_signum_10 : decode cJ23_signum 10 = .ok (.ireturn, 1) := dk_172 (dk_at dksJ23_signum_0 10 rfl rfl)
abbrev cJ23_valueOf : ByteArray := prog_39_method_22_code
def yJ23_valueOf : MethodName := ⟨RJ23, "valueOf", "(I)Ljava/lang/Integer;"⟩
def dkwJ23_valueOf_1 : List UInt8 := [187, 0, 1, 89, 26, 183, 0, 199, 176]
abbrev dktJ23_valueOf_1 : List UInt8 := dkwJ23_valueOf_1 ++ []
def dkwJ23_valueOf_0 : List UInt8 := [26, 16, 128, 161, 0, 20, 26, 178, 0, 191, 163, 0, 13, 178, 0, 195, 26, 17, 0, 128, 96, 50, 176]
abbrev dktJ23_valueOf_0 : List UInt8 := dkwJ23_valueOf_0 ++ dktJ23_valueOf_1
theorem dksJ23_valueOf_0 : cJ23_valueOf.data.toList.drop 0 = dktJ23_valueOf_0 := by decide +kernel
theorem dksJ23_valueOf_1 : cJ23_valueOf.data.toList.drop 23 = dktJ23_valueOf_1 := dk_seg dksJ23_valueOf_0 23 rfl rfl
theorem dJ23_valueOf_0 : decode cJ23_valueOf 0 = .ok (.iload_n 0, 1) := dk_26 (dk_at dksJ23_valueOf_0 0 rfl rfl)
theorem dJ23_valueOf_1 : decode cJ23_valueOf 1 = .ok (.bipush (-128), 2) := dk_16 128 (dk_at dksJ23_valueOf_0 1 rfl rfl)
theorem dJ23_valueOf_3 : decode cJ23_valueOf 3 = .ok (.if_icmp .lt 20, 3) := dk_161 0 20 (dk_at dksJ23_valueOf_0 3 rfl rfl)
theorem dJ23_valueOf_6 : decode cJ23_valueOf 6 = .ok (.iload_n 0, 1) := dk_26 (dk_at dksJ23_valueOf_0 6 rfl rfl)
theorem dJ23_valueOf_7 : decode cJ23_valueOf 7 = .ok (.getstatic 191, 3) := dk_178 0 191 (dk_at dksJ23_valueOf_0 7 rfl rfl)
theorem dJ23_valueOf_10 : decode cJ23_valueOf 10 = .ok (.if_icmp .gt 13, 3) := dk_163 0 13 (dk_at dksJ23_valueOf_0 10 rfl rfl)
theorem dJ23_valueOf_13 : decode cJ23_valueOf 13 = .ok (.getstatic 195, 3) := dk_178 0 195 (dk_at dksJ23_valueOf_0 13 rfl rfl)
theorem dJ23_valueOf_16 : decode cJ23_valueOf 16 = .ok (.iload_n 0, 1) := dk_26 (dk_at dksJ23_valueOf_0 16 rfl rfl)
theorem dJ23_valueOf_17 : decode cJ23_valueOf 17 = .ok (.sipush 128, 3) := dk_17 0 128 (dk_at dksJ23_valueOf_0 17 rfl rfl)
theorem dJ23_valueOf_20 : decode cJ23_valueOf 20 = .ok (.iadd, 1) := dk_96 (dk_at dksJ23_valueOf_0 20 rfl rfl)
theorem dJ23_valueOf_21 : decode cJ23_valueOf 21 = .ok (.aaload, 1) := dk_50 (dk_at dksJ23_valueOf_0 21 rfl rfl)
theorem dJ23_valueOf_22 : decode cJ23_valueOf 22 = .ok (.areturn, 1) := dk_176 (dk_at dksJ23_valueOf_0 22 rfl rfl)
theorem dJ23_valueOf_23 : decode cJ23_valueOf 23 = .ok (.new 1, 3) := dk_187 0 1 (dk_at dksJ23_valueOf_1 0 rfl rfl)
theorem dJ23_valueOf_26 : decode cJ23_valueOf 26 = .ok (.dup, 1) := dk_89 (dk_at dksJ23_valueOf_1 3 rfl rfl)
theorem dJ23_valueOf_27 : decode cJ23_valueOf 27 = .ok (.iload_n 0, 1) := dk_26 (dk_at dksJ23_valueOf_1 4 rfl rfl)
theorem dJ23_valueOf_28 : decode cJ23_valueOf 28 = .ok (.invokespecial 199, 3) := dk_183 0 199 (dk_at dksJ23_valueOf_1 5 rfl rfl)
theorem dJ23_valueOf_31 : decode cJ23_valueOf 31 = .ok (.areturn, 1) := dk_176 (dk_at dksJ23_valueOf_1 8 rfl rfl)
abbrev cJ23_init : ByteArray := prog_39_method_23_code
def yJ23_init : MethodName := ⟨RJ23, "<init>", "(I)V"⟩
def dkwJ23_init_0 : List UInt8 := [42, 183, 0, 202, 42, 27, 181, 0, 205, 177]
abbrev dktJ23_init_0 : List UInt8 := dkwJ23_init_0 ++ []
theorem dksJ23_init_0 : cJ23_init.data.toList.drop 0 = dktJ23_init_0 := by decide +kernel
theorem dJ23_init_0 : decode cJ23_init 0 = .ok (.aload_n 0, 1) := dk_42 (dk_at dksJ23_init_0 0 rfl rfl)
theorem dJ23_init_1 : decode cJ23_init 1 = .ok (.invokespecial 202, 3) := dk_183 0 202 (dk_at dksJ23_init_0 1 rfl rfl)
theorem dJ23_init_4 : decode cJ23_init 4 = .ok (.aload_n 0, 1) := dk_42 (dk_at dksJ23_init_0 4 rfl rfl)
theorem dJ23_init_5 : decode cJ23_init 5 = .ok (.iload_n 1, 1) := dk_27 (dk_at dksJ23_init_0 5 rfl rfl)
theorem dJ23_init_6 : decode cJ23_init 6 = .ok (.putfield 205, 3) := dk_181 0 205 (dk_at dksJ23_init_0 6 rfl rfl)
theorem dJ23_init_9 : decode cJ23_init 9 = .ok (.return_, 1) := dk_177 (dk_at dksJ23_init_0 9 rfl rfl)
theorem q129 : (Jvm.Cond.initialized "java/lang/Integer") ∈ lw_all := lw_g (lw_at lw_m1 27 rfl) rfl
theorem q520 : (Jvm.Cond.static ({ cls := "java/lang/Integer", name := "stringSize", desc := "(I)I" } : Jvm.MethodName)) ∈ lw_all := lw_g (lw_at lw_m2 178 rfl) rfl
theorem q521 : (Jvm.Cond.code ({ cls := "java/lang/Integer", name := "stringSize", desc := "(I)I" } : Jvm.MethodName) prog_39_method_13_code (4 : Nat) (Option.some Jvm.ClassFile.FieldType.int)) ∈ lw_all := lw_g (lw_at lw_m2 179 rfl) rfl
theorem q523 : (Jvm.Cond.static ({ cls := "java/lang/Integer", name := "getChars", desc := "(II[B)I" } : Jvm.MethodName)) ∈ lw_all := lw_g (lw_at lw_m2 181 rfl) rfl
theorem q524 : (Jvm.Cond.code ({ cls := "java/lang/Integer", name := "getChars", desc := "(II[B)I" } : Jvm.MethodName) prog_39_method_12_code (7 : Nat) (Option.some Jvm.ClassFile.FieldType.int)) ∈ lw_all := lw_g (lw_at lw_m2 182 rfl) rfl
theorem q525 : (Jvm.Cond.fieldLink "java/lang/Integer" (83 : Nat) "java/lang/Integer" "DigitOnes" "[B") ∈ lw_all := lw_g (lw_at lw_m2 183 rfl) rfl
theorem q526 : (Jvm.Cond.laysStatic "java/lang/Integer" "DigitOnes" "[B") ∈ lw_tbl := lw_at lw_m2 184 rfl
theorem q527 : (Jvm.Cond.fieldLink "java/lang/Integer" (87 : Nat) "java/lang/Integer" "DigitTens" "[B") ∈ lw_all := lw_g (lw_at lw_m2 185 rfl) rfl
theorem q528 : (Jvm.Cond.laysStatic "java/lang/Integer" "DigitTens" "[B") ∈ lw_tbl := lw_at lw_m2 186 rfl
theorem q682 : (Jvm.Cond.static ({ cls := "java/lang/Integer", name := "numberOfLeadingZeros", desc := "(I)I" } : Jvm.MethodName)) ∈ lw_all := lw_g (lw_at lw_m3 100 rfl) rfl
theorem q683 : (Jvm.Cond.code ({ cls := "java/lang/Integer", name := "numberOfLeadingZeros", desc := "(I)I" } : Jvm.MethodName) prog_39_method_47_code (2 : Nat) (Option.some Jvm.ClassFile.FieldType.int)) ∈ lw_all := lw_g (lw_at lw_m3 101 rfl) rfl
theorem q684 : (Jvm.Cond.constant "java/lang/Integer" (264 : Nat) (65536 : Int32)) ∈ lw_all := lw_g (lw_at lw_m3 102 rfl) rfl
theorem q1008 : (Jvm.Cond.selects "java/lang/Integer" ({ cls := "java/lang/Object", name := "getClass", desc := "()Ljava/lang/Class;" } : Jvm.MethodName) ({ cls := "java/lang/Object", name := "getClass", desc := "()Ljava/lang/Class;" } : Jvm.MethodName)) ∈ lw_all := lw_g (lw_at lw_m4 186 rfl) rfl
theorem q1062 : (Jvm.Cond.selects "java/lang/Integer" ({ cls := "java/lang/Object", name := "toString", desc := "()Ljava/lang/String;" } : Jvm.MethodName) ({ cls := "java/lang/Integer", name := "toString", desc := "()Ljava/lang/String;" } : Jvm.MethodName)) ∈ lw_all := lw_g (lw_at lw_m5 0 rfl) rfl
theorem q1063 : (Jvm.Cond.instanceMethod ({ cls := "java/lang/Integer", name := "toString", desc := "()Ljava/lang/String;" } : Jvm.MethodName)) ∈ lw_all := lw_g (lw_at lw_m5 1 rfl) rfl
theorem q1064 : (Jvm.Cond.code ({ cls := "java/lang/Integer", name := "toString", desc := "()Ljava/lang/String;" } : Jvm.MethodName) prog_39_method_31_code (1 : Nat) (Option.some (Jvm.ClassFile.FieldType.object "java/lang/String"))) ∈ lw_all := lw_g (lw_at lw_m5 2 rfl) rfl
theorem q1065 : (Jvm.Cond.methodLink "java/lang/Integer" (9 : Nat) ({ cls := "java/lang/Integer", name := "toString", desc := "(I)Ljava/lang/String;" } : Jvm.MethodName)) ∈ lw_all := lw_g (lw_at lw_m5 3 rfl) rfl
theorem q1066 : (Jvm.Cond.static ({ cls := "java/lang/Integer", name := "toString", desc := "(I)Ljava/lang/String;" } : Jvm.MethodName)) ∈ lw_all := lw_g (lw_at lw_m5 4 rfl) rfl
theorem q1067 : (Jvm.Cond.code ({ cls := "java/lang/Integer", name := "toString", desc := "(I)Ljava/lang/String;" } : Jvm.MethodName) prog_39_method_10_code (3 : Nat) (Option.some (Jvm.ClassFile.FieldType.object "java/lang/String"))) ∈ lw_all := lw_g (lw_at lw_m5 5 rfl) rfl
theorem q1068 : (Jvm.Cond.methodLink "java/lang/Integer" (72 : Nat) ({ cls := "java/lang/Integer", name := "stringSize", desc := "(I)I" } : Jvm.MethodName)) ∈ lw_all := lw_g (lw_at lw_m5 6 rfl) rfl
theorem q1069 : (Jvm.Cond.fieldLink "java/lang/Integer" (13 : Nat) "java/lang/String" "COMPACT_STRINGS" "Z") ∈ lw_all := lw_g (lw_at lw_m5 7 rfl) rfl
theorem q1070 : (Jvm.Cond.methodLink "java/lang/Integer" (75 : Nat) ({ cls := "java/lang/Integer", name := "getChars", desc := "(II[B)I" } : Jvm.MethodName)) ∈ lw_all := lw_g (lw_at lw_m5 8 rfl) rfl
theorem q1071 : (Jvm.Cond.classLink "java/lang/Integer" (5 : Nat) "java/lang/String") ∈ lw_all := lw_g (lw_at lw_m5 9 rfl) rfl
theorem q1072 : (Jvm.Cond.methodLink "java/lang/Integer" (65 : Nat) ({ cls := "java/lang/String", name := "<init>", desc := "([BB)V" } : Jvm.MethodName)) ∈ lw_all := lw_g (lw_at lw_m5 10 rfl) rfl
theorem q1075 : (Jvm.Cond.methodLink "java/lang/Integer" (79 : Nat) ({ cls := "java/lang/StringUTF16", name := "getChars", desc := "(II[B)I" } : Jvm.MethodName)) ∈ lw_all := lw_g (lw_at lw_m5 13 rfl) rfl
theorem q1740 : (Jvm.Cond.selects "java/lang/Integer" ({ cls := "java/lang/Object", name := "hashCode", desc := "()I" } : Jvm.MethodName) ({ cls := "java/lang/Integer", name := "hashCode", desc := "()I" } : Jvm.MethodName)) ∈ lw_all := lw_g (lw_at lw_m7 198 rfl) rfl
theorem q1741 : (Jvm.Cond.instanceMethod ({ cls := "java/lang/Integer", name := "hashCode", desc := "()I" } : Jvm.MethodName)) ∈ lw_all := lw_g (lw_at lw_m7 199 rfl) rfl
theorem q1742 : (Jvm.Cond.code ({ cls := "java/lang/Integer", name := "hashCode", desc := "()I" } : Jvm.MethodName) prog_39_method_32_code (1 : Nat) (Option.some Jvm.ClassFile.FieldType.int)) ∈ lw_all := lw_g (lw_at lw_m7 200 rfl) rfl
theorem q1743 : (Jvm.Cond.methodLink "java/lang/Integer" (208 : Nat) ({ cls := "java/lang/Integer", name := "hashCode", desc := "(I)I" } : Jvm.MethodName)) ∈ lw_all := lw_g (lw_at lw_m7 201 rfl) rfl
theorem q1744 : (Jvm.Cond.static ({ cls := "java/lang/Integer", name := "hashCode", desc := "(I)I" } : Jvm.MethodName)) ∈ lw_all := lw_g (lw_at lw_m7 202 rfl) rfl
theorem q1745 : (Jvm.Cond.code ({ cls := "java/lang/Integer", name := "hashCode", desc := "(I)I" } : Jvm.MethodName) prog_39_method_33_code (1 : Nat) (Option.some Jvm.ClassFile.FieldType.int)) ∈ lw_all := lw_g (lw_at lw_m7 203 rfl) rfl
theorem q1945 : (Jvm.Cond.castable "java/lang/Integer" "java/lang/Comparable") ∈ lw_tbl := lw_at lw_m8 163 rfl
theorem q1946 : (Jvm.Cond.selects "java/lang/Integer" ({ cls := "java/lang/Comparable", name := "compareTo", desc := "(Ljava/lang/Object;)I" } : Jvm.MethodName) ({ cls := "java/lang/Integer", name := "compareTo", desc := "(Ljava/lang/Object;)I" } : Jvm.MethodName)) ∈ lw_all := lw_g (lw_at lw_m8 164 rfl) rfl
theorem q1947 : (Jvm.Cond.unhidden "java/lang/Integer" "compareTo" "(Ljava/lang/Object;)I") ∈ lw_tbl := lw_at lw_m8 165 rfl
theorem q1948 : (Jvm.Cond.instanceMethod ({ cls := "java/lang/Integer", name := "compareTo", desc := "(Ljava/lang/Object;)I" } : Jvm.MethodName)) ∈ lw_all := lw_g (lw_at lw_m8 166 rfl) rfl
theorem q1949 : (Jvm.Cond.publicMethod ({ cls := "java/lang/Integer", name := "compareTo", desc := "(Ljava/lang/Object;)I" } : Jvm.MethodName)) ∈ lw_tbl := lw_at lw_m8 167 rfl
theorem q1950 : (Jvm.Cond.code ({ cls := "java/lang/Integer", name := "compareTo", desc := "(Ljava/lang/Object;)I" } : Jvm.MethodName) prog_39_method_63_code (2 : Nat) (Option.some Jvm.ClassFile.FieldType.int)) ∈ lw_all := lw_g (lw_at lw_m8 168 rfl) rfl
theorem q1951 : (Jvm.Cond.classLink "java/lang/Integer" (1 : Nat) "java/lang/Integer") ∈ lw_all := lw_g (lw_at lw_m8 169 rfl) rfl
theorem q1952 : (Jvm.Cond.methodLink "java/lang/Integer" (284 : Nat) ({ cls := "java/lang/Integer", name := "compareTo", desc := "(Ljava/lang/Integer;)I" } : Jvm.MethodName)) ∈ lw_all := lw_g (lw_at lw_m8 170 rfl) rfl
theorem q1953 : (Jvm.Cond.instanceMethod ({ cls := "java/lang/Integer", name := "compareTo", desc := "(Ljava/lang/Integer;)I" } : Jvm.MethodName)) ∈ lw_all := lw_g (lw_at lw_m8 171 rfl) rfl
theorem q1954 : (Jvm.Cond.selects "java/lang/Integer" ({ cls := "java/lang/Integer", name := "compareTo", desc := "(Ljava/lang/Integer;)I" } : Jvm.MethodName) ({ cls := "java/lang/Integer", name := "compareTo", desc := "(Ljava/lang/Integer;)I" } : Jvm.MethodName)) ∈ lw_all := lw_g (lw_at lw_m8 172 rfl) rfl
theorem q1955 : (Jvm.Cond.code ({ cls := "java/lang/Integer", name := "compareTo", desc := "(Ljava/lang/Integer;)I" } : Jvm.MethodName) prog_39_method_39_code (2 : Nat) (Option.some Jvm.ClassFile.FieldType.int)) ∈ lw_all := lw_g (lw_at lw_m8 173 rfl) rfl
theorem q1956 : (Jvm.Cond.methodLink "java/lang/Integer" (259 : Nat) ({ cls := "java/lang/Integer", name := "compare", desc := "(II)I" } : Jvm.MethodName)) ∈ lw_all := lw_g (lw_at lw_m8 174 rfl) rfl
theorem q1957 : (Jvm.Cond.static ({ cls := "java/lang/Integer", name := "compare", desc := "(II)I" } : Jvm.MethodName)) ∈ lw_all := lw_g (lw_at lw_m8 175 rfl) rfl
theorem q1958 : (Jvm.Cond.code ({ cls := "java/lang/Integer", name := "compare", desc := "(II)I" } : Jvm.MethodName) prog_39_method_40_code (2 : Nat) (Option.some Jvm.ClassFile.FieldType.int)) ∈ lw_all := lw_g (lw_at lw_m8 176 rfl) rfl
theorem q2055 : (Jvm.Cond.static ({ cls := "java/lang/Integer", name := "numberOfTrailingZeros", desc := "(I)I" } : Jvm.MethodName)) ∈ lw_all := lw_g (lw_at lw_m9 33 rfl) rfl
theorem q2056 : (Jvm.Cond.code ({ cls := "java/lang/Integer", name := "numberOfTrailingZeros", desc := "(I)I" } : Jvm.MethodName) prog_39_method_48_code (2 : Nat) (Option.some Jvm.ClassFile.FieldType.int)) ∈ lw_all := lw_g (lw_at lw_m9 34 rfl) rfl
theorem q2193 : (Jvm.Cond.selects "java/lang/Integer" ({ cls := "java/lang/Object", name := "equals", desc := "(Ljava/lang/Object;)Z" } : Jvm.MethodName) ({ cls := "java/lang/Integer", name := "equals", desc := "(Ljava/lang/Object;)Z" } : Jvm.MethodName)) ∈ lw_all := lw_g (lw_at lw_m9 171 rfl) rfl
theorem q2194 : (Jvm.Cond.instanceMethod ({ cls := "java/lang/Integer", name := "equals", desc := "(Ljava/lang/Object;)Z" } : Jvm.MethodName)) ∈ lw_all := lw_g (lw_at lw_m9 172 rfl) rfl
theorem q2195 : (Jvm.Cond.code ({ cls := "java/lang/Integer", name := "equals", desc := "(Ljava/lang/Object;)Z" } : Jvm.MethodName) prog_39_method_34_code (2 : Nat) (Option.some Jvm.ClassFile.FieldType.boolean)) ∈ lw_all := lw_g (lw_at lw_m9 173 rfl) rfl
theorem q2196 : (Jvm.Cond.methodLink "java/lang/Integer" (211 : Nat) ({ cls := "java/lang/Integer", name := "intValue", desc := "()I" } : Jvm.MethodName)) ∈ lw_all := lw_g (lw_at lw_m9 174 rfl) rfl
theorem q2197 : (Jvm.Cond.instanceMethod ({ cls := "java/lang/Integer", name := "intValue", desc := "()I" } : Jvm.MethodName)) ∈ lw_all := lw_g (lw_at lw_m9 175 rfl) rfl
theorem q2198 : (Jvm.Cond.selects "java/lang/Integer" ({ cls := "java/lang/Integer", name := "intValue", desc := "()I" } : Jvm.MethodName) ({ cls := "java/lang/Integer", name := "intValue", desc := "()I" } : Jvm.MethodName)) ∈ lw_all := lw_g (lw_at lw_m9 176 rfl) rfl
theorem q2199 : (Jvm.Cond.code ({ cls := "java/lang/Integer", name := "intValue", desc := "()I" } : Jvm.MethodName) prog_39_method_27_code (1 : Nat) (Option.some Jvm.ClassFile.FieldType.int)) ∈ lw_all := lw_g (lw_at lw_m9 177 rfl) rfl
theorem q2701 : (Jvm.Cond.static ({ cls := "java/lang/Integer", name := "signum", desc := "(I)I" } : Jvm.MethodName)) ∈ lw_all := lw_g (lw_at lw_m11 199 rfl) rfl
theorem q2702 : (Jvm.Cond.code ({ cls := "java/lang/Integer", name := "signum", desc := "(I)I" } : Jvm.MethodName) prog_39_method_56_code (1 : Nat) (Option.some Jvm.ClassFile.FieldType.int)) ∈ lw_all := lw_g (lw_at lw_m11 200 rfl) rfl
theorem q3384 : (Jvm.Cond.static ({ cls := "java/lang/Integer", name := "valueOf", desc := "(I)Ljava/lang/Integer;" } : Jvm.MethodName)) ∈ lw_all := lw_g (lw_at lw_m14 162 rfl) rfl
theorem q3385 : (Jvm.Cond.code ({ cls := "java/lang/Integer", name := "valueOf", desc := "(I)Ljava/lang/Integer;" } : Jvm.MethodName) prog_39_method_22_code (1 : Nat) (Option.some (Jvm.ClassFile.FieldType.object "java/lang/Integer"))) ∈ lw_all := lw_g (lw_at lw_m14 163 rfl) rfl
theorem q3386 : (Jvm.Cond.fieldLink "java/lang/Integer" (191 : Nat) "java/lang/Integer$IntegerCache" "high" "I") ∈ lw_all := lw_g (lw_at lw_m14 164 rfl) rfl
theorem q3388 : (Jvm.Cond.fieldLink "java/lang/Integer" (195 : Nat) "java/lang/Integer$IntegerCache" "cache" "[Ljava/lang/Integer;") ∈ lw_all := lw_g (lw_at lw_m14 166 rfl) rfl
theorem q3390 : (Jvm.Cond.instantiable "java/lang/Integer" (1 : Nat)) ∈ lw_all := lw_g (lw_at lw_m14 168 rfl) rfl
theorem q3391 : (Jvm.Cond.methodLink "java/lang/Integer" (199 : Nat) ({ cls := "java/lang/Integer", name := "<init>", desc := "(I)V" } : Jvm.MethodName)) ∈ lw_all := lw_g (lw_at lw_m14 169 rfl) rfl
theorem q3392 : (Jvm.Cond.instanceMethod ({ cls := "java/lang/Integer", name := "<init>", desc := "(I)V" } : Jvm.MethodName)) ∈ lw_all := lw_g (lw_at lw_m14 170 rfl) rfl
theorem q3393 : (Jvm.Cond.code ({ cls := "java/lang/Integer", name := "<init>", desc := "(I)V" } : Jvm.MethodName) prog_39_method_23_code (2 : Nat) (Option.none : Option Jvm.ClassFile.FieldType)) ∈ lw_all := lw_g (lw_at lw_m14 171 rfl) rfl
theorem q3394 : (Jvm.Cond.methodLink "java/lang/Integer" (202 : Nat) ({ cls := "java/lang/Number", name := "<init>", desc := "()V" } : Jvm.MethodName)) ∈ lw_all := lw_g (lw_at lw_m14 172 rfl) rfl
theorem q3398 : (Jvm.Cond.fieldLink "java/lang/Integer" (205 : Nat) "java/lang/Integer" "value" "I") ∈ lw_all := lw_g (lw_at lw_m14 176 rfl) rfl
theorem q3399 : (Jvm.Cond.laysFinal "java/lang/Integer" "java/lang/Integer" "value" "I") ∈ lw_all := lw_g (lw_at lw_m14 177 rfl) rfl
theorem q3400 : (Jvm.Cond.soleField "java/lang/Integer" "value") ∈ lw_all := lw_g (lw_at lw_m14 178 rfl) rfl
theorem q3401 : (Jvm.Cond.superclass "java/lang/Integer" "java/lang/Number") ∈ lw_all := lw_g (lw_at lw_m14 179 rfl) rfl
theorem q4465 : (Jvm.Cond.castable "java/lang/Integer" "java/lang/Object") ∈ lw_tbl := lw_at lw_m19 43 rfl

set_option maxRecDepth 100000
abbrev cJ24_isNaN : ByteArray := prog_35_method_6_code
def yJ24_isNaN : MethodName := ⟨RJ24, "isNaN", "(F)Z"⟩
def dkwJ24_isNaN_0 : List UInt8 := [34, 34, 149, 153, 0, 7, 4, 167, 0, 4, 3, 172]
abbrev dktJ24_isNaN_0 : List UInt8 := dkwJ24_isNaN_0 ++ []
theorem dksJ24_isNaN_0 : cJ24_isNaN.data.toList.drop 0 = dktJ24_isNaN_0 := by decide +kernel
theorem dJ24_isNaN_0 : decode cJ24_isNaN 0 = .ok (.fload_n 0, 1) := dk_34 (dk_at dksJ24_isNaN_0 0 rfl rfl)
theorem dJ24_isNaN_1 : decode cJ24_isNaN 1 = .ok (.fload_n 0, 1) := dk_34 (dk_at dksJ24_isNaN_0 1 rfl rfl)
theorem dJ24_isNaN_2 : decode cJ24_isNaN 2 = .ok (.fcmp .l, 1) := dk_149 (dk_at dksJ24_isNaN_0 2 rfl rfl)
theorem dJ24_isNaN_3 : decode cJ24_isNaN 3 = .ok (.ifCond .eq 7, 3) := dk_153 0 7 (dk_at dksJ24_isNaN_0 3 rfl rfl)
theorem dJ24_isNaN_6 : decode cJ24_isNaN 6 = .ok (.iconst 1, 1) := dk_4 (dk_at dksJ24_isNaN_0 6 rfl rfl)
theorem dJ24_isNaN_7 : decode cJ24_isNaN 7 = .ok (.goto 4, 3) := dk_167 0 4 (dk_at dksJ24_isNaN_0 7 rfl rfl)
theorem dJ24_isNaN_10 : decode cJ24_isNaN 10 = .ok (.iconst 0, 1) := dk_3 (dk_at dksJ24_isNaN_0 10 rfl rfl)
theorem dJ24_isNaN_11 : decode cJ24_isNaN 11 = .ok (.ireturn, 1) := dk_172 (dk_at dksJ24_isNaN_0 11 rfl rfl)
abbrev cJ24_floatToIntBits : ByteArray := prog_35_method_24_code
def yJ24_floatToIntBits : MethodName := ⟨RJ24, "floatToIntBits", "(F)I"⟩
def dkwJ24_floatToIntBits_0 : List UInt8 := [34, 184, 0, 59, 154, 0, 8, 34, 184, 0, 74, 172, 18, 77, 172]
abbrev dktJ24_floatToIntBits_0 : List UInt8 := dkwJ24_floatToIntBits_0 ++ []
theorem dksJ24_floatToIntBits_0 : cJ24_floatToIntBits.data.toList.drop 0 = dktJ24_floatToIntBits_0 := by decide +kernel
theorem dJ24_floatToIntBits_0 : decode cJ24_floatToIntBits 0 = .ok (.fload_n 0, 1) := dk_34 (dk_at dksJ24_floatToIntBits_0 0 rfl rfl)
theorem dJ24_floatToIntBits_1 : decode cJ24_floatToIntBits 1 = .ok (.invokestatic 59, 3) := dk_184 0 59 (dk_at dksJ24_floatToIntBits_0 1 rfl rfl)
theorem dJ24_floatToIntBits_4 : decode cJ24_floatToIntBits 4 = .ok (.ifCond .ne 8, 3) := dk_154 0 8 (dk_at dksJ24_floatToIntBits_0 4 rfl rfl)
theorem dJ24_floatToIntBits_7 : decode cJ24_floatToIntBits 7 = .ok (.fload_n 0, 1) := dk_34 (dk_at dksJ24_floatToIntBits_0 7 rfl rfl)
theorem dJ24_floatToIntBits_8 : decode cJ24_floatToIntBits 8 = .ok (.invokestatic 74, 3) := dk_184 0 74 (dk_at dksJ24_floatToIntBits_0 8 rfl rfl)
theorem dJ24_floatToIntBits_11 : decode cJ24_floatToIntBits 11 = .ok (.ireturn, 1) := dk_172 (dk_at dksJ24_floatToIntBits_0 11 rfl rfl)
theorem dJ24_floatToIntBits_12 : decode cJ24_floatToIntBits 12 = .ok (.ldc 77, 2) := dk_18 77 (dk_at dksJ24_floatToIntBits_0 12 rfl rfl)
theorem dJ24_floatToIntBits_14 : decode cJ24_floatToIntBits 14 = .ok (.ireturn, 1) := dk_172 (dk_at dksJ24_floatToIntBits_0 14 rfl rfl)
theorem q130 : (Jvm.Cond.initialized "java/lang/Float") ∈ lw_all := lw_g (lw_at lw_m1 28 rfl) rfl
theorem q634 : (Jvm.Cond.static ({ cls := "java/lang/Float", name := "isNaN", desc := "(F)Z" } : Jvm.MethodName)) ∈ lw_all := lw_g (lw_at lw_m3 52 rfl) rfl
theorem q635 : (Jvm.Cond.code ({ cls := "java/lang/Float", name := "isNaN", desc := "(F)Z" } : Jvm.MethodName) prog_35_method_6_code (1 : Nat) (Option.some Jvm.ClassFile.FieldType.boolean)) ∈ lw_all := lw_g (lw_at lw_m3 53 rfl) rfl
theorem q669 : (Jvm.Cond.static ({ cls := "java/lang/Float", name := "floatToRawIntBits", desc := "(F)I" } : Jvm.MethodName)) ∈ lw_all := lw_g (lw_at lw_m3 87 rfl) rfl
theorem q670 : (Jvm.Cond.native ({ cls := "java/lang/Float", name := "floatToRawIntBits", desc := "(F)I" } : Jvm.MethodName)) ∈ lw_all := lw_g (lw_at lw_m3 88 rfl) rfl
theorem q3507 : (Jvm.Cond.static ({ cls := "java/lang/Float", name := "floatToIntBits", desc := "(F)I" } : Jvm.MethodName)) ∈ lw_all := lw_g (lw_at lw_m15 45 rfl) rfl
theorem q3508 : (Jvm.Cond.code ({ cls := "java/lang/Float", name := "floatToIntBits", desc := "(F)I" } : Jvm.MethodName) prog_35_method_24_code (1 : Nat) (Option.some Jvm.ClassFile.FieldType.int)) ∈ lw_all := lw_g (lw_at lw_m15 46 rfl) rfl
theorem q3509 : (Jvm.Cond.methodLink "java/lang/Float" (59 : Nat) ({ cls := "java/lang/Float", name := "isNaN", desc := "(F)Z" } : Jvm.MethodName)) ∈ lw_all := lw_g (lw_at lw_m15 47 rfl) rfl
theorem q3510 : (Jvm.Cond.methodLink "java/lang/Float" (74 : Nat) ({ cls := "java/lang/Float", name := "floatToRawIntBits", desc := "(F)I" } : Jvm.MethodName)) ∈ lw_all := lw_g (lw_at lw_m15 48 rfl) rfl
theorem q3511 : (Jvm.Cond.constant "java/lang/Float" (77 : Nat) (2143289344 : Int32)) ∈ lw_all := lw_g (lw_at lw_m15 49 rfl) rfl

set_option maxRecDepth 100000
abbrev cJ31_init : ByteArray := prog_62_method_3_code
def yJ31_init : MethodName := ⟨RJ31, "<init>", "()V"⟩
def dkwJ31_init_0 : List UInt8 := [42, 183, 0, 42, 42, 16, 17, 189, 0, 47, 181, 0, 3, 177]
abbrev dktJ31_init_0 : List UInt8 := dkwJ31_init_0 ++ []
theorem dksJ31_init_0 : cJ31_init.data.toList.drop 0 = dktJ31_init_0 := by decide +kernel
theorem dJ31_init_0 : decode cJ31_init 0 = .ok (.aload_n 0, 1) := dk_42 (dk_at dksJ31_init_0 0 rfl rfl)
theorem dJ31_init_1 : decode cJ31_init 1 = .ok (.invokespecial 42, 3) := dk_183 0 42 (dk_at dksJ31_init_0 1 rfl rfl)
theorem dJ31_init_4 : decode cJ31_init 4 = .ok (.aload_n 0, 1) := dk_42 (dk_at dksJ31_init_0 4 rfl rfl)
theorem dJ31_init_5 : decode cJ31_init 5 = .ok (.bipush 17, 2) := dk_16 17 (dk_at dksJ31_init_0 5 rfl rfl)
theorem dJ31_init_7 : decode cJ31_init 7 = .ok (.anewarray 47, 3) := dk_189 0 47 (dk_at dksJ31_init_0 7 rfl rfl)
theorem dJ31_init_10 : decode cJ31_init 10 = .ok (.putfield 3, 3) := dk_181 0 3 (dk_at dksJ31_init_0 10 rfl rfl)
theorem dJ31_init_13 : decode cJ31_init 13 = .ok (.return_, 1) := dk_177 (dk_at dksJ31_init_0 13 rfl rfl)
abbrev cJ31_nonNullElementAt : ByteArray := prog_62_method_11_code
def yJ31_nonNullElementAt : MethodName := ⟨RJ31, "nonNullElementAt", "([Ljava/lang/Object;I)Ljava/lang/Object;"⟩
def dkwJ31_nonNullElementAt_0 : List UInt8 := [42, 27, 50, 77, 44, 199, 0, 11, 187, 0, 62, 89, 183, 0, 64, 191, 44, 176]
abbrev dktJ31_nonNullElementAt_0 : List UInt8 := dkwJ31_nonNullElementAt_0 ++ []
theorem dksJ31_nonNullElementAt_0 : cJ31_nonNullElementAt.data.toList.drop 0 = dktJ31_nonNullElementAt_0 := by decide +kernel
theorem dJ31_nonNullElementAt_0 : decode cJ31_nonNullElementAt 0 = .ok (.aload_n 0, 1) := dk_42 (dk_at dksJ31_nonNullElementAt_0 0 rfl rfl)
theorem dJ31_nonNullElementAt_1 : decode cJ31_nonNullElementAt 1 = .ok (.iload_n 1, 1) := dk_27 (dk_at dksJ31_nonNullElementAt_0 1 rfl rfl)
theorem dJ31_nonNullElementAt_2 : decode cJ31_nonNullElementAt 2 = .ok (.aaload, 1) := dk_50 (dk_at dksJ31_nonNullElementAt_0 2 rfl rfl)
theorem dJ31_nonNullElementAt_3 : decode cJ31_nonNullElementAt 3 = .ok (.astore_n 2, 1) := dk_77 (dk_at dksJ31_nonNullElementAt_0 3 rfl rfl)
theorem dJ31_nonNullElementAt_4 : decode cJ31_nonNullElementAt 4 = .ok (.aload_n 2, 1) := dk_44 (dk_at dksJ31_nonNullElementAt_0 4 rfl rfl)
theorem dJ31_nonNullElementAt_5 : decode cJ31_nonNullElementAt 5 = .ok (.ifnonnull 11, 3) := dk_199 0 11 (dk_at dksJ31_nonNullElementAt_0 5 rfl rfl)
theorem dJ31_nonNullElementAt_8 : decode cJ31_nonNullElementAt 8 = .ok (.new 62, 3) := dk_187 0 62 (dk_at dksJ31_nonNullElementAt_0 8 rfl rfl)
theorem dJ31_nonNullElementAt_11 : decode cJ31_nonNullElementAt 11 = .ok (.dup, 1) := dk_89 (dk_at dksJ31_nonNullElementAt_0 11 rfl rfl)
theorem dJ31_nonNullElementAt_12 : decode cJ31_nonNullElementAt 12 = .ok (.invokespecial 64, 3) := dk_183 0 64 (dk_at dksJ31_nonNullElementAt_0 12 rfl rfl)
theorem dJ31_nonNullElementAt_15 : decode cJ31_nonNullElementAt 15 = .ok (.athrow, 1) := dk_191 (dk_at dksJ31_nonNullElementAt_0 15 rfl rfl)
theorem dJ31_nonNullElementAt_16 : decode cJ31_nonNullElementAt 16 = .ok (.aload_n 2, 1) := dk_44 (dk_at dksJ31_nonNullElementAt_0 16 rfl rfl)
theorem dJ31_nonNullElementAt_17 : decode cJ31_nonNullElementAt 17 = .ok (.areturn, 1) := dk_176 (dk_at dksJ31_nonNullElementAt_0 17 rfl rfl)
abbrev cJ31_inc : ByteArray := prog_62_method_6_code
def yJ31_inc : MethodName := ⟨RJ31, "inc", "(II)I"⟩
def dkwJ31_inc_0 : List UInt8 := [132, 0, 1, 26, 27, 161, 0, 5, 3, 59, 26, 172]
abbrev dktJ31_inc_0 : List UInt8 := dkwJ31_inc_0 ++ []
theorem dksJ31_inc_0 : cJ31_inc.data.toList.drop 0 = dktJ31_inc_0 := by decide +kernel
theorem dJ31_inc_0 : decode cJ31_inc 0 = .ok (.iinc 0 1, 3) := dk_132 0 1 (dk_at dksJ31_inc_0 0 rfl rfl)
theorem dJ31_inc_3 : decode cJ31_inc 3 = .ok (.iload_n 0, 1) := dk_26 (dk_at dksJ31_inc_0 3 rfl rfl)
theorem dJ31_inc_4 : decode cJ31_inc 4 = .ok (.iload_n 1, 1) := dk_27 (dk_at dksJ31_inc_0 4 rfl rfl)
theorem dJ31_inc_5 : decode cJ31_inc 5 = .ok (.if_icmp .lt 5, 3) := dk_161 0 5 (dk_at dksJ31_inc_0 5 rfl rfl)
theorem dJ31_inc_8 : decode cJ31_inc 8 = .ok (.iconst 0, 1) := dk_3 (dk_at dksJ31_inc_0 8 rfl rfl)
theorem dJ31_inc_9 : decode cJ31_inc 9 = .ok (.istore_n 0, 1) := dk_59 (dk_at dksJ31_inc_0 9 rfl rfl)
theorem dJ31_inc_10 : decode cJ31_inc 10 = .ok (.iload_n 0, 1) := dk_26 (dk_at dksJ31_inc_0 10 rfl rfl)
theorem dJ31_inc_11 : decode cJ31_inc 11 = .ok (.ireturn, 1) := dk_172 (dk_at dksJ31_inc_0 11 rfl rfl)
abbrev cJ31_size : ByteArray := prog_62_method_37_code
def yJ31_size : MethodName := ⟨RJ31, "size", "()I"⟩
def dkwJ31_size_0 : List UInt8 := [42, 180, 0, 20, 42, 180, 0, 24, 42, 180, 0, 3, 190, 184, 0, 127, 172]
abbrev dktJ31_size_0 : List UInt8 := dkwJ31_size_0 ++ []
theorem dksJ31_size_0 : cJ31_size.data.toList.drop 0 = dktJ31_size_0 := by decide +kernel
theorem dJ31_size_0 : decode cJ31_size 0 = .ok (.aload_n 0, 1) := dk_42 (dk_at dksJ31_size_0 0 rfl rfl)
theorem dJ31_size_1 : decode cJ31_size 1 = .ok (.getfield 20, 3) := dk_180 0 20 (dk_at dksJ31_size_0 1 rfl rfl)
theorem dJ31_size_4 : decode cJ31_size 4 = .ok (.aload_n 0, 1) := dk_42 (dk_at dksJ31_size_0 4 rfl rfl)
theorem dJ31_size_5 : decode cJ31_size 5 = .ok (.getfield 24, 3) := dk_180 0 24 (dk_at dksJ31_size_0 5 rfl rfl)
theorem dJ31_size_8 : decode cJ31_size 8 = .ok (.aload_n 0, 1) := dk_42 (dk_at dksJ31_size_0 8 rfl rfl)
theorem dJ31_size_9 : decode cJ31_size 9 = .ok (.getfield 3, 3) := dk_180 0 3 (dk_at dksJ31_size_0 9 rfl rfl)
theorem dJ31_size_12 : decode cJ31_size 12 = .ok (.arraylength, 1) := dk_190 (dk_at dksJ31_size_0 12 rfl rfl)
theorem dJ31_size_13 : decode cJ31_size 13 = .ok (.invokestatic 127, 3) := dk_184 0 127 (dk_at dksJ31_size_0 13 rfl rfl)
theorem dJ31_size_16 : decode cJ31_size 16 = .ok (.ireturn, 1) := dk_172 (dk_at dksJ31_size_0 16 rfl rfl)
abbrev cJ31_sub : ByteArray := prog_62_method_9_code
def yJ31_sub : MethodName := ⟨RJ31, "sub", "(III)I"⟩
def dkwJ31_sub_0 : List UInt8 := [26, 27, 100, 89, 59, 156, 0, 7, 26, 28, 96, 59, 26, 172]
abbrev dktJ31_sub_0 : List UInt8 := dkwJ31_sub_0 ++ []
theorem dksJ31_sub_0 : cJ31_sub.data.toList.drop 0 = dktJ31_sub_0 := by decide +kernel
theorem dJ31_sub_0 : decode cJ31_sub 0 = .ok (.iload_n 0, 1) := dk_26 (dk_at dksJ31_sub_0 0 rfl rfl)
theorem dJ31_sub_1 : decode cJ31_sub 1 = .ok (.iload_n 1, 1) := dk_27 (dk_at dksJ31_sub_0 1 rfl rfl)
theorem dJ31_sub_2 : decode cJ31_sub 2 = .ok (.isub, 1) := dk_100 (dk_at dksJ31_sub_0 2 rfl rfl)
theorem dJ31_sub_3 : decode cJ31_sub 3 = .ok (.dup, 1) := dk_89 (dk_at dksJ31_sub_0 3 rfl rfl)
theorem dJ31_sub_4 : decode cJ31_sub 4 = .ok (.istore_n 0, 1) := dk_59 (dk_at dksJ31_sub_0 4 rfl rfl)
theorem dJ31_sub_5 : decode cJ31_sub 5 = .ok (.ifCond .ge 7, 3) := dk_156 0 7 (dk_at dksJ31_sub_0 5 rfl rfl)
theorem dJ31_sub_8 : decode cJ31_sub 8 = .ok (.iload_n 0, 1) := dk_26 (dk_at dksJ31_sub_0 8 rfl rfl)
theorem dJ31_sub_9 : decode cJ31_sub 9 = .ok (.iload_n 2, 1) := dk_28 (dk_at dksJ31_sub_0 9 rfl rfl)
theorem dJ31_sub_10 : decode cJ31_sub 10 = .ok (.iadd, 1) := dk_96 (dk_at dksJ31_sub_0 10 rfl rfl)
theorem dJ31_sub_11 : decode cJ31_sub 11 = .ok (.istore_n 0, 1) := dk_59 (dk_at dksJ31_sub_0 11 rfl rfl)
theorem dJ31_sub_12 : decode cJ31_sub 12 = .ok (.iload_n 0, 1) := dk_26 (dk_at dksJ31_sub_0 12 rfl rfl)
theorem dJ31_sub_13 : decode cJ31_sub 13 = .ok (.ireturn, 1) := dk_172 (dk_at dksJ31_sub_0 13 rfl rfl)
abbrev cJ31_iterator : ByteArray := prog_62_method_39_code
def yJ31_iterator : MethodName := ⟨RJ31, "iterator", "()Ljava/util/Iterator;"⟩
def dkwJ31_iterator_0 : List UInt8 := [187, 0, 131, 89, 42, 183, 0, 133, 176]
abbrev dktJ31_iterator_0 : List UInt8 := dkwJ31_iterator_0 ++ []
theorem dksJ31_iterator_0 : cJ31_iterator.data.toList.drop 0 = dktJ31_iterator_0 := by decide +kernel
theorem dJ31_iterator_0 : decode cJ31_iterator 0 = .ok (.new 131, 3) := dk_187 0 131 (dk_at dksJ31_iterator_0 0 rfl rfl)
theorem dJ31_iterator_3 : decode cJ31_iterator 3 = .ok (.dup, 1) := dk_89 (dk_at dksJ31_iterator_0 3 rfl rfl)
theorem dJ31_iterator_4 : decode cJ31_iterator 4 = .ok (.aload_n 0, 1) := dk_42 (dk_at dksJ31_iterator_0 4 rfl rfl)
theorem dJ31_iterator_5 : decode cJ31_iterator 5 = .ok (.invokespecial 133, 3) := dk_183 0 133 (dk_at dksJ31_iterator_0 5 rfl rfl)
theorem dJ31_iterator_8 : decode cJ31_iterator 8 = .ok (.areturn, 1) := dk_176 (dk_at dksJ31_iterator_0 8 rfl rfl)
abbrev cJ31_add : ByteArray := prog_62_method_28_code
def yJ31_add : MethodName := ⟨RJ31, "add", "(Ljava/lang/Object;)Z"⟩
def dkwJ31_add_0 : List UInt8 := [42, 43, 182, 0, 90, 4, 172]
abbrev dktJ31_add_0 : List UInt8 := dkwJ31_add_0 ++ []
theorem dksJ31_add_0 : cJ31_add.data.toList.drop 0 = dktJ31_add_0 := by decide +kernel
theorem dJ31_add_0 : decode cJ31_add 0 = .ok (.aload_n 0, 1) := dk_42 (dk_at dksJ31_add_0 0 rfl rfl)
theorem dJ31_add_1 : decode cJ31_add 1 = .ok (.aload_n 1, 1) := dk_43 (dk_at dksJ31_add_0 1 rfl rfl)
theorem dJ31_add_2 : decode cJ31_add 2 = .ok (.invokevirtual 90, 3) := dk_182 0 90 (dk_at dksJ31_add_0 2 rfl rfl)
theorem dJ31_add_5 : decode cJ31_add 5 = .ok (.iconst 1, 1) := dk_4 (dk_at dksJ31_add_0 5 rfl rfl)
theorem dJ31_add_6 : decode cJ31_add 6 = .ok (.ireturn, 1) := dk_172 (dk_at dksJ31_add_0 6 rfl rfl)
abbrev cJ31_addLast : ByteArray := prog_62_method_13_code
def yJ31_addLast : MethodName := ⟨RJ31, "addLast", "(Ljava/lang/Object;)V"⟩
def dkwJ31_addLast_2 : List UInt8 := [182, 0, 71, 177]
abbrev dktJ31_addLast_2 : List UInt8 := dkwJ31_addLast_2 ++ []
def dkwJ31_addLast_1 : List UInt8 := [42, 180, 0, 24, 42, 42, 180, 0, 20, 44, 190, 184, 0, 74, 90, 181, 0, 20, 160, 0, 8, 42, 4]
abbrev dktJ31_addLast_1 : List UInt8 := dkwJ31_addLast_1 ++ dktJ31_addLast_2
def dkwJ31_addLast_0 : List UInt8 := [43, 199, 0, 11, 187, 0, 65, 89, 183, 0, 67, 191, 42, 180, 0, 3, 77, 44, 42, 180, 0, 20, 43, 83]
abbrev dktJ31_addLast_0 : List UInt8 := dkwJ31_addLast_0 ++ dktJ31_addLast_1
theorem dksJ31_addLast_0 : cJ31_addLast.data.toList.drop 0 = dktJ31_addLast_0 := by decide +kernel
theorem dksJ31_addLast_1 : cJ31_addLast.data.toList.drop 24 = dktJ31_addLast_1 := dk_seg dksJ31_addLast_0 24 rfl rfl
theorem dksJ31_addLast_2 : cJ31_addLast.data.toList.drop 47 = dktJ31_addLast_2 := dk_seg dksJ31_addLast_1 23 rfl rfl
theorem dJ31_addLast_0 : decode cJ31_addLast 0 = .ok (.aload_n 1, 1) := dk_43 (dk_at dksJ31_addLast_0 0 rfl rfl)
theorem dJ31_addLast_1 : decode cJ31_addLast 1 = .ok (.ifnonnull 11, 3) := dk_199 0 11 (dk_at dksJ31_addLast_0 1 rfl rfl)
theorem dJ31_addLast_4 : decode cJ31_addLast 4 = .ok (.new 65, 3) := dk_187 0 65 (dk_at dksJ31_addLast_0 4 rfl rfl)
theorem dJ31_addLast_7 : decode cJ31_addLast 7 = .ok (.dup, 1) := dk_89 (dk_at dksJ31_addLast_0 7 rfl rfl)
theorem dJ31_addLast_8 : decode cJ31_addLast 8 = .ok (.invokespecial 67, 3) := dk_183 0 67 (dk_at dksJ31_addLast_0 8 rfl rfl)
theorem dJ31_addLast_11 : decode cJ31_addLast 11 = .ok (.athrow, 1) := dk_191 (dk_at dksJ31_addLast_0 11 rfl rfl)
theorem dJ31_addLast_12 : decode cJ31_addLast 12 = .ok (.aload_n 0, 1) := dk_42 (dk_at dksJ31_addLast_0 12 rfl rfl)
theorem dJ31_addLast_13 : decode cJ31_addLast 13 = .ok (.getfield 3, 3) := dk_180 0 3 (dk_at dksJ31_addLast_0 13 rfl rfl)
theorem dJ31_addLast_16 : decode cJ31_addLast 16 = .ok (.astore_n 2, 1) := dk_77 (dk_at dksJ31_addLast_0 16 rfl rfl)
theorem dJ31_addLast_17 : decode cJ31_addLast 17 = .ok (.aload_n 2, 1) := dk_44 (dk_at dksJ31_addLast_0 17 rfl rfl)
theorem dJ31_addLast_18 : decode cJ31_addLast 18 = .ok (.aload_n 0, 1) := dk_42 (dk_at dksJ31_addLast_0 18 rfl rfl)
theorem dJ31_addLast_19 : decode cJ31_addLast 19 = .ok (.getfield 20, 3) := dk_180 0 20 (dk_at dksJ31_addLast_0 19 rfl rfl)
theorem dJ31_addLast_22 : decode cJ31_addLast 22 = .ok (.aload_n 1, 1) := dk_43 (dk_at dksJ31_addLast_0 22 rfl rfl)
theorem dJ31_addLast_23 : decode cJ31_addLast 23 = .ok (.aastore, 1) := dk_83 (dk_at dksJ31_addLast_0 23 rfl rfl)
theorem dJ31_addLast_24 : decode cJ31_addLast 24 = .ok (.aload_n 0, 1) := dk_42 (dk_at dksJ31_addLast_1 0 rfl rfl)
theorem dJ31_addLast_25 : decode cJ31_addLast 25 = .ok (.getfield 24, 3) := dk_180 0 24 (dk_at dksJ31_addLast_1 1 rfl rfl)
theorem dJ31_addLast_28 : decode cJ31_addLast 28 = .ok (.aload_n 0, 1) := dk_42 (dk_at dksJ31_addLast_1 4 rfl rfl)
theorem dJ31_addLast_29 : decode cJ31_addLast 29 = .ok (.aload_n 0, 1) := dk_42 (dk_at dksJ31_addLast_1 5 rfl rfl)
theorem dJ31_addLast_30 : decode cJ31_addLast 30 = .ok (.getfield 20, 3) := dk_180 0 20 (dk_at dksJ31_addLast_1 6 rfl rfl)
theorem dJ31_addLast_33 : decode cJ31_addLast 33 = .ok (.aload_n 2, 1) := dk_44 (dk_at dksJ31_addLast_1 9 rfl rfl)
theorem dJ31_addLast_34 : decode cJ31_addLast 34 = .ok (.arraylength, 1) := dk_190 (dk_at dksJ31_addLast_1 10 rfl rfl)
theorem dJ31_addLast_35 : decode cJ31_addLast 35 = .ok (.invokestatic 74, 3) := dk_184 0 74 (dk_at dksJ31_addLast_1 11 rfl rfl)
theorem dJ31_addLast_38 : decode cJ31_addLast 38 = .ok (.dup_x1, 1) := dk_90 (dk_at dksJ31_addLast_1 14 rfl rfl)
theorem dJ31_addLast_39 : decode cJ31_addLast 39 = .ok (.putfield 20, 3) := dk_181 0 20 (dk_at dksJ31_addLast_1 15 rfl rfl)
theorem dJ31_addLast_42 : decode cJ31_addLast 42 = .ok (.if_icmp .ne 8, 3) := dk_160 0 8 (dk_at dksJ31_addLast_1 18 rfl rfl)
theorem dJ31_addLast_45 : decode cJ31_addLast 45 = .ok (.aload_n 0, 1) := dk_42 (dk_at dksJ31_addLast_1 21 rfl rfl)
theorem dJ31_addLast_46 : decode cJ31_addLast 46 = .ok (.iconst 1, 1) := dk_4 (dk_at dksJ31_addLast_1 22 rfl rfl)
theorem dJ31_addLast_47 : decode cJ31_addLast 47 = .ok (.invokevirtual 71, 3) := dk_182 0 71 (dk_at dksJ31_addLast_2 0 rfl rfl)
theorem dJ31_addLast_50 : decode cJ31_addLast 50 = .ok (.return_, 1) := dk_177 (dk_at dksJ31_addLast_2 3 rfl rfl)
abbrev cJ31_grow : ByteArray := prog_62_method_1_code
def yJ31_grow : MethodName := ⟨RJ31, "grow", "(I)V"⟩
def dkwJ31_grow_7 : List UInt8 := [177]
abbrev dktJ31_grow_7 : List UInt8 := dkwJ31_grow_7 ++ []
def dkwJ31_grow_6 : List UInt8 := [181, 0, 24, 54, 8, 21, 7, 21, 8, 162, 0, 15, 25, 5, 21, 7, 1, 83, 132, 7, 1, 167, 255, 240]
abbrev dktJ31_grow_6 : List UInt8 := dkwJ31_grow_6 ++ dktJ31_grow_7
def dkwJ31_grow_5 : List UInt8 := [42, 180, 0, 24, 100, 184, 0, 27, 42, 180, 0, 24, 54, 7, 42, 89, 180, 0, 24, 21, 6, 96, 90]
abbrev dktJ31_grow_5 : List UInt8 := dkwJ31_grow_5 ++ dktJ31_grow_6
def dkwJ31_grow_4 : List UInt8 := [198, 0, 71, 29, 28, 100, 54, 6, 25, 5, 42, 180, 0, 24, 25, 5, 42, 180, 0, 24, 21, 6, 96, 28]
abbrev dktJ31_grow_4 : List UInt8 := dkwJ31_grow_4 ++ dktJ31_grow_5
def dkwJ31_grow_3 : List UInt8 := [180, 0, 24, 161, 0, 24, 42, 180, 0, 20, 42, 180, 0, 24, 160, 0, 81, 25, 5, 42, 180, 0, 24, 50]
abbrev dktJ31_grow_3 : List UInt8 := dkwJ31_grow_3 ++ dktJ31_grow_4
def dkwJ31_grow_2 : List UInt8 := [182, 0, 10, 62, 42, 42, 180, 0, 3, 29, 184, 0, 14, 90, 181, 0, 3, 58, 5, 42, 180, 0, 20, 42]
abbrev dktJ31_grow_2 : List UInt8 := dkwJ31_grow_2 ++ dktJ31_grow_3
def dkwJ31_grow_1 : List UInt8 := [21, 4, 27, 161, 0, 15, 28, 21, 4, 96, 89, 62, 18, 9, 100, 158, 0, 11, 42, 27, 21, 4]
abbrev dktJ31_grow_1 : List UInt8 := dkwJ31_grow_1 ++ dktJ31_grow_2
def dkwJ31_grow_0 : List UInt8 := [42, 180, 0, 3, 190, 61, 28, 16, 64, 162, 0, 9, 28, 5, 96, 167, 0, 6, 28, 4, 122, 54, 4]
abbrev dktJ31_grow_0 : List UInt8 := dkwJ31_grow_0 ++ dktJ31_grow_1
theorem dksJ31_grow_0 : cJ31_grow.data.toList.drop 0 = dktJ31_grow_0 := by decide +kernel
theorem dksJ31_grow_1 : cJ31_grow.data.toList.drop 23 = dktJ31_grow_1 := dk_seg dksJ31_grow_0 23 rfl rfl
theorem dksJ31_grow_2 : cJ31_grow.data.toList.drop 45 = dktJ31_grow_2 := dk_seg dksJ31_grow_1 22 rfl rfl
theorem dksJ31_grow_3 : cJ31_grow.data.toList.drop 69 = dktJ31_grow_3 := dk_seg dksJ31_grow_2 24 rfl rfl
theorem dksJ31_grow_4 : cJ31_grow.data.toList.drop 93 = dktJ31_grow_4 := dk_seg dksJ31_grow_3 24 rfl rfl
theorem dksJ31_grow_5 : cJ31_grow.data.toList.drop 117 = dktJ31_grow_5 := dk_seg dksJ31_grow_4 24 rfl rfl
theorem dksJ31_grow_6 : cJ31_grow.data.toList.drop 140 = dktJ31_grow_6 := dk_seg dksJ31_grow_5 23 rfl rfl
theorem dksJ31_grow_7 : cJ31_grow.data.toList.drop 164 = dktJ31_grow_7 := dk_seg dksJ31_grow_6 24 rfl rfl
theorem dJ31_grow_0 : decode cJ31_grow 0 = .ok (.aload_n 0, 1) := dk_42 (dk_at dksJ31_grow_0 0 rfl rfl)
theorem dJ31_grow_1 : decode cJ31_grow 1 = .ok (.getfield 3, 3) := dk_180 0 3 (dk_at dksJ31_grow_0 1 rfl rfl)
theorem dJ31_grow_4 : decode cJ31_grow 4 = .ok (.arraylength, 1) := dk_190 (dk_at dksJ31_grow_0 4 rfl rfl)
theorem dJ31_grow_5 : decode cJ31_grow 5 = .ok (.istore_n 2, 1) := dk_61 (dk_at dksJ31_grow_0 5 rfl rfl)
theorem dJ31_grow_6 : decode cJ31_grow 6 = .ok (.iload_n 2, 1) := dk_28 (dk_at dksJ31_grow_0 6 rfl rfl)
theorem dJ31_grow_7 : decode cJ31_grow 7 = .ok (.bipush 64, 2) := dk_16 64 (dk_at dksJ31_grow_0 7 rfl rfl)
theorem dJ31_grow_9 : decode cJ31_grow 9 = .ok (.if_icmp .ge 9, 3) := dk_162 0 9 (dk_at dksJ31_grow_0 9 rfl rfl)
theorem dJ31_grow_12 : decode cJ31_grow 12 = .ok (.iload_n 2, 1) := dk_28 (dk_at dksJ31_grow_0 12 rfl rfl)
theorem dJ31_grow_13 : decode cJ31_grow 13 = .ok (.iconst 2, 1) := dk_5 (dk_at dksJ31_grow_0 13 rfl rfl)
theorem dJ31_grow_14 : decode cJ31_grow 14 = .ok (.iadd, 1) := dk_96 (dk_at dksJ31_grow_0 14 rfl rfl)
theorem dJ31_grow_15 : decode cJ31_grow 15 = .ok (.goto 6, 3) := dk_167 0 6 (dk_at dksJ31_grow_0 15 rfl rfl)
theorem dJ31_grow_18 : decode cJ31_grow 18 = .ok (.iload_n 2, 1) := dk_28 (dk_at dksJ31_grow_0 18 rfl rfl)
theorem dJ31_grow_19 : decode cJ31_grow 19 = .ok (.iconst 1, 1) := dk_4 (dk_at dksJ31_grow_0 19 rfl rfl)
theorem dJ31_grow_20 : decode cJ31_grow 20 = .ok (.ishr, 1) := dk_122 (dk_at dksJ31_grow_0 20 rfl rfl)
theorem dJ31_grow_21 : decode cJ31_grow 21 = .ok (.istore 4, 2) := dk_54 4 (dk_at dksJ31_grow_0 21 rfl rfl)
theorem dJ31_grow_23 : decode cJ31_grow 23 = .ok (.iload 4, 2) := dk_21 4 (dk_at dksJ31_grow_1 0 rfl rfl)
theorem dJ31_grow_25 : decode cJ31_grow 25 = .ok (.iload_n 1, 1) := dk_27 (dk_at dksJ31_grow_1 2 rfl rfl)
theorem dJ31_grow_26 : decode cJ31_grow 26 = .ok (.if_icmp .lt 15, 3) := dk_161 0 15 (dk_at dksJ31_grow_1 3 rfl rfl)
theorem dJ31_grow_29 : decode cJ31_grow 29 = .ok (.iload_n 2, 1) := dk_28 (dk_at dksJ31_grow_1 6 rfl rfl)
theorem dJ31_grow_30 : decode cJ31_grow 30 = .ok (.iload 4, 2) := dk_21 4 (dk_at dksJ31_grow_1 7 rfl rfl)
theorem dJ31_grow_32 : decode cJ31_grow 32 = .ok (.iadd, 1) := dk_96 (dk_at dksJ31_grow_1 9 rfl rfl)
theorem dJ31_grow_33 : decode cJ31_grow 33 = .ok (.dup, 1) := dk_89 (dk_at dksJ31_grow_1 10 rfl rfl)
theorem dJ31_grow_34 : decode cJ31_grow 34 = .ok (.istore_n 3, 1) := dk_62 (dk_at dksJ31_grow_1 11 rfl rfl)
theorem dJ31_grow_35 : decode cJ31_grow 35 = .ok (.ldc 9, 2) := dk_18 9 (dk_at dksJ31_grow_1 12 rfl rfl)
theorem dJ31_grow_37 : decode cJ31_grow 37 = .ok (.isub, 1) := dk_100 (dk_at dksJ31_grow_1 14 rfl rfl)
theorem dJ31_grow_38 : decode cJ31_grow 38 = .ok (.ifCond .le 11, 3) := dk_158 0 11 (dk_at dksJ31_grow_1 15 rfl rfl)
theorem dJ31_grow_41 : decode cJ31_grow 41 = .ok (.aload_n 0, 1) := dk_42 (dk_at dksJ31_grow_1 18 rfl rfl)
theorem dJ31_grow_42 : decode cJ31_grow 42 = .ok (.iload_n 1, 1) := dk_27 (dk_at dksJ31_grow_1 19 rfl rfl)
theorem dJ31_grow_43 : decode cJ31_grow 43 = .ok (.iload 4, 2) := dk_21 4 (dk_at dksJ31_grow_1 20 rfl rfl)
theorem dJ31_grow_45 : decode cJ31_grow 45 = .ok (.invokevirtual 10, 3) := dk_182 0 10 (dk_at dksJ31_grow_2 0 rfl rfl)
theorem dJ31_grow_48 : decode cJ31_grow 48 = .ok (.istore_n 3, 1) := dk_62 (dk_at dksJ31_grow_2 3 rfl rfl)
theorem dJ31_grow_49 : decode cJ31_grow 49 = .ok (.aload_n 0, 1) := dk_42 (dk_at dksJ31_grow_2 4 rfl rfl)
theorem dJ31_grow_50 : decode cJ31_grow 50 = .ok (.aload_n 0, 1) := dk_42 (dk_at dksJ31_grow_2 5 rfl rfl)
theorem dJ31_grow_51 : decode cJ31_grow 51 = .ok (.getfield 3, 3) := dk_180 0 3 (dk_at dksJ31_grow_2 6 rfl rfl)
theorem dJ31_grow_54 : decode cJ31_grow 54 = .ok (.iload_n 3, 1) := dk_29 (dk_at dksJ31_grow_2 9 rfl rfl)
theorem dJ31_grow_55 : decode cJ31_grow 55 = .ok (.invokestatic 14, 3) := dk_184 0 14 (dk_at dksJ31_grow_2 10 rfl rfl)
theorem dJ31_grow_58 : decode cJ31_grow 58 = .ok (.dup_x1, 1) := dk_90 (dk_at dksJ31_grow_2 13 rfl rfl)
theorem dJ31_grow_59 : decode cJ31_grow 59 = .ok (.putfield 3, 3) := dk_181 0 3 (dk_at dksJ31_grow_2 14 rfl rfl)
theorem dJ31_grow_62 : decode cJ31_grow 62 = .ok (.astore 5, 2) := dk_58 5 (dk_at dksJ31_grow_2 17 rfl rfl)
theorem dJ31_grow_64 : decode cJ31_grow 64 = .ok (.aload_n 0, 1) := dk_42 (dk_at dksJ31_grow_2 19 rfl rfl)
theorem dJ31_grow_65 : decode cJ31_grow 65 = .ok (.getfield 20, 3) := dk_180 0 20 (dk_at dksJ31_grow_2 20 rfl rfl)
theorem dJ31_grow_68 : decode cJ31_grow 68 = .ok (.aload_n 0, 1) := dk_42 (dk_at dksJ31_grow_2 23 rfl rfl)
theorem dJ31_grow_69 : decode cJ31_grow 69 = .ok (.getfield 24, 3) := dk_180 0 24 (dk_at dksJ31_grow_3 0 rfl rfl)
theorem dJ31_grow_72 : decode cJ31_grow 72 = .ok (.if_icmp .lt 24, 3) := dk_161 0 24 (dk_at dksJ31_grow_3 3 rfl rfl)
theorem dJ31_grow_75 : decode cJ31_grow 75 = .ok (.aload_n 0, 1) := dk_42 (dk_at dksJ31_grow_3 6 rfl rfl)
theorem dJ31_grow_76 : decode cJ31_grow 76 = .ok (.getfield 20, 3) := dk_180 0 20 (dk_at dksJ31_grow_3 7 rfl rfl)
theorem dJ31_grow_79 : decode cJ31_grow 79 = .ok (.aload_n 0, 1) := dk_42 (dk_at dksJ31_grow_3 10 rfl rfl)
theorem dJ31_grow_80 : decode cJ31_grow 80 = .ok (.getfield 24, 3) := dk_180 0 24 (dk_at dksJ31_grow_3 11 rfl rfl)
theorem dJ31_grow_83 : decode cJ31_grow 83 = .ok (.if_icmp .ne 81, 3) := dk_160 0 81 (dk_at dksJ31_grow_3 14 rfl rfl)
theorem dJ31_grow_86 : decode cJ31_grow 86 = .ok (.aload 5, 2) := dk_25 5 (dk_at dksJ31_grow_3 17 rfl rfl)
theorem dJ31_grow_88 : decode cJ31_grow 88 = .ok (.aload_n 0, 1) := dk_42 (dk_at dksJ31_grow_3 19 rfl rfl)
theorem dJ31_grow_89 : decode cJ31_grow 89 = .ok (.getfield 24, 3) := dk_180 0 24 (dk_at dksJ31_grow_3 20 rfl rfl)
theorem dJ31_grow_92 : decode cJ31_grow 92 = .ok (.aaload, 1) := dk_50 (dk_at dksJ31_grow_3 23 rfl rfl)
theorem dJ31_grow_93 : decode cJ31_grow 93 = .ok (.ifnull 71, 3) := dk_198 0 71 (dk_at dksJ31_grow_4 0 rfl rfl)
theorem dJ31_grow_96 : decode cJ31_grow 96 = .ok (.iload_n 3, 1) := dk_29 (dk_at dksJ31_grow_4 3 rfl rfl)
theorem dJ31_grow_97 : decode cJ31_grow 97 = .ok (.iload_n 2, 1) := dk_28 (dk_at dksJ31_grow_4 4 rfl rfl)
theorem dJ31_grow_98 : decode cJ31_grow 98 = .ok (.isub, 1) := dk_100 (dk_at dksJ31_grow_4 5 rfl rfl)
theorem dJ31_grow_99 : decode cJ31_grow 99 = .ok (.istore 6, 2) := dk_54 6 (dk_at dksJ31_grow_4 6 rfl rfl)
theorem dJ31_grow_101 : decode cJ31_grow 101 = .ok (.aload 5, 2) := dk_25 5 (dk_at dksJ31_grow_4 8 rfl rfl)
theorem dJ31_grow_103 : decode cJ31_grow 103 = .ok (.aload_n 0, 1) := dk_42 (dk_at dksJ31_grow_4 10 rfl rfl)
theorem dJ31_grow_104 : decode cJ31_grow 104 = .ok (.getfield 24, 3) := dk_180 0 24 (dk_at dksJ31_grow_4 11 rfl rfl)
theorem dJ31_grow_107 : decode cJ31_grow 107 = .ok (.aload 5, 2) := dk_25 5 (dk_at dksJ31_grow_4 14 rfl rfl)
theorem dJ31_grow_109 : decode cJ31_grow 109 = .ok (.aload_n 0, 1) := dk_42 (dk_at dksJ31_grow_4 16 rfl rfl)
theorem dJ31_grow_110 : decode cJ31_grow 110 = .ok (.getfield 24, 3) := dk_180 0 24 (dk_at dksJ31_grow_4 17 rfl rfl)
theorem dJ31_grow_113 : decode cJ31_grow 113 = .ok (.iload 6, 2) := dk_21 6 (dk_at dksJ31_grow_4 20 rfl rfl)
theorem dJ31_grow_115 : decode cJ31_grow 115 = .ok (.iadd, 1) := dk_96 (dk_at dksJ31_grow_4 22 rfl rfl)
theorem dJ31_grow_116 : decode cJ31_grow 116 = .ok (.iload_n 2, 1) := dk_28 (dk_at dksJ31_grow_4 23 rfl rfl)
theorem dJ31_grow_117 : decode cJ31_grow 117 = .ok (.aload_n 0, 1) := dk_42 (dk_at dksJ31_grow_5 0 rfl rfl)
theorem dJ31_grow_118 : decode cJ31_grow 118 = .ok (.getfield 24, 3) := dk_180 0 24 (dk_at dksJ31_grow_5 1 rfl rfl)
theorem dJ31_grow_121 : decode cJ31_grow 121 = .ok (.isub, 1) := dk_100 (dk_at dksJ31_grow_5 4 rfl rfl)
theorem dJ31_grow_122 : decode cJ31_grow 122 = .ok (.invokestatic 27, 3) := dk_184 0 27 (dk_at dksJ31_grow_5 5 rfl rfl)
theorem dJ31_grow_125 : decode cJ31_grow 125 = .ok (.aload_n 0, 1) := dk_42 (dk_at dksJ31_grow_5 8 rfl rfl)
theorem dJ31_grow_126 : decode cJ31_grow 126 = .ok (.getfield 24, 3) := dk_180 0 24 (dk_at dksJ31_grow_5 9 rfl rfl)
theorem dJ31_grow_129 : decode cJ31_grow 129 = .ok (.istore 7, 2) := dk_54 7 (dk_at dksJ31_grow_5 12 rfl rfl)
theorem dJ31_grow_131 : decode cJ31_grow 131 = .ok (.aload_n 0, 1) := dk_42 (dk_at dksJ31_grow_5 14 rfl rfl)
theorem dJ31_grow_132 : decode cJ31_grow 132 = .ok (.dup, 1) := dk_89 (dk_at dksJ31_grow_5 15 rfl rfl)
theorem dJ31_grow_133 : decode cJ31_grow 133 = .ok (.getfield 24, 3) := dk_180 0 24 (dk_at dksJ31_grow_5 16 rfl rfl)
theorem dJ31_grow_136 : decode cJ31_grow 136 = .ok (.iload 6, 2) := dk_21 6 (dk_at dksJ31_grow_5 19 rfl rfl)
theorem dJ31_grow_138 : decode cJ31_grow 138 = .ok (.iadd, 1) := dk_96 (dk_at dksJ31_grow_5 21 rfl rfl)
theorem dJ31_grow_139 : decode cJ31_grow 139 = .ok (.dup_x1, 1) := dk_90 (dk_at dksJ31_grow_5 22 rfl rfl)
theorem dJ31_grow_140 : decode cJ31_grow 140 = .ok (.putfield 24, 3) := dk_181 0 24 (dk_at dksJ31_grow_6 0 rfl rfl)
theorem dJ31_grow_143 : decode cJ31_grow 143 = .ok (.istore 8, 2) := dk_54 8 (dk_at dksJ31_grow_6 3 rfl rfl)
theorem dJ31_grow_145 : decode cJ31_grow 145 = .ok (.iload 7, 2) := dk_21 7 (dk_at dksJ31_grow_6 5 rfl rfl)
theorem dJ31_grow_147 : decode cJ31_grow 147 = .ok (.iload 8, 2) := dk_21 8 (dk_at dksJ31_grow_6 7 rfl rfl)
theorem dJ31_grow_149 : decode cJ31_grow 149 = .ok (.if_icmp .ge 15, 3) := dk_162 0 15 (dk_at dksJ31_grow_6 9 rfl rfl)
theorem dJ31_grow_152 : decode cJ31_grow 152 = .ok (.aload 5, 2) := dk_25 5 (dk_at dksJ31_grow_6 12 rfl rfl)
theorem dJ31_grow_154 : decode cJ31_grow 154 = .ok (.iload 7, 2) := dk_21 7 (dk_at dksJ31_grow_6 14 rfl rfl)
theorem dJ31_grow_156 : decode cJ31_grow 156 = .ok (.aconst_null, 1) := dk_1 (dk_at dksJ31_grow_6 16 rfl rfl)
theorem dJ31_grow_157 : decode cJ31_grow 157 = .ok (.aastore, 1) := dk_83 (dk_at dksJ31_grow_6 17 rfl rfl)
theorem dJ31_grow_158 : decode cJ31_grow 158 = .ok (.iinc 7 1, 3) := dk_132 7 1 (dk_at dksJ31_grow_6 18 rfl rfl)
theorem dJ31_grow_161 : decode cJ31_grow 161 = .ok (.goto (-16), 3) := dk_167 255 240 (dk_at dksJ31_grow_6 21 rfl rfl)
theorem dJ31_grow_164 : decode cJ31_grow 164 = .ok (.return_, 1) := dk_177 (dk_at dksJ31_grow_7 0 rfl rfl)
abbrev cJ31_newCapacity : ByteArray := prog_62_method_2_code
def yJ31_newCapacity : MethodName := ⟨RJ31, "newCapacity", "(II)I"⟩
def dkwJ31_newCapacity_2 : List UInt8 := [18, 9, 100, 156, 0, 9, 29, 28, 96, 167, 0, 5, 18, 9, 172]
abbrev dktJ31_newCapacity_2 : List UInt8 := dkwJ31_newCapacity_2 ++ []
def dkwJ31_newCapacity_1 : List UInt8 := [187, 0, 33, 89, 18, 35, 183, 0, 37, 191, 18, 41, 172, 27, 28, 164, 0, 6, 21, 4, 172, 29, 28, 96]
abbrev dktJ31_newCapacity_1 : List UInt8 := dkwJ31_newCapacity_1 ++ dktJ31_newCapacity_2
def dkwJ31_newCapacity_0 : List UInt8 := [42, 180, 0, 3, 190, 62, 29, 27, 96, 89, 54, 4, 18, 9, 100, 158, 0, 21, 21, 4, 156, 0, 13]
abbrev dktJ31_newCapacity_0 : List UInt8 := dkwJ31_newCapacity_0 ++ dktJ31_newCapacity_1
theorem dksJ31_newCapacity_0 : cJ31_newCapacity.data.toList.drop 0 = dktJ31_newCapacity_0 := by decide +kernel
theorem dksJ31_newCapacity_1 : cJ31_newCapacity.data.toList.drop 23 = dktJ31_newCapacity_1 := dk_seg dksJ31_newCapacity_0 23 rfl rfl
theorem dksJ31_newCapacity_2 : cJ31_newCapacity.data.toList.drop 47 = dktJ31_newCapacity_2 := dk_seg dksJ31_newCapacity_1 24 rfl rfl
theorem dJ31_newCapacity_0 : decode cJ31_newCapacity 0 = .ok (.aload_n 0, 1) := dk_42 (dk_at dksJ31_newCapacity_0 0 rfl rfl)
theorem dJ31_newCapacity_1 : decode cJ31_newCapacity 1 = .ok (.getfield 3, 3) := dk_180 0 3 (dk_at dksJ31_newCapacity_0 1 rfl rfl)
theorem dJ31_newCapacity_4 : decode cJ31_newCapacity 4 = .ok (.arraylength, 1) := dk_190 (dk_at dksJ31_newCapacity_0 4 rfl rfl)
theorem dJ31_newCapacity_5 : decode cJ31_newCapacity 5 = .ok (.istore_n 3, 1) := dk_62 (dk_at dksJ31_newCapacity_0 5 rfl rfl)
theorem dJ31_newCapacity_6 : decode cJ31_newCapacity 6 = .ok (.iload_n 3, 1) := dk_29 (dk_at dksJ31_newCapacity_0 6 rfl rfl)
theorem dJ31_newCapacity_7 : decode cJ31_newCapacity 7 = .ok (.iload_n 1, 1) := dk_27 (dk_at dksJ31_newCapacity_0 7 rfl rfl)
theorem dJ31_newCapacity_8 : decode cJ31_newCapacity 8 = .ok (.iadd, 1) := dk_96 (dk_at dksJ31_newCapacity_0 8 rfl rfl)
theorem dJ31_newCapacity_9 : decode cJ31_newCapacity 9 = .ok (.dup, 1) := dk_89 (dk_at dksJ31_newCapacity_0 9 rfl rfl)
theorem dJ31_newCapacity_10 : decode cJ31_newCapacity 10 = .ok (.istore 4, 2) := dk_54 4 (dk_at dksJ31_newCapacity_0 10 rfl rfl)
theorem dJ31_newCapacity_12 : decode cJ31_newCapacity 12 = .ok (.ldc 9, 2) := dk_18 9 (dk_at dksJ31_newCapacity_0 12 rfl rfl)
theorem dJ31_newCapacity_14 : decode cJ31_newCapacity 14 = .ok (.isub, 1) := dk_100 (dk_at dksJ31_newCapacity_0 14 rfl rfl)
theorem dJ31_newCapacity_15 : decode cJ31_newCapacity 15 = .ok (.ifCond .le 21, 3) := dk_158 0 21 (dk_at dksJ31_newCapacity_0 15 rfl rfl)
theorem dJ31_newCapacity_18 : decode cJ31_newCapacity 18 = .ok (.iload 4, 2) := dk_21 4 (dk_at dksJ31_newCapacity_0 18 rfl rfl)
theorem dJ31_newCapacity_20 : decode cJ31_newCapacity 20 = .ok (.ifCond .ge 13, 3) := dk_156 0 13 (dk_at dksJ31_newCapacity_0 20 rfl rfl)
theorem dJ31_newCapacity_23 : decode cJ31_newCapacity 23 = .ok (.new 33, 3) := dk_187 0 33 (dk_at dksJ31_newCapacity_1 0 rfl rfl)
theorem dJ31_newCapacity_26 : decode cJ31_newCapacity 26 = .ok (.dup, 1) := dk_89 (dk_at dksJ31_newCapacity_1 3 rfl rfl)
theorem dJ31_newCapacity_27 : decode cJ31_newCapacity 27 = .ok (.ldc 35, 2) := dk_18 35 (dk_at dksJ31_newCapacity_1 4 rfl rfl)
theorem dJ31_newCapacity_29 : decode cJ31_newCapacity 29 = .ok (.invokespecial 37, 3) := dk_183 0 37 (dk_at dksJ31_newCapacity_1 6 rfl rfl)
theorem dJ31_newCapacity_32 : decode cJ31_newCapacity 32 = .ok (.athrow, 1) := dk_191 (dk_at dksJ31_newCapacity_1 9 rfl rfl)
theorem dJ31_newCapacity_33 : decode cJ31_newCapacity 33 = .ok (.ldc 41, 2) := dk_18 41 (dk_at dksJ31_newCapacity_1 10 rfl rfl)
theorem dJ31_newCapacity_35 : decode cJ31_newCapacity 35 = .ok (.ireturn, 1) := dk_172 (dk_at dksJ31_newCapacity_1 12 rfl rfl)
theorem dJ31_newCapacity_36 : decode cJ31_newCapacity 36 = .ok (.iload_n 1, 1) := dk_27 (dk_at dksJ31_newCapacity_1 13 rfl rfl)
theorem dJ31_newCapacity_37 : decode cJ31_newCapacity 37 = .ok (.iload_n 2, 1) := dk_28 (dk_at dksJ31_newCapacity_1 14 rfl rfl)
theorem dJ31_newCapacity_38 : decode cJ31_newCapacity 38 = .ok (.if_icmp .le 6, 3) := dk_164 0 6 (dk_at dksJ31_newCapacity_1 15 rfl rfl)
theorem dJ31_newCapacity_41 : decode cJ31_newCapacity 41 = .ok (.iload 4, 2) := dk_21 4 (dk_at dksJ31_newCapacity_1 18 rfl rfl)
theorem dJ31_newCapacity_43 : decode cJ31_newCapacity 43 = .ok (.ireturn, 1) := dk_172 (dk_at dksJ31_newCapacity_1 20 rfl rfl)
theorem dJ31_newCapacity_44 : decode cJ31_newCapacity 44 = .ok (.iload_n 3, 1) := dk_29 (dk_at dksJ31_newCapacity_1 21 rfl rfl)
theorem dJ31_newCapacity_45 : decode cJ31_newCapacity 45 = .ok (.iload_n 2, 1) := dk_28 (dk_at dksJ31_newCapacity_1 22 rfl rfl)
theorem dJ31_newCapacity_46 : decode cJ31_newCapacity 46 = .ok (.iadd, 1) := dk_96 (dk_at dksJ31_newCapacity_1 23 rfl rfl)
theorem dJ31_newCapacity_47 : decode cJ31_newCapacity 47 = .ok (.ldc 9, 2) := dk_18 9 (dk_at dksJ31_newCapacity_2 0 rfl rfl)
theorem dJ31_newCapacity_49 : decode cJ31_newCapacity 49 = .ok (.isub, 1) := dk_100 (dk_at dksJ31_newCapacity_2 2 rfl rfl)
theorem dJ31_newCapacity_50 : decode cJ31_newCapacity 50 = .ok (.ifCond .ge 9, 3) := dk_156 0 9 (dk_at dksJ31_newCapacity_2 3 rfl rfl)
theorem dJ31_newCapacity_53 : decode cJ31_newCapacity 53 = .ok (.iload_n 3, 1) := dk_29 (dk_at dksJ31_newCapacity_2 6 rfl rfl)
theorem dJ31_newCapacity_54 : decode cJ31_newCapacity 54 = .ok (.iload_n 2, 1) := dk_28 (dk_at dksJ31_newCapacity_2 7 rfl rfl)
theorem dJ31_newCapacity_55 : decode cJ31_newCapacity 55 = .ok (.iadd, 1) := dk_96 (dk_at dksJ31_newCapacity_2 8 rfl rfl)
theorem dJ31_newCapacity_56 : decode cJ31_newCapacity 56 = .ok (.goto 5, 3) := dk_167 0 5 (dk_at dksJ31_newCapacity_2 9 rfl rfl)
theorem dJ31_newCapacity_59 : decode cJ31_newCapacity 59 = .ok (.ldc 9, 2) := dk_18 9 (dk_at dksJ31_newCapacity_2 12 rfl rfl)
theorem dJ31_newCapacity_61 : decode cJ31_newCapacity 61 = .ok (.ireturn, 1) := dk_172 (dk_at dksJ31_newCapacity_2 14 rfl rfl)
abbrev cJ31_removeFirst : ByteArray := prog_62_method_18_code
def yJ31_removeFirst : MethodName := ⟨RJ31, "removeFirst", "()Ljava/lang/Object;"⟩
def dkwJ31_removeFirst_0 : List UInt8 := [42, 182, 0, 93, 76, 43, 199, 0, 11, 187, 0, 97, 89, 183, 0, 99, 191, 43, 176]
abbrev dktJ31_removeFirst_0 : List UInt8 := dkwJ31_removeFirst_0 ++ []
theorem dksJ31_removeFirst_0 : cJ31_removeFirst.data.toList.drop 0 = dktJ31_removeFirst_0 := by decide +kernel
theorem dJ31_removeFirst_0 : decode cJ31_removeFirst 0 = .ok (.aload_n 0, 1) := dk_42 (dk_at dksJ31_removeFirst_0 0 rfl rfl)
theorem dJ31_removeFirst_1 : decode cJ31_removeFirst 1 = .ok (.invokevirtual 93, 3) := dk_182 0 93 (dk_at dksJ31_removeFirst_0 1 rfl rfl)
theorem dJ31_removeFirst_4 : decode cJ31_removeFirst 4 = .ok (.astore_n 1, 1) := dk_76 (dk_at dksJ31_removeFirst_0 4 rfl rfl)
theorem dJ31_removeFirst_5 : decode cJ31_removeFirst 5 = .ok (.aload_n 1, 1) := dk_43 (dk_at dksJ31_removeFirst_0 5 rfl rfl)
theorem dJ31_removeFirst_6 : decode cJ31_removeFirst 6 = .ok (.ifnonnull 11, 3) := dk_199 0 11 (dk_at dksJ31_removeFirst_0 6 rfl rfl)
theorem dJ31_removeFirst_9 : decode cJ31_removeFirst 9 = .ok (.new 97, 3) := dk_187 0 97 (dk_at dksJ31_removeFirst_0 9 rfl rfl)
theorem dJ31_removeFirst_12 : decode cJ31_removeFirst 12 = .ok (.dup, 1) := dk_89 (dk_at dksJ31_removeFirst_0 12 rfl rfl)
theorem dJ31_removeFirst_13 : decode cJ31_removeFirst 13 = .ok (.invokespecial 99, 3) := dk_183 0 99 (dk_at dksJ31_removeFirst_0 13 rfl rfl)
theorem dJ31_removeFirst_16 : decode cJ31_removeFirst 16 = .ok (.athrow, 1) := dk_191 (dk_at dksJ31_removeFirst_0 16 rfl rfl)
theorem dJ31_removeFirst_17 : decode cJ31_removeFirst 17 = .ok (.aload_n 1, 1) := dk_43 (dk_at dksJ31_removeFirst_0 17 rfl rfl)
theorem dJ31_removeFirst_18 : decode cJ31_removeFirst 18 = .ok (.areturn, 1) := dk_176 (dk_at dksJ31_removeFirst_0 18 rfl rfl)
abbrev cJ31_pollFirst : ByteArray := prog_62_method_20_code
def yJ31_pollFirst : MethodName := ⟨RJ31, "pollFirst", "()Ljava/lang/Object;"⟩
def dkwJ31_pollFirst_1 : List UInt8 := [42, 28, 43, 190, 184, 0, 74, 181, 0, 24, 45, 176]
abbrev dktJ31_pollFirst_1 : List UInt8 := dkwJ31_pollFirst_1 ++ []
def dkwJ31_pollFirst_0 : List UInt8 := [42, 180, 0, 3, 89, 76, 42, 180, 0, 24, 89, 61, 184, 0, 103, 78, 45, 198, 0, 17, 43, 28, 1, 83]
abbrev dktJ31_pollFirst_0 : List UInt8 := dkwJ31_pollFirst_0 ++ dktJ31_pollFirst_1
theorem dksJ31_pollFirst_0 : cJ31_pollFirst.data.toList.drop 0 = dktJ31_pollFirst_0 := by decide +kernel
theorem dksJ31_pollFirst_1 : cJ31_pollFirst.data.toList.drop 24 = dktJ31_pollFirst_1 := dk_seg dksJ31_pollFirst_0 24 rfl rfl
theorem dJ31_pollFirst_0 : decode cJ31_pollFirst 0 = .ok (.aload_n 0, 1) := dk_42 (dk_at dksJ31_pollFirst_0 0 rfl rfl)
theorem dJ31_pollFirst_1 : decode cJ31_pollFirst 1 = .ok (.getfield 3, 3) := dk_180 0 3 (dk_at dksJ31_pollFirst_0 1 rfl rfl)
theorem dJ31_pollFirst_4 : decode cJ31_pollFirst 4 = .ok (.dup, 1) := dk_89 (dk_at dksJ31_pollFirst_0 4 rfl rfl)
theorem dJ31_pollFirst_5 : decode cJ31_pollFirst 5 = .ok (.astore_n 1, 1) := dk_76 (dk_at dksJ31_pollFirst_0 5 rfl rfl)
theorem dJ31_pollFirst_6 : decode cJ31_pollFirst 6 = .ok (.aload_n 0, 1) := dk_42 (dk_at dksJ31_pollFirst_0 6 rfl rfl)
theorem dJ31_pollFirst_7 : decode cJ31_pollFirst 7 = .ok (.getfield 24, 3) := dk_180 0 24 (dk_at dksJ31_pollFirst_0 7 rfl rfl)
theorem dJ31_pollFirst_10 : decode cJ31_pollFirst 10 = .ok (.dup, 1) := dk_89 (dk_at dksJ31_pollFirst_0 10 rfl rfl)
theorem dJ31_pollFirst_11 : decode cJ31_pollFirst 11 = .ok (.istore_n 2, 1) := dk_61 (dk_at dksJ31_pollFirst_0 11 rfl rfl)
theorem dJ31_pollFirst_12 : decode cJ31_pollFirst 12 = .ok (.invokestatic 103, 3) := dk_184 0 103 (dk_at dksJ31_pollFirst_0 12 rfl rfl)
theorem dJ31_pollFirst_15 : decode cJ31_pollFirst 15 = .ok (.astore_n 3, 1) := dk_78 (dk_at dksJ31_pollFirst_0 15 rfl rfl)
theorem dJ31_pollFirst_16 : decode cJ31_pollFirst 16 = .ok (.aload_n 3, 1) := dk_45 (dk_at dksJ31_pollFirst_0 16 rfl rfl)
theorem dJ31_pollFirst_17 : decode cJ31_pollFirst 17 = .ok (.ifnull 17, 3) := dk_198 0 17 (dk_at dksJ31_pollFirst_0 17 rfl rfl)
theorem dJ31_pollFirst_20 : decode cJ31_pollFirst 20 = .ok (.aload_n 1, 1) := dk_43 (dk_at dksJ31_pollFirst_0 20 rfl rfl)
theorem dJ31_pollFirst_21 : decode cJ31_pollFirst 21 = .ok (.iload_n 2, 1) := dk_28 (dk_at dksJ31_pollFirst_0 21 rfl rfl)
theorem dJ31_pollFirst_22 : decode cJ31_pollFirst 22 = .ok (.aconst_null, 1) := dk_1 (dk_at dksJ31_pollFirst_0 22 rfl rfl)
theorem dJ31_pollFirst_23 : decode cJ31_pollFirst 23 = .ok (.aastore, 1) := dk_83 (dk_at dksJ31_pollFirst_0 23 rfl rfl)
theorem dJ31_pollFirst_24 : decode cJ31_pollFirst 24 = .ok (.aload_n 0, 1) := dk_42 (dk_at dksJ31_pollFirst_1 0 rfl rfl)
theorem dJ31_pollFirst_25 : decode cJ31_pollFirst 25 = .ok (.iload_n 2, 1) := dk_28 (dk_at dksJ31_pollFirst_1 1 rfl rfl)
theorem dJ31_pollFirst_26 : decode cJ31_pollFirst 26 = .ok (.aload_n 1, 1) := dk_43 (dk_at dksJ31_pollFirst_1 2 rfl rfl)
theorem dJ31_pollFirst_27 : decode cJ31_pollFirst 27 = .ok (.arraylength, 1) := dk_190 (dk_at dksJ31_pollFirst_1 3 rfl rfl)
theorem dJ31_pollFirst_28 : decode cJ31_pollFirst 28 = .ok (.invokestatic 74, 3) := dk_184 0 74 (dk_at dksJ31_pollFirst_1 4 rfl rfl)
theorem dJ31_pollFirst_31 : decode cJ31_pollFirst 31 = .ok (.putfield 24, 3) := dk_181 0 24 (dk_at dksJ31_pollFirst_1 7 rfl rfl)
theorem dJ31_pollFirst_34 : decode cJ31_pollFirst 34 = .ok (.aload_n 3, 1) := dk_45 (dk_at dksJ31_pollFirst_1 10 rfl rfl)
theorem dJ31_pollFirst_35 : decode cJ31_pollFirst 35 = .ok (.areturn, 1) := dk_176 (dk_at dksJ31_pollFirst_1 11 rfl rfl)
abbrev cJ31_elementAt : ByteArray := prog_62_method_10_code
def yJ31_elementAt : MethodName := ⟨RJ31, "elementAt", "([Ljava/lang/Object;I)Ljava/lang/Object;"⟩
def dkwJ31_elementAt_0 : List UInt8 := [42, 27, 50, 176]
abbrev dktJ31_elementAt_0 : List UInt8 := dkwJ31_elementAt_0 ++ []
theorem dksJ31_elementAt_0 : cJ31_elementAt.data.toList.drop 0 = dktJ31_elementAt_0 := by decide +kernel
theorem dJ31_elementAt_0 : decode cJ31_elementAt 0 = .ok (.aload_n 0, 1) := dk_42 (dk_at dksJ31_elementAt_0 0 rfl rfl)
theorem dJ31_elementAt_1 : decode cJ31_elementAt 1 = .ok (.iload_n 1, 1) := dk_27 (dk_at dksJ31_elementAt_0 1 rfl rfl)
theorem dJ31_elementAt_2 : decode cJ31_elementAt 2 = .ok (.aaload, 1) := dk_50 (dk_at dksJ31_elementAt_0 2 rfl rfl)
theorem dJ31_elementAt_3 : decode cJ31_elementAt 3 = .ok (.areturn, 1) := dk_176 (dk_at dksJ31_elementAt_0 3 rfl rfl)
abbrev cJ31_isEmpty : ByteArray := prog_62_method_38_code
def yJ31_isEmpty : MethodName := ⟨RJ31, "isEmpty", "()Z"⟩
def dkwJ31_isEmpty_0 : List UInt8 := [42, 180, 0, 24, 42, 180, 0, 20, 160, 0, 7, 4, 167, 0, 4, 3, 172]
abbrev dktJ31_isEmpty_0 : List UInt8 := dkwJ31_isEmpty_0 ++ []
theorem dksJ31_isEmpty_0 : cJ31_isEmpty.data.toList.drop 0 = dktJ31_isEmpty_0 := by decide +kernel
theorem dJ31_isEmpty_0 : decode cJ31_isEmpty 0 = .ok (.aload_n 0, 1) := dk_42 (dk_at dksJ31_isEmpty_0 0 rfl rfl)
theorem dJ31_isEmpty_1 : decode cJ31_isEmpty 1 = .ok (.getfield 24, 3) := dk_180 0 24 (dk_at dksJ31_isEmpty_0 1 rfl rfl)
theorem dJ31_isEmpty_4 : decode cJ31_isEmpty 4 = .ok (.aload_n 0, 1) := dk_42 (dk_at dksJ31_isEmpty_0 4 rfl rfl)
theorem dJ31_isEmpty_5 : decode cJ31_isEmpty 5 = .ok (.getfield 20, 3) := dk_180 0 20 (dk_at dksJ31_isEmpty_0 5 rfl rfl)
theorem dJ31_isEmpty_8 : decode cJ31_isEmpty 8 = .ok (.if_icmp .ne 7, 3) := dk_160 0 7 (dk_at dksJ31_isEmpty_0 8 rfl rfl)
theorem dJ31_isEmpty_11 : decode cJ31_isEmpty 11 = .ok (.iconst 1, 1) := dk_4 (dk_at dksJ31_isEmpty_0 11 rfl rfl)
theorem dJ31_isEmpty_12 : decode cJ31_isEmpty 12 = .ok (.goto 4, 3) := dk_167 0 4 (dk_at dksJ31_isEmpty_0 12 rfl rfl)
theorem dJ31_isEmpty_15 : decode cJ31_isEmpty 15 = .ok (.iconst 0, 1) := dk_3 (dk_at dksJ31_isEmpty_0 15 rfl rfl)
theorem dJ31_isEmpty_16 : decode cJ31_isEmpty 16 = .ok (.ireturn, 1) := dk_172 (dk_at dksJ31_isEmpty_0 16 rfl rfl)
abbrev cJ31_removeLast : ByteArray := prog_62_method_19_code
def yJ31_removeLast : MethodName := ⟨RJ31, "removeLast", "()Ljava/lang/Object;"⟩
def dkwJ31_removeLast_0 : List UInt8 := [42, 182, 0, 100, 76, 43, 199, 0, 11, 187, 0, 97, 89, 183, 0, 99, 191, 43, 176]
abbrev dktJ31_removeLast_0 : List UInt8 := dkwJ31_removeLast_0 ++ []
theorem dksJ31_removeLast_0 : cJ31_removeLast.data.toList.drop 0 = dktJ31_removeLast_0 := by decide +kernel
theorem dJ31_removeLast_0 : decode cJ31_removeLast 0 = .ok (.aload_n 0, 1) := dk_42 (dk_at dksJ31_removeLast_0 0 rfl rfl)
theorem dJ31_removeLast_1 : decode cJ31_removeLast 1 = .ok (.invokevirtual 100, 3) := dk_182 0 100 (dk_at dksJ31_removeLast_0 1 rfl rfl)
theorem dJ31_removeLast_4 : decode cJ31_removeLast 4 = .ok (.astore_n 1, 1) := dk_76 (dk_at dksJ31_removeLast_0 4 rfl rfl)
theorem dJ31_removeLast_5 : decode cJ31_removeLast 5 = .ok (.aload_n 1, 1) := dk_43 (dk_at dksJ31_removeLast_0 5 rfl rfl)
theorem dJ31_removeLast_6 : decode cJ31_removeLast 6 = .ok (.ifnonnull 11, 3) := dk_199 0 11 (dk_at dksJ31_removeLast_0 6 rfl rfl)
theorem dJ31_removeLast_9 : decode cJ31_removeLast 9 = .ok (.new 97, 3) := dk_187 0 97 (dk_at dksJ31_removeLast_0 9 rfl rfl)
theorem dJ31_removeLast_12 : decode cJ31_removeLast 12 = .ok (.dup, 1) := dk_89 (dk_at dksJ31_removeLast_0 12 rfl rfl)
theorem dJ31_removeLast_13 : decode cJ31_removeLast 13 = .ok (.invokespecial 99, 3) := dk_183 0 99 (dk_at dksJ31_removeLast_0 13 rfl rfl)
theorem dJ31_removeLast_16 : decode cJ31_removeLast 16 = .ok (.athrow, 1) := dk_191 (dk_at dksJ31_removeLast_0 16 rfl rfl)
theorem dJ31_removeLast_17 : decode cJ31_removeLast 17 = .ok (.aload_n 1, 1) := dk_43 (dk_at dksJ31_removeLast_0 17 rfl rfl)
theorem dJ31_removeLast_18 : decode cJ31_removeLast 18 = .ok (.areturn, 1) := dk_176 (dk_at dksJ31_removeLast_0 18 rfl rfl)
abbrev cJ31_pollLast : ByteArray := prog_62_method_21_code
def yJ31_pollLast : MethodName := ⟨RJ31, "pollLast", "()Ljava/lang/Object;"⟩
def dkwJ31_pollLast_1 : List UInt8 := [198, 0, 12, 43, 42, 28, 90, 181, 0, 20, 1, 83, 45, 176]
abbrev dktJ31_pollLast_1 : List UInt8 := dkwJ31_pollLast_1 ++ []
def dkwJ31_pollLast_0 : List UInt8 := [42, 180, 0, 3, 89, 76, 42, 180, 0, 20, 43, 190, 184, 0, 68, 89, 61, 184, 0, 103, 78, 45]
abbrev dktJ31_pollLast_0 : List UInt8 := dkwJ31_pollLast_0 ++ dktJ31_pollLast_1
theorem dksJ31_pollLast_0 : cJ31_pollLast.data.toList.drop 0 = dktJ31_pollLast_0 := by decide +kernel
theorem dksJ31_pollLast_1 : cJ31_pollLast.data.toList.drop 22 = dktJ31_pollLast_1 := dk_seg dksJ31_pollLast_0 22 rfl rfl
theorem dJ31_pollLast_0 : decode cJ31_pollLast 0 = .ok (.aload_n 0, 1) := dk_42 (dk_at dksJ31_pollLast_0 0 rfl rfl)
theorem dJ31_pollLast_1 : decode cJ31_pollLast 1 = .ok (.getfield 3, 3) := dk_180 0 3 (dk_at dksJ31_pollLast_0 1 rfl rfl)
theorem dJ31_pollLast_4 : decode cJ31_pollLast 4 = .ok (.dup, 1) := dk_89 (dk_at dksJ31_pollLast_0 4 rfl rfl)
theorem dJ31_pollLast_5 : decode cJ31_pollLast 5 = .ok (.astore_n 1, 1) := dk_76 (dk_at dksJ31_pollLast_0 5 rfl rfl)
theorem dJ31_pollLast_6 : decode cJ31_pollLast 6 = .ok (.aload_n 0, 1) := dk_42 (dk_at dksJ31_pollLast_0 6 rfl rfl)
theorem dJ31_pollLast_7 : decode cJ31_pollLast 7 = .ok (.getfield 20, 3) := dk_180 0 20 (dk_at dksJ31_pollLast_0 7 rfl rfl)
theorem dJ31_pollLast_10 : decode cJ31_pollLast 10 = .ok (.aload_n 1, 1) := dk_43 (dk_at dksJ31_pollLast_0 10 rfl rfl)
theorem dJ31_pollLast_11 : decode cJ31_pollLast 11 = .ok (.arraylength, 1) := dk_190 (dk_at dksJ31_pollLast_0 11 rfl rfl)
theorem dJ31_pollLast_12 : decode cJ31_pollLast 12 = .ok (.invokestatic 68, 3) := dk_184 0 68 (dk_at dksJ31_pollLast_0 12 rfl rfl)
theorem dJ31_pollLast_15 : decode cJ31_pollLast 15 = .ok (.dup, 1) := dk_89 (dk_at dksJ31_pollLast_0 15 rfl rfl)
theorem dJ31_pollLast_16 : decode cJ31_pollLast 16 = .ok (.istore_n 2, 1) := dk_61 (dk_at dksJ31_pollLast_0 16 rfl rfl)
theorem dJ31_pollLast_17 : decode cJ31_pollLast 17 = .ok (.invokestatic 103, 3) := dk_184 0 103 (dk_at dksJ31_pollLast_0 17 rfl rfl)
theorem dJ31_pollLast_20 : decode cJ31_pollLast 20 = .ok (.astore_n 3, 1) := dk_78 (dk_at dksJ31_pollLast_0 20 rfl rfl)
theorem dJ31_pollLast_21 : decode cJ31_pollLast 21 = .ok (.aload_n 3, 1) := dk_45 (dk_at dksJ31_pollLast_0 21 rfl rfl)
theorem dJ31_pollLast_22 : decode cJ31_pollLast 22 = .ok (.ifnull 12, 3) := dk_198 0 12 (dk_at dksJ31_pollLast_1 0 rfl rfl)
theorem dJ31_pollLast_25 : decode cJ31_pollLast 25 = .ok (.aload_n 1, 1) := dk_43 (dk_at dksJ31_pollLast_1 3 rfl rfl)
theorem dJ31_pollLast_26 : decode cJ31_pollLast 26 = .ok (.aload_n 0, 1) := dk_42 (dk_at dksJ31_pollLast_1 4 rfl rfl)
theorem dJ31_pollLast_27 : decode cJ31_pollLast 27 = .ok (.iload_n 2, 1) := dk_28 (dk_at dksJ31_pollLast_1 5 rfl rfl)
theorem dJ31_pollLast_28 : decode cJ31_pollLast 28 = .ok (.dup_x1, 1) := dk_90 (dk_at dksJ31_pollLast_1 6 rfl rfl)
theorem dJ31_pollLast_29 : decode cJ31_pollLast 29 = .ok (.putfield 20, 3) := dk_181 0 20 (dk_at dksJ31_pollLast_1 7 rfl rfl)
theorem dJ31_pollLast_32 : decode cJ31_pollLast 32 = .ok (.aconst_null, 1) := dk_1 (dk_at dksJ31_pollLast_1 10 rfl rfl)
theorem dJ31_pollLast_33 : decode cJ31_pollLast 33 = .ok (.aastore, 1) := dk_83 (dk_at dksJ31_pollLast_1 11 rfl rfl)
theorem dJ31_pollLast_34 : decode cJ31_pollLast 34 = .ok (.aload_n 3, 1) := dk_45 (dk_at dksJ31_pollLast_1 12 rfl rfl)
theorem dJ31_pollLast_35 : decode cJ31_pollLast 35 = .ok (.areturn, 1) := dk_176 (dk_at dksJ31_pollLast_1 13 rfl rfl)
abbrev cJ31_dec : ByteArray := prog_62_method_7_code
def yJ31_dec : MethodName := ⟨RJ31, "dec", "(II)I"⟩
def dkwJ31_dec_0 : List UInt8 := [132, 0, 255, 26, 156, 0, 7, 27, 4, 100, 59, 26, 172]
abbrev dktJ31_dec_0 : List UInt8 := dkwJ31_dec_0 ++ []
theorem dksJ31_dec_0 : cJ31_dec.data.toList.drop 0 = dktJ31_dec_0 := by decide +kernel
theorem dJ31_dec_0 : decode cJ31_dec 0 = .ok (.iinc 0 (-1), 3) := dk_132 0 255 (dk_at dksJ31_dec_0 0 rfl rfl)
theorem dJ31_dec_3 : decode cJ31_dec 3 = .ok (.iload_n 0, 1) := dk_26 (dk_at dksJ31_dec_0 3 rfl rfl)
theorem dJ31_dec_4 : decode cJ31_dec 4 = .ok (.ifCond .ge 7, 3) := dk_156 0 7 (dk_at dksJ31_dec_0 4 rfl rfl)
theorem dJ31_dec_7 : decode cJ31_dec 7 = .ok (.iload_n 1, 1) := dk_27 (dk_at dksJ31_dec_0 7 rfl rfl)
theorem dJ31_dec_8 : decode cJ31_dec 8 = .ok (.iconst 1, 1) := dk_4 (dk_at dksJ31_dec_0 8 rfl rfl)
theorem dJ31_dec_9 : decode cJ31_dec 9 = .ok (.isub, 1) := dk_100 (dk_at dksJ31_dec_0 9 rfl rfl)
theorem dJ31_dec_10 : decode cJ31_dec 10 = .ok (.istore_n 0, 1) := dk_59 (dk_at dksJ31_dec_0 10 rfl rfl)
theorem dJ31_dec_11 : decode cJ31_dec 11 = .ok (.iload_n 0, 1) := dk_26 (dk_at dksJ31_dec_0 11 rfl rfl)
theorem dJ31_dec_12 : decode cJ31_dec 12 = .ok (.ireturn, 1) := dk_172 (dk_at dksJ31_dec_0 12 rfl rfl)
theorem q137 : (Jvm.Cond.initialized "java/util/ArrayDeque") ∈ lw_all := lw_g (lw_at lw_m1 35 rfl) rfl
theorem q1013 : (Jvm.Cond.selects "java/util/ArrayDeque" ({ cls := "java/lang/Object", name := "getClass", desc := "()Ljava/lang/Class;" } : Jvm.MethodName) ({ cls := "java/lang/Object", name := "getClass", desc := "()Ljava/lang/Class;" } : Jvm.MethodName)) ∈ lw_all := lw_g (lw_at lw_m4 191 rfl) rfl
theorem q1251 : (Jvm.Cond.instantiable "java/util/ArrayDeque" (3 : Nat)) ∈ lw_all := lw_g (lw_at lw_m5 189 rfl) rfl
theorem q1253 : (Jvm.Cond.instanceMethod ({ cls := "java/util/ArrayDeque", name := "<init>", desc := "()V" } : Jvm.MethodName)) ∈ lw_all := lw_g (lw_at lw_m5 191 rfl) rfl
theorem q1254 : (Jvm.Cond.code ({ cls := "java/util/ArrayDeque", name := "<init>", desc := "()V" } : Jvm.MethodName) prog_62_method_3_code (1 : Nat) (Option.none : Option Jvm.ClassFile.FieldType)) ∈ lw_all := lw_g (lw_at lw_m5 192 rfl) rfl
theorem q1255 : (Jvm.Cond.methodLink "java/util/ArrayDeque" (42 : Nat) ({ cls := "java/util/AbstractCollection", name := "<init>", desc := "()V" } : Jvm.MethodName)) ∈ lw_all := lw_g (lw_at lw_m5 193 rfl) rfl
theorem q1256 : (Jvm.Cond.classLink "java/util/ArrayDeque" (47 : Nat) "java/lang/Object") ∈ lw_all := lw_g (lw_at lw_m5 194 rfl) rfl
theorem q1257 : (Jvm.Cond.fieldLink "java/util/ArrayDeque" (3 : Nat) "java/util/ArrayDeque" "elements" "[Ljava/lang/Object;") ∈ lw_all := lw_g (lw_at lw_m5 195 rfl) rfl
theorem q1260 : (Jvm.Cond.fieldLink "java/util/ArrayDeque" (24 : Nat) "java/util/ArrayDeque" "head" "I") ∈ lw_all := lw_g (lw_at lw_m5 198 rfl) rfl
theorem q1261 : (Jvm.Cond.fieldLink "java/util/ArrayDeque" (20 : Nat) "java/util/ArrayDeque" "tail" "I") ∈ lw_all := lw_g (lw_at lw_m5 199 rfl) rfl
theorem q1262 : (Jvm.Cond.lays "java/util/ArrayDeque" "java/util/ArrayDeque" "elements" "[Ljava/lang/Object;") ∈ lw_all := lw_g (lw_at lw_m5 200 rfl) rfl
theorem q1263 : (Jvm.Cond.soleField "java/util/ArrayDeque" "elements") ∈ lw_all := lw_g (lw_at lw_m5 201 rfl) rfl
theorem q1264 : (Jvm.Cond.lays "java/util/ArrayDeque" "java/util/ArrayDeque" "head" "I") ∈ lw_all := lw_g (lw_at lw_m5 202 rfl) rfl
theorem q1265 : (Jvm.Cond.soleField "java/util/ArrayDeque" "head") ∈ lw_all := lw_g (lw_at lw_m5 203 rfl) rfl
theorem q1266 : (Jvm.Cond.lays "java/util/ArrayDeque" "java/util/ArrayDeque" "tail" "I") ∈ lw_all := lw_g (lw_at lw_m5 204 rfl) rfl
theorem q1267 : (Jvm.Cond.soleField "java/util/ArrayDeque" "tail") ∈ lw_all := lw_g (lw_at lw_m5 205 rfl) rfl
theorem q1268 : (Jvm.Cond.superclass "java/util/ArrayDeque" "java/util/AbstractCollection") ∈ lw_all := lw_g (lw_at lw_m5 206 rfl) rfl
theorem q2557 : (Jvm.Cond.static ({ cls := "java/util/ArrayDeque", name := "nonNullElementAt", desc := "([Ljava/lang/Object;I)Ljava/lang/Object;" } : Jvm.MethodName)) ∈ lw_all := lw_g (lw_at lw_m11 55 rfl) rfl
theorem q2558 : (Jvm.Cond.code ({ cls := "java/util/ArrayDeque", name := "nonNullElementAt", desc := "([Ljava/lang/Object;I)Ljava/lang/Object;" } : Jvm.MethodName) prog_62_method_11_code (3 : Nat) (Option.some (Jvm.ClassFile.FieldType.object "java/lang/Object"))) ∈ lw_all := lw_g (lw_at lw_m11 56 rfl) rfl
theorem q2560 : (Jvm.Cond.static ({ cls := "java/util/ArrayDeque", name := "inc", desc := "(II)I" } : Jvm.MethodName)) ∈ lw_all := lw_g (lw_at lw_m11 58 rfl) rfl
theorem q2561 : (Jvm.Cond.code ({ cls := "java/util/ArrayDeque", name := "inc", desc := "(II)I" } : Jvm.MethodName) prog_62_method_6_code (2 : Nat) (Option.some Jvm.ClassFile.FieldType.int)) ∈ lw_all := lw_g (lw_at lw_m11 59 rfl) rfl
theorem q2842 : (Jvm.Cond.instanceMethod ({ cls := "java/util/ArrayDeque", name := "size", desc := "()I" } : Jvm.MethodName)) ∈ lw_all := lw_g (lw_at lw_m12 100 rfl) rfl
theorem q2843 : (Jvm.Cond.selects "java/util/ArrayDeque" ({ cls := "java/util/ArrayDeque", name := "size", desc := "()I" } : Jvm.MethodName) ({ cls := "java/util/ArrayDeque", name := "size", desc := "()I" } : Jvm.MethodName)) ∈ lw_all := lw_g (lw_at lw_m12 101 rfl) rfl
theorem q2844 : (Jvm.Cond.code ({ cls := "java/util/ArrayDeque", name := "size", desc := "()I" } : Jvm.MethodName) prog_62_method_37_code (1 : Nat) (Option.some Jvm.ClassFile.FieldType.int)) ∈ lw_all := lw_g (lw_at lw_m12 102 rfl) rfl
theorem q2845 : (Jvm.Cond.methodLink "java/util/ArrayDeque" (127 : Nat) ({ cls := "java/util/ArrayDeque", name := "sub", desc := "(III)I" } : Jvm.MethodName)) ∈ lw_all := lw_g (lw_at lw_m12 103 rfl) rfl
theorem q2846 : (Jvm.Cond.static ({ cls := "java/util/ArrayDeque", name := "sub", desc := "(III)I" } : Jvm.MethodName)) ∈ lw_all := lw_g (lw_at lw_m12 104 rfl) rfl
theorem q2847 : (Jvm.Cond.code ({ cls := "java/util/ArrayDeque", name := "sub", desc := "(III)I" } : Jvm.MethodName) prog_62_method_9_code (3 : Nat) (Option.some Jvm.ClassFile.FieldType.int)) ∈ lw_all := lw_g (lw_at lw_m12 105 rfl) rfl
theorem q3034 : (Jvm.Cond.castable "java/util/ArrayDeque" "java/util/Collection") ∈ lw_tbl := lw_at lw_m13 52 rfl
theorem q3035 : (Jvm.Cond.selects "java/util/ArrayDeque" ({ cls := "java/util/Collection", name := "iterator", desc := "()Ljava/util/Iterator;" } : Jvm.MethodName) ({ cls := "java/util/ArrayDeque", name := "iterator", desc := "()Ljava/util/Iterator;" } : Jvm.MethodName)) ∈ lw_all := lw_g (lw_at lw_m13 53 rfl) rfl
theorem q3036 : (Jvm.Cond.unhidden "java/util/ArrayDeque" "iterator" "()Ljava/util/Iterator;") ∈ lw_tbl := lw_at lw_m13 54 rfl
theorem q3037 : (Jvm.Cond.instanceMethod ({ cls := "java/util/ArrayDeque", name := "iterator", desc := "()Ljava/util/Iterator;" } : Jvm.MethodName)) ∈ lw_all := lw_g (lw_at lw_m13 55 rfl) rfl
theorem q3038 : (Jvm.Cond.publicMethod ({ cls := "java/util/ArrayDeque", name := "iterator", desc := "()Ljava/util/Iterator;" } : Jvm.MethodName)) ∈ lw_tbl := lw_at lw_m13 56 rfl
theorem q3039 : (Jvm.Cond.code ({ cls := "java/util/ArrayDeque", name := "iterator", desc := "()Ljava/util/Iterator;" } : Jvm.MethodName) prog_62_method_39_code (1 : Nat) (Option.some (Jvm.ClassFile.FieldType.object "java/util/Iterator"))) ∈ lw_all := lw_g (lw_at lw_m13 57 rfl) rfl
theorem q3040 : (Jvm.Cond.classLink "java/util/ArrayDeque" (131 : Nat) "java/util/ArrayDeque$DeqIterator") ∈ lw_all := lw_g (lw_at lw_m13 58 rfl) rfl
theorem q3042 : (Jvm.Cond.methodLink "java/util/ArrayDeque" (133 : Nat) ({ cls := "java/util/ArrayDeque$DeqIterator", name := "<init>", desc := "(Ljava/util/ArrayDeque;)V" } : Jvm.MethodName)) ∈ lw_all := lw_g (lw_at lw_m13 60 rfl) rfl
theorem q3125 : (Jvm.Cond.selects "java/util/ArrayDeque" ({ cls := "java/util/Collection", name := "size", desc := "()I" } : Jvm.MethodName) ({ cls := "java/util/ArrayDeque", name := "size", desc := "()I" } : Jvm.MethodName)) ∈ lw_all := lw_g (lw_at lw_m13 143 rfl) rfl
theorem q3126 : (Jvm.Cond.unhidden "java/util/ArrayDeque" "size" "()I") ∈ lw_tbl := lw_at lw_m13 144 rfl
theorem q3127 : (Jvm.Cond.publicMethod ({ cls := "java/util/ArrayDeque", name := "size", desc := "()I" } : Jvm.MethodName)) ∈ lw_tbl := lw_at lw_m13 145 rfl
theorem q3173 : (Jvm.Cond.instanceMethod ({ cls := "java/util/ArrayDeque", name := "add", desc := "(Ljava/lang/Object;)Z" } : Jvm.MethodName)) ∈ lw_all := lw_g (lw_at lw_m13 191 rfl) rfl
theorem q3174 : (Jvm.Cond.code ({ cls := "java/util/ArrayDeque", name := "add", desc := "(Ljava/lang/Object;)Z" } : Jvm.MethodName) prog_62_method_28_code (2 : Nat) (Option.some Jvm.ClassFile.FieldType.boolean)) ∈ lw_all := lw_g (lw_at lw_m13 192 rfl) rfl
theorem q3175 : (Jvm.Cond.methodLink "java/util/ArrayDeque" (90 : Nat) ({ cls := "java/util/ArrayDeque", name := "addLast", desc := "(Ljava/lang/Object;)V" } : Jvm.MethodName)) ∈ lw_all := lw_g (lw_at lw_m13 193 rfl) rfl
theorem q3176 : (Jvm.Cond.instanceMethod ({ cls := "java/util/ArrayDeque", name := "addLast", desc := "(Ljava/lang/Object;)V" } : Jvm.MethodName)) ∈ lw_all := lw_g (lw_at lw_m13 194 rfl) rfl
theorem q3177 : (Jvm.Cond.selects "java/util/ArrayDeque" ({ cls := "java/util/ArrayDeque", name := "addLast", desc := "(Ljava/lang/Object;)V" } : Jvm.MethodName) ({ cls := "java/util/ArrayDeque", name := "addLast", desc := "(Ljava/lang/Object;)V" } : Jvm.MethodName)) ∈ lw_all := lw_g (lw_at lw_m13 195 rfl) rfl
theorem q3178 : (Jvm.Cond.code ({ cls := "java/util/ArrayDeque", name := "addLast", desc := "(Ljava/lang/Object;)V" } : Jvm.MethodName) prog_62_method_13_code (3 : Nat) (Option.none : Option Jvm.ClassFile.FieldType)) ∈ lw_all := lw_g (lw_at lw_m13 196 rfl) rfl
theorem q3179 : (Jvm.Cond.methodLink "java/util/ArrayDeque" (74 : Nat) ({ cls := "java/util/ArrayDeque", name := "inc", desc := "(II)I" } : Jvm.MethodName)) ∈ lw_all := lw_g (lw_at lw_m13 197 rfl) rfl
theorem q3180 : (Jvm.Cond.methodLink "java/util/ArrayDeque" (71 : Nat) ({ cls := "java/util/ArrayDeque", name := "grow", desc := "(I)V" } : Jvm.MethodName)) ∈ lw_all := lw_g (lw_at lw_m13 198 rfl) rfl
theorem q3181 : (Jvm.Cond.privateMethod ({ cls := "java/util/ArrayDeque", name := "grow", desc := "(I)V" } : Jvm.MethodName)) ∈ lw_tbl := lw_at lw_m13 199 rfl
theorem q3182 : (Jvm.Cond.instanceMethod ({ cls := "java/util/ArrayDeque", name := "grow", desc := "(I)V" } : Jvm.MethodName)) ∈ lw_all := lw_g (lw_at lw_m13 200 rfl) rfl
theorem q3183 : (Jvm.Cond.code ({ cls := "java/util/ArrayDeque", name := "grow", desc := "(I)V" } : Jvm.MethodName) prog_62_method_1_code (9 : Nat) (Option.none : Option Jvm.ClassFile.FieldType)) ∈ lw_all := lw_g (lw_at lw_m13 201 rfl) rfl
theorem q3184 : (Jvm.Cond.constant "java/util/ArrayDeque" (9 : Nat) (2147483639 : Int32)) ∈ lw_all := lw_g (lw_at lw_m13 202 rfl) rfl
theorem q3185 : (Jvm.Cond.methodLink "java/util/ArrayDeque" (10 : Nat) ({ cls := "java/util/ArrayDeque", name := "newCapacity", desc := "(II)I" } : Jvm.MethodName)) ∈ lw_all := lw_g (lw_at lw_m13 203 rfl) rfl
theorem q3186 : (Jvm.Cond.privateMethod ({ cls := "java/util/ArrayDeque", name := "newCapacity", desc := "(II)I" } : Jvm.MethodName)) ∈ lw_tbl := lw_at lw_m13 204 rfl
theorem q3187 : (Jvm.Cond.instanceMethod ({ cls := "java/util/ArrayDeque", name := "newCapacity", desc := "(II)I" } : Jvm.MethodName)) ∈ lw_all := lw_g (lw_at lw_m13 205 rfl) rfl
theorem q3188 : (Jvm.Cond.code ({ cls := "java/util/ArrayDeque", name := "newCapacity", desc := "(II)I" } : Jvm.MethodName) prog_62_method_2_code (5 : Nat) (Option.some Jvm.ClassFile.FieldType.int)) ∈ lw_all := lw_g (lw_at lw_m13 206 rfl) rfl
theorem q3189 : (Jvm.Cond.classLink "java/util/ArrayDeque" (33 : Nat) "java/lang/IllegalStateException") ∈ lw_all := lw_g (lw_at lw_m13 207 rfl) rfl
theorem q3190 : (Jvm.Cond.stringRef "java/util/ArrayDeque" (35 : Nat) "Sorry, deque too big") ∈ lw_tbl := lw_at lw_m13 208 rfl
theorem q3191 : (Jvm.Cond.methodLink "java/util/ArrayDeque" (37 : Nat) ({ cls := "java/lang/IllegalStateException", name := "<init>", desc := "(Ljava/lang/String;)V" } : Jvm.MethodName)) ∈ lw_all := lw_g (lw_at lw_m13 209 rfl) rfl
theorem q3195 : (Jvm.Cond.constant "java/util/ArrayDeque" (41 : Nat) (2147483647 : Int32)) ∈ lw_all := lw_g (lw_at lw_m13 213 rfl) rfl
theorem q3196 : (Jvm.Cond.methodLink "java/util/ArrayDeque" (14 : Nat) ({ cls := "java/util/Arrays", name := "copyOf", desc := "([Ljava/lang/Object;I)[Ljava/lang/Object;" } : Jvm.MethodName)) ∈ lw_all := lw_g (lw_at lw_m13 214 rfl) rfl
theorem q3197 : (Jvm.Cond.methodLink "java/util/ArrayDeque" (27 : Nat) ({ cls := "java/lang/System", name := "arraycopy", desc := "(Ljava/lang/Object;ILjava/lang/Object;II)V" } : Jvm.MethodName)) ∈ lw_all := lw_g (lw_at lw_m13 215 rfl) rfl
theorem q3246 : (Jvm.Cond.instanceMethod ({ cls := "java/util/ArrayDeque", name := "removeFirst", desc := "()Ljava/lang/Object;" } : Jvm.MethodName)) ∈ lw_all := lw_g (lw_at lw_m14 24 rfl) rfl
theorem q3247 : (Jvm.Cond.selects "java/util/ArrayDeque" ({ cls := "java/util/ArrayDeque", name := "removeFirst", desc := "()Ljava/lang/Object;" } : Jvm.MethodName) ({ cls := "java/util/ArrayDeque", name := "removeFirst", desc := "()Ljava/lang/Object;" } : Jvm.MethodName)) ∈ lw_all := lw_g (lw_at lw_m14 25 rfl) rfl
theorem q3248 : (Jvm.Cond.code ({ cls := "java/util/ArrayDeque", name := "removeFirst", desc := "()Ljava/lang/Object;" } : Jvm.MethodName) prog_62_method_18_code (2 : Nat) (Option.some (Jvm.ClassFile.FieldType.object "java/lang/Object"))) ∈ lw_all := lw_g (lw_at lw_m14 26 rfl) rfl
theorem q3249 : (Jvm.Cond.methodLink "java/util/ArrayDeque" (93 : Nat) ({ cls := "java/util/ArrayDeque", name := "pollFirst", desc := "()Ljava/lang/Object;" } : Jvm.MethodName)) ∈ lw_all := lw_g (lw_at lw_m14 27 rfl) rfl
theorem q3250 : (Jvm.Cond.instanceMethod ({ cls := "java/util/ArrayDeque", name := "pollFirst", desc := "()Ljava/lang/Object;" } : Jvm.MethodName)) ∈ lw_all := lw_g (lw_at lw_m14 28 rfl) rfl
theorem q3251 : (Jvm.Cond.selects "java/util/ArrayDeque" ({ cls := "java/util/ArrayDeque", name := "pollFirst", desc := "()Ljava/lang/Object;" } : Jvm.MethodName) ({ cls := "java/util/ArrayDeque", name := "pollFirst", desc := "()Ljava/lang/Object;" } : Jvm.MethodName)) ∈ lw_all := lw_g (lw_at lw_m14 29 rfl) rfl
theorem q3252 : (Jvm.Cond.code ({ cls := "java/util/ArrayDeque", name := "pollFirst", desc := "()Ljava/lang/Object;" } : Jvm.MethodName) prog_62_method_20_code (4 : Nat) (Option.some (Jvm.ClassFile.FieldType.object "java/lang/Object"))) ∈ lw_all := lw_g (lw_at lw_m14 30 rfl) rfl
theorem q3253 : (Jvm.Cond.methodLink "java/util/ArrayDeque" (103 : Nat) ({ cls := "java/util/ArrayDeque", name := "elementAt", desc := "([Ljava/lang/Object;I)Ljava/lang/Object;" } : Jvm.MethodName)) ∈ lw_all := lw_g (lw_at lw_m14 31 rfl) rfl
theorem q3254 : (Jvm.Cond.static ({ cls := "java/util/ArrayDeque", name := "elementAt", desc := "([Ljava/lang/Object;I)Ljava/lang/Object;" } : Jvm.MethodName)) ∈ lw_all := lw_g (lw_at lw_m14 32 rfl) rfl
theorem q3255 : (Jvm.Cond.code ({ cls := "java/util/ArrayDeque", name := "elementAt", desc := "([Ljava/lang/Object;I)Ljava/lang/Object;" } : Jvm.MethodName) prog_62_method_10_code (2 : Nat) (Option.some (Jvm.ClassFile.FieldType.object "java/lang/Object"))) ∈ lw_all := lw_g (lw_at lw_m14 33 rfl) rfl
theorem q3795 : (Jvm.Cond.instanceMethod ({ cls := "java/util/ArrayDeque", name := "isEmpty", desc := "()Z" } : Jvm.MethodName)) ∈ lw_all := lw_g (lw_at lw_m16 93 rfl) rfl
theorem q3796 : (Jvm.Cond.selects "java/util/ArrayDeque" ({ cls := "java/util/ArrayDeque", name := "isEmpty", desc := "()Z" } : Jvm.MethodName) ({ cls := "java/util/ArrayDeque", name := "isEmpty", desc := "()Z" } : Jvm.MethodName)) ∈ lw_all := lw_g (lw_at lw_m16 94 rfl) rfl
theorem q3797 : (Jvm.Cond.code ({ cls := "java/util/ArrayDeque", name := "isEmpty", desc := "()Z" } : Jvm.MethodName) prog_62_method_38_code (1 : Nat) (Option.some Jvm.ClassFile.FieldType.boolean)) ∈ lw_all := lw_g (lw_at lw_m16 95 rfl) rfl
theorem q3799 : (Jvm.Cond.instanceMethod ({ cls := "java/util/ArrayDeque", name := "removeLast", desc := "()Ljava/lang/Object;" } : Jvm.MethodName)) ∈ lw_all := lw_g (lw_at lw_m16 97 rfl) rfl
theorem q3800 : (Jvm.Cond.selects "java/util/ArrayDeque" ({ cls := "java/util/ArrayDeque", name := "removeLast", desc := "()Ljava/lang/Object;" } : Jvm.MethodName) ({ cls := "java/util/ArrayDeque", name := "removeLast", desc := "()Ljava/lang/Object;" } : Jvm.MethodName)) ∈ lw_all := lw_g (lw_at lw_m16 98 rfl) rfl
theorem q3801 : (Jvm.Cond.code ({ cls := "java/util/ArrayDeque", name := "removeLast", desc := "()Ljava/lang/Object;" } : Jvm.MethodName) prog_62_method_19_code (2 : Nat) (Option.some (Jvm.ClassFile.FieldType.object "java/lang/Object"))) ∈ lw_all := lw_g (lw_at lw_m16 99 rfl) rfl
theorem q3802 : (Jvm.Cond.methodLink "java/util/ArrayDeque" (100 : Nat) ({ cls := "java/util/ArrayDeque", name := "pollLast", desc := "()Ljava/lang/Object;" } : Jvm.MethodName)) ∈ lw_all := lw_g (lw_at lw_m16 100 rfl) rfl
theorem q3803 : (Jvm.Cond.instanceMethod ({ cls := "java/util/ArrayDeque", name := "pollLast", desc := "()Ljava/lang/Object;" } : Jvm.MethodName)) ∈ lw_all := lw_g (lw_at lw_m16 101 rfl) rfl
theorem q3804 : (Jvm.Cond.selects "java/util/ArrayDeque" ({ cls := "java/util/ArrayDeque", name := "pollLast", desc := "()Ljava/lang/Object;" } : Jvm.MethodName) ({ cls := "java/util/ArrayDeque", name := "pollLast", desc := "()Ljava/lang/Object;" } : Jvm.MethodName)) ∈ lw_all := lw_g (lw_at lw_m16 102 rfl) rfl
theorem q3805 : (Jvm.Cond.code ({ cls := "java/util/ArrayDeque", name := "pollLast", desc := "()Ljava/lang/Object;" } : Jvm.MethodName) prog_62_method_21_code (4 : Nat) (Option.some (Jvm.ClassFile.FieldType.object "java/lang/Object"))) ∈ lw_all := lw_g (lw_at lw_m16 103 rfl) rfl
theorem q3806 : (Jvm.Cond.methodLink "java/util/ArrayDeque" (68 : Nat) ({ cls := "java/util/ArrayDeque", name := "dec", desc := "(II)I" } : Jvm.MethodName)) ∈ lw_all := lw_g (lw_at lw_m16 104 rfl) rfl
theorem q3807 : (Jvm.Cond.static ({ cls := "java/util/ArrayDeque", name := "dec", desc := "(II)I" } : Jvm.MethodName)) ∈ lw_all := lw_g (lw_at lw_m16 105 rfl) rfl
theorem q3808 : (Jvm.Cond.code ({ cls := "java/util/ArrayDeque", name := "dec", desc := "(II)I" } : Jvm.MethodName) prog_62_method_7_code (2 : Nat) (Option.some Jvm.ClassFile.FieldType.int)) ∈ lw_all := lw_g (lw_at lw_m16 106 rfl) rfl
theorem q4391 : (Jvm.Cond.selects "java/util/ArrayDeque" ({ cls := "java/util/AbstractCollection", name := "add", desc := "(Ljava/lang/Object;)Z" } : Jvm.MethodName) ({ cls := "java/util/ArrayDeque", name := "add", desc := "(Ljava/lang/Object;)Z" } : Jvm.MethodName)) ∈ lw_all := lw_g (lw_at lw_m18 209 rfl) rfl
theorem q4419 : (Jvm.Cond.castable "java/util/ArrayDeque" "java/util/SequencedCollection") ∈ lw_tbl := lw_at lw_m18 237 rfl
theorem q4441 : (Jvm.Cond.castable "java/util/ArrayDeque" "java/lang/Object") ∈ lw_tbl := lw_at lw_m19 19 rfl

