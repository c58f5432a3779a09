set_option maxRecDepth 100000
abbrev cJ39_split : ByteArray := prog_74_method_11_code
def yJ39_split : MethodName := ⟨RJ39, "split", "(Ljava/util/HashMap;[Ljava/util/HashMap$Node;II)V"⟩
def dkwJ39_split_9 : List UInt8 := [198, 0, 9, 25, 8, 44, 182, 0, 126, 177]
abbrev dktJ39_split_9 : List UInt8 := dkwJ39_split_9 ++ []
def dkwJ39_split_8 : List UInt8 := [21, 4, 96, 25, 8, 43, 182, 0, 119, 83, 167, 0, 22, 44, 29, 21, 4, 96, 25, 8, 83, 25, 6]
abbrev dktJ39_split_8 : List UInt8 := dkwJ39_split_8 ++ dktJ39_split_9
def dkwJ39_split_7 : List UInt8 := [198, 0, 9, 25, 6, 44, 182, 0, 126, 25, 8, 198, 0, 44, 21, 11, 16, 6, 163, 0, 18, 44, 29]
abbrev dktJ39_split_7 : List UInt8 := dkwJ39_split_7 ++ dktJ39_split_8
def dkwJ39_split_6 : List UInt8 := [163, 0, 15, 44, 29, 25, 6, 43, 182, 0, 119, 83, 167, 0, 19, 44, 29, 25, 6, 83, 25, 8]
abbrev dktJ39_split_6 : List UInt8 := dkwJ39_split_6 ++ dktJ39_split_7
def dkwJ39_split_5 : List UInt8 := [25, 12, 58, 9, 132, 11, 1, 25, 13, 58, 12, 167, 255, 153, 25, 6, 198, 0, 38, 21, 10, 16, 6]
abbrev dktJ39_split_5 : List UInt8 := dkwJ39_split_5 ++ dktJ39_split_6
def dkwJ39_split_4 : List UInt8 := [25, 9, 90, 181, 0, 19, 199, 0, 10, 25, 12, 58, 8, 167, 0, 10, 25, 9, 25, 12, 181, 0, 22]
abbrev dktJ39_split_4 : List UInt8 := dkwJ39_split_4 ++ dktJ39_split_5
def dkwJ39_split_3 : List UInt8 := [58, 6, 167, 0, 10, 25, 7, 25, 12, 181, 0, 22, 25, 12, 58, 7, 132, 10, 1, 167, 0, 35, 25, 12]
abbrev dktJ39_split_3 : List UInt8 := dkwJ39_split_3 ++ dktJ39_split_4
def dkwJ39_split_2 : List UInt8 := [25, 12, 180, 0, 15, 21, 4, 126, 154, 0, 38, 25, 12, 25, 7, 90, 181, 0, 19, 199, 0, 10, 25, 12]
abbrev dktJ39_split_2 : List UInt8 := dkwJ39_split_2 ++ dktJ39_split_3
def dkwJ39_split_1 : List UInt8 := [58, 12, 25, 12, 198, 0, 104, 25, 12, 180, 0, 22, 192, 0, 10, 58, 13, 25, 12, 1, 181, 0, 22]
abbrev dktJ39_split_1 : List UInt8 := dkwJ39_split_1 ++ dktJ39_split_2
def dkwJ39_split_0 : List UInt8 := [42, 58, 5, 1, 58, 6, 1, 58, 7, 1, 58, 8, 1, 58, 9, 3, 54, 10, 3, 54, 11, 25, 5]
abbrev dktJ39_split_0 : List UInt8 := dkwJ39_split_0 ++ dktJ39_split_1
theorem dksJ39_split_0 : cJ39_split.data.toList.drop 0 = dktJ39_split_0 := by decide +kernel
theorem dksJ39_split_1 : cJ39_split.data.toList.drop 23 = dktJ39_split_1 := dk_seg dksJ39_split_0 23 rfl rfl
theorem dksJ39_split_2 : cJ39_split.data.toList.drop 46 = dktJ39_split_2 := dk_seg dksJ39_split_1 23 rfl rfl
theorem dksJ39_split_3 : cJ39_split.data.toList.drop 70 = dktJ39_split_3 := dk_seg dksJ39_split_2 24 rfl rfl
theorem dksJ39_split_4 : cJ39_split.data.toList.drop 94 = dktJ39_split_4 := dk_seg dksJ39_split_3 24 rfl rfl
theorem dksJ39_split_5 : cJ39_split.data.toList.drop 117 = dktJ39_split_5 := dk_seg dksJ39_split_4 23 rfl rfl
theorem dksJ39_split_6 : cJ39_split.data.toList.drop 140 = dktJ39_split_6 := dk_seg dksJ39_split_5 23 rfl rfl
theorem dksJ39_split_7 : cJ39_split.data.toList.drop 162 = dktJ39_split_7 := dk_seg dksJ39_split_6 22 rfl rfl
theorem dksJ39_split_8 : cJ39_split.data.toList.drop 185 = dktJ39_split_8 := dk_seg dksJ39_split_7 23 rfl rfl
theorem dksJ39_split_9 : cJ39_split.data.toList.drop 208 = dktJ39_split_9 := dk_seg dksJ39_split_8 23 rfl rfl
theorem dJ39_split_0 : decode cJ39_split 0 = .ok (.aload_n 0, 1) := dk_42 (dk_at dksJ39_split_0 0 rfl rfl)
theorem dJ39_split_1 : decode cJ39_split 1 = .ok (.astore 5, 2) := dk_58 5 (dk_at dksJ39_split_0 1 rfl rfl)
theorem dJ39_split_3 : decode cJ39_split 3 = .ok (.aconst_null, 1) := dk_1 (dk_at dksJ39_split_0 3 rfl rfl)
theorem dJ39_split_4 : decode cJ39_split 4 = .ok (.astore 6, 2) := dk_58 6 (dk_at dksJ39_split_0 4 rfl rfl)
theorem dJ39_split_6 : decode cJ39_split 6 = .ok (.aconst_null, 1) := dk_1 (dk_at dksJ39_split_0 6 rfl rfl)
theorem dJ39_split_7 : decode cJ39_split 7 = .ok (.astore 7, 2) := dk_58 7 (dk_at dksJ39_split_0 7 rfl rfl)
theorem dJ39_split_9 : decode cJ39_split 9 = .ok (.aconst_null, 1) := dk_1 (dk_at dksJ39_split_0 9 rfl rfl)
theorem dJ39_split_10 : decode cJ39_split 10 = .ok (.astore 8, 2) := dk_58 8 (dk_at dksJ39_split_0 10 rfl rfl)
theorem dJ39_split_12 : decode cJ39_split 12 = .ok (.aconst_null, 1) := dk_1 (dk_at dksJ39_split_0 12 rfl rfl)
theorem dJ39_split_13 : decode cJ39_split 13 = .ok (.astore 9, 2) := dk_58 9 (dk_at dksJ39_split_0 13 rfl rfl)
theorem dJ39_split_15 : decode cJ39_split 15 = .ok (.iconst 0, 1) := dk_3 (dk_at dksJ39_split_0 15 rfl rfl)
theorem dJ39_split_16 : decode cJ39_split 16 = .ok (.istore 10, 2) := dk_54 10 (dk_at dksJ39_split_0 16 rfl rfl)
theorem dJ39_split_18 : decode cJ39_split 18 = .ok (.iconst 0, 1) := dk_3 (dk_at dksJ39_split_0 18 rfl rfl)
theorem dJ39_split_19 : decode cJ39_split 19 = .ok (.istore 11, 2) := dk_54 11 (dk_at dksJ39_split_0 19 rfl rfl)
theorem dJ39_split_21 : decode cJ39_split 21 = .ok (.aload 5, 2) := dk_25 5 (dk_at dksJ39_split_0 21 rfl rfl)
theorem dJ39_split_23 : decode cJ39_split 23 = .ok (.astore 12, 2) := dk_58 12 (dk_at dksJ39_split_1 0 rfl rfl)
theorem dJ39_split_25 : decode cJ39_split 25 = .ok (.aload 12, 2) := dk_25 12 (dk_at dksJ39_split_1 2 rfl rfl)
theorem dJ39_split_27 : decode cJ39_split 27 = .ok (.ifnull 104, 3) := dk_198 0 104 (dk_at dksJ39_split_1 4 rfl rfl)
theorem dJ39_split_30 : decode cJ39_split 30 = .ok (.aload 12, 2) := dk_25 12 (dk_at dksJ39_split_1 7 rfl rfl)
theorem dJ39_split_32 : decode cJ39_split 32 = .ok (.getfield 22, 3) := dk_180 0 22 (dk_at dksJ39_split_1 9 rfl rfl)
theorem dJ39_split_35 : decode cJ39_split 35 = .ok (.checkcast 10, 3) := dk_192 0 10 (dk_at dksJ39_split_1 12 rfl rfl)
theorem dJ39_split_38 : decode cJ39_split 38 = .ok (.astore 13, 2) := dk_58 13 (dk_at dksJ39_split_1 15 rfl rfl)
theorem dJ39_split_40 : decode cJ39_split 40 = .ok (.aload 12, 2) := dk_25 12 (dk_at dksJ39_split_1 17 rfl rfl)
theorem dJ39_split_42 : decode cJ39_split 42 = .ok (.aconst_null, 1) := dk_1 (dk_at dksJ39_split_1 19 rfl rfl)
theorem dJ39_split_43 : decode cJ39_split 43 = .ok (.putfield 22, 3) := dk_181 0 22 (dk_at dksJ39_split_1 20 rfl rfl)
theorem dJ39_split_46 : decode cJ39_split 46 = .ok (.aload 12, 2) := dk_25 12 (dk_at dksJ39_split_2 0 rfl rfl)
theorem dJ39_split_48 : decode cJ39_split 48 = .ok (.getfield 15, 3) := dk_180 0 15 (dk_at dksJ39_split_2 2 rfl rfl)
theorem dJ39_split_51 : decode cJ39_split 51 = .ok (.iload 4, 2) := dk_21 4 (dk_at dksJ39_split_2 5 rfl rfl)
theorem dJ39_split_53 : decode cJ39_split 53 = .ok (.iand, 1) := dk_126 (dk_at dksJ39_split_2 7 rfl rfl)
theorem dJ39_split_54 : decode cJ39_split 54 = .ok (.ifCond .ne 38, 3) := dk_154 0 38 (dk_at dksJ39_split_2 8 rfl rfl)
theorem dJ39_split_57 : decode cJ39_split 57 = .ok (.aload 12, 2) := dk_25 12 (dk_at dksJ39_split_2 11 rfl rfl)
theorem dJ39_split_59 : decode cJ39_split 59 = .ok (.aload 7, 2) := dk_25 7 (dk_at dksJ39_split_2 13 rfl rfl)
theorem dJ39_split_61 : decode cJ39_split 61 = .ok (.dup_x1, 1) := dk_90 (dk_at dksJ39_split_2 15 rfl rfl)
theorem dJ39_split_62 : decode cJ39_split 62 = .ok (.putfield 19, 3) := dk_181 0 19 (dk_at dksJ39_split_2 16 rfl rfl)
theorem dJ39_split_65 : decode cJ39_split 65 = .ok (.ifnonnull 10, 3) := dk_199 0 10 (dk_at dksJ39_split_2 19 rfl rfl)
theorem dJ39_split_68 : decode cJ39_split 68 = .ok (.aload 12, 2) := dk_25 12 (dk_at dksJ39_split_2 22 rfl rfl)
theorem dJ39_split_70 : decode cJ39_split 70 = .ok (.astore 6, 2) := dk_58 6 (dk_at dksJ39_split_3 0 rfl rfl)
theorem dJ39_split_72 : decode cJ39_split 72 = .ok (.goto 10, 3) := dk_167 0 10 (dk_at dksJ39_split_3 2 rfl rfl)
theorem dJ39_split_75 : decode cJ39_split 75 = .ok (.aload 7, 2) := dk_25 7 (dk_at dksJ39_split_3 5 rfl rfl)
theorem dJ39_split_77 : decode cJ39_split 77 = .ok (.aload 12, 2) := dk_25 12 (dk_at dksJ39_split_3 7 rfl rfl)
theorem dJ39_split_79 : decode cJ39_split 79 = .ok (.putfield 22, 3) := dk_181 0 22 (dk_at dksJ39_split_3 9 rfl rfl)
theorem dJ39_split_82 : decode cJ39_split 82 = .ok (.aload 12, 2) := dk_25 12 (dk_at dksJ39_split_3 12 rfl rfl)
theorem dJ39_split_84 : decode cJ39_split 84 = .ok (.astore 7, 2) := dk_58 7 (dk_at dksJ39_split_3 14 rfl rfl)
theorem dJ39_split_86 : decode cJ39_split 86 = .ok (.iinc 10 1, 3) := dk_132 10 1 (dk_at dksJ39_split_3 16 rfl rfl)
theorem dJ39_split_89 : decode cJ39_split 89 = .ok (.goto 35, 3) := dk_167 0 35 (dk_at dksJ39_split_3 19 rfl rfl)
theorem dJ39_split_92 : decode cJ39_split 92 = .ok (.aload 12, 2) := dk_25 12 (dk_at dksJ39_split_3 22 rfl rfl)
theorem dJ39_split_94 : decode cJ39_split 94 = .ok (.aload 9, 2) := dk_25 9 (dk_at dksJ39_split_4 0 rfl rfl)
theorem dJ39_split_96 : decode cJ39_split 96 = .ok (.dup_x1, 1) := dk_90 (dk_at dksJ39_split_4 2 rfl rfl)
theorem dJ39_split_97 : decode cJ39_split 97 = .ok (.putfield 19, 3) := dk_181 0 19 (dk_at dksJ39_split_4 3 rfl rfl)
theorem dJ39_split_100 : decode cJ39_split 100 = .ok (.ifnonnull 10, 3) := dk_199 0 10 (dk_at dksJ39_split_4 6 rfl rfl)
theorem dJ39_split_103 : decode cJ39_split 103 = .ok (.aload 12, 2) := dk_25 12 (dk_at dksJ39_split_4 9 rfl rfl)
theorem dJ39_split_105 : decode cJ39_split 105 = .ok (.astore 8, 2) := dk_58 8 (dk_at dksJ39_split_4 11 rfl rfl)
theorem dJ39_split_107 : decode cJ39_split 107 = .ok (.goto 10, 3) := dk_167 0 10 (dk_at dksJ39_split_4 13 rfl rfl)
theorem dJ39_split_110 : decode cJ39_split 110 = .ok (.aload 9, 2) := dk_25 9 (dk_at dksJ39_split_4 16 rfl rfl)
theorem dJ39_split_112 : decode cJ39_split 112 = .ok (.aload 12, 2) := dk_25 12 (dk_at dksJ39_split_4 18 rfl rfl)
theorem dJ39_split_114 : decode cJ39_split 114 = .ok (.putfield 22, 3) := dk_181 0 22 (dk_at dksJ39_split_4 20 rfl rfl)
theorem dJ39_split_117 : decode cJ39_split 117 = .ok (.aload 12, 2) := dk_25 12 (dk_at dksJ39_split_5 0 rfl rfl)
theorem dJ39_split_119 : decode cJ39_split 119 = .ok (.astore 9, 2) := dk_58 9 (dk_at dksJ39_split_5 2 rfl rfl)
theorem dJ39_split_121 : decode cJ39_split 121 = .ok (.iinc 11 1, 3) := dk_132 11 1 (dk_at dksJ39_split_5 4 rfl rfl)
theorem dJ39_split_124 : decode cJ39_split 124 = .ok (.aload 13, 2) := dk_25 13 (dk_at dksJ39_split_5 7 rfl rfl)
theorem dJ39_split_126 : decode cJ39_split 126 = .ok (.astore 12, 2) := dk_58 12 (dk_at dksJ39_split_5 9 rfl rfl)
theorem dJ39_split_128 : decode cJ39_split 128 = .ok (.goto (-103), 3) := dk_167 255 153 (dk_at dksJ39_split_5 11 rfl rfl)
theorem dJ39_split_131 : decode cJ39_split 131 = .ok (.aload 6, 2) := dk_25 6 (dk_at dksJ39_split_5 14 rfl rfl)
theorem dJ39_split_133 : decode cJ39_split 133 = .ok (.ifnull 38, 3) := dk_198 0 38 (dk_at dksJ39_split_5 16 rfl rfl)
theorem dJ39_split_136 : decode cJ39_split 136 = .ok (.iload 10, 2) := dk_21 10 (dk_at dksJ39_split_5 19 rfl rfl)
theorem dJ39_split_138 : decode cJ39_split 138 = .ok (.bipush 6, 2) := dk_16 6 (dk_at dksJ39_split_5 21 rfl rfl)
theorem dJ39_split_140 : decode cJ39_split 140 = .ok (.if_icmp .gt 15, 3) := dk_163 0 15 (dk_at dksJ39_split_6 0 rfl rfl)
theorem dJ39_split_143 : decode cJ39_split 143 = .ok (.aload_n 2, 1) := dk_44 (dk_at dksJ39_split_6 3 rfl rfl)
theorem dJ39_split_144 : decode cJ39_split 144 = .ok (.iload_n 3, 1) := dk_29 (dk_at dksJ39_split_6 4 rfl rfl)
theorem dJ39_split_145 : decode cJ39_split 145 = .ok (.aload 6, 2) := dk_25 6 (dk_at dksJ39_split_6 5 rfl rfl)
theorem dJ39_split_147 : decode cJ39_split 147 = .ok (.aload_n 1, 1) := dk_43 (dk_at dksJ39_split_6 7 rfl rfl)
theorem dJ39_split_148 : decode cJ39_split 148 = .ok (.invokevirtual 119, 3) := dk_182 0 119 (dk_at dksJ39_split_6 8 rfl rfl)
theorem dJ39_split_151 : decode cJ39_split 151 = .ok (.aastore, 1) := dk_83 (dk_at dksJ39_split_6 11 rfl rfl)
theorem dJ39_split_152 : decode cJ39_split 152 = .ok (.goto 19, 3) := dk_167 0 19 (dk_at dksJ39_split_6 12 rfl rfl)
theorem dJ39_split_155 : decode cJ39_split 155 = .ok (.aload_n 2, 1) := dk_44 (dk_at dksJ39_split_6 15 rfl rfl)
theorem dJ39_split_156 : decode cJ39_split 156 = .ok (.iload_n 3, 1) := dk_29 (dk_at dksJ39_split_6 16 rfl rfl)
theorem dJ39_split_157 : decode cJ39_split 157 = .ok (.aload 6, 2) := dk_25 6 (dk_at dksJ39_split_6 17 rfl rfl)
theorem dJ39_split_159 : decode cJ39_split 159 = .ok (.aastore, 1) := dk_83 (dk_at dksJ39_split_6 19 rfl rfl)
theorem dJ39_split_160 : decode cJ39_split 160 = .ok (.aload 8, 2) := dk_25 8 (dk_at dksJ39_split_6 20 rfl rfl)
theorem dJ39_split_162 : decode cJ39_split 162 = .ok (.ifnull 9, 3) := dk_198 0 9 (dk_at dksJ39_split_7 0 rfl rfl)
theorem dJ39_split_165 : decode cJ39_split 165 = .ok (.aload 6, 2) := dk_25 6 (dk_at dksJ39_split_7 3 rfl rfl)
theorem dJ39_split_167 : decode cJ39_split 167 = .ok (.aload_n 2, 1) := dk_44 (dk_at dksJ39_split_7 5 rfl rfl)
theorem dJ39_split_168 : decode cJ39_split 168 = .ok (.invokevirtual 126, 3) := dk_182 0 126 (dk_at dksJ39_split_7 6 rfl rfl)
theorem dJ39_split_171 : decode cJ39_split 171 = .ok (.aload 8, 2) := dk_25 8 (dk_at dksJ39_split_7 9 rfl rfl)
theorem dJ39_split_173 : decode cJ39_split 173 = .ok (.ifnull 44, 3) := dk_198 0 44 (dk_at dksJ39_split_7 11 rfl rfl)
theorem dJ39_split_176 : decode cJ39_split 176 = .ok (.iload 11, 2) := dk_21 11 (dk_at dksJ39_split_7 14 rfl rfl)
theorem dJ39_split_178 : decode cJ39_split 178 = .ok (.bipush 6, 2) := dk_16 6 (dk_at dksJ39_split_7 16 rfl rfl)
theorem dJ39_split_180 : decode cJ39_split 180 = .ok (.if_icmp .gt 18, 3) := dk_163 0 18 (dk_at dksJ39_split_7 18 rfl rfl)
theorem dJ39_split_183 : decode cJ39_split 183 = .ok (.aload_n 2, 1) := dk_44 (dk_at dksJ39_split_7 21 rfl rfl)
theorem dJ39_split_184 : decode cJ39_split 184 = .ok (.iload_n 3, 1) := dk_29 (dk_at dksJ39_split_7 22 rfl rfl)
theorem dJ39_split_185 : decode cJ39_split 185 = .ok (.iload 4, 2) := dk_21 4 (dk_at dksJ39_split_8 0 rfl rfl)
theorem dJ39_split_187 : decode cJ39_split 187 = .ok (.iadd, 1) := dk_96 (dk_at dksJ39_split_8 2 rfl rfl)
theorem dJ39_split_188 : decode cJ39_split 188 = .ok (.aload 8, 2) := dk_25 8 (dk_at dksJ39_split_8 3 rfl rfl)
theorem dJ39_split_190 : decode cJ39_split 190 = .ok (.aload_n 1, 1) := dk_43 (dk_at dksJ39_split_8 5 rfl rfl)
theorem dJ39_split_191 : decode cJ39_split 191 = .ok (.invokevirtual 119, 3) := dk_182 0 119 (dk_at dksJ39_split_8 6 rfl rfl)
theorem dJ39_split_194 : decode cJ39_split 194 = .ok (.aastore, 1) := dk_83 (dk_at dksJ39_split_8 9 rfl rfl)
theorem dJ39_split_195 : decode cJ39_split 195 = .ok (.goto 22, 3) := dk_167 0 22 (dk_at dksJ39_split_8 10 rfl rfl)
theorem dJ39_split_198 : decode cJ39_split 198 = .ok (.aload_n 2, 1) := dk_44 (dk_at dksJ39_split_8 13 rfl rfl)
theorem dJ39_split_199 : decode cJ39_split 199 = .ok (.iload_n 3, 1) := dk_29 (dk_at dksJ39_split_8 14 rfl rfl)
theorem dJ39_split_200 : decode cJ39_split 200 = .ok (.iload 4, 2) := dk_21 4 (dk_at dksJ39_split_8 15 rfl rfl)
theorem dJ39_split_202 : decode cJ39_split 202 = .ok (.iadd, 1) := dk_96 (dk_at dksJ39_split_8 17 rfl rfl)
theorem dJ39_split_203 : decode cJ39_split 203 = .ok (.aload 8, 2) := dk_25 8 (dk_at dksJ39_split_8 18 rfl rfl)
theorem dJ39_split_205 : decode cJ39_split 205 = .ok (.aastore, 1) := dk_83 (dk_at dksJ39_split_8 20 rfl rfl)
theorem dJ39_split_206 : decode cJ39_split 206 = .ok (.aload 6, 2) := dk_25 6 (dk_at dksJ39_split_8 21 rfl rfl)
theorem dJ39_split_208 : decode cJ39_split 208 = .ok (.ifnull 9, 3) := dk_198 0 9 (dk_at dksJ39_split_9 0 rfl rfl)
theorem dJ39_split_211 : decode cJ39_split 211 = .ok (.aload 8, 2) := dk_25 8 (dk_at dksJ39_split_9 3 rfl rfl)
theorem dJ39_split_213 : decode cJ39_split 213 = .ok (.aload_n 2, 1) := dk_44 (dk_at dksJ39_split_9 5 rfl rfl)
theorem dJ39_split_214 : decode cJ39_split 214 = .ok (.invokevirtual 126, 3) := dk_182 0 126 (dk_at dksJ39_split_9 6 rfl rfl)
theorem dJ39_split_217 : decode cJ39_split 217 = .ok (.return_, 1) := dk_177 (dk_at dksJ39_split_9 9 rfl rfl)
abbrev cJ39_untreeify : ByteArray := prog_74_method_8_code
def yJ39_untreeify : MethodName := ⟨RJ39, "untreeify", "(Ljava/util/HashMap;)Ljava/util/HashMap$Node;"⟩
def dkwJ39_untreeify_2 : List UInt8 := [58, 4, 167, 255, 216, 44, 176]
abbrev dktJ39_untreeify_2 : List UInt8 := dkwJ39_untreeify_2 ++ []
def dkwJ39_untreeify_1 : List UInt8 := [199, 0, 9, 25, 5, 77, 167, 0, 9, 45, 25, 5, 181, 0, 112, 25, 5, 78, 25, 4, 180, 0, 112]
abbrev dktJ39_untreeify_1 : List UInt8 := dkwJ39_untreeify_1 ++ dktJ39_untreeify_2
def dkwJ39_untreeify_0 : List UInt8 := [1, 77, 1, 78, 42, 58, 4, 25, 4, 198, 0, 41, 43, 25, 4, 1, 182, 0, 108, 58, 5, 45]
abbrev dktJ39_untreeify_0 : List UInt8 := dkwJ39_untreeify_0 ++ dktJ39_untreeify_1
theorem dksJ39_untreeify_0 : cJ39_untreeify.data.toList.drop 0 = dktJ39_untreeify_0 := by decide +kernel
theorem dksJ39_untreeify_1 : cJ39_untreeify.data.toList.drop 22 = dktJ39_untreeify_1 := dk_seg dksJ39_untreeify_0 22 rfl rfl
theorem dksJ39_untreeify_2 : cJ39_untreeify.data.toList.drop 45 = dktJ39_untreeify_2 := dk_seg dksJ39_untreeify_1 23 rfl rfl
theorem dJ39_untreeify_0 : decode cJ39_untreeify 0 = .ok (.aconst_null, 1) := dk_1 (dk_at dksJ39_untreeify_0 0 rfl rfl)
theorem dJ39_untreeify_1 : decode cJ39_untreeify 1 = .ok (.astore_n 2, 1) := dk_77 (dk_at dksJ39_untreeify_0 1 rfl rfl)
theorem dJ39_untreeify_2 : decode cJ39_untreeify 2 = .ok (.aconst_null, 1) := dk_1 (dk_at dksJ39_untreeify_0 2 rfl rfl)
theorem dJ39_untreeify_3 : decode cJ39_untreeify 3 = .ok (.astore_n 3, 1) := dk_78 (dk_at dksJ39_untreeify_0 3 rfl rfl)
theorem dJ39_untreeify_4 : decode cJ39_untreeify 4 = .ok (.aload_n 0, 1) := dk_42 (dk_at dksJ39_untreeify_0 4 rfl rfl)
theorem dJ39_untreeify_5 : decode cJ39_untreeify 5 = .ok (.astore 4, 2) := dk_58 4 (dk_at dksJ39_untreeify_0 5 rfl rfl)
theorem dJ39_untreeify_7 : decode cJ39_untreeify 7 = .ok (.aload 4, 2) := dk_25 4 (dk_at dksJ39_untreeify_0 7 rfl rfl)
theorem dJ39_untreeify_9 : decode cJ39_untreeify 9 = .ok (.ifnull 41, 3) := dk_198 0 41 (dk_at dksJ39_untreeify_0 9 rfl rfl)
theorem dJ39_untreeify_12 : decode cJ39_untreeify 12 = .ok (.aload_n 1, 1) := dk_43 (dk_at dksJ39_untreeify_0 12 rfl rfl)
theorem dJ39_untreeify_13 : decode cJ39_untreeify 13 = .ok (.aload 4, 2) := dk_25 4 (dk_at dksJ39_untreeify_0 13 rfl rfl)
theorem dJ39_untreeify_15 : decode cJ39_untreeify 15 = .ok (.aconst_null, 1) := dk_1 (dk_at dksJ39_untreeify_0 15 rfl rfl)
theorem dJ39_untreeify_16 : decode cJ39_untreeify 16 = .ok (.invokevirtual 108, 3) := dk_182 0 108 (dk_at dksJ39_untreeify_0 16 rfl rfl)
theorem dJ39_untreeify_19 : decode cJ39_untreeify 19 = .ok (.astore 5, 2) := dk_58 5 (dk_at dksJ39_untreeify_0 19 rfl rfl)
theorem dJ39_untreeify_21 : decode cJ39_untreeify 21 = .ok (.aload_n 3, 1) := dk_45 (dk_at dksJ39_untreeify_0 21 rfl rfl)
theorem dJ39_untreeify_22 : decode cJ39_untreeify 22 = .ok (.ifnonnull 9, 3) := dk_199 0 9 (dk_at dksJ39_untreeify_1 0 rfl rfl)
theorem dJ39_untreeify_25 : decode cJ39_untreeify 25 = .ok (.aload 5, 2) := dk_25 5 (dk_at dksJ39_untreeify_1 3 rfl rfl)
theorem dJ39_untreeify_27 : decode cJ39_untreeify 27 = .ok (.astore_n 2, 1) := dk_77 (dk_at dksJ39_untreeify_1 5 rfl rfl)
theorem dJ39_untreeify_28 : decode cJ39_untreeify 28 = .ok (.goto 9, 3) := dk_167 0 9 (dk_at dksJ39_untreeify_1 6 rfl rfl)
theorem dJ39_untreeify_31 : decode cJ39_untreeify 31 = .ok (.aload_n 3, 1) := dk_45 (dk_at dksJ39_untreeify_1 9 rfl rfl)
theorem dJ39_untreeify_32 : decode cJ39_untreeify 32 = .ok (.aload 5, 2) := dk_25 5 (dk_at dksJ39_untreeify_1 10 rfl rfl)
theorem dJ39_untreeify_34 : decode cJ39_untreeify 34 = .ok (.putfield 112, 3) := dk_181 0 112 (dk_at dksJ39_untreeify_1 12 rfl rfl)
theorem dJ39_untreeify_37 : decode cJ39_untreeify 37 = .ok (.aload 5, 2) := dk_25 5 (dk_at dksJ39_untreeify_1 15 rfl rfl)
theorem dJ39_untreeify_39 : decode cJ39_untreeify 39 = .ok (.astore_n 3, 1) := dk_78 (dk_at dksJ39_untreeify_1 17 rfl rfl)
theorem dJ39_untreeify_40 : decode cJ39_untreeify 40 = .ok (.aload 4, 2) := dk_25 4 (dk_at dksJ39_untreeify_1 18 rfl rfl)
theorem dJ39_untreeify_42 : decode cJ39_untreeify 42 = .ok (.getfield 112, 3) := dk_180 0 112 (dk_at dksJ39_untreeify_1 20 rfl rfl)
theorem dJ39_untreeify_45 : decode cJ39_untreeify 45 = .ok (.astore 4, 2) := dk_58 4 (dk_at dksJ39_untreeify_2 0 rfl rfl)
theorem dJ39_untreeify_47 : decode cJ39_untreeify 47 = .ok (.goto (-40), 3) := dk_167 255 216 (dk_at dksJ39_untreeify_2 2 rfl rfl)
theorem dJ39_untreeify_50 : decode cJ39_untreeify 50 = .ok (.aload_n 2, 1) := dk_44 (dk_at dksJ39_untreeify_2 5 rfl rfl)
theorem dJ39_untreeify_51 : decode cJ39_untreeify 51 = .ok (.areturn, 1) := dk_176 (dk_at dksJ39_untreeify_2 6 rfl rfl)
abbrev cJ39_treeify : ByteArray := prog_74_method_7_code
def yJ39_treeify : MethodName := ⟨RJ39, "treeify", "([Ljava/util/HashMap$Node;)V"⟩
def dkwJ39_treeify_9 : List UInt8 := [25, 4, 78, 167, 255, 48, 43, 44, 184, 0, 104, 177]
abbrev dktJ39_treeify_9 : List UInt8 := dkwJ39_treeify_9 ++ []
def dkwJ39_treeify_8 : List UInt8 := [181, 0, 39, 167, 0, 9, 25, 12, 45, 181, 0, 42, 44, 45, 184, 0, 100, 77, 167, 0, 6, 167, 255, 114]
abbrev dktJ39_treeify_8 : List UInt8 := dkwJ39_treeify_8 ++ dktJ39_treeify_9
def dkwJ39_treeify_7 : List UInt8 := [180, 0, 42, 89, 58, 8, 199, 0, 38, 45, 25, 12, 181, 0, 9, 21, 9, 157, 0, 12, 25, 12, 45]
abbrev dktJ39_treeify_7 : List UInt8 := dkwJ39_treeify_7 ++ dktJ39_treeify_8
def dkwJ39_treeify_6 : List UInt8 := [184, 0, 96, 54, 9, 25, 8, 58, 12, 21, 9, 157, 0, 11, 25, 8, 180, 0, 39, 167, 0, 8, 25, 8]
abbrev dktJ39_treeify_6 : List UInt8 := dkwJ39_treeify_6 ++ dktJ39_treeify_7
def dkwJ39_treeify_5 : List UInt8 := [198, 0, 18, 25, 7, 25, 5, 25, 11, 184, 0, 59, 89, 54, 9, 154, 0, 12, 25, 5, 25, 11]
abbrev dktJ39_treeify_5 : List UInt8 := dkwJ39_treeify_5 ++ dktJ39_treeify_6
def dkwJ39_treeify_4 : List UInt8 := [162, 0, 9, 4, 54, 9, 167, 0, 43, 25, 7, 199, 0, 14, 25, 5, 184, 0, 55, 89, 58, 7]
abbrev dktJ39_treeify_4 : List UInt8 := dkwJ39_treeify_4 ++ dktJ39_treeify_5
def dkwJ39_treeify_3 : List UInt8 := [25, 8, 180, 0, 15, 89, 54, 10, 21, 6, 164, 0, 9, 2, 54, 9, 167, 0, 56, 21, 10, 21, 6]
abbrev dktJ39_treeify_3 : List UInt8 := dkwJ39_treeify_3 ++ dktJ39_treeify_4
def dkwJ39_treeify_2 : List UInt8 := [180, 0, 45, 58, 5, 45, 180, 0, 15, 54, 6, 1, 58, 7, 44, 58, 8, 25, 8, 180, 0, 45, 58, 11]
abbrev dktJ39_treeify_2 : List UInt8 := dkwJ39_treeify_2 ++ dktJ39_treeify_3
def dkwJ39_treeify_1 : List UInt8 := [181, 0, 39, 44, 199, 0, 18, 45, 1, 181, 0, 9, 45, 3, 181, 0, 93, 45, 77, 167, 0, 166, 45]
abbrev dktJ39_treeify_1 : List UInt8 := dkwJ39_treeify_1 ++ dktJ39_treeify_2
def dkwJ39_treeify_0 : List UInt8 := [1, 77, 42, 78, 45, 198, 0, 210, 45, 180, 0, 22, 192, 0, 10, 58, 4, 45, 45, 1, 90, 181, 0, 42]
abbrev dktJ39_treeify_0 : List UInt8 := dkwJ39_treeify_0 ++ dktJ39_treeify_1
theorem dksJ39_treeify_0 : cJ39_treeify.data.toList.drop 0 = dktJ39_treeify_0 := by decide +kernel
theorem dksJ39_treeify_1 : cJ39_treeify.data.toList.drop 24 = dktJ39_treeify_1 := dk_seg dksJ39_treeify_0 24 rfl rfl
theorem dksJ39_treeify_2 : cJ39_treeify.data.toList.drop 47 = dktJ39_treeify_2 := dk_seg dksJ39_treeify_1 23 rfl rfl
theorem dksJ39_treeify_3 : cJ39_treeify.data.toList.drop 71 = dktJ39_treeify_3 := dk_seg dksJ39_treeify_2 24 rfl rfl
theorem dksJ39_treeify_4 : cJ39_treeify.data.toList.drop 94 = dktJ39_treeify_4 := dk_seg dksJ39_treeify_3 23 rfl rfl
theorem dksJ39_treeify_5 : cJ39_treeify.data.toList.drop 116 = dktJ39_treeify_5 := dk_seg dksJ39_treeify_4 22 rfl rfl
theorem dksJ39_treeify_6 : cJ39_treeify.data.toList.drop 138 = dktJ39_treeify_6 := dk_seg dksJ39_treeify_5 22 rfl rfl
theorem dksJ39_treeify_7 : cJ39_treeify.data.toList.drop 162 = dktJ39_treeify_7 := dk_seg dksJ39_treeify_6 24 rfl rfl
theorem dksJ39_treeify_8 : cJ39_treeify.data.toList.drop 185 = dktJ39_treeify_8 := dk_seg dksJ39_treeify_7 23 rfl rfl
theorem dksJ39_treeify_9 : cJ39_treeify.data.toList.drop 209 = dktJ39_treeify_9 := dk_seg dksJ39_treeify_8 24 rfl rfl
theorem dJ39_treeify_0 : decode cJ39_treeify 0 = .ok (.aconst_null, 1) := dk_1 (dk_at dksJ39_treeify_0 0 rfl rfl)
theorem dJ39_treeify_1 : decode cJ39_treeify 1 = .ok (.astore_n 2, 1) := dk_77 (dk_at dksJ39_treeify_0 1 rfl rfl)
theorem dJ39_treeify_2 : decode cJ39_treeify 2 = .ok (.aload_n 0, 1) := dk_42 (dk_at dksJ39_treeify_0 2 rfl rfl)
theorem dJ39_treeify_3 : decode cJ39_treeify 3 = .ok (.astore_n 3, 1) := dk_78 (dk_at dksJ39_treeify_0 3 rfl rfl)
theorem dJ39_treeify_4 : decode cJ39_treeify 4 = .ok (.aload_n 3, 1) := dk_45 (dk_at dksJ39_treeify_0 4 rfl rfl)
theorem dJ39_treeify_5 : decode cJ39_treeify 5 = .ok (.ifnull 210, 3) := dk_198 0 210 (dk_at dksJ39_treeify_0 5 rfl rfl)
theorem dJ39_treeify_8 : decode cJ39_treeify 8 = .ok (.aload_n 3, 1) := dk_45 (dk_at dksJ39_treeify_0 8 rfl rfl)
theorem dJ39_treeify_9 : decode cJ39_treeify 9 = .ok (.getfield 22, 3) := dk_180 0 22 (dk_at dksJ39_treeify_0 9 rfl rfl)
theorem dJ39_treeify_12 : decode cJ39_treeify 12 = .ok (.checkcast 10, 3) := dk_192 0 10 (dk_at dksJ39_treeify_0 12 rfl rfl)
theorem dJ39_treeify_15 : decode cJ39_treeify 15 = .ok (.astore 4, 2) := dk_58 4 (dk_at dksJ39_treeify_0 15 rfl rfl)
theorem dJ39_treeify_17 : decode cJ39_treeify 17 = .ok (.aload_n 3, 1) := dk_45 (dk_at dksJ39_treeify_0 17 rfl rfl)
theorem dJ39_treeify_18 : decode cJ39_treeify 18 = .ok (.aload_n 3, 1) := dk_45 (dk_at dksJ39_treeify_0 18 rfl rfl)
theorem dJ39_treeify_19 : decode cJ39_treeify 19 = .ok (.aconst_null, 1) := dk_1 (dk_at dksJ39_treeify_0 19 rfl rfl)
theorem dJ39_treeify_20 : decode cJ39_treeify 20 = .ok (.dup_x1, 1) := dk_90 (dk_at dksJ39_treeify_0 20 rfl rfl)
theorem dJ39_treeify_21 : decode cJ39_treeify 21 = .ok (.putfield 42, 3) := dk_181 0 42 (dk_at dksJ39_treeify_0 21 rfl rfl)
theorem dJ39_treeify_24 : decode cJ39_treeify 24 = .ok (.putfield 39, 3) := dk_181 0 39 (dk_at dksJ39_treeify_1 0 rfl rfl)
theorem dJ39_treeify_27 : decode cJ39_treeify 27 = .ok (.aload_n 2, 1) := dk_44 (dk_at dksJ39_treeify_1 3 rfl rfl)
theorem dJ39_treeify_28 : decode cJ39_treeify 28 = .ok (.ifnonnull 18, 3) := dk_199 0 18 (dk_at dksJ39_treeify_1 4 rfl rfl)
theorem dJ39_treeify_31 : decode cJ39_treeify 31 = .ok (.aload_n 3, 1) := dk_45 (dk_at dksJ39_treeify_1 7 rfl rfl)
theorem dJ39_treeify_32 : decode cJ39_treeify 32 = .ok (.aconst_null, 1) := dk_1 (dk_at dksJ39_treeify_1 8 rfl rfl)
theorem dJ39_treeify_33 : decode cJ39_treeify 33 = .ok (.putfield 9, 3) := dk_181 0 9 (dk_at dksJ39_treeify_1 9 rfl rfl)
theorem dJ39_treeify_36 : decode cJ39_treeify 36 = .ok (.aload_n 3, 1) := dk_45 (dk_at dksJ39_treeify_1 12 rfl rfl)
theorem dJ39_treeify_37 : decode cJ39_treeify 37 = .ok (.iconst 0, 1) := dk_3 (dk_at dksJ39_treeify_1 13 rfl rfl)
theorem dJ39_treeify_38 : decode cJ39_treeify 38 = .ok (.putfield 93, 3) := dk_181 0 93 (dk_at dksJ39_treeify_1 14 rfl rfl)
theorem dJ39_treeify_41 : decode cJ39_treeify 41 = .ok (.aload_n 3, 1) := dk_45 (dk_at dksJ39_treeify_1 17 rfl rfl)
theorem dJ39_treeify_42 : decode cJ39_treeify 42 = .ok (.astore_n 2, 1) := dk_77 (dk_at dksJ39_treeify_1 18 rfl rfl)
theorem dJ39_treeify_43 : decode cJ39_treeify 43 = .ok (.goto 166, 3) := dk_167 0 166 (dk_at dksJ39_treeify_1 19 rfl rfl)
theorem dJ39_treeify_46 : decode cJ39_treeify 46 = .ok (.aload_n 3, 1) := dk_45 (dk_at dksJ39_treeify_1 22 rfl rfl)
theorem dJ39_treeify_47 : decode cJ39_treeify 47 = .ok (.getfield 45, 3) := dk_180 0 45 (dk_at dksJ39_treeify_2 0 rfl rfl)
theorem dJ39_treeify_50 : decode cJ39_treeify 50 = .ok (.astore 5, 2) := dk_58 5 (dk_at dksJ39_treeify_2 3 rfl rfl)
theorem dJ39_treeify_52 : decode cJ39_treeify 52 = .ok (.aload_n 3, 1) := dk_45 (dk_at dksJ39_treeify_2 5 rfl rfl)
theorem dJ39_treeify_53 : decode cJ39_treeify 53 = .ok (.getfield 15, 3) := dk_180 0 15 (dk_at dksJ39_treeify_2 6 rfl rfl)
theorem dJ39_treeify_56 : decode cJ39_treeify 56 = .ok (.istore 6, 2) := dk_54 6 (dk_at dksJ39_treeify_2 9 rfl rfl)
theorem dJ39_treeify_58 : decode cJ39_treeify 58 = .ok (.aconst_null, 1) := dk_1 (dk_at dksJ39_treeify_2 11 rfl rfl)
theorem dJ39_treeify_59 : decode cJ39_treeify 59 = .ok (.astore 7, 2) := dk_58 7 (dk_at dksJ39_treeify_2 12 rfl rfl)
theorem dJ39_treeify_61 : decode cJ39_treeify 61 = .ok (.aload_n 2, 1) := dk_44 (dk_at dksJ39_treeify_2 14 rfl rfl)
theorem dJ39_treeify_62 : decode cJ39_treeify 62 = .ok (.astore 8, 2) := dk_58 8 (dk_at dksJ39_treeify_2 15 rfl rfl)
theorem dJ39_treeify_64 : decode cJ39_treeify 64 = .ok (.aload 8, 2) := dk_25 8 (dk_at dksJ39_treeify_2 17 rfl rfl)
theorem dJ39_treeify_66 : decode cJ39_treeify 66 = .ok (.getfield 45, 3) := dk_180 0 45 (dk_at dksJ39_treeify_2 19 rfl rfl)
theorem dJ39_treeify_69 : decode cJ39_treeify 69 = .ok (.astore 11, 2) := dk_58 11 (dk_at dksJ39_treeify_2 22 rfl rfl)
theorem dJ39_treeify_71 : decode cJ39_treeify 71 = .ok (.aload 8, 2) := dk_25 8 (dk_at dksJ39_treeify_3 0 rfl rfl)
theorem dJ39_treeify_73 : decode cJ39_treeify 73 = .ok (.getfield 15, 3) := dk_180 0 15 (dk_at dksJ39_treeify_3 2 rfl rfl)
theorem dJ39_treeify_76 : decode cJ39_treeify 76 = .ok (.dup, 1) := dk_89 (dk_at dksJ39_treeify_3 5 rfl rfl)
theorem dJ39_treeify_77 : decode cJ39_treeify 77 = .ok (.istore 10, 2) := dk_54 10 (dk_at dksJ39_treeify_3 6 rfl rfl)
theorem dJ39_treeify_79 : decode cJ39_treeify 79 = .ok (.iload 6, 2) := dk_21 6 (dk_at dksJ39_treeify_3 8 rfl rfl)
theorem dJ39_treeify_81 : decode cJ39_treeify 81 = .ok (.if_icmp .le 9, 3) := dk_164 0 9 (dk_at dksJ39_treeify_3 10 rfl rfl)
theorem dJ39_treeify_84 : decode cJ39_treeify 84 = .ok (.iconst (-1), 1) := dk_2 (dk_at dksJ39_treeify_3 13 rfl rfl)
theorem dJ39_treeify_85 : decode cJ39_treeify 85 = .ok (.istore 9, 2) := dk_54 9 (dk_at dksJ39_treeify_3 14 rfl rfl)
theorem dJ39_treeify_87 : decode cJ39_treeify 87 = .ok (.goto 56, 3) := dk_167 0 56 (dk_at dksJ39_treeify_3 16 rfl rfl)
theorem dJ39_treeify_90 : decode cJ39_treeify 90 = .ok (.iload 10, 2) := dk_21 10 (dk_at dksJ39_treeify_3 19 rfl rfl)
theorem dJ39_treeify_92 : decode cJ39_treeify 92 = .ok (.iload 6, 2) := dk_21 6 (dk_at dksJ39_treeify_3 21 rfl rfl)
theorem dJ39_treeify_94 : decode cJ39_treeify 94 = .ok (.if_icmp .ge 9, 3) := dk_162 0 9 (dk_at dksJ39_treeify_4 0 rfl rfl)
theorem dJ39_treeify_97 : decode cJ39_treeify 97 = .ok (.iconst 1, 1) := dk_4 (dk_at dksJ39_treeify_4 3 rfl rfl)
theorem dJ39_treeify_98 : decode cJ39_treeify 98 = .ok (.istore 9, 2) := dk_54 9 (dk_at dksJ39_treeify_4 4 rfl rfl)
theorem dJ39_treeify_100 : decode cJ39_treeify 100 = .ok (.goto 43, 3) := dk_167 0 43 (dk_at dksJ39_treeify_4 6 rfl rfl)
theorem dJ39_treeify_103 : decode cJ39_treeify 103 = .ok (.aload 7, 2) := dk_25 7 (dk_at dksJ39_treeify_4 9 rfl rfl)
theorem dJ39_treeify_105 : decode cJ39_treeify 105 = .ok (.ifnonnull 14, 3) := dk_199 0 14 (dk_at dksJ39_treeify_4 11 rfl rfl)
theorem dJ39_treeify_108 : decode cJ39_treeify 108 = .ok (.aload 5, 2) := dk_25 5 (dk_at dksJ39_treeify_4 14 rfl rfl)
theorem dJ39_treeify_110 : decode cJ39_treeify 110 = .ok (.invokestatic 55, 3) := dk_184 0 55 (dk_at dksJ39_treeify_4 16 rfl rfl)
theorem dJ39_treeify_113 : decode cJ39_treeify 113 = .ok (.dup, 1) := dk_89 (dk_at dksJ39_treeify_4 19 rfl rfl)
theorem dJ39_treeify_114 : decode cJ39_treeify 114 = .ok (.astore 7, 2) := dk_58 7 (dk_at dksJ39_treeify_4 20 rfl rfl)
theorem dJ39_treeify_116 : decode cJ39_treeify 116 = .ok (.ifnull 18, 3) := dk_198 0 18 (dk_at dksJ39_treeify_5 0 rfl rfl)
theorem dJ39_treeify_119 : decode cJ39_treeify 119 = .ok (.aload 7, 2) := dk_25 7 (dk_at dksJ39_treeify_5 3 rfl rfl)
theorem dJ39_treeify_121 : decode cJ39_treeify 121 = .ok (.aload 5, 2) := dk_25 5 (dk_at dksJ39_treeify_5 5 rfl rfl)
theorem dJ39_treeify_123 : decode cJ39_treeify 123 = .ok (.aload 11, 2) := dk_25 11 (dk_at dksJ39_treeify_5 7 rfl rfl)
theorem dJ39_treeify_125 : decode cJ39_treeify 125 = .ok (.invokestatic 59, 3) := dk_184 0 59 (dk_at dksJ39_treeify_5 9 rfl rfl)
theorem dJ39_treeify_128 : decode cJ39_treeify 128 = .ok (.dup, 1) := dk_89 (dk_at dksJ39_treeify_5 12 rfl rfl)
theorem dJ39_treeify_129 : decode cJ39_treeify 129 = .ok (.istore 9, 2) := dk_54 9 (dk_at dksJ39_treeify_5 13 rfl rfl)
theorem dJ39_treeify_131 : decode cJ39_treeify 131 = .ok (.ifCond .ne 12, 3) := dk_154 0 12 (dk_at dksJ39_treeify_5 15 rfl rfl)
theorem dJ39_treeify_134 : decode cJ39_treeify 134 = .ok (.aload 5, 2) := dk_25 5 (dk_at dksJ39_treeify_5 18 rfl rfl)
theorem dJ39_treeify_136 : decode cJ39_treeify 136 = .ok (.aload 11, 2) := dk_25 11 (dk_at dksJ39_treeify_5 20 rfl rfl)
theorem dJ39_treeify_138 : decode cJ39_treeify 138 = .ok (.invokestatic 96, 3) := dk_184 0 96 (dk_at dksJ39_treeify_6 0 rfl rfl)
theorem dJ39_treeify_141 : decode cJ39_treeify 141 = .ok (.istore 9, 2) := dk_54 9 (dk_at dksJ39_treeify_6 3 rfl rfl)
theorem dJ39_treeify_143 : decode cJ39_treeify 143 = .ok (.aload 8, 2) := dk_25 8 (dk_at dksJ39_treeify_6 5 rfl rfl)
theorem dJ39_treeify_145 : decode cJ39_treeify 145 = .ok (.astore 12, 2) := dk_58 12 (dk_at dksJ39_treeify_6 7 rfl rfl)
theorem dJ39_treeify_147 : decode cJ39_treeify 147 = .ok (.iload 9, 2) := dk_21 9 (dk_at dksJ39_treeify_6 9 rfl rfl)
theorem dJ39_treeify_149 : decode cJ39_treeify 149 = .ok (.ifCond .gt 11, 3) := dk_157 0 11 (dk_at dksJ39_treeify_6 11 rfl rfl)
theorem dJ39_treeify_152 : decode cJ39_treeify 152 = .ok (.aload 8, 2) := dk_25 8 (dk_at dksJ39_treeify_6 14 rfl rfl)
theorem dJ39_treeify_154 : decode cJ39_treeify 154 = .ok (.getfield 39, 3) := dk_180 0 39 (dk_at dksJ39_treeify_6 16 rfl rfl)
theorem dJ39_treeify_157 : decode cJ39_treeify 157 = .ok (.goto 8, 3) := dk_167 0 8 (dk_at dksJ39_treeify_6 19 rfl rfl)
theorem dJ39_treeify_160 : decode cJ39_treeify 160 = .ok (.aload 8, 2) := dk_25 8 (dk_at dksJ39_treeify_6 22 rfl rfl)
theorem dJ39_treeify_162 : decode cJ39_treeify 162 = .ok (.getfield 42, 3) := dk_180 0 42 (dk_at dksJ39_treeify_7 0 rfl rfl)
theorem dJ39_treeify_165 : decode cJ39_treeify 165 = .ok (.dup, 1) := dk_89 (dk_at dksJ39_treeify_7 3 rfl rfl)
theorem dJ39_treeify_166 : decode cJ39_treeify 166 = .ok (.astore 8, 2) := dk_58 8 (dk_at dksJ39_treeify_7 4 rfl rfl)
theorem dJ39_treeify_168 : decode cJ39_treeify 168 = .ok (.ifnonnull 38, 3) := dk_199 0 38 (dk_at dksJ39_treeify_7 6 rfl rfl)
theorem dJ39_treeify_171 : decode cJ39_treeify 171 = .ok (.aload_n 3, 1) := dk_45 (dk_at dksJ39_treeify_7 9 rfl rfl)
theorem dJ39_treeify_172 : decode cJ39_treeify 172 = .ok (.aload 12, 2) := dk_25 12 (dk_at dksJ39_treeify_7 10 rfl rfl)
theorem dJ39_treeify_174 : decode cJ39_treeify 174 = .ok (.putfield 9, 3) := dk_181 0 9 (dk_at dksJ39_treeify_7 12 rfl rfl)
theorem dJ39_treeify_177 : decode cJ39_treeify 177 = .ok (.iload 9, 2) := dk_21 9 (dk_at dksJ39_treeify_7 15 rfl rfl)
theorem dJ39_treeify_179 : decode cJ39_treeify 179 = .ok (.ifCond .gt 12, 3) := dk_157 0 12 (dk_at dksJ39_treeify_7 17 rfl rfl)
theorem dJ39_treeify_182 : decode cJ39_treeify 182 = .ok (.aload 12, 2) := dk_25 12 (dk_at dksJ39_treeify_7 20 rfl rfl)
theorem dJ39_treeify_184 : decode cJ39_treeify 184 = .ok (.aload_n 3, 1) := dk_45 (dk_at dksJ39_treeify_7 22 rfl rfl)
theorem dJ39_treeify_185 : decode cJ39_treeify 185 = .ok (.putfield 39, 3) := dk_181 0 39 (dk_at dksJ39_treeify_8 0 rfl rfl)
theorem dJ39_treeify_188 : decode cJ39_treeify 188 = .ok (.goto 9, 3) := dk_167 0 9 (dk_at dksJ39_treeify_8 3 rfl rfl)
theorem dJ39_treeify_191 : decode cJ39_treeify 191 = .ok (.aload 12, 2) := dk_25 12 (dk_at dksJ39_treeify_8 6 rfl rfl)
theorem dJ39_treeify_193 : decode cJ39_treeify 193 = .ok (.aload_n 3, 1) := dk_45 (dk_at dksJ39_treeify_8 8 rfl rfl)
theorem dJ39_treeify_194 : decode cJ39_treeify 194 = .ok (.putfield 42, 3) := dk_181 0 42 (dk_at dksJ39_treeify_8 9 rfl rfl)
theorem dJ39_treeify_197 : decode cJ39_treeify 197 = .ok (.aload_n 2, 1) := dk_44 (dk_at dksJ39_treeify_8 12 rfl rfl)
theorem dJ39_treeify_198 : decode cJ39_treeify 198 = .ok (.aload_n 3, 1) := dk_45 (dk_at dksJ39_treeify_8 13 rfl rfl)
theorem dJ39_treeify_199 : decode cJ39_treeify 199 = .ok (.invokestatic 100, 3) := dk_184 0 100 (dk_at dksJ39_treeify_8 14 rfl rfl)
theorem dJ39_treeify_202 : decode cJ39_treeify 202 = .ok (.astore_n 2, 1) := dk_77 (dk_at dksJ39_treeify_8 17 rfl rfl)
theorem dJ39_treeify_203 : decode cJ39_treeify 203 = .ok (.goto 6, 3) := dk_167 0 6 (dk_at dksJ39_treeify_8 18 rfl rfl)
theorem dJ39_treeify_206 : decode cJ39_treeify 206 = .ok (.goto (-142), 3) := dk_167 255 114 (dk_at dksJ39_treeify_8 21 rfl rfl)
theorem dJ39_treeify_209 : decode cJ39_treeify 209 = .ok (.aload 4, 2) := dk_25 4 (dk_at dksJ39_treeify_9 0 rfl rfl)
theorem dJ39_treeify_211 : decode cJ39_treeify 211 = .ok (.astore_n 3, 1) := dk_78 (dk_at dksJ39_treeify_9 2 rfl rfl)
theorem dJ39_treeify_212 : decode cJ39_treeify 212 = .ok (.goto (-208), 3) := dk_167 255 48 (dk_at dksJ39_treeify_9 3 rfl rfl)
theorem dJ39_treeify_215 : decode cJ39_treeify 215 = .ok (.aload_n 1, 1) := dk_43 (dk_at dksJ39_treeify_9 6 rfl rfl)
theorem dJ39_treeify_216 : decode cJ39_treeify 216 = .ok (.aload_n 2, 1) := dk_44 (dk_at dksJ39_treeify_9 7 rfl rfl)
theorem dJ39_treeify_217 : decode cJ39_treeify 217 = .ok (.invokestatic 104, 3) := dk_184 0 104 (dk_at dksJ39_treeify_9 8 rfl rfl)
theorem dJ39_treeify_220 : decode cJ39_treeify 220 = .ok (.return_, 1) := dk_177 (dk_at dksJ39_treeify_9 11 rfl rfl)
abbrev cJ39_balanceInsertion : ByteArray := prog_74_method_14_code
def yJ39_balanceInsertion : MethodName := ⟨RJ39, "balanceInsertion", "(Ljava/util/HashMap$TreeNode;Ljava/util/HashMap$TreeNode;)Ljava/util/HashMap$TreeNode;"⟩
def dkwJ39_balanceInsertion_10 : List UInt8 := [198, 255, 33, 45, 4, 181, 0, 93, 42, 45, 184, 0, 130, 75, 167, 255, 19]
abbrev dktJ39_balanceInsertion_10 : List UInt8 := dkwJ39_balanceInsertion_10 ++ []
def dkwJ39_balanceInsertion_9 : List UInt8 := [199, 0, 7, 1, 167, 0, 7, 44, 180, 0, 9, 78, 44, 198, 255, 42, 44, 3, 181, 0, 93, 45]
abbrev dktJ39_balanceInsertion_9 : List UInt8 := dkwJ39_balanceInsertion_9 ++ dktJ39_balanceInsertion_10
def dkwJ39_balanceInsertion_8 : List UInt8 := [43, 44, 180, 0, 39, 166, 0, 29, 42, 44, 89, 76, 184, 0, 133, 75, 43, 180, 0, 9, 89, 77]
abbrev dktJ39_balanceInsertion_8 : List UInt8 := dkwJ39_balanceInsertion_8 ++ dktJ39_balanceInsertion_9
def dkwJ39_balanceInsertion_7 : List UInt8 := [153, 0, 24, 25, 4, 3, 181, 0, 93, 44, 3, 181, 0, 93, 45, 4, 181, 0, 93, 45, 76, 167, 255, 80]
abbrev dktJ39_balanceInsertion_7 : List UInt8 := dkwJ39_balanceInsertion_7 ++ dktJ39_balanceInsertion_8
def dkwJ39_balanceInsertion_6 : List UInt8 := [181, 0, 93, 42, 45, 184, 0, 133, 75, 167, 255, 114, 25, 4, 198, 0, 32, 25, 4, 180, 0, 93]
abbrev dktJ39_balanceInsertion_6 : List UInt8 := dkwJ39_balanceInsertion_6 ++ dktJ39_balanceInsertion_7
def dkwJ39_balanceInsertion_5 : List UInt8 := [167, 0, 7, 44, 180, 0, 9, 78, 44, 198, 255, 137, 44, 3, 181, 0, 93, 45, 198, 255, 128, 45, 4]
abbrev dktJ39_balanceInsertion_5 : List UInt8 := dkwJ39_balanceInsertion_5 ++ dktJ39_balanceInsertion_6
def dkwJ39_balanceInsertion_4 : List UInt8 := [180, 0, 42, 166, 0, 29, 42, 44, 89, 76, 184, 0, 130, 75, 43, 180, 0, 9, 89, 77, 199, 0, 7, 1]
abbrev dktJ39_balanceInsertion_4 : List UInt8 := dkwJ39_balanceInsertion_4 ++ dktJ39_balanceInsertion_5
def dkwJ39_balanceInsertion_3 : List UInt8 := [25, 5, 3, 181, 0, 93, 44, 3, 181, 0, 93, 45, 4, 181, 0, 93, 45, 76, 167, 255, 175, 43, 44]
abbrev dktJ39_balanceInsertion_3 : List UInt8 := dkwJ39_balanceInsertion_3 ++ dktJ39_balanceInsertion_4
def dkwJ39_balanceInsertion_2 : List UInt8 := [58, 4, 166, 0, 103, 45, 180, 0, 42, 89, 58, 5, 198, 0, 32, 25, 5, 180, 0, 93, 153, 0, 24]
abbrev dktJ39_balanceInsertion_2 : List UInt8 := dkwJ39_balanceInsertion_2 ++ dktJ39_balanceInsertion_3
def dkwJ39_balanceInsertion_1 : List UInt8 := [180, 0, 93, 153, 0, 12, 44, 180, 0, 9, 89, 78, 199, 0, 5, 42, 176, 44, 45, 180, 0, 39, 89]
abbrev dktJ39_balanceInsertion_1 : List UInt8 := dkwJ39_balanceInsertion_1 ++ dktJ39_balanceInsertion_2
def dkwJ39_balanceInsertion_0 : List UInt8 := [43, 4, 181, 0, 93, 43, 180, 0, 9, 89, 77, 199, 0, 10, 43, 3, 181, 0, 93, 43, 176, 44]
abbrev dktJ39_balanceInsertion_0 : List UInt8 := dkwJ39_balanceInsertion_0 ++ dktJ39_balanceInsertion_1
theorem dksJ39_balanceInsertion_0 : cJ39_balanceInsertion.data.toList.drop 0 = dktJ39_balanceInsertion_0 := by decide +kernel
theorem dksJ39_balanceInsertion_1 : cJ39_balanceInsertion.data.toList.drop 22 = dktJ39_balanceInsertion_1 := dk_seg dksJ39_balanceInsertion_0 22 rfl rfl
theorem dksJ39_balanceInsertion_2 : cJ39_balanceInsertion.data.toList.drop 45 = dktJ39_balanceInsertion_2 := dk_seg dksJ39_balanceInsertion_1 23 rfl rfl
theorem dksJ39_balanceInsertion_3 : cJ39_balanceInsertion.data.toList.drop 68 = dktJ39_balanceInsertion_3 := dk_seg dksJ39_balanceInsertion_2 23 rfl rfl
theorem dksJ39_balanceInsertion_4 : cJ39_balanceInsertion.data.toList.drop 91 = dktJ39_balanceInsertion_4 := dk_seg dksJ39_balanceInsertion_3 23 rfl rfl
theorem dksJ39_balanceInsertion_5 : cJ39_balanceInsertion.data.toList.drop 115 = dktJ39_balanceInsertion_5 := dk_seg dksJ39_balanceInsertion_4 24 rfl rfl
theorem dksJ39_balanceInsertion_6 : cJ39_balanceInsertion.data.toList.drop 138 = dktJ39_balanceInsertion_6 := dk_seg dksJ39_balanceInsertion_5 23 rfl rfl
theorem dksJ39_balanceInsertion_7 : cJ39_balanceInsertion.data.toList.drop 160 = dktJ39_balanceInsertion_7 := dk_seg dksJ39_balanceInsertion_6 22 rfl rfl
theorem dksJ39_balanceInsertion_8 : cJ39_balanceInsertion.data.toList.drop 184 = dktJ39_balanceInsertion_8 := dk_seg dksJ39_balanceInsertion_7 24 rfl rfl
theorem dksJ39_balanceInsertion_9 : cJ39_balanceInsertion.data.toList.drop 206 = dktJ39_balanceInsertion_9 := dk_seg dksJ39_balanceInsertion_8 22 rfl rfl
theorem dksJ39_balanceInsertion_10 : cJ39_balanceInsertion.data.toList.drop 228 = dktJ39_balanceInsertion_10 := dk_seg dksJ39_balanceInsertion_9 22 rfl rfl
theorem dJ39_balanceInsertion_0 : decode cJ39_balanceInsertion 0 = .ok (.aload_n 1, 1) := dk_43 (dk_at dksJ39_balanceInsertion_0 0 rfl rfl)
theorem dJ39_balanceInsertion_1 : decode cJ39_balanceInsertion 1 = .ok (.iconst 1, 1) := dk_4 (dk_at dksJ39_balanceInsertion_0 1 rfl rfl)
theorem dJ39_balanceInsertion_2 : decode cJ39_balanceInsertion 2 = .ok (.putfield 93, 3) := dk_181 0 93 (dk_at dksJ39_balanceInsertion_0 2 rfl rfl)
theorem dJ39_balanceInsertion_5 : decode cJ39_balanceInsertion 5 = .ok (.aload_n 1, 1) := dk_43 (dk_at dksJ39_balanceInsertion_0 5 rfl rfl)
theorem dJ39_balanceInsertion_6 : decode cJ39_balanceInsertion 6 = .ok (.getfield 9, 3) := dk_180 0 9 (dk_at dksJ39_balanceInsertion_0 6 rfl rfl)
theorem dJ39_balanceInsertion_9 : decode cJ39_balanceInsertion 9 = .ok (.dup, 1) := dk_89 (dk_at dksJ39_balanceInsertion_0 9 rfl rfl)
theorem dJ39_balanceInsertion_10 : decode cJ39_balanceInsertion 10 = .ok (.astore_n 2, 1) := dk_77 (dk_at dksJ39_balanceInsertion_0 10 rfl rfl)
theorem dJ39_balanceInsertion_11 : decode cJ39_balanceInsertion 11 = .ok (.ifnonnull 10, 3) := dk_199 0 10 (dk_at dksJ39_balanceInsertion_0 11 rfl rfl)
theorem dJ39_balanceInsertion_14 : decode cJ39_balanceInsertion 14 = .ok (.aload_n 1, 1) := dk_43 (dk_at dksJ39_balanceInsertion_0 14 rfl rfl)
theorem dJ39_balanceInsertion_15 : decode cJ39_balanceInsertion 15 = .ok (.iconst 0, 1) := dk_3 (dk_at dksJ39_balanceInsertion_0 15 rfl rfl)
theorem dJ39_balanceInsertion_16 : decode cJ39_balanceInsertion 16 = .ok (.putfield 93, 3) := dk_181 0 93 (dk_at dksJ39_balanceInsertion_0 16 rfl rfl)
theorem dJ39_balanceInsertion_19 : decode cJ39_balanceInsertion 19 = .ok (.aload_n 1, 1) := dk_43 (dk_at dksJ39_balanceInsertion_0 19 rfl rfl)
theorem dJ39_balanceInsertion_20 : decode cJ39_balanceInsertion 20 = .ok (.areturn, 1) := dk_176 (dk_at dksJ39_balanceInsertion_0 20 rfl rfl)
theorem dJ39_balanceInsertion_21 : decode cJ39_balanceInsertion 21 = .ok (.aload_n 2, 1) := dk_44 (dk_at dksJ39_balanceInsertion_0 21 rfl rfl)
theorem dJ39_balanceInsertion_22 : decode cJ39_balanceInsertion 22 = .ok (.getfield 93, 3) := dk_180 0 93 (dk_at dksJ39_balanceInsertion_1 0 rfl rfl)
theorem dJ39_balanceInsertion_25 : decode cJ39_balanceInsertion 25 = .ok (.ifCond .eq 12, 3) := dk_153 0 12 (dk_at dksJ39_balanceInsertion_1 3 rfl rfl)
theorem dJ39_balanceInsertion_28 : decode cJ39_balanceInsertion 28 = .ok (.aload_n 2, 1) := dk_44 (dk_at dksJ39_balanceInsertion_1 6 rfl rfl)
theorem dJ39_balanceInsertion_29 : decode cJ39_balanceInsertion 29 = .ok (.getfield 9, 3) := dk_180 0 9 (dk_at dksJ39_balanceInsertion_1 7 rfl rfl)
theorem dJ39_balanceInsertion_32 : decode cJ39_balanceInsertion 32 = .ok (.dup, 1) := dk_89 (dk_at dksJ39_balanceInsertion_1 10 rfl rfl)
theorem dJ39_balanceInsertion_33 : decode cJ39_balanceInsertion 33 = .ok (.astore_n 3, 1) := dk_78 (dk_at dksJ39_balanceInsertion_1 11 rfl rfl)
theorem dJ39_balanceInsertion_34 : decode cJ39_balanceInsertion 34 = .ok (.ifnonnull 5, 3) := dk_199 0 5 (dk_at dksJ39_balanceInsertion_1 12 rfl rfl)
theorem dJ39_balanceInsertion_37 : decode cJ39_balanceInsertion 37 = .ok (.aload_n 0, 1) := dk_42 (dk_at dksJ39_balanceInsertion_1 15 rfl rfl)
theorem dJ39_balanceInsertion_38 : decode cJ39_balanceInsertion 38 = .ok (.areturn, 1) := dk_176 (dk_at dksJ39_balanceInsertion_1 16 rfl rfl)
theorem dJ39_balanceInsertion_39 : decode cJ39_balanceInsertion 39 = .ok (.aload_n 2, 1) := dk_44 (dk_at dksJ39_balanceInsertion_1 17 rfl rfl)
theorem dJ39_balanceInsertion_40 : decode cJ39_balanceInsertion 40 = .ok (.aload_n 3, 1) := dk_45 (dk_at dksJ39_balanceInsertion_1 18 rfl rfl)
theorem dJ39_balanceInsertion_41 : decode cJ39_balanceInsertion 41 = .ok (.getfield 39, 3) := dk_180 0 39 (dk_at dksJ39_balanceInsertion_1 19 rfl rfl)
theorem dJ39_balanceInsertion_44 : decode cJ39_balanceInsertion 44 = .ok (.dup, 1) := dk_89 (dk_at dksJ39_balanceInsertion_1 22 rfl rfl)
theorem dJ39_balanceInsertion_45 : decode cJ39_balanceInsertion 45 = .ok (.astore 4, 2) := dk_58 4 (dk_at dksJ39_balanceInsertion_2 0 rfl rfl)
theorem dJ39_balanceInsertion_47 : decode cJ39_balanceInsertion 47 = .ok (.if_acmp .ne 103, 3) := dk_166 0 103 (dk_at dksJ39_balanceInsertion_2 2 rfl rfl)
theorem dJ39_balanceInsertion_50 : decode cJ39_balanceInsertion 50 = .ok (.aload_n 3, 1) := dk_45 (dk_at dksJ39_balanceInsertion_2 5 rfl rfl)
theorem dJ39_balanceInsertion_51 : decode cJ39_balanceInsertion 51 = .ok (.getfield 42, 3) := dk_180 0 42 (dk_at dksJ39_balanceInsertion_2 6 rfl rfl)
theorem dJ39_balanceInsertion_54 : decode cJ39_balanceInsertion 54 = .ok (.dup, 1) := dk_89 (dk_at dksJ39_balanceInsertion_2 9 rfl rfl)
theorem dJ39_balanceInsertion_55 : decode cJ39_balanceInsertion 55 = .ok (.astore 5, 2) := dk_58 5 (dk_at dksJ39_balanceInsertion_2 10 rfl rfl)
theorem dJ39_balanceInsertion_57 : decode cJ39_balanceInsertion 57 = .ok (.ifnull 32, 3) := dk_198 0 32 (dk_at dksJ39_balanceInsertion_2 12 rfl rfl)
theorem dJ39_balanceInsertion_60 : decode cJ39_balanceInsertion 60 = .ok (.aload 5, 2) := dk_25 5 (dk_at dksJ39_balanceInsertion_2 15 rfl rfl)
theorem dJ39_balanceInsertion_62 : decode cJ39_balanceInsertion 62 = .ok (.getfield 93, 3) := dk_180 0 93 (dk_at dksJ39_balanceInsertion_2 17 rfl rfl)
theorem dJ39_balanceInsertion_65 : decode cJ39_balanceInsertion 65 = .ok (.ifCond .eq 24, 3) := dk_153 0 24 (dk_at dksJ39_balanceInsertion_2 20 rfl rfl)
theorem dJ39_balanceInsertion_68 : decode cJ39_balanceInsertion 68 = .ok (.aload 5, 2) := dk_25 5 (dk_at dksJ39_balanceInsertion_3 0 rfl rfl)
theorem dJ39_balanceInsertion_70 : decode cJ39_balanceInsertion 70 = .ok (.iconst 0, 1) := dk_3 (dk_at dksJ39_balanceInsertion_3 2 rfl rfl)
theorem dJ39_balanceInsertion_71 : decode cJ39_balanceInsertion 71 = .ok (.putfield 93, 3) := dk_181 0 93 (dk_at dksJ39_balanceInsertion_3 3 rfl rfl)
theorem dJ39_balanceInsertion_74 : decode cJ39_balanceInsertion 74 = .ok (.aload_n 2, 1) := dk_44 (dk_at dksJ39_balanceInsertion_3 6 rfl rfl)
theorem dJ39_balanceInsertion_75 : decode cJ39_balanceInsertion 75 = .ok (.iconst 0, 1) := dk_3 (dk_at dksJ39_balanceInsertion_3 7 rfl rfl)
theorem dJ39_balanceInsertion_76 : decode cJ39_balanceInsertion 76 = .ok (.putfield 93, 3) := dk_181 0 93 (dk_at dksJ39_balanceInsertion_3 8 rfl rfl)
theorem dJ39_balanceInsertion_79 : decode cJ39_balanceInsertion 79 = .ok (.aload_n 3, 1) := dk_45 (dk_at dksJ39_balanceInsertion_3 11 rfl rfl)
theorem dJ39_balanceInsertion_80 : decode cJ39_balanceInsertion 80 = .ok (.iconst 1, 1) := dk_4 (dk_at dksJ39_balanceInsertion_3 12 rfl rfl)
theorem dJ39_balanceInsertion_81 : decode cJ39_balanceInsertion 81 = .ok (.putfield 93, 3) := dk_181 0 93 (dk_at dksJ39_balanceInsertion_3 13 rfl rfl)
theorem dJ39_balanceInsertion_84 : decode cJ39_balanceInsertion 84 = .ok (.aload_n 3, 1) := dk_45 (dk_at dksJ39_balanceInsertion_3 16 rfl rfl)
theorem dJ39_balanceInsertion_85 : decode cJ39_balanceInsertion 85 = .ok (.astore_n 1, 1) := dk_76 (dk_at dksJ39_balanceInsertion_3 17 rfl rfl)
theorem dJ39_balanceInsertion_86 : decode cJ39_balanceInsertion 86 = .ok (.goto (-81), 3) := dk_167 255 175 (dk_at dksJ39_balanceInsertion_3 18 rfl rfl)
theorem dJ39_balanceInsertion_89 : decode cJ39_balanceInsertion 89 = .ok (.aload_n 1, 1) := dk_43 (dk_at dksJ39_balanceInsertion_3 21 rfl rfl)
theorem dJ39_balanceInsertion_90 : decode cJ39_balanceInsertion 90 = .ok (.aload_n 2, 1) := dk_44 (dk_at dksJ39_balanceInsertion_3 22 rfl rfl)
theorem dJ39_balanceInsertion_91 : decode cJ39_balanceInsertion 91 = .ok (.getfield 42, 3) := dk_180 0 42 (dk_at dksJ39_balanceInsertion_4 0 rfl rfl)
theorem dJ39_balanceInsertion_94 : decode cJ39_balanceInsertion 94 = .ok (.if_acmp .ne 29, 3) := dk_166 0 29 (dk_at dksJ39_balanceInsertion_4 3 rfl rfl)
theorem dJ39_balanceInsertion_97 : decode cJ39_balanceInsertion 97 = .ok (.aload_n 0, 1) := dk_42 (dk_at dksJ39_balanceInsertion_4 6 rfl rfl)
theorem dJ39_balanceInsertion_98 : decode cJ39_balanceInsertion 98 = .ok (.aload_n 2, 1) := dk_44 (dk_at dksJ39_balanceInsertion_4 7 rfl rfl)
theorem dJ39_balanceInsertion_99 : decode cJ39_balanceInsertion 99 = .ok (.dup, 1) := dk_89 (dk_at dksJ39_balanceInsertion_4 8 rfl rfl)
theorem dJ39_balanceInsertion_100 : decode cJ39_balanceInsertion 100 = .ok (.astore_n 1, 1) := dk_76 (dk_at dksJ39_balanceInsertion_4 9 rfl rfl)
theorem dJ39_balanceInsertion_101 : decode cJ39_balanceInsertion 101 = .ok (.invokestatic 130, 3) := dk_184 0 130 (dk_at dksJ39_balanceInsertion_4 10 rfl rfl)
theorem dJ39_balanceInsertion_104 : decode cJ39_balanceInsertion 104 = .ok (.astore_n 0, 1) := dk_75 (dk_at dksJ39_balanceInsertion_4 13 rfl rfl)
theorem dJ39_balanceInsertion_105 : decode cJ39_balanceInsertion 105 = .ok (.aload_n 1, 1) := dk_43 (dk_at dksJ39_balanceInsertion_4 14 rfl rfl)
theorem dJ39_balanceInsertion_106 : decode cJ39_balanceInsertion 106 = .ok (.getfield 9, 3) := dk_180 0 9 (dk_at dksJ39_balanceInsertion_4 15 rfl rfl)
theorem dJ39_balanceInsertion_109 : decode cJ39_balanceInsertion 109 = .ok (.dup, 1) := dk_89 (dk_at dksJ39_balanceInsertion_4 18 rfl rfl)
theorem dJ39_balanceInsertion_110 : decode cJ39_balanceInsertion 110 = .ok (.astore_n 2, 1) := dk_77 (dk_at dksJ39_balanceInsertion_4 19 rfl rfl)
theorem dJ39_balanceInsertion_111 : decode cJ39_balanceInsertion 111 = .ok (.ifnonnull 7, 3) := dk_199 0 7 (dk_at dksJ39_balanceInsertion_4 20 rfl rfl)
theorem dJ39_balanceInsertion_114 : decode cJ39_balanceInsertion 114 = .ok (.aconst_null, 1) := dk_1 (dk_at dksJ39_balanceInsertion_4 23 rfl rfl)
theorem dJ39_balanceInsertion_115 : decode cJ39_balanceInsertion 115 = .ok (.goto 7, 3) := dk_167 0 7 (dk_at dksJ39_balanceInsertion_5 0 rfl rfl)
theorem dJ39_balanceInsertion_118 : decode cJ39_balanceInsertion 118 = .ok (.aload_n 2, 1) := dk_44 (dk_at dksJ39_balanceInsertion_5 3 rfl rfl)
theorem dJ39_balanceInsertion_119 : decode cJ39_balanceInsertion 119 = .ok (.getfield 9, 3) := dk_180 0 9 (dk_at dksJ39_balanceInsertion_5 4 rfl rfl)
theorem dJ39_balanceInsertion_122 : decode cJ39_balanceInsertion 122 = .ok (.astore_n 3, 1) := dk_78 (dk_at dksJ39_balanceInsertion_5 7 rfl rfl)
theorem dJ39_balanceInsertion_123 : decode cJ39_balanceInsertion 123 = .ok (.aload_n 2, 1) := dk_44 (dk_at dksJ39_balanceInsertion_5 8 rfl rfl)
theorem dJ39_balanceInsertion_124 : decode cJ39_balanceInsertion 124 = .ok (.ifnull (-119), 3) := dk_198 255 137 (dk_at dksJ39_balanceInsertion_5 9 rfl rfl)
theorem dJ39_balanceInsertion_127 : decode cJ39_balanceInsertion 127 = .ok (.aload_n 2, 1) := dk_44 (dk_at dksJ39_balanceInsertion_5 12 rfl rfl)
theorem dJ39_balanceInsertion_128 : decode cJ39_balanceInsertion 128 = .ok (.iconst 0, 1) := dk_3 (dk_at dksJ39_balanceInsertion_5 13 rfl rfl)
theorem dJ39_balanceInsertion_129 : decode cJ39_balanceInsertion 129 = .ok (.putfield 93, 3) := dk_181 0 93 (dk_at dksJ39_balanceInsertion_5 14 rfl rfl)
theorem dJ39_balanceInsertion_132 : decode cJ39_balanceInsertion 132 = .ok (.aload_n 3, 1) := dk_45 (dk_at dksJ39_balanceInsertion_5 17 rfl rfl)
theorem dJ39_balanceInsertion_133 : decode cJ39_balanceInsertion 133 = .ok (.ifnull (-128), 3) := dk_198 255 128 (dk_at dksJ39_balanceInsertion_5 18 rfl rfl)
theorem dJ39_balanceInsertion_136 : decode cJ39_balanceInsertion 136 = .ok (.aload_n 3, 1) := dk_45 (dk_at dksJ39_balanceInsertion_5 21 rfl rfl)
theorem dJ39_balanceInsertion_137 : decode cJ39_balanceInsertion 137 = .ok (.iconst 1, 1) := dk_4 (dk_at dksJ39_balanceInsertion_5 22 rfl rfl)
theorem dJ39_balanceInsertion_138 : decode cJ39_balanceInsertion 138 = .ok (.putfield 93, 3) := dk_181 0 93 (dk_at dksJ39_balanceInsertion_6 0 rfl rfl)
theorem dJ39_balanceInsertion_141 : decode cJ39_balanceInsertion 141 = .ok (.aload_n 0, 1) := dk_42 (dk_at dksJ39_balanceInsertion_6 3 rfl rfl)
theorem dJ39_balanceInsertion_142 : decode cJ39_balanceInsertion 142 = .ok (.aload_n 3, 1) := dk_45 (dk_at dksJ39_balanceInsertion_6 4 rfl rfl)
theorem dJ39_balanceInsertion_143 : decode cJ39_balanceInsertion 143 = .ok (.invokestatic 133, 3) := dk_184 0 133 (dk_at dksJ39_balanceInsertion_6 5 rfl rfl)
theorem dJ39_balanceInsertion_146 : decode cJ39_balanceInsertion 146 = .ok (.astore_n 0, 1) := dk_75 (dk_at dksJ39_balanceInsertion_6 8 rfl rfl)
theorem dJ39_balanceInsertion_147 : decode cJ39_balanceInsertion 147 = .ok (.goto (-142), 3) := dk_167 255 114 (dk_at dksJ39_balanceInsertion_6 9 rfl rfl)
theorem dJ39_balanceInsertion_150 : decode cJ39_balanceInsertion 150 = .ok (.aload 4, 2) := dk_25 4 (dk_at dksJ39_balanceInsertion_6 12 rfl rfl)
theorem dJ39_balanceInsertion_152 : decode cJ39_balanceInsertion 152 = .ok (.ifnull 32, 3) := dk_198 0 32 (dk_at dksJ39_balanceInsertion_6 14 rfl rfl)
theorem dJ39_balanceInsertion_155 : decode cJ39_balanceInsertion 155 = .ok (.aload 4, 2) := dk_25 4 (dk_at dksJ39_balanceInsertion_6 17 rfl rfl)
theorem dJ39_balanceInsertion_157 : decode cJ39_balanceInsertion 157 = .ok (.getfield 93, 3) := dk_180 0 93 (dk_at dksJ39_balanceInsertion_6 19 rfl rfl)
theorem dJ39_balanceInsertion_160 : decode cJ39_balanceInsertion 160 = .ok (.ifCond .eq 24, 3) := dk_153 0 24 (dk_at dksJ39_balanceInsertion_7 0 rfl rfl)
theorem dJ39_balanceInsertion_163 : decode cJ39_balanceInsertion 163 = .ok (.aload 4, 2) := dk_25 4 (dk_at dksJ39_balanceInsertion_7 3 rfl rfl)
theorem dJ39_balanceInsertion_165 : decode cJ39_balanceInsertion 165 = .ok (.iconst 0, 1) := dk_3 (dk_at dksJ39_balanceInsertion_7 5 rfl rfl)
theorem dJ39_balanceInsertion_166 : decode cJ39_balanceInsertion 166 = .ok (.putfield 93, 3) := dk_181 0 93 (dk_at dksJ39_balanceInsertion_7 6 rfl rfl)
theorem dJ39_balanceInsertion_169 : decode cJ39_balanceInsertion 169 = .ok (.aload_n 2, 1) := dk_44 (dk_at dksJ39_balanceInsertion_7 9 rfl rfl)
theorem dJ39_balanceInsertion_170 : decode cJ39_balanceInsertion 170 = .ok (.iconst 0, 1) := dk_3 (dk_at dksJ39_balanceInsertion_7 10 rfl rfl)
theorem dJ39_balanceInsertion_171 : decode cJ39_balanceInsertion 171 = .ok (.putfield 93, 3) := dk_181 0 93 (dk_at dksJ39_balanceInsertion_7 11 rfl rfl)
theorem dJ39_balanceInsertion_174 : decode cJ39_balanceInsertion 174 = .ok (.aload_n 3, 1) := dk_45 (dk_at dksJ39_balanceInsertion_7 14 rfl rfl)
theorem dJ39_balanceInsertion_175 : decode cJ39_balanceInsertion 175 = .ok (.iconst 1, 1) := dk_4 (dk_at dksJ39_balanceInsertion_7 15 rfl rfl)
theorem dJ39_balanceInsertion_176 : decode cJ39_balanceInsertion 176 = .ok (.putfield 93, 3) := dk_181 0 93 (dk_at dksJ39_balanceInsertion_7 16 rfl rfl)
theorem dJ39_balanceInsertion_179 : decode cJ39_balanceInsertion 179 = .ok (.aload_n 3, 1) := dk_45 (dk_at dksJ39_balanceInsertion_7 19 rfl rfl)
theorem dJ39_balanceInsertion_180 : decode cJ39_balanceInsertion 180 = .ok (.astore_n 1, 1) := dk_76 (dk_at dksJ39_balanceInsertion_7 20 rfl rfl)
theorem dJ39_balanceInsertion_181 : decode cJ39_balanceInsertion 181 = .ok (.goto (-176), 3) := dk_167 255 80 (dk_at dksJ39_balanceInsertion_7 21 rfl rfl)
theorem dJ39_balanceInsertion_184 : decode cJ39_balanceInsertion 184 = .ok (.aload_n 1, 1) := dk_43 (dk_at dksJ39_balanceInsertion_8 0 rfl rfl)
theorem dJ39_balanceInsertion_185 : decode cJ39_balanceInsertion 185 = .ok (.aload_n 2, 1) := dk_44 (dk_at dksJ39_balanceInsertion_8 1 rfl rfl)
theorem dJ39_balanceInsertion_186 : decode cJ39_balanceInsertion 186 = .ok (.getfield 39, 3) := dk_180 0 39 (dk_at dksJ39_balanceInsertion_8 2 rfl rfl)
theorem dJ39_balanceInsertion_189 : decode cJ39_balanceInsertion 189 = .ok (.if_acmp .ne 29, 3) := dk_166 0 29 (dk_at dksJ39_balanceInsertion_8 5 rfl rfl)
theorem dJ39_balanceInsertion_192 : decode cJ39_balanceInsertion 192 = .ok (.aload_n 0, 1) := dk_42 (dk_at dksJ39_balanceInsertion_8 8 rfl rfl)
theorem dJ39_balanceInsertion_193 : decode cJ39_balanceInsertion 193 = .ok (.aload_n 2, 1) := dk_44 (dk_at dksJ39_balanceInsertion_8 9 rfl rfl)
theorem dJ39_balanceInsertion_194 : decode cJ39_balanceInsertion 194 = .ok (.dup, 1) := dk_89 (dk_at dksJ39_balanceInsertion_8 10 rfl rfl)
theorem dJ39_balanceInsertion_195 : decode cJ39_balanceInsertion 195 = .ok (.astore_n 1, 1) := dk_76 (dk_at dksJ39_balanceInsertion_8 11 rfl rfl)
theorem dJ39_balanceInsertion_196 : decode cJ39_balanceInsertion 196 = .ok (.invokestatic 133, 3) := dk_184 0 133 (dk_at dksJ39_balanceInsertion_8 12 rfl rfl)
theorem dJ39_balanceInsertion_199 : decode cJ39_balanceInsertion 199 = .ok (.astore_n 0, 1) := dk_75 (dk_at dksJ39_balanceInsertion_8 15 rfl rfl)
theorem dJ39_balanceInsertion_200 : decode cJ39_balanceInsertion 200 = .ok (.aload_n 1, 1) := dk_43 (dk_at dksJ39_balanceInsertion_8 16 rfl rfl)
theorem dJ39_balanceInsertion_201 : decode cJ39_balanceInsertion 201 = .ok (.getfield 9, 3) := dk_180 0 9 (dk_at dksJ39_balanceInsertion_8 17 rfl rfl)
theorem dJ39_balanceInsertion_204 : decode cJ39_balanceInsertion 204 = .ok (.dup, 1) := dk_89 (dk_at dksJ39_balanceInsertion_8 20 rfl rfl)
theorem dJ39_balanceInsertion_205 : decode cJ39_balanceInsertion 205 = .ok (.astore_n 2, 1) := dk_77 (dk_at dksJ39_balanceInsertion_8 21 rfl rfl)
theorem dJ39_balanceInsertion_206 : decode cJ39_balanceInsertion 206 = .ok (.ifnonnull 7, 3) := dk_199 0 7 (dk_at dksJ39_balanceInsertion_9 0 rfl rfl)
theorem dJ39_balanceInsertion_209 : decode cJ39_balanceInsertion 209 = .ok (.aconst_null, 1) := dk_1 (dk_at dksJ39_balanceInsertion_9 3 rfl rfl)
theorem dJ39_balanceInsertion_210 : decode cJ39_balanceInsertion 210 = .ok (.goto 7, 3) := dk_167 0 7 (dk_at dksJ39_balanceInsertion_9 4 rfl rfl)
theorem dJ39_balanceInsertion_213 : decode cJ39_balanceInsertion 213 = .ok (.aload_n 2, 1) := dk_44 (dk_at dksJ39_balanceInsertion_9 7 rfl rfl)
theorem dJ39_balanceInsertion_214 : decode cJ39_balanceInsertion 214 = .ok (.getfield 9, 3) := dk_180 0 9 (dk_at dksJ39_balanceInsertion_9 8 rfl rfl)
theorem dJ39_balanceInsertion_217 : decode cJ39_balanceInsertion 217 = .ok (.astore_n 3, 1) := dk_78 (dk_at dksJ39_balanceInsertion_9 11 rfl rfl)
theorem dJ39_balanceInsertion_218 : decode cJ39_balanceInsertion 218 = .ok (.aload_n 2, 1) := dk_44 (dk_at dksJ39_balanceInsertion_9 12 rfl rfl)
theorem dJ39_balanceInsertion_219 : decode cJ39_balanceInsertion 219 = .ok (.ifnull (-214), 3) := dk_198 255 42 (dk_at dksJ39_balanceInsertion_9 13 rfl rfl)
theorem dJ39_balanceInsertion_222 : decode cJ39_balanceInsertion 222 = .ok (.aload_n 2, 1) := dk_44 (dk_at dksJ39_balanceInsertion_9 16 rfl rfl)
theorem dJ39_balanceInsertion_223 : decode cJ39_balanceInsertion 223 = .ok (.iconst 0, 1) := dk_3 (dk_at dksJ39_balanceInsertion_9 17 rfl rfl)
theorem dJ39_balanceInsertion_224 : decode cJ39_balanceInsertion 224 = .ok (.putfield 93, 3) := dk_181 0 93 (dk_at dksJ39_balanceInsertion_9 18 rfl rfl)
theorem dJ39_balanceInsertion_227 : decode cJ39_balanceInsertion 227 = .ok (.aload_n 3, 1) := dk_45 (dk_at dksJ39_balanceInsertion_9 21 rfl rfl)
theorem dJ39_balanceInsertion_228 : decode cJ39_balanceInsertion 228 = .ok (.ifnull (-223), 3) := dk_198 255 33 (dk_at dksJ39_balanceInsertion_10 0 rfl rfl)
theorem dJ39_balanceInsertion_231 : decode cJ39_balanceInsertion 231 = .ok (.aload_n 3, 1) := dk_45 (dk_at dksJ39_balanceInsertion_10 3 rfl rfl)
theorem dJ39_balanceInsertion_232 : decode cJ39_balanceInsertion 232 = .ok (.iconst 1, 1) := dk_4 (dk_at dksJ39_balanceInsertion_10 4 rfl rfl)
theorem dJ39_balanceInsertion_233 : decode cJ39_balanceInsertion 233 = .ok (.putfield 93, 3) := dk_181 0 93 (dk_at dksJ39_balanceInsertion_10 5 rfl rfl)
theorem dJ39_balanceInsertion_236 : decode cJ39_balanceInsertion 236 = .ok (.aload_n 0, 1) := dk_42 (dk_at dksJ39_balanceInsertion_10 8 rfl rfl)
theorem dJ39_balanceInsertion_237 : decode cJ39_balanceInsertion 237 = .ok (.aload_n 3, 1) := dk_45 (dk_at dksJ39_balanceInsertion_10 9 rfl rfl)
theorem dJ39_balanceInsertion_238 : decode cJ39_balanceInsertion 238 = .ok (.invokestatic 130, 3) := dk_184 0 130 (dk_at dksJ39_balanceInsertion_10 10 rfl rfl)
theorem dJ39_balanceInsertion_241 : decode cJ39_balanceInsertion 241 = .ok (.astore_n 0, 1) := dk_75 (dk_at dksJ39_balanceInsertion_10 13 rfl rfl)
theorem dJ39_balanceInsertion_242 : decode cJ39_balanceInsertion 242 = .ok (.goto (-237), 3) := dk_167 255 19 (dk_at dksJ39_balanceInsertion_10 14 rfl rfl)
abbrev cJ39_rotateLeft : ByteArray := prog_74_method_12_code
def yJ39_rotateLeft : MethodName := ⟨RJ39, "rotateLeft", "(Ljava/util/HashMap$TreeNode;Ljava/util/HashMap$TreeNode;)Ljava/util/HashMap$TreeNode;"⟩
def dkwJ39_rotateLeft_3 : List UInt8 := [181, 0, 39, 167, 0, 8, 45, 44, 181, 0, 42, 44, 43, 181, 0, 39, 43, 44, 181, 0, 9, 42, 176]
abbrev dktJ39_rotateLeft_3 : List UInt8 := dkwJ39_rotateLeft_3 ++ []
def dkwJ39_rotateLeft_2 : List UInt8 := [199, 0, 13, 44, 89, 75, 3, 181, 0, 93, 167, 0, 24, 45, 180, 0, 39, 43, 166, 0, 11, 45, 44]
abbrev dktJ39_rotateLeft_2 : List UInt8 := dkwJ39_rotateLeft_2 ++ dktJ39_rotateLeft_3
def dkwJ39_rotateLeft_1 : List UInt8 := [58, 4, 198, 0, 9, 25, 4, 43, 181, 0, 9, 44, 43, 180, 0, 9, 90, 181, 0, 9, 89, 78]
abbrev dktJ39_rotateLeft_1 : List UInt8 := dkwJ39_rotateLeft_1 ++ dktJ39_rotateLeft_2
def dkwJ39_rotateLeft_0 : List UInt8 := [43, 198, 0, 88, 43, 180, 0, 42, 89, 77, 198, 0, 79, 43, 44, 180, 0, 39, 90, 181, 0, 42, 89]
abbrev dktJ39_rotateLeft_0 : List UInt8 := dkwJ39_rotateLeft_0 ++ dktJ39_rotateLeft_1
theorem dksJ39_rotateLeft_0 : cJ39_rotateLeft.data.toList.drop 0 = dktJ39_rotateLeft_0 := by decide +kernel
theorem dksJ39_rotateLeft_1 : cJ39_rotateLeft.data.toList.drop 23 = dktJ39_rotateLeft_1 := dk_seg dksJ39_rotateLeft_0 23 rfl rfl
theorem dksJ39_rotateLeft_2 : cJ39_rotateLeft.data.toList.drop 45 = dktJ39_rotateLeft_2 := dk_seg dksJ39_rotateLeft_1 22 rfl rfl
theorem dksJ39_rotateLeft_3 : cJ39_rotateLeft.data.toList.drop 68 = dktJ39_rotateLeft_3 := dk_seg dksJ39_rotateLeft_2 23 rfl rfl
theorem dJ39_rotateLeft_0 : decode cJ39_rotateLeft 0 = .ok (.aload_n 1, 1) := dk_43 (dk_at dksJ39_rotateLeft_0 0 rfl rfl)
theorem dJ39_rotateLeft_1 : decode cJ39_rotateLeft 1 = .ok (.ifnull 88, 3) := dk_198 0 88 (dk_at dksJ39_rotateLeft_0 1 rfl rfl)
theorem dJ39_rotateLeft_4 : decode cJ39_rotateLeft 4 = .ok (.aload_n 1, 1) := dk_43 (dk_at dksJ39_rotateLeft_0 4 rfl rfl)
theorem dJ39_rotateLeft_5 : decode cJ39_rotateLeft 5 = .ok (.getfield 42, 3) := dk_180 0 42 (dk_at dksJ39_rotateLeft_0 5 rfl rfl)
theorem dJ39_rotateLeft_8 : decode cJ39_rotateLeft 8 = .ok (.dup, 1) := dk_89 (dk_at dksJ39_rotateLeft_0 8 rfl rfl)
theorem dJ39_rotateLeft_9 : decode cJ39_rotateLeft 9 = .ok (.astore_n 2, 1) := dk_77 (dk_at dksJ39_rotateLeft_0 9 rfl rfl)
theorem dJ39_rotateLeft_10 : decode cJ39_rotateLeft 10 = .ok (.ifnull 79, 3) := dk_198 0 79 (dk_at dksJ39_rotateLeft_0 10 rfl rfl)
theorem dJ39_rotateLeft_13 : decode cJ39_rotateLeft 13 = .ok (.aload_n 1, 1) := dk_43 (dk_at dksJ39_rotateLeft_0 13 rfl rfl)
theorem dJ39_rotateLeft_14 : decode cJ39_rotateLeft 14 = .ok (.aload_n 2, 1) := dk_44 (dk_at dksJ39_rotateLeft_0 14 rfl rfl)
theorem dJ39_rotateLeft_15 : decode cJ39_rotateLeft 15 = .ok (.getfield 39, 3) := dk_180 0 39 (dk_at dksJ39_rotateLeft_0 15 rfl rfl)
theorem dJ39_rotateLeft_18 : decode cJ39_rotateLeft 18 = .ok (.dup_x1, 1) := dk_90 (dk_at dksJ39_rotateLeft_0 18 rfl rfl)
theorem dJ39_rotateLeft_19 : decode cJ39_rotateLeft 19 = .ok (.putfield 42, 3) := dk_181 0 42 (dk_at dksJ39_rotateLeft_0 19 rfl rfl)
theorem dJ39_rotateLeft_22 : decode cJ39_rotateLeft 22 = .ok (.dup, 1) := dk_89 (dk_at dksJ39_rotateLeft_0 22 rfl rfl)
theorem dJ39_rotateLeft_23 : decode cJ39_rotateLeft 23 = .ok (.astore 4, 2) := dk_58 4 (dk_at dksJ39_rotateLeft_1 0 rfl rfl)
theorem dJ39_rotateLeft_25 : decode cJ39_rotateLeft 25 = .ok (.ifnull 9, 3) := dk_198 0 9 (dk_at dksJ39_rotateLeft_1 2 rfl rfl)
theorem dJ39_rotateLeft_28 : decode cJ39_rotateLeft 28 = .ok (.aload 4, 2) := dk_25 4 (dk_at dksJ39_rotateLeft_1 5 rfl rfl)
theorem dJ39_rotateLeft_30 : decode cJ39_rotateLeft 30 = .ok (.aload_n 1, 1) := dk_43 (dk_at dksJ39_rotateLeft_1 7 rfl rfl)
theorem dJ39_rotateLeft_31 : decode cJ39_rotateLeft 31 = .ok (.putfield 9, 3) := dk_181 0 9 (dk_at dksJ39_rotateLeft_1 8 rfl rfl)
theorem dJ39_rotateLeft_34 : decode cJ39_rotateLeft 34 = .ok (.aload_n 2, 1) := dk_44 (dk_at dksJ39_rotateLeft_1 11 rfl rfl)
theorem dJ39_rotateLeft_35 : decode cJ39_rotateLeft 35 = .ok (.aload_n 1, 1) := dk_43 (dk_at dksJ39_rotateLeft_1 12 rfl rfl)
theorem dJ39_rotateLeft_36 : decode cJ39_rotateLeft 36 = .ok (.getfield 9, 3) := dk_180 0 9 (dk_at dksJ39_rotateLeft_1 13 rfl rfl)
theorem dJ39_rotateLeft_39 : decode cJ39_rotateLeft 39 = .ok (.dup_x1, 1) := dk_90 (dk_at dksJ39_rotateLeft_1 16 rfl rfl)
theorem dJ39_rotateLeft_40 : decode cJ39_rotateLeft 40 = .ok (.putfield 9, 3) := dk_181 0 9 (dk_at dksJ39_rotateLeft_1 17 rfl rfl)
theorem dJ39_rotateLeft_43 : decode cJ39_rotateLeft 43 = .ok (.dup, 1) := dk_89 (dk_at dksJ39_rotateLeft_1 20 rfl rfl)
theorem dJ39_rotateLeft_44 : decode cJ39_rotateLeft 44 = .ok (.astore_n 3, 1) := dk_78 (dk_at dksJ39_rotateLeft_1 21 rfl rfl)
theorem dJ39_rotateLeft_45 : decode cJ39_rotateLeft 45 = .ok (.ifnonnull 13, 3) := dk_199 0 13 (dk_at dksJ39_rotateLeft_2 0 rfl rfl)
theorem dJ39_rotateLeft_48 : decode cJ39_rotateLeft 48 = .ok (.aload_n 2, 1) := dk_44 (dk_at dksJ39_rotateLeft_2 3 rfl rfl)
theorem dJ39_rotateLeft_49 : decode cJ39_rotateLeft 49 = .ok (.dup, 1) := dk_89 (dk_at dksJ39_rotateLeft_2 4 rfl rfl)
theorem dJ39_rotateLeft_50 : decode cJ39_rotateLeft 50 = .ok (.astore_n 0, 1) := dk_75 (dk_at dksJ39_rotateLeft_2 5 rfl rfl)
theorem dJ39_rotateLeft_51 : decode cJ39_rotateLeft 51 = .ok (.iconst 0, 1) := dk_3 (dk_at dksJ39_rotateLeft_2 6 rfl rfl)
theorem dJ39_rotateLeft_52 : decode cJ39_rotateLeft 52 = .ok (.putfield 93, 3) := dk_181 0 93 (dk_at dksJ39_rotateLeft_2 7 rfl rfl)
theorem dJ39_rotateLeft_55 : decode cJ39_rotateLeft 55 = .ok (.goto 24, 3) := dk_167 0 24 (dk_at dksJ39_rotateLeft_2 10 rfl rfl)
theorem dJ39_rotateLeft_58 : decode cJ39_rotateLeft 58 = .ok (.aload_n 3, 1) := dk_45 (dk_at dksJ39_rotateLeft_2 13 rfl rfl)
theorem dJ39_rotateLeft_59 : decode cJ39_rotateLeft 59 = .ok (.getfield 39, 3) := dk_180 0 39 (dk_at dksJ39_rotateLeft_2 14 rfl rfl)
theorem dJ39_rotateLeft_62 : decode cJ39_rotateLeft 62 = .ok (.aload_n 1, 1) := dk_43 (dk_at dksJ39_rotateLeft_2 17 rfl rfl)
theorem dJ39_rotateLeft_63 : decode cJ39_rotateLeft 63 = .ok (.if_acmp .ne 11, 3) := dk_166 0 11 (dk_at dksJ39_rotateLeft_2 18 rfl rfl)
theorem dJ39_rotateLeft_66 : decode cJ39_rotateLeft 66 = .ok (.aload_n 3, 1) := dk_45 (dk_at dksJ39_rotateLeft_2 21 rfl rfl)
theorem dJ39_rotateLeft_67 : decode cJ39_rotateLeft 67 = .ok (.aload_n 2, 1) := dk_44 (dk_at dksJ39_rotateLeft_2 22 rfl rfl)
theorem dJ39_rotateLeft_68 : decode cJ39_rotateLeft 68 = .ok (.putfield 39, 3) := dk_181 0 39 (dk_at dksJ39_rotateLeft_3 0 rfl rfl)
theorem dJ39_rotateLeft_71 : decode cJ39_rotateLeft 71 = .ok (.goto 8, 3) := dk_167 0 8 (dk_at dksJ39_rotateLeft_3 3 rfl rfl)
theorem dJ39_rotateLeft_74 : decode cJ39_rotateLeft 74 = .ok (.aload_n 3, 1) := dk_45 (dk_at dksJ39_rotateLeft_3 6 rfl rfl)
theorem dJ39_rotateLeft_75 : decode cJ39_rotateLeft 75 = .ok (.aload_n 2, 1) := dk_44 (dk_at dksJ39_rotateLeft_3 7 rfl rfl)
theorem dJ39_rotateLeft_76 : decode cJ39_rotateLeft 76 = .ok (.putfield 42, 3) := dk_181 0 42 (dk_at dksJ39_rotateLeft_3 8 rfl rfl)
theorem dJ39_rotateLeft_79 : decode cJ39_rotateLeft 79 = .ok (.aload_n 2, 1) := dk_44 (dk_at dksJ39_rotateLeft_3 11 rfl rfl)
theorem dJ39_rotateLeft_80 : decode cJ39_rotateLeft 80 = .ok (.aload_n 1, 1) := dk_43 (dk_at dksJ39_rotateLeft_3 12 rfl rfl)
theorem dJ39_rotateLeft_81 : decode cJ39_rotateLeft 81 = .ok (.putfield 39, 3) := dk_181 0 39 (dk_at dksJ39_rotateLeft_3 13 rfl rfl)
theorem dJ39_rotateLeft_84 : decode cJ39_rotateLeft 84 = .ok (.aload_n 1, 1) := dk_43 (dk_at dksJ39_rotateLeft_3 16 rfl rfl)
theorem dJ39_rotateLeft_85 : decode cJ39_rotateLeft 85 = .ok (.aload_n 2, 1) := dk_44 (dk_at dksJ39_rotateLeft_3 17 rfl rfl)
theorem dJ39_rotateLeft_86 : decode cJ39_rotateLeft 86 = .ok (.putfield 9, 3) := dk_181 0 9 (dk_at dksJ39_rotateLeft_3 18 rfl rfl)
theorem dJ39_rotateLeft_89 : decode cJ39_rotateLeft 89 = .ok (.aload_n 0, 1) := dk_42 (dk_at dksJ39_rotateLeft_3 21 rfl rfl)
theorem dJ39_rotateLeft_90 : decode cJ39_rotateLeft 90 = .ok (.areturn, 1) := dk_176 (dk_at dksJ39_rotateLeft_3 22 rfl rfl)
abbrev cJ39_rotateRight : ByteArray := prog_74_method_13_code
def yJ39_rotateRight : MethodName := ⟨RJ39, "rotateRight", "(Ljava/util/HashMap$TreeNode;Ljava/util/HashMap$TreeNode;)Ljava/util/HashMap$TreeNode;"⟩
def dkwJ39_rotateRight_3 : List UInt8 := [181, 0, 42, 167, 0, 8, 45, 44, 181, 0, 39, 44, 43, 181, 0, 42, 43, 44, 181, 0, 9, 42, 176]
abbrev dktJ39_rotateRight_3 : List UInt8 := dkwJ39_rotateRight_3 ++ []
def dkwJ39_rotateRight_2 : List UInt8 := [199, 0, 13, 44, 89, 75, 3, 181, 0, 93, 167, 0, 24, 45, 180, 0, 42, 43, 166, 0, 11, 45, 44]
abbrev dktJ39_rotateRight_2 : List UInt8 := dkwJ39_rotateRight_2 ++ dktJ39_rotateRight_3
def dkwJ39_rotateRight_1 : List UInt8 := [58, 4, 198, 0, 9, 25, 4, 43, 181, 0, 9, 44, 43, 180, 0, 9, 90, 181, 0, 9, 89, 78]
abbrev dktJ39_rotateRight_1 : List UInt8 := dkwJ39_rotateRight_1 ++ dktJ39_rotateRight_2
def dkwJ39_rotateRight_0 : List UInt8 := [43, 198, 0, 88, 43, 180, 0, 39, 89, 77, 198, 0, 79, 43, 44, 180, 0, 42, 90, 181, 0, 39, 89]
abbrev dktJ39_rotateRight_0 : List UInt8 := dkwJ39_rotateRight_0 ++ dktJ39_rotateRight_1
theorem dksJ39_rotateRight_0 : cJ39_rotateRight.data.toList.drop 0 = dktJ39_rotateRight_0 := by decide +kernel
theorem dksJ39_rotateRight_1 : cJ39_rotateRight.data.toList.drop 23 = dktJ39_rotateRight_1 := dk_seg dksJ39_rotateRight_0 23 rfl rfl
theorem dksJ39_rotateRight_2 : cJ39_rotateRight.data.toList.drop 45 = dktJ39_rotateRight_2 := dk_seg dksJ39_rotateRight_1 22 rfl rfl
theorem dksJ39_rotateRight_3 : cJ39_rotateRight.data.toList.drop 68 = dktJ39_rotateRight_3 := dk_seg dksJ39_rotateRight_2 23 rfl rfl
theorem dJ39_rotateRight_0 : decode cJ39_rotateRight 0 = .ok (.aload_n 1, 1) := dk_43 (dk_at dksJ39_rotateRight_0 0 rfl rfl)
theorem dJ39_rotateRight_1 : decode cJ39_rotateRight 1 = .ok (.ifnull 88, 3) := dk_198 0 88 (dk_at dksJ39_rotateRight_0 1 rfl rfl)
theorem dJ39_rotateRight_4 : decode cJ39_rotateRight 4 = .ok (.aload_n 1, 1) := dk_43 (dk_at dksJ39_rotateRight_0 4 rfl rfl)
theorem dJ39_rotateRight_5 : decode cJ39_rotateRight 5 = .ok (.getfield 39, 3) := dk_180 0 39 (dk_at dksJ39_rotateRight_0 5 rfl rfl)
theorem dJ39_rotateRight_8 : decode cJ39_rotateRight 8 = .ok (.dup, 1) := dk_89 (dk_at dksJ39_rotateRight_0 8 rfl rfl)
theorem dJ39_rotateRight_9 : decode cJ39_rotateRight 9 = .ok (.astore_n 2, 1) := dk_77 (dk_at dksJ39_rotateRight_0 9 rfl rfl)
theorem dJ39_rotateRight_10 : decode cJ39_rotateRight 10 = .ok (.ifnull 79, 3) := dk_198 0 79 (dk_at dksJ39_rotateRight_0 10 rfl rfl)
theorem dJ39_rotateRight_13 : decode cJ39_rotateRight 13 = .ok (.aload_n 1, 1) := dk_43 (dk_at dksJ39_rotateRight_0 13 rfl rfl)
theorem dJ39_rotateRight_14 : decode cJ39_rotateRight 14 = .ok (.aload_n 2, 1) := dk_44 (dk_at dksJ39_rotateRight_0 14 rfl rfl)
theorem dJ39_rotateRight_15 : decode cJ39_rotateRight 15 = .ok (.getfield 42, 3) := dk_180 0 42 (dk_at dksJ39_rotateRight_0 15 rfl rfl)
theorem dJ39_rotateRight_18 : decode cJ39_rotateRight 18 = .ok (.dup_x1, 1) := dk_90 (dk_at dksJ39_rotateRight_0 18 rfl rfl)
theorem dJ39_rotateRight_19 : decode cJ39_rotateRight 19 = .ok (.putfield 39, 3) := dk_181 0 39 (dk_at dksJ39_rotateRight_0 19 rfl rfl)
theorem dJ39_rotateRight_22 : decode cJ39_rotateRight 22 = .ok (.dup, 1) := dk_89 (dk_at dksJ39_rotateRight_0 22 rfl rfl)
theorem dJ39_rotateRight_23 : decode cJ39_rotateRight 23 = .ok (.astore 4, 2) := dk_58 4 (dk_at dksJ39_rotateRight_1 0 rfl rfl)
theorem dJ39_rotateRight_25 : decode cJ39_rotateRight 25 = .ok (.ifnull 9, 3) := dk_198 0 9 (dk_at dksJ39_rotateRight_1 2 rfl rfl)
theorem dJ39_rotateRight_28 : decode cJ39_rotateRight 28 = .ok (.aload 4, 2) := dk_25 4 (dk_at dksJ39_rotateRight_1 5 rfl rfl)
theorem dJ39_rotateRight_30 : decode cJ39_rotateRight 30 = .ok (.aload_n 1, 1) := dk_43 (dk_at dksJ39_rotateRight_1 7 rfl rfl)
theorem dJ39_rotateRight_31 : decode cJ39_rotateRight 31 = .ok (.putfield 9, 3) := dk_181 0 9 (dk_at dksJ39_rotateRight_1 8 rfl rfl)
theorem dJ39_rotateRight_34 : decode cJ39_rotateRight 34 = .ok (.aload_n 2, 1) := dk_44 (dk_at dksJ39_rotateRight_1 11 rfl rfl)
theorem dJ39_rotateRight_35 : decode cJ39_rotateRight 35 = .ok (.aload_n 1, 1) := dk_43 (dk_at dksJ39_rotateRight_1 12 rfl rfl)
theorem dJ39_rotateRight_36 : decode cJ39_rotateRight 36 = .ok (.getfield 9, 3) := dk_180 0 9 (dk_at dksJ39_rotateRight_1 13 rfl rfl)
theorem dJ39_rotateRight_39 : decode cJ39_rotateRight 39 = .ok (.dup_x1, 1) := dk_90 (dk_at dksJ39_rotateRight_1 16 rfl rfl)
theorem dJ39_rotateRight_40 : decode cJ39_rotateRight 40 = .ok (.putfield 9, 3) := dk_181 0 9 (dk_at dksJ39_rotateRight_1 17 rfl rfl)
theorem dJ39_rotateRight_43 : decode cJ39_rotateRight 43 = .ok (.dup, 1) := dk_89 (dk_at dksJ39_rotateRight_1 20 rfl rfl)
theorem dJ39_rotateRight_44 : decode cJ39_rotateRight 44 = .ok (.astore_n 3, 1) := dk_78 (dk_at dksJ39_rotateRight_1 21 rfl rfl)
theorem dJ39_rotateRight_45 : decode cJ39_rotateRight 45 = .ok (.ifnonnull 13, 3) := dk_199 0 13 (dk_at dksJ39_rotateRight_2 0 rfl rfl)
theorem dJ39_rotateRight_48 : decode cJ39_rotateRight 48 = .ok (.aload_n 2, 1) := dk_44 (dk_at dksJ39_rotateRight_2 3 rfl rfl)
theorem dJ39_rotateRight_49 : decode cJ39_rotateRight 49 = .ok (.dup, 1) := dk_89 (dk_at dksJ39_rotateRight_2 4 rfl rfl)
theorem dJ39_rotateRight_50 : decode cJ39_rotateRight 50 = .ok (.astore_n 0, 1) := dk_75 (dk_at dksJ39_rotateRight_2 5 rfl rfl)
theorem dJ39_rotateRight_51 : decode cJ39_rotateRight 51 = .ok (.iconst 0, 1) := dk_3 (dk_at dksJ39_rotateRight_2 6 rfl rfl)
theorem dJ39_rotateRight_52 : decode cJ39_rotateRight 52 = .ok (.putfield 93, 3) := dk_181 0 93 (dk_at dksJ39_rotateRight_2 7 rfl rfl)
theorem dJ39_rotateRight_55 : decode cJ39_rotateRight 55 = .ok (.goto 24, 3) := dk_167 0 24 (dk_at dksJ39_rotateRight_2 10 rfl rfl)
theorem dJ39_rotateRight_58 : decode cJ39_rotateRight 58 = .ok (.aload_n 3, 1) := dk_45 (dk_at dksJ39_rotateRight_2 13 rfl rfl)
theorem dJ39_rotateRight_59 : decode cJ39_rotateRight 59 = .ok (.getfield 42, 3) := dk_180 0 42 (dk_at dksJ39_rotateRight_2 14 rfl rfl)
theorem dJ39_rotateRight_62 : decode cJ39_rotateRight 62 = .ok (.aload_n 1, 1) := dk_43 (dk_at dksJ39_rotateRight_2 17 rfl rfl)
theorem dJ39_rotateRight_63 : decode cJ39_rotateRight 63 = .ok (.if_acmp .ne 11, 3) := dk_166 0 11 (dk_at dksJ39_rotateRight_2 18 rfl rfl)
theorem dJ39_rotateRight_66 : decode cJ39_rotateRight 66 = .ok (.aload_n 3, 1) := dk_45 (dk_at dksJ39_rotateRight_2 21 rfl rfl)
theorem dJ39_rotateRight_67 : decode cJ39_rotateRight 67 = .ok (.aload_n 2, 1) := dk_44 (dk_at dksJ39_rotateRight_2 22 rfl rfl)
theorem dJ39_rotateRight_68 : decode cJ39_rotateRight 68 = .ok (.putfield 42, 3) := dk_181 0 42 (dk_at dksJ39_rotateRight_3 0 rfl rfl)
theorem dJ39_rotateRight_71 : decode cJ39_rotateRight 71 = .ok (.goto 8, 3) := dk_167 0 8 (dk_at dksJ39_rotateRight_3 3 rfl rfl)
theorem dJ39_rotateRight_74 : decode cJ39_rotateRight 74 = .ok (.aload_n 3, 1) := dk_45 (dk_at dksJ39_rotateRight_3 6 rfl rfl)
theorem dJ39_rotateRight_75 : decode cJ39_rotateRight 75 = .ok (.aload_n 2, 1) := dk_44 (dk_at dksJ39_rotateRight_3 7 rfl rfl)
theorem dJ39_rotateRight_76 : decode cJ39_rotateRight 76 = .ok (.putfield 39, 3) := dk_181 0 39 (dk_at dksJ39_rotateRight_3 8 rfl rfl)
theorem dJ39_rotateRight_79 : decode cJ39_rotateRight 79 = .ok (.aload_n 2, 1) := dk_44 (dk_at dksJ39_rotateRight_3 11 rfl rfl)
theorem dJ39_rotateRight_80 : decode cJ39_rotateRight 80 = .ok (.aload_n 1, 1) := dk_43 (dk_at dksJ39_rotateRight_3 12 rfl rfl)
theorem dJ39_rotateRight_81 : decode cJ39_rotateRight 81 = .ok (.putfield 42, 3) := dk_181 0 42 (dk_at dksJ39_rotateRight_3 13 rfl rfl)
theorem dJ39_rotateRight_84 : decode cJ39_rotateRight 84 = .ok (.aload_n 1, 1) := dk_43 (dk_at dksJ39_rotateRight_3 16 rfl rfl)
theorem dJ39_rotateRight_85 : decode cJ39_rotateRight 85 = .ok (.aload_n 2, 1) := dk_44 (dk_at dksJ39_rotateRight_3 17 rfl rfl)
theorem dJ39_rotateRight_86 : decode cJ39_rotateRight 86 = .ok (.putfield 9, 3) := dk_181 0 9 (dk_at dksJ39_rotateRight_3 18 rfl rfl)
theorem dJ39_rotateRight_89 : decode cJ39_rotateRight 89 = .ok (.aload_n 0, 1) := dk_42 (dk_at dksJ39_rotateRight_3 21 rfl rfl)
theorem dJ39_rotateRight_90 : decode cJ39_rotateRight 90 = .ok (.areturn, 1) := dk_176 (dk_at dksJ39_rotateRight_3 22 rfl rfl)
abbrev cJ39_moveRootToFront : ByteArray := prog_74_method_3_code
def yJ39_moveRootToFront : MethodName := ⟨RJ39, "moveRootToFront", "([Ljava/util/HashMap$Node;Ljava/util/HashMap$TreeNode;)V"⟩
def dkwJ39_moveRootToFront_5 : List UInt8 := [89, 183, 0, 36, 191, 177]
abbrev dktJ39_moveRootToFront_5 : List UInt8 := dkwJ39_moveRootToFront_5 ++ []
def dkwJ39_moveRootToFront_4 : List UInt8 := [181, 0, 22, 43, 1, 181, 0, 19, 178, 0, 26, 154, 0, 18, 43, 184, 0, 30, 154, 0, 11, 187, 0, 34]
abbrev dktJ39_moveRootToFront_4 : List UInt8 := dkwJ39_moveRootToFront_4 ++ dktJ39_moveRootToFront_5
def dkwJ39_moveRootToFront_3 : List UInt8 := [198, 0, 10, 25, 6, 25, 5, 181, 0, 22, 25, 4, 198, 0, 9, 25, 4, 43, 181, 0, 19, 43, 25, 4]
abbrev dktJ39_moveRootToFront_3 : List UInt8 := dkwJ39_moveRootToFront_3 ++ dktJ39_moveRootToFront_4
def dkwJ39_moveRootToFront_2 : List UInt8 := [43, 180, 0, 22, 89, 58, 5, 198, 0, 13, 25, 5, 192, 0, 10, 25, 6, 181, 0, 19, 25, 6]
abbrev dktJ39_moveRootToFront_2 : List UInt8 := dkwJ39_moveRootToFront_2 ++ dktJ39_moveRootToFront_3
def dkwJ39_moveRootToFront_1 : List UInt8 := [42, 29, 50, 192, 0, 10, 58, 4, 43, 25, 4, 165, 0, 67, 42, 29, 43, 83, 43, 180, 0, 19, 58, 6]
abbrev dktJ39_moveRootToFront_1 : List UInt8 := dkwJ39_moveRootToFront_1 ++ dktJ39_moveRootToFront_2
def dkwJ39_moveRootToFront_0 : List UInt8 := [43, 198, 0, 122, 42, 198, 0, 118, 42, 190, 89, 61, 158, 0, 111, 28, 4, 100, 43, 180, 0, 15, 126, 62]
abbrev dktJ39_moveRootToFront_0 : List UInt8 := dkwJ39_moveRootToFront_0 ++ dktJ39_moveRootToFront_1
theorem dksJ39_moveRootToFront_0 : cJ39_moveRootToFront.data.toList.drop 0 = dktJ39_moveRootToFront_0 := by decide +kernel
theorem dksJ39_moveRootToFront_1 : cJ39_moveRootToFront.data.toList.drop 24 = dktJ39_moveRootToFront_1 := dk_seg dksJ39_moveRootToFront_0 24 rfl rfl
theorem dksJ39_moveRootToFront_2 : cJ39_moveRootToFront.data.toList.drop 48 = dktJ39_moveRootToFront_2 := dk_seg dksJ39_moveRootToFront_1 24 rfl rfl
theorem dksJ39_moveRootToFront_3 : cJ39_moveRootToFront.data.toList.drop 70 = dktJ39_moveRootToFront_3 := dk_seg dksJ39_moveRootToFront_2 22 rfl rfl
theorem dksJ39_moveRootToFront_4 : cJ39_moveRootToFront.data.toList.drop 94 = dktJ39_moveRootToFront_4 := dk_seg dksJ39_moveRootToFront_3 24 rfl rfl
theorem dksJ39_moveRootToFront_5 : cJ39_moveRootToFront.data.toList.drop 118 = dktJ39_moveRootToFront_5 := dk_seg dksJ39_moveRootToFront_4 24 rfl rfl
theorem dJ39_moveRootToFront_0 : decode cJ39_moveRootToFront 0 = .ok (.aload_n 1, 1) := dk_43 (dk_at dksJ39_moveRootToFront_0 0 rfl rfl)
theorem dJ39_moveRootToFront_1 : decode cJ39_moveRootToFront 1 = .ok (.ifnull 122, 3) := dk_198 0 122 (dk_at dksJ39_moveRootToFront_0 1 rfl rfl)
theorem dJ39_moveRootToFront_4 : decode cJ39_moveRootToFront 4 = .ok (.aload_n 0, 1) := dk_42 (dk_at dksJ39_moveRootToFront_0 4 rfl rfl)
theorem dJ39_moveRootToFront_5 : decode cJ39_moveRootToFront 5 = .ok (.ifnull 118, 3) := dk_198 0 118 (dk_at dksJ39_moveRootToFront_0 5 rfl rfl)
theorem dJ39_moveRootToFront_8 : decode cJ39_moveRootToFront 8 = .ok (.aload_n 0, 1) := dk_42 (dk_at dksJ39_moveRootToFront_0 8 rfl rfl)
theorem dJ39_moveRootToFront_9 : decode cJ39_moveRootToFront 9 = .ok (.arraylength, 1) := dk_190 (dk_at dksJ39_moveRootToFront_0 9 rfl rfl)
theorem dJ39_moveRootToFront_10 : decode cJ39_moveRootToFront 10 = .ok (.dup, 1) := dk_89 (dk_at dksJ39_moveRootToFront_0 10 rfl rfl)
theorem dJ39_moveRootToFront_11 : decode cJ39_moveRootToFront 11 = .ok (.istore_n 2, 1) := dk_61 (dk_at dksJ39_moveRootToFront_0 11 rfl rfl)
theorem dJ39_moveRootToFront_12 : decode cJ39_moveRootToFront 12 = .ok (.ifCond .le 111, 3) := dk_158 0 111 (dk_at dksJ39_moveRootToFront_0 12 rfl rfl)
theorem dJ39_moveRootToFront_15 : decode cJ39_moveRootToFront 15 = .ok (.iload_n 2, 1) := dk_28 (dk_at dksJ39_moveRootToFront_0 15 rfl rfl)
theorem dJ39_moveRootToFront_16 : decode cJ39_moveRootToFront 16 = .ok (.iconst 1, 1) := dk_4 (dk_at dksJ39_moveRootToFront_0 16 rfl rfl)
theorem dJ39_moveRootToFront_17 : decode cJ39_moveRootToFront 17 = .ok (.isub, 1) := dk_100 (dk_at dksJ39_moveRootToFront_0 17 rfl rfl)
theorem dJ39_moveRootToFront_18 : decode cJ39_moveRootToFront 18 = .ok (.aload_n 1, 1) := dk_43 (dk_at dksJ39_moveRootToFront_0 18 rfl rfl)
theorem dJ39_moveRootToFront_19 : decode cJ39_moveRootToFront 19 = .ok (.getfield 15, 3) := dk_180 0 15 (dk_at dksJ39_moveRootToFront_0 19 rfl rfl)
theorem dJ39_moveRootToFront_22 : decode cJ39_moveRootToFront 22 = .ok (.iand, 1) := dk_126 (dk_at dksJ39_moveRootToFront_0 22 rfl rfl)
theorem dJ39_moveRootToFront_23 : decode cJ39_moveRootToFront 23 = .ok (.istore_n 3, 1) := dk_62 (dk_at dksJ39_moveRootToFront_0 23 rfl rfl)
theorem dJ39_moveRootToFront_24 : decode cJ39_moveRootToFront 24 = .ok (.aload_n 0, 1) := dk_42 (dk_at dksJ39_moveRootToFront_1 0 rfl rfl)
theorem dJ39_moveRootToFront_25 : decode cJ39_moveRootToFront 25 = .ok (.iload_n 3, 1) := dk_29 (dk_at dksJ39_moveRootToFront_1 1 rfl rfl)
theorem dJ39_moveRootToFront_26 : decode cJ39_moveRootToFront 26 = .ok (.aaload, 1) := dk_50 (dk_at dksJ39_moveRootToFront_1 2 rfl rfl)
theorem dJ39_moveRootToFront_27 : decode cJ39_moveRootToFront 27 = .ok (.checkcast 10, 3) := dk_192 0 10 (dk_at dksJ39_moveRootToFront_1 3 rfl rfl)
theorem dJ39_moveRootToFront_30 : decode cJ39_moveRootToFront 30 = .ok (.astore 4, 2) := dk_58 4 (dk_at dksJ39_moveRootToFront_1 6 rfl rfl)
theorem dJ39_moveRootToFront_32 : decode cJ39_moveRootToFront 32 = .ok (.aload_n 1, 1) := dk_43 (dk_at dksJ39_moveRootToFront_1 8 rfl rfl)
theorem dJ39_moveRootToFront_33 : decode cJ39_moveRootToFront 33 = .ok (.aload 4, 2) := dk_25 4 (dk_at dksJ39_moveRootToFront_1 9 rfl rfl)
theorem dJ39_moveRootToFront_35 : decode cJ39_moveRootToFront 35 = .ok (.if_acmp .eq 67, 3) := dk_165 0 67 (dk_at dksJ39_moveRootToFront_1 11 rfl rfl)
theorem dJ39_moveRootToFront_38 : decode cJ39_moveRootToFront 38 = .ok (.aload_n 0, 1) := dk_42 (dk_at dksJ39_moveRootToFront_1 14 rfl rfl)
theorem dJ39_moveRootToFront_39 : decode cJ39_moveRootToFront 39 = .ok (.iload_n 3, 1) := dk_29 (dk_at dksJ39_moveRootToFront_1 15 rfl rfl)
theorem dJ39_moveRootToFront_40 : decode cJ39_moveRootToFront 40 = .ok (.aload_n 1, 1) := dk_43 (dk_at dksJ39_moveRootToFront_1 16 rfl rfl)
theorem dJ39_moveRootToFront_41 : decode cJ39_moveRootToFront 41 = .ok (.aastore, 1) := dk_83 (dk_at dksJ39_moveRootToFront_1 17 rfl rfl)
theorem dJ39_moveRootToFront_42 : decode cJ39_moveRootToFront 42 = .ok (.aload_n 1, 1) := dk_43 (dk_at dksJ39_moveRootToFront_1 18 rfl rfl)
theorem dJ39_moveRootToFront_43 : decode cJ39_moveRootToFront 43 = .ok (.getfield 19, 3) := dk_180 0 19 (dk_at dksJ39_moveRootToFront_1 19 rfl rfl)
theorem dJ39_moveRootToFront_46 : decode cJ39_moveRootToFront 46 = .ok (.astore 6, 2) := dk_58 6 (dk_at dksJ39_moveRootToFront_1 22 rfl rfl)
theorem dJ39_moveRootToFront_48 : decode cJ39_moveRootToFront 48 = .ok (.aload_n 1, 1) := dk_43 (dk_at dksJ39_moveRootToFront_2 0 rfl rfl)
theorem dJ39_moveRootToFront_49 : decode cJ39_moveRootToFront 49 = .ok (.getfield 22, 3) := dk_180 0 22 (dk_at dksJ39_moveRootToFront_2 1 rfl rfl)
theorem dJ39_moveRootToFront_52 : decode cJ39_moveRootToFront 52 = .ok (.dup, 1) := dk_89 (dk_at dksJ39_moveRootToFront_2 4 rfl rfl)
theorem dJ39_moveRootToFront_53 : decode cJ39_moveRootToFront 53 = .ok (.astore 5, 2) := dk_58 5 (dk_at dksJ39_moveRootToFront_2 5 rfl rfl)
theorem dJ39_moveRootToFront_55 : decode cJ39_moveRootToFront 55 = .ok (.ifnull 13, 3) := dk_198 0 13 (dk_at dksJ39_moveRootToFront_2 7 rfl rfl)
theorem dJ39_moveRootToFront_58 : decode cJ39_moveRootToFront 58 = .ok (.aload 5, 2) := dk_25 5 (dk_at dksJ39_moveRootToFront_2 10 rfl rfl)
theorem dJ39_moveRootToFront_60 : decode cJ39_moveRootToFront 60 = .ok (.checkcast 10, 3) := dk_192 0 10 (dk_at dksJ39_moveRootToFront_2 12 rfl rfl)
theorem dJ39_moveRootToFront_63 : decode cJ39_moveRootToFront 63 = .ok (.aload 6, 2) := dk_25 6 (dk_at dksJ39_moveRootToFront_2 15 rfl rfl)
theorem dJ39_moveRootToFront_65 : decode cJ39_moveRootToFront 65 = .ok (.putfield 19, 3) := dk_181 0 19 (dk_at dksJ39_moveRootToFront_2 17 rfl rfl)
theorem dJ39_moveRootToFront_68 : decode cJ39_moveRootToFront 68 = .ok (.aload 6, 2) := dk_25 6 (dk_at dksJ39_moveRootToFront_2 20 rfl rfl)
theorem dJ39_moveRootToFront_70 : decode cJ39_moveRootToFront 70 = .ok (.ifnull 10, 3) := dk_198 0 10 (dk_at dksJ39_moveRootToFront_3 0 rfl rfl)
theorem dJ39_moveRootToFront_73 : decode cJ39_moveRootToFront 73 = .ok (.aload 6, 2) := dk_25 6 (dk_at dksJ39_moveRootToFront_3 3 rfl rfl)
theorem dJ39_moveRootToFront_75 : decode cJ39_moveRootToFront 75 = .ok (.aload 5, 2) := dk_25 5 (dk_at dksJ39_moveRootToFront_3 5 rfl rfl)
theorem dJ39_moveRootToFront_77 : decode cJ39_moveRootToFront 77 = .ok (.putfield 22, 3) := dk_181 0 22 (dk_at dksJ39_moveRootToFront_3 7 rfl rfl)
theorem dJ39_moveRootToFront_80 : decode cJ39_moveRootToFront 80 = .ok (.aload 4, 2) := dk_25 4 (dk_at dksJ39_moveRootToFront_3 10 rfl rfl)
theorem dJ39_moveRootToFront_82 : decode cJ39_moveRootToFront 82 = .ok (.ifnull 9, 3) := dk_198 0 9 (dk_at dksJ39_moveRootToFront_3 12 rfl rfl)
theorem dJ39_moveRootToFront_85 : decode cJ39_moveRootToFront 85 = .ok (.aload 4, 2) := dk_25 4 (dk_at dksJ39_moveRootToFront_3 15 rfl rfl)
theorem dJ39_moveRootToFront_87 : decode cJ39_moveRootToFront 87 = .ok (.aload_n 1, 1) := dk_43 (dk_at dksJ39_moveRootToFront_3 17 rfl rfl)
theorem dJ39_moveRootToFront_88 : decode cJ39_moveRootToFront 88 = .ok (.putfield 19, 3) := dk_181 0 19 (dk_at dksJ39_moveRootToFront_3 18 rfl rfl)
theorem dJ39_moveRootToFront_91 : decode cJ39_moveRootToFront 91 = .ok (.aload_n 1, 1) := dk_43 (dk_at dksJ39_moveRootToFront_3 21 rfl rfl)
theorem dJ39_moveRootToFront_92 : decode cJ39_moveRootToFront 92 = .ok (.aload 4, 2) := dk_25 4 (dk_at dksJ39_moveRootToFront_3 22 rfl rfl)
theorem dJ39_moveRootToFront_94 : decode cJ39_moveRootToFront 94 = .ok (.putfield 22, 3) := dk_181 0 22 (dk_at dksJ39_moveRootToFront_4 0 rfl rfl)
theorem dJ39_moveRootToFront_97 : decode cJ39_moveRootToFront 97 = .ok (.aload_n 1, 1) := dk_43 (dk_at dksJ39_moveRootToFront_4 3 rfl rfl)
theorem dJ39_moveRootToFront_98 : decode cJ39_moveRootToFront 98 = .ok (.aconst_null, 1) := dk_1 (dk_at dksJ39_moveRootToFront_4 4 rfl rfl)
theorem dJ39_moveRootToFront_99 : decode cJ39_moveRootToFront 99 = .ok (.putfield 19, 3) := dk_181 0 19 (dk_at dksJ39_moveRootToFront_4 5 rfl rfl)
theorem dJ39_moveRootToFront_102 : decode cJ39_moveRootToFront 102 = .ok (.getstatic 26, 3) := dk_178 0 26 (dk_at dksJ39_moveRootToFront_4 8 rfl rfl)
theorem dJ39_moveRootToFront_105 : decode cJ39_moveRootToFront 105 = .ok (.ifCond .ne 18, 3) := dk_154 0 18 (dk_at dksJ39_moveRootToFront_4 11 rfl rfl)
theorem dJ39_moveRootToFront_108 : decode cJ39_moveRootToFront 108 = .ok (.aload_n 1, 1) := dk_43 (dk_at dksJ39_moveRootToFront_4 14 rfl rfl)
theorem dJ39_moveRootToFront_109 : decode cJ39_moveRootToFront 109 = .ok (.invokestatic 30, 3) := dk_184 0 30 (dk_at dksJ39_moveRootToFront_4 15 rfl rfl)
theorem dJ39_moveRootToFront_112 : decode cJ39_moveRootToFront 112 = .ok (.ifCond .ne 11, 3) := dk_154 0 11 (dk_at dksJ39_moveRootToFront_4 18 rfl rfl)
theorem dJ39_moveRootToFront_115 : decode cJ39_moveRootToFront 115 = .ok (.new 34, 3) := dk_187 0 34 (dk_at dksJ39_moveRootToFront_4 21 rfl rfl)
theorem dJ39_moveRootToFront_118 : decode cJ39_moveRootToFront 118 = .ok (.dup, 1) := dk_89 (dk_at dksJ39_moveRootToFront_5 0 rfl rfl)
theorem dJ39_moveRootToFront_119 : decode cJ39_moveRootToFront 119 = .ok (.invokespecial 36, 3) := dk_183 0 36 (dk_at dksJ39_moveRootToFront_5 1 rfl rfl)
theorem dJ39_moveRootToFront_122 : decode cJ39_moveRootToFront 122 = .ok (.athrow, 1) := dk_191 (dk_at dksJ39_moveRootToFront_5 4 rfl rfl)
theorem dJ39_moveRootToFront_123 : decode cJ39_moveRootToFront 123 = .ok (.return_, 1) := dk_177 (dk_at dksJ39_moveRootToFront_5 5 rfl rfl)
abbrev cJ39_putTreeVal : ByteArray := prog_74_method_9_code
def yJ39_putTreeVal : MethodName := ⟨RJ39, "putTreeVal", "(Ljava/util/HashMap;[Ljava/util/HashMap$Node;ILjava/lang/Object;Ljava/lang/Object;)Ljava/util/HashMap$TreeNode;"⟩
def dkwJ39_putTreeVal_13 : List UInt8 := [184, 0, 100, 184, 0, 104, 1, 176, 167, 254, 228]
abbrev dktJ39_putTreeVal_13 : List UInt8 := dkwJ39_putTreeVal_13 ++ []
def dkwJ39_putTreeVal_12 : List UInt8 := [181, 0, 9, 25, 14, 198, 0, 13, 25, 14, 192, 0, 10, 25, 15, 181, 0, 19, 44, 25, 8, 25, 15]
abbrev dktJ39_putTreeVal_12 : List UInt8 := dkwJ39_putTreeVal_12 ++ dktJ39_putTreeVal_13
def dkwJ39_putTreeVal_11 : List UInt8 := [25, 15, 181, 0, 42, 25, 13, 25, 15, 181, 0, 22, 25, 15, 25, 15, 25, 13, 90, 181, 0, 19]
abbrev dktJ39_putTreeVal_11 : List UInt8 := dkwJ39_putTreeVal_11 ++ dktJ39_putTreeVal_12
def dkwJ39_putTreeVal_10 : List UInt8 := [25, 14, 182, 0, 115, 58, 15, 21, 10, 157, 0, 13, 25, 13, 25, 15, 181, 0, 39, 167, 0, 10, 25, 13]
abbrev dktJ39_putTreeVal_10 : List UInt8 := dkwJ39_putTreeVal_10 ++ dktJ39_putTreeVal_11
def dkwJ39_putTreeVal_9 : List UInt8 := [25, 9, 180, 0, 42, 89, 58, 9, 199, 0, 93, 25, 13, 180, 0, 22, 58, 14, 43, 29, 25, 4, 25, 5]
abbrev dktJ39_putTreeVal_9 : List UInt8 := dkwJ39_putTreeVal_9 ++ dktJ39_putTreeVal_10
def dkwJ39_putTreeVal_8 : List UInt8 := [25, 12, 184, 0, 96, 54, 10, 25, 9, 58, 13, 21, 10, 157, 0, 11, 25, 9, 180, 0, 39, 167, 0, 8]
abbrev dktJ39_putTreeVal_8 : List UInt8 := dkwJ39_putTreeVal_8 ++ dktJ39_putTreeVal_9
def dkwJ39_putTreeVal_7 : List UInt8 := [198, 0, 22, 25, 14, 29, 25, 4, 25, 6, 182, 0, 63, 89, 58, 13, 198, 0, 6, 25, 13, 176, 25, 4]
abbrev dktJ39_putTreeVal_7 : List UInt8 := dkwJ39_putTreeVal_7 ++ dktJ39_putTreeVal_8
def dkwJ39_putTreeVal_6 : List UInt8 := [29, 25, 4, 25, 6, 182, 0, 63, 89, 58, 13, 199, 0, 30, 25, 9, 180, 0, 42, 89, 58, 14]
abbrev dktJ39_putTreeVal_6 : List UInt8 := dkwJ39_putTreeVal_6 ++ dktJ39_putTreeVal_7
def dkwJ39_putTreeVal_5 : List UInt8 := [154, 0, 77, 21, 7, 154, 0, 63, 4, 54, 7, 25, 9, 180, 0, 39, 89, 58, 14, 198, 0, 19, 25, 14]
abbrev dktJ39_putTreeVal_5 : List UInt8 := dkwJ39_putTreeVal_5 ++ dktJ39_putTreeVal_6
def dkwJ39_putTreeVal_4 : List UInt8 := [25, 4, 184, 0, 55, 89, 58, 6, 198, 0, 18, 25, 6, 25, 4, 25, 12, 184, 0, 59, 89, 54, 10]
abbrev dktJ39_putTreeVal_4 : List UInt8 := dkwJ39_putTreeVal_4 ++ dktJ39_putTreeVal_5
def dkwJ39_putTreeVal_3 : List UInt8 := [25, 4, 198, 0, 16, 25, 4, 25, 12, 182, 0, 49, 153, 0, 6, 25, 9, 176, 25, 6, 199, 0, 14]
abbrev dktJ39_putTreeVal_3 : List UInt8 := dkwJ39_putTreeVal_3 ++ dktJ39_putTreeVal_4
def dkwJ39_putTreeVal_2 : List UInt8 := [29, 162, 0, 9, 4, 54, 10, 167, 0, 139, 25, 9, 180, 0, 45, 89, 58, 12, 25, 4, 165, 0, 18]
abbrev dktJ39_putTreeVal_2 : List UInt8 := dkwJ39_putTreeVal_2 ++ dktJ39_putTreeVal_3
def dkwJ39_putTreeVal_1 : List UInt8 := [25, 8, 58, 9, 25, 9, 180, 0, 15, 89, 54, 11, 29, 164, 0, 9, 2, 54, 10, 167, 0, 151, 21, 11]
abbrev dktJ39_putTreeVal_1 : List UInt8 := dkwJ39_putTreeVal_1 ++ dktJ39_putTreeVal_2
def dkwJ39_putTreeVal_0 : List UInt8 := [1, 58, 6, 3, 54, 7, 42, 180, 0, 9, 198, 0, 10, 42, 182, 0, 67, 167, 0, 4, 42, 58, 8]
abbrev dktJ39_putTreeVal_0 : List UInt8 := dkwJ39_putTreeVal_0 ++ dktJ39_putTreeVal_1
theorem dksJ39_putTreeVal_0 : cJ39_putTreeVal.data.toList.drop 0 = dktJ39_putTreeVal_0 := by decide +kernel
theorem dksJ39_putTreeVal_1 : cJ39_putTreeVal.data.toList.drop 23 = dktJ39_putTreeVal_1 := dk_seg dksJ39_putTreeVal_0 23 rfl rfl
theorem dksJ39_putTreeVal_2 : cJ39_putTreeVal.data.toList.drop 47 = dktJ39_putTreeVal_2 := dk_seg dksJ39_putTreeVal_1 24 rfl rfl
theorem dksJ39_putTreeVal_3 : cJ39_putTreeVal.data.toList.drop 70 = dktJ39_putTreeVal_3 := dk_seg dksJ39_putTreeVal_2 23 rfl rfl
theorem dksJ39_putTreeVal_4 : cJ39_putTreeVal.data.toList.drop 93 = dktJ39_putTreeVal_4 := dk_seg dksJ39_putTreeVal_3 23 rfl rfl
theorem dksJ39_putTreeVal_5 : cJ39_putTreeVal.data.toList.drop 116 = dktJ39_putTreeVal_5 := dk_seg dksJ39_putTreeVal_4 23 rfl rfl
theorem dksJ39_putTreeVal_6 : cJ39_putTreeVal.data.toList.drop 140 = dktJ39_putTreeVal_6 := dk_seg dksJ39_putTreeVal_5 24 rfl rfl
theorem dksJ39_putTreeVal_7 : cJ39_putTreeVal.data.toList.drop 162 = dktJ39_putTreeVal_7 := dk_seg dksJ39_putTreeVal_6 22 rfl rfl
theorem dksJ39_putTreeVal_8 : cJ39_putTreeVal.data.toList.drop 186 = dktJ39_putTreeVal_8 := dk_seg dksJ39_putTreeVal_7 24 rfl rfl
theorem dksJ39_putTreeVal_9 : cJ39_putTreeVal.data.toList.drop 210 = dktJ39_putTreeVal_9 := dk_seg dksJ39_putTreeVal_8 24 rfl rfl
theorem dksJ39_putTreeVal_10 : cJ39_putTreeVal.data.toList.drop 234 = dktJ39_putTreeVal_10 := dk_seg dksJ39_putTreeVal_9 24 rfl rfl
theorem dksJ39_putTreeVal_11 : cJ39_putTreeVal.data.toList.drop 258 = dktJ39_putTreeVal_11 := dk_seg dksJ39_putTreeVal_10 24 rfl rfl
theorem dksJ39_putTreeVal_12 : cJ39_putTreeVal.data.toList.drop 280 = dktJ39_putTreeVal_12 := dk_seg dksJ39_putTreeVal_11 22 rfl rfl
theorem dksJ39_putTreeVal_13 : cJ39_putTreeVal.data.toList.drop 303 = dktJ39_putTreeVal_13 := dk_seg dksJ39_putTreeVal_12 23 rfl rfl
theorem dJ39_putTreeVal_0 : decode cJ39_putTreeVal 0 = .ok (.aconst_null, 1) := dk_1 (dk_at dksJ39_putTreeVal_0 0 rfl rfl)
theorem dJ39_putTreeVal_1 : decode cJ39_putTreeVal 1 = .ok (.astore 6, 2) := dk_58 6 (dk_at dksJ39_putTreeVal_0 1 rfl rfl)
theorem dJ39_putTreeVal_3 : decode cJ39_putTreeVal 3 = .ok (.iconst 0, 1) := dk_3 (dk_at dksJ39_putTreeVal_0 3 rfl rfl)
theorem dJ39_putTreeVal_4 : decode cJ39_putTreeVal 4 = .ok (.istore 7, 2) := dk_54 7 (dk_at dksJ39_putTreeVal_0 4 rfl rfl)
theorem dJ39_putTreeVal_6 : decode cJ39_putTreeVal 6 = .ok (.aload_n 0, 1) := dk_42 (dk_at dksJ39_putTreeVal_0 6 rfl rfl)
theorem dJ39_putTreeVal_7 : decode cJ39_putTreeVal 7 = .ok (.getfield 9, 3) := dk_180 0 9 (dk_at dksJ39_putTreeVal_0 7 rfl rfl)
theorem dJ39_putTreeVal_10 : decode cJ39_putTreeVal 10 = .ok (.ifnull 10, 3) := dk_198 0 10 (dk_at dksJ39_putTreeVal_0 10 rfl rfl)
theorem dJ39_putTreeVal_13 : decode cJ39_putTreeVal 13 = .ok (.aload_n 0, 1) := dk_42 (dk_at dksJ39_putTreeVal_0 13 rfl rfl)
theorem dJ39_putTreeVal_14 : decode cJ39_putTreeVal 14 = .ok (.invokevirtual 67, 3) := dk_182 0 67 (dk_at dksJ39_putTreeVal_0 14 rfl rfl)
theorem dJ39_putTreeVal_17 : decode cJ39_putTreeVal 17 = .ok (.goto 4, 3) := dk_167 0 4 (dk_at dksJ39_putTreeVal_0 17 rfl rfl)
theorem dJ39_putTreeVal_20 : decode cJ39_putTreeVal 20 = .ok (.aload_n 0, 1) := dk_42 (dk_at dksJ39_putTreeVal_0 20 rfl rfl)
theorem dJ39_putTreeVal_21 : decode cJ39_putTreeVal 21 = .ok (.astore 8, 2) := dk_58 8 (dk_at dksJ39_putTreeVal_0 21 rfl rfl)
theorem dJ39_putTreeVal_23 : decode cJ39_putTreeVal 23 = .ok (.aload 8, 2) := dk_25 8 (dk_at dksJ39_putTreeVal_1 0 rfl rfl)
theorem dJ39_putTreeVal_25 : decode cJ39_putTreeVal 25 = .ok (.astore 9, 2) := dk_58 9 (dk_at dksJ39_putTreeVal_1 2 rfl rfl)
theorem dJ39_putTreeVal_27 : decode cJ39_putTreeVal 27 = .ok (.aload 9, 2) := dk_25 9 (dk_at dksJ39_putTreeVal_1 4 rfl rfl)
theorem dJ39_putTreeVal_29 : decode cJ39_putTreeVal 29 = .ok (.getfield 15, 3) := dk_180 0 15 (dk_at dksJ39_putTreeVal_1 6 rfl rfl)
theorem dJ39_putTreeVal_32 : decode cJ39_putTreeVal 32 = .ok (.dup, 1) := dk_89 (dk_at dksJ39_putTreeVal_1 9 rfl rfl)
theorem dJ39_putTreeVal_33 : decode cJ39_putTreeVal 33 = .ok (.istore 11, 2) := dk_54 11 (dk_at dksJ39_putTreeVal_1 10 rfl rfl)
theorem dJ39_putTreeVal_35 : decode cJ39_putTreeVal 35 = .ok (.iload_n 3, 1) := dk_29 (dk_at dksJ39_putTreeVal_1 12 rfl rfl)
theorem dJ39_putTreeVal_36 : decode cJ39_putTreeVal 36 = .ok (.if_icmp .le 9, 3) := dk_164 0 9 (dk_at dksJ39_putTreeVal_1 13 rfl rfl)
theorem dJ39_putTreeVal_39 : decode cJ39_putTreeVal 39 = .ok (.iconst (-1), 1) := dk_2 (dk_at dksJ39_putTreeVal_1 16 rfl rfl)
theorem dJ39_putTreeVal_40 : decode cJ39_putTreeVal 40 = .ok (.istore 10, 2) := dk_54 10 (dk_at dksJ39_putTreeVal_1 17 rfl rfl)
theorem dJ39_putTreeVal_42 : decode cJ39_putTreeVal 42 = .ok (.goto 151, 3) := dk_167 0 151 (dk_at dksJ39_putTreeVal_1 19 rfl rfl)
theorem dJ39_putTreeVal_45 : decode cJ39_putTreeVal 45 = .ok (.iload 11, 2) := dk_21 11 (dk_at dksJ39_putTreeVal_1 22 rfl rfl)
theorem dJ39_putTreeVal_47 : decode cJ39_putTreeVal 47 = .ok (.iload_n 3, 1) := dk_29 (dk_at dksJ39_putTreeVal_2 0 rfl rfl)
theorem dJ39_putTreeVal_48 : decode cJ39_putTreeVal 48 = .ok (.if_icmp .ge 9, 3) := dk_162 0 9 (dk_at dksJ39_putTreeVal_2 1 rfl rfl)
theorem dJ39_putTreeVal_51 : decode cJ39_putTreeVal 51 = .ok (.iconst 1, 1) := dk_4 (dk_at dksJ39_putTreeVal_2 4 rfl rfl)
theorem dJ39_putTreeVal_52 : decode cJ39_putTreeVal 52 = .ok (.istore 10, 2) := dk_54 10 (dk_at dksJ39_putTreeVal_2 5 rfl rfl)
theorem dJ39_putTreeVal_54 : decode cJ39_putTreeVal 54 = .ok (.goto 139, 3) := dk_167 0 139 (dk_at dksJ39_putTreeVal_2 7 rfl rfl)
theorem dJ39_putTreeVal_57 : decode cJ39_putTreeVal 57 = .ok (.aload 9, 2) := dk_25 9 (dk_at dksJ39_putTreeVal_2 10 rfl rfl)
theorem dJ39_putTreeVal_59 : decode cJ39_putTreeVal 59 = .ok (.getfield 45, 3) := dk_180 0 45 (dk_at dksJ39_putTreeVal_2 12 rfl rfl)
theorem dJ39_putTreeVal_62 : decode cJ39_putTreeVal 62 = .ok (.dup, 1) := dk_89 (dk_at dksJ39_putTreeVal_2 15 rfl rfl)
theorem dJ39_putTreeVal_63 : decode cJ39_putTreeVal 63 = .ok (.astore 12, 2) := dk_58 12 (dk_at dksJ39_putTreeVal_2 16 rfl rfl)
theorem dJ39_putTreeVal_65 : decode cJ39_putTreeVal 65 = .ok (.aload 4, 2) := dk_25 4 (dk_at dksJ39_putTreeVal_2 18 rfl rfl)
theorem dJ39_putTreeVal_67 : decode cJ39_putTreeVal 67 = .ok (.if_acmp .eq 18, 3) := dk_165 0 18 (dk_at dksJ39_putTreeVal_2 20 rfl rfl)
theorem dJ39_putTreeVal_70 : decode cJ39_putTreeVal 70 = .ok (.aload 4, 2) := dk_25 4 (dk_at dksJ39_putTreeVal_3 0 rfl rfl)
theorem dJ39_putTreeVal_72 : decode cJ39_putTreeVal 72 = .ok (.ifnull 16, 3) := dk_198 0 16 (dk_at dksJ39_putTreeVal_3 2 rfl rfl)
theorem dJ39_putTreeVal_75 : decode cJ39_putTreeVal 75 = .ok (.aload 4, 2) := dk_25 4 (dk_at dksJ39_putTreeVal_3 5 rfl rfl)
theorem dJ39_putTreeVal_77 : decode cJ39_putTreeVal 77 = .ok (.aload 12, 2) := dk_25 12 (dk_at dksJ39_putTreeVal_3 7 rfl rfl)
theorem dJ39_putTreeVal_79 : decode cJ39_putTreeVal 79 = .ok (.invokevirtual 49, 3) := dk_182 0 49 (dk_at dksJ39_putTreeVal_3 9 rfl rfl)
theorem dJ39_putTreeVal_82 : decode cJ39_putTreeVal 82 = .ok (.ifCond .eq 6, 3) := dk_153 0 6 (dk_at dksJ39_putTreeVal_3 12 rfl rfl)
theorem dJ39_putTreeVal_85 : decode cJ39_putTreeVal 85 = .ok (.aload 9, 2) := dk_25 9 (dk_at dksJ39_putTreeVal_3 15 rfl rfl)
theorem dJ39_putTreeVal_87 : decode cJ39_putTreeVal 87 = .ok (.areturn, 1) := dk_176 (dk_at dksJ39_putTreeVal_3 17 rfl rfl)
theorem dJ39_putTreeVal_88 : decode cJ39_putTreeVal 88 = .ok (.aload 6, 2) := dk_25 6 (dk_at dksJ39_putTreeVal_3 18 rfl rfl)
theorem dJ39_putTreeVal_90 : decode cJ39_putTreeVal 90 = .ok (.ifnonnull 14, 3) := dk_199 0 14 (dk_at dksJ39_putTreeVal_3 20 rfl rfl)
theorem dJ39_putTreeVal_93 : decode cJ39_putTreeVal 93 = .ok (.aload 4, 2) := dk_25 4 (dk_at dksJ39_putTreeVal_4 0 rfl rfl)
theorem dJ39_putTreeVal_95 : decode cJ39_putTreeVal 95 = .ok (.invokestatic 55, 3) := dk_184 0 55 (dk_at dksJ39_putTreeVal_4 2 rfl rfl)
theorem dJ39_putTreeVal_98 : decode cJ39_putTreeVal 98 = .ok (.dup, 1) := dk_89 (dk_at dksJ39_putTreeVal_4 5 rfl rfl)
theorem dJ39_putTreeVal_99 : decode cJ39_putTreeVal 99 = .ok (.astore 6, 2) := dk_58 6 (dk_at dksJ39_putTreeVal_4 6 rfl rfl)
theorem dJ39_putTreeVal_101 : decode cJ39_putTreeVal 101 = .ok (.ifnull 18, 3) := dk_198 0 18 (dk_at dksJ39_putTreeVal_4 8 rfl rfl)
theorem dJ39_putTreeVal_104 : decode cJ39_putTreeVal 104 = .ok (.aload 6, 2) := dk_25 6 (dk_at dksJ39_putTreeVal_4 11 rfl rfl)
theorem dJ39_putTreeVal_106 : decode cJ39_putTreeVal 106 = .ok (.aload 4, 2) := dk_25 4 (dk_at dksJ39_putTreeVal_4 13 rfl rfl)
theorem dJ39_putTreeVal_108 : decode cJ39_putTreeVal 108 = .ok (.aload 12, 2) := dk_25 12 (dk_at dksJ39_putTreeVal_4 15 rfl rfl)
theorem dJ39_putTreeVal_110 : decode cJ39_putTreeVal 110 = .ok (.invokestatic 59, 3) := dk_184 0 59 (dk_at dksJ39_putTreeVal_4 17 rfl rfl)
theorem dJ39_putTreeVal_113 : decode cJ39_putTreeVal 113 = .ok (.dup, 1) := dk_89 (dk_at dksJ39_putTreeVal_4 20 rfl rfl)
theorem dJ39_putTreeVal_114 : decode cJ39_putTreeVal 114 = .ok (.istore 10, 2) := dk_54 10 (dk_at dksJ39_putTreeVal_4 21 rfl rfl)
theorem dJ39_putTreeVal_116 : decode cJ39_putTreeVal 116 = .ok (.ifCond .ne 77, 3) := dk_154 0 77 (dk_at dksJ39_putTreeVal_5 0 rfl rfl)
theorem dJ39_putTreeVal_119 : decode cJ39_putTreeVal 119 = .ok (.iload 7, 2) := dk_21 7 (dk_at dksJ39_putTreeVal_5 3 rfl rfl)
theorem dJ39_putTreeVal_121 : decode cJ39_putTreeVal 121 = .ok (.ifCond .ne 63, 3) := dk_154 0 63 (dk_at dksJ39_putTreeVal_5 5 rfl rfl)
theorem dJ39_putTreeVal_124 : decode cJ39_putTreeVal 124 = .ok (.iconst 1, 1) := dk_4 (dk_at dksJ39_putTreeVal_5 8 rfl rfl)
theorem dJ39_putTreeVal_125 : decode cJ39_putTreeVal 125 = .ok (.istore 7, 2) := dk_54 7 (dk_at dksJ39_putTreeVal_5 9 rfl rfl)
theorem dJ39_putTreeVal_127 : decode cJ39_putTreeVal 127 = .ok (.aload 9, 2) := dk_25 9 (dk_at dksJ39_putTreeVal_5 11 rfl rfl)
theorem dJ39_putTreeVal_129 : decode cJ39_putTreeVal 129 = .ok (.getfield 39, 3) := dk_180 0 39 (dk_at dksJ39_putTreeVal_5 13 rfl rfl)
theorem dJ39_putTreeVal_132 : decode cJ39_putTreeVal 132 = .ok (.dup, 1) := dk_89 (dk_at dksJ39_putTreeVal_5 16 rfl rfl)
theorem dJ39_putTreeVal_133 : decode cJ39_putTreeVal 133 = .ok (.astore 14, 2) := dk_58 14 (dk_at dksJ39_putTreeVal_5 17 rfl rfl)
theorem dJ39_putTreeVal_135 : decode cJ39_putTreeVal 135 = .ok (.ifnull 19, 3) := dk_198 0 19 (dk_at dksJ39_putTreeVal_5 19 rfl rfl)
theorem dJ39_putTreeVal_138 : decode cJ39_putTreeVal 138 = .ok (.aload 14, 2) := dk_25 14 (dk_at dksJ39_putTreeVal_5 22 rfl rfl)
theorem dJ39_putTreeVal_140 : decode cJ39_putTreeVal 140 = .ok (.iload_n 3, 1) := dk_29 (dk_at dksJ39_putTreeVal_6 0 rfl rfl)
theorem dJ39_putTreeVal_141 : decode cJ39_putTreeVal 141 = .ok (.aload 4, 2) := dk_25 4 (dk_at dksJ39_putTreeVal_6 1 rfl rfl)
theorem dJ39_putTreeVal_143 : decode cJ39_putTreeVal 143 = .ok (.aload 6, 2) := dk_25 6 (dk_at dksJ39_putTreeVal_6 3 rfl rfl)
theorem dJ39_putTreeVal_145 : decode cJ39_putTreeVal 145 = .ok (.invokevirtual 63, 3) := dk_182 0 63 (dk_at dksJ39_putTreeVal_6 5 rfl rfl)
theorem dJ39_putTreeVal_148 : decode cJ39_putTreeVal 148 = .ok (.dup, 1) := dk_89 (dk_at dksJ39_putTreeVal_6 8 rfl rfl)
theorem dJ39_putTreeVal_149 : decode cJ39_putTreeVal 149 = .ok (.astore 13, 2) := dk_58 13 (dk_at dksJ39_putTreeVal_6 9 rfl rfl)
theorem dJ39_putTreeVal_151 : decode cJ39_putTreeVal 151 = .ok (.ifnonnull 30, 3) := dk_199 0 30 (dk_at dksJ39_putTreeVal_6 11 rfl rfl)
theorem dJ39_putTreeVal_154 : decode cJ39_putTreeVal 154 = .ok (.aload 9, 2) := dk_25 9 (dk_at dksJ39_putTreeVal_6 14 rfl rfl)
theorem dJ39_putTreeVal_156 : decode cJ39_putTreeVal 156 = .ok (.getfield 42, 3) := dk_180 0 42 (dk_at dksJ39_putTreeVal_6 16 rfl rfl)
theorem dJ39_putTreeVal_159 : decode cJ39_putTreeVal 159 = .ok (.dup, 1) := dk_89 (dk_at dksJ39_putTreeVal_6 19 rfl rfl)
theorem dJ39_putTreeVal_160 : decode cJ39_putTreeVal 160 = .ok (.astore 14, 2) := dk_58 14 (dk_at dksJ39_putTreeVal_6 20 rfl rfl)
theorem dJ39_putTreeVal_162 : decode cJ39_putTreeVal 162 = .ok (.ifnull 22, 3) := dk_198 0 22 (dk_at dksJ39_putTreeVal_7 0 rfl rfl)
theorem dJ39_putTreeVal_165 : decode cJ39_putTreeVal 165 = .ok (.aload 14, 2) := dk_25 14 (dk_at dksJ39_putTreeVal_7 3 rfl rfl)
theorem dJ39_putTreeVal_167 : decode cJ39_putTreeVal 167 = .ok (.iload_n 3, 1) := dk_29 (dk_at dksJ39_putTreeVal_7 5 rfl rfl)
theorem dJ39_putTreeVal_168 : decode cJ39_putTreeVal 168 = .ok (.aload 4, 2) := dk_25 4 (dk_at dksJ39_putTreeVal_7 6 rfl rfl)
theorem dJ39_putTreeVal_170 : decode cJ39_putTreeVal 170 = .ok (.aload 6, 2) := dk_25 6 (dk_at dksJ39_putTreeVal_7 8 rfl rfl)
theorem dJ39_putTreeVal_172 : decode cJ39_putTreeVal 172 = .ok (.invokevirtual 63, 3) := dk_182 0 63 (dk_at dksJ39_putTreeVal_7 10 rfl rfl)
theorem dJ39_putTreeVal_175 : decode cJ39_putTreeVal 175 = .ok (.dup, 1) := dk_89 (dk_at dksJ39_putTreeVal_7 13 rfl rfl)
theorem dJ39_putTreeVal_176 : decode cJ39_putTreeVal 176 = .ok (.astore 13, 2) := dk_58 13 (dk_at dksJ39_putTreeVal_7 14 rfl rfl)
theorem dJ39_putTreeVal_178 : decode cJ39_putTreeVal 178 = .ok (.ifnull 6, 3) := dk_198 0 6 (dk_at dksJ39_putTreeVal_7 16 rfl rfl)
theorem dJ39_putTreeVal_181 : decode cJ39_putTreeVal 181 = .ok (.aload 13, 2) := dk_25 13 (dk_at dksJ39_putTreeVal_7 19 rfl rfl)
theorem dJ39_putTreeVal_183 : decode cJ39_putTreeVal 183 = .ok (.areturn, 1) := dk_176 (dk_at dksJ39_putTreeVal_7 21 rfl rfl)
theorem dJ39_putTreeVal_184 : decode cJ39_putTreeVal 184 = .ok (.aload 4, 2) := dk_25 4 (dk_at dksJ39_putTreeVal_7 22 rfl rfl)
theorem dJ39_putTreeVal_186 : decode cJ39_putTreeVal 186 = .ok (.aload 12, 2) := dk_25 12 (dk_at dksJ39_putTreeVal_8 0 rfl rfl)
theorem dJ39_putTreeVal_188 : decode cJ39_putTreeVal 188 = .ok (.invokestatic 96, 3) := dk_184 0 96 (dk_at dksJ39_putTreeVal_8 2 rfl rfl)
theorem dJ39_putTreeVal_191 : decode cJ39_putTreeVal 191 = .ok (.istore 10, 2) := dk_54 10 (dk_at dksJ39_putTreeVal_8 5 rfl rfl)
theorem dJ39_putTreeVal_193 : decode cJ39_putTreeVal 193 = .ok (.aload 9, 2) := dk_25 9 (dk_at dksJ39_putTreeVal_8 7 rfl rfl)
theorem dJ39_putTreeVal_195 : decode cJ39_putTreeVal 195 = .ok (.astore 13, 2) := dk_58 13 (dk_at dksJ39_putTreeVal_8 9 rfl rfl)
theorem dJ39_putTreeVal_197 : decode cJ39_putTreeVal 197 = .ok (.iload 10, 2) := dk_21 10 (dk_at dksJ39_putTreeVal_8 11 rfl rfl)
theorem dJ39_putTreeVal_199 : decode cJ39_putTreeVal 199 = .ok (.ifCond .gt 11, 3) := dk_157 0 11 (dk_at dksJ39_putTreeVal_8 13 rfl rfl)
theorem dJ39_putTreeVal_202 : decode cJ39_putTreeVal 202 = .ok (.aload 9, 2) := dk_25 9 (dk_at dksJ39_putTreeVal_8 16 rfl rfl)
theorem dJ39_putTreeVal_204 : decode cJ39_putTreeVal 204 = .ok (.getfield 39, 3) := dk_180 0 39 (dk_at dksJ39_putTreeVal_8 18 rfl rfl)
theorem dJ39_putTreeVal_207 : decode cJ39_putTreeVal 207 = .ok (.goto 8, 3) := dk_167 0 8 (dk_at dksJ39_putTreeVal_8 21 rfl rfl)
theorem dJ39_putTreeVal_210 : decode cJ39_putTreeVal 210 = .ok (.aload 9, 2) := dk_25 9 (dk_at dksJ39_putTreeVal_9 0 rfl rfl)
theorem dJ39_putTreeVal_212 : decode cJ39_putTreeVal 212 = .ok (.getfield 42, 3) := dk_180 0 42 (dk_at dksJ39_putTreeVal_9 2 rfl rfl)
theorem dJ39_putTreeVal_215 : decode cJ39_putTreeVal 215 = .ok (.dup, 1) := dk_89 (dk_at dksJ39_putTreeVal_9 5 rfl rfl)
theorem dJ39_putTreeVal_216 : decode cJ39_putTreeVal 216 = .ok (.astore 9, 2) := dk_58 9 (dk_at dksJ39_putTreeVal_9 6 rfl rfl)
theorem dJ39_putTreeVal_218 : decode cJ39_putTreeVal 218 = .ok (.ifnonnull 93, 3) := dk_199 0 93 (dk_at dksJ39_putTreeVal_9 8 rfl rfl)
theorem dJ39_putTreeVal_221 : decode cJ39_putTreeVal 221 = .ok (.aload 13, 2) := dk_25 13 (dk_at dksJ39_putTreeVal_9 11 rfl rfl)
theorem dJ39_putTreeVal_223 : decode cJ39_putTreeVal 223 = .ok (.getfield 22, 3) := dk_180 0 22 (dk_at dksJ39_putTreeVal_9 13 rfl rfl)
theorem dJ39_putTreeVal_226 : decode cJ39_putTreeVal 226 = .ok (.astore 14, 2) := dk_58 14 (dk_at dksJ39_putTreeVal_9 16 rfl rfl)
theorem dJ39_putTreeVal_228 : decode cJ39_putTreeVal 228 = .ok (.aload_n 1, 1) := dk_43 (dk_at dksJ39_putTreeVal_9 18 rfl rfl)
theorem dJ39_putTreeVal_229 : decode cJ39_putTreeVal 229 = .ok (.iload_n 3, 1) := dk_29 (dk_at dksJ39_putTreeVal_9 19 rfl rfl)
theorem dJ39_putTreeVal_230 : decode cJ39_putTreeVal 230 = .ok (.aload 4, 2) := dk_25 4 (dk_at dksJ39_putTreeVal_9 20 rfl rfl)
theorem dJ39_putTreeVal_232 : decode cJ39_putTreeVal 232 = .ok (.aload 5, 2) := dk_25 5 (dk_at dksJ39_putTreeVal_9 22 rfl rfl)
theorem dJ39_putTreeVal_234 : decode cJ39_putTreeVal 234 = .ok (.aload 14, 2) := dk_25 14 (dk_at dksJ39_putTreeVal_10 0 rfl rfl)
theorem dJ39_putTreeVal_236 : decode cJ39_putTreeVal 236 = .ok (.invokevirtual 115, 3) := dk_182 0 115 (dk_at dksJ39_putTreeVal_10 2 rfl rfl)
theorem dJ39_putTreeVal_239 : decode cJ39_putTreeVal 239 = .ok (.astore 15, 2) := dk_58 15 (dk_at dksJ39_putTreeVal_10 5 rfl rfl)
theorem dJ39_putTreeVal_241 : decode cJ39_putTreeVal 241 = .ok (.iload 10, 2) := dk_21 10 (dk_at dksJ39_putTreeVal_10 7 rfl rfl)
theorem dJ39_putTreeVal_243 : decode cJ39_putTreeVal 243 = .ok (.ifCond .gt 13, 3) := dk_157 0 13 (dk_at dksJ39_putTreeVal_10 9 rfl rfl)
theorem dJ39_putTreeVal_246 : decode cJ39_putTreeVal 246 = .ok (.aload 13, 2) := dk_25 13 (dk_at dksJ39_putTreeVal_10 12 rfl rfl)
theorem dJ39_putTreeVal_248 : decode cJ39_putTreeVal 248 = .ok (.aload 15, 2) := dk_25 15 (dk_at dksJ39_putTreeVal_10 14 rfl rfl)
theorem dJ39_putTreeVal_250 : decode cJ39_putTreeVal 250 = .ok (.putfield 39, 3) := dk_181 0 39 (dk_at dksJ39_putTreeVal_10 16 rfl rfl)
theorem dJ39_putTreeVal_253 : decode cJ39_putTreeVal 253 = .ok (.goto 10, 3) := dk_167 0 10 (dk_at dksJ39_putTreeVal_10 19 rfl rfl)
theorem dJ39_putTreeVal_256 : decode cJ39_putTreeVal 256 = .ok (.aload 13, 2) := dk_25 13 (dk_at dksJ39_putTreeVal_10 22 rfl rfl)
theorem dJ39_putTreeVal_258 : decode cJ39_putTreeVal 258 = .ok (.aload 15, 2) := dk_25 15 (dk_at dksJ39_putTreeVal_11 0 rfl rfl)
theorem dJ39_putTreeVal_260 : decode cJ39_putTreeVal 260 = .ok (.putfield 42, 3) := dk_181 0 42 (dk_at dksJ39_putTreeVal_11 2 rfl rfl)
theorem dJ39_putTreeVal_263 : decode cJ39_putTreeVal 263 = .ok (.aload 13, 2) := dk_25 13 (dk_at dksJ39_putTreeVal_11 5 rfl rfl)
theorem dJ39_putTreeVal_265 : decode cJ39_putTreeVal 265 = .ok (.aload 15, 2) := dk_25 15 (dk_at dksJ39_putTreeVal_11 7 rfl rfl)
theorem dJ39_putTreeVal_267 : decode cJ39_putTreeVal 267 = .ok (.putfield 22, 3) := dk_181 0 22 (dk_at dksJ39_putTreeVal_11 9 rfl rfl)
theorem dJ39_putTreeVal_270 : decode cJ39_putTreeVal 270 = .ok (.aload 15, 2) := dk_25 15 (dk_at dksJ39_putTreeVal_11 12 rfl rfl)
theorem dJ39_putTreeVal_272 : decode cJ39_putTreeVal 272 = .ok (.aload 15, 2) := dk_25 15 (dk_at dksJ39_putTreeVal_11 14 rfl rfl)
theorem dJ39_putTreeVal_274 : decode cJ39_putTreeVal 274 = .ok (.aload 13, 2) := dk_25 13 (dk_at dksJ39_putTreeVal_11 16 rfl rfl)
theorem dJ39_putTreeVal_276 : decode cJ39_putTreeVal 276 = .ok (.dup_x1, 1) := dk_90 (dk_at dksJ39_putTreeVal_11 18 rfl rfl)
theorem dJ39_putTreeVal_277 : decode cJ39_putTreeVal 277 = .ok (.putfield 19, 3) := dk_181 0 19 (dk_at dksJ39_putTreeVal_11 19 rfl rfl)
theorem dJ39_putTreeVal_280 : decode cJ39_putTreeVal 280 = .ok (.putfield 9, 3) := dk_181 0 9 (dk_at dksJ39_putTreeVal_12 0 rfl rfl)
theorem dJ39_putTreeVal_283 : decode cJ39_putTreeVal 283 = .ok (.aload 14, 2) := dk_25 14 (dk_at dksJ39_putTreeVal_12 3 rfl rfl)
theorem dJ39_putTreeVal_285 : decode cJ39_putTreeVal 285 = .ok (.ifnull 13, 3) := dk_198 0 13 (dk_at dksJ39_putTreeVal_12 5 rfl rfl)
theorem dJ39_putTreeVal_288 : decode cJ39_putTreeVal 288 = .ok (.aload 14, 2) := dk_25 14 (dk_at dksJ39_putTreeVal_12 8 rfl rfl)
theorem dJ39_putTreeVal_290 : decode cJ39_putTreeVal 290 = .ok (.checkcast 10, 3) := dk_192 0 10 (dk_at dksJ39_putTreeVal_12 10 rfl rfl)
theorem dJ39_putTreeVal_293 : decode cJ39_putTreeVal 293 = .ok (.aload 15, 2) := dk_25 15 (dk_at dksJ39_putTreeVal_12 13 rfl rfl)
theorem dJ39_putTreeVal_295 : decode cJ39_putTreeVal 295 = .ok (.putfield 19, 3) := dk_181 0 19 (dk_at dksJ39_putTreeVal_12 15 rfl rfl)
theorem dJ39_putTreeVal_298 : decode cJ39_putTreeVal 298 = .ok (.aload_n 2, 1) := dk_44 (dk_at dksJ39_putTreeVal_12 18 rfl rfl)
theorem dJ39_putTreeVal_299 : decode cJ39_putTreeVal 299 = .ok (.aload 8, 2) := dk_25 8 (dk_at dksJ39_putTreeVal_12 19 rfl rfl)
theorem dJ39_putTreeVal_301 : decode cJ39_putTreeVal 301 = .ok (.aload 15, 2) := dk_25 15 (dk_at dksJ39_putTreeVal_12 21 rfl rfl)
theorem dJ39_putTreeVal_303 : decode cJ39_putTreeVal 303 = .ok (.invokestatic 100, 3) := dk_184 0 100 (dk_at dksJ39_putTreeVal_13 0 rfl rfl)
theorem dJ39_putTreeVal_306 : decode cJ39_putTreeVal 306 = .ok (.invokestatic 104, 3) := dk_184 0 104 (dk_at dksJ39_putTreeVal_13 3 rfl rfl)
theorem dJ39_putTreeVal_309 : decode cJ39_putTreeVal 309 = .ok (.aconst_null, 1) := dk_1 (dk_at dksJ39_putTreeVal_13 6 rfl rfl)
theorem dJ39_putTreeVal_310 : decode cJ39_putTreeVal 310 = .ok (.areturn, 1) := dk_176 (dk_at dksJ39_putTreeVal_13 7 rfl rfl)
theorem dJ39_putTreeVal_311 : decode cJ39_putTreeVal 311 = .ok (.goto (-284), 3) := dk_167 254 228 (dk_at dksJ39_putTreeVal_13 8 rfl rfl)
abbrev cJ39_root : ByteArray := prog_74_method_2_code
def yJ39_root : MethodName := ⟨RJ39, "root", "()Ljava/util/HashMap$TreeNode;"⟩
def dkwJ39_root_0 : List UInt8 := [42, 76, 43, 180, 0, 9, 89, 77, 199, 0, 5, 43, 176, 44, 76, 167, 255, 243]
abbrev dktJ39_root_0 : List UInt8 := dkwJ39_root_0 ++ []
theorem dksJ39_root_0 : cJ39_root.data.toList.drop 0 = dktJ39_root_0 := by decide +kernel
theorem dJ39_root_0 : decode cJ39_root 0 = .ok (.aload_n 0, 1) := dk_42 (dk_at dksJ39_root_0 0 rfl rfl)
theorem dJ39_root_1 : decode cJ39_root 1 = .ok (.astore_n 1, 1) := dk_76 (dk_at dksJ39_root_0 1 rfl rfl)
theorem dJ39_root_2 : decode cJ39_root 2 = .ok (.aload_n 1, 1) := dk_43 (dk_at dksJ39_root_0 2 rfl rfl)
theorem dJ39_root_3 : decode cJ39_root 3 = .ok (.getfield 9, 3) := dk_180 0 9 (dk_at dksJ39_root_0 3 rfl rfl)
theorem dJ39_root_6 : decode cJ39_root 6 = .ok (.dup, 1) := dk_89 (dk_at dksJ39_root_0 6 rfl rfl)
theorem dJ39_root_7 : decode cJ39_root 7 = .ok (.astore_n 2, 1) := dk_77 (dk_at dksJ39_root_0 7 rfl rfl)
theorem dJ39_root_8 : decode cJ39_root 8 = .ok (.ifnonnull 5, 3) := dk_199 0 5 (dk_at dksJ39_root_0 8 rfl rfl)
theorem dJ39_root_11 : decode cJ39_root 11 = .ok (.aload_n 1, 1) := dk_43 (dk_at dksJ39_root_0 11 rfl rfl)
theorem dJ39_root_12 : decode cJ39_root 12 = .ok (.areturn, 1) := dk_176 (dk_at dksJ39_root_0 12 rfl rfl)
theorem dJ39_root_13 : decode cJ39_root 13 = .ok (.aload_n 2, 1) := dk_44 (dk_at dksJ39_root_0 13 rfl rfl)
theorem dJ39_root_14 : decode cJ39_root 14 = .ok (.astore_n 1, 1) := dk_76 (dk_at dksJ39_root_0 14 rfl rfl)
theorem dJ39_root_15 : decode cJ39_root 15 = .ok (.goto (-13), 3) := dk_167 255 243 (dk_at dksJ39_root_0 15 rfl rfl)
abbrev cJ39_find : ByteArray := prog_74_method_4_code
def yJ39_find : MethodName := ⟨RJ39, "find", "(ILjava/lang/Object;Ljava/lang/Class;)Ljava/util/HashMap$TreeNode;"⟩
def dkwJ39_find_7 : List UInt8 := [58, 4, 25, 4, 199, 255, 92, 1, 176]
abbrev dktJ39_find_7 : List UInt8 := dkwJ39_find_7 ++ []
def dkwJ39_find_6 : List UInt8 := [58, 4, 167, 0, 24, 25, 9, 27, 44, 45, 182, 0, 63, 89, 58, 10, 198, 0, 6, 25, 10, 176, 25, 8]
abbrev dktJ39_find_6 : List UInt8 := dkwJ39_find_6 ++ dktJ39_find_7
def dkwJ39_find_5 : List UInt8 := [44, 25, 7, 184, 0, 59, 89, 54, 6, 153, 0, 20, 21, 6, 156, 0, 8, 25, 8, 167, 0, 5, 25, 9]
abbrev dktJ39_find_5 : List UInt8 := dkwJ39_find_5 ++ dktJ39_find_6
def dkwJ39_find_4 : List UInt8 := [199, 0, 10, 25, 8, 58, 4, 167, 0, 67, 45, 199, 0, 12, 44, 184, 0, 55, 89, 78, 198, 0, 33, 45]
abbrev dktJ39_find_4 : List UInt8 := dkwJ39_find_4 ++ dktJ39_find_5
def dkwJ39_find_3 : List UInt8 := [182, 0, 49, 153, 0, 6, 25, 4, 176, 25, 8, 199, 0, 10, 25, 9, 58, 4, 167, 0, 79, 25, 9]
abbrev dktJ39_find_3 : List UInt8 := dkwJ39_find_3 ++ dktJ39_find_4
def dkwJ39_find_2 : List UInt8 := [167, 0, 119, 25, 4, 180, 0, 45, 89, 58, 7, 44, 165, 0, 16, 44, 198, 0, 15, 44, 25, 7]
abbrev dktJ39_find_2 : List UInt8 := dkwJ39_find_2 ++ dktJ39_find_3
def dkwJ39_find_1 : List UInt8 := [54, 5, 27, 164, 0, 10, 25, 8, 58, 4, 167, 0, 132, 21, 5, 27, 162, 0, 10, 25, 9, 58, 4]
abbrev dktJ39_find_1 : List UInt8 := dkwJ39_find_1 ++ dktJ39_find_2
def dkwJ39_find_0 : List UInt8 := [42, 58, 4, 25, 4, 180, 0, 39, 58, 8, 25, 4, 180, 0, 42, 58, 9, 25, 4, 180, 0, 15, 89]
abbrev dktJ39_find_0 : List UInt8 := dkwJ39_find_0 ++ dktJ39_find_1
theorem dksJ39_find_0 : cJ39_find.data.toList.drop 0 = dktJ39_find_0 := by decide +kernel
theorem dksJ39_find_1 : cJ39_find.data.toList.drop 23 = dktJ39_find_1 := dk_seg dksJ39_find_0 23 rfl rfl
theorem dksJ39_find_2 : cJ39_find.data.toList.drop 46 = dktJ39_find_2 := dk_seg dksJ39_find_1 23 rfl rfl
theorem dksJ39_find_3 : cJ39_find.data.toList.drop 68 = dktJ39_find_3 := dk_seg dksJ39_find_2 22 rfl rfl
theorem dksJ39_find_4 : cJ39_find.data.toList.drop 91 = dktJ39_find_4 := dk_seg dksJ39_find_3 23 rfl rfl
theorem dksJ39_find_5 : cJ39_find.data.toList.drop 115 = dktJ39_find_5 := dk_seg dksJ39_find_4 24 rfl rfl
theorem dksJ39_find_6 : cJ39_find.data.toList.drop 139 = dktJ39_find_6 := dk_seg dksJ39_find_5 24 rfl rfl
theorem dksJ39_find_7 : cJ39_find.data.toList.drop 163 = dktJ39_find_7 := dk_seg dksJ39_find_6 24 rfl rfl
theorem dJ39_find_0 : decode cJ39_find 0 = .ok (.aload_n 0, 1) := dk_42 (dk_at dksJ39_find_0 0 rfl rfl)
theorem dJ39_find_1 : decode cJ39_find 1 = .ok (.astore 4, 2) := dk_58 4 (dk_at dksJ39_find_0 1 rfl rfl)
theorem dJ39_find_3 : decode cJ39_find 3 = .ok (.aload 4, 2) := dk_25 4 (dk_at dksJ39_find_0 3 rfl rfl)
theorem dJ39_find_5 : decode cJ39_find 5 = .ok (.getfield 39, 3) := dk_180 0 39 (dk_at dksJ39_find_0 5 rfl rfl)
theorem dJ39_find_8 : decode cJ39_find 8 = .ok (.astore 8, 2) := dk_58 8 (dk_at dksJ39_find_0 8 rfl rfl)
theorem dJ39_find_10 : decode cJ39_find 10 = .ok (.aload 4, 2) := dk_25 4 (dk_at dksJ39_find_0 10 rfl rfl)
theorem dJ39_find_12 : decode cJ39_find 12 = .ok (.getfield 42, 3) := dk_180 0 42 (dk_at dksJ39_find_0 12 rfl rfl)
theorem dJ39_find_15 : decode cJ39_find 15 = .ok (.astore 9, 2) := dk_58 9 (dk_at dksJ39_find_0 15 rfl rfl)
theorem dJ39_find_17 : decode cJ39_find 17 = .ok (.aload 4, 2) := dk_25 4 (dk_at dksJ39_find_0 17 rfl rfl)
theorem dJ39_find_19 : decode cJ39_find 19 = .ok (.getfield 15, 3) := dk_180 0 15 (dk_at dksJ39_find_0 19 rfl rfl)
theorem dJ39_find_22 : decode cJ39_find 22 = .ok (.dup, 1) := dk_89 (dk_at dksJ39_find_0 22 rfl rfl)
theorem dJ39_find_23 : decode cJ39_find 23 = .ok (.istore 5, 2) := dk_54 5 (dk_at dksJ39_find_1 0 rfl rfl)
theorem dJ39_find_25 : decode cJ39_find 25 = .ok (.iload_n 1, 1) := dk_27 (dk_at dksJ39_find_1 2 rfl rfl)
theorem dJ39_find_26 : decode cJ39_find 26 = .ok (.if_icmp .le 10, 3) := dk_164 0 10 (dk_at dksJ39_find_1 3 rfl rfl)
theorem dJ39_find_29 : decode cJ39_find 29 = .ok (.aload 8, 2) := dk_25 8 (dk_at dksJ39_find_1 6 rfl rfl)
theorem dJ39_find_31 : decode cJ39_find 31 = .ok (.astore 4, 2) := dk_58 4 (dk_at dksJ39_find_1 8 rfl rfl)
theorem dJ39_find_33 : decode cJ39_find 33 = .ok (.goto 132, 3) := dk_167 0 132 (dk_at dksJ39_find_1 10 rfl rfl)
theorem dJ39_find_36 : decode cJ39_find 36 = .ok (.iload 5, 2) := dk_21 5 (dk_at dksJ39_find_1 13 rfl rfl)
theorem dJ39_find_38 : decode cJ39_find 38 = .ok (.iload_n 1, 1) := dk_27 (dk_at dksJ39_find_1 15 rfl rfl)
theorem dJ39_find_39 : decode cJ39_find 39 = .ok (.if_icmp .ge 10, 3) := dk_162 0 10 (dk_at dksJ39_find_1 16 rfl rfl)
theorem dJ39_find_42 : decode cJ39_find 42 = .ok (.aload 9, 2) := dk_25 9 (dk_at dksJ39_find_1 19 rfl rfl)
theorem dJ39_find_44 : decode cJ39_find 44 = .ok (.astore 4, 2) := dk_58 4 (dk_at dksJ39_find_1 21 rfl rfl)
theorem dJ39_find_46 : decode cJ39_find 46 = .ok (.goto 119, 3) := dk_167 0 119 (dk_at dksJ39_find_2 0 rfl rfl)
theorem dJ39_find_49 : decode cJ39_find 49 = .ok (.aload 4, 2) := dk_25 4 (dk_at dksJ39_find_2 3 rfl rfl)
theorem dJ39_find_51 : decode cJ39_find 51 = .ok (.getfield 45, 3) := dk_180 0 45 (dk_at dksJ39_find_2 5 rfl rfl)
theorem dJ39_find_54 : decode cJ39_find 54 = .ok (.dup, 1) := dk_89 (dk_at dksJ39_find_2 8 rfl rfl)
theorem dJ39_find_55 : decode cJ39_find 55 = .ok (.astore 7, 2) := dk_58 7 (dk_at dksJ39_find_2 9 rfl rfl)
theorem dJ39_find_57 : decode cJ39_find 57 = .ok (.aload_n 2, 1) := dk_44 (dk_at dksJ39_find_2 11 rfl rfl)
theorem dJ39_find_58 : decode cJ39_find 58 = .ok (.if_acmp .eq 16, 3) := dk_165 0 16 (dk_at dksJ39_find_2 12 rfl rfl)
theorem dJ39_find_61 : decode cJ39_find 61 = .ok (.aload_n 2, 1) := dk_44 (dk_at dksJ39_find_2 15 rfl rfl)
theorem dJ39_find_62 : decode cJ39_find 62 = .ok (.ifnull 15, 3) := dk_198 0 15 (dk_at dksJ39_find_2 16 rfl rfl)
theorem dJ39_find_65 : decode cJ39_find 65 = .ok (.aload_n 2, 1) := dk_44 (dk_at dksJ39_find_2 19 rfl rfl)
theorem dJ39_find_66 : decode cJ39_find 66 = .ok (.aload 7, 2) := dk_25 7 (dk_at dksJ39_find_2 20 rfl rfl)
theorem dJ39_find_68 : decode cJ39_find 68 = .ok (.invokevirtual 49, 3) := dk_182 0 49 (dk_at dksJ39_find_3 0 rfl rfl)
theorem dJ39_find_71 : decode cJ39_find 71 = .ok (.ifCond .eq 6, 3) := dk_153 0 6 (dk_at dksJ39_find_3 3 rfl rfl)
theorem dJ39_find_74 : decode cJ39_find 74 = .ok (.aload 4, 2) := dk_25 4 (dk_at dksJ39_find_3 6 rfl rfl)
theorem dJ39_find_76 : decode cJ39_find 76 = .ok (.areturn, 1) := dk_176 (dk_at dksJ39_find_3 8 rfl rfl)
theorem dJ39_find_77 : decode cJ39_find 77 = .ok (.aload 8, 2) := dk_25 8 (dk_at dksJ39_find_3 9 rfl rfl)
theorem dJ39_find_79 : decode cJ39_find 79 = .ok (.ifnonnull 10, 3) := dk_199 0 10 (dk_at dksJ39_find_3 11 rfl rfl)
theorem dJ39_find_82 : decode cJ39_find 82 = .ok (.aload 9, 2) := dk_25 9 (dk_at dksJ39_find_3 14 rfl rfl)
theorem dJ39_find_84 : decode cJ39_find 84 = .ok (.astore 4, 2) := dk_58 4 (dk_at dksJ39_find_3 16 rfl rfl)
theorem dJ39_find_86 : decode cJ39_find 86 = .ok (.goto 79, 3) := dk_167 0 79 (dk_at dksJ39_find_3 18 rfl rfl)
theorem dJ39_find_89 : decode cJ39_find 89 = .ok (.aload 9, 2) := dk_25 9 (dk_at dksJ39_find_3 21 rfl rfl)
theorem dJ39_find_91 : decode cJ39_find 91 = .ok (.ifnonnull 10, 3) := dk_199 0 10 (dk_at dksJ39_find_4 0 rfl rfl)
theorem dJ39_find_94 : decode cJ39_find 94 = .ok (.aload 8, 2) := dk_25 8 (dk_at dksJ39_find_4 3 rfl rfl)
theorem dJ39_find_96 : decode cJ39_find 96 = .ok (.astore 4, 2) := dk_58 4 (dk_at dksJ39_find_4 5 rfl rfl)
theorem dJ39_find_98 : decode cJ39_find 98 = .ok (.goto 67, 3) := dk_167 0 67 (dk_at dksJ39_find_4 7 rfl rfl)
theorem dJ39_find_101 : decode cJ39_find 101 = .ok (.aload_n 3, 1) := dk_45 (dk_at dksJ39_find_4 10 rfl rfl)
theorem dJ39_find_102 : decode cJ39_find 102 = .ok (.ifnonnull 12, 3) := dk_199 0 12 (dk_at dksJ39_find_4 11 rfl rfl)
theorem dJ39_find_105 : decode cJ39_find 105 = .ok (.aload_n 2, 1) := dk_44 (dk_at dksJ39_find_4 14 rfl rfl)
theorem dJ39_find_106 : decode cJ39_find 106 = .ok (.invokestatic 55, 3) := dk_184 0 55 (dk_at dksJ39_find_4 15 rfl rfl)
theorem dJ39_find_109 : decode cJ39_find 109 = .ok (.dup, 1) := dk_89 (dk_at dksJ39_find_4 18 rfl rfl)
theorem dJ39_find_110 : decode cJ39_find 110 = .ok (.astore_n 3, 1) := dk_78 (dk_at dksJ39_find_4 19 rfl rfl)
theorem dJ39_find_111 : decode cJ39_find 111 = .ok (.ifnull 33, 3) := dk_198 0 33 (dk_at dksJ39_find_4 20 rfl rfl)
theorem dJ39_find_114 : decode cJ39_find 114 = .ok (.aload_n 3, 1) := dk_45 (dk_at dksJ39_find_4 23 rfl rfl)
theorem dJ39_find_115 : decode cJ39_find 115 = .ok (.aload_n 2, 1) := dk_44 (dk_at dksJ39_find_5 0 rfl rfl)
theorem dJ39_find_116 : decode cJ39_find 116 = .ok (.aload 7, 2) := dk_25 7 (dk_at dksJ39_find_5 1 rfl rfl)
theorem dJ39_find_118 : decode cJ39_find 118 = .ok (.invokestatic 59, 3) := dk_184 0 59 (dk_at dksJ39_find_5 3 rfl rfl)
theorem dJ39_find_121 : decode cJ39_find 121 = .ok (.dup, 1) := dk_89 (dk_at dksJ39_find_5 6 rfl rfl)
theorem dJ39_find_122 : decode cJ39_find 122 = .ok (.istore 6, 2) := dk_54 6 (dk_at dksJ39_find_5 7 rfl rfl)
theorem dJ39_find_124 : decode cJ39_find 124 = .ok (.ifCond .eq 20, 3) := dk_153 0 20 (dk_at dksJ39_find_5 9 rfl rfl)
theorem dJ39_find_127 : decode cJ39_find 127 = .ok (.iload 6, 2) := dk_21 6 (dk_at dksJ39_find_5 12 rfl rfl)
theorem dJ39_find_129 : decode cJ39_find 129 = .ok (.ifCond .ge 8, 3) := dk_156 0 8 (dk_at dksJ39_find_5 14 rfl rfl)
theorem dJ39_find_132 : decode cJ39_find 132 = .ok (.aload 8, 2) := dk_25 8 (dk_at dksJ39_find_5 17 rfl rfl)
theorem dJ39_find_134 : decode cJ39_find 134 = .ok (.goto 5, 3) := dk_167 0 5 (dk_at dksJ39_find_5 19 rfl rfl)
theorem dJ39_find_137 : decode cJ39_find 137 = .ok (.aload 9, 2) := dk_25 9 (dk_at dksJ39_find_5 22 rfl rfl)
theorem dJ39_find_139 : decode cJ39_find 139 = .ok (.astore 4, 2) := dk_58 4 (dk_at dksJ39_find_6 0 rfl rfl)
theorem dJ39_find_141 : decode cJ39_find 141 = .ok (.goto 24, 3) := dk_167 0 24 (dk_at dksJ39_find_6 2 rfl rfl)
theorem dJ39_find_144 : decode cJ39_find 144 = .ok (.aload 9, 2) := dk_25 9 (dk_at dksJ39_find_6 5 rfl rfl)
theorem dJ39_find_146 : decode cJ39_find 146 = .ok (.iload_n 1, 1) := dk_27 (dk_at dksJ39_find_6 7 rfl rfl)
theorem dJ39_find_147 : decode cJ39_find 147 = .ok (.aload_n 2, 1) := dk_44 (dk_at dksJ39_find_6 8 rfl rfl)
theorem dJ39_find_148 : decode cJ39_find 148 = .ok (.aload_n 3, 1) := dk_45 (dk_at dksJ39_find_6 9 rfl rfl)
theorem dJ39_find_149 : decode cJ39_find 149 = .ok (.invokevirtual 63, 3) := dk_182 0 63 (dk_at dksJ39_find_6 10 rfl rfl)
theorem dJ39_find_152 : decode cJ39_find 152 = .ok (.dup, 1) := dk_89 (dk_at dksJ39_find_6 13 rfl rfl)
theorem dJ39_find_153 : decode cJ39_find 153 = .ok (.astore 10, 2) := dk_58 10 (dk_at dksJ39_find_6 14 rfl rfl)
theorem dJ39_find_155 : decode cJ39_find 155 = .ok (.ifnull 6, 3) := dk_198 0 6 (dk_at dksJ39_find_6 16 rfl rfl)
theorem dJ39_find_158 : decode cJ39_find 158 = .ok (.aload 10, 2) := dk_25 10 (dk_at dksJ39_find_6 19 rfl rfl)
theorem dJ39_find_160 : decode cJ39_find 160 = .ok (.areturn, 1) := dk_176 (dk_at dksJ39_find_6 21 rfl rfl)
theorem dJ39_find_161 : decode cJ39_find 161 = .ok (.aload 8, 2) := dk_25 8 (dk_at dksJ39_find_6 22 rfl rfl)
theorem dJ39_find_163 : decode cJ39_find 163 = .ok (.astore 4, 2) := dk_58 4 (dk_at dksJ39_find_7 0 rfl rfl)
theorem dJ39_find_165 : decode cJ39_find 165 = .ok (.aload 4, 2) := dk_25 4 (dk_at dksJ39_find_7 2 rfl rfl)
theorem dJ39_find_167 : decode cJ39_find 167 = .ok (.ifnonnull (-164), 3) := dk_199 255 92 (dk_at dksJ39_find_7 4 rfl rfl)
theorem dJ39_find_170 : decode cJ39_find 170 = .ok (.aconst_null, 1) := dk_1 (dk_at dksJ39_find_7 7 rfl rfl)
theorem dJ39_find_171 : decode cJ39_find 171 = .ok (.areturn, 1) := dk_176 (dk_at dksJ39_find_7 8 rfl rfl)
abbrev cJ39_init : ByteArray := prog_74_method_1_code
def yJ39_init : MethodName := ⟨RJ39, "<init>", "(ILjava/lang/Object;Ljava/lang/Object;Ljava/util/HashMap$Node;)V"⟩
def dkwJ39_init_0 : List UInt8 := [42, 27, 44, 45, 25, 4, 183, 0, 3, 177]
abbrev dktJ39_init_0 : List UInt8 := dkwJ39_init_0 ++ []
theorem dksJ39_init_0 : cJ39_init.data.toList.drop 0 = dktJ39_init_0 := by decide +kernel
theorem dJ39_init_0 : decode cJ39_init 0 = .ok (.aload_n 0, 1) := dk_42 (dk_at dksJ39_init_0 0 rfl rfl)
theorem dJ39_init_1 : decode cJ39_init 1 = .ok (.iload_n 1, 1) := dk_27 (dk_at dksJ39_init_0 1 rfl rfl)
theorem dJ39_init_2 : decode cJ39_init 2 = .ok (.aload_n 2, 1) := dk_44 (dk_at dksJ39_init_0 2 rfl rfl)
theorem dJ39_init_3 : decode cJ39_init 3 = .ok (.aload_n 3, 1) := dk_45 (dk_at dksJ39_init_0 3 rfl rfl)
theorem dJ39_init_4 : decode cJ39_init 4 = .ok (.aload 4, 2) := dk_25 4 (dk_at dksJ39_init_0 4 rfl rfl)
theorem dJ39_init_6 : decode cJ39_init 6 = .ok (.invokespecial 3, 3) := dk_183 0 3 (dk_at dksJ39_init_0 6 rfl rfl)
theorem dJ39_init_9 : decode cJ39_init 9 = .ok (.return_, 1) := dk_177 (dk_at dksJ39_init_0 9 rfl rfl)
abbrev cJ39_getTreeNode : ByteArray := prog_74_method_5_code
def yJ39_getTreeNode : MethodName := ⟨RJ39, "getTreeNode", "(ILjava/lang/Object;)Ljava/util/HashMap$TreeNode;"⟩
def dkwJ39_getTreeNode_0 : List UInt8 := [42, 180, 0, 9, 198, 0, 10, 42, 182, 0, 67, 167, 0, 4, 42, 27, 44, 1, 182, 0, 63, 176]
abbrev dktJ39_getTreeNode_0 : List UInt8 := dkwJ39_getTreeNode_0 ++ []
theorem dksJ39_getTreeNode_0 : cJ39_getTreeNode.data.toList.drop 0 = dktJ39_getTreeNode_0 := by decide +kernel
theorem dJ39_getTreeNode_0 : decode cJ39_getTreeNode 0 = .ok (.aload_n 0, 1) := dk_42 (dk_at dksJ39_getTreeNode_0 0 rfl rfl)
theorem dJ39_getTreeNode_1 : decode cJ39_getTreeNode 1 = .ok (.getfield 9, 3) := dk_180 0 9 (dk_at dksJ39_getTreeNode_0 1 rfl rfl)
theorem dJ39_getTreeNode_4 : decode cJ39_getTreeNode 4 = .ok (.ifnull 10, 3) := dk_198 0 10 (dk_at dksJ39_getTreeNode_0 4 rfl rfl)
theorem dJ39_getTreeNode_7 : decode cJ39_getTreeNode 7 = .ok (.aload_n 0, 1) := dk_42 (dk_at dksJ39_getTreeNode_0 7 rfl rfl)
theorem dJ39_getTreeNode_8 : decode cJ39_getTreeNode 8 = .ok (.invokevirtual 67, 3) := dk_182 0 67 (dk_at dksJ39_getTreeNode_0 8 rfl rfl)
theorem dJ39_getTreeNode_11 : decode cJ39_getTreeNode 11 = .ok (.goto 4, 3) := dk_167 0 4 (dk_at dksJ39_getTreeNode_0 11 rfl rfl)
theorem dJ39_getTreeNode_14 : decode cJ39_getTreeNode 14 = .ok (.aload_n 0, 1) := dk_42 (dk_at dksJ39_getTreeNode_0 14 rfl rfl)
theorem dJ39_getTreeNode_15 : decode cJ39_getTreeNode 15 = .ok (.iload_n 1, 1) := dk_27 (dk_at dksJ39_getTreeNode_0 15 rfl rfl)
theorem dJ39_getTreeNode_16 : decode cJ39_getTreeNode 16 = .ok (.aload_n 2, 1) := dk_44 (dk_at dksJ39_getTreeNode_0 16 rfl rfl)
theorem dJ39_getTreeNode_17 : decode cJ39_getTreeNode 17 = .ok (.aconst_null, 1) := dk_1 (dk_at dksJ39_getTreeNode_0 17 rfl rfl)
theorem dJ39_getTreeNode_18 : decode cJ39_getTreeNode 18 = .ok (.invokevirtual 63, 3) := dk_182 0 63 (dk_at dksJ39_getTreeNode_0 18 rfl rfl)
theorem dJ39_getTreeNode_21 : decode cJ39_getTreeNode 21 = .ok (.areturn, 1) := dk_176 (dk_at dksJ39_getTreeNode_0 21 rfl rfl)
abbrev cJ39_removeTreeNode : ByteArray := prog_74_method_10_code
def yJ39_removeTreeNode : MethodName := ⟨RJ39, "removeTreeNode", "(Ljava/util/HashMap;[Ljava/util/HashMap$Node;Z)V"⟩
def dkwJ39_removeTreeNode_27 : List UInt8 := [25, 15, 184, 0, 104, 177]
abbrev dktJ39_removeTreeNode_27 : List UInt8 := dkwJ39_removeTreeNode_27 ++ []
def dkwJ39_removeTreeNode_26 : List UInt8 := [167, 0, 19, 25, 11, 25, 16, 180, 0, 42, 166, 0, 9, 25, 16, 1, 181, 0, 42, 29, 153, 0, 9, 44]
abbrev dktJ39_removeTreeNode_26 : List UInt8 := dkwJ39_removeTreeNode_26 ++ dktJ39_removeTreeNode_27
def dkwJ39_removeTreeNode_25 : List UInt8 := [181, 0, 9, 25, 16, 198, 0, 38, 25, 11, 25, 16, 180, 0, 39, 166, 0, 12, 25, 16, 1, 181, 0, 39]
abbrev dktJ39_removeTreeNode_25 : List UInt8 := dkwJ39_removeTreeNode_25 ++ dktJ39_removeTreeNode_26
def dkwJ39_removeTreeNode_24 : List UInt8 := [184, 0, 123, 58, 15, 25, 14, 25, 11, 166, 0, 56, 25, 11, 180, 0, 9, 58, 16, 25, 11, 1]
abbrev dktJ39_removeTreeNode_24 : List UInt8 := dkwJ39_removeTreeNode_24 ++ dktJ39_removeTreeNode_25
def dkwJ39_removeTreeNode_23 : List UInt8 := [181, 0, 42, 181, 0, 39, 25, 11, 180, 0, 93, 153, 0, 8, 25, 7, 167, 0, 10, 25, 7, 25, 14]
abbrev dktJ39_removeTreeNode_23 : List UInt8 := dkwJ39_removeTreeNode_23 ++ dktJ39_removeTreeNode_24
def dkwJ39_removeTreeNode_22 : List UInt8 := [167, 0, 10, 25, 15, 25, 14, 181, 0, 42, 25, 11, 25, 11, 25, 11, 1, 90, 181, 0, 9, 90]
abbrev dktJ39_removeTreeNode_22 : List UInt8 := dkwJ39_removeTreeNode_22 ++ dktJ39_removeTreeNode_23
def dkwJ39_removeTreeNode_21 : List UInt8 := [181, 0, 93, 167, 0, 30, 25, 11, 25, 15, 180, 0, 39, 166, 0, 13, 25, 15, 25, 14, 181, 0, 39]
abbrev dktJ39_removeTreeNode_21 : List UInt8 := dkwJ39_removeTreeNode_21 ++ dktJ39_removeTreeNode_22
def dkwJ39_removeTreeNode_20 : List UInt8 := [25, 11, 180, 0, 9, 90, 181, 0, 9, 58, 15, 25, 15, 199, 0, 15, 25, 14, 89, 58, 7, 3]
abbrev dktJ39_removeTreeNode_20 : List UInt8 := dkwJ39_removeTreeNode_20 ++ dktJ39_removeTreeNode_21
def dkwJ39_removeTreeNode_19 : List UInt8 := [198, 0, 10, 25, 13, 58, 14, 167, 0, 7, 25, 11, 58, 14, 25, 14, 25, 11, 165, 0, 78, 25, 14]
abbrev dktJ39_removeTreeNode_19 : List UInt8 := dkwJ39_removeTreeNode_19 ++ dktJ39_removeTreeNode_20
def dkwJ39_removeTreeNode_18 : List UInt8 := [167, 0, 7, 25, 11, 58, 14, 167, 0, 31, 25, 12, 198, 0, 10, 25, 12, 58, 14, 167, 0, 19, 25, 13]
abbrev dktJ39_removeTreeNode_18 : List UInt8 := dkwJ39_removeTreeNode_18 ++ dktJ39_removeTreeNode_19
def dkwJ39_removeTreeNode_17 : List UInt8 := [181, 0, 39, 167, 0, 10, 25, 19, 25, 15, 181, 0, 42, 25, 18, 198, 0, 10, 25, 18, 58, 14]
abbrev dktJ39_removeTreeNode_17 : List UInt8 := dkwJ39_removeTreeNode_17 ++ dktJ39_removeTreeNode_18
def dkwJ39_removeTreeNode_16 : List UInt8 := [199, 0, 10, 25, 15, 58, 7, 167, 0, 30, 25, 11, 25, 19, 180, 0, 39, 166, 0, 13, 25, 19, 25, 15]
abbrev dktJ39_removeTreeNode_16 : List UInt8 := dkwJ39_removeTreeNode_16 ++ dktJ39_removeTreeNode_17
def dkwJ39_removeTreeNode_15 : List UInt8 := [25, 12, 90, 181, 0, 39, 198, 0, 10, 25, 12, 25, 15, 181, 0, 9, 25, 15, 25, 19, 90, 181, 0, 9]
abbrev dktJ39_removeTreeNode_15 : List UInt8 := dkwJ39_removeTreeNode_15 ++ dktJ39_removeTreeNode_16
def dkwJ39_removeTreeNode_14 : List UInt8 := [181, 0, 39, 25, 11, 25, 18, 90, 181, 0, 42, 198, 0, 10, 25, 18, 25, 11, 181, 0, 9, 25, 15]
abbrev dktJ39_removeTreeNode_14 : List UInt8 := dkwJ39_removeTreeNode_14 ++ dktJ39_removeTreeNode_15
def dkwJ39_removeTreeNode_13 : List UInt8 := [181, 0, 42, 25, 15, 25, 13, 90, 181, 0, 42, 198, 0, 10, 25, 13, 25, 15, 181, 0, 9, 25, 11, 1]
abbrev dktJ39_removeTreeNode_13 : List UInt8 := dkwJ39_removeTreeNode_13 ++ dktJ39_removeTreeNode_14
def dkwJ39_removeTreeNode_12 : List UInt8 := [25, 15, 25, 20, 180, 0, 39, 166, 0, 13, 25, 20, 25, 11, 181, 0, 39, 167, 0, 10, 25, 20, 25, 11]
abbrev dktJ39_removeTreeNode_12 : List UInt8 := dkwJ39_removeTreeNode_12 ++ dktJ39_removeTreeNode_13
def dkwJ39_removeTreeNode_11 : List UInt8 := [181, 0, 42, 167, 0, 66, 25, 15, 180, 0, 9, 58, 20, 25, 11, 25, 20, 90, 181, 0, 9, 198, 0, 30]
abbrev dktJ39_removeTreeNode_11 : List UInt8 := dkwJ39_removeTreeNode_11 ++ dktJ39_removeTreeNode_12
def dkwJ39_removeTreeNode_10 : List UInt8 := [180, 0, 9, 58, 19, 25, 15, 25, 13, 166, 0, 20, 25, 11, 25, 15, 181, 0, 9, 25, 15, 25, 11]
abbrev dktJ39_removeTreeNode_10 : List UInt8 := dkwJ39_removeTreeNode_10 ++ dktJ39_removeTreeNode_11
def dkwJ39_removeTreeNode_9 : List UInt8 := [180, 0, 93, 181, 0, 93, 25, 11, 21, 17, 181, 0, 93, 25, 15, 180, 0, 42, 58, 18, 25, 11]
abbrev dktJ39_removeTreeNode_9 : List UInt8 := dkwJ39_removeTreeNode_9 ++ dktJ39_removeTreeNode_10
def dkwJ39_removeTreeNode_8 : List UInt8 := [89, 58, 16, 198, 0, 10, 25, 16, 58, 15, 167, 255, 241, 25, 15, 180, 0, 93, 54, 17, 25, 15, 25, 11]
abbrev dktJ39_removeTreeNode_8 : List UInt8 := dkwJ39_removeTreeNode_8 ++ dktJ39_removeTreeNode_9
def dkwJ39_removeTreeNode_7 : List UInt8 := [180, 0, 42, 58, 13, 25, 12, 198, 1, 5, 25, 13, 198, 1, 0, 25, 13, 58, 15, 25, 15, 180, 0, 39]
abbrev dktJ39_removeTreeNode_7 : List UInt8 := dkwJ39_removeTreeNode_7 ++ dktJ39_removeTreeNode_8
def dkwJ39_removeTreeNode_6 : List UInt8 := [199, 0, 14, 44, 21, 5, 25, 6, 43, 182, 0, 119, 83, 177, 42, 58, 11, 42, 180, 0, 39, 58, 12, 42]
abbrev dktJ39_removeTreeNode_6 : List UInt8 := dkwJ39_removeTreeNode_6 ++ dktJ39_removeTreeNode_7
def dkwJ39_removeTreeNode_5 : List UInt8 := [25, 7, 180, 0, 42, 198, 0, 22, 25, 7, 180, 0, 39, 89, 58, 8, 198, 0, 11, 25, 8, 180, 0, 39]
abbrev dktJ39_removeTreeNode_5 : List UInt8 := dkwJ39_removeTreeNode_5 ++ dktJ39_removeTreeNode_6
def dkwJ39_removeTreeNode_4 : List UInt8 := [25, 7, 180, 0, 9, 198, 0, 10, 25, 7, 182, 0, 67, 58, 7, 25, 7, 198, 0, 34, 29, 153, 0, 41]
abbrev dktJ39_removeTreeNode_4 : List UInt8 := dkwJ39_removeTreeNode_4 ++ dktJ39_removeTreeNode_5
def dkwJ39_removeTreeNode_3 : List UInt8 := [25, 9, 181, 0, 22, 25, 9, 198, 0, 10, 25, 9, 25, 10, 181, 0, 19, 25, 6, 199, 0, 4, 177]
abbrev dktJ39_removeTreeNode_3 : List UInt8 := dkwJ39_removeTreeNode_3 ++ dktJ39_removeTreeNode_4
def dkwJ39_removeTreeNode_2 : List UInt8 := [180, 0, 19, 58, 10, 25, 10, 199, 0, 15, 44, 21, 5, 25, 9, 89, 58, 6, 83, 167, 0, 10, 25, 10]
abbrev dktJ39_removeTreeNode_2 : List UInt8 := dkwJ39_removeTreeNode_2 ++ dktJ39_removeTreeNode_3
def dkwJ39_removeTreeNode_1 : List UInt8 := [44, 21, 5, 50, 192, 0, 10, 58, 6, 25, 6, 58, 7, 42, 180, 0, 22, 192, 0, 10, 58, 9, 42]
abbrev dktJ39_removeTreeNode_1 : List UInt8 := dkwJ39_removeTreeNode_1 ++ dktJ39_removeTreeNode_2
def dkwJ39_removeTreeNode_0 : List UInt8 := [44, 198, 0, 11, 44, 190, 89, 54, 4, 154, 0, 4, 177, 21, 4, 4, 100, 42, 180, 0, 15, 126, 54, 5]
abbrev dktJ39_removeTreeNode_0 : List UInt8 := dkwJ39_removeTreeNode_0 ++ dktJ39_removeTreeNode_1
theorem dksJ39_removeTreeNode_0 : cJ39_removeTreeNode.data.toList.drop 0 = dktJ39_removeTreeNode_0 := by decide +kernel
theorem dksJ39_removeTreeNode_1 : cJ39_removeTreeNode.data.toList.drop 24 = dktJ39_removeTreeNode_1 := dk_seg dksJ39_removeTreeNode_0 24 rfl rfl
theorem dksJ39_removeTreeNode_2 : cJ39_removeTreeNode.data.toList.drop 47 = dktJ39_removeTreeNode_2 := dk_seg dksJ39_removeTreeNode_1 23 rfl rfl
theorem dksJ39_removeTreeNode_3 : cJ39_removeTreeNode.data.toList.drop 71 = dktJ39_removeTreeNode_3 := dk_seg dksJ39_removeTreeNode_2 24 rfl rfl
theorem dksJ39_removeTreeNode_4 : cJ39_removeTreeNode.data.toList.drop 94 = dktJ39_removeTreeNode_4 := dk_seg dksJ39_removeTreeNode_3 23 rfl rfl
theorem dksJ39_removeTreeNode_5 : cJ39_removeTreeNode.data.toList.drop 118 = dktJ39_removeTreeNode_5 := dk_seg dksJ39_removeTreeNode_4 24 rfl rfl
theorem dksJ39_removeTreeNode_6 : cJ39_removeTreeNode.data.toList.drop 142 = dktJ39_removeTreeNode_6 := dk_seg dksJ39_removeTreeNode_5 24 rfl rfl
theorem dksJ39_removeTreeNode_7 : cJ39_removeTreeNode.data.toList.drop 166 = dktJ39_removeTreeNode_7 := dk_seg dksJ39_removeTreeNode_6 24 rfl rfl
theorem dksJ39_removeTreeNode_8 : cJ39_removeTreeNode.data.toList.drop 190 = dktJ39_removeTreeNode_8 := dk_seg dksJ39_removeTreeNode_7 24 rfl rfl
theorem dksJ39_removeTreeNode_9 : cJ39_removeTreeNode.data.toList.drop 214 = dktJ39_removeTreeNode_9 := dk_seg dksJ39_removeTreeNode_8 24 rfl rfl
theorem dksJ39_removeTreeNode_10 : cJ39_removeTreeNode.data.toList.drop 236 = dktJ39_removeTreeNode_10 := dk_seg dksJ39_removeTreeNode_9 22 rfl rfl
theorem dksJ39_removeTreeNode_11 : cJ39_removeTreeNode.data.toList.drop 259 = dktJ39_removeTreeNode_11 := dk_seg dksJ39_removeTreeNode_10 23 rfl rfl
theorem dksJ39_removeTreeNode_12 : cJ39_removeTreeNode.data.toList.drop 283 = dktJ39_removeTreeNode_12 := dk_seg dksJ39_removeTreeNode_11 24 rfl rfl
theorem dksJ39_removeTreeNode_13 : cJ39_removeTreeNode.data.toList.drop 307 = dktJ39_removeTreeNode_13 := dk_seg dksJ39_removeTreeNode_12 24 rfl rfl
theorem dksJ39_removeTreeNode_14 : cJ39_removeTreeNode.data.toList.drop 331 = dktJ39_removeTreeNode_14 := dk_seg dksJ39_removeTreeNode_13 24 rfl rfl
theorem dksJ39_removeTreeNode_15 : cJ39_removeTreeNode.data.toList.drop 354 = dktJ39_removeTreeNode_15 := dk_seg dksJ39_removeTreeNode_14 23 rfl rfl
theorem dksJ39_removeTreeNode_16 : cJ39_removeTreeNode.data.toList.drop 378 = dktJ39_removeTreeNode_16 := dk_seg dksJ39_removeTreeNode_15 24 rfl rfl
theorem dksJ39_removeTreeNode_17 : cJ39_removeTreeNode.data.toList.drop 402 = dktJ39_removeTreeNode_17 := dk_seg dksJ39_removeTreeNode_16 24 rfl rfl
theorem dksJ39_removeTreeNode_18 : cJ39_removeTreeNode.data.toList.drop 424 = dktJ39_removeTreeNode_18 := dk_seg dksJ39_removeTreeNode_17 22 rfl rfl
theorem dksJ39_removeTreeNode_19 : cJ39_removeTreeNode.data.toList.drop 448 = dktJ39_removeTreeNode_19 := dk_seg dksJ39_removeTreeNode_18 24 rfl rfl
theorem dksJ39_removeTreeNode_20 : cJ39_removeTreeNode.data.toList.drop 471 = dktJ39_removeTreeNode_20 := dk_seg dksJ39_removeTreeNode_19 23 rfl rfl
theorem dksJ39_removeTreeNode_21 : cJ39_removeTreeNode.data.toList.drop 493 = dktJ39_removeTreeNode_21 := dk_seg dksJ39_removeTreeNode_20 22 rfl rfl
theorem dksJ39_removeTreeNode_22 : cJ39_removeTreeNode.data.toList.drop 516 = dktJ39_removeTreeNode_22 := dk_seg dksJ39_removeTreeNode_21 23 rfl rfl
theorem dksJ39_removeTreeNode_23 : cJ39_removeTreeNode.data.toList.drop 538 = dktJ39_removeTreeNode_23 := dk_seg dksJ39_removeTreeNode_22 22 rfl rfl
theorem dksJ39_removeTreeNode_24 : cJ39_removeTreeNode.data.toList.drop 561 = dktJ39_removeTreeNode_24 := dk_seg dksJ39_removeTreeNode_23 23 rfl rfl
theorem dksJ39_removeTreeNode_25 : cJ39_removeTreeNode.data.toList.drop 583 = dktJ39_removeTreeNode_25 := dk_seg dksJ39_removeTreeNode_24 22 rfl rfl
theorem dksJ39_removeTreeNode_26 : cJ39_removeTreeNode.data.toList.drop 607 = dktJ39_removeTreeNode_26 := dk_seg dksJ39_removeTreeNode_25 24 rfl rfl
theorem dksJ39_removeTreeNode_27 : cJ39_removeTreeNode.data.toList.drop 631 = dktJ39_removeTreeNode_27 := dk_seg dksJ39_removeTreeNode_26 24 rfl rfl
theorem dJ39_removeTreeNode_0 : decode cJ39_removeTreeNode 0 = .ok (.aload_n 2, 1) := dk_44 (dk_at dksJ39_removeTreeNode_0 0 rfl rfl)
theorem dJ39_removeTreeNode_1 : decode cJ39_removeTreeNode 1 = .ok (.ifnull 11, 3) := dk_198 0 11 (dk_at dksJ39_removeTreeNode_0 1 rfl rfl)
theorem dJ39_removeTreeNode_4 : decode cJ39_removeTreeNode 4 = .ok (.aload_n 2, 1) := dk_44 (dk_at dksJ39_removeTreeNode_0 4 rfl rfl)
theorem dJ39_removeTreeNode_5 : decode cJ39_removeTreeNode 5 = .ok (.arraylength, 1) := dk_190 (dk_at dksJ39_removeTreeNode_0 5 rfl rfl)
theorem dJ39_removeTreeNode_6 : decode cJ39_removeTreeNode 6 = .ok (.dup, 1) := dk_89 (dk_at dksJ39_removeTreeNode_0 6 rfl rfl)
theorem dJ39_removeTreeNode_7 : decode cJ39_removeTreeNode 7 = .ok (.istore 4, 2) := dk_54 4 (dk_at dksJ39_removeTreeNode_0 7 rfl rfl)
theorem dJ39_removeTreeNode_9 : decode cJ39_removeTreeNode 9 = .ok (.ifCond .ne 4, 3) := dk_154 0 4 (dk_at dksJ39_removeTreeNode_0 9 rfl rfl)
theorem dJ39_removeTreeNode_12 : decode cJ39_removeTreeNode 12 = .ok (.return_, 1) := dk_177 (dk_at dksJ39_removeTreeNode_0 12 rfl rfl)
theorem dJ39_removeTreeNode_13 : decode cJ39_removeTreeNode 13 = .ok (.iload 4, 2) := dk_21 4 (dk_at dksJ39_removeTreeNode_0 13 rfl rfl)
theorem dJ39_removeTreeNode_15 : decode cJ39_removeTreeNode 15 = .ok (.iconst 1, 1) := dk_4 (dk_at dksJ39_removeTreeNode_0 15 rfl rfl)
theorem dJ39_removeTreeNode_16 : decode cJ39_removeTreeNode 16 = .ok (.isub, 1) := dk_100 (dk_at dksJ39_removeTreeNode_0 16 rfl rfl)
theorem dJ39_removeTreeNode_17 : decode cJ39_removeTreeNode 17 = .ok (.aload_n 0, 1) := dk_42 (dk_at dksJ39_removeTreeNode_0 17 rfl rfl)
theorem dJ39_removeTreeNode_18 : decode cJ39_removeTreeNode 18 = .ok (.getfield 15, 3) := dk_180 0 15 (dk_at dksJ39_removeTreeNode_0 18 rfl rfl)
theorem dJ39_removeTreeNode_21 : decode cJ39_removeTreeNode 21 = .ok (.iand, 1) := dk_126 (dk_at dksJ39_removeTreeNode_0 21 rfl rfl)
theorem dJ39_removeTreeNode_22 : decode cJ39_removeTreeNode 22 = .ok (.istore 5, 2) := dk_54 5 (dk_at dksJ39_removeTreeNode_0 22 rfl rfl)
theorem dJ39_removeTreeNode_24 : decode cJ39_removeTreeNode 24 = .ok (.aload_n 2, 1) := dk_44 (dk_at dksJ39_removeTreeNode_1 0 rfl rfl)
theorem dJ39_removeTreeNode_25 : decode cJ39_removeTreeNode 25 = .ok (.iload 5, 2) := dk_21 5 (dk_at dksJ39_removeTreeNode_1 1 rfl rfl)
theorem dJ39_removeTreeNode_27 : decode cJ39_removeTreeNode 27 = .ok (.aaload, 1) := dk_50 (dk_at dksJ39_removeTreeNode_1 3 rfl rfl)
theorem dJ39_removeTreeNode_28 : decode cJ39_removeTreeNode 28 = .ok (.checkcast 10, 3) := dk_192 0 10 (dk_at dksJ39_removeTreeNode_1 4 rfl rfl)
theorem dJ39_removeTreeNode_31 : decode cJ39_removeTreeNode 31 = .ok (.astore 6, 2) := dk_58 6 (dk_at dksJ39_removeTreeNode_1 7 rfl rfl)
theorem dJ39_removeTreeNode_33 : decode cJ39_removeTreeNode 33 = .ok (.aload 6, 2) := dk_25 6 (dk_at dksJ39_removeTreeNode_1 9 rfl rfl)
theorem dJ39_removeTreeNode_35 : decode cJ39_removeTreeNode 35 = .ok (.astore 7, 2) := dk_58 7 (dk_at dksJ39_removeTreeNode_1 11 rfl rfl)
theorem dJ39_removeTreeNode_37 : decode cJ39_removeTreeNode 37 = .ok (.aload_n 0, 1) := dk_42 (dk_at dksJ39_removeTreeNode_1 13 rfl rfl)
theorem dJ39_removeTreeNode_38 : decode cJ39_removeTreeNode 38 = .ok (.getfield 22, 3) := dk_180 0 22 (dk_at dksJ39_removeTreeNode_1 14 rfl rfl)
theorem dJ39_removeTreeNode_41 : decode cJ39_removeTreeNode 41 = .ok (.checkcast 10, 3) := dk_192 0 10 (dk_at dksJ39_removeTreeNode_1 17 rfl rfl)
theorem dJ39_removeTreeNode_44 : decode cJ39_removeTreeNode 44 = .ok (.astore 9, 2) := dk_58 9 (dk_at dksJ39_removeTreeNode_1 20 rfl rfl)
theorem dJ39_removeTreeNode_46 : decode cJ39_removeTreeNode 46 = .ok (.aload_n 0, 1) := dk_42 (dk_at dksJ39_removeTreeNode_1 22 rfl rfl)
theorem dJ39_removeTreeNode_47 : decode cJ39_removeTreeNode 47 = .ok (.getfield 19, 3) := dk_180 0 19 (dk_at dksJ39_removeTreeNode_2 0 rfl rfl)
theorem dJ39_removeTreeNode_50 : decode cJ39_removeTreeNode 50 = .ok (.astore 10, 2) := dk_58 10 (dk_at dksJ39_removeTreeNode_2 3 rfl rfl)
theorem dJ39_removeTreeNode_52 : decode cJ39_removeTreeNode 52 = .ok (.aload 10, 2) := dk_25 10 (dk_at dksJ39_removeTreeNode_2 5 rfl rfl)
theorem dJ39_removeTreeNode_54 : decode cJ39_removeTreeNode 54 = .ok (.ifnonnull 15, 3) := dk_199 0 15 (dk_at dksJ39_removeTreeNode_2 7 rfl rfl)
theorem dJ39_removeTreeNode_57 : decode cJ39_removeTreeNode 57 = .ok (.aload_n 2, 1) := dk_44 (dk_at dksJ39_removeTreeNode_2 10 rfl rfl)
theorem dJ39_removeTreeNode_58 : decode cJ39_removeTreeNode 58 = .ok (.iload 5, 2) := dk_21 5 (dk_at dksJ39_removeTreeNode_2 11 rfl rfl)
theorem dJ39_removeTreeNode_60 : decode cJ39_removeTreeNode 60 = .ok (.aload 9, 2) := dk_25 9 (dk_at dksJ39_removeTreeNode_2 13 rfl rfl)
theorem dJ39_removeTreeNode_62 : decode cJ39_removeTreeNode 62 = .ok (.dup, 1) := dk_89 (dk_at dksJ39_removeTreeNode_2 15 rfl rfl)
theorem dJ39_removeTreeNode_63 : decode cJ39_removeTreeNode 63 = .ok (.astore 6, 2) := dk_58 6 (dk_at dksJ39_removeTreeNode_2 16 rfl rfl)
theorem dJ39_removeTreeNode_65 : decode cJ39_removeTreeNode 65 = .ok (.aastore, 1) := dk_83 (dk_at dksJ39_removeTreeNode_2 18 rfl rfl)
theorem dJ39_removeTreeNode_66 : decode cJ39_removeTreeNode 66 = .ok (.goto 10, 3) := dk_167 0 10 (dk_at dksJ39_removeTreeNode_2 19 rfl rfl)
theorem dJ39_removeTreeNode_69 : decode cJ39_removeTreeNode 69 = .ok (.aload 10, 2) := dk_25 10 (dk_at dksJ39_removeTreeNode_2 22 rfl rfl)
theorem dJ39_removeTreeNode_71 : decode cJ39_removeTreeNode 71 = .ok (.aload 9, 2) := dk_25 9 (dk_at dksJ39_removeTreeNode_3 0 rfl rfl)
theorem dJ39_removeTreeNode_73 : decode cJ39_removeTreeNode 73 = .ok (.putfield 22, 3) := dk_181 0 22 (dk_at dksJ39_removeTreeNode_3 2 rfl rfl)
theorem dJ39_removeTreeNode_76 : decode cJ39_removeTreeNode 76 = .ok (.aload 9, 2) := dk_25 9 (dk_at dksJ39_removeTreeNode_3 5 rfl rfl)
theorem dJ39_removeTreeNode_78 : decode cJ39_removeTreeNode 78 = .ok (.ifnull 10, 3) := dk_198 0 10 (dk_at dksJ39_removeTreeNode_3 7 rfl rfl)
theorem dJ39_removeTreeNode_81 : decode cJ39_removeTreeNode 81 = .ok (.aload 9, 2) := dk_25 9 (dk_at dksJ39_removeTreeNode_3 10 rfl rfl)
theorem dJ39_removeTreeNode_83 : decode cJ39_removeTreeNode 83 = .ok (.aload 10, 2) := dk_25 10 (dk_at dksJ39_removeTreeNode_3 12 rfl rfl)
theorem dJ39_removeTreeNode_85 : decode cJ39_removeTreeNode 85 = .ok (.putfield 19, 3) := dk_181 0 19 (dk_at dksJ39_removeTreeNode_3 14 rfl rfl)
theorem dJ39_removeTreeNode_88 : decode cJ39_removeTreeNode 88 = .ok (.aload 6, 2) := dk_25 6 (dk_at dksJ39_removeTreeNode_3 17 rfl rfl)
theorem dJ39_removeTreeNode_90 : decode cJ39_removeTreeNode 90 = .ok (.ifnonnull 4, 3) := dk_199 0 4 (dk_at dksJ39_removeTreeNode_3 19 rfl rfl)
theorem dJ39_removeTreeNode_93 : decode cJ39_removeTreeNode 93 = .ok (.return_, 1) := dk_177 (dk_at dksJ39_removeTreeNode_3 22 rfl rfl)
theorem dJ39_removeTreeNode_94 : decode cJ39_removeTreeNode 94 = .ok (.aload 7, 2) := dk_25 7 (dk_at dksJ39_removeTreeNode_4 0 rfl rfl)
theorem dJ39_removeTreeNode_96 : decode cJ39_removeTreeNode 96 = .ok (.getfield 9, 3) := dk_180 0 9 (dk_at dksJ39_removeTreeNode_4 2 rfl rfl)
theorem dJ39_removeTreeNode_99 : decode cJ39_removeTreeNode 99 = .ok (.ifnull 10, 3) := dk_198 0 10 (dk_at dksJ39_removeTreeNode_4 5 rfl rfl)
theorem dJ39_removeTreeNode_102 : decode cJ39_removeTreeNode 102 = .ok (.aload 7, 2) := dk_25 7 (dk_at dksJ39_removeTreeNode_4 8 rfl rfl)
theorem dJ39_removeTreeNode_104 : decode cJ39_removeTreeNode 104 = .ok (.invokevirtual 67, 3) := dk_182 0 67 (dk_at dksJ39_removeTreeNode_4 10 rfl rfl)
theorem dJ39_removeTreeNode_107 : decode cJ39_removeTreeNode 107 = .ok (.astore 7, 2) := dk_58 7 (dk_at dksJ39_removeTreeNode_4 13 rfl rfl)
theorem dJ39_removeTreeNode_109 : decode cJ39_removeTreeNode 109 = .ok (.aload 7, 2) := dk_25 7 (dk_at dksJ39_removeTreeNode_4 15 rfl rfl)
theorem dJ39_removeTreeNode_111 : decode cJ39_removeTreeNode 111 = .ok (.ifnull 34, 3) := dk_198 0 34 (dk_at dksJ39_removeTreeNode_4 17 rfl rfl)
theorem dJ39_removeTreeNode_114 : decode cJ39_removeTreeNode 114 = .ok (.iload_n 3, 1) := dk_29 (dk_at dksJ39_removeTreeNode_4 20 rfl rfl)
theorem dJ39_removeTreeNode_115 : decode cJ39_removeTreeNode 115 = .ok (.ifCond .eq 41, 3) := dk_153 0 41 (dk_at dksJ39_removeTreeNode_4 21 rfl rfl)
theorem dJ39_removeTreeNode_118 : decode cJ39_removeTreeNode 118 = .ok (.aload 7, 2) := dk_25 7 (dk_at dksJ39_removeTreeNode_5 0 rfl rfl)
theorem dJ39_removeTreeNode_120 : decode cJ39_removeTreeNode 120 = .ok (.getfield 42, 3) := dk_180 0 42 (dk_at dksJ39_removeTreeNode_5 2 rfl rfl)
theorem dJ39_removeTreeNode_123 : decode cJ39_removeTreeNode 123 = .ok (.ifnull 22, 3) := dk_198 0 22 (dk_at dksJ39_removeTreeNode_5 5 rfl rfl)
theorem dJ39_removeTreeNode_126 : decode cJ39_removeTreeNode 126 = .ok (.aload 7, 2) := dk_25 7 (dk_at dksJ39_removeTreeNode_5 8 rfl rfl)
theorem dJ39_removeTreeNode_128 : decode cJ39_removeTreeNode 128 = .ok (.getfield 39, 3) := dk_180 0 39 (dk_at dksJ39_removeTreeNode_5 10 rfl rfl)
theorem dJ39_removeTreeNode_131 : decode cJ39_removeTreeNode 131 = .ok (.dup, 1) := dk_89 (dk_at dksJ39_removeTreeNode_5 13 rfl rfl)
theorem dJ39_removeTreeNode_132 : decode cJ39_removeTreeNode 132 = .ok (.astore 8, 2) := dk_58 8 (dk_at dksJ39_removeTreeNode_5 14 rfl rfl)
theorem dJ39_removeTreeNode_134 : decode cJ39_removeTreeNode 134 = .ok (.ifnull 11, 3) := dk_198 0 11 (dk_at dksJ39_removeTreeNode_5 16 rfl rfl)
theorem dJ39_removeTreeNode_137 : decode cJ39_removeTreeNode 137 = .ok (.aload 8, 2) := dk_25 8 (dk_at dksJ39_removeTreeNode_5 19 rfl rfl)
theorem dJ39_removeTreeNode_139 : decode cJ39_removeTreeNode 139 = .ok (.getfield 39, 3) := dk_180 0 39 (dk_at dksJ39_removeTreeNode_5 21 rfl rfl)
theorem dJ39_removeTreeNode_142 : decode cJ39_removeTreeNode 142 = .ok (.ifnonnull 14, 3) := dk_199 0 14 (dk_at dksJ39_removeTreeNode_6 0 rfl rfl)
theorem dJ39_removeTreeNode_145 : decode cJ39_removeTreeNode 145 = .ok (.aload_n 2, 1) := dk_44 (dk_at dksJ39_removeTreeNode_6 3 rfl rfl)
theorem dJ39_removeTreeNode_146 : decode cJ39_removeTreeNode 146 = .ok (.iload 5, 2) := dk_21 5 (dk_at dksJ39_removeTreeNode_6 4 rfl rfl)
theorem dJ39_removeTreeNode_148 : decode cJ39_removeTreeNode 148 = .ok (.aload 6, 2) := dk_25 6 (dk_at dksJ39_removeTreeNode_6 6 rfl rfl)
theorem dJ39_removeTreeNode_150 : decode cJ39_removeTreeNode 150 = .ok (.aload_n 1, 1) := dk_43 (dk_at dksJ39_removeTreeNode_6 8 rfl rfl)
theorem dJ39_removeTreeNode_151 : decode cJ39_removeTreeNode 151 = .ok (.invokevirtual 119, 3) := dk_182 0 119 (dk_at dksJ39_removeTreeNode_6 9 rfl rfl)
theorem dJ39_removeTreeNode_154 : decode cJ39_removeTreeNode 154 = .ok (.aastore, 1) := dk_83 (dk_at dksJ39_removeTreeNode_6 12 rfl rfl)
theorem dJ39_removeTreeNode_155 : decode cJ39_removeTreeNode 155 = .ok (.return_, 1) := dk_177 (dk_at dksJ39_removeTreeNode_6 13 rfl rfl)
theorem dJ39_removeTreeNode_156 : decode cJ39_removeTreeNode 156 = .ok (.aload_n 0, 1) := dk_42 (dk_at dksJ39_removeTreeNode_6 14 rfl rfl)
theorem dJ39_removeTreeNode_157 : decode cJ39_removeTreeNode 157 = .ok (.astore 11, 2) := dk_58 11 (dk_at dksJ39_removeTreeNode_6 15 rfl rfl)
theorem dJ39_removeTreeNode_159 : decode cJ39_removeTreeNode 159 = .ok (.aload_n 0, 1) := dk_42 (dk_at dksJ39_removeTreeNode_6 17 rfl rfl)
theorem dJ39_removeTreeNode_160 : decode cJ39_removeTreeNode 160 = .ok (.getfield 39, 3) := dk_180 0 39 (dk_at dksJ39_removeTreeNode_6 18 rfl rfl)
theorem dJ39_removeTreeNode_163 : decode cJ39_removeTreeNode 163 = .ok (.astore 12, 2) := dk_58 12 (dk_at dksJ39_removeTreeNode_6 21 rfl rfl)
theorem dJ39_removeTreeNode_165 : decode cJ39_removeTreeNode 165 = .ok (.aload_n 0, 1) := dk_42 (dk_at dksJ39_removeTreeNode_6 23 rfl rfl)
theorem dJ39_removeTreeNode_166 : decode cJ39_removeTreeNode 166 = .ok (.getfield 42, 3) := dk_180 0 42 (dk_at dksJ39_removeTreeNode_7 0 rfl rfl)
theorem dJ39_removeTreeNode_169 : decode cJ39_removeTreeNode 169 = .ok (.astore 13, 2) := dk_58 13 (dk_at dksJ39_removeTreeNode_7 3 rfl rfl)
theorem dJ39_removeTreeNode_171 : decode cJ39_removeTreeNode 171 = .ok (.aload 12, 2) := dk_25 12 (dk_at dksJ39_removeTreeNode_7 5 rfl rfl)
theorem dJ39_removeTreeNode_173 : decode cJ39_removeTreeNode 173 = .ok (.ifnull 261, 3) := dk_198 1 5 (dk_at dksJ39_removeTreeNode_7 7 rfl rfl)
theorem dJ39_removeTreeNode_176 : decode cJ39_removeTreeNode 176 = .ok (.aload 13, 2) := dk_25 13 (dk_at dksJ39_removeTreeNode_7 10 rfl rfl)
theorem dJ39_removeTreeNode_178 : decode cJ39_removeTreeNode 178 = .ok (.ifnull 256, 3) := dk_198 1 0 (dk_at dksJ39_removeTreeNode_7 12 rfl rfl)
theorem dJ39_removeTreeNode_181 : decode cJ39_removeTreeNode 181 = .ok (.aload 13, 2) := dk_25 13 (dk_at dksJ39_removeTreeNode_7 15 rfl rfl)
theorem dJ39_removeTreeNode_183 : decode cJ39_removeTreeNode 183 = .ok (.astore 15, 2) := dk_58 15 (dk_at dksJ39_removeTreeNode_7 17 rfl rfl)
theorem dJ39_removeTreeNode_185 : decode cJ39_removeTreeNode 185 = .ok (.aload 15, 2) := dk_25 15 (dk_at dksJ39_removeTreeNode_7 19 rfl rfl)
theorem dJ39_removeTreeNode_187 : decode cJ39_removeTreeNode 187 = .ok (.getfield 39, 3) := dk_180 0 39 (dk_at dksJ39_removeTreeNode_7 21 rfl rfl)
theorem dJ39_removeTreeNode_190 : decode cJ39_removeTreeNode 190 = .ok (.dup, 1) := dk_89 (dk_at dksJ39_removeTreeNode_8 0 rfl rfl)
theorem dJ39_removeTreeNode_191 : decode cJ39_removeTreeNode 191 = .ok (.astore 16, 2) := dk_58 16 (dk_at dksJ39_removeTreeNode_8 1 rfl rfl)
theorem dJ39_removeTreeNode_193 : decode cJ39_removeTreeNode 193 = .ok (.ifnull 10, 3) := dk_198 0 10 (dk_at dksJ39_removeTreeNode_8 3 rfl rfl)
theorem dJ39_removeTreeNode_196 : decode cJ39_removeTreeNode 196 = .ok (.aload 16, 2) := dk_25 16 (dk_at dksJ39_removeTreeNode_8 6 rfl rfl)
theorem dJ39_removeTreeNode_198 : decode cJ39_removeTreeNode 198 = .ok (.astore 15, 2) := dk_58 15 (dk_at dksJ39_removeTreeNode_8 8 rfl rfl)
theorem dJ39_removeTreeNode_200 : decode cJ39_removeTreeNode 200 = .ok (.goto (-15), 3) := dk_167 255 241 (dk_at dksJ39_removeTreeNode_8 10 rfl rfl)
theorem dJ39_removeTreeNode_203 : decode cJ39_removeTreeNode 203 = .ok (.aload 15, 2) := dk_25 15 (dk_at dksJ39_removeTreeNode_8 13 rfl rfl)
theorem dJ39_removeTreeNode_205 : decode cJ39_removeTreeNode 205 = .ok (.getfield 93, 3) := dk_180 0 93 (dk_at dksJ39_removeTreeNode_8 15 rfl rfl)
theorem dJ39_removeTreeNode_208 : decode cJ39_removeTreeNode 208 = .ok (.istore 17, 2) := dk_54 17 (dk_at dksJ39_removeTreeNode_8 18 rfl rfl)
theorem dJ39_removeTreeNode_210 : decode cJ39_removeTreeNode 210 = .ok (.aload 15, 2) := dk_25 15 (dk_at dksJ39_removeTreeNode_8 20 rfl rfl)
theorem dJ39_removeTreeNode_212 : decode cJ39_removeTreeNode 212 = .ok (.aload 11, 2) := dk_25 11 (dk_at dksJ39_removeTreeNode_8 22 rfl rfl)
theorem dJ39_removeTreeNode_214 : decode cJ39_removeTreeNode 214 = .ok (.getfield 93, 3) := dk_180 0 93 (dk_at dksJ39_removeTreeNode_9 0 rfl rfl)
theorem dJ39_removeTreeNode_217 : decode cJ39_removeTreeNode 217 = .ok (.putfield 93, 3) := dk_181 0 93 (dk_at dksJ39_removeTreeNode_9 3 rfl rfl)
theorem dJ39_removeTreeNode_220 : decode cJ39_removeTreeNode 220 = .ok (.aload 11, 2) := dk_25 11 (dk_at dksJ39_removeTreeNode_9 6 rfl rfl)
theorem dJ39_removeTreeNode_222 : decode cJ39_removeTreeNode 222 = .ok (.iload 17, 2) := dk_21 17 (dk_at dksJ39_removeTreeNode_9 8 rfl rfl)
theorem dJ39_removeTreeNode_224 : decode cJ39_removeTreeNode 224 = .ok (.putfield 93, 3) := dk_181 0 93 (dk_at dksJ39_removeTreeNode_9 10 rfl rfl)
theorem dJ39_removeTreeNode_227 : decode cJ39_removeTreeNode 227 = .ok (.aload 15, 2) := dk_25 15 (dk_at dksJ39_removeTreeNode_9 13 rfl rfl)
theorem dJ39_removeTreeNode_229 : decode cJ39_removeTreeNode 229 = .ok (.getfield 42, 3) := dk_180 0 42 (dk_at dksJ39_removeTreeNode_9 15 rfl rfl)
theorem dJ39_removeTreeNode_232 : decode cJ39_removeTreeNode 232 = .ok (.astore 18, 2) := dk_58 18 (dk_at dksJ39_removeTreeNode_9 18 rfl rfl)
theorem dJ39_removeTreeNode_234 : decode cJ39_removeTreeNode 234 = .ok (.aload 11, 2) := dk_25 11 (dk_at dksJ39_removeTreeNode_9 20 rfl rfl)
theorem dJ39_removeTreeNode_236 : decode cJ39_removeTreeNode 236 = .ok (.getfield 9, 3) := dk_180 0 9 (dk_at dksJ39_removeTreeNode_10 0 rfl rfl)
theorem dJ39_removeTreeNode_239 : decode cJ39_removeTreeNode 239 = .ok (.astore 19, 2) := dk_58 19 (dk_at dksJ39_removeTreeNode_10 3 rfl rfl)
theorem dJ39_removeTreeNode_241 : decode cJ39_removeTreeNode 241 = .ok (.aload 15, 2) := dk_25 15 (dk_at dksJ39_removeTreeNode_10 5 rfl rfl)
theorem dJ39_removeTreeNode_243 : decode cJ39_removeTreeNode 243 = .ok (.aload 13, 2) := dk_25 13 (dk_at dksJ39_removeTreeNode_10 7 rfl rfl)
theorem dJ39_removeTreeNode_245 : decode cJ39_removeTreeNode 245 = .ok (.if_acmp .ne 20, 3) := dk_166 0 20 (dk_at dksJ39_removeTreeNode_10 9 rfl rfl)
theorem dJ39_removeTreeNode_248 : decode cJ39_removeTreeNode 248 = .ok (.aload 11, 2) := dk_25 11 (dk_at dksJ39_removeTreeNode_10 12 rfl rfl)
theorem dJ39_removeTreeNode_250 : decode cJ39_removeTreeNode 250 = .ok (.aload 15, 2) := dk_25 15 (dk_at dksJ39_removeTreeNode_10 14 rfl rfl)
theorem dJ39_removeTreeNode_252 : decode cJ39_removeTreeNode 252 = .ok (.putfield 9, 3) := dk_181 0 9 (dk_at dksJ39_removeTreeNode_10 16 rfl rfl)
theorem dJ39_removeTreeNode_255 : decode cJ39_removeTreeNode 255 = .ok (.aload 15, 2) := dk_25 15 (dk_at dksJ39_removeTreeNode_10 19 rfl rfl)
theorem dJ39_removeTreeNode_257 : decode cJ39_removeTreeNode 257 = .ok (.aload 11, 2) := dk_25 11 (dk_at dksJ39_removeTreeNode_10 21 rfl rfl)
theorem dJ39_removeTreeNode_259 : decode cJ39_removeTreeNode 259 = .ok (.putfield 42, 3) := dk_181 0 42 (dk_at dksJ39_removeTreeNode_11 0 rfl rfl)
theorem dJ39_removeTreeNode_262 : decode cJ39_removeTreeNode 262 = .ok (.goto 66, 3) := dk_167 0 66 (dk_at dksJ39_removeTreeNode_11 3 rfl rfl)
theorem dJ39_removeTreeNode_265 : decode cJ39_removeTreeNode 265 = .ok (.aload 15, 2) := dk_25 15 (dk_at dksJ39_removeTreeNode_11 6 rfl rfl)
theorem dJ39_removeTreeNode_267 : decode cJ39_removeTreeNode 267 = .ok (.getfield 9, 3) := dk_180 0 9 (dk_at dksJ39_removeTreeNode_11 8 rfl rfl)
theorem dJ39_removeTreeNode_270 : decode cJ39_removeTreeNode 270 = .ok (.astore 20, 2) := dk_58 20 (dk_at dksJ39_removeTreeNode_11 11 rfl rfl)
theorem dJ39_removeTreeNode_272 : decode cJ39_removeTreeNode 272 = .ok (.aload 11, 2) := dk_25 11 (dk_at dksJ39_removeTreeNode_11 13 rfl rfl)
theorem dJ39_removeTreeNode_274 : decode cJ39_removeTreeNode 274 = .ok (.aload 20, 2) := dk_25 20 (dk_at dksJ39_removeTreeNode_11 15 rfl rfl)
theorem dJ39_removeTreeNode_276 : decode cJ39_removeTreeNode 276 = .ok (.dup_x1, 1) := dk_90 (dk_at dksJ39_removeTreeNode_11 17 rfl rfl)
theorem dJ39_removeTreeNode_277 : decode cJ39_removeTreeNode 277 = .ok (.putfield 9, 3) := dk_181 0 9 (dk_at dksJ39_removeTreeNode_11 18 rfl rfl)
theorem dJ39_removeTreeNode_280 : decode cJ39_removeTreeNode 280 = .ok (.ifnull 30, 3) := dk_198 0 30 (dk_at dksJ39_removeTreeNode_11 21 rfl rfl)
theorem dJ39_removeTreeNode_283 : decode cJ39_removeTreeNode 283 = .ok (.aload 15, 2) := dk_25 15 (dk_at dksJ39_removeTreeNode_12 0 rfl rfl)
theorem dJ39_removeTreeNode_285 : decode cJ39_removeTreeNode 285 = .ok (.aload 20, 2) := dk_25 20 (dk_at dksJ39_removeTreeNode_12 2 rfl rfl)
theorem dJ39_removeTreeNode_287 : decode cJ39_removeTreeNode 287 = .ok (.getfield 39, 3) := dk_180 0 39 (dk_at dksJ39_removeTreeNode_12 4 rfl rfl)
theorem dJ39_removeTreeNode_290 : decode cJ39_removeTreeNode 290 = .ok (.if_acmp .ne 13, 3) := dk_166 0 13 (dk_at dksJ39_removeTreeNode_12 7 rfl rfl)
theorem dJ39_removeTreeNode_293 : decode cJ39_removeTreeNode 293 = .ok (.aload 20, 2) := dk_25 20 (dk_at dksJ39_removeTreeNode_12 10 rfl rfl)
theorem dJ39_removeTreeNode_295 : decode cJ39_removeTreeNode 295 = .ok (.aload 11, 2) := dk_25 11 (dk_at dksJ39_removeTreeNode_12 12 rfl rfl)
theorem dJ39_removeTreeNode_297 : decode cJ39_removeTreeNode 297 = .ok (.putfield 39, 3) := dk_181 0 39 (dk_at dksJ39_removeTreeNode_12 14 rfl rfl)
theorem dJ39_removeTreeNode_300 : decode cJ39_removeTreeNode 300 = .ok (.goto 10, 3) := dk_167 0 10 (dk_at dksJ39_removeTreeNode_12 17 rfl rfl)
theorem dJ39_removeTreeNode_303 : decode cJ39_removeTreeNode 303 = .ok (.aload 20, 2) := dk_25 20 (dk_at dksJ39_removeTreeNode_12 20 rfl rfl)
theorem dJ39_removeTreeNode_305 : decode cJ39_removeTreeNode 305 = .ok (.aload 11, 2) := dk_25 11 (dk_at dksJ39_removeTreeNode_12 22 rfl rfl)
theorem dJ39_removeTreeNode_307 : decode cJ39_removeTreeNode 307 = .ok (.putfield 42, 3) := dk_181 0 42 (dk_at dksJ39_removeTreeNode_13 0 rfl rfl)
theorem dJ39_removeTreeNode_310 : decode cJ39_removeTreeNode 310 = .ok (.aload 15, 2) := dk_25 15 (dk_at dksJ39_removeTreeNode_13 3 rfl rfl)
theorem dJ39_removeTreeNode_312 : decode cJ39_removeTreeNode 312 = .ok (.aload 13, 2) := dk_25 13 (dk_at dksJ39_removeTreeNode_13 5 rfl rfl)
theorem dJ39_removeTreeNode_314 : decode cJ39_removeTreeNode 314 = .ok (.dup_x1, 1) := dk_90 (dk_at dksJ39_removeTreeNode_13 7 rfl rfl)
theorem dJ39_removeTreeNode_315 : decode cJ39_removeTreeNode 315 = .ok (.putfield 42, 3) := dk_181 0 42 (dk_at dksJ39_removeTreeNode_13 8 rfl rfl)
theorem dJ39_removeTreeNode_318 : decode cJ39_removeTreeNode 318 = .ok (.ifnull 10, 3) := dk_198 0 10 (dk_at dksJ39_removeTreeNode_13 11 rfl rfl)
theorem dJ39_removeTreeNode_321 : decode cJ39_removeTreeNode 321 = .ok (.aload 13, 2) := dk_25 13 (dk_at dksJ39_removeTreeNode_13 14 rfl rfl)
theorem dJ39_removeTreeNode_323 : decode cJ39_removeTreeNode 323 = .ok (.aload 15, 2) := dk_25 15 (dk_at dksJ39_removeTreeNode_13 16 rfl rfl)
theorem dJ39_removeTreeNode_325 : decode cJ39_removeTreeNode 325 = .ok (.putfield 9, 3) := dk_181 0 9 (dk_at dksJ39_removeTreeNode_13 18 rfl rfl)
theorem dJ39_removeTreeNode_328 : decode cJ39_removeTreeNode 328 = .ok (.aload 11, 2) := dk_25 11 (dk_at dksJ39_removeTreeNode_13 21 rfl rfl)
theorem dJ39_removeTreeNode_330 : decode cJ39_removeTreeNode 330 = .ok (.aconst_null, 1) := dk_1 (dk_at dksJ39_removeTreeNode_13 23 rfl rfl)
theorem dJ39_removeTreeNode_331 : decode cJ39_removeTreeNode 331 = .ok (.putfield 39, 3) := dk_181 0 39 (dk_at dksJ39_removeTreeNode_14 0 rfl rfl)
theorem dJ39_removeTreeNode_334 : decode cJ39_removeTreeNode 334 = .ok (.aload 11, 2) := dk_25 11 (dk_at dksJ39_removeTreeNode_14 3 rfl rfl)
theorem dJ39_removeTreeNode_336 : decode cJ39_removeTreeNode 336 = .ok (.aload 18, 2) := dk_25 18 (dk_at dksJ39_removeTreeNode_14 5 rfl rfl)
theorem dJ39_removeTreeNode_338 : decode cJ39_removeTreeNode 338 = .ok (.dup_x1, 1) := dk_90 (dk_at dksJ39_removeTreeNode_14 7 rfl rfl)
theorem dJ39_removeTreeNode_339 : decode cJ39_removeTreeNode 339 = .ok (.putfield 42, 3) := dk_181 0 42 (dk_at dksJ39_removeTreeNode_14 8 rfl rfl)
theorem dJ39_removeTreeNode_342 : decode cJ39_removeTreeNode 342 = .ok (.ifnull 10, 3) := dk_198 0 10 (dk_at dksJ39_removeTreeNode_14 11 rfl rfl)
theorem dJ39_removeTreeNode_345 : decode cJ39_removeTreeNode 345 = .ok (.aload 18, 2) := dk_25 18 (dk_at dksJ39_removeTreeNode_14 14 rfl rfl)
theorem dJ39_removeTreeNode_347 : decode cJ39_removeTreeNode 347 = .ok (.aload 11, 2) := dk_25 11 (dk_at dksJ39_removeTreeNode_14 16 rfl rfl)
theorem dJ39_removeTreeNode_349 : decode cJ39_removeTreeNode 349 = .ok (.putfield 9, 3) := dk_181 0 9 (dk_at dksJ39_removeTreeNode_14 18 rfl rfl)
theorem dJ39_removeTreeNode_352 : decode cJ39_removeTreeNode 352 = .ok (.aload 15, 2) := dk_25 15 (dk_at dksJ39_removeTreeNode_14 21 rfl rfl)
theorem dJ39_removeTreeNode_354 : decode cJ39_removeTreeNode 354 = .ok (.aload 12, 2) := dk_25 12 (dk_at dksJ39_removeTreeNode_15 0 rfl rfl)
theorem dJ39_removeTreeNode_356 : decode cJ39_removeTreeNode 356 = .ok (.dup_x1, 1) := dk_90 (dk_at dksJ39_removeTreeNode_15 2 rfl rfl)
theorem dJ39_removeTreeNode_357 : decode cJ39_removeTreeNode 357 = .ok (.putfield 39, 3) := dk_181 0 39 (dk_at dksJ39_removeTreeNode_15 3 rfl rfl)
theorem dJ39_removeTreeNode_360 : decode cJ39_removeTreeNode 360 = .ok (.ifnull 10, 3) := dk_198 0 10 (dk_at dksJ39_removeTreeNode_15 6 rfl rfl)
theorem dJ39_removeTreeNode_363 : decode cJ39_removeTreeNode 363 = .ok (.aload 12, 2) := dk_25 12 (dk_at dksJ39_removeTreeNode_15 9 rfl rfl)
theorem dJ39_removeTreeNode_365 : decode cJ39_removeTreeNode 365 = .ok (.aload 15, 2) := dk_25 15 (dk_at dksJ39_removeTreeNode_15 11 rfl rfl)
theorem dJ39_removeTreeNode_367 : decode cJ39_removeTreeNode 367 = .ok (.putfield 9, 3) := dk_181 0 9 (dk_at dksJ39_removeTreeNode_15 13 rfl rfl)
theorem dJ39_removeTreeNode_370 : decode cJ39_removeTreeNode 370 = .ok (.aload 15, 2) := dk_25 15 (dk_at dksJ39_removeTreeNode_15 16 rfl rfl)
theorem dJ39_removeTreeNode_372 : decode cJ39_removeTreeNode 372 = .ok (.aload 19, 2) := dk_25 19 (dk_at dksJ39_removeTreeNode_15 18 rfl rfl)
theorem dJ39_removeTreeNode_374 : decode cJ39_removeTreeNode 374 = .ok (.dup_x1, 1) := dk_90 (dk_at dksJ39_removeTreeNode_15 20 rfl rfl)
theorem dJ39_removeTreeNode_375 : decode cJ39_removeTreeNode 375 = .ok (.putfield 9, 3) := dk_181 0 9 (dk_at dksJ39_removeTreeNode_15 21 rfl rfl)
theorem dJ39_removeTreeNode_378 : decode cJ39_removeTreeNode 378 = .ok (.ifnonnull 10, 3) := dk_199 0 10 (dk_at dksJ39_removeTreeNode_16 0 rfl rfl)
theorem dJ39_removeTreeNode_381 : decode cJ39_removeTreeNode 381 = .ok (.aload 15, 2) := dk_25 15 (dk_at dksJ39_removeTreeNode_16 3 rfl rfl)
theorem dJ39_removeTreeNode_383 : decode cJ39_removeTreeNode 383 = .ok (.astore 7, 2) := dk_58 7 (dk_at dksJ39_removeTreeNode_16 5 rfl rfl)
theorem dJ39_removeTreeNode_385 : decode cJ39_removeTreeNode 385 = .ok (.goto 30, 3) := dk_167 0 30 (dk_at dksJ39_removeTreeNode_16 7 rfl rfl)
theorem dJ39_removeTreeNode_388 : decode cJ39_removeTreeNode 388 = .ok (.aload 11, 2) := dk_25 11 (dk_at dksJ39_removeTreeNode_16 10 rfl rfl)
theorem dJ39_removeTreeNode_390 : decode cJ39_removeTreeNode 390 = .ok (.aload 19, 2) := dk_25 19 (dk_at dksJ39_removeTreeNode_16 12 rfl rfl)
theorem dJ39_removeTreeNode_392 : decode cJ39_removeTreeNode 392 = .ok (.getfield 39, 3) := dk_180 0 39 (dk_at dksJ39_removeTreeNode_16 14 rfl rfl)
theorem dJ39_removeTreeNode_395 : decode cJ39_removeTreeNode 395 = .ok (.if_acmp .ne 13, 3) := dk_166 0 13 (dk_at dksJ39_removeTreeNode_16 17 rfl rfl)
theorem dJ39_removeTreeNode_398 : decode cJ39_removeTreeNode 398 = .ok (.aload 19, 2) := dk_25 19 (dk_at dksJ39_removeTreeNode_16 20 rfl rfl)
theorem dJ39_removeTreeNode_400 : decode cJ39_removeTreeNode 400 = .ok (.aload 15, 2) := dk_25 15 (dk_at dksJ39_removeTreeNode_16 22 rfl rfl)
theorem dJ39_removeTreeNode_402 : decode cJ39_removeTreeNode 402 = .ok (.putfield 39, 3) := dk_181 0 39 (dk_at dksJ39_removeTreeNode_17 0 rfl rfl)
theorem dJ39_removeTreeNode_405 : decode cJ39_removeTreeNode 405 = .ok (.goto 10, 3) := dk_167 0 10 (dk_at dksJ39_removeTreeNode_17 3 rfl rfl)
theorem dJ39_removeTreeNode_408 : decode cJ39_removeTreeNode 408 = .ok (.aload 19, 2) := dk_25 19 (dk_at dksJ39_removeTreeNode_17 6 rfl rfl)
theorem dJ39_removeTreeNode_410 : decode cJ39_removeTreeNode 410 = .ok (.aload 15, 2) := dk_25 15 (dk_at dksJ39_removeTreeNode_17 8 rfl rfl)
theorem dJ39_removeTreeNode_412 : decode cJ39_removeTreeNode 412 = .ok (.putfield 42, 3) := dk_181 0 42 (dk_at dksJ39_removeTreeNode_17 10 rfl rfl)
theorem dJ39_removeTreeNode_415 : decode cJ39_removeTreeNode 415 = .ok (.aload 18, 2) := dk_25 18 (dk_at dksJ39_removeTreeNode_17 13 rfl rfl)
theorem dJ39_removeTreeNode_417 : decode cJ39_removeTreeNode 417 = .ok (.ifnull 10, 3) := dk_198 0 10 (dk_at dksJ39_removeTreeNode_17 15 rfl rfl)
theorem dJ39_removeTreeNode_420 : decode cJ39_removeTreeNode 420 = .ok (.aload 18, 2) := dk_25 18 (dk_at dksJ39_removeTreeNode_17 18 rfl rfl)
theorem dJ39_removeTreeNode_422 : decode cJ39_removeTreeNode 422 = .ok (.astore 14, 2) := dk_58 14 (dk_at dksJ39_removeTreeNode_17 20 rfl rfl)
theorem dJ39_removeTreeNode_424 : decode cJ39_removeTreeNode 424 = .ok (.goto 7, 3) := dk_167 0 7 (dk_at dksJ39_removeTreeNode_18 0 rfl rfl)
theorem dJ39_removeTreeNode_427 : decode cJ39_removeTreeNode 427 = .ok (.aload 11, 2) := dk_25 11 (dk_at dksJ39_removeTreeNode_18 3 rfl rfl)
theorem dJ39_removeTreeNode_429 : decode cJ39_removeTreeNode 429 = .ok (.astore 14, 2) := dk_58 14 (dk_at dksJ39_removeTreeNode_18 5 rfl rfl)
theorem dJ39_removeTreeNode_431 : decode cJ39_removeTreeNode 431 = .ok (.goto 31, 3) := dk_167 0 31 (dk_at dksJ39_removeTreeNode_18 7 rfl rfl)
theorem dJ39_removeTreeNode_434 : decode cJ39_removeTreeNode 434 = .ok (.aload 12, 2) := dk_25 12 (dk_at dksJ39_removeTreeNode_18 10 rfl rfl)
theorem dJ39_removeTreeNode_436 : decode cJ39_removeTreeNode 436 = .ok (.ifnull 10, 3) := dk_198 0 10 (dk_at dksJ39_removeTreeNode_18 12 rfl rfl)
theorem dJ39_removeTreeNode_439 : decode cJ39_removeTreeNode 439 = .ok (.aload 12, 2) := dk_25 12 (dk_at dksJ39_removeTreeNode_18 15 rfl rfl)
theorem dJ39_removeTreeNode_441 : decode cJ39_removeTreeNode 441 = .ok (.astore 14, 2) := dk_58 14 (dk_at dksJ39_removeTreeNode_18 17 rfl rfl)
theorem dJ39_removeTreeNode_443 : decode cJ39_removeTreeNode 443 = .ok (.goto 19, 3) := dk_167 0 19 (dk_at dksJ39_removeTreeNode_18 19 rfl rfl)
theorem dJ39_removeTreeNode_446 : decode cJ39_removeTreeNode 446 = .ok (.aload 13, 2) := dk_25 13 (dk_at dksJ39_removeTreeNode_18 22 rfl rfl)
theorem dJ39_removeTreeNode_448 : decode cJ39_removeTreeNode 448 = .ok (.ifnull 10, 3) := dk_198 0 10 (dk_at dksJ39_removeTreeNode_19 0 rfl rfl)
theorem dJ39_removeTreeNode_451 : decode cJ39_removeTreeNode 451 = .ok (.aload 13, 2) := dk_25 13 (dk_at dksJ39_removeTreeNode_19 3 rfl rfl)
theorem dJ39_removeTreeNode_453 : decode cJ39_removeTreeNode 453 = .ok (.astore 14, 2) := dk_58 14 (dk_at dksJ39_removeTreeNode_19 5 rfl rfl)
theorem dJ39_removeTreeNode_455 : decode cJ39_removeTreeNode 455 = .ok (.goto 7, 3) := dk_167 0 7 (dk_at dksJ39_removeTreeNode_19 7 rfl rfl)
theorem dJ39_removeTreeNode_458 : decode cJ39_removeTreeNode 458 = .ok (.aload 11, 2) := dk_25 11 (dk_at dksJ39_removeTreeNode_19 10 rfl rfl)
theorem dJ39_removeTreeNode_460 : decode cJ39_removeTreeNode 460 = .ok (.astore 14, 2) := dk_58 14 (dk_at dksJ39_removeTreeNode_19 12 rfl rfl)
theorem dJ39_removeTreeNode_462 : decode cJ39_removeTreeNode 462 = .ok (.aload 14, 2) := dk_25 14 (dk_at dksJ39_removeTreeNode_19 14 rfl rfl)
theorem dJ39_removeTreeNode_464 : decode cJ39_removeTreeNode 464 = .ok (.aload 11, 2) := dk_25 11 (dk_at dksJ39_removeTreeNode_19 16 rfl rfl)
theorem dJ39_removeTreeNode_466 : decode cJ39_removeTreeNode 466 = .ok (.if_acmp .eq 78, 3) := dk_165 0 78 (dk_at dksJ39_removeTreeNode_19 18 rfl rfl)
theorem dJ39_removeTreeNode_469 : decode cJ39_removeTreeNode 469 = .ok (.aload 14, 2) := dk_25 14 (dk_at dksJ39_removeTreeNode_19 21 rfl rfl)
theorem dJ39_removeTreeNode_471 : decode cJ39_removeTreeNode 471 = .ok (.aload 11, 2) := dk_25 11 (dk_at dksJ39_removeTreeNode_20 0 rfl rfl)
theorem dJ39_removeTreeNode_473 : decode cJ39_removeTreeNode 473 = .ok (.getfield 9, 3) := dk_180 0 9 (dk_at dksJ39_removeTreeNode_20 2 rfl rfl)
theorem dJ39_removeTreeNode_476 : decode cJ39_removeTreeNode 476 = .ok (.dup_x1, 1) := dk_90 (dk_at dksJ39_removeTreeNode_20 5 rfl rfl)
theorem dJ39_removeTreeNode_477 : decode cJ39_removeTreeNode 477 = .ok (.putfield 9, 3) := dk_181 0 9 (dk_at dksJ39_removeTreeNode_20 6 rfl rfl)
theorem dJ39_removeTreeNode_480 : decode cJ39_removeTreeNode 480 = .ok (.astore 15, 2) := dk_58 15 (dk_at dksJ39_removeTreeNode_20 9 rfl rfl)
theorem dJ39_removeTreeNode_482 : decode cJ39_removeTreeNode 482 = .ok (.aload 15, 2) := dk_25 15 (dk_at dksJ39_removeTreeNode_20 11 rfl rfl)
theorem dJ39_removeTreeNode_484 : decode cJ39_removeTreeNode 484 = .ok (.ifnonnull 15, 3) := dk_199 0 15 (dk_at dksJ39_removeTreeNode_20 13 rfl rfl)
theorem dJ39_removeTreeNode_487 : decode cJ39_removeTreeNode 487 = .ok (.aload 14, 2) := dk_25 14 (dk_at dksJ39_removeTreeNode_20 16 rfl rfl)
theorem dJ39_removeTreeNode_489 : decode cJ39_removeTreeNode 489 = .ok (.dup, 1) := dk_89 (dk_at dksJ39_removeTreeNode_20 18 rfl rfl)
theorem dJ39_removeTreeNode_490 : decode cJ39_removeTreeNode 490 = .ok (.astore 7, 2) := dk_58 7 (dk_at dksJ39_removeTreeNode_20 19 rfl rfl)
theorem dJ39_removeTreeNode_492 : decode cJ39_removeTreeNode 492 = .ok (.iconst 0, 1) := dk_3 (dk_at dksJ39_removeTreeNode_20 21 rfl rfl)
theorem dJ39_removeTreeNode_493 : decode cJ39_removeTreeNode 493 = .ok (.putfield 93, 3) := dk_181 0 93 (dk_at dksJ39_removeTreeNode_21 0 rfl rfl)
theorem dJ39_removeTreeNode_496 : decode cJ39_removeTreeNode 496 = .ok (.goto 30, 3) := dk_167 0 30 (dk_at dksJ39_removeTreeNode_21 3 rfl rfl)
theorem dJ39_removeTreeNode_499 : decode cJ39_removeTreeNode 499 = .ok (.aload 11, 2) := dk_25 11 (dk_at dksJ39_removeTreeNode_21 6 rfl rfl)
theorem dJ39_removeTreeNode_501 : decode cJ39_removeTreeNode 501 = .ok (.aload 15, 2) := dk_25 15 (dk_at dksJ39_removeTreeNode_21 8 rfl rfl)
theorem dJ39_removeTreeNode_503 : decode cJ39_removeTreeNode 503 = .ok (.getfield 39, 3) := dk_180 0 39 (dk_at dksJ39_removeTreeNode_21 10 rfl rfl)
theorem dJ39_removeTreeNode_506 : decode cJ39_removeTreeNode 506 = .ok (.if_acmp .ne 13, 3) := dk_166 0 13 (dk_at dksJ39_removeTreeNode_21 13 rfl rfl)
theorem dJ39_removeTreeNode_509 : decode cJ39_removeTreeNode 509 = .ok (.aload 15, 2) := dk_25 15 (dk_at dksJ39_removeTreeNode_21 16 rfl rfl)
theorem dJ39_removeTreeNode_511 : decode cJ39_removeTreeNode 511 = .ok (.aload 14, 2) := dk_25 14 (dk_at dksJ39_removeTreeNode_21 18 rfl rfl)
theorem dJ39_removeTreeNode_513 : decode cJ39_removeTreeNode 513 = .ok (.putfield 39, 3) := dk_181 0 39 (dk_at dksJ39_removeTreeNode_21 20 rfl rfl)
theorem dJ39_removeTreeNode_516 : decode cJ39_removeTreeNode 516 = .ok (.goto 10, 3) := dk_167 0 10 (dk_at dksJ39_removeTreeNode_22 0 rfl rfl)
theorem dJ39_removeTreeNode_519 : decode cJ39_removeTreeNode 519 = .ok (.aload 15, 2) := dk_25 15 (dk_at dksJ39_removeTreeNode_22 3 rfl rfl)
theorem dJ39_removeTreeNode_521 : decode cJ39_removeTreeNode 521 = .ok (.aload 14, 2) := dk_25 14 (dk_at dksJ39_removeTreeNode_22 5 rfl rfl)
theorem dJ39_removeTreeNode_523 : decode cJ39_removeTreeNode 523 = .ok (.putfield 42, 3) := dk_181 0 42 (dk_at dksJ39_removeTreeNode_22 7 rfl rfl)
theorem dJ39_removeTreeNode_526 : decode cJ39_removeTreeNode 526 = .ok (.aload 11, 2) := dk_25 11 (dk_at dksJ39_removeTreeNode_22 10 rfl rfl)
theorem dJ39_removeTreeNode_528 : decode cJ39_removeTreeNode 528 = .ok (.aload 11, 2) := dk_25 11 (dk_at dksJ39_removeTreeNode_22 12 rfl rfl)
theorem dJ39_removeTreeNode_530 : decode cJ39_removeTreeNode 530 = .ok (.aload 11, 2) := dk_25 11 (dk_at dksJ39_removeTreeNode_22 14 rfl rfl)
theorem dJ39_removeTreeNode_532 : decode cJ39_removeTreeNode 532 = .ok (.aconst_null, 1) := dk_1 (dk_at dksJ39_removeTreeNode_22 16 rfl rfl)
theorem dJ39_removeTreeNode_533 : decode cJ39_removeTreeNode 533 = .ok (.dup_x1, 1) := dk_90 (dk_at dksJ39_removeTreeNode_22 17 rfl rfl)
theorem dJ39_removeTreeNode_534 : decode cJ39_removeTreeNode 534 = .ok (.putfield 9, 3) := dk_181 0 9 (dk_at dksJ39_removeTreeNode_22 18 rfl rfl)
theorem dJ39_removeTreeNode_537 : decode cJ39_removeTreeNode 537 = .ok (.dup_x1, 1) := dk_90 (dk_at dksJ39_removeTreeNode_22 21 rfl rfl)
theorem dJ39_removeTreeNode_538 : decode cJ39_removeTreeNode 538 = .ok (.putfield 42, 3) := dk_181 0 42 (dk_at dksJ39_removeTreeNode_23 0 rfl rfl)
theorem dJ39_removeTreeNode_541 : decode cJ39_removeTreeNode 541 = .ok (.putfield 39, 3) := dk_181 0 39 (dk_at dksJ39_removeTreeNode_23 3 rfl rfl)
theorem dJ39_removeTreeNode_544 : decode cJ39_removeTreeNode 544 = .ok (.aload 11, 2) := dk_25 11 (dk_at dksJ39_removeTreeNode_23 6 rfl rfl)
theorem dJ39_removeTreeNode_546 : decode cJ39_removeTreeNode 546 = .ok (.getfield 93, 3) := dk_180 0 93 (dk_at dksJ39_removeTreeNode_23 8 rfl rfl)
theorem dJ39_removeTreeNode_549 : decode cJ39_removeTreeNode 549 = .ok (.ifCond .eq 8, 3) := dk_153 0 8 (dk_at dksJ39_removeTreeNode_23 11 rfl rfl)
theorem dJ39_removeTreeNode_552 : decode cJ39_removeTreeNode 552 = .ok (.aload 7, 2) := dk_25 7 (dk_at dksJ39_removeTreeNode_23 14 rfl rfl)
theorem dJ39_removeTreeNode_554 : decode cJ39_removeTreeNode 554 = .ok (.goto 10, 3) := dk_167 0 10 (dk_at dksJ39_removeTreeNode_23 16 rfl rfl)
theorem dJ39_removeTreeNode_557 : decode cJ39_removeTreeNode 557 = .ok (.aload 7, 2) := dk_25 7 (dk_at dksJ39_removeTreeNode_23 19 rfl rfl)
theorem dJ39_removeTreeNode_559 : decode cJ39_removeTreeNode 559 = .ok (.aload 14, 2) := dk_25 14 (dk_at dksJ39_removeTreeNode_23 21 rfl rfl)
theorem dJ39_removeTreeNode_561 : decode cJ39_removeTreeNode 561 = .ok (.invokestatic 123, 3) := dk_184 0 123 (dk_at dksJ39_removeTreeNode_24 0 rfl rfl)
theorem dJ39_removeTreeNode_564 : decode cJ39_removeTreeNode 564 = .ok (.astore 15, 2) := dk_58 15 (dk_at dksJ39_removeTreeNode_24 3 rfl rfl)
theorem dJ39_removeTreeNode_566 : decode cJ39_removeTreeNode 566 = .ok (.aload 14, 2) := dk_25 14 (dk_at dksJ39_removeTreeNode_24 5 rfl rfl)
theorem dJ39_removeTreeNode_568 : decode cJ39_removeTreeNode 568 = .ok (.aload 11, 2) := dk_25 11 (dk_at dksJ39_removeTreeNode_24 7 rfl rfl)
theorem dJ39_removeTreeNode_570 : decode cJ39_removeTreeNode 570 = .ok (.if_acmp .ne 56, 3) := dk_166 0 56 (dk_at dksJ39_removeTreeNode_24 9 rfl rfl)
theorem dJ39_removeTreeNode_573 : decode cJ39_removeTreeNode 573 = .ok (.aload 11, 2) := dk_25 11 (dk_at dksJ39_removeTreeNode_24 12 rfl rfl)
theorem dJ39_removeTreeNode_575 : decode cJ39_removeTreeNode 575 = .ok (.getfield 9, 3) := dk_180 0 9 (dk_at dksJ39_removeTreeNode_24 14 rfl rfl)
theorem dJ39_removeTreeNode_578 : decode cJ39_removeTreeNode 578 = .ok (.astore 16, 2) := dk_58 16 (dk_at dksJ39_removeTreeNode_24 17 rfl rfl)
theorem dJ39_removeTreeNode_580 : decode cJ39_removeTreeNode 580 = .ok (.aload 11, 2) := dk_25 11 (dk_at dksJ39_removeTreeNode_24 19 rfl rfl)
theorem dJ39_removeTreeNode_582 : decode cJ39_removeTreeNode 582 = .ok (.aconst_null, 1) := dk_1 (dk_at dksJ39_removeTreeNode_24 21 rfl rfl)
theorem dJ39_removeTreeNode_583 : decode cJ39_removeTreeNode 583 = .ok (.putfield 9, 3) := dk_181 0 9 (dk_at dksJ39_removeTreeNode_25 0 rfl rfl)
theorem dJ39_removeTreeNode_586 : decode cJ39_removeTreeNode 586 = .ok (.aload 16, 2) := dk_25 16 (dk_at dksJ39_removeTreeNode_25 3 rfl rfl)
theorem dJ39_removeTreeNode_588 : decode cJ39_removeTreeNode 588 = .ok (.ifnull 38, 3) := dk_198 0 38 (dk_at dksJ39_removeTreeNode_25 5 rfl rfl)
theorem dJ39_removeTreeNode_591 : decode cJ39_removeTreeNode 591 = .ok (.aload 11, 2) := dk_25 11 (dk_at dksJ39_removeTreeNode_25 8 rfl rfl)
theorem dJ39_removeTreeNode_593 : decode cJ39_removeTreeNode 593 = .ok (.aload 16, 2) := dk_25 16 (dk_at dksJ39_removeTreeNode_25 10 rfl rfl)
theorem dJ39_removeTreeNode_595 : decode cJ39_removeTreeNode 595 = .ok (.getfield 39, 3) := dk_180 0 39 (dk_at dksJ39_removeTreeNode_25 12 rfl rfl)
theorem dJ39_removeTreeNode_598 : decode cJ39_removeTreeNode 598 = .ok (.if_acmp .ne 12, 3) := dk_166 0 12 (dk_at dksJ39_removeTreeNode_25 15 rfl rfl)
theorem dJ39_removeTreeNode_601 : decode cJ39_removeTreeNode 601 = .ok (.aload 16, 2) := dk_25 16 (dk_at dksJ39_removeTreeNode_25 18 rfl rfl)
theorem dJ39_removeTreeNode_603 : decode cJ39_removeTreeNode 603 = .ok (.aconst_null, 1) := dk_1 (dk_at dksJ39_removeTreeNode_25 20 rfl rfl)
theorem dJ39_removeTreeNode_604 : decode cJ39_removeTreeNode 604 = .ok (.putfield 39, 3) := dk_181 0 39 (dk_at dksJ39_removeTreeNode_25 21 rfl rfl)
theorem dJ39_removeTreeNode_607 : decode cJ39_removeTreeNode 607 = .ok (.goto 19, 3) := dk_167 0 19 (dk_at dksJ39_removeTreeNode_26 0 rfl rfl)
theorem dJ39_removeTreeNode_610 : decode cJ39_removeTreeNode 610 = .ok (.aload 11, 2) := dk_25 11 (dk_at dksJ39_removeTreeNode_26 3 rfl rfl)
theorem dJ39_removeTreeNode_612 : decode cJ39_removeTreeNode 612 = .ok (.aload 16, 2) := dk_25 16 (dk_at dksJ39_removeTreeNode_26 5 rfl rfl)
theorem dJ39_removeTreeNode_614 : decode cJ39_removeTreeNode 614 = .ok (.getfield 42, 3) := dk_180 0 42 (dk_at dksJ39_removeTreeNode_26 7 rfl rfl)
theorem dJ39_removeTreeNode_617 : decode cJ39_removeTreeNode 617 = .ok (.if_acmp .ne 9, 3) := dk_166 0 9 (dk_at dksJ39_removeTreeNode_26 10 rfl rfl)
theorem dJ39_removeTreeNode_620 : decode cJ39_removeTreeNode 620 = .ok (.aload 16, 2) := dk_25 16 (dk_at dksJ39_removeTreeNode_26 13 rfl rfl)
theorem dJ39_removeTreeNode_622 : decode cJ39_removeTreeNode 622 = .ok (.aconst_null, 1) := dk_1 (dk_at dksJ39_removeTreeNode_26 15 rfl rfl)
theorem dJ39_removeTreeNode_623 : decode cJ39_removeTreeNode 623 = .ok (.putfield 42, 3) := dk_181 0 42 (dk_at dksJ39_removeTreeNode_26 16 rfl rfl)
theorem dJ39_removeTreeNode_626 : decode cJ39_removeTreeNode 626 = .ok (.iload_n 3, 1) := dk_29 (dk_at dksJ39_removeTreeNode_26 19 rfl rfl)
theorem dJ39_removeTreeNode_627 : decode cJ39_removeTreeNode 627 = .ok (.ifCond .eq 9, 3) := dk_153 0 9 (dk_at dksJ39_removeTreeNode_26 20 rfl rfl)
theorem dJ39_removeTreeNode_630 : decode cJ39_removeTreeNode 630 = .ok (.aload_n 2, 1) := dk_44 (dk_at dksJ39_removeTreeNode_26 23 rfl rfl)
theorem dJ39_removeTreeNode_631 : decode cJ39_removeTreeNode 631 = .ok (.aload 15, 2) := dk_25 15 (dk_at dksJ39_removeTreeNode_27 0 rfl rfl)
theorem dJ39_removeTreeNode_633 : decode cJ39_removeTreeNode 633 = .ok (.invokestatic 104, 3) := dk_184 0 104 (dk_at dksJ39_removeTreeNode_27 2 rfl rfl)
theorem dJ39_removeTreeNode_636 : decode cJ39_removeTreeNode 636 = .ok (.return_, 1) := dk_177 (dk_at dksJ39_removeTreeNode_27 5 rfl rfl)
abbrev cJ39_balanceDeletion : ByteArray := prog_74_method_15_code
def yJ39_balanceDeletion : MethodName := ⟨RJ39, "balanceDeletion", "(Ljava/util/HashMap$TreeNode;Ljava/util/HashMap$TreeNode;)Ljava/util/HashMap$TreeNode;"⟩
def dkwJ39_balanceDeletion_21 : List UInt8 := [167, 254, 23]
abbrev dktJ39_balanceDeletion_21 : List UInt8 := dkwJ39_balanceDeletion_21 ++ []
def dkwJ39_balanceDeletion_20 : List UInt8 := [25, 5, 3, 181, 0, 93, 44, 198, 0, 14, 44, 3, 181, 0, 93, 42, 44, 184, 0, 133, 75, 42, 76]
abbrev dktJ39_balanceDeletion_20 : List UInt8 := dkwJ39_balanceDeletion_20 ++ dktJ39_balanceDeletion_21
def dkwJ39_balanceDeletion_19 : List UInt8 := [199, 0, 7, 3, 167, 0, 7, 44, 180, 0, 93, 181, 0, 93, 45, 180, 0, 39, 89, 58, 5, 198, 0, 9]
abbrev dktJ39_balanceDeletion_19 : List UInt8 := dkwJ39_balanceDeletion_19 ++ dktJ39_balanceDeletion_20
def dkwJ39_balanceDeletion_18 : List UInt8 := [180, 0, 9, 89, 77, 199, 0, 7, 1, 167, 0, 7, 44, 180, 0, 39, 78, 45, 198, 0, 35, 45, 44]
abbrev dktJ39_balanceDeletion_18 : List UInt8 := dkwJ39_balanceDeletion_18 ++ dktJ39_balanceDeletion_19
def dkwJ39_balanceDeletion_17 : List UInt8 := [25, 6, 198, 0, 9, 25, 6, 3, 181, 0, 93, 45, 4, 181, 0, 93, 42, 45, 184, 0, 130, 75, 43]
abbrev dktJ39_balanceDeletion_17 : List UInt8 := dkwJ39_balanceDeletion_17 ++ dktJ39_balanceDeletion_18
def dkwJ39_balanceDeletion_16 : List UInt8 := [45, 4, 181, 0, 93, 44, 76, 167, 0, 109, 25, 5, 198, 0, 11, 25, 5, 180, 0, 93, 154, 0, 43]
abbrev dktJ39_balanceDeletion_16 : List UInt8 := dkwJ39_balanceDeletion_16 ++ dktJ39_balanceDeletion_17
def dkwJ39_balanceDeletion_15 : List UInt8 := [198, 0, 11, 25, 5, 180, 0, 93, 154, 0, 26, 25, 6, 198, 0, 11, 25, 6, 180, 0, 93, 154, 0, 13]
abbrev dktJ39_balanceDeletion_15 : List UInt8 := dkwJ39_balanceDeletion_15 ++ dktJ39_balanceDeletion_16
def dkwJ39_balanceDeletion_14 : List UInt8 := [199, 0, 8, 44, 76, 167, 254, 180, 45, 180, 0, 39, 58, 5, 45, 180, 0, 42, 58, 6, 25, 5]
abbrev dktJ39_balanceDeletion_14 : List UInt8 := dkwJ39_balanceDeletion_14 ++ dktJ39_balanceDeletion_15
def dkwJ39_balanceDeletion_13 : List UInt8 := [184, 0, 133, 75, 43, 180, 0, 9, 89, 77, 199, 0, 7, 1, 167, 0, 7, 44, 180, 0, 39, 78, 45]
abbrev dktJ39_balanceDeletion_13 : List UInt8 := dkwJ39_balanceDeletion_13 ++ dktJ39_balanceDeletion_14
def dkwJ39_balanceDeletion_12 : List UInt8 := [45, 198, 0, 44, 45, 180, 0, 93, 153, 0, 37, 45, 3, 181, 0, 93, 44, 4, 181, 0, 93, 42, 44]
abbrev dktJ39_balanceDeletion_12 : List UInt8 := dkwJ39_balanceDeletion_12 ++ dktJ39_balanceDeletion_13
def dkwJ39_balanceDeletion_11 : List UInt8 := [3, 181, 0, 93, 44, 198, 0, 14, 44, 3, 181, 0, 93, 42, 44, 184, 0, 130, 75, 42, 76, 167, 254, 234]
abbrev dktJ39_balanceDeletion_11 : List UInt8 := dkwJ39_balanceDeletion_11 ++ dktJ39_balanceDeletion_12
def dkwJ39_balanceDeletion_10 : List UInt8 := [3, 167, 0, 7, 44, 180, 0, 93, 181, 0, 93, 25, 4, 180, 0, 42, 89, 58, 6, 198, 0, 9, 25, 6]
abbrev dktJ39_balanceDeletion_10 : List UInt8 := dkwJ39_balanceDeletion_10 ++ dktJ39_balanceDeletion_11
def dkwJ39_balanceDeletion_9 : List UInt8 := [199, 0, 7, 1, 167, 0, 7, 44, 180, 0, 42, 58, 4, 25, 4, 198, 0, 37, 25, 4, 44, 199, 0, 7]
abbrev dktJ39_balanceDeletion_9 : List UInt8 := dkwJ39_balanceDeletion_9 ++ dktJ39_balanceDeletion_10
def dkwJ39_balanceDeletion_8 : List UInt8 := [181, 0, 93, 25, 4, 4, 181, 0, 93, 42, 25, 4, 184, 0, 133, 75, 43, 180, 0, 9, 89, 77]
abbrev dktJ39_balanceDeletion_8 : List UInt8 := dkwJ39_balanceDeletion_8 ++ dktJ39_balanceDeletion_9
def dkwJ39_balanceDeletion_7 : List UInt8 := [167, 0, 115, 25, 6, 198, 0, 11, 25, 6, 180, 0, 93, 154, 0, 46, 25, 5, 198, 0, 9, 25, 5, 3]
abbrev dktJ39_balanceDeletion_7 : List UInt8 := dkwJ39_balanceDeletion_7 ++ dktJ39_balanceDeletion_8
def dkwJ39_balanceDeletion_6 : List UInt8 := [154, 0, 27, 25, 5, 198, 0, 11, 25, 5, 180, 0, 93, 154, 0, 14, 25, 4, 4, 181, 0, 93, 44, 76]
abbrev dktJ39_balanceDeletion_6 : List UInt8 := dkwJ39_balanceDeletion_6 ++ dktJ39_balanceDeletion_7
def dkwJ39_balanceDeletion_5 : List UInt8 := [25, 4, 180, 0, 39, 58, 5, 25, 4, 180, 0, 42, 58, 6, 25, 6, 198, 0, 11, 25, 6, 180, 0, 93]
abbrev dktJ39_balanceDeletion_5 : List UInt8 := dkwJ39_balanceDeletion_5 ++ dktJ39_balanceDeletion_6
def dkwJ39_balanceDeletion_4 : List UInt8 := [199, 0, 7, 1, 167, 0, 7, 44, 180, 0, 42, 58, 4, 25, 4, 199, 0, 8, 44, 76, 167, 255, 144]
abbrev dktJ39_balanceDeletion_4 : List UInt8 := dkwJ39_balanceDeletion_4 ++ dktJ39_balanceDeletion_5
def dkwJ39_balanceDeletion_3 : List UInt8 := [25, 4, 3, 181, 0, 93, 44, 4, 181, 0, 93, 42, 44, 184, 0, 130, 75, 43, 180, 0, 9, 89, 77]
abbrev dktJ39_balanceDeletion_3 : List UInt8 := dkwJ39_balanceDeletion_3 ++ dktJ39_balanceDeletion_4
def dkwJ39_balanceDeletion_2 : List UInt8 := [78, 43, 166, 0, 233, 44, 180, 0, 42, 89, 58, 4, 198, 0, 47, 25, 4, 180, 0, 93, 153, 0, 39]
abbrev dktJ39_balanceDeletion_2 : List UInt8 := dkwJ39_balanceDeletion_2 ++ dktJ39_balanceDeletion_3
def dkwJ39_balanceDeletion_1 : List UInt8 := [181, 0, 93, 43, 176, 43, 180, 0, 93, 153, 0, 10, 43, 3, 181, 0, 93, 42, 176, 44, 180, 0, 39, 89]
abbrev dktJ39_balanceDeletion_1 : List UInt8 := dkwJ39_balanceDeletion_1 ++ dktJ39_balanceDeletion_2
def dkwJ39_balanceDeletion_0 : List UInt8 := [43, 198, 0, 8, 43, 42, 166, 0, 5, 42, 176, 43, 180, 0, 9, 89, 77, 199, 0, 10, 43, 3]
abbrev dktJ39_balanceDeletion_0 : List UInt8 := dkwJ39_balanceDeletion_0 ++ dktJ39_balanceDeletion_1
theorem dksJ39_balanceDeletion_0 : cJ39_balanceDeletion.data.toList.drop 0 = dktJ39_balanceDeletion_0 := by decide +kernel
theorem dksJ39_balanceDeletion_1 : cJ39_balanceDeletion.data.toList.drop 22 = dktJ39_balanceDeletion_1 := dk_seg dksJ39_balanceDeletion_0 22 rfl rfl
theorem dksJ39_balanceDeletion_2 : cJ39_balanceDeletion.data.toList.drop 46 = dktJ39_balanceDeletion_2 := dk_seg dksJ39_balanceDeletion_1 24 rfl rfl
theorem dksJ39_balanceDeletion_3 : cJ39_balanceDeletion.data.toList.drop 69 = dktJ39_balanceDeletion_3 := dk_seg dksJ39_balanceDeletion_2 23 rfl rfl
theorem dksJ39_balanceDeletion_4 : cJ39_balanceDeletion.data.toList.drop 92 = dktJ39_balanceDeletion_4 := dk_seg dksJ39_balanceDeletion_3 23 rfl rfl
theorem dksJ39_balanceDeletion_5 : cJ39_balanceDeletion.data.toList.drop 115 = dktJ39_balanceDeletion_5 := dk_seg dksJ39_balanceDeletion_4 23 rfl rfl
theorem dksJ39_balanceDeletion_6 : cJ39_balanceDeletion.data.toList.drop 139 = dktJ39_balanceDeletion_6 := dk_seg dksJ39_balanceDeletion_5 24 rfl rfl
theorem dksJ39_balanceDeletion_7 : cJ39_balanceDeletion.data.toList.drop 163 = dktJ39_balanceDeletion_7 := dk_seg dksJ39_balanceDeletion_6 24 rfl rfl
theorem dksJ39_balanceDeletion_8 : cJ39_balanceDeletion.data.toList.drop 187 = dktJ39_balanceDeletion_8 := dk_seg dksJ39_balanceDeletion_7 24 rfl rfl
theorem dksJ39_balanceDeletion_9 : cJ39_balanceDeletion.data.toList.drop 209 = dktJ39_balanceDeletion_9 := dk_seg dksJ39_balanceDeletion_8 22 rfl rfl
theorem dksJ39_balanceDeletion_10 : cJ39_balanceDeletion.data.toList.drop 233 = dktJ39_balanceDeletion_10 := dk_seg dksJ39_balanceDeletion_9 24 rfl rfl
theorem dksJ39_balanceDeletion_11 : cJ39_balanceDeletion.data.toList.drop 257 = dktJ39_balanceDeletion_11 := dk_seg dksJ39_balanceDeletion_10 24 rfl rfl
theorem dksJ39_balanceDeletion_12 : cJ39_balanceDeletion.data.toList.drop 281 = dktJ39_balanceDeletion_12 := dk_seg dksJ39_balanceDeletion_11 24 rfl rfl
theorem dksJ39_balanceDeletion_13 : cJ39_balanceDeletion.data.toList.drop 304 = dktJ39_balanceDeletion_13 := dk_seg dksJ39_balanceDeletion_12 23 rfl rfl
theorem dksJ39_balanceDeletion_14 : cJ39_balanceDeletion.data.toList.drop 327 = dktJ39_balanceDeletion_14 := dk_seg dksJ39_balanceDeletion_13 23 rfl rfl
theorem dksJ39_balanceDeletion_15 : cJ39_balanceDeletion.data.toList.drop 349 = dktJ39_balanceDeletion_15 := dk_seg dksJ39_balanceDeletion_14 22 rfl rfl
theorem dksJ39_balanceDeletion_16 : cJ39_balanceDeletion.data.toList.drop 373 = dktJ39_balanceDeletion_16 := dk_seg dksJ39_balanceDeletion_15 24 rfl rfl
theorem dksJ39_balanceDeletion_17 : cJ39_balanceDeletion.data.toList.drop 396 = dktJ39_balanceDeletion_17 := dk_seg dksJ39_balanceDeletion_16 23 rfl rfl
theorem dksJ39_balanceDeletion_18 : cJ39_balanceDeletion.data.toList.drop 419 = dktJ39_balanceDeletion_18 := dk_seg dksJ39_balanceDeletion_17 23 rfl rfl
theorem dksJ39_balanceDeletion_19 : cJ39_balanceDeletion.data.toList.drop 442 = dktJ39_balanceDeletion_19 := dk_seg dksJ39_balanceDeletion_18 23 rfl rfl
theorem dksJ39_balanceDeletion_20 : cJ39_balanceDeletion.data.toList.drop 466 = dktJ39_balanceDeletion_20 := dk_seg dksJ39_balanceDeletion_19 24 rfl rfl
theorem dksJ39_balanceDeletion_21 : cJ39_balanceDeletion.data.toList.drop 489 = dktJ39_balanceDeletion_21 := dk_seg dksJ39_balanceDeletion_20 23 rfl rfl
theorem dJ39_balanceDeletion_0 : decode cJ39_balanceDeletion 0 = .ok (.aload_n 1, 1) := dk_43 (dk_at dksJ39_balanceDeletion_0 0 rfl rfl)
theorem dJ39_balanceDeletion_1 : decode cJ39_balanceDeletion 1 = .ok (.ifnull 8, 3) := dk_198 0 8 (dk_at dksJ39_balanceDeletion_0 1 rfl rfl)
theorem dJ39_balanceDeletion_4 : decode cJ39_balanceDeletion 4 = .ok (.aload_n 1, 1) := dk_43 (dk_at dksJ39_balanceDeletion_0 4 rfl rfl)
theorem dJ39_balanceDeletion_5 : decode cJ39_balanceDeletion 5 = .ok (.aload_n 0, 1) := dk_42 (dk_at dksJ39_balanceDeletion_0 5 rfl rfl)
theorem dJ39_balanceDeletion_6 : decode cJ39_balanceDeletion 6 = .ok (.if_acmp .ne 5, 3) := dk_166 0 5 (dk_at dksJ39_balanceDeletion_0 6 rfl rfl)
theorem dJ39_balanceDeletion_9 : decode cJ39_balanceDeletion 9 = .ok (.aload_n 0, 1) := dk_42 (dk_at dksJ39_balanceDeletion_0 9 rfl rfl)
theorem dJ39_balanceDeletion_10 : decode cJ39_balanceDeletion 10 = .ok (.areturn, 1) := dk_176 (dk_at dksJ39_balanceDeletion_0 10 rfl rfl)
theorem dJ39_balanceDeletion_11 : decode cJ39_balanceDeletion 11 = .ok (.aload_n 1, 1) := dk_43 (dk_at dksJ39_balanceDeletion_0 11 rfl rfl)
theorem dJ39_balanceDeletion_12 : decode cJ39_balanceDeletion 12 = .ok (.getfield 9, 3) := dk_180 0 9 (dk_at dksJ39_balanceDeletion_0 12 rfl rfl)
theorem dJ39_balanceDeletion_15 : decode cJ39_balanceDeletion 15 = .ok (.dup, 1) := dk_89 (dk_at dksJ39_balanceDeletion_0 15 rfl rfl)
theorem dJ39_balanceDeletion_16 : decode cJ39_balanceDeletion 16 = .ok (.astore_n 2, 1) := dk_77 (dk_at dksJ39_balanceDeletion_0 16 rfl rfl)
theorem dJ39_balanceDeletion_17 : decode cJ39_balanceDeletion 17 = .ok (.ifnonnull 10, 3) := dk_199 0 10 (dk_at dksJ39_balanceDeletion_0 17 rfl rfl)
theorem dJ39_balanceDeletion_20 : decode cJ39_balanceDeletion 20 = .ok (.aload_n 1, 1) := dk_43 (dk_at dksJ39_balanceDeletion_0 20 rfl rfl)
theorem dJ39_balanceDeletion_21 : decode cJ39_balanceDeletion 21 = .ok (.iconst 0, 1) := dk_3 (dk_at dksJ39_balanceDeletion_0 21 rfl rfl)
theorem dJ39_balanceDeletion_22 : decode cJ39_balanceDeletion 22 = .ok (.putfield 93, 3) := dk_181 0 93 (dk_at dksJ39_balanceDeletion_1 0 rfl rfl)
theorem dJ39_balanceDeletion_25 : decode cJ39_balanceDeletion 25 = .ok (.aload_n 1, 1) := dk_43 (dk_at dksJ39_balanceDeletion_1 3 rfl rfl)
theorem dJ39_balanceDeletion_26 : decode cJ39_balanceDeletion 26 = .ok (.areturn, 1) := dk_176 (dk_at dksJ39_balanceDeletion_1 4 rfl rfl)
theorem dJ39_balanceDeletion_27 : decode cJ39_balanceDeletion 27 = .ok (.aload_n 1, 1) := dk_43 (dk_at dksJ39_balanceDeletion_1 5 rfl rfl)
theorem dJ39_balanceDeletion_28 : decode cJ39_balanceDeletion 28 = .ok (.getfield 93, 3) := dk_180 0 93 (dk_at dksJ39_balanceDeletion_1 6 rfl rfl)
theorem dJ39_balanceDeletion_31 : decode cJ39_balanceDeletion 31 = .ok (.ifCond .eq 10, 3) := dk_153 0 10 (dk_at dksJ39_balanceDeletion_1 9 rfl rfl)
theorem dJ39_balanceDeletion_34 : decode cJ39_balanceDeletion 34 = .ok (.aload_n 1, 1) := dk_43 (dk_at dksJ39_balanceDeletion_1 12 rfl rfl)
theorem dJ39_balanceDeletion_35 : decode cJ39_balanceDeletion 35 = .ok (.iconst 0, 1) := dk_3 (dk_at dksJ39_balanceDeletion_1 13 rfl rfl)
theorem dJ39_balanceDeletion_36 : decode cJ39_balanceDeletion 36 = .ok (.putfield 93, 3) := dk_181 0 93 (dk_at dksJ39_balanceDeletion_1 14 rfl rfl)
theorem dJ39_balanceDeletion_39 : decode cJ39_balanceDeletion 39 = .ok (.aload_n 0, 1) := dk_42 (dk_at dksJ39_balanceDeletion_1 17 rfl rfl)
theorem dJ39_balanceDeletion_40 : decode cJ39_balanceDeletion 40 = .ok (.areturn, 1) := dk_176 (dk_at dksJ39_balanceDeletion_1 18 rfl rfl)
theorem dJ39_balanceDeletion_41 : decode cJ39_balanceDeletion 41 = .ok (.aload_n 2, 1) := dk_44 (dk_at dksJ39_balanceDeletion_1 19 rfl rfl)
theorem dJ39_balanceDeletion_42 : decode cJ39_balanceDeletion 42 = .ok (.getfield 39, 3) := dk_180 0 39 (dk_at dksJ39_balanceDeletion_1 20 rfl rfl)
theorem dJ39_balanceDeletion_45 : decode cJ39_balanceDeletion 45 = .ok (.dup, 1) := dk_89 (dk_at dksJ39_balanceDeletion_1 23 rfl rfl)
theorem dJ39_balanceDeletion_46 : decode cJ39_balanceDeletion 46 = .ok (.astore_n 3, 1) := dk_78 (dk_at dksJ39_balanceDeletion_2 0 rfl rfl)
theorem dJ39_balanceDeletion_47 : decode cJ39_balanceDeletion 47 = .ok (.aload_n 1, 1) := dk_43 (dk_at dksJ39_balanceDeletion_2 1 rfl rfl)
theorem dJ39_balanceDeletion_48 : decode cJ39_balanceDeletion 48 = .ok (.if_acmp .ne 233, 3) := dk_166 0 233 (dk_at dksJ39_balanceDeletion_2 2 rfl rfl)
theorem dJ39_balanceDeletion_51 : decode cJ39_balanceDeletion 51 = .ok (.aload_n 2, 1) := dk_44 (dk_at dksJ39_balanceDeletion_2 5 rfl rfl)
theorem dJ39_balanceDeletion_52 : decode cJ39_balanceDeletion 52 = .ok (.getfield 42, 3) := dk_180 0 42 (dk_at dksJ39_balanceDeletion_2 6 rfl rfl)
theorem dJ39_balanceDeletion_55 : decode cJ39_balanceDeletion 55 = .ok (.dup, 1) := dk_89 (dk_at dksJ39_balanceDeletion_2 9 rfl rfl)
theorem dJ39_balanceDeletion_56 : decode cJ39_balanceDeletion 56 = .ok (.astore 4, 2) := dk_58 4 (dk_at dksJ39_balanceDeletion_2 10 rfl rfl)
theorem dJ39_balanceDeletion_58 : decode cJ39_balanceDeletion 58 = .ok (.ifnull 47, 3) := dk_198 0 47 (dk_at dksJ39_balanceDeletion_2 12 rfl rfl)
theorem dJ39_balanceDeletion_61 : decode cJ39_balanceDeletion 61 = .ok (.aload 4, 2) := dk_25 4 (dk_at dksJ39_balanceDeletion_2 15 rfl rfl)
theorem dJ39_balanceDeletion_63 : decode cJ39_balanceDeletion 63 = .ok (.getfield 93, 3) := dk_180 0 93 (dk_at dksJ39_balanceDeletion_2 17 rfl rfl)
theorem dJ39_balanceDeletion_66 : decode cJ39_balanceDeletion 66 = .ok (.ifCond .eq 39, 3) := dk_153 0 39 (dk_at dksJ39_balanceDeletion_2 20 rfl rfl)
theorem dJ39_balanceDeletion_69 : decode cJ39_balanceDeletion 69 = .ok (.aload 4, 2) := dk_25 4 (dk_at dksJ39_balanceDeletion_3 0 rfl rfl)
theorem dJ39_balanceDeletion_71 : decode cJ39_balanceDeletion 71 = .ok (.iconst 0, 1) := dk_3 (dk_at dksJ39_balanceDeletion_3 2 rfl rfl)
theorem dJ39_balanceDeletion_72 : decode cJ39_balanceDeletion 72 = .ok (.putfield 93, 3) := dk_181 0 93 (dk_at dksJ39_balanceDeletion_3 3 rfl rfl)
theorem dJ39_balanceDeletion_75 : decode cJ39_balanceDeletion 75 = .ok (.aload_n 2, 1) := dk_44 (dk_at dksJ39_balanceDeletion_3 6 rfl rfl)
theorem dJ39_balanceDeletion_76 : decode cJ39_balanceDeletion 76 = .ok (.iconst 1, 1) := dk_4 (dk_at dksJ39_balanceDeletion_3 7 rfl rfl)
theorem dJ39_balanceDeletion_77 : decode cJ39_balanceDeletion 77 = .ok (.putfield 93, 3) := dk_181 0 93 (dk_at dksJ39_balanceDeletion_3 8 rfl rfl)
theorem dJ39_balanceDeletion_80 : decode cJ39_balanceDeletion 80 = .ok (.aload_n 0, 1) := dk_42 (dk_at dksJ39_balanceDeletion_3 11 rfl rfl)
theorem dJ39_balanceDeletion_81 : decode cJ39_balanceDeletion 81 = .ok (.aload_n 2, 1) := dk_44 (dk_at dksJ39_balanceDeletion_3 12 rfl rfl)
theorem dJ39_balanceDeletion_82 : decode cJ39_balanceDeletion 82 = .ok (.invokestatic 130, 3) := dk_184 0 130 (dk_at dksJ39_balanceDeletion_3 13 rfl rfl)
theorem dJ39_balanceDeletion_85 : decode cJ39_balanceDeletion 85 = .ok (.astore_n 0, 1) := dk_75 (dk_at dksJ39_balanceDeletion_3 16 rfl rfl)
theorem dJ39_balanceDeletion_86 : decode cJ39_balanceDeletion 86 = .ok (.aload_n 1, 1) := dk_43 (dk_at dksJ39_balanceDeletion_3 17 rfl rfl)
theorem dJ39_balanceDeletion_87 : decode cJ39_balanceDeletion 87 = .ok (.getfield 9, 3) := dk_180 0 9 (dk_at dksJ39_balanceDeletion_3 18 rfl rfl)
theorem dJ39_balanceDeletion_90 : decode cJ39_balanceDeletion 90 = .ok (.dup, 1) := dk_89 (dk_at dksJ39_balanceDeletion_3 21 rfl rfl)
theorem dJ39_balanceDeletion_91 : decode cJ39_balanceDeletion 91 = .ok (.astore_n 2, 1) := dk_77 (dk_at dksJ39_balanceDeletion_3 22 rfl rfl)
theorem dJ39_balanceDeletion_92 : decode cJ39_balanceDeletion 92 = .ok (.ifnonnull 7, 3) := dk_199 0 7 (dk_at dksJ39_balanceDeletion_4 0 rfl rfl)
theorem dJ39_balanceDeletion_95 : decode cJ39_balanceDeletion 95 = .ok (.aconst_null, 1) := dk_1 (dk_at dksJ39_balanceDeletion_4 3 rfl rfl)
theorem dJ39_balanceDeletion_96 : decode cJ39_balanceDeletion 96 = .ok (.goto 7, 3) := dk_167 0 7 (dk_at dksJ39_balanceDeletion_4 4 rfl rfl)
theorem dJ39_balanceDeletion_99 : decode cJ39_balanceDeletion 99 = .ok (.aload_n 2, 1) := dk_44 (dk_at dksJ39_balanceDeletion_4 7 rfl rfl)
theorem dJ39_balanceDeletion_100 : decode cJ39_balanceDeletion 100 = .ok (.getfield 42, 3) := dk_180 0 42 (dk_at dksJ39_balanceDeletion_4 8 rfl rfl)
theorem dJ39_balanceDeletion_103 : decode cJ39_balanceDeletion 103 = .ok (.astore 4, 2) := dk_58 4 (dk_at dksJ39_balanceDeletion_4 11 rfl rfl)
theorem dJ39_balanceDeletion_105 : decode cJ39_balanceDeletion 105 = .ok (.aload 4, 2) := dk_25 4 (dk_at dksJ39_balanceDeletion_4 13 rfl rfl)
theorem dJ39_balanceDeletion_107 : decode cJ39_balanceDeletion 107 = .ok (.ifnonnull 8, 3) := dk_199 0 8 (dk_at dksJ39_balanceDeletion_4 15 rfl rfl)
theorem dJ39_balanceDeletion_110 : decode cJ39_balanceDeletion 110 = .ok (.aload_n 2, 1) := dk_44 (dk_at dksJ39_balanceDeletion_4 18 rfl rfl)
theorem dJ39_balanceDeletion_111 : decode cJ39_balanceDeletion 111 = .ok (.astore_n 1, 1) := dk_76 (dk_at dksJ39_balanceDeletion_4 19 rfl rfl)
theorem dJ39_balanceDeletion_112 : decode cJ39_balanceDeletion 112 = .ok (.goto (-112), 3) := dk_167 255 144 (dk_at dksJ39_balanceDeletion_4 20 rfl rfl)
theorem dJ39_balanceDeletion_115 : decode cJ39_balanceDeletion 115 = .ok (.aload 4, 2) := dk_25 4 (dk_at dksJ39_balanceDeletion_5 0 rfl rfl)
theorem dJ39_balanceDeletion_117 : decode cJ39_balanceDeletion 117 = .ok (.getfield 39, 3) := dk_180 0 39 (dk_at dksJ39_balanceDeletion_5 2 rfl rfl)
theorem dJ39_balanceDeletion_120 : decode cJ39_balanceDeletion 120 = .ok (.astore 5, 2) := dk_58 5 (dk_at dksJ39_balanceDeletion_5 5 rfl rfl)
theorem dJ39_balanceDeletion_122 : decode cJ39_balanceDeletion 122 = .ok (.aload 4, 2) := dk_25 4 (dk_at dksJ39_balanceDeletion_5 7 rfl rfl)
theorem dJ39_balanceDeletion_124 : decode cJ39_balanceDeletion 124 = .ok (.getfield 42, 3) := dk_180 0 42 (dk_at dksJ39_balanceDeletion_5 9 rfl rfl)
theorem dJ39_balanceDeletion_127 : decode cJ39_balanceDeletion 127 = .ok (.astore 6, 2) := dk_58 6 (dk_at dksJ39_balanceDeletion_5 12 rfl rfl)
theorem dJ39_balanceDeletion_129 : decode cJ39_balanceDeletion 129 = .ok (.aload 6, 2) := dk_25 6 (dk_at dksJ39_balanceDeletion_5 14 rfl rfl)
theorem dJ39_balanceDeletion_131 : decode cJ39_balanceDeletion 131 = .ok (.ifnull 11, 3) := dk_198 0 11 (dk_at dksJ39_balanceDeletion_5 16 rfl rfl)
theorem dJ39_balanceDeletion_134 : decode cJ39_balanceDeletion 134 = .ok (.aload 6, 2) := dk_25 6 (dk_at dksJ39_balanceDeletion_5 19 rfl rfl)
theorem dJ39_balanceDeletion_136 : decode cJ39_balanceDeletion 136 = .ok (.getfield 93, 3) := dk_180 0 93 (dk_at dksJ39_balanceDeletion_5 21 rfl rfl)
theorem dJ39_balanceDeletion_139 : decode cJ39_balanceDeletion 139 = .ok (.ifCond .ne 27, 3) := dk_154 0 27 (dk_at dksJ39_balanceDeletion_6 0 rfl rfl)
theorem dJ39_balanceDeletion_142 : decode cJ39_balanceDeletion 142 = .ok (.aload 5, 2) := dk_25 5 (dk_at dksJ39_balanceDeletion_6 3 rfl rfl)
theorem dJ39_balanceDeletion_144 : decode cJ39_balanceDeletion 144 = .ok (.ifnull 11, 3) := dk_198 0 11 (dk_at dksJ39_balanceDeletion_6 5 rfl rfl)
theorem dJ39_balanceDeletion_147 : decode cJ39_balanceDeletion 147 = .ok (.aload 5, 2) := dk_25 5 (dk_at dksJ39_balanceDeletion_6 8 rfl rfl)
theorem dJ39_balanceDeletion_149 : decode cJ39_balanceDeletion 149 = .ok (.getfield 93, 3) := dk_180 0 93 (dk_at dksJ39_balanceDeletion_6 10 rfl rfl)
theorem dJ39_balanceDeletion_152 : decode cJ39_balanceDeletion 152 = .ok (.ifCond .ne 14, 3) := dk_154 0 14 (dk_at dksJ39_balanceDeletion_6 13 rfl rfl)
theorem dJ39_balanceDeletion_155 : decode cJ39_balanceDeletion 155 = .ok (.aload 4, 2) := dk_25 4 (dk_at dksJ39_balanceDeletion_6 16 rfl rfl)
theorem dJ39_balanceDeletion_157 : decode cJ39_balanceDeletion 157 = .ok (.iconst 1, 1) := dk_4 (dk_at dksJ39_balanceDeletion_6 18 rfl rfl)
theorem dJ39_balanceDeletion_158 : decode cJ39_balanceDeletion 158 = .ok (.putfield 93, 3) := dk_181 0 93 (dk_at dksJ39_balanceDeletion_6 19 rfl rfl)
theorem dJ39_balanceDeletion_161 : decode cJ39_balanceDeletion 161 = .ok (.aload_n 2, 1) := dk_44 (dk_at dksJ39_balanceDeletion_6 22 rfl rfl)
theorem dJ39_balanceDeletion_162 : decode cJ39_balanceDeletion 162 = .ok (.astore_n 1, 1) := dk_76 (dk_at dksJ39_balanceDeletion_6 23 rfl rfl)
theorem dJ39_balanceDeletion_163 : decode cJ39_balanceDeletion 163 = .ok (.goto 115, 3) := dk_167 0 115 (dk_at dksJ39_balanceDeletion_7 0 rfl rfl)
theorem dJ39_balanceDeletion_166 : decode cJ39_balanceDeletion 166 = .ok (.aload 6, 2) := dk_25 6 (dk_at dksJ39_balanceDeletion_7 3 rfl rfl)
theorem dJ39_balanceDeletion_168 : decode cJ39_balanceDeletion 168 = .ok (.ifnull 11, 3) := dk_198 0 11 (dk_at dksJ39_balanceDeletion_7 5 rfl rfl)
theorem dJ39_balanceDeletion_171 : decode cJ39_balanceDeletion 171 = .ok (.aload 6, 2) := dk_25 6 (dk_at dksJ39_balanceDeletion_7 8 rfl rfl)
theorem dJ39_balanceDeletion_173 : decode cJ39_balanceDeletion 173 = .ok (.getfield 93, 3) := dk_180 0 93 (dk_at dksJ39_balanceDeletion_7 10 rfl rfl)
theorem dJ39_balanceDeletion_176 : decode cJ39_balanceDeletion 176 = .ok (.ifCond .ne 46, 3) := dk_154 0 46 (dk_at dksJ39_balanceDeletion_7 13 rfl rfl)
theorem dJ39_balanceDeletion_179 : decode cJ39_balanceDeletion 179 = .ok (.aload 5, 2) := dk_25 5 (dk_at dksJ39_balanceDeletion_7 16 rfl rfl)
theorem dJ39_balanceDeletion_181 : decode cJ39_balanceDeletion 181 = .ok (.ifnull 9, 3) := dk_198 0 9 (dk_at dksJ39_balanceDeletion_7 18 rfl rfl)
theorem dJ39_balanceDeletion_184 : decode cJ39_balanceDeletion 184 = .ok (.aload 5, 2) := dk_25 5 (dk_at dksJ39_balanceDeletion_7 21 rfl rfl)
theorem dJ39_balanceDeletion_186 : decode cJ39_balanceDeletion 186 = .ok (.iconst 0, 1) := dk_3 (dk_at dksJ39_balanceDeletion_7 23 rfl rfl)
theorem dJ39_balanceDeletion_187 : decode cJ39_balanceDeletion 187 = .ok (.putfield 93, 3) := dk_181 0 93 (dk_at dksJ39_balanceDeletion_8 0 rfl rfl)
theorem dJ39_balanceDeletion_190 : decode cJ39_balanceDeletion 190 = .ok (.aload 4, 2) := dk_25 4 (dk_at dksJ39_balanceDeletion_8 3 rfl rfl)
theorem dJ39_balanceDeletion_192 : decode cJ39_balanceDeletion 192 = .ok (.iconst 1, 1) := dk_4 (dk_at dksJ39_balanceDeletion_8 5 rfl rfl)
theorem dJ39_balanceDeletion_193 : decode cJ39_balanceDeletion 193 = .ok (.putfield 93, 3) := dk_181 0 93 (dk_at dksJ39_balanceDeletion_8 6 rfl rfl)
theorem dJ39_balanceDeletion_196 : decode cJ39_balanceDeletion 196 = .ok (.aload_n 0, 1) := dk_42 (dk_at dksJ39_balanceDeletion_8 9 rfl rfl)
theorem dJ39_balanceDeletion_197 : decode cJ39_balanceDeletion 197 = .ok (.aload 4, 2) := dk_25 4 (dk_at dksJ39_balanceDeletion_8 10 rfl rfl)
theorem dJ39_balanceDeletion_199 : decode cJ39_balanceDeletion 199 = .ok (.invokestatic 133, 3) := dk_184 0 133 (dk_at dksJ39_balanceDeletion_8 12 rfl rfl)
theorem dJ39_balanceDeletion_202 : decode cJ39_balanceDeletion 202 = .ok (.astore_n 0, 1) := dk_75 (dk_at dksJ39_balanceDeletion_8 15 rfl rfl)
theorem dJ39_balanceDeletion_203 : decode cJ39_balanceDeletion 203 = .ok (.aload_n 1, 1) := dk_43 (dk_at dksJ39_balanceDeletion_8 16 rfl rfl)
theorem dJ39_balanceDeletion_204 : decode cJ39_balanceDeletion 204 = .ok (.getfield 9, 3) := dk_180 0 9 (dk_at dksJ39_balanceDeletion_8 17 rfl rfl)
theorem dJ39_balanceDeletion_207 : decode cJ39_balanceDeletion 207 = .ok (.dup, 1) := dk_89 (dk_at dksJ39_balanceDeletion_8 20 rfl rfl)
theorem dJ39_balanceDeletion_208 : decode cJ39_balanceDeletion 208 = .ok (.astore_n 2, 1) := dk_77 (dk_at dksJ39_balanceDeletion_8 21 rfl rfl)
theorem dJ39_balanceDeletion_209 : decode cJ39_balanceDeletion 209 = .ok (.ifnonnull 7, 3) := dk_199 0 7 (dk_at dksJ39_balanceDeletion_9 0 rfl rfl)
theorem dJ39_balanceDeletion_212 : decode cJ39_balanceDeletion 212 = .ok (.aconst_null, 1) := dk_1 (dk_at dksJ39_balanceDeletion_9 3 rfl rfl)
theorem dJ39_balanceDeletion_213 : decode cJ39_balanceDeletion 213 = .ok (.goto 7, 3) := dk_167 0 7 (dk_at dksJ39_balanceDeletion_9 4 rfl rfl)
theorem dJ39_balanceDeletion_216 : decode cJ39_balanceDeletion 216 = .ok (.aload_n 2, 1) := dk_44 (dk_at dksJ39_balanceDeletion_9 7 rfl rfl)
theorem dJ39_balanceDeletion_217 : decode cJ39_balanceDeletion 217 = .ok (.getfield 42, 3) := dk_180 0 42 (dk_at dksJ39_balanceDeletion_9 8 rfl rfl)
theorem dJ39_balanceDeletion_220 : decode cJ39_balanceDeletion 220 = .ok (.astore 4, 2) := dk_58 4 (dk_at dksJ39_balanceDeletion_9 11 rfl rfl)
theorem dJ39_balanceDeletion_222 : decode cJ39_balanceDeletion 222 = .ok (.aload 4, 2) := dk_25 4 (dk_at dksJ39_balanceDeletion_9 13 rfl rfl)
theorem dJ39_balanceDeletion_224 : decode cJ39_balanceDeletion 224 = .ok (.ifnull 37, 3) := dk_198 0 37 (dk_at dksJ39_balanceDeletion_9 15 rfl rfl)
theorem dJ39_balanceDeletion_227 : decode cJ39_balanceDeletion 227 = .ok (.aload 4, 2) := dk_25 4 (dk_at dksJ39_balanceDeletion_9 18 rfl rfl)
theorem dJ39_balanceDeletion_229 : decode cJ39_balanceDeletion 229 = .ok (.aload_n 2, 1) := dk_44 (dk_at dksJ39_balanceDeletion_9 20 rfl rfl)
theorem dJ39_balanceDeletion_230 : decode cJ39_balanceDeletion 230 = .ok (.ifnonnull 7, 3) := dk_199 0 7 (dk_at dksJ39_balanceDeletion_9 21 rfl rfl)
theorem dJ39_balanceDeletion_233 : decode cJ39_balanceDeletion 233 = .ok (.iconst 0, 1) := dk_3 (dk_at dksJ39_balanceDeletion_10 0 rfl rfl)
theorem dJ39_balanceDeletion_234 : decode cJ39_balanceDeletion 234 = .ok (.goto 7, 3) := dk_167 0 7 (dk_at dksJ39_balanceDeletion_10 1 rfl rfl)
theorem dJ39_balanceDeletion_237 : decode cJ39_balanceDeletion 237 = .ok (.aload_n 2, 1) := dk_44 (dk_at dksJ39_balanceDeletion_10 4 rfl rfl)
theorem dJ39_balanceDeletion_238 : decode cJ39_balanceDeletion 238 = .ok (.getfield 93, 3) := dk_180 0 93 (dk_at dksJ39_balanceDeletion_10 5 rfl rfl)
theorem dJ39_balanceDeletion_241 : decode cJ39_balanceDeletion 241 = .ok (.putfield 93, 3) := dk_181 0 93 (dk_at dksJ39_balanceDeletion_10 8 rfl rfl)
theorem dJ39_balanceDeletion_244 : decode cJ39_balanceDeletion 244 = .ok (.aload 4, 2) := dk_25 4 (dk_at dksJ39_balanceDeletion_10 11 rfl rfl)
theorem dJ39_balanceDeletion_246 : decode cJ39_balanceDeletion 246 = .ok (.getfield 42, 3) := dk_180 0 42 (dk_at dksJ39_balanceDeletion_10 13 rfl rfl)
theorem dJ39_balanceDeletion_249 : decode cJ39_balanceDeletion 249 = .ok (.dup, 1) := dk_89 (dk_at dksJ39_balanceDeletion_10 16 rfl rfl)
theorem dJ39_balanceDeletion_250 : decode cJ39_balanceDeletion 250 = .ok (.astore 6, 2) := dk_58 6 (dk_at dksJ39_balanceDeletion_10 17 rfl rfl)
theorem dJ39_balanceDeletion_252 : decode cJ39_balanceDeletion 252 = .ok (.ifnull 9, 3) := dk_198 0 9 (dk_at dksJ39_balanceDeletion_10 19 rfl rfl)
theorem dJ39_balanceDeletion_255 : decode cJ39_balanceDeletion 255 = .ok (.aload 6, 2) := dk_25 6 (dk_at dksJ39_balanceDeletion_10 22 rfl rfl)
theorem dJ39_balanceDeletion_257 : decode cJ39_balanceDeletion 257 = .ok (.iconst 0, 1) := dk_3 (dk_at dksJ39_balanceDeletion_11 0 rfl rfl)
theorem dJ39_balanceDeletion_258 : decode cJ39_balanceDeletion 258 = .ok (.putfield 93, 3) := dk_181 0 93 (dk_at dksJ39_balanceDeletion_11 1 rfl rfl)
theorem dJ39_balanceDeletion_261 : decode cJ39_balanceDeletion 261 = .ok (.aload_n 2, 1) := dk_44 (dk_at dksJ39_balanceDeletion_11 4 rfl rfl)
theorem dJ39_balanceDeletion_262 : decode cJ39_balanceDeletion 262 = .ok (.ifnull 14, 3) := dk_198 0 14 (dk_at dksJ39_balanceDeletion_11 5 rfl rfl)
theorem dJ39_balanceDeletion_265 : decode cJ39_balanceDeletion 265 = .ok (.aload_n 2, 1) := dk_44 (dk_at dksJ39_balanceDeletion_11 8 rfl rfl)
theorem dJ39_balanceDeletion_266 : decode cJ39_balanceDeletion 266 = .ok (.iconst 0, 1) := dk_3 (dk_at dksJ39_balanceDeletion_11 9 rfl rfl)
theorem dJ39_balanceDeletion_267 : decode cJ39_balanceDeletion 267 = .ok (.putfield 93, 3) := dk_181 0 93 (dk_at dksJ39_balanceDeletion_11 10 rfl rfl)
theorem dJ39_balanceDeletion_270 : decode cJ39_balanceDeletion 270 = .ok (.aload_n 0, 1) := dk_42 (dk_at dksJ39_balanceDeletion_11 13 rfl rfl)
theorem dJ39_balanceDeletion_271 : decode cJ39_balanceDeletion 271 = .ok (.aload_n 2, 1) := dk_44 (dk_at dksJ39_balanceDeletion_11 14 rfl rfl)
theorem dJ39_balanceDeletion_272 : decode cJ39_balanceDeletion 272 = .ok (.invokestatic 130, 3) := dk_184 0 130 (dk_at dksJ39_balanceDeletion_11 15 rfl rfl)
theorem dJ39_balanceDeletion_275 : decode cJ39_balanceDeletion 275 = .ok (.astore_n 0, 1) := dk_75 (dk_at dksJ39_balanceDeletion_11 18 rfl rfl)
theorem dJ39_balanceDeletion_276 : decode cJ39_balanceDeletion 276 = .ok (.aload_n 0, 1) := dk_42 (dk_at dksJ39_balanceDeletion_11 19 rfl rfl)
theorem dJ39_balanceDeletion_277 : decode cJ39_balanceDeletion 277 = .ok (.astore_n 1, 1) := dk_76 (dk_at dksJ39_balanceDeletion_11 20 rfl rfl)
theorem dJ39_balanceDeletion_278 : decode cJ39_balanceDeletion 278 = .ok (.goto (-278), 3) := dk_167 254 234 (dk_at dksJ39_balanceDeletion_11 21 rfl rfl)
theorem dJ39_balanceDeletion_281 : decode cJ39_balanceDeletion 281 = .ok (.aload_n 3, 1) := dk_45 (dk_at dksJ39_balanceDeletion_12 0 rfl rfl)
theorem dJ39_balanceDeletion_282 : decode cJ39_balanceDeletion 282 = .ok (.ifnull 44, 3) := dk_198 0 44 (dk_at dksJ39_balanceDeletion_12 1 rfl rfl)
theorem dJ39_balanceDeletion_285 : decode cJ39_balanceDeletion 285 = .ok (.aload_n 3, 1) := dk_45 (dk_at dksJ39_balanceDeletion_12 4 rfl rfl)
theorem dJ39_balanceDeletion_286 : decode cJ39_balanceDeletion 286 = .ok (.getfield 93, 3) := dk_180 0 93 (dk_at dksJ39_balanceDeletion_12 5 rfl rfl)
theorem dJ39_balanceDeletion_289 : decode cJ39_balanceDeletion 289 = .ok (.ifCond .eq 37, 3) := dk_153 0 37 (dk_at dksJ39_balanceDeletion_12 8 rfl rfl)
theorem dJ39_balanceDeletion_292 : decode cJ39_balanceDeletion 292 = .ok (.aload_n 3, 1) := dk_45 (dk_at dksJ39_balanceDeletion_12 11 rfl rfl)
theorem dJ39_balanceDeletion_293 : decode cJ39_balanceDeletion 293 = .ok (.iconst 0, 1) := dk_3 (dk_at dksJ39_balanceDeletion_12 12 rfl rfl)
theorem dJ39_balanceDeletion_294 : decode cJ39_balanceDeletion 294 = .ok (.putfield 93, 3) := dk_181 0 93 (dk_at dksJ39_balanceDeletion_12 13 rfl rfl)
theorem dJ39_balanceDeletion_297 : decode cJ39_balanceDeletion 297 = .ok (.aload_n 2, 1) := dk_44 (dk_at dksJ39_balanceDeletion_12 16 rfl rfl)
theorem dJ39_balanceDeletion_298 : decode cJ39_balanceDeletion 298 = .ok (.iconst 1, 1) := dk_4 (dk_at dksJ39_balanceDeletion_12 17 rfl rfl)
theorem dJ39_balanceDeletion_299 : decode cJ39_balanceDeletion 299 = .ok (.putfield 93, 3) := dk_181 0 93 (dk_at dksJ39_balanceDeletion_12 18 rfl rfl)
theorem dJ39_balanceDeletion_302 : decode cJ39_balanceDeletion 302 = .ok (.aload_n 0, 1) := dk_42 (dk_at dksJ39_balanceDeletion_12 21 rfl rfl)
theorem dJ39_balanceDeletion_303 : decode cJ39_balanceDeletion 303 = .ok (.aload_n 2, 1) := dk_44 (dk_at dksJ39_balanceDeletion_12 22 rfl rfl)
theorem dJ39_balanceDeletion_304 : decode cJ39_balanceDeletion 304 = .ok (.invokestatic 133, 3) := dk_184 0 133 (dk_at dksJ39_balanceDeletion_13 0 rfl rfl)
theorem dJ39_balanceDeletion_307 : decode cJ39_balanceDeletion 307 = .ok (.astore_n 0, 1) := dk_75 (dk_at dksJ39_balanceDeletion_13 3 rfl rfl)
theorem dJ39_balanceDeletion_308 : decode cJ39_balanceDeletion 308 = .ok (.aload_n 1, 1) := dk_43 (dk_at dksJ39_balanceDeletion_13 4 rfl rfl)
theorem dJ39_balanceDeletion_309 : decode cJ39_balanceDeletion 309 = .ok (.getfield 9, 3) := dk_180 0 9 (dk_at dksJ39_balanceDeletion_13 5 rfl rfl)
theorem dJ39_balanceDeletion_312 : decode cJ39_balanceDeletion 312 = .ok (.dup, 1) := dk_89 (dk_at dksJ39_balanceDeletion_13 8 rfl rfl)
theorem dJ39_balanceDeletion_313 : decode cJ39_balanceDeletion 313 = .ok (.astore_n 2, 1) := dk_77 (dk_at dksJ39_balanceDeletion_13 9 rfl rfl)
theorem dJ39_balanceDeletion_314 : decode cJ39_balanceDeletion 314 = .ok (.ifnonnull 7, 3) := dk_199 0 7 (dk_at dksJ39_balanceDeletion_13 10 rfl rfl)
theorem dJ39_balanceDeletion_317 : decode cJ39_balanceDeletion 317 = .ok (.aconst_null, 1) := dk_1 (dk_at dksJ39_balanceDeletion_13 13 rfl rfl)
theorem dJ39_balanceDeletion_318 : decode cJ39_balanceDeletion 318 = .ok (.goto 7, 3) := dk_167 0 7 (dk_at dksJ39_balanceDeletion_13 14 rfl rfl)
theorem dJ39_balanceDeletion_321 : decode cJ39_balanceDeletion 321 = .ok (.aload_n 2, 1) := dk_44 (dk_at dksJ39_balanceDeletion_13 17 rfl rfl)
theorem dJ39_balanceDeletion_322 : decode cJ39_balanceDeletion 322 = .ok (.getfield 39, 3) := dk_180 0 39 (dk_at dksJ39_balanceDeletion_13 18 rfl rfl)
theorem dJ39_balanceDeletion_325 : decode cJ39_balanceDeletion 325 = .ok (.astore_n 3, 1) := dk_78 (dk_at dksJ39_balanceDeletion_13 21 rfl rfl)
theorem dJ39_balanceDeletion_326 : decode cJ39_balanceDeletion 326 = .ok (.aload_n 3, 1) := dk_45 (dk_at dksJ39_balanceDeletion_13 22 rfl rfl)
theorem dJ39_balanceDeletion_327 : decode cJ39_balanceDeletion 327 = .ok (.ifnonnull 8, 3) := dk_199 0 8 (dk_at dksJ39_balanceDeletion_14 0 rfl rfl)
theorem dJ39_balanceDeletion_330 : decode cJ39_balanceDeletion 330 = .ok (.aload_n 2, 1) := dk_44 (dk_at dksJ39_balanceDeletion_14 3 rfl rfl)
theorem dJ39_balanceDeletion_331 : decode cJ39_balanceDeletion 331 = .ok (.astore_n 1, 1) := dk_76 (dk_at dksJ39_balanceDeletion_14 4 rfl rfl)
theorem dJ39_balanceDeletion_332 : decode cJ39_balanceDeletion 332 = .ok (.goto (-332), 3) := dk_167 254 180 (dk_at dksJ39_balanceDeletion_14 5 rfl rfl)
theorem dJ39_balanceDeletion_335 : decode cJ39_balanceDeletion 335 = .ok (.aload_n 3, 1) := dk_45 (dk_at dksJ39_balanceDeletion_14 8 rfl rfl)
theorem dJ39_balanceDeletion_336 : decode cJ39_balanceDeletion 336 = .ok (.getfield 39, 3) := dk_180 0 39 (dk_at dksJ39_balanceDeletion_14 9 rfl rfl)
theorem dJ39_balanceDeletion_339 : decode cJ39_balanceDeletion 339 = .ok (.astore 5, 2) := dk_58 5 (dk_at dksJ39_balanceDeletion_14 12 rfl rfl)
theorem dJ39_balanceDeletion_341 : decode cJ39_balanceDeletion 341 = .ok (.aload_n 3, 1) := dk_45 (dk_at dksJ39_balanceDeletion_14 14 rfl rfl)
theorem dJ39_balanceDeletion_342 : decode cJ39_balanceDeletion 342 = .ok (.getfield 42, 3) := dk_180 0 42 (dk_at dksJ39_balanceDeletion_14 15 rfl rfl)
theorem dJ39_balanceDeletion_345 : decode cJ39_balanceDeletion 345 = .ok (.astore 6, 2) := dk_58 6 (dk_at dksJ39_balanceDeletion_14 18 rfl rfl)
theorem dJ39_balanceDeletion_347 : decode cJ39_balanceDeletion 347 = .ok (.aload 5, 2) := dk_25 5 (dk_at dksJ39_balanceDeletion_14 20 rfl rfl)
theorem dJ39_balanceDeletion_349 : decode cJ39_balanceDeletion 349 = .ok (.ifnull 11, 3) := dk_198 0 11 (dk_at dksJ39_balanceDeletion_15 0 rfl rfl)
theorem dJ39_balanceDeletion_352 : decode cJ39_balanceDeletion 352 = .ok (.aload 5, 2) := dk_25 5 (dk_at dksJ39_balanceDeletion_15 3 rfl rfl)
theorem dJ39_balanceDeletion_354 : decode cJ39_balanceDeletion 354 = .ok (.getfield 93, 3) := dk_180 0 93 (dk_at dksJ39_balanceDeletion_15 5 rfl rfl)
theorem dJ39_balanceDeletion_357 : decode cJ39_balanceDeletion 357 = .ok (.ifCond .ne 26, 3) := dk_154 0 26 (dk_at dksJ39_balanceDeletion_15 8 rfl rfl)
theorem dJ39_balanceDeletion_360 : decode cJ39_balanceDeletion 360 = .ok (.aload 6, 2) := dk_25 6 (dk_at dksJ39_balanceDeletion_15 11 rfl rfl)
theorem dJ39_balanceDeletion_362 : decode cJ39_balanceDeletion 362 = .ok (.ifnull 11, 3) := dk_198 0 11 (dk_at dksJ39_balanceDeletion_15 13 rfl rfl)
theorem dJ39_balanceDeletion_365 : decode cJ39_balanceDeletion 365 = .ok (.aload 6, 2) := dk_25 6 (dk_at dksJ39_balanceDeletion_15 16 rfl rfl)
theorem dJ39_balanceDeletion_367 : decode cJ39_balanceDeletion 367 = .ok (.getfield 93, 3) := dk_180 0 93 (dk_at dksJ39_balanceDeletion_15 18 rfl rfl)
theorem dJ39_balanceDeletion_370 : decode cJ39_balanceDeletion 370 = .ok (.ifCond .ne 13, 3) := dk_154 0 13 (dk_at dksJ39_balanceDeletion_15 21 rfl rfl)
theorem dJ39_balanceDeletion_373 : decode cJ39_balanceDeletion 373 = .ok (.aload_n 3, 1) := dk_45 (dk_at dksJ39_balanceDeletion_16 0 rfl rfl)
theorem dJ39_balanceDeletion_374 : decode cJ39_balanceDeletion 374 = .ok (.iconst 1, 1) := dk_4 (dk_at dksJ39_balanceDeletion_16 1 rfl rfl)
theorem dJ39_balanceDeletion_375 : decode cJ39_balanceDeletion 375 = .ok (.putfield 93, 3) := dk_181 0 93 (dk_at dksJ39_balanceDeletion_16 2 rfl rfl)
theorem dJ39_balanceDeletion_378 : decode cJ39_balanceDeletion 378 = .ok (.aload_n 2, 1) := dk_44 (dk_at dksJ39_balanceDeletion_16 5 rfl rfl)
theorem dJ39_balanceDeletion_379 : decode cJ39_balanceDeletion 379 = .ok (.astore_n 1, 1) := dk_76 (dk_at dksJ39_balanceDeletion_16 6 rfl rfl)
theorem dJ39_balanceDeletion_380 : decode cJ39_balanceDeletion 380 = .ok (.goto 109, 3) := dk_167 0 109 (dk_at dksJ39_balanceDeletion_16 7 rfl rfl)
theorem dJ39_balanceDeletion_383 : decode cJ39_balanceDeletion 383 = .ok (.aload 5, 2) := dk_25 5 (dk_at dksJ39_balanceDeletion_16 10 rfl rfl)
theorem dJ39_balanceDeletion_385 : decode cJ39_balanceDeletion 385 = .ok (.ifnull 11, 3) := dk_198 0 11 (dk_at dksJ39_balanceDeletion_16 12 rfl rfl)
theorem dJ39_balanceDeletion_388 : decode cJ39_balanceDeletion 388 = .ok (.aload 5, 2) := dk_25 5 (dk_at dksJ39_balanceDeletion_16 15 rfl rfl)
theorem dJ39_balanceDeletion_390 : decode cJ39_balanceDeletion 390 = .ok (.getfield 93, 3) := dk_180 0 93 (dk_at dksJ39_balanceDeletion_16 17 rfl rfl)
theorem dJ39_balanceDeletion_393 : decode cJ39_balanceDeletion 393 = .ok (.ifCond .ne 43, 3) := dk_154 0 43 (dk_at dksJ39_balanceDeletion_16 20 rfl rfl)
theorem dJ39_balanceDeletion_396 : decode cJ39_balanceDeletion 396 = .ok (.aload 6, 2) := dk_25 6 (dk_at dksJ39_balanceDeletion_17 0 rfl rfl)
theorem dJ39_balanceDeletion_398 : decode cJ39_balanceDeletion 398 = .ok (.ifnull 9, 3) := dk_198 0 9 (dk_at dksJ39_balanceDeletion_17 2 rfl rfl)
theorem dJ39_balanceDeletion_401 : decode cJ39_balanceDeletion 401 = .ok (.aload 6, 2) := dk_25 6 (dk_at dksJ39_balanceDeletion_17 5 rfl rfl)
theorem dJ39_balanceDeletion_403 : decode cJ39_balanceDeletion 403 = .ok (.iconst 0, 1) := dk_3 (dk_at dksJ39_balanceDeletion_17 7 rfl rfl)
theorem dJ39_balanceDeletion_404 : decode cJ39_balanceDeletion 404 = .ok (.putfield 93, 3) := dk_181 0 93 (dk_at dksJ39_balanceDeletion_17 8 rfl rfl)
theorem dJ39_balanceDeletion_407 : decode cJ39_balanceDeletion 407 = .ok (.aload_n 3, 1) := dk_45 (dk_at dksJ39_balanceDeletion_17 11 rfl rfl)
theorem dJ39_balanceDeletion_408 : decode cJ39_balanceDeletion 408 = .ok (.iconst 1, 1) := dk_4 (dk_at dksJ39_balanceDeletion_17 12 rfl rfl)
theorem dJ39_balanceDeletion_409 : decode cJ39_balanceDeletion 409 = .ok (.putfield 93, 3) := dk_181 0 93 (dk_at dksJ39_balanceDeletion_17 13 rfl rfl)
theorem dJ39_balanceDeletion_412 : decode cJ39_balanceDeletion 412 = .ok (.aload_n 0, 1) := dk_42 (dk_at dksJ39_balanceDeletion_17 16 rfl rfl)
theorem dJ39_balanceDeletion_413 : decode cJ39_balanceDeletion 413 = .ok (.aload_n 3, 1) := dk_45 (dk_at dksJ39_balanceDeletion_17 17 rfl rfl)
theorem dJ39_balanceDeletion_414 : decode cJ39_balanceDeletion 414 = .ok (.invokestatic 130, 3) := dk_184 0 130 (dk_at dksJ39_balanceDeletion_17 18 rfl rfl)
theorem dJ39_balanceDeletion_417 : decode cJ39_balanceDeletion 417 = .ok (.astore_n 0, 1) := dk_75 (dk_at dksJ39_balanceDeletion_17 21 rfl rfl)
theorem dJ39_balanceDeletion_418 : decode cJ39_balanceDeletion 418 = .ok (.aload_n 1, 1) := dk_43 (dk_at dksJ39_balanceDeletion_17 22 rfl rfl)
theorem dJ39_balanceDeletion_419 : decode cJ39_balanceDeletion 419 = .ok (.getfield 9, 3) := dk_180 0 9 (dk_at dksJ39_balanceDeletion_18 0 rfl rfl)
theorem dJ39_balanceDeletion_422 : decode cJ39_balanceDeletion 422 = .ok (.dup, 1) := dk_89 (dk_at dksJ39_balanceDeletion_18 3 rfl rfl)
theorem dJ39_balanceDeletion_423 : decode cJ39_balanceDeletion 423 = .ok (.astore_n 2, 1) := dk_77 (dk_at dksJ39_balanceDeletion_18 4 rfl rfl)
theorem dJ39_balanceDeletion_424 : decode cJ39_balanceDeletion 424 = .ok (.ifnonnull 7, 3) := dk_199 0 7 (dk_at dksJ39_balanceDeletion_18 5 rfl rfl)
theorem dJ39_balanceDeletion_427 : decode cJ39_balanceDeletion 427 = .ok (.aconst_null, 1) := dk_1 (dk_at dksJ39_balanceDeletion_18 8 rfl rfl)
theorem dJ39_balanceDeletion_428 : decode cJ39_balanceDeletion 428 = .ok (.goto 7, 3) := dk_167 0 7 (dk_at dksJ39_balanceDeletion_18 9 rfl rfl)
theorem dJ39_balanceDeletion_431 : decode cJ39_balanceDeletion 431 = .ok (.aload_n 2, 1) := dk_44 (dk_at dksJ39_balanceDeletion_18 12 rfl rfl)
theorem dJ39_balanceDeletion_432 : decode cJ39_balanceDeletion 432 = .ok (.getfield 39, 3) := dk_180 0 39 (dk_at dksJ39_balanceDeletion_18 13 rfl rfl)
theorem dJ39_balanceDeletion_435 : decode cJ39_balanceDeletion 435 = .ok (.astore_n 3, 1) := dk_78 (dk_at dksJ39_balanceDeletion_18 16 rfl rfl)
theorem dJ39_balanceDeletion_436 : decode cJ39_balanceDeletion 436 = .ok (.aload_n 3, 1) := dk_45 (dk_at dksJ39_balanceDeletion_18 17 rfl rfl)
theorem dJ39_balanceDeletion_437 : decode cJ39_balanceDeletion 437 = .ok (.ifnull 35, 3) := dk_198 0 35 (dk_at dksJ39_balanceDeletion_18 18 rfl rfl)
theorem dJ39_balanceDeletion_440 : decode cJ39_balanceDeletion 440 = .ok (.aload_n 3, 1) := dk_45 (dk_at dksJ39_balanceDeletion_18 21 rfl rfl)
theorem dJ39_balanceDeletion_441 : decode cJ39_balanceDeletion 441 = .ok (.aload_n 2, 1) := dk_44 (dk_at dksJ39_balanceDeletion_18 22 rfl rfl)
theorem dJ39_balanceDeletion_442 : decode cJ39_balanceDeletion 442 = .ok (.ifnonnull 7, 3) := dk_199 0 7 (dk_at dksJ39_balanceDeletion_19 0 rfl rfl)
theorem dJ39_balanceDeletion_445 : decode cJ39_balanceDeletion 445 = .ok (.iconst 0, 1) := dk_3 (dk_at dksJ39_balanceDeletion_19 3 rfl rfl)
theorem dJ39_balanceDeletion_446 : decode cJ39_balanceDeletion 446 = .ok (.goto 7, 3) := dk_167 0 7 (dk_at dksJ39_balanceDeletion_19 4 rfl rfl)
theorem dJ39_balanceDeletion_449 : decode cJ39_balanceDeletion 449 = .ok (.aload_n 2, 1) := dk_44 (dk_at dksJ39_balanceDeletion_19 7 rfl rfl)
theorem dJ39_balanceDeletion_450 : decode cJ39_balanceDeletion 450 = .ok (.getfield 93, 3) := dk_180 0 93 (dk_at dksJ39_balanceDeletion_19 8 rfl rfl)
theorem dJ39_balanceDeletion_453 : decode cJ39_balanceDeletion 453 = .ok (.putfield 93, 3) := dk_181 0 93 (dk_at dksJ39_balanceDeletion_19 11 rfl rfl)
theorem dJ39_balanceDeletion_456 : decode cJ39_balanceDeletion 456 = .ok (.aload_n 3, 1) := dk_45 (dk_at dksJ39_balanceDeletion_19 14 rfl rfl)
theorem dJ39_balanceDeletion_457 : decode cJ39_balanceDeletion 457 = .ok (.getfield 39, 3) := dk_180 0 39 (dk_at dksJ39_balanceDeletion_19 15 rfl rfl)
theorem dJ39_balanceDeletion_460 : decode cJ39_balanceDeletion 460 = .ok (.dup, 1) := dk_89 (dk_at dksJ39_balanceDeletion_19 18 rfl rfl)
theorem dJ39_balanceDeletion_461 : decode cJ39_balanceDeletion 461 = .ok (.astore 5, 2) := dk_58 5 (dk_at dksJ39_balanceDeletion_19 19 rfl rfl)
theorem dJ39_balanceDeletion_463 : decode cJ39_balanceDeletion 463 = .ok (.ifnull 9, 3) := dk_198 0 9 (dk_at dksJ39_balanceDeletion_19 21 rfl rfl)
theorem dJ39_balanceDeletion_466 : decode cJ39_balanceDeletion 466 = .ok (.aload 5, 2) := dk_25 5 (dk_at dksJ39_balanceDeletion_20 0 rfl rfl)
theorem dJ39_balanceDeletion_468 : decode cJ39_balanceDeletion 468 = .ok (.iconst 0, 1) := dk_3 (dk_at dksJ39_balanceDeletion_20 2 rfl rfl)
theorem dJ39_balanceDeletion_469 : decode cJ39_balanceDeletion 469 = .ok (.putfield 93, 3) := dk_181 0 93 (dk_at dksJ39_balanceDeletion_20 3 rfl rfl)
theorem dJ39_balanceDeletion_472 : decode cJ39_balanceDeletion 472 = .ok (.aload_n 2, 1) := dk_44 (dk_at dksJ39_balanceDeletion_20 6 rfl rfl)
theorem dJ39_balanceDeletion_473 : decode cJ39_balanceDeletion 473 = .ok (.ifnull 14, 3) := dk_198 0 14 (dk_at dksJ39_balanceDeletion_20 7 rfl rfl)
theorem dJ39_balanceDeletion_476 : decode cJ39_balanceDeletion 476 = .ok (.aload_n 2, 1) := dk_44 (dk_at dksJ39_balanceDeletion_20 10 rfl rfl)
theorem dJ39_balanceDeletion_477 : decode cJ39_balanceDeletion 477 = .ok (.iconst 0, 1) := dk_3 (dk_at dksJ39_balanceDeletion_20 11 rfl rfl)
theorem dJ39_balanceDeletion_478 : decode cJ39_balanceDeletion 478 = .ok (.putfield 93, 3) := dk_181 0 93 (dk_at dksJ39_balanceDeletion_20 12 rfl rfl)
theorem dJ39_balanceDeletion_481 : decode cJ39_balanceDeletion 481 = .ok (.aload_n 0, 1) := dk_42 (dk_at dksJ39_balanceDeletion_20 15 rfl rfl)
theorem dJ39_balanceDeletion_482 : decode cJ39_balanceDeletion 482 = .ok (.aload_n 2, 1) := dk_44 (dk_at dksJ39_balanceDeletion_20 16 rfl rfl)
theorem dJ39_balanceDeletion_483 : decode cJ39_balanceDeletion 483 = .ok (.invokestatic 133, 3) := dk_184 0 133 (dk_at dksJ39_balanceDeletion_20 17 rfl rfl)
theorem dJ39_balanceDeletion_486 : decode cJ39_balanceDeletion 486 = .ok (.astore_n 0, 1) := dk_75 (dk_at dksJ39_balanceDeletion_20 20 rfl rfl)
theorem dJ39_balanceDeletion_487 : decode cJ39_balanceDeletion 487 = .ok (.aload_n 0, 1) := dk_42 (dk_at dksJ39_balanceDeletion_20 21 rfl rfl)
theorem dJ39_balanceDeletion_488 : decode cJ39_balanceDeletion 488 = .ok (.astore_n 1, 1) := dk_76 (dk_at dksJ39_balanceDeletion_20 22 rfl rfl)
theorem dJ39_balanceDeletion_489 : decode cJ39_balanceDeletion 489 = .ok (.goto (-489), 3) := dk_167 254 23 (dk_at dksJ39_balanceDeletion_21 0 rfl rfl)
theorem q148 : (Jvm.Cond.initialized "java/util/HashMap$TreeNode") ∈ lw_all := lw_g (lw_at lw_m1 46 rfl) rfl
theorem q1020 : (Jvm.Cond.selects "java/util/HashMap$TreeNode" ({ cls := "java/lang/Object", name := "getClass", desc := "()Ljava/lang/Class;" } : Jvm.MethodName) ({ cls := "java/lang/Object", name := "getClass", desc := "()Ljava/lang/Class;" } : Jvm.MethodName)) ∈ lw_all := lw_g (lw_at lw_m4 198 rfl) rfl
theorem q1824 : (Jvm.Cond.instanceMethod ({ cls := "java/util/HashMap$TreeNode", name := "split", desc := "(Ljava/util/HashMap;[Ljava/util/HashMap$Node;II)V" } : Jvm.MethodName)) ∈ lw_all := lw_g (lw_at lw_m8 42 rfl) rfl
theorem q1825 : (Jvm.Cond.selects "java/util/HashMap$TreeNode" ({ cls := "java/util/HashMap$TreeNode", name := "split", desc := "(Ljava/util/HashMap;[Ljava/util/HashMap$Node;II)V" } : Jvm.MethodName) ({ cls := "java/util/HashMap$TreeNode", name := "split", desc := "(Ljava/util/HashMap;[Ljava/util/HashMap$Node;II)V" } : Jvm.MethodName)) ∈ lw_all := lw_g (lw_at lw_m8 43 rfl) rfl
theorem q1826 : (Jvm.Cond.code ({ cls := "java/util/HashMap$TreeNode", name := "split", desc := "(Ljava/util/HashMap;[Ljava/util/HashMap$Node;II)V" } : Jvm.MethodName) prog_74_method_11_code (14 : Nat) (Option.none : Option Jvm.ClassFile.FieldType)) ∈ lw_all := lw_g (lw_at lw_m8 44 rfl) rfl
theorem q1827 : (Jvm.Cond.classLink "java/util/HashMap$TreeNode" (10 : Nat) "java/util/HashMap$TreeNode") ∈ lw_all := lw_g (lw_at lw_m8 45 rfl) rfl
theorem q1828 : (Jvm.Cond.methodLink "java/util/HashMap$TreeNode" (119 : Nat) ({ cls := "java/util/HashMap$TreeNode", name := "untreeify", desc := "(Ljava/util/HashMap;)Ljava/util/HashMap$Node;" } : Jvm.MethodName)) ∈ lw_all := lw_g (lw_at lw_m8 46 rfl) rfl
theorem q1829 : (Jvm.Cond.instanceMethod ({ cls := "java/util/HashMap$TreeNode", name := "untreeify", desc := "(Ljava/util/HashMap;)Ljava/util/HashMap$Node;" } : Jvm.MethodName)) ∈ lw_all := lw_g (lw_at lw_m8 47 rfl) rfl
theorem q1830 : (Jvm.Cond.selects "java/util/HashMap$TreeNode" ({ cls := "java/util/HashMap$TreeNode", name := "untreeify", desc := "(Ljava/util/HashMap;)Ljava/util/HashMap$Node;" } : Jvm.MethodName) ({ cls := "java/util/HashMap$TreeNode", name := "untreeify", desc := "(Ljava/util/HashMap;)Ljava/util/HashMap$Node;" } : Jvm.MethodName)) ∈ lw_all := lw_g (lw_at lw_m8 48 rfl) rfl
theorem q1831 : (Jvm.Cond.code ({ cls := "java/util/HashMap$TreeNode", name := "untreeify", desc := "(Ljava/util/HashMap;)Ljava/util/HashMap$Node;" } : Jvm.MethodName) prog_74_method_8_code (6 : Nat) (Option.some (Jvm.ClassFile.FieldType.object "java/util/HashMap$Node"))) ∈ lw_all := lw_g (lw_at lw_m8 49 rfl) rfl
theorem q1832 : (Jvm.Cond.methodLink "java/util/HashMap$TreeNode" (108 : Nat) ({ cls := "java/util/HashMap", name := "replacementNode", desc := "(Ljava/util/HashMap$Node;Ljava/util/HashMap$Node;)Ljava/util/HashMap$Node;" } : Jvm.MethodName)) ∈ lw_all := lw_g (lw_at lw_m8 50 rfl) rfl
theorem q1852 : (Jvm.Cond.fieldLink "java/util/HashMap$TreeNode" (15 : Nat) "java/util/HashMap$TreeNode" "hash" "I") ∈ lw_all := lw_g (lw_at lw_m8 70 rfl) rfl
theorem q1853 : (Jvm.Cond.sameField "java/util/HashMap$TreeNode" "java/util/HashMap$Node" "hash" "I") ∈ lw_all := lw_g (lw_at lw_m8 71 rfl) rfl
theorem q1859 : (Jvm.Cond.fieldLink "java/util/HashMap$TreeNode" (45 : Nat) "java/util/HashMap$TreeNode" "key" "Ljava/lang/Object;") ∈ lw_all := lw_g (lw_at lw_m8 77 rfl) rfl
theorem q1860 : (Jvm.Cond.sameField "java/util/HashMap$TreeNode" "java/util/HashMap$Node" "key" "Ljava/lang/Object;") ∈ lw_all := lw_g (lw_at lw_m8 78 rfl) rfl
theorem q1872 : (Jvm.Cond.fieldLink "java/util/HashMap$TreeNode" (22 : Nat) "java/util/HashMap$TreeNode" "next" "Ljava/util/HashMap$Node;") ∈ lw_all := lw_g (lw_at lw_m8 90 rfl) rfl
theorem q1873 : (Jvm.Cond.sameField "java/util/HashMap$TreeNode" "java/util/HashMap$Node" "next" "Ljava/util/HashMap$Node;") ∈ lw_all := lw_g (lw_at lw_m8 91 rfl) rfl
theorem q1874 : (Jvm.Cond.fieldLink "java/util/HashMap$TreeNode" (112 : Nat) "java/util/HashMap$Node" "next" "Ljava/util/HashMap$Node;") ∈ lw_all := lw_g (lw_at lw_m8 92 rfl) rfl
theorem q1895 : (Jvm.Cond.methodLink "java/util/HashMap$TreeNode" (126 : Nat) ({ cls := "java/util/HashMap$TreeNode", name := "treeify", desc := "([Ljava/util/HashMap$Node;)V" } : Jvm.MethodName)) ∈ lw_all := lw_g (lw_at lw_m8 113 rfl) rfl
theorem q1896 : (Jvm.Cond.instanceMethod ({ cls := "java/util/HashMap$TreeNode", name := "treeify", desc := "([Ljava/util/HashMap$Node;)V" } : Jvm.MethodName)) ∈ lw_all := lw_g (lw_at lw_m8 114 rfl) rfl
theorem q1897 : (Jvm.Cond.selects "java/util/HashMap$TreeNode" ({ cls := "java/util/HashMap$TreeNode", name := "treeify", desc := "([Ljava/util/HashMap$Node;)V" } : Jvm.MethodName) ({ cls := "java/util/HashMap$TreeNode", name := "treeify", desc := "([Ljava/util/HashMap$Node;)V" } : Jvm.MethodName)) ∈ lw_all := lw_g (lw_at lw_m8 115 rfl) rfl
theorem q1898 : (Jvm.Cond.code ({ cls := "java/util/HashMap$TreeNode", name := "treeify", desc := "([Ljava/util/HashMap$Node;)V" } : Jvm.MethodName) prog_74_method_7_code (13 : Nat) (Option.none : Option Jvm.ClassFile.FieldType)) ∈ lw_all := lw_g (lw_at lw_m8 116 rfl) rfl
theorem q1899 : (Jvm.Cond.methodLink "java/util/HashMap$TreeNode" (55 : Nat) ({ cls := "java/util/HashMap", name := "comparableClassFor", desc := "(Ljava/lang/Object;)Ljava/lang/Class;" } : Jvm.MethodName)) ∈ lw_all := lw_g (lw_at lw_m8 117 rfl) rfl
theorem q1905 : (Jvm.Cond.methodLink "java/util/HashMap$TreeNode" (59 : Nat) ({ cls := "java/util/HashMap", name := "compareComparables", desc := "(Ljava/lang/Class;Ljava/lang/Object;Ljava/lang/Object;)I" } : Jvm.MethodName)) ∈ lw_all := lw_g (lw_at lw_m8 123 rfl) rfl
theorem q2135 : (Jvm.Cond.methodLink "java/util/HashMap$TreeNode" (100 : Nat) ({ cls := "java/util/HashMap$TreeNode", name := "balanceInsertion", desc := "(Ljava/util/HashMap$TreeNode;Ljava/util/HashMap$TreeNode;)Ljava/util/HashMap$TreeNode;" } : Jvm.MethodName)) ∈ lw_all := lw_g (lw_at lw_m9 113 rfl) rfl
theorem q2136 : (Jvm.Cond.static ({ cls := "java/util/HashMap$TreeNode", name := "balanceInsertion", desc := "(Ljava/util/HashMap$TreeNode;Ljava/util/HashMap$TreeNode;)Ljava/util/HashMap$TreeNode;" } : Jvm.MethodName)) ∈ lw_all := lw_g (lw_at lw_m9 114 rfl) rfl
theorem q2137 : (Jvm.Cond.code ({ cls := "java/util/HashMap$TreeNode", name := "balanceInsertion", desc := "(Ljava/util/HashMap$TreeNode;Ljava/util/HashMap$TreeNode;)Ljava/util/HashMap$TreeNode;" } : Jvm.MethodName) prog_74_method_14_code (6 : Nat) (Option.some (Jvm.ClassFile.FieldType.object "java/util/HashMap$TreeNode"))) ∈ lw_all := lw_g (lw_at lw_m9 115 rfl) rfl
theorem q2138 : (Jvm.Cond.methodLink "java/util/HashMap$TreeNode" (130 : Nat) ({ cls := "java/util/HashMap$TreeNode", name := "rotateLeft", desc := "(Ljava/util/HashMap$TreeNode;Ljava/util/HashMap$TreeNode;)Ljava/util/HashMap$TreeNode;" } : Jvm.MethodName)) ∈ lw_all := lw_g (lw_at lw_m9 116 rfl) rfl
theorem q2139 : (Jvm.Cond.static ({ cls := "java/util/HashMap$TreeNode", name := "rotateLeft", desc := "(Ljava/util/HashMap$TreeNode;Ljava/util/HashMap$TreeNode;)Ljava/util/HashMap$TreeNode;" } : Jvm.MethodName)) ∈ lw_all := lw_g (lw_at lw_m9 117 rfl) rfl
theorem q2140 : (Jvm.Cond.code ({ cls := "java/util/HashMap$TreeNode", name := "rotateLeft", desc := "(Ljava/util/HashMap$TreeNode;Ljava/util/HashMap$TreeNode;)Ljava/util/HashMap$TreeNode;" } : Jvm.MethodName) prog_74_method_12_code (5 : Nat) (Option.some (Jvm.ClassFile.FieldType.object "java/util/HashMap$TreeNode"))) ∈ lw_all := lw_g (lw_at lw_m9 118 rfl) rfl
theorem q2141 : (Jvm.Cond.methodLink "java/util/HashMap$TreeNode" (133 : Nat) ({ cls := "java/util/HashMap$TreeNode", name := "rotateRight", desc := "(Ljava/util/HashMap$TreeNode;Ljava/util/HashMap$TreeNode;)Ljava/util/HashMap$TreeNode;" } : Jvm.MethodName)) ∈ lw_all := lw_g (lw_at lw_m9 119 rfl) rfl
theorem q2142 : (Jvm.Cond.static ({ cls := "java/util/HashMap$TreeNode", name := "rotateRight", desc := "(Ljava/util/HashMap$TreeNode;Ljava/util/HashMap$TreeNode;)Ljava/util/HashMap$TreeNode;" } : Jvm.MethodName)) ∈ lw_all := lw_g (lw_at lw_m9 120 rfl) rfl
theorem q2143 : (Jvm.Cond.code ({ cls := "java/util/HashMap$TreeNode", name := "rotateRight", desc := "(Ljava/util/HashMap$TreeNode;Ljava/util/HashMap$TreeNode;)Ljava/util/HashMap$TreeNode;" } : Jvm.MethodName) prog_74_method_13_code (5 : Nat) (Option.some (Jvm.ClassFile.FieldType.object "java/util/HashMap$TreeNode"))) ∈ lw_all := lw_g (lw_at lw_m9 121 rfl) rfl
theorem q2144 : (Jvm.Cond.methodLink "java/util/HashMap$TreeNode" (104 : Nat) ({ cls := "java/util/HashMap$TreeNode", name := "moveRootToFront", desc := "([Ljava/util/HashMap$Node;Ljava/util/HashMap$TreeNode;)V" } : Jvm.MethodName)) ∈ lw_all := lw_g (lw_at lw_m9 122 rfl) rfl
theorem q2145 : (Jvm.Cond.static ({ cls := "java/util/HashMap$TreeNode", name := "moveRootToFront", desc := "([Ljava/util/HashMap$Node;Ljava/util/HashMap$TreeNode;)V" } : Jvm.MethodName)) ∈ lw_all := lw_g (lw_at lw_m9 123 rfl) rfl
theorem q2146 : (Jvm.Cond.code ({ cls := "java/util/HashMap$TreeNode", name := "moveRootToFront", desc := "([Ljava/util/HashMap$Node;Ljava/util/HashMap$TreeNode;)V" } : Jvm.MethodName) prog_74_method_3_code (7 : Nat) (Option.none : Option Jvm.ClassFile.FieldType)) ∈ lw_all := lw_g (lw_at lw_m9 124 rfl) rfl
theorem q2147 : (Jvm.Cond.fieldLink "java/util/HashMap$TreeNode" (26 : Nat) "java/util/HashMap$TreeNode" "$assertionsDisabled" "Z") ∈ lw_all := lw_g (lw_at lw_m9 125 rfl) rfl
theorem q2148 : (Jvm.Cond.laysStatic "java/util/HashMap$TreeNode" "$assertionsDisabled" "Z") ∈ lw_tbl := lw_at lw_m9 126 rfl
theorem q2213 : (Jvm.Cond.instanceMethod ({ cls := "java/util/HashMap$TreeNode", name := "putTreeVal", desc := "(Ljava/util/HashMap;[Ljava/util/HashMap$Node;ILjava/lang/Object;Ljava/lang/Object;)Ljava/util/HashMap$TreeNode;" } : Jvm.MethodName)) ∈ lw_all := lw_g (lw_at lw_m9 191 rfl) rfl
theorem q2214 : (Jvm.Cond.selects "java/util/HashMap$TreeNode" ({ cls := "java/util/HashMap$TreeNode", name := "putTreeVal", desc := "(Ljava/util/HashMap;[Ljava/util/HashMap$Node;ILjava/lang/Object;Ljava/lang/Object;)Ljava/util/HashMap$TreeNode;" } : Jvm.MethodName) ({ cls := "java/util/HashMap$TreeNode", name := "putTreeVal", desc := "(Ljava/util/HashMap;[Ljava/util/HashMap$Node;ILjava/lang/Object;Ljava/lang/Object;)Ljava/util/HashMap$TreeNode;" } : Jvm.MethodName)) ∈ lw_all := lw_g (lw_at lw_m9 192 rfl) rfl
theorem q2215 : (Jvm.Cond.code ({ cls := "java/util/HashMap$TreeNode", name := "putTreeVal", desc := "(Ljava/util/HashMap;[Ljava/util/HashMap$Node;ILjava/lang/Object;Ljava/lang/Object;)Ljava/util/HashMap$TreeNode;" } : Jvm.MethodName) prog_74_method_9_code (16 : Nat) (Option.some (Jvm.ClassFile.FieldType.object "java/util/HashMap$TreeNode"))) ∈ lw_all := lw_g (lw_at lw_m9 193 rfl) rfl
theorem q2216 : (Jvm.Cond.methodLink "java/util/HashMap$TreeNode" (67 : Nat) ({ cls := "java/util/HashMap$TreeNode", name := "root", desc := "()Ljava/util/HashMap$TreeNode;" } : Jvm.MethodName)) ∈ lw_all := lw_g (lw_at lw_m9 194 rfl) rfl
theorem q2217 : (Jvm.Cond.instanceMethod ({ cls := "java/util/HashMap$TreeNode", name := "root", desc := "()Ljava/util/HashMap$TreeNode;" } : Jvm.MethodName)) ∈ lw_all := lw_g (lw_at lw_m9 195 rfl) rfl
theorem q2218 : (Jvm.Cond.selects "java/util/HashMap$TreeNode" ({ cls := "java/util/HashMap$TreeNode", name := "root", desc := "()Ljava/util/HashMap$TreeNode;" } : Jvm.MethodName) ({ cls := "java/util/HashMap$TreeNode", name := "root", desc := "()Ljava/util/HashMap$TreeNode;" } : Jvm.MethodName)) ∈ lw_all := lw_g (lw_at lw_m9 196 rfl) rfl
theorem q2219 : (Jvm.Cond.code ({ cls := "java/util/HashMap$TreeNode", name := "root", desc := "()Ljava/util/HashMap$TreeNode;" } : Jvm.MethodName) prog_74_method_2_code (3 : Nat) (Option.some (Jvm.ClassFile.FieldType.object "java/util/HashMap$TreeNode"))) ∈ lw_all := lw_g (lw_at lw_m9 197 rfl) rfl
theorem q2220 : (Jvm.Cond.methodLink "java/util/HashMap$TreeNode" (49 : Nat) ({ cls := "java/lang/Object", name := "equals", desc := "(Ljava/lang/Object;)Z" } : Jvm.MethodName)) ∈ lw_all := lw_g (lw_at lw_m9 198 rfl) rfl
theorem q2221 : (Jvm.Cond.methodLink "java/util/HashMap$TreeNode" (63 : Nat) ({ cls := "java/util/HashMap$TreeNode", name := "find", desc := "(ILjava/lang/Object;Ljava/lang/Class;)Ljava/util/HashMap$TreeNode;" } : Jvm.MethodName)) ∈ lw_all := lw_g (lw_at lw_m9 199 rfl) rfl
theorem q2222 : (Jvm.Cond.instanceMethod ({ cls := "java/util/HashMap$TreeNode", name := "find", desc := "(ILjava/lang/Object;Ljava/lang/Class;)Ljava/util/HashMap$TreeNode;" } : Jvm.MethodName)) ∈ lw_all := lw_g (lw_at lw_m9 200 rfl) rfl
theorem q2223 : (Jvm.Cond.selects "java/util/HashMap$TreeNode" ({ cls := "java/util/HashMap$TreeNode", name := "find", desc := "(ILjava/lang/Object;Ljava/lang/Class;)Ljava/util/HashMap$TreeNode;" } : Jvm.MethodName) ({ cls := "java/util/HashMap$TreeNode", name := "find", desc := "(ILjava/lang/Object;Ljava/lang/Class;)Ljava/util/HashMap$TreeNode;" } : Jvm.MethodName)) ∈ lw_all := lw_g (lw_at lw_m9 201 rfl) rfl
theorem q2224 : (Jvm.Cond.code ({ cls := "java/util/HashMap$TreeNode", name := "find", desc := "(ILjava/lang/Object;Ljava/lang/Class;)Ljava/util/HashMap$TreeNode;" } : Jvm.MethodName) prog_74_method_4_code (11 : Nat) (Option.some (Jvm.ClassFile.FieldType.object "java/util/HashMap$TreeNode"))) ∈ lw_all := lw_g (lw_at lw_m9 202 rfl) rfl
theorem q2225 : (Jvm.Cond.methodLink "java/util/HashMap$TreeNode" (115 : Nat) ({ cls := "java/util/HashMap", name := "newTreeNode", desc := "(ILjava/lang/Object;Ljava/lang/Object;Ljava/util/HashMap$Node;)Ljava/util/HashMap$TreeNode;" } : Jvm.MethodName)) ∈ lw_all := lw_g (lw_at lw_m9 203 rfl) rfl
theorem q2232 : (Jvm.Cond.instantiable "java/util/HashMap$TreeNode" (11 : Nat)) ∈ lw_all := lw_g (lw_at lw_m9 210 rfl) rfl
theorem q2234 : (Jvm.Cond.instanceMethod ({ cls := "java/util/HashMap$TreeNode", name := "<init>", desc := "(ILjava/lang/Object;Ljava/lang/Object;Ljava/util/HashMap$Node;)V" } : Jvm.MethodName)) ∈ lw_all := lw_g (lw_at lw_m9 212 rfl) rfl
theorem q2235 : (Jvm.Cond.code ({ cls := "java/util/HashMap$TreeNode", name := "<init>", desc := "(ILjava/lang/Object;Ljava/lang/Object;Ljava/util/HashMap$Node;)V" } : Jvm.MethodName) prog_74_method_1_code (5 : Nat) (Option.none : Option Jvm.ClassFile.FieldType)) ∈ lw_all := lw_g (lw_at lw_m9 213 rfl) rfl
theorem q2236 : (Jvm.Cond.methodLink "java/util/HashMap$TreeNode" (3 : Nat) ({ cls := "java/util/LinkedHashMap$Entry", name := "<init>", desc := "(ILjava/lang/Object;Ljava/lang/Object;Ljava/util/HashMap$Node;)V" } : Jvm.MethodName)) ∈ lw_all := lw_g (lw_at lw_m9 214 rfl) rfl
theorem q2237 : (Jvm.Cond.fieldLink "java/util/HashMap$TreeNode" (9 : Nat) "java/util/HashMap$TreeNode" "parent" "Ljava/util/HashMap$TreeNode;") ∈ lw_all := lw_g (lw_at lw_m9 215 rfl) rfl
theorem q2238 : (Jvm.Cond.fieldLink "java/util/HashMap$TreeNode" (39 : Nat) "java/util/HashMap$TreeNode" "left" "Ljava/util/HashMap$TreeNode;") ∈ lw_all := lw_g (lw_at lw_m9 216 rfl) rfl
theorem q2239 : (Jvm.Cond.fieldLink "java/util/HashMap$TreeNode" (42 : Nat) "java/util/HashMap$TreeNode" "right" "Ljava/util/HashMap$TreeNode;") ∈ lw_all := lw_g (lw_at lw_m9 217 rfl) rfl
theorem q2240 : (Jvm.Cond.fieldLink "java/util/HashMap$TreeNode" (19 : Nat) "java/util/HashMap$TreeNode" "prev" "Ljava/util/HashMap$TreeNode;") ∈ lw_all := lw_g (lw_at lw_m9 218 rfl) rfl
theorem q2242 : (Jvm.Cond.fieldLink "java/util/HashMap$TreeNode" (93 : Nat) "java/util/HashMap$TreeNode" "red" "Z") ∈ lw_all := lw_g (lw_at lw_m9 220 rfl) rfl
theorem q2243 : (Jvm.Cond.lays "java/util/HashMap$TreeNode" "java/util/HashMap$TreeNode" "parent" "Ljava/util/HashMap$TreeNode;") ∈ lw_all := lw_g (lw_at lw_m9 221 rfl) rfl
theorem q2244 : (Jvm.Cond.soleField "java/util/HashMap$TreeNode" "parent") ∈ lw_all := lw_g (lw_at lw_m9 222 rfl) rfl
theorem q2245 : (Jvm.Cond.lays "java/util/HashMap$TreeNode" "java/util/HashMap$TreeNode" "left" "Ljava/util/HashMap$TreeNode;") ∈ lw_all := lw_g (lw_at lw_m9 223 rfl) rfl
theorem q2246 : (Jvm.Cond.soleField "java/util/HashMap$TreeNode" "left") ∈ lw_all := lw_g (lw_at lw_m9 224 rfl) rfl
theorem q2247 : (Jvm.Cond.lays "java/util/HashMap$TreeNode" "java/util/HashMap$TreeNode" "right" "Ljava/util/HashMap$TreeNode;") ∈ lw_all := lw_g (lw_at lw_m9 225 rfl) rfl
theorem q2248 : (Jvm.Cond.soleField "java/util/HashMap$TreeNode" "right") ∈ lw_all := lw_g (lw_at lw_m9 226 rfl) rfl
theorem q2249 : (Jvm.Cond.lays "java/util/HashMap$TreeNode" "java/util/HashMap$TreeNode" "prev" "Ljava/util/HashMap$TreeNode;") ∈ lw_all := lw_g (lw_at lw_m9 227 rfl) rfl
theorem q2250 : (Jvm.Cond.soleField "java/util/HashMap$TreeNode" "prev") ∈ lw_all := lw_g (lw_at lw_m9 228 rfl) rfl
theorem q2251 : (Jvm.Cond.lays "java/util/HashMap$TreeNode" "java/util/HashMap$TreeNode" "red" "Z") ∈ lw_all := lw_g (lw_at lw_m9 229 rfl) rfl
theorem q2252 : (Jvm.Cond.soleField "java/util/HashMap$TreeNode" "red") ∈ lw_all := lw_g (lw_at lw_m9 230 rfl) rfl
theorem q2253 : (Jvm.Cond.lays "java/util/HashMap$TreeNode" "java/util/LinkedHashMap$Entry" "before" "Ljava/util/LinkedHashMap$Entry;") ∈ lw_all := lw_g (lw_at lw_m9 231 rfl) rfl
theorem q2254 : (Jvm.Cond.lays "java/util/HashMap$TreeNode" "java/util/LinkedHashMap$Entry" "after" "Ljava/util/LinkedHashMap$Entry;") ∈ lw_all := lw_g (lw_at lw_m9 232 rfl) rfl
theorem q2255 : (Jvm.Cond.laysFinal "java/util/HashMap$TreeNode" "java/util/HashMap$Node" "hash" "I") ∈ lw_all := lw_g (lw_at lw_m9 233 rfl) rfl
theorem q2256 : (Jvm.Cond.laysFinal "java/util/HashMap$TreeNode" "java/util/HashMap$Node" "key" "Ljava/lang/Object;") ∈ lw_all := lw_g (lw_at lw_m9 234 rfl) rfl
theorem q2257 : (Jvm.Cond.lays "java/util/HashMap$TreeNode" "java/util/HashMap$Node" "value" "Ljava/lang/Object;") ∈ lw_all := lw_g (lw_at lw_m9 235 rfl) rfl
theorem q2258 : (Jvm.Cond.lays "java/util/HashMap$TreeNode" "java/util/HashMap$Node" "next" "Ljava/util/HashMap$Node;") ∈ lw_all := lw_g (lw_at lw_m9 236 rfl) rfl
theorem q2259 : (Jvm.Cond.superclass "java/util/HashMap$TreeNode" "java/util/LinkedHashMap$Entry") ∈ lw_all := lw_g (lw_at lw_m9 237 rfl) rfl
theorem q2366 : (Jvm.Cond.instanceMethod ({ cls := "java/util/HashMap$TreeNode", name := "getTreeNode", desc := "(ILjava/lang/Object;)Ljava/util/HashMap$TreeNode;" } : Jvm.MethodName)) ∈ lw_all := lw_g (lw_at lw_m10 104 rfl) rfl
theorem q2367 : (Jvm.Cond.selects "java/util/HashMap$TreeNode" ({ cls := "java/util/HashMap$TreeNode", name := "getTreeNode", desc := "(ILjava/lang/Object;)Ljava/util/HashMap$TreeNode;" } : Jvm.MethodName) ({ cls := "java/util/HashMap$TreeNode", name := "getTreeNode", desc := "(ILjava/lang/Object;)Ljava/util/HashMap$TreeNode;" } : Jvm.MethodName)) ∈ lw_all := lw_g (lw_at lw_m10 105 rfl) rfl
theorem q2368 : (Jvm.Cond.code ({ cls := "java/util/HashMap$TreeNode", name := "getTreeNode", desc := "(ILjava/lang/Object;)Ljava/util/HashMap$TreeNode;" } : Jvm.MethodName) prog_74_method_5_code (3 : Nat) (Option.some (Jvm.ClassFile.FieldType.object "java/util/HashMap$TreeNode"))) ∈ lw_all := lw_g (lw_at lw_m10 106 rfl) rfl
theorem q2370 : (Jvm.Cond.instanceMethod ({ cls := "java/util/HashMap$TreeNode", name := "removeTreeNode", desc := "(Ljava/util/HashMap;[Ljava/util/HashMap$Node;Z)V" } : Jvm.MethodName)) ∈ lw_all := lw_g (lw_at lw_m10 108 rfl) rfl
theorem q2371 : (Jvm.Cond.selects "java/util/HashMap$TreeNode" ({ cls := "java/util/HashMap$TreeNode", name := "removeTreeNode", desc := "(Ljava/util/HashMap;[Ljava/util/HashMap$Node;Z)V" } : Jvm.MethodName) ({ cls := "java/util/HashMap$TreeNode", name := "removeTreeNode", desc := "(Ljava/util/HashMap;[Ljava/util/HashMap$Node;Z)V" } : Jvm.MethodName)) ∈ lw_all := lw_g (lw_at lw_m10 109 rfl) rfl
theorem q2372 : (Jvm.Cond.code ({ cls := "java/util/HashMap$TreeNode", name := "removeTreeNode", desc := "(Ljava/util/HashMap;[Ljava/util/HashMap$Node;Z)V" } : Jvm.MethodName) prog_74_method_10_code (21 : Nat) (Option.none : Option Jvm.ClassFile.FieldType)) ∈ lw_all := lw_g (lw_at lw_m10 110 rfl) rfl
theorem q2373 : (Jvm.Cond.methodLink "java/util/HashMap$TreeNode" (123 : Nat) ({ cls := "java/util/HashMap$TreeNode", name := "balanceDeletion", desc := "(Ljava/util/HashMap$TreeNode;Ljava/util/HashMap$TreeNode;)Ljava/util/HashMap$TreeNode;" } : Jvm.MethodName)) ∈ lw_all := lw_g (lw_at lw_m10 111 rfl) rfl
theorem q2374 : (Jvm.Cond.static ({ cls := "java/util/HashMap$TreeNode", name := "balanceDeletion", desc := "(Ljava/util/HashMap$TreeNode;Ljava/util/HashMap$TreeNode;)Ljava/util/HashMap$TreeNode;" } : Jvm.MethodName)) ∈ lw_all := lw_g (lw_at lw_m10 112 rfl) rfl
theorem q2375 : (Jvm.Cond.code ({ cls := "java/util/HashMap$TreeNode", name := "balanceDeletion", desc := "(Ljava/util/HashMap$TreeNode;Ljava/util/HashMap$TreeNode;)Ljava/util/HashMap$TreeNode;" } : Jvm.MethodName) prog_74_method_15_code (7 : Nat) (Option.some (Jvm.ClassFile.FieldType.object "java/util/HashMap$TreeNode"))) ∈ lw_all := lw_g (lw_at lw_m10 113 rfl) rfl
theorem q2608 : (Jvm.Cond.selects "java/util/HashMap$TreeNode" ({ cls := "java/util/LinkedHashMap$Entry", name := "getKey", desc := "()Ljava/lang/Object;" } : Jvm.MethodName) ({ cls := "java/util/HashMap$Node", name := "getKey", desc := "()Ljava/lang/Object;" } : Jvm.MethodName)) ∈ lw_all := lw_g (lw_at lw_m11 106 rfl) rfl
theorem q2944 : (Jvm.Cond.castable "java/util/HashMap$TreeNode" "java/util/Map$Entry") ∈ lw_tbl := lw_at lw_m12 202 rfl
theorem q2945 : (Jvm.Cond.selects "java/util/HashMap$TreeNode" ({ cls := "java/util/Map$Entry", name := "getKey", desc := "()Ljava/lang/Object;" } : Jvm.MethodName) ({ cls := "java/util/HashMap$Node", name := "getKey", desc := "()Ljava/lang/Object;" } : Jvm.MethodName)) ∈ lw_all := lw_g (lw_at lw_m12 203 rfl) rfl
theorem q2946 : (Jvm.Cond.unhidden "java/util/HashMap$TreeNode" "getKey" "()Ljava/lang/Object;") ∈ lw_tbl := lw_at lw_m12 204 rfl
theorem q2959 : (Jvm.Cond.selects "java/util/HashMap$TreeNode" ({ cls := "java/util/Map$Entry", name := "getValue", desc := "()Ljava/lang/Object;" } : Jvm.MethodName) ({ cls := "java/util/HashMap$Node", name := "getValue", desc := "()Ljava/lang/Object;" } : Jvm.MethodName)) ∈ lw_all := lw_g (lw_at lw_m12 217 rfl) rfl
theorem q2960 : (Jvm.Cond.unhidden "java/util/HashMap$TreeNode" "getValue" "()Ljava/lang/Object;") ∈ lw_tbl := lw_at lw_m12 218 rfl
theorem q3643 : (Jvm.Cond.selects "java/util/HashMap$TreeNode" ({ cls := "java/util/HashMap$Node", name := "equals", desc := "(Ljava/lang/Object;)Z" } : Jvm.MethodName) ({ cls := "java/util/HashMap$Node", name := "equals", desc := "(Ljava/lang/Object;)Z" } : Jvm.MethodName)) ∈ lw_all := lw_g (lw_at lw_m15 181 rfl) rfl
theorem q4418 : (Jvm.Cond.castable "java/util/HashMap$TreeNode" "java/util/LinkedHashMap$Entry") ∈ lw_tbl := lw_at lw_m18 236 rfl
theorem q4453 : (Jvm.Cond.castable "java/util/HashMap$TreeNode" "java/lang/Object") ∈ lw_tbl := lw_at lw_m19 31 rfl
theorem q4474 : (Jvm.Cond.castable "java/util/HashMap$TreeNode" "java/util/HashMap$Node") ∈ lw_tbl := lw_at lw_m19 52 rfl

