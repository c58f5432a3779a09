set_option maxRecDepth 100000
abbrev cX3_init : ByteArray := prog_22_method_1_code
def yX3_init : MethodName := ⟨RX3, "<init>", "()V"⟩
def dkwX3_init_7 : List UInt8 := [177]
abbrev dktX3_init_7 : List UInt8 := dkwX3_init_7 ++ []
def dkwX3_init_6 : List UInt8 := [167, 255, 232, 3, 60, 27, 16, 24, 162, 0, 16, 42, 27, 3, 2, 182, 0, 51, 132, 1, 1, 167, 255, 240]
abbrev dktX3_init_6 : List UInt8 := dkwX3_init_6 ++ dktX3_init_7
def dkwX3_init_5 : List UInt8 := [16, 8, 162, 0, 24, 42, 27, 6, 16, 20, 182, 0, 47, 42, 27, 5, 6, 182, 0, 47, 132, 1, 1]
abbrev dktX3_init_5 : List UInt8 := dkwX3_init_5 ++ dktX3_init_6
def dkwX3_init_4 : List UInt8 := [188, 10, 181, 0, 41, 42, 16, 24, 188, 10, 181, 0, 44, 42, 180, 0, 7, 4, 16, 60, 79, 3, 60, 27]
abbrev dktX3_init_4 : List UInt8 := dkwX3_init_4 ++ dktX3_init_5
def dkwX3_init_3 : List UInt8 := [188, 6, 181, 0, 32, 42, 16, 60, 188, 10, 181, 0, 35, 42, 16, 8, 188, 10, 181, 0, 38, 42, 16, 8]
abbrev dktX3_init_3 : List UInt8 := dkwX3_init_3 ++ dktX3_init_4
def dkwX3_init_2 : List UInt8 := [181, 0, 23, 42, 16, 24, 188, 6, 181, 0, 26, 42, 17, 2, 66, 188, 10, 181, 0, 29, 42, 16, 24]
abbrev dktX3_init_2 : List UInt8 := dkwX3_init_2 ++ dktX3_init_3
def dkwX3_init_1 : List UInt8 := [17, 11, 74, 188, 10, 181, 0, 17, 42, 16, 120, 188, 6, 181, 0, 20, 42, 17, 2, 66, 188, 10]
abbrev dktX3_init_1 : List UInt8 := dkwX3_init_1 ++ dktX3_init_2
def dkwX3_init_0 : List UInt8 := [42, 183, 0, 1, 42, 17, 2, 66, 188, 10, 181, 0, 7, 42, 16, 24, 188, 6, 181, 0, 13, 42]
abbrev dktX3_init_0 : List UInt8 := dkwX3_init_0 ++ dktX3_init_1
theorem dksX3_init_0 : cX3_init.data.toList.drop 0 = dktX3_init_0 := by decide +kernel
theorem dksX3_init_1 : cX3_init.data.toList.drop 22 = dktX3_init_1 := dk_seg dksX3_init_0 22 rfl rfl
theorem dksX3_init_2 : cX3_init.data.toList.drop 44 = dktX3_init_2 := dk_seg dksX3_init_1 22 rfl rfl
theorem dksX3_init_3 : cX3_init.data.toList.drop 67 = dktX3_init_3 := dk_seg dksX3_init_2 23 rfl rfl
theorem dksX3_init_4 : cX3_init.data.toList.drop 91 = dktX3_init_4 := dk_seg dksX3_init_3 24 rfl rfl
theorem dksX3_init_5 : cX3_init.data.toList.drop 115 = dktX3_init_5 := dk_seg dksX3_init_4 24 rfl rfl
theorem dksX3_init_6 : cX3_init.data.toList.drop 138 = dktX3_init_6 := dk_seg dksX3_init_5 23 rfl rfl
theorem dksX3_init_7 : cX3_init.data.toList.drop 162 = dktX3_init_7 := dk_seg dksX3_init_6 24 rfl rfl
theorem dX3_init_0 : decode cX3_init 0 = .ok (.aload_n 0, 1) := dk_42 (dk_at dksX3_init_0 0 rfl rfl)
theorem dX3_init_1 : decode cX3_init 1 = .ok (.invokespecial 1, 3) := dk_183 0 1 (dk_at dksX3_init_0 1 rfl rfl)
theorem dX3_init_4 : decode cX3_init 4 = .ok (.aload_n 0, 1) := dk_42 (dk_at dksX3_init_0 4 rfl rfl)
theorem dX3_init_5 : decode cX3_init 5 = .ok (.sipush 578, 3) := dk_17 2 66 (dk_at dksX3_init_0 5 rfl rfl)
theorem dX3_init_8 : decode cX3_init 8 = .ok (.newarray .int, 2) := dk_188_10 (dk_at dksX3_init_0 8 rfl rfl)
theorem dX3_init_10 : decode cX3_init 10 = .ok (.putfield 7, 3) := dk_181 0 7 (dk_at dksX3_init_0 10 rfl rfl)
theorem dX3_init_13 : decode cX3_init 13 = .ok (.aload_n 0, 1) := dk_42 (dk_at dksX3_init_0 13 rfl rfl)
theorem dX3_init_14 : decode cX3_init 14 = .ok (.bipush 24, 2) := dk_16 24 (dk_at dksX3_init_0 14 rfl rfl)
theorem dX3_init_16 : decode cX3_init 16 = .ok (.newarray .float, 2) := dk_188_6 (dk_at dksX3_init_0 16 rfl rfl)
theorem dX3_init_18 : decode cX3_init 18 = .ok (.putfield 13, 3) := dk_181 0 13 (dk_at dksX3_init_0 18 rfl rfl)
theorem dX3_init_21 : decode cX3_init 21 = .ok (.aload_n 0, 1) := dk_42 (dk_at dksX3_init_0 21 rfl rfl)
theorem dX3_init_22 : decode cX3_init 22 = .ok (.sipush 2890, 3) := dk_17 11 74 (dk_at dksX3_init_1 0 rfl rfl)
theorem dX3_init_25 : decode cX3_init 25 = .ok (.newarray .int, 2) := dk_188_10 (dk_at dksX3_init_1 3 rfl rfl)
theorem dX3_init_27 : decode cX3_init 27 = .ok (.putfield 17, 3) := dk_181 0 17 (dk_at dksX3_init_1 5 rfl rfl)
theorem dX3_init_30 : decode cX3_init 30 = .ok (.aload_n 0, 1) := dk_42 (dk_at dksX3_init_1 8 rfl rfl)
theorem dX3_init_31 : decode cX3_init 31 = .ok (.bipush 120, 2) := dk_16 120 (dk_at dksX3_init_1 9 rfl rfl)
theorem dX3_init_33 : decode cX3_init 33 = .ok (.newarray .float, 2) := dk_188_6 (dk_at dksX3_init_1 11 rfl rfl)
theorem dX3_init_35 : decode cX3_init 35 = .ok (.putfield 20, 3) := dk_181 0 20 (dk_at dksX3_init_1 13 rfl rfl)
theorem dX3_init_38 : decode cX3_init 38 = .ok (.aload_n 0, 1) := dk_42 (dk_at dksX3_init_1 16 rfl rfl)
theorem dX3_init_39 : decode cX3_init 39 = .ok (.sipush 578, 3) := dk_17 2 66 (dk_at dksX3_init_1 17 rfl rfl)
theorem dX3_init_42 : decode cX3_init 42 = .ok (.newarray .int, 2) := dk_188_10 (dk_at dksX3_init_1 20 rfl rfl)
theorem dX3_init_44 : decode cX3_init 44 = .ok (.putfield 23, 3) := dk_181 0 23 (dk_at dksX3_init_2 0 rfl rfl)
theorem dX3_init_47 : decode cX3_init 47 = .ok (.aload_n 0, 1) := dk_42 (dk_at dksX3_init_2 3 rfl rfl)
theorem dX3_init_48 : decode cX3_init 48 = .ok (.bipush 24, 2) := dk_16 24 (dk_at dksX3_init_2 4 rfl rfl)
theorem dX3_init_50 : decode cX3_init 50 = .ok (.newarray .float, 2) := dk_188_6 (dk_at dksX3_init_2 6 rfl rfl)
theorem dX3_init_52 : decode cX3_init 52 = .ok (.putfield 26, 3) := dk_181 0 26 (dk_at dksX3_init_2 8 rfl rfl)
theorem dX3_init_55 : decode cX3_init 55 = .ok (.aload_n 0, 1) := dk_42 (dk_at dksX3_init_2 11 rfl rfl)
theorem dX3_init_56 : decode cX3_init 56 = .ok (.sipush 578, 3) := dk_17 2 66 (dk_at dksX3_init_2 12 rfl rfl)
theorem dX3_init_59 : decode cX3_init 59 = .ok (.newarray .int, 2) := dk_188_10 (dk_at dksX3_init_2 15 rfl rfl)
theorem dX3_init_61 : decode cX3_init 61 = .ok (.putfield 29, 3) := dk_181 0 29 (dk_at dksX3_init_2 17 rfl rfl)
theorem dX3_init_64 : decode cX3_init 64 = .ok (.aload_n 0, 1) := dk_42 (dk_at dksX3_init_2 20 rfl rfl)
theorem dX3_init_65 : decode cX3_init 65 = .ok (.bipush 24, 2) := dk_16 24 (dk_at dksX3_init_2 21 rfl rfl)
theorem dX3_init_67 : decode cX3_init 67 = .ok (.newarray .float, 2) := dk_188_6 (dk_at dksX3_init_3 0 rfl rfl)
theorem dX3_init_69 : decode cX3_init 69 = .ok (.putfield 32, 3) := dk_181 0 32 (dk_at dksX3_init_3 2 rfl rfl)
theorem dX3_init_72 : decode cX3_init 72 = .ok (.aload_n 0, 1) := dk_42 (dk_at dksX3_init_3 5 rfl rfl)
theorem dX3_init_73 : decode cX3_init 73 = .ok (.bipush 60, 2) := dk_16 60 (dk_at dksX3_init_3 6 rfl rfl)
theorem dX3_init_75 : decode cX3_init 75 = .ok (.newarray .int, 2) := dk_188_10 (dk_at dksX3_init_3 8 rfl rfl)
theorem dX3_init_77 : decode cX3_init 77 = .ok (.putfield 35, 3) := dk_181 0 35 (dk_at dksX3_init_3 10 rfl rfl)
theorem dX3_init_80 : decode cX3_init 80 = .ok (.aload_n 0, 1) := dk_42 (dk_at dksX3_init_3 13 rfl rfl)
theorem dX3_init_81 : decode cX3_init 81 = .ok (.bipush 8, 2) := dk_16 8 (dk_at dksX3_init_3 14 rfl rfl)
theorem dX3_init_83 : decode cX3_init 83 = .ok (.newarray .int, 2) := dk_188_10 (dk_at dksX3_init_3 16 rfl rfl)
theorem dX3_init_85 : decode cX3_init 85 = .ok (.putfield 38, 3) := dk_181 0 38 (dk_at dksX3_init_3 18 rfl rfl)
theorem dX3_init_88 : decode cX3_init 88 = .ok (.aload_n 0, 1) := dk_42 (dk_at dksX3_init_3 21 rfl rfl)
theorem dX3_init_89 : decode cX3_init 89 = .ok (.bipush 8, 2) := dk_16 8 (dk_at dksX3_init_3 22 rfl rfl)
theorem dX3_init_91 : decode cX3_init 91 = .ok (.newarray .int, 2) := dk_188_10 (dk_at dksX3_init_4 0 rfl rfl)
theorem dX3_init_93 : decode cX3_init 93 = .ok (.putfield 41, 3) := dk_181 0 41 (dk_at dksX3_init_4 2 rfl rfl)
theorem dX3_init_96 : decode cX3_init 96 = .ok (.aload_n 0, 1) := dk_42 (dk_at dksX3_init_4 5 rfl rfl)
theorem dX3_init_97 : decode cX3_init 97 = .ok (.bipush 24, 2) := dk_16 24 (dk_at dksX3_init_4 6 rfl rfl)
theorem dX3_init_99 : decode cX3_init 99 = .ok (.newarray .int, 2) := dk_188_10 (dk_at dksX3_init_4 8 rfl rfl)
theorem dX3_init_101 : decode cX3_init 101 = .ok (.putfield 44, 3) := dk_181 0 44 (dk_at dksX3_init_4 10 rfl rfl)
theorem dX3_init_104 : decode cX3_init 104 = .ok (.aload_n 0, 1) := dk_42 (dk_at dksX3_init_4 13 rfl rfl)
theorem dX3_init_105 : decode cX3_init 105 = .ok (.getfield 7, 3) := dk_180 0 7 (dk_at dksX3_init_4 14 rfl rfl)
theorem dX3_init_108 : decode cX3_init 108 = .ok (.iconst 1, 1) := dk_4 (dk_at dksX3_init_4 17 rfl rfl)
theorem dX3_init_109 : decode cX3_init 109 = .ok (.bipush 60, 2) := dk_16 60 (dk_at dksX3_init_4 18 rfl rfl)
theorem dX3_init_111 : decode cX3_init 111 = .ok (.iastore, 1) := dk_79 (dk_at dksX3_init_4 20 rfl rfl)
theorem dX3_init_112 : decode cX3_init 112 = .ok (.iconst 0, 1) := dk_3 (dk_at dksX3_init_4 21 rfl rfl)
theorem dX3_init_113 : decode cX3_init 113 = .ok (.istore_n 1, 1) := dk_60 (dk_at dksX3_init_4 22 rfl rfl)
theorem dX3_init_114 : decode cX3_init 114 = .ok (.iload_n 1, 1) := dk_27 (dk_at dksX3_init_4 23 rfl rfl)
theorem dX3_init_115 : decode cX3_init 115 = .ok (.bipush 8, 2) := dk_16 8 (dk_at dksX3_init_5 0 rfl rfl)
theorem dX3_init_117 : decode cX3_init 117 = .ok (.if_icmp .ge 24, 3) := dk_162 0 24 (dk_at dksX3_init_5 2 rfl rfl)
theorem dX3_init_120 : decode cX3_init 120 = .ok (.aload_n 0, 1) := dk_42 (dk_at dksX3_init_5 5 rfl rfl)
theorem dX3_init_121 : decode cX3_init 121 = .ok (.iload_n 1, 1) := dk_27 (dk_at dksX3_init_5 6 rfl rfl)
theorem dX3_init_122 : decode cX3_init 122 = .ok (.iconst 3, 1) := dk_6 (dk_at dksX3_init_5 7 rfl rfl)
theorem dX3_init_123 : decode cX3_init 123 = .ok (.bipush 20, 2) := dk_16 20 (dk_at dksX3_init_5 8 rfl rfl)
theorem dX3_init_125 : decode cX3_init 125 = .ok (.invokevirtual 47, 3) := dk_182 0 47 (dk_at dksX3_init_5 10 rfl rfl)
theorem dX3_init_128 : decode cX3_init 128 = .ok (.aload_n 0, 1) := dk_42 (dk_at dksX3_init_5 13 rfl rfl)
theorem dX3_init_129 : decode cX3_init 129 = .ok (.iload_n 1, 1) := dk_27 (dk_at dksX3_init_5 14 rfl rfl)
theorem dX3_init_130 : decode cX3_init 130 = .ok (.iconst 2, 1) := dk_5 (dk_at dksX3_init_5 15 rfl rfl)
theorem dX3_init_131 : decode cX3_init 131 = .ok (.iconst 3, 1) := dk_6 (dk_at dksX3_init_5 16 rfl rfl)
theorem dX3_init_132 : decode cX3_init 132 = .ok (.invokevirtual 47, 3) := dk_182 0 47 (dk_at dksX3_init_5 17 rfl rfl)
theorem dX3_init_135 : decode cX3_init 135 = .ok (.iinc 1 1, 3) := dk_132 1 1 (dk_at dksX3_init_5 20 rfl rfl)
theorem dX3_init_138 : decode cX3_init 138 = .ok (.goto (-24), 3) := dk_167 255 232 (dk_at dksX3_init_6 0 rfl rfl)
theorem dX3_init_141 : decode cX3_init 141 = .ok (.iconst 0, 1) := dk_3 (dk_at dksX3_init_6 3 rfl rfl)
theorem dX3_init_142 : decode cX3_init 142 = .ok (.istore_n 1, 1) := dk_60 (dk_at dksX3_init_6 4 rfl rfl)
theorem dX3_init_143 : decode cX3_init 143 = .ok (.iload_n 1, 1) := dk_27 (dk_at dksX3_init_6 5 rfl rfl)
theorem dX3_init_144 : decode cX3_init 144 = .ok (.bipush 24, 2) := dk_16 24 (dk_at dksX3_init_6 6 rfl rfl)
theorem dX3_init_146 : decode cX3_init 146 = .ok (.if_icmp .ge 16, 3) := dk_162 0 16 (dk_at dksX3_init_6 8 rfl rfl)
theorem dX3_init_149 : decode cX3_init 149 = .ok (.aload_n 0, 1) := dk_42 (dk_at dksX3_init_6 11 rfl rfl)
theorem dX3_init_150 : decode cX3_init 150 = .ok (.iload_n 1, 1) := dk_27 (dk_at dksX3_init_6 12 rfl rfl)
theorem dX3_init_151 : decode cX3_init 151 = .ok (.iconst 0, 1) := dk_3 (dk_at dksX3_init_6 13 rfl rfl)
theorem dX3_init_152 : decode cX3_init 152 = .ok (.iconst (-1), 1) := dk_2 (dk_at dksX3_init_6 14 rfl rfl)
theorem dX3_init_153 : decode cX3_init 153 = .ok (.invokevirtual 51, 3) := dk_182 0 51 (dk_at dksX3_init_6 15 rfl rfl)
theorem dX3_init_156 : decode cX3_init 156 = .ok (.iinc 1 1, 3) := dk_132 1 1 (dk_at dksX3_init_6 18 rfl rfl)
theorem dX3_init_159 : decode cX3_init 159 = .ok (.goto (-16), 3) := dk_167 255 240 (dk_at dksX3_init_6 21 rfl rfl)
theorem dX3_init_162 : decode cX3_init 162 = .ok (.return_, 1) := dk_177 (dk_at dksX3_init_7 0 rfl rfl)
abbrev cX3_putZone : ByteArray := prog_22_method_6_code
def yX3_putZone : MethodName := ⟨RX3, "putZone", "(III)V"⟩
def dkwX3_putZone_0 : List UInt8 := [42, 180, 0, 7, 6, 8, 27, 104, 96, 28, 96, 29, 79, 177]
abbrev dktX3_putZone_0 : List UInt8 := dkwX3_putZone_0 ++ []
theorem dksX3_putZone_0 : cX3_putZone.data.toList.drop 0 = dktX3_putZone_0 := by decide +kernel
theorem dX3_putZone_0 : decode cX3_putZone 0 = .ok (.aload_n 0, 1) := dk_42 (dk_at dksX3_putZone_0 0 rfl rfl)
theorem dX3_putZone_1 : decode cX3_putZone 1 = .ok (.getfield 7, 3) := dk_180 0 7 (dk_at dksX3_putZone_0 1 rfl rfl)
theorem dX3_putZone_4 : decode cX3_putZone 4 = .ok (.iconst 3, 1) := dk_6 (dk_at dksX3_putZone_0 4 rfl rfl)
theorem dX3_putZone_5 : decode cX3_putZone 5 = .ok (.iconst 5, 1) := dk_8 (dk_at dksX3_putZone_0 5 rfl rfl)
theorem dX3_putZone_6 : decode cX3_putZone 6 = .ok (.iload_n 1, 1) := dk_27 (dk_at dksX3_putZone_0 6 rfl rfl)
theorem dX3_putZone_7 : decode cX3_putZone 7 = .ok (.imul, 1) := dk_104 (dk_at dksX3_putZone_0 7 rfl rfl)
theorem dX3_putZone_8 : decode cX3_putZone 8 = .ok (.iadd, 1) := dk_96 (dk_at dksX3_putZone_0 8 rfl rfl)
theorem dX3_putZone_9 : decode cX3_putZone 9 = .ok (.iload_n 2, 1) := dk_28 (dk_at dksX3_putZone_0 9 rfl rfl)
theorem dX3_putZone_10 : decode cX3_putZone 10 = .ok (.iadd, 1) := dk_96 (dk_at dksX3_putZone_0 10 rfl rfl)
theorem dX3_putZone_11 : decode cX3_putZone 11 = .ok (.iload_n 3, 1) := dk_29 (dk_at dksX3_putZone_0 11 rfl rfl)
theorem dX3_putZone_12 : decode cX3_putZone 12 = .ok (.iastore, 1) := dk_79 (dk_at dksX3_putZone_0 12 rfl rfl)
theorem dX3_putZone_13 : decode cX3_putZone 13 = .ok (.return_, 1) := dk_177 (dk_at dksX3_putZone_0 13 rfl rfl)
abbrev cX3_putPlace : ByteArray := prog_22_method_8_code
def yX3_putPlace : MethodName := ⟨RX3, "putPlace", "(III)V"⟩
def dkwX3_putPlace_0 : List UInt8 := [42, 180, 0, 7, 16, 43, 8, 27, 104, 96, 28, 96, 29, 79, 177]
abbrev dktX3_putPlace_0 : List UInt8 := dkwX3_putPlace_0 ++ []
theorem dksX3_putPlace_0 : cX3_putPlace.data.toList.drop 0 = dktX3_putPlace_0 := by decide +kernel
theorem dX3_putPlace_0 : decode cX3_putPlace 0 = .ok (.aload_n 0, 1) := dk_42 (dk_at dksX3_putPlace_0 0 rfl rfl)
theorem dX3_putPlace_1 : decode cX3_putPlace 1 = .ok (.getfield 7, 3) := dk_180 0 7 (dk_at dksX3_putPlace_0 1 rfl rfl)
theorem dX3_putPlace_4 : decode cX3_putPlace 4 = .ok (.bipush 43, 2) := dk_16 43 (dk_at dksX3_putPlace_0 4 rfl rfl)
theorem dX3_putPlace_6 : decode cX3_putPlace 6 = .ok (.iconst 5, 1) := dk_8 (dk_at dksX3_putPlace_0 6 rfl rfl)
theorem dX3_putPlace_7 : decode cX3_putPlace 7 = .ok (.iload_n 1, 1) := dk_27 (dk_at dksX3_putPlace_0 7 rfl rfl)
theorem dX3_putPlace_8 : decode cX3_putPlace 8 = .ok (.imul, 1) := dk_104 (dk_at dksX3_putPlace_0 8 rfl rfl)
theorem dX3_putPlace_9 : decode cX3_putPlace 9 = .ok (.iadd, 1) := dk_96 (dk_at dksX3_putPlace_0 9 rfl rfl)
theorem dX3_putPlace_10 : decode cX3_putPlace 10 = .ok (.iload_n 2, 1) := dk_28 (dk_at dksX3_putPlace_0 10 rfl rfl)
theorem dX3_putPlace_11 : decode cX3_putPlace 11 = .ok (.iadd, 1) := dk_96 (dk_at dksX3_putPlace_0 11 rfl rfl)
theorem dX3_putPlace_12 : decode cX3_putPlace 12 = .ok (.iload_n 3, 1) := dk_29 (dk_at dksX3_putPlace_0 12 rfl rfl)
theorem dX3_putPlace_13 : decode cX3_putPlace 13 = .ok (.iastore, 1) := dk_79 (dk_at dksX3_putPlace_0 13 rfl rfl)
theorem dX3_putPlace_14 : decode cX3_putPlace 14 = .ok (.return_, 1) := dk_177 (dk_at dksX3_putPlace_0 14 rfl rfl)
abbrev cX3_thrown : ByteArray := prog_22_method_2_code
def yX3_thrown : MethodName := ⟨RX3, "thrown", "()I"⟩
theorem dX3_thrown_0 : decode cX3_thrown 0 = .ok (.aload_n 0, 1) := by decide +kernel
theorem dX3_thrown_1 : decode cX3_thrown 1 = .ok (.getfield 54, 3) := by decide +kernel
theorem dX3_thrown_4 : decode cX3_thrown 4 = .ok (.ireturn, 1) := by decide +kernel
abbrev cX3_setBurner : ByteArray := prog_22_method_40_code
def yX3_setBurner : MethodName := ⟨RX3, "setBurner", "(II)I"⟩
def dkwX3_setBurner_0 : List UInt8 := [42, 27, 3, 28, 6, 182, 0, 165, 172]
abbrev dktX3_setBurner_0 : List UInt8 := dkwX3_setBurner_0 ++ []
theorem dksX3_setBurner_0 : cX3_setBurner.data.toList.drop 0 = dktX3_setBurner_0 := by decide +kernel
theorem dX3_setBurner_0 : decode cX3_setBurner 0 = .ok (.aload_n 0, 1) := dk_42 (dk_at dksX3_setBurner_0 0 rfl rfl)
theorem dX3_setBurner_1 : decode cX3_setBurner 1 = .ok (.iload_n 1, 1) := dk_27 (dk_at dksX3_setBurner_0 1 rfl rfl)
theorem dX3_setBurner_2 : decode cX3_setBurner 2 = .ok (.iconst 0, 1) := dk_3 (dk_at dksX3_setBurner_0 2 rfl rfl)
theorem dX3_setBurner_3 : decode cX3_setBurner 3 = .ok (.iload_n 2, 1) := dk_28 (dk_at dksX3_setBurner_0 3 rfl rfl)
theorem dX3_setBurner_4 : decode cX3_setBurner 4 = .ok (.iconst 3, 1) := dk_6 (dk_at dksX3_setBurner_0 4 rfl rfl)
theorem dX3_setBurner_5 : decode cX3_setBurner 5 = .ok (.invokevirtual 165, 3) := dk_182 0 165 (dk_at dksX3_setBurner_0 5 rfl rfl)
theorem dX3_setBurner_8 : decode cX3_setBurner 8 = .ok (.ireturn, 1) := dk_172 (dk_at dksX3_setBurner_0 8 rfl rfl)
abbrev cX3_sets : ByteArray := prog_22_method_38_code
def yX3_sets : MethodName := ⟨RX3, "sets", "(IIII)I"⟩
def dkwX3_sets_1 : List UInt8 := [182, 0, 155, 172, 42, 182, 0, 158, 42, 27, 28, 29, 182, 0, 161, 172]
abbrev dktX3_sets_1 : List UInt8 := dkwX3_sets_1 ++ []
def dkwX3_sets_0 : List UInt8 := [42, 27, 182, 0, 152, 154, 0, 5, 3, 172, 29, 3, 21, 4, 184, 0, 148, 154, 0, 9, 42, 5]
abbrev dktX3_sets_0 : List UInt8 := dkwX3_sets_0 ++ dktX3_sets_1
theorem dksX3_sets_0 : cX3_sets.data.toList.drop 0 = dktX3_sets_0 := by decide +kernel
theorem dksX3_sets_1 : cX3_sets.data.toList.drop 22 = dktX3_sets_1 := dk_seg dksX3_sets_0 22 rfl rfl
theorem dX3_sets_0 : decode cX3_sets 0 = .ok (.aload_n 0, 1) := dk_42 (dk_at dksX3_sets_0 0 rfl rfl)
theorem dX3_sets_1 : decode cX3_sets 1 = .ok (.iload_n 1, 1) := dk_27 (dk_at dksX3_sets_0 1 rfl rfl)
theorem dX3_sets_2 : decode cX3_sets 2 = .ok (.invokevirtual 152, 3) := dk_182 0 152 (dk_at dksX3_sets_0 2 rfl rfl)
theorem dX3_sets_5 : decode cX3_sets 5 = .ok (.ifCond .ne 5, 3) := dk_154 0 5 (dk_at dksX3_sets_0 5 rfl rfl)
theorem dX3_sets_8 : decode cX3_sets 8 = .ok (.iconst 0, 1) := dk_3 (dk_at dksX3_sets_0 8 rfl rfl)
theorem dX3_sets_9 : decode cX3_sets 9 = .ok (.ireturn, 1) := dk_172 (dk_at dksX3_sets_0 9 rfl rfl)
theorem dX3_sets_10 : decode cX3_sets 10 = .ok (.iload_n 3, 1) := dk_29 (dk_at dksX3_sets_0 10 rfl rfl)
theorem dX3_sets_11 : decode cX3_sets 11 = .ok (.iconst 0, 1) := dk_3 (dk_at dksX3_sets_0 11 rfl rfl)
theorem dX3_sets_12 : decode cX3_sets 12 = .ok (.iload 4, 2) := dk_21 4 (dk_at dksX3_sets_0 12 rfl rfl)
theorem dX3_sets_14 : decode cX3_sets 14 = .ok (.invokestatic 148, 3) := dk_184 0 148 (dk_at dksX3_sets_0 14 rfl rfl)
theorem dX3_sets_17 : decode cX3_sets 17 = .ok (.ifCond .ne 9, 3) := dk_154 0 9 (dk_at dksX3_sets_0 17 rfl rfl)
theorem dX3_sets_20 : decode cX3_sets 20 = .ok (.aload_n 0, 1) := dk_42 (dk_at dksX3_sets_0 20 rfl rfl)
theorem dX3_sets_21 : decode cX3_sets 21 = .ok (.iconst 2, 1) := dk_5 (dk_at dksX3_sets_0 21 rfl rfl)
theorem dX3_sets_22 : decode cX3_sets 22 = .ok (.invokevirtual 155, 3) := dk_182 0 155 (dk_at dksX3_sets_1 0 rfl rfl)
theorem dX3_sets_25 : decode cX3_sets 25 = .ok (.ireturn, 1) := dk_172 (dk_at dksX3_sets_1 3 rfl rfl)
theorem dX3_sets_26 : decode cX3_sets 26 = .ok (.aload_n 0, 1) := dk_42 (dk_at dksX3_sets_1 4 rfl rfl)
theorem dX3_sets_27 : decode cX3_sets 27 = .ok (.invokevirtual 158, 3) := dk_182 0 158 (dk_at dksX3_sets_1 5 rfl rfl)
theorem dX3_sets_30 : decode cX3_sets 30 = .ok (.aload_n 0, 1) := dk_42 (dk_at dksX3_sets_1 8 rfl rfl)
theorem dX3_sets_31 : decode cX3_sets 31 = .ok (.iload_n 1, 1) := dk_27 (dk_at dksX3_sets_1 9 rfl rfl)
theorem dX3_sets_32 : decode cX3_sets 32 = .ok (.iload_n 2, 1) := dk_28 (dk_at dksX3_sets_1 10 rfl rfl)
theorem dX3_sets_33 : decode cX3_sets 33 = .ok (.iload_n 3, 1) := dk_29 (dk_at dksX3_sets_1 11 rfl rfl)
theorem dX3_sets_34 : decode cX3_sets 34 = .ok (.invokevirtual 161, 3) := dk_182 0 161 (dk_at dksX3_sets_1 12 rfl rfl)
theorem dX3_sets_37 : decode cX3_sets 37 = .ok (.ireturn, 1) := dk_172 (dk_at dksX3_sets_1 15 rfl rfl)
abbrev cX3_isZone : ByteArray := prog_22_method_37_code
def yX3_isZone : MethodName := ⟨RX3, "isZone", "(I)Z"⟩
def dkwX3_isZone_1 : List UInt8 := [154, 0, 7, 4, 167, 0, 4, 3, 172]
abbrev dktX3_isZone_1 : List UInt8 := dkwX3_isZone_1 ++ []
def dkwX3_isZone_0 : List UInt8 := [42, 27, 3, 16, 7, 184, 0, 148, 153, 0, 7, 3, 167, 0, 4, 4, 181, 0, 54, 42, 180, 0, 54]
abbrev dktX3_isZone_0 : List UInt8 := dkwX3_isZone_0 ++ dktX3_isZone_1
theorem dksX3_isZone_0 : cX3_isZone.data.toList.drop 0 = dktX3_isZone_0 := by decide +kernel
theorem dksX3_isZone_1 : cX3_isZone.data.toList.drop 23 = dktX3_isZone_1 := dk_seg dksX3_isZone_0 23 rfl rfl
theorem dX3_isZone_0 : decode cX3_isZone 0 = .ok (.aload_n 0, 1) := dk_42 (dk_at dksX3_isZone_0 0 rfl rfl)
theorem dX3_isZone_1 : decode cX3_isZone 1 = .ok (.iload_n 1, 1) := dk_27 (dk_at dksX3_isZone_0 1 rfl rfl)
theorem dX3_isZone_2 : decode cX3_isZone 2 = .ok (.iconst 0, 1) := dk_3 (dk_at dksX3_isZone_0 2 rfl rfl)
theorem dX3_isZone_3 : decode cX3_isZone 3 = .ok (.bipush 7, 2) := dk_16 7 (dk_at dksX3_isZone_0 3 rfl rfl)
theorem dX3_isZone_5 : decode cX3_isZone 5 = .ok (.invokestatic 148, 3) := dk_184 0 148 (dk_at dksX3_isZone_0 5 rfl rfl)
theorem dX3_isZone_8 : decode cX3_isZone 8 = .ok (.ifCond .eq 7, 3) := dk_153 0 7 (dk_at dksX3_isZone_0 8 rfl rfl)
theorem dX3_isZone_11 : decode cX3_isZone 11 = .ok (.iconst 0, 1) := dk_3 (dk_at dksX3_isZone_0 11 rfl rfl)
theorem dX3_isZone_12 : decode cX3_isZone 12 = .ok (.goto 4, 3) := dk_167 0 4 (dk_at dksX3_isZone_0 12 rfl rfl)
theorem dX3_isZone_15 : decode cX3_isZone 15 = .ok (.iconst 1, 1) := dk_4 (dk_at dksX3_isZone_0 15 rfl rfl)
theorem dX3_isZone_16 : decode cX3_isZone 16 = .ok (.putfield 54, 3) := dk_181 0 54 (dk_at dksX3_isZone_0 16 rfl rfl)
theorem dX3_isZone_19 : decode cX3_isZone 19 = .ok (.aload_n 0, 1) := dk_42 (dk_at dksX3_isZone_0 19 rfl rfl)
theorem dX3_isZone_20 : decode cX3_isZone 20 = .ok (.getfield 54, 3) := dk_180 0 54 (dk_at dksX3_isZone_0 20 rfl rfl)
theorem dX3_isZone_23 : decode cX3_isZone 23 = .ok (.ifCond .ne 7, 3) := dk_154 0 7 (dk_at dksX3_isZone_1 0 rfl rfl)
theorem dX3_isZone_26 : decode cX3_isZone 26 = .ok (.iconst 1, 1) := dk_4 (dk_at dksX3_isZone_1 3 rfl rfl)
theorem dX3_isZone_27 : decode cX3_isZone 27 = .ok (.goto 4, 3) := dk_167 0 4 (dk_at dksX3_isZone_1 4 rfl rfl)
theorem dX3_isZone_30 : decode cX3_isZone 30 = .ok (.iconst 0, 1) := dk_3 (dk_at dksX3_isZone_1 7 rfl rfl)
theorem dX3_isZone_31 : decode cX3_isZone 31 = .ok (.ireturn, 1) := dk_172 (dk_at dksX3_isZone_1 8 rfl rfl)
abbrev cX3_in : ByteArray := prog_22_method_4_code
def yX3_in : MethodName := ⟨RX3, "in", "(III)Z"⟩
def dkwX3_in_0 : List UInt8 := [26, 27, 161, 0, 12, 26, 28, 163, 0, 7, 4, 167, 0, 4, 3, 172]
abbrev dktX3_in_0 : List UInt8 := dkwX3_in_0 ++ []
theorem dksX3_in_0 : cX3_in.data.toList.drop 0 = dktX3_in_0 := by decide +kernel
theorem dX3_in_0 : decode cX3_in 0 = .ok (.iload_n 0, 1) := dk_26 (dk_at dksX3_in_0 0 rfl rfl)
theorem dX3_in_1 : decode cX3_in 1 = .ok (.iload_n 1, 1) := dk_27 (dk_at dksX3_in_0 1 rfl rfl)
theorem dX3_in_2 : decode cX3_in 2 = .ok (.if_icmp .lt 12, 3) := dk_161 0 12 (dk_at dksX3_in_0 2 rfl rfl)
theorem dX3_in_5 : decode cX3_in 5 = .ok (.iload_n 0, 1) := dk_26 (dk_at dksX3_in_0 5 rfl rfl)
theorem dX3_in_6 : decode cX3_in 6 = .ok (.iload_n 2, 1) := dk_28 (dk_at dksX3_in_0 6 rfl rfl)
theorem dX3_in_7 : decode cX3_in 7 = .ok (.if_icmp .gt 7, 3) := dk_163 0 7 (dk_at dksX3_in_0 7 rfl rfl)
theorem dX3_in_10 : decode cX3_in 10 = .ok (.iconst 1, 1) := dk_4 (dk_at dksX3_in_0 10 rfl rfl)
theorem dX3_in_11 : decode cX3_in 11 = .ok (.goto 4, 3) := dk_167 0 4 (dk_at dksX3_in_0 11 rfl rfl)
theorem dX3_in_14 : decode cX3_in 14 = .ok (.iconst 0, 1) := dk_3 (dk_at dksX3_in_0 14 rfl rfl)
theorem dX3_in_15 : decode cX3_in 15 = .ok (.ireturn, 1) := dk_172 (dk_at dksX3_in_0 15 rfl rfl)
abbrev cX3_throwing : ByteArray := prog_22_method_3_code
def yX3_throwing : MethodName := ⟨RX3, "throwing", "(I)I"⟩
def dkwX3_throwing_0 : List UInt8 := [42, 27, 181, 0, 54, 3, 172]
abbrev dktX3_throwing_0 : List UInt8 := dkwX3_throwing_0 ++ []
theorem dksX3_throwing_0 : cX3_throwing.data.toList.drop 0 = dktX3_throwing_0 := by decide +kernel
theorem dX3_throwing_0 : decode cX3_throwing 0 = .ok (.aload_n 0, 1) := dk_42 (dk_at dksX3_throwing_0 0 rfl rfl)
theorem dX3_throwing_1 : decode cX3_throwing 1 = .ok (.iload_n 1, 1) := dk_27 (dk_at dksX3_throwing_0 1 rfl rfl)
theorem dX3_throwing_2 : decode cX3_throwing 2 = .ok (.putfield 54, 3) := dk_181 0 54 (dk_at dksX3_throwing_0 2 rfl rfl)
theorem dX3_throwing_5 : decode cX3_throwing 5 = .ok (.iconst 0, 1) := dk_3 (dk_at dksX3_throwing_0 5 rfl rfl)
theorem dX3_throwing_6 : decode cX3_throwing 6 = .ok (.ireturn, 1) := dk_172 (dk_at dksX3_throwing_0 6 rfl rfl)
abbrev cX3_save : ByteArray := prog_22_method_14_code
def yX3_save : MethodName := ⟨RX3, "save", "()V"⟩
def dkwX3_save_6 : List UInt8 := [81, 132, 1, 1, 167, 255, 227, 42, 89, 180, 0, 66, 4, 96, 181, 0, 66, 177]
abbrev dktX3_save_6 : List UInt8 := dkwX3_save_6 ++ []
def dkwX3_save_5 : List UInt8 := [16, 24, 162, 0, 29, 42, 180, 0, 20, 16, 24, 42, 180, 0, 66, 104, 27, 96, 42, 180, 0, 13, 27, 48]
abbrev dktX3_save_5 : List UInt8 := dkwX3_save_5 ++ dktX3_save_6
def dkwX3_save_4 : List UInt8 := [42, 180, 0, 66, 104, 27, 96, 42, 180, 0, 7, 27, 46, 79, 132, 1, 1, 167, 255, 225, 3, 60, 27]
abbrev dktX3_save_4 : List UInt8 := dkwX3_save_4 ++ dktX3_save_5
def dkwX3_save_3 : List UInt8 := [180, 0, 66, 4, 100, 181, 0, 66, 3, 60, 27, 17, 2, 66, 162, 0, 30, 42, 180, 0, 17, 17, 2, 66]
abbrev dktX3_save_3 : List UInt8 := dkwX3_save_3 ++ dktX3_save_4
def dkwX3_save_2 : List UInt8 := [42, 180, 0, 20, 27, 42, 180, 0, 20, 16, 24, 27, 96, 48, 81, 132, 1, 1, 167, 255, 232, 42, 89]
abbrev dktX3_save_2 : List UInt8 := dkwX3_save_2 ++ dktX3_save_3
def dkwX3_save_1 : List UInt8 := [180, 0, 17, 17, 2, 66, 27, 96, 46, 79, 132, 1, 1, 167, 255, 230, 3, 60, 27, 16, 96, 162, 0, 24]
abbrev dktX3_save_1 : List UInt8 := dkwX3_save_1 ++ dktX3_save_2
def dkwX3_save_0 : List UInt8 := [42, 180, 0, 66, 8, 160, 0, 73, 3, 60, 27, 17, 9, 8, 162, 0, 25, 42, 180, 0, 17, 27, 42]
abbrev dktX3_save_0 : List UInt8 := dkwX3_save_0 ++ dktX3_save_1
theorem dksX3_save_0 : cX3_save.data.toList.drop 0 = dktX3_save_0 := by decide +kernel
theorem dksX3_save_1 : cX3_save.data.toList.drop 23 = dktX3_save_1 := dk_seg dksX3_save_0 23 rfl rfl
theorem dksX3_save_2 : cX3_save.data.toList.drop 47 = dktX3_save_2 := dk_seg dksX3_save_1 24 rfl rfl
theorem dksX3_save_3 : cX3_save.data.toList.drop 70 = dktX3_save_3 := dk_seg dksX3_save_2 23 rfl rfl
theorem dksX3_save_4 : cX3_save.data.toList.drop 94 = dktX3_save_4 := dk_seg dksX3_save_3 24 rfl rfl
theorem dksX3_save_5 : cX3_save.data.toList.drop 117 = dktX3_save_5 := dk_seg dksX3_save_4 23 rfl rfl
theorem dksX3_save_6 : cX3_save.data.toList.drop 141 = dktX3_save_6 := dk_seg dksX3_save_5 24 rfl rfl
theorem dX3_save_0 : decode cX3_save 0 = .ok (.aload_n 0, 1) := dk_42 (dk_at dksX3_save_0 0 rfl rfl)
theorem dX3_save_1 : decode cX3_save 1 = .ok (.getfield 66, 3) := dk_180 0 66 (dk_at dksX3_save_0 1 rfl rfl)
theorem dX3_save_4 : decode cX3_save 4 = .ok (.iconst 5, 1) := dk_8 (dk_at dksX3_save_0 4 rfl rfl)
theorem dX3_save_5 : decode cX3_save 5 = .ok (.if_icmp .ne 73, 3) := dk_160 0 73 (dk_at dksX3_save_0 5 rfl rfl)
theorem dX3_save_8 : decode cX3_save 8 = .ok (.iconst 0, 1) := dk_3 (dk_at dksX3_save_0 8 rfl rfl)
theorem dX3_save_9 : decode cX3_save 9 = .ok (.istore_n 1, 1) := dk_60 (dk_at dksX3_save_0 9 rfl rfl)
theorem dX3_save_10 : decode cX3_save 10 = .ok (.iload_n 1, 1) := dk_27 (dk_at dksX3_save_0 10 rfl rfl)
theorem dX3_save_11 : decode cX3_save 11 = .ok (.sipush 2312, 3) := dk_17 9 8 (dk_at dksX3_save_0 11 rfl rfl)
theorem dX3_save_14 : decode cX3_save 14 = .ok (.if_icmp .ge 25, 3) := dk_162 0 25 (dk_at dksX3_save_0 14 rfl rfl)
theorem dX3_save_17 : decode cX3_save 17 = .ok (.aload_n 0, 1) := dk_42 (dk_at dksX3_save_0 17 rfl rfl)
theorem dX3_save_18 : decode cX3_save 18 = .ok (.getfield 17, 3) := dk_180 0 17 (dk_at dksX3_save_0 18 rfl rfl)
theorem dX3_save_21 : decode cX3_save 21 = .ok (.iload_n 1, 1) := dk_27 (dk_at dksX3_save_0 21 rfl rfl)
theorem dX3_save_22 : decode cX3_save 22 = .ok (.aload_n 0, 1) := dk_42 (dk_at dksX3_save_0 22 rfl rfl)
theorem dX3_save_23 : decode cX3_save 23 = .ok (.getfield 17, 3) := dk_180 0 17 (dk_at dksX3_save_1 0 rfl rfl)
theorem dX3_save_26 : decode cX3_save 26 = .ok (.sipush 578, 3) := dk_17 2 66 (dk_at dksX3_save_1 3 rfl rfl)
theorem dX3_save_29 : decode cX3_save 29 = .ok (.iload_n 1, 1) := dk_27 (dk_at dksX3_save_1 6 rfl rfl)
theorem dX3_save_30 : decode cX3_save 30 = .ok (.iadd, 1) := dk_96 (dk_at dksX3_save_1 7 rfl rfl)
theorem dX3_save_31 : decode cX3_save 31 = .ok (.iaload, 1) := dk_46 (dk_at dksX3_save_1 8 rfl rfl)
theorem dX3_save_32 : decode cX3_save 32 = .ok (.iastore, 1) := dk_79 (dk_at dksX3_save_1 9 rfl rfl)
theorem dX3_save_33 : decode cX3_save 33 = .ok (.iinc 1 1, 3) := dk_132 1 1 (dk_at dksX3_save_1 10 rfl rfl)
theorem dX3_save_36 : decode cX3_save 36 = .ok (.goto (-26), 3) := dk_167 255 230 (dk_at dksX3_save_1 13 rfl rfl)
theorem dX3_save_39 : decode cX3_save 39 = .ok (.iconst 0, 1) := dk_3 (dk_at dksX3_save_1 16 rfl rfl)
theorem dX3_save_40 : decode cX3_save 40 = .ok (.istore_n 1, 1) := dk_60 (dk_at dksX3_save_1 17 rfl rfl)
theorem dX3_save_41 : decode cX3_save 41 = .ok (.iload_n 1, 1) := dk_27 (dk_at dksX3_save_1 18 rfl rfl)
theorem dX3_save_42 : decode cX3_save 42 = .ok (.bipush 96, 2) := dk_16 96 (dk_at dksX3_save_1 19 rfl rfl)
theorem dX3_save_44 : decode cX3_save 44 = .ok (.if_icmp .ge 24, 3) := dk_162 0 24 (dk_at dksX3_save_1 21 rfl rfl)
theorem dX3_save_47 : decode cX3_save 47 = .ok (.aload_n 0, 1) := dk_42 (dk_at dksX3_save_2 0 rfl rfl)
theorem dX3_save_48 : decode cX3_save 48 = .ok (.getfield 20, 3) := dk_180 0 20 (dk_at dksX3_save_2 1 rfl rfl)
theorem dX3_save_51 : decode cX3_save 51 = .ok (.iload_n 1, 1) := dk_27 (dk_at dksX3_save_2 4 rfl rfl)
theorem dX3_save_52 : decode cX3_save 52 = .ok (.aload_n 0, 1) := dk_42 (dk_at dksX3_save_2 5 rfl rfl)
theorem dX3_save_53 : decode cX3_save 53 = .ok (.getfield 20, 3) := dk_180 0 20 (dk_at dksX3_save_2 6 rfl rfl)
theorem dX3_save_56 : decode cX3_save 56 = .ok (.bipush 24, 2) := dk_16 24 (dk_at dksX3_save_2 9 rfl rfl)
theorem dX3_save_58 : decode cX3_save 58 = .ok (.iload_n 1, 1) := dk_27 (dk_at dksX3_save_2 11 rfl rfl)
theorem dX3_save_59 : decode cX3_save 59 = .ok (.iadd, 1) := dk_96 (dk_at dksX3_save_2 12 rfl rfl)
theorem dX3_save_60 : decode cX3_save 60 = .ok (.faload, 1) := dk_48 (dk_at dksX3_save_2 13 rfl rfl)
theorem dX3_save_61 : decode cX3_save 61 = .ok (.fastore, 1) := dk_81 (dk_at dksX3_save_2 14 rfl rfl)
theorem dX3_save_62 : decode cX3_save 62 = .ok (.iinc 1 1, 3) := dk_132 1 1 (dk_at dksX3_save_2 15 rfl rfl)
theorem dX3_save_65 : decode cX3_save 65 = .ok (.goto (-24), 3) := dk_167 255 232 (dk_at dksX3_save_2 18 rfl rfl)
theorem dX3_save_68 : decode cX3_save 68 = .ok (.aload_n 0, 1) := dk_42 (dk_at dksX3_save_2 21 rfl rfl)
theorem dX3_save_69 : decode cX3_save 69 = .ok (.dup, 1) := dk_89 (dk_at dksX3_save_2 22 rfl rfl)
theorem dX3_save_70 : decode cX3_save 70 = .ok (.getfield 66, 3) := dk_180 0 66 (dk_at dksX3_save_3 0 rfl rfl)
theorem dX3_save_73 : decode cX3_save 73 = .ok (.iconst 1, 1) := dk_4 (dk_at dksX3_save_3 3 rfl rfl)
theorem dX3_save_74 : decode cX3_save 74 = .ok (.isub, 1) := dk_100 (dk_at dksX3_save_3 4 rfl rfl)
theorem dX3_save_75 : decode cX3_save 75 = .ok (.putfield 66, 3) := dk_181 0 66 (dk_at dksX3_save_3 5 rfl rfl)
theorem dX3_save_78 : decode cX3_save 78 = .ok (.iconst 0, 1) := dk_3 (dk_at dksX3_save_3 8 rfl rfl)
theorem dX3_save_79 : decode cX3_save 79 = .ok (.istore_n 1, 1) := dk_60 (dk_at dksX3_save_3 9 rfl rfl)
theorem dX3_save_80 : decode cX3_save 80 = .ok (.iload_n 1, 1) := dk_27 (dk_at dksX3_save_3 10 rfl rfl)
theorem dX3_save_81 : decode cX3_save 81 = .ok (.sipush 578, 3) := dk_17 2 66 (dk_at dksX3_save_3 11 rfl rfl)
theorem dX3_save_84 : decode cX3_save 84 = .ok (.if_icmp .ge 30, 3) := dk_162 0 30 (dk_at dksX3_save_3 14 rfl rfl)
theorem dX3_save_87 : decode cX3_save 87 = .ok (.aload_n 0, 1) := dk_42 (dk_at dksX3_save_3 17 rfl rfl)
theorem dX3_save_88 : decode cX3_save 88 = .ok (.getfield 17, 3) := dk_180 0 17 (dk_at dksX3_save_3 18 rfl rfl)
theorem dX3_save_91 : decode cX3_save 91 = .ok (.sipush 578, 3) := dk_17 2 66 (dk_at dksX3_save_3 21 rfl rfl)
theorem dX3_save_94 : decode cX3_save 94 = .ok (.aload_n 0, 1) := dk_42 (dk_at dksX3_save_4 0 rfl rfl)
theorem dX3_save_95 : decode cX3_save 95 = .ok (.getfield 66, 3) := dk_180 0 66 (dk_at dksX3_save_4 1 rfl rfl)
theorem dX3_save_98 : decode cX3_save 98 = .ok (.imul, 1) := dk_104 (dk_at dksX3_save_4 4 rfl rfl)
theorem dX3_save_99 : decode cX3_save 99 = .ok (.iload_n 1, 1) := dk_27 (dk_at dksX3_save_4 5 rfl rfl)
theorem dX3_save_100 : decode cX3_save 100 = .ok (.iadd, 1) := dk_96 (dk_at dksX3_save_4 6 rfl rfl)
theorem dX3_save_101 : decode cX3_save 101 = .ok (.aload_n 0, 1) := dk_42 (dk_at dksX3_save_4 7 rfl rfl)
theorem dX3_save_102 : decode cX3_save 102 = .ok (.getfield 7, 3) := dk_180 0 7 (dk_at dksX3_save_4 8 rfl rfl)
theorem dX3_save_105 : decode cX3_save 105 = .ok (.iload_n 1, 1) := dk_27 (dk_at dksX3_save_4 11 rfl rfl)
theorem dX3_save_106 : decode cX3_save 106 = .ok (.iaload, 1) := dk_46 (dk_at dksX3_save_4 12 rfl rfl)
theorem dX3_save_107 : decode cX3_save 107 = .ok (.iastore, 1) := dk_79 (dk_at dksX3_save_4 13 rfl rfl)
theorem dX3_save_108 : decode cX3_save 108 = .ok (.iinc 1 1, 3) := dk_132 1 1 (dk_at dksX3_save_4 14 rfl rfl)
theorem dX3_save_111 : decode cX3_save 111 = .ok (.goto (-31), 3) := dk_167 255 225 (dk_at dksX3_save_4 17 rfl rfl)
theorem dX3_save_114 : decode cX3_save 114 = .ok (.iconst 0, 1) := dk_3 (dk_at dksX3_save_4 20 rfl rfl)
theorem dX3_save_115 : decode cX3_save 115 = .ok (.istore_n 1, 1) := dk_60 (dk_at dksX3_save_4 21 rfl rfl)
theorem dX3_save_116 : decode cX3_save 116 = .ok (.iload_n 1, 1) := dk_27 (dk_at dksX3_save_4 22 rfl rfl)
theorem dX3_save_117 : decode cX3_save 117 = .ok (.bipush 24, 2) := dk_16 24 (dk_at dksX3_save_5 0 rfl rfl)
theorem dX3_save_119 : decode cX3_save 119 = .ok (.if_icmp .ge 29, 3) := dk_162 0 29 (dk_at dksX3_save_5 2 rfl rfl)
theorem dX3_save_122 : decode cX3_save 122 = .ok (.aload_n 0, 1) := dk_42 (dk_at dksX3_save_5 5 rfl rfl)
theorem dX3_save_123 : decode cX3_save 123 = .ok (.getfield 20, 3) := dk_180 0 20 (dk_at dksX3_save_5 6 rfl rfl)
theorem dX3_save_126 : decode cX3_save 126 = .ok (.bipush 24, 2) := dk_16 24 (dk_at dksX3_save_5 9 rfl rfl)
theorem dX3_save_128 : decode cX3_save 128 = .ok (.aload_n 0, 1) := dk_42 (dk_at dksX3_save_5 11 rfl rfl)
theorem dX3_save_129 : decode cX3_save 129 = .ok (.getfield 66, 3) := dk_180 0 66 (dk_at dksX3_save_5 12 rfl rfl)
theorem dX3_save_132 : decode cX3_save 132 = .ok (.imul, 1) := dk_104 (dk_at dksX3_save_5 15 rfl rfl)
theorem dX3_save_133 : decode cX3_save 133 = .ok (.iload_n 1, 1) := dk_27 (dk_at dksX3_save_5 16 rfl rfl)
theorem dX3_save_134 : decode cX3_save 134 = .ok (.iadd, 1) := dk_96 (dk_at dksX3_save_5 17 rfl rfl)
theorem dX3_save_135 : decode cX3_save 135 = .ok (.aload_n 0, 1) := dk_42 (dk_at dksX3_save_5 18 rfl rfl)
theorem dX3_save_136 : decode cX3_save 136 = .ok (.getfield 13, 3) := dk_180 0 13 (dk_at dksX3_save_5 19 rfl rfl)
theorem dX3_save_139 : decode cX3_save 139 = .ok (.iload_n 1, 1) := dk_27 (dk_at dksX3_save_5 22 rfl rfl)
theorem dX3_save_140 : decode cX3_save 140 = .ok (.faload, 1) := dk_48 (dk_at dksX3_save_5 23 rfl rfl)
theorem dX3_save_141 : decode cX3_save 141 = .ok (.fastore, 1) := dk_81 (dk_at dksX3_save_6 0 rfl rfl)
theorem dX3_save_142 : decode cX3_save 142 = .ok (.iinc 1 1, 3) := dk_132 1 1 (dk_at dksX3_save_6 1 rfl rfl)
theorem dX3_save_145 : decode cX3_save 145 = .ok (.goto (-29), 3) := dk_167 255 227 (dk_at dksX3_save_6 4 rfl rfl)
theorem dX3_save_148 : decode cX3_save 148 = .ok (.aload_n 0, 1) := dk_42 (dk_at dksX3_save_6 7 rfl rfl)
theorem dX3_save_149 : decode cX3_save 149 = .ok (.dup, 1) := dk_89 (dk_at dksX3_save_6 8 rfl rfl)
theorem dX3_save_150 : decode cX3_save 150 = .ok (.getfield 66, 3) := dk_180 0 66 (dk_at dksX3_save_6 9 rfl rfl)
theorem dX3_save_153 : decode cX3_save 153 = .ok (.iconst 1, 1) := dk_4 (dk_at dksX3_save_6 12 rfl rfl)
theorem dX3_save_154 : decode cX3_save 154 = .ok (.iadd, 1) := dk_96 (dk_at dksX3_save_6 13 rfl rfl)
theorem dX3_save_155 : decode cX3_save 155 = .ok (.putfield 66, 3) := dk_181 0 66 (dk_at dksX3_save_6 14 rfl rfl)
theorem dX3_save_158 : decode cX3_save 158 = .ok (.return_, 1) := dk_177 (dk_at dksX3_save_6 17 rfl rfl)
abbrev cX3_changes : ByteArray := prog_22_method_39_code
def yX3_changes : MethodName := ⟨RX3, "changes", "(III)I"⟩
def dkwX3_changes_0 : List UInt8 := [42, 27, 28, 182, 0, 72, 54, 4, 42, 27, 28, 29, 182, 0, 47, 21, 4, 172]
abbrev dktX3_changes_0 : List UInt8 := dkwX3_changes_0 ++ []
theorem dksX3_changes_0 : cX3_changes.data.toList.drop 0 = dktX3_changes_0 := by decide +kernel
theorem dX3_changes_0 : decode cX3_changes 0 = .ok (.aload_n 0, 1) := dk_42 (dk_at dksX3_changes_0 0 rfl rfl)
theorem dX3_changes_1 : decode cX3_changes 1 = .ok (.iload_n 1, 1) := dk_27 (dk_at dksX3_changes_0 1 rfl rfl)
theorem dX3_changes_2 : decode cX3_changes 2 = .ok (.iload_n 2, 1) := dk_28 (dk_at dksX3_changes_0 2 rfl rfl)
theorem dX3_changes_3 : decode cX3_changes 3 = .ok (.invokevirtual 72, 3) := dk_182 0 72 (dk_at dksX3_changes_0 3 rfl rfl)
theorem dX3_changes_6 : decode cX3_changes 6 = .ok (.istore 4, 2) := dk_54 4 (dk_at dksX3_changes_0 6 rfl rfl)
theorem dX3_changes_8 : decode cX3_changes 8 = .ok (.aload_n 0, 1) := dk_42 (dk_at dksX3_changes_0 8 rfl rfl)
theorem dX3_changes_9 : decode cX3_changes 9 = .ok (.iload_n 1, 1) := dk_27 (dk_at dksX3_changes_0 9 rfl rfl)
theorem dX3_changes_10 : decode cX3_changes 10 = .ok (.iload_n 2, 1) := dk_28 (dk_at dksX3_changes_0 10 rfl rfl)
theorem dX3_changes_11 : decode cX3_changes 11 = .ok (.iload_n 3, 1) := dk_29 (dk_at dksX3_changes_0 11 rfl rfl)
theorem dX3_changes_12 : decode cX3_changes 12 = .ok (.invokevirtual 47, 3) := dk_182 0 47 (dk_at dksX3_changes_0 12 rfl rfl)
theorem dX3_changes_15 : decode cX3_changes 15 = .ok (.iload 4, 2) := dk_21 4 (dk_at dksX3_changes_0 15 rfl rfl)
theorem dX3_changes_17 : decode cX3_changes 17 = .ok (.ireturn, 1) := dk_172 (dk_at dksX3_changes_0 17 rfl rfl)
abbrev cX3_zone : ByteArray := prog_22_method_5_code
def yX3_zone : MethodName := ⟨RX3, "zone", "(II)I"⟩
def dkwX3_zone_0 : List UInt8 := [42, 180, 0, 7, 6, 8, 27, 104, 96, 28, 96, 46, 172]
abbrev dktX3_zone_0 : List UInt8 := dkwX3_zone_0 ++ []
theorem dksX3_zone_0 : cX3_zone.data.toList.drop 0 = dktX3_zone_0 := by decide +kernel
theorem dX3_zone_0 : decode cX3_zone 0 = .ok (.aload_n 0, 1) := dk_42 (dk_at dksX3_zone_0 0 rfl rfl)
theorem dX3_zone_1 : decode cX3_zone 1 = .ok (.getfield 7, 3) := dk_180 0 7 (dk_at dksX3_zone_0 1 rfl rfl)
theorem dX3_zone_4 : decode cX3_zone 4 = .ok (.iconst 3, 1) := dk_6 (dk_at dksX3_zone_0 4 rfl rfl)
theorem dX3_zone_5 : decode cX3_zone 5 = .ok (.iconst 5, 1) := dk_8 (dk_at dksX3_zone_0 5 rfl rfl)
theorem dX3_zone_6 : decode cX3_zone 6 = .ok (.iload_n 1, 1) := dk_27 (dk_at dksX3_zone_0 6 rfl rfl)
theorem dX3_zone_7 : decode cX3_zone 7 = .ok (.imul, 1) := dk_104 (dk_at dksX3_zone_0 7 rfl rfl)
theorem dX3_zone_8 : decode cX3_zone 8 = .ok (.iadd, 1) := dk_96 (dk_at dksX3_zone_0 8 rfl rfl)
theorem dX3_zone_9 : decode cX3_zone 9 = .ok (.iload_n 2, 1) := dk_28 (dk_at dksX3_zone_0 9 rfl rfl)
theorem dX3_zone_10 : decode cX3_zone 10 = .ok (.iadd, 1) := dk_96 (dk_at dksX3_zone_0 10 rfl rfl)
theorem dX3_zone_11 : decode cX3_zone 11 = .ok (.iaload, 1) := dk_46 (dk_at dksX3_zone_0 11 rfl rfl)
theorem dX3_zone_12 : decode cX3_zone 12 = .ok (.ireturn, 1) := dk_172 (dk_at dksX3_zone_0 12 rfl rfl)
abbrev cX3_setFan : ByteArray := prog_22_method_41_code
def yX3_setFan : MethodName := ⟨RX3, "setFan", "(II)I"⟩
def dkwX3_setFan_0 : List UInt8 := [42, 27, 4, 28, 6, 182, 0, 165, 172]
abbrev dktX3_setFan_0 : List UInt8 := dkwX3_setFan_0 ++ []
theorem dksX3_setFan_0 : cX3_setFan.data.toList.drop 0 = dktX3_setFan_0 := by decide +kernel
theorem dX3_setFan_0 : decode cX3_setFan 0 = .ok (.aload_n 0, 1) := dk_42 (dk_at dksX3_setFan_0 0 rfl rfl)
theorem dX3_setFan_1 : decode cX3_setFan 1 = .ok (.iload_n 1, 1) := dk_27 (dk_at dksX3_setFan_0 1 rfl rfl)
theorem dX3_setFan_2 : decode cX3_setFan 2 = .ok (.iconst 1, 1) := dk_4 (dk_at dksX3_setFan_0 2 rfl rfl)
theorem dX3_setFan_3 : decode cX3_setFan 3 = .ok (.iload_n 2, 1) := dk_28 (dk_at dksX3_setFan_0 3 rfl rfl)
theorem dX3_setFan_4 : decode cX3_setFan 4 = .ok (.iconst 3, 1) := dk_6 (dk_at dksX3_setFan_0 4 rfl rfl)
theorem dX3_setFan_5 : decode cX3_setFan 5 = .ok (.invokevirtual 165, 3) := dk_182 0 165 (dk_at dksX3_setFan_0 5 rfl rfl)
theorem dX3_setFan_8 : decode cX3_setFan 8 = .ok (.ireturn, 1) := dk_172 (dk_at dksX3_setFan_0 8 rfl rfl)
abbrev cX3_setRollers : ByteArray := prog_22_method_42_code
def yX3_setRollers : MethodName := ⟨RX3, "setRollers", "(II)I"⟩
def dkwX3_setRollers_0 : List UInt8 := [42, 27, 5, 28, 16, 9, 182, 0, 165, 172]
abbrev dktX3_setRollers_0 : List UInt8 := dkwX3_setRollers_0 ++ []
theorem dksX3_setRollers_0 : cX3_setRollers.data.toList.drop 0 = dktX3_setRollers_0 := by decide +kernel
theorem dX3_setRollers_0 : decode cX3_setRollers 0 = .ok (.aload_n 0, 1) := dk_42 (dk_at dksX3_setRollers_0 0 rfl rfl)
theorem dX3_setRollers_1 : decode cX3_setRollers 1 = .ok (.iload_n 1, 1) := dk_27 (dk_at dksX3_setRollers_0 1 rfl rfl)
theorem dX3_setRollers_2 : decode cX3_setRollers 2 = .ok (.iconst 2, 1) := dk_5 (dk_at dksX3_setRollers_0 2 rfl rfl)
theorem dX3_setRollers_3 : decode cX3_setRollers 3 = .ok (.iload_n 2, 1) := dk_28 (dk_at dksX3_setRollers_0 3 rfl rfl)
theorem dX3_setRollers_4 : decode cX3_setRollers 4 = .ok (.bipush 9, 2) := dk_16 9 (dk_at dksX3_setRollers_0 4 rfl rfl)
theorem dX3_setRollers_6 : decode cX3_setRollers 6 = .ok (.invokevirtual 165, 3) := dk_182 0 165 (dk_at dksX3_setRollers_0 6 rfl rfl)
theorem dX3_setRollers_9 : decode cX3_setRollers 9 = .ok (.ireturn, 1) := dk_172 (dk_at dksX3_setRollers_0 9 rfl rfl)
abbrev cX3_setSupply : ByteArray := prog_22_method_43_code
def yX3_setSupply : MethodName := ⟨RX3, "setSupply", "(I)I"⟩
def dkwX3_setSupply_1 : List UInt8 := [182, 0, 158, 42, 180, 0, 7, 4, 46, 61, 42, 180, 0, 7, 4, 27, 79, 28, 172]
abbrev dktX3_setSupply_1 : List UInt8 := dkwX3_setSupply_1 ++ []
def dkwX3_setSupply_0 : List UInt8 := [42, 3, 181, 0, 54, 27, 3, 16, 99, 184, 0, 148, 154, 0, 9, 42, 4, 182, 0, 155, 172, 42]
abbrev dktX3_setSupply_0 : List UInt8 := dkwX3_setSupply_0 ++ dktX3_setSupply_1
theorem dksX3_setSupply_0 : cX3_setSupply.data.toList.drop 0 = dktX3_setSupply_0 := by decide +kernel
theorem dksX3_setSupply_1 : cX3_setSupply.data.toList.drop 22 = dktX3_setSupply_1 := dk_seg dksX3_setSupply_0 22 rfl rfl
theorem dX3_setSupply_0 : decode cX3_setSupply 0 = .ok (.aload_n 0, 1) := dk_42 (dk_at dksX3_setSupply_0 0 rfl rfl)
theorem dX3_setSupply_1 : decode cX3_setSupply 1 = .ok (.iconst 0, 1) := dk_3 (dk_at dksX3_setSupply_0 1 rfl rfl)
theorem dX3_setSupply_2 : decode cX3_setSupply 2 = .ok (.putfield 54, 3) := dk_181 0 54 (dk_at dksX3_setSupply_0 2 rfl rfl)
theorem dX3_setSupply_5 : decode cX3_setSupply 5 = .ok (.iload_n 1, 1) := dk_27 (dk_at dksX3_setSupply_0 5 rfl rfl)
theorem dX3_setSupply_6 : decode cX3_setSupply 6 = .ok (.iconst 0, 1) := dk_3 (dk_at dksX3_setSupply_0 6 rfl rfl)
theorem dX3_setSupply_7 : decode cX3_setSupply 7 = .ok (.bipush 99, 2) := dk_16 99 (dk_at dksX3_setSupply_0 7 rfl rfl)
theorem dX3_setSupply_9 : decode cX3_setSupply 9 = .ok (.invokestatic 148, 3) := dk_184 0 148 (dk_at dksX3_setSupply_0 9 rfl rfl)
theorem dX3_setSupply_12 : decode cX3_setSupply 12 = .ok (.ifCond .ne 9, 3) := dk_154 0 9 (dk_at dksX3_setSupply_0 12 rfl rfl)
theorem dX3_setSupply_15 : decode cX3_setSupply 15 = .ok (.aload_n 0, 1) := dk_42 (dk_at dksX3_setSupply_0 15 rfl rfl)
theorem dX3_setSupply_16 : decode cX3_setSupply 16 = .ok (.iconst 1, 1) := dk_4 (dk_at dksX3_setSupply_0 16 rfl rfl)
theorem dX3_setSupply_17 : decode cX3_setSupply 17 = .ok (.invokevirtual 155, 3) := dk_182 0 155 (dk_at dksX3_setSupply_0 17 rfl rfl)
theorem dX3_setSupply_20 : decode cX3_setSupply 20 = .ok (.ireturn, 1) := dk_172 (dk_at dksX3_setSupply_0 20 rfl rfl)
theorem dX3_setSupply_21 : decode cX3_setSupply 21 = .ok (.aload_n 0, 1) := dk_42 (dk_at dksX3_setSupply_0 21 rfl rfl)
theorem dX3_setSupply_22 : decode cX3_setSupply 22 = .ok (.invokevirtual 158, 3) := dk_182 0 158 (dk_at dksX3_setSupply_1 0 rfl rfl)
theorem dX3_setSupply_25 : decode cX3_setSupply 25 = .ok (.aload_n 0, 1) := dk_42 (dk_at dksX3_setSupply_1 3 rfl rfl)
theorem dX3_setSupply_26 : decode cX3_setSupply 26 = .ok (.getfield 7, 3) := dk_180 0 7 (dk_at dksX3_setSupply_1 4 rfl rfl)
theorem dX3_setSupply_29 : decode cX3_setSupply 29 = .ok (.iconst 1, 1) := dk_4 (dk_at dksX3_setSupply_1 7 rfl rfl)
theorem dX3_setSupply_30 : decode cX3_setSupply 30 = .ok (.iaload, 1) := dk_46 (dk_at dksX3_setSupply_1 8 rfl rfl)
theorem dX3_setSupply_31 : decode cX3_setSupply 31 = .ok (.istore_n 2, 1) := dk_61 (dk_at dksX3_setSupply_1 9 rfl rfl)
theorem dX3_setSupply_32 : decode cX3_setSupply 32 = .ok (.aload_n 0, 1) := dk_42 (dk_at dksX3_setSupply_1 10 rfl rfl)
theorem dX3_setSupply_33 : decode cX3_setSupply 33 = .ok (.getfield 7, 3) := dk_180 0 7 (dk_at dksX3_setSupply_1 11 rfl rfl)
theorem dX3_setSupply_36 : decode cX3_setSupply 36 = .ok (.iconst 1, 1) := dk_4 (dk_at dksX3_setSupply_1 14 rfl rfl)
theorem dX3_setSupply_37 : decode cX3_setSupply 37 = .ok (.iload_n 1, 1) := dk_27 (dk_at dksX3_setSupply_1 15 rfl rfl)
theorem dX3_setSupply_38 : decode cX3_setSupply 38 = .ok (.iastore, 1) := dk_79 (dk_at dksX3_setSupply_1 16 rfl rfl)
theorem dX3_setSupply_39 : decode cX3_setSupply 39 = .ok (.iload_n 2, 1) := dk_28 (dk_at dksX3_setSupply_1 17 rfl rfl)
theorem dX3_setSupply_40 : decode cX3_setSupply 40 = .ok (.ireturn, 1) := dk_172 (dk_at dksX3_setSupply_1 18 rfl rfl)
abbrev cX3_openLot : ByteArray := prog_22_method_45_code
def yX3_openLot : MethodName := ⟨RX3, "openLot", "(II)I"⟩
def dkwX3_openLot_2 : List UInt8 := [172, 42, 182, 0, 158, 42, 27, 28, 182, 0, 169, 172]
abbrev dktX3_openLot_2 : List UInt8 := dkwX3_openLot_2 ++ []
def dkwX3_openLot_1 : List UInt8 := [42, 4, 182, 0, 155, 172, 42, 180, 0, 7, 17, 0, 163, 46, 16, 12, 160, 0, 9, 42, 5, 182, 0, 155]
abbrev dktX3_openLot_1 : List UInt8 := dkwX3_openLot_1 ++ dktX3_openLot_2
def dkwX3_openLot_0 : List UInt8 := [42, 3, 181, 0, 54, 27, 3, 5, 184, 0, 148, 153, 0, 13, 28, 4, 16, 9, 184, 0, 148, 154, 0, 9]
abbrev dktX3_openLot_0 : List UInt8 := dkwX3_openLot_0 ++ dktX3_openLot_1
theorem dksX3_openLot_0 : cX3_openLot.data.toList.drop 0 = dktX3_openLot_0 := by decide +kernel
theorem dksX3_openLot_1 : cX3_openLot.data.toList.drop 24 = dktX3_openLot_1 := dk_seg dksX3_openLot_0 24 rfl rfl
theorem dksX3_openLot_2 : cX3_openLot.data.toList.drop 48 = dktX3_openLot_2 := dk_seg dksX3_openLot_1 24 rfl rfl
theorem dX3_openLot_0 : decode cX3_openLot 0 = .ok (.aload_n 0, 1) := dk_42 (dk_at dksX3_openLot_0 0 rfl rfl)
theorem dX3_openLot_1 : decode cX3_openLot 1 = .ok (.iconst 0, 1) := dk_3 (dk_at dksX3_openLot_0 1 rfl rfl)
theorem dX3_openLot_2 : decode cX3_openLot 2 = .ok (.putfield 54, 3) := dk_181 0 54 (dk_at dksX3_openLot_0 2 rfl rfl)
theorem dX3_openLot_5 : decode cX3_openLot 5 = .ok (.iload_n 1, 1) := dk_27 (dk_at dksX3_openLot_0 5 rfl rfl)
theorem dX3_openLot_6 : decode cX3_openLot 6 = .ok (.iconst 0, 1) := dk_3 (dk_at dksX3_openLot_0 6 rfl rfl)
theorem dX3_openLot_7 : decode cX3_openLot 7 = .ok (.iconst 2, 1) := dk_5 (dk_at dksX3_openLot_0 7 rfl rfl)
theorem dX3_openLot_8 : decode cX3_openLot 8 = .ok (.invokestatic 148, 3) := dk_184 0 148 (dk_at dksX3_openLot_0 8 rfl rfl)
theorem dX3_openLot_11 : decode cX3_openLot 11 = .ok (.ifCond .eq 13, 3) := dk_153 0 13 (dk_at dksX3_openLot_0 11 rfl rfl)
theorem dX3_openLot_14 : decode cX3_openLot 14 = .ok (.iload_n 2, 1) := dk_28 (dk_at dksX3_openLot_0 14 rfl rfl)
theorem dX3_openLot_15 : decode cX3_openLot 15 = .ok (.iconst 1, 1) := dk_4 (dk_at dksX3_openLot_0 15 rfl rfl)
theorem dX3_openLot_16 : decode cX3_openLot 16 = .ok (.bipush 9, 2) := dk_16 9 (dk_at dksX3_openLot_0 16 rfl rfl)
theorem dX3_openLot_18 : decode cX3_openLot 18 = .ok (.invokestatic 148, 3) := dk_184 0 148 (dk_at dksX3_openLot_0 18 rfl rfl)
theorem dX3_openLot_21 : decode cX3_openLot 21 = .ok (.ifCond .ne 9, 3) := dk_154 0 9 (dk_at dksX3_openLot_0 21 rfl rfl)
theorem dX3_openLot_24 : decode cX3_openLot 24 = .ok (.aload_n 0, 1) := dk_42 (dk_at dksX3_openLot_1 0 rfl rfl)
theorem dX3_openLot_25 : decode cX3_openLot 25 = .ok (.iconst 1, 1) := dk_4 (dk_at dksX3_openLot_1 1 rfl rfl)
theorem dX3_openLot_26 : decode cX3_openLot 26 = .ok (.invokevirtual 155, 3) := dk_182 0 155 (dk_at dksX3_openLot_1 2 rfl rfl)
theorem dX3_openLot_29 : decode cX3_openLot 29 = .ok (.ireturn, 1) := dk_172 (dk_at dksX3_openLot_1 5 rfl rfl)
theorem dX3_openLot_30 : decode cX3_openLot 30 = .ok (.aload_n 0, 1) := dk_42 (dk_at dksX3_openLot_1 6 rfl rfl)
theorem dX3_openLot_31 : decode cX3_openLot 31 = .ok (.getfield 7, 3) := dk_180 0 7 (dk_at dksX3_openLot_1 7 rfl rfl)
theorem dX3_openLot_34 : decode cX3_openLot 34 = .ok (.sipush 163, 3) := dk_17 0 163 (dk_at dksX3_openLot_1 10 rfl rfl)
theorem dX3_openLot_37 : decode cX3_openLot 37 = .ok (.iaload, 1) := dk_46 (dk_at dksX3_openLot_1 13 rfl rfl)
theorem dX3_openLot_38 : decode cX3_openLot 38 = .ok (.bipush 12, 2) := dk_16 12 (dk_at dksX3_openLot_1 14 rfl rfl)
theorem dX3_openLot_40 : decode cX3_openLot 40 = .ok (.if_icmp .ne 9, 3) := dk_160 0 9 (dk_at dksX3_openLot_1 16 rfl rfl)
theorem dX3_openLot_43 : decode cX3_openLot 43 = .ok (.aload_n 0, 1) := dk_42 (dk_at dksX3_openLot_1 19 rfl rfl)
theorem dX3_openLot_44 : decode cX3_openLot 44 = .ok (.iconst 2, 1) := dk_5 (dk_at dksX3_openLot_1 20 rfl rfl)
theorem dX3_openLot_45 : decode cX3_openLot 45 = .ok (.invokevirtual 155, 3) := dk_182 0 155 (dk_at dksX3_openLot_1 21 rfl rfl)
theorem dX3_openLot_48 : decode cX3_openLot 48 = .ok (.ireturn, 1) := dk_172 (dk_at dksX3_openLot_2 0 rfl rfl)
theorem dX3_openLot_49 : decode cX3_openLot 49 = .ok (.aload_n 0, 1) := dk_42 (dk_at dksX3_openLot_2 1 rfl rfl)
theorem dX3_openLot_50 : decode cX3_openLot 50 = .ok (.invokevirtual 158, 3) := dk_182 0 158 (dk_at dksX3_openLot_2 2 rfl rfl)
theorem dX3_openLot_53 : decode cX3_openLot 53 = .ok (.aload_n 0, 1) := dk_42 (dk_at dksX3_openLot_2 5 rfl rfl)
theorem dX3_openLot_54 : decode cX3_openLot 54 = .ok (.iload_n 1, 1) := dk_27 (dk_at dksX3_openLot_2 6 rfl rfl)
theorem dX3_openLot_55 : decode cX3_openLot 55 = .ok (.iload_n 2, 1) := dk_28 (dk_at dksX3_openLot_2 7 rfl rfl)
theorem dX3_openLot_56 : decode cX3_openLot 56 = .ok (.invokevirtual 169, 3) := dk_182 0 169 (dk_at dksX3_openLot_2 8 rfl rfl)
theorem dX3_openLot_59 : decode cX3_openLot 59 = .ok (.ireturn, 1) := dk_172 (dk_at dksX3_openLot_2 11 rfl rfl)
abbrev cX3_opens : ByteArray := prog_22_method_44_code
def yX3_opens : MethodName := ⟨RX3, "opens", "(II)I"⟩
def dkwX3_opens_3 : List UInt8 := [180, 0, 7, 17, 0, 164, 16, 25, 29, 104, 96, 4, 96, 28, 79, 29, 172]
abbrev dktX3_opens_3 : List UInt8 := dkwX3_opens_3 ++ []
def dkwX3_opens_2 : List UInt8 := [132, 4, 1, 167, 255, 229, 42, 180, 0, 7, 17, 0, 164, 16, 25, 29, 104, 96, 3, 96, 27, 79, 42]
abbrev dktX3_opens_2 : List UInt8 := dkwX3_opens_2 ++ dktX3_opens_3
def dkwX3_opens_1 : List UInt8 := [21, 4, 16, 25, 162, 0, 26, 42, 180, 0, 7, 17, 0, 164, 16, 25, 29, 104, 96, 21, 4, 96, 3, 79]
abbrev dktX3_opens_1 : List UInt8 := dkwX3_opens_1 ++ dktX3_opens_2
def dkwX3_opens_0 : List UInt8 := [42, 180, 0, 7, 17, 0, 163, 46, 62, 42, 180, 0, 7, 17, 0, 163, 92, 46, 4, 96, 79, 3, 54, 4]
abbrev dktX3_opens_0 : List UInt8 := dkwX3_opens_0 ++ dktX3_opens_1
theorem dksX3_opens_0 : cX3_opens.data.toList.drop 0 = dktX3_opens_0 := by decide +kernel
theorem dksX3_opens_1 : cX3_opens.data.toList.drop 24 = dktX3_opens_1 := dk_seg dksX3_opens_0 24 rfl rfl
theorem dksX3_opens_2 : cX3_opens.data.toList.drop 48 = dktX3_opens_2 := dk_seg dksX3_opens_1 24 rfl rfl
theorem dksX3_opens_3 : cX3_opens.data.toList.drop 71 = dktX3_opens_3 := dk_seg dksX3_opens_2 23 rfl rfl
theorem dX3_opens_0 : decode cX3_opens 0 = .ok (.aload_n 0, 1) := dk_42 (dk_at dksX3_opens_0 0 rfl rfl)
theorem dX3_opens_1 : decode cX3_opens 1 = .ok (.getfield 7, 3) := dk_180 0 7 (dk_at dksX3_opens_0 1 rfl rfl)
theorem dX3_opens_4 : decode cX3_opens 4 = .ok (.sipush 163, 3) := dk_17 0 163 (dk_at dksX3_opens_0 4 rfl rfl)
theorem dX3_opens_7 : decode cX3_opens 7 = .ok (.iaload, 1) := dk_46 (dk_at dksX3_opens_0 7 rfl rfl)
theorem dX3_opens_8 : decode cX3_opens 8 = .ok (.istore_n 3, 1) := dk_62 (dk_at dksX3_opens_0 8 rfl rfl)
theorem dX3_opens_9 : decode cX3_opens 9 = .ok (.aload_n 0, 1) := dk_42 (dk_at dksX3_opens_0 9 rfl rfl)
theorem dX3_opens_10 : decode cX3_opens 10 = .ok (.getfield 7, 3) := dk_180 0 7 (dk_at dksX3_opens_0 10 rfl rfl)
theorem dX3_opens_13 : decode cX3_opens 13 = .ok (.sipush 163, 3) := dk_17 0 163 (dk_at dksX3_opens_0 13 rfl rfl)
theorem dX3_opens_16 : decode cX3_opens 16 = .ok (.dup2, 1) := dk_92 (dk_at dksX3_opens_0 16 rfl rfl)
theorem dX3_opens_17 : decode cX3_opens 17 = .ok (.iaload, 1) := dk_46 (dk_at dksX3_opens_0 17 rfl rfl)
theorem dX3_opens_18 : decode cX3_opens 18 = .ok (.iconst 1, 1) := dk_4 (dk_at dksX3_opens_0 18 rfl rfl)
theorem dX3_opens_19 : decode cX3_opens 19 = .ok (.iadd, 1) := dk_96 (dk_at dksX3_opens_0 19 rfl rfl)
theorem dX3_opens_20 : decode cX3_opens 20 = .ok (.iastore, 1) := dk_79 (dk_at dksX3_opens_0 20 rfl rfl)
theorem dX3_opens_21 : decode cX3_opens 21 = .ok (.iconst 0, 1) := dk_3 (dk_at dksX3_opens_0 21 rfl rfl)
theorem dX3_opens_22 : decode cX3_opens 22 = .ok (.istore 4, 2) := dk_54 4 (dk_at dksX3_opens_0 22 rfl rfl)
theorem dX3_opens_24 : decode cX3_opens 24 = .ok (.iload 4, 2) := dk_21 4 (dk_at dksX3_opens_1 0 rfl rfl)
theorem dX3_opens_26 : decode cX3_opens 26 = .ok (.bipush 25, 2) := dk_16 25 (dk_at dksX3_opens_1 2 rfl rfl)
theorem dX3_opens_28 : decode cX3_opens 28 = .ok (.if_icmp .ge 26, 3) := dk_162 0 26 (dk_at dksX3_opens_1 4 rfl rfl)
theorem dX3_opens_31 : decode cX3_opens 31 = .ok (.aload_n 0, 1) := dk_42 (dk_at dksX3_opens_1 7 rfl rfl)
theorem dX3_opens_32 : decode cX3_opens 32 = .ok (.getfield 7, 3) := dk_180 0 7 (dk_at dksX3_opens_1 8 rfl rfl)
theorem dX3_opens_35 : decode cX3_opens 35 = .ok (.sipush 164, 3) := dk_17 0 164 (dk_at dksX3_opens_1 11 rfl rfl)
theorem dX3_opens_38 : decode cX3_opens 38 = .ok (.bipush 25, 2) := dk_16 25 (dk_at dksX3_opens_1 14 rfl rfl)
theorem dX3_opens_40 : decode cX3_opens 40 = .ok (.iload_n 3, 1) := dk_29 (dk_at dksX3_opens_1 16 rfl rfl)
theorem dX3_opens_41 : decode cX3_opens 41 = .ok (.imul, 1) := dk_104 (dk_at dksX3_opens_1 17 rfl rfl)
theorem dX3_opens_42 : decode cX3_opens 42 = .ok (.iadd, 1) := dk_96 (dk_at dksX3_opens_1 18 rfl rfl)
theorem dX3_opens_43 : decode cX3_opens 43 = .ok (.iload 4, 2) := dk_21 4 (dk_at dksX3_opens_1 19 rfl rfl)
theorem dX3_opens_45 : decode cX3_opens 45 = .ok (.iadd, 1) := dk_96 (dk_at dksX3_opens_1 21 rfl rfl)
theorem dX3_opens_46 : decode cX3_opens 46 = .ok (.iconst 0, 1) := dk_3 (dk_at dksX3_opens_1 22 rfl rfl)
theorem dX3_opens_47 : decode cX3_opens 47 = .ok (.iastore, 1) := dk_79 (dk_at dksX3_opens_1 23 rfl rfl)
theorem dX3_opens_48 : decode cX3_opens 48 = .ok (.iinc 4 1, 3) := dk_132 4 1 (dk_at dksX3_opens_2 0 rfl rfl)
theorem dX3_opens_51 : decode cX3_opens 51 = .ok (.goto (-27), 3) := dk_167 255 229 (dk_at dksX3_opens_2 3 rfl rfl)
theorem dX3_opens_54 : decode cX3_opens 54 = .ok (.aload_n 0, 1) := dk_42 (dk_at dksX3_opens_2 6 rfl rfl)
theorem dX3_opens_55 : decode cX3_opens 55 = .ok (.getfield 7, 3) := dk_180 0 7 (dk_at dksX3_opens_2 7 rfl rfl)
theorem dX3_opens_58 : decode cX3_opens 58 = .ok (.sipush 164, 3) := dk_17 0 164 (dk_at dksX3_opens_2 10 rfl rfl)
theorem dX3_opens_61 : decode cX3_opens 61 = .ok (.bipush 25, 2) := dk_16 25 (dk_at dksX3_opens_2 13 rfl rfl)
theorem dX3_opens_63 : decode cX3_opens 63 = .ok (.iload_n 3, 1) := dk_29 (dk_at dksX3_opens_2 15 rfl rfl)
theorem dX3_opens_64 : decode cX3_opens 64 = .ok (.imul, 1) := dk_104 (dk_at dksX3_opens_2 16 rfl rfl)
theorem dX3_opens_65 : decode cX3_opens 65 = .ok (.iadd, 1) := dk_96 (dk_at dksX3_opens_2 17 rfl rfl)
theorem dX3_opens_66 : decode cX3_opens 66 = .ok (.iconst 0, 1) := dk_3 (dk_at dksX3_opens_2 18 rfl rfl)
theorem dX3_opens_67 : decode cX3_opens 67 = .ok (.iadd, 1) := dk_96 (dk_at dksX3_opens_2 19 rfl rfl)
theorem dX3_opens_68 : decode cX3_opens 68 = .ok (.iload_n 1, 1) := dk_27 (dk_at dksX3_opens_2 20 rfl rfl)
theorem dX3_opens_69 : decode cX3_opens 69 = .ok (.iastore, 1) := dk_79 (dk_at dksX3_opens_2 21 rfl rfl)
theorem dX3_opens_70 : decode cX3_opens 70 = .ok (.aload_n 0, 1) := dk_42 (dk_at dksX3_opens_2 22 rfl rfl)
theorem dX3_opens_71 : decode cX3_opens 71 = .ok (.getfield 7, 3) := dk_180 0 7 (dk_at dksX3_opens_3 0 rfl rfl)
theorem dX3_opens_74 : decode cX3_opens 74 = .ok (.sipush 164, 3) := dk_17 0 164 (dk_at dksX3_opens_3 3 rfl rfl)
theorem dX3_opens_77 : decode cX3_opens 77 = .ok (.bipush 25, 2) := dk_16 25 (dk_at dksX3_opens_3 6 rfl rfl)
theorem dX3_opens_79 : decode cX3_opens 79 = .ok (.iload_n 3, 1) := dk_29 (dk_at dksX3_opens_3 8 rfl rfl)
theorem dX3_opens_80 : decode cX3_opens 80 = .ok (.imul, 1) := dk_104 (dk_at dksX3_opens_3 9 rfl rfl)
theorem dX3_opens_81 : decode cX3_opens 81 = .ok (.iadd, 1) := dk_96 (dk_at dksX3_opens_3 10 rfl rfl)
theorem dX3_opens_82 : decode cX3_opens 82 = .ok (.iconst 1, 1) := dk_4 (dk_at dksX3_opens_3 11 rfl rfl)
theorem dX3_opens_83 : decode cX3_opens 83 = .ok (.iadd, 1) := dk_96 (dk_at dksX3_opens_3 12 rfl rfl)
theorem dX3_opens_84 : decode cX3_opens 84 = .ok (.iload_n 2, 1) := dk_28 (dk_at dksX3_opens_3 13 rfl rfl)
theorem dX3_opens_85 : decode cX3_opens 85 = .ok (.iastore, 1) := dk_79 (dk_at dksX3_opens_3 14 rfl rfl)
theorem dX3_opens_86 : decode cX3_opens 86 = .ok (.iload_n 3, 1) := dk_29 (dk_at dksX3_opens_3 15 rfl rfl)
theorem dX3_opens_87 : decode cX3_opens 87 = .ok (.ireturn, 1) := dk_172 (dk_at dksX3_opens_3 16 rfl rfl)
abbrev cX3_load : ByteArray := prog_22_method_49_code
def yX3_load : MethodName := ⟨RX3, "load", "(I)I"⟩
def dkwX3_load_1 : List UInt8 := [42, 182, 0, 158, 42, 27, 182, 0, 178, 172]
abbrev dktX3_load_1 : List UInt8 := dkwX3_load_1 ++ []
def dkwX3_load_0 : List UInt8 := [42, 27, 182, 0, 172, 154, 0, 5, 3, 172, 42, 27, 182, 0, 175, 158, 0, 9, 42, 5, 182, 0, 155, 172]
abbrev dktX3_load_0 : List UInt8 := dkwX3_load_0 ++ dktX3_load_1
theorem dksX3_load_0 : cX3_load.data.toList.drop 0 = dktX3_load_0 := by decide +kernel
theorem dksX3_load_1 : cX3_load.data.toList.drop 24 = dktX3_load_1 := dk_seg dksX3_load_0 24 rfl rfl
theorem dX3_load_0 : decode cX3_load 0 = .ok (.aload_n 0, 1) := dk_42 (dk_at dksX3_load_0 0 rfl rfl)
theorem dX3_load_1 : decode cX3_load 1 = .ok (.iload_n 1, 1) := dk_27 (dk_at dksX3_load_0 1 rfl rfl)
theorem dX3_load_2 : decode cX3_load 2 = .ok (.invokevirtual 172, 3) := dk_182 0 172 (dk_at dksX3_load_0 2 rfl rfl)
theorem dX3_load_5 : decode cX3_load 5 = .ok (.ifCond .ne 5, 3) := dk_154 0 5 (dk_at dksX3_load_0 5 rfl rfl)
theorem dX3_load_8 : decode cX3_load 8 = .ok (.iconst 0, 1) := dk_3 (dk_at dksX3_load_0 8 rfl rfl)
theorem dX3_load_9 : decode cX3_load 9 = .ok (.ireturn, 1) := dk_172 (dk_at dksX3_load_0 9 rfl rfl)
theorem dX3_load_10 : decode cX3_load 10 = .ok (.aload_n 0, 1) := dk_42 (dk_at dksX3_load_0 10 rfl rfl)
theorem dX3_load_11 : decode cX3_load 11 = .ok (.iload_n 1, 1) := dk_27 (dk_at dksX3_load_0 11 rfl rfl)
theorem dX3_load_12 : decode cX3_load 12 = .ok (.invokevirtual 175, 3) := dk_182 0 175 (dk_at dksX3_load_0 12 rfl rfl)
theorem dX3_load_15 : decode cX3_load 15 = .ok (.ifCond .le 9, 3) := dk_158 0 9 (dk_at dksX3_load_0 15 rfl rfl)
theorem dX3_load_18 : decode cX3_load 18 = .ok (.aload_n 0, 1) := dk_42 (dk_at dksX3_load_0 18 rfl rfl)
theorem dX3_load_19 : decode cX3_load 19 = .ok (.iconst 2, 1) := dk_5 (dk_at dksX3_load_0 19 rfl rfl)
theorem dX3_load_20 : decode cX3_load 20 = .ok (.invokevirtual 155, 3) := dk_182 0 155 (dk_at dksX3_load_0 20 rfl rfl)
theorem dX3_load_23 : decode cX3_load 23 = .ok (.ireturn, 1) := dk_172 (dk_at dksX3_load_0 23 rfl rfl)
theorem dX3_load_24 : decode cX3_load 24 = .ok (.aload_n 0, 1) := dk_42 (dk_at dksX3_load_1 0 rfl rfl)
theorem dX3_load_25 : decode cX3_load 25 = .ok (.invokevirtual 158, 3) := dk_182 0 158 (dk_at dksX3_load_1 1 rfl rfl)
theorem dX3_load_28 : decode cX3_load 28 = .ok (.aload_n 0, 1) := dk_42 (dk_at dksX3_load_1 4 rfl rfl)
theorem dX3_load_29 : decode cX3_load 29 = .ok (.iload_n 1, 1) := dk_27 (dk_at dksX3_load_1 5 rfl rfl)
theorem dX3_load_30 : decode cX3_load 30 = .ok (.invokevirtual 178, 3) := dk_182 0 178 (dk_at dksX3_load_1 6 rfl rfl)
theorem dX3_load_33 : decode cX3_load 33 = .ok (.ireturn, 1) := dk_172 (dk_at dksX3_load_1 9 rfl rfl)
abbrev cX3_isLot : ByteArray := prog_22_method_46_code
def yX3_isLot : MethodName := ⟨RX3, "isLot", "(I)Z"⟩
def dkwX3_isLot_1 : List UInt8 := [181, 0, 54, 42, 180, 0, 54, 154, 0, 7, 4, 167, 0, 4, 3, 172]
abbrev dktX3_isLot_1 : List UInt8 := dkwX3_isLot_1 ++ []
def dkwX3_isLot_0 : List UInt8 := [42, 27, 3, 42, 180, 0, 7, 17, 0, 163, 46, 4, 100, 184, 0, 148, 153, 0, 7, 3, 167, 0, 4, 4]
abbrev dktX3_isLot_0 : List UInt8 := dkwX3_isLot_0 ++ dktX3_isLot_1
theorem dksX3_isLot_0 : cX3_isLot.data.toList.drop 0 = dktX3_isLot_0 := by decide +kernel
theorem dksX3_isLot_1 : cX3_isLot.data.toList.drop 24 = dktX3_isLot_1 := dk_seg dksX3_isLot_0 24 rfl rfl
theorem dX3_isLot_0 : decode cX3_isLot 0 = .ok (.aload_n 0, 1) := dk_42 (dk_at dksX3_isLot_0 0 rfl rfl)
theorem dX3_isLot_1 : decode cX3_isLot 1 = .ok (.iload_n 1, 1) := dk_27 (dk_at dksX3_isLot_0 1 rfl rfl)
theorem dX3_isLot_2 : decode cX3_isLot 2 = .ok (.iconst 0, 1) := dk_3 (dk_at dksX3_isLot_0 2 rfl rfl)
theorem dX3_isLot_3 : decode cX3_isLot 3 = .ok (.aload_n 0, 1) := dk_42 (dk_at dksX3_isLot_0 3 rfl rfl)
theorem dX3_isLot_4 : decode cX3_isLot 4 = .ok (.getfield 7, 3) := dk_180 0 7 (dk_at dksX3_isLot_0 4 rfl rfl)
theorem dX3_isLot_7 : decode cX3_isLot 7 = .ok (.sipush 163, 3) := dk_17 0 163 (dk_at dksX3_isLot_0 7 rfl rfl)
theorem dX3_isLot_10 : decode cX3_isLot 10 = .ok (.iaload, 1) := dk_46 (dk_at dksX3_isLot_0 10 rfl rfl)
theorem dX3_isLot_11 : decode cX3_isLot 11 = .ok (.iconst 1, 1) := dk_4 (dk_at dksX3_isLot_0 11 rfl rfl)
theorem dX3_isLot_12 : decode cX3_isLot 12 = .ok (.isub, 1) := dk_100 (dk_at dksX3_isLot_0 12 rfl rfl)
theorem dX3_isLot_13 : decode cX3_isLot 13 = .ok (.invokestatic 148, 3) := dk_184 0 148 (dk_at dksX3_isLot_0 13 rfl rfl)
theorem dX3_isLot_16 : decode cX3_isLot 16 = .ok (.ifCond .eq 7, 3) := dk_153 0 7 (dk_at dksX3_isLot_0 16 rfl rfl)
theorem dX3_isLot_19 : decode cX3_isLot 19 = .ok (.iconst 0, 1) := dk_3 (dk_at dksX3_isLot_0 19 rfl rfl)
theorem dX3_isLot_20 : decode cX3_isLot 20 = .ok (.goto 4, 3) := dk_167 0 4 (dk_at dksX3_isLot_0 20 rfl rfl)
theorem dX3_isLot_23 : decode cX3_isLot 23 = .ok (.iconst 1, 1) := dk_4 (dk_at dksX3_isLot_0 23 rfl rfl)
theorem dX3_isLot_24 : decode cX3_isLot 24 = .ok (.putfield 54, 3) := dk_181 0 54 (dk_at dksX3_isLot_1 0 rfl rfl)
theorem dX3_isLot_27 : decode cX3_isLot 27 = .ok (.aload_n 0, 1) := dk_42 (dk_at dksX3_isLot_1 3 rfl rfl)
theorem dX3_isLot_28 : decode cX3_isLot 28 = .ok (.getfield 54, 3) := dk_180 0 54 (dk_at dksX3_isLot_1 4 rfl rfl)
theorem dX3_isLot_31 : decode cX3_isLot 31 = .ok (.ifCond .ne 7, 3) := dk_154 0 7 (dk_at dksX3_isLot_1 7 rfl rfl)
theorem dX3_isLot_34 : decode cX3_isLot 34 = .ok (.iconst 1, 1) := dk_4 (dk_at dksX3_isLot_1 10 rfl rfl)
theorem dX3_isLot_35 : decode cX3_isLot 35 = .ok (.goto 4, 3) := dk_167 0 4 (dk_at dksX3_isLot_1 11 rfl rfl)
theorem dX3_isLot_38 : decode cX3_isLot 38 = .ok (.iconst 0, 1) := dk_3 (dk_at dksX3_isLot_1 14 rfl rfl)
theorem dX3_isLot_39 : decode cX3_isLot 39 = .ok (.ireturn, 1) := dk_172 (dk_at dksX3_isLot_1 15 rfl rfl)
abbrev cX3_noLoading : ByteArray := prog_22_method_47_code
def yX3_noLoading : MethodName := ⟨RX3, "noLoading", "(I)I"⟩
def dkwX3_noLoading_1 : List UInt8 := [167, 0, 18, 42, 3, 7, 182, 0, 58, 4, 160, 0, 7, 6, 167, 0, 4, 3, 172]
abbrev dktX3_noLoading_1 : List UInt8 := dkwX3_noLoading_1 ++ []
def dkwX3_noLoading_0 : List UInt8 := [42, 27, 5, 182, 0, 69, 16, 20, 160, 0, 7, 4, 167, 0, 30, 42, 3, 182, 0, 62, 153, 0, 7, 5]
abbrev dktX3_noLoading_0 : List UInt8 := dkwX3_noLoading_0 ++ dktX3_noLoading_1
theorem dksX3_noLoading_0 : cX3_noLoading.data.toList.drop 0 = dktX3_noLoading_0 := by decide +kernel
theorem dksX3_noLoading_1 : cX3_noLoading.data.toList.drop 24 = dktX3_noLoading_1 := dk_seg dksX3_noLoading_0 24 rfl rfl
theorem dX3_noLoading_0 : decode cX3_noLoading 0 = .ok (.aload_n 0, 1) := dk_42 (dk_at dksX3_noLoading_0 0 rfl rfl)
theorem dX3_noLoading_1 : decode cX3_noLoading 1 = .ok (.iload_n 1, 1) := dk_27 (dk_at dksX3_noLoading_0 1 rfl rfl)
theorem dX3_noLoading_2 : decode cX3_noLoading 2 = .ok (.iconst 2, 1) := dk_5 (dk_at dksX3_noLoading_0 2 rfl rfl)
theorem dX3_noLoading_3 : decode cX3_noLoading 3 = .ok (.invokevirtual 69, 3) := dk_182 0 69 (dk_at dksX3_noLoading_0 3 rfl rfl)
theorem dX3_noLoading_6 : decode cX3_noLoading 6 = .ok (.bipush 20, 2) := dk_16 20 (dk_at dksX3_noLoading_0 6 rfl rfl)
theorem dX3_noLoading_8 : decode cX3_noLoading 8 = .ok (.if_icmp .ne 7, 3) := dk_160 0 7 (dk_at dksX3_noLoading_0 8 rfl rfl)
theorem dX3_noLoading_11 : decode cX3_noLoading 11 = .ok (.iconst 1, 1) := dk_4 (dk_at dksX3_noLoading_0 11 rfl rfl)
theorem dX3_noLoading_12 : decode cX3_noLoading 12 = .ok (.goto 30, 3) := dk_167 0 30 (dk_at dksX3_noLoading_0 12 rfl rfl)
theorem dX3_noLoading_15 : decode cX3_noLoading 15 = .ok (.aload_n 0, 1) := dk_42 (dk_at dksX3_noLoading_0 15 rfl rfl)
theorem dX3_noLoading_16 : decode cX3_noLoading 16 = .ok (.iconst 0, 1) := dk_3 (dk_at dksX3_noLoading_0 16 rfl rfl)
theorem dX3_noLoading_17 : decode cX3_noLoading 17 = .ok (.invokevirtual 62, 3) := dk_182 0 62 (dk_at dksX3_noLoading_0 17 rfl rfl)
theorem dX3_noLoading_20 : decode cX3_noLoading 20 = .ok (.ifCond .eq 7, 3) := dk_153 0 7 (dk_at dksX3_noLoading_0 20 rfl rfl)
theorem dX3_noLoading_23 : decode cX3_noLoading 23 = .ok (.iconst 2, 1) := dk_5 (dk_at dksX3_noLoading_0 23 rfl rfl)
theorem dX3_noLoading_24 : decode cX3_noLoading 24 = .ok (.goto 18, 3) := dk_167 0 18 (dk_at dksX3_noLoading_1 0 rfl rfl)
theorem dX3_noLoading_27 : decode cX3_noLoading 27 = .ok (.aload_n 0, 1) := dk_42 (dk_at dksX3_noLoading_1 3 rfl rfl)
theorem dX3_noLoading_28 : decode cX3_noLoading 28 = .ok (.iconst 0, 1) := dk_3 (dk_at dksX3_noLoading_1 4 rfl rfl)
theorem dX3_noLoading_29 : decode cX3_noLoading 29 = .ok (.iconst 4, 1) := dk_7 (dk_at dksX3_noLoading_1 5 rfl rfl)
theorem dX3_noLoading_30 : decode cX3_noLoading 30 = .ok (.invokevirtual 58, 3) := dk_182 0 58 (dk_at dksX3_noLoading_1 6 rfl rfl)
theorem dX3_noLoading_33 : decode cX3_noLoading 33 = .ok (.iconst 1, 1) := dk_4 (dk_at dksX3_noLoading_1 9 rfl rfl)
theorem dX3_noLoading_34 : decode cX3_noLoading 34 = .ok (.if_icmp .ne 7, 3) := dk_160 0 7 (dk_at dksX3_noLoading_1 10 rfl rfl)
theorem dX3_noLoading_37 : decode cX3_noLoading 37 = .ok (.iconst 3, 1) := dk_6 (dk_at dksX3_noLoading_1 13 rfl rfl)
theorem dX3_noLoading_38 : decode cX3_noLoading 38 = .ok (.goto 4, 3) := dk_167 0 4 (dk_at dksX3_noLoading_1 14 rfl rfl)
theorem dX3_noLoading_41 : decode cX3_noLoading 41 = .ok (.iconst 0, 1) := dk_3 (dk_at dksX3_noLoading_1 17 rfl rfl)
theorem dX3_noLoading_42 : decode cX3_noLoading 42 = .ok (.ireturn, 1) := dk_172 (dk_at dksX3_noLoading_1 18 rfl rfl)
abbrev cX3_lot : ByteArray := prog_22_method_9_code
def yX3_lot : MethodName := ⟨RX3, "lot", "(II)I"⟩
def dkwX3_lot_0 : List UInt8 := [42, 180, 0, 7, 17, 0, 164, 16, 25, 27, 104, 96, 28, 96, 46, 172]
abbrev dktX3_lot_0 : List UInt8 := dkwX3_lot_0 ++ []
theorem dksX3_lot_0 : cX3_lot.data.toList.drop 0 = dktX3_lot_0 := by decide +kernel
theorem dX3_lot_0 : decode cX3_lot 0 = .ok (.aload_n 0, 1) := dk_42 (dk_at dksX3_lot_0 0 rfl rfl)
theorem dX3_lot_1 : decode cX3_lot 1 = .ok (.getfield 7, 3) := dk_180 0 7 (dk_at dksX3_lot_0 1 rfl rfl)
theorem dX3_lot_4 : decode cX3_lot 4 = .ok (.sipush 164, 3) := dk_17 0 164 (dk_at dksX3_lot_0 4 rfl rfl)
theorem dX3_lot_7 : decode cX3_lot 7 = .ok (.bipush 25, 2) := dk_16 25 (dk_at dksX3_lot_0 7 rfl rfl)
theorem dX3_lot_9 : decode cX3_lot 9 = .ok (.iload_n 1, 1) := dk_27 (dk_at dksX3_lot_0 9 rfl rfl)
theorem dX3_lot_10 : decode cX3_lot 10 = .ok (.imul, 1) := dk_104 (dk_at dksX3_lot_0 10 rfl rfl)
theorem dX3_lot_11 : decode cX3_lot 11 = .ok (.iadd, 1) := dk_96 (dk_at dksX3_lot_0 11 rfl rfl)
theorem dX3_lot_12 : decode cX3_lot 12 = .ok (.iload_n 2, 1) := dk_28 (dk_at dksX3_lot_0 12 rfl rfl)
theorem dX3_lot_13 : decode cX3_lot 13 = .ok (.iadd, 1) := dk_96 (dk_at dksX3_lot_0 13 rfl rfl)
theorem dX3_lot_14 : decode cX3_lot 14 = .ok (.iaload, 1) := dk_46 (dk_at dksX3_lot_0 14 rfl rfl)
theorem dX3_lot_15 : decode cX3_lot 15 = .ok (.ireturn, 1) := dk_172 (dk_at dksX3_lot_0 15 rfl rfl)
abbrev cX3_isPiece : ByteArray := prog_22_method_12_code
def yX3_isPiece : MethodName := ⟨RX3, "isPiece", "(I)Z"⟩
def dkwX3_isPiece_0 : List UInt8 := [42, 27, 3, 182, 0, 58, 2, 159, 0, 7, 4, 167, 0, 4, 3, 172]
abbrev dktX3_isPiece_0 : List UInt8 := dkwX3_isPiece_0 ++ []
theorem dksX3_isPiece_0 : cX3_isPiece.data.toList.drop 0 = dktX3_isPiece_0 := by decide +kernel
theorem dX3_isPiece_0 : decode cX3_isPiece 0 = .ok (.aload_n 0, 1) := dk_42 (dk_at dksX3_isPiece_0 0 rfl rfl)
theorem dX3_isPiece_1 : decode cX3_isPiece 1 = .ok (.iload_n 1, 1) := dk_27 (dk_at dksX3_isPiece_0 1 rfl rfl)
theorem dX3_isPiece_2 : decode cX3_isPiece 2 = .ok (.iconst 0, 1) := dk_3 (dk_at dksX3_isPiece_0 2 rfl rfl)
theorem dX3_isPiece_3 : decode cX3_isPiece 3 = .ok (.invokevirtual 58, 3) := dk_182 0 58 (dk_at dksX3_isPiece_0 3 rfl rfl)
theorem dX3_isPiece_6 : decode cX3_isPiece 6 = .ok (.iconst (-1), 1) := dk_2 (dk_at dksX3_isPiece_0 6 rfl rfl)
theorem dX3_isPiece_7 : decode cX3_isPiece 7 = .ok (.if_icmp .eq 7, 3) := dk_159 0 7 (dk_at dksX3_isPiece_0 7 rfl rfl)
theorem dX3_isPiece_10 : decode cX3_isPiece 10 = .ok (.iconst 1, 1) := dk_4 (dk_at dksX3_isPiece_0 10 rfl rfl)
theorem dX3_isPiece_11 : decode cX3_isPiece 11 = .ok (.goto 4, 3) := dk_167 0 4 (dk_at dksX3_isPiece_0 11 rfl rfl)
theorem dX3_isPiece_14 : decode cX3_isPiece 14 = .ok (.iconst 0, 1) := dk_3 (dk_at dksX3_isPiece_0 14 rfl rfl)
theorem dX3_isPiece_15 : decode cX3_isPiece 15 = .ok (.ireturn, 1) := dk_172 (dk_at dksX3_isPiece_0 15 rfl rfl)
abbrev cX3_at : ByteArray := prog_22_method_7_code
def yX3_at : MethodName := ⟨RX3, "at", "(II)I"⟩
def dkwX3_at_0 : List UInt8 := [42, 180, 0, 7, 16, 43, 8, 27, 104, 96, 28, 96, 46, 172]
abbrev dktX3_at_0 : List UInt8 := dkwX3_at_0 ++ []
theorem dksX3_at_0 : cX3_at.data.toList.drop 0 = dktX3_at_0 := by decide +kernel
theorem dX3_at_0 : decode cX3_at 0 = .ok (.aload_n 0, 1) := dk_42 (dk_at dksX3_at_0 0 rfl rfl)
theorem dX3_at_1 : decode cX3_at 1 = .ok (.getfield 7, 3) := dk_180 0 7 (dk_at dksX3_at_0 1 rfl rfl)
theorem dX3_at_4 : decode cX3_at 4 = .ok (.bipush 43, 2) := dk_16 43 (dk_at dksX3_at_0 4 rfl rfl)
theorem dX3_at_6 : decode cX3_at 6 = .ok (.iconst 5, 1) := dk_8 (dk_at dksX3_at_0 6 rfl rfl)
theorem dX3_at_7 : decode cX3_at 7 = .ok (.iload_n 1, 1) := dk_27 (dk_at dksX3_at_0 7 rfl rfl)
theorem dX3_at_8 : decode cX3_at 8 = .ok (.imul, 1) := dk_104 (dk_at dksX3_at_0 8 rfl rfl)
theorem dX3_at_9 : decode cX3_at 9 = .ok (.iadd, 1) := dk_96 (dk_at dksX3_at_0 9 rfl rfl)
theorem dX3_at_10 : decode cX3_at 10 = .ok (.iload_n 2, 1) := dk_28 (dk_at dksX3_at_0 10 rfl rfl)
theorem dX3_at_11 : decode cX3_at 11 = .ok (.iadd, 1) := dk_96 (dk_at dksX3_at_0 11 rfl rfl)
theorem dX3_at_12 : decode cX3_at 12 = .ok (.iaload, 1) := dk_46 (dk_at dksX3_at_0 12 rfl rfl)
theorem dX3_at_13 : decode cX3_at 13 = .ok (.ireturn, 1) := dk_172 (dk_at dksX3_at_0 13 rfl rfl)
abbrev cX3_loads : ByteArray := prog_22_method_48_code
def yX3_loads : MethodName := ⟨RX3, "loads", "(I)I"⟩
def dkwX3_loads_2 : List UInt8 := [3, 11, 81, 28, 172]
abbrev dktX3_loads_2 : List UInt8 := dkwX3_loads_2 ++ []
def dkwX3_loads_1 : List UInt8 := [28, 182, 0, 51, 42, 3, 5, 17, 2, 88, 182, 0, 51, 42, 3, 6, 3, 182, 0, 51, 42, 180, 0, 13]
abbrev dktX3_loads_1 : List UInt8 := dkwX3_loads_1 ++ dktX3_loads_2
def dkwX3_loads_0 : List UInt8 := [42, 27, 5, 182, 0, 69, 61, 42, 27, 5, 4, 182, 0, 107, 42, 3, 3, 27, 182, 0, 51, 42, 3, 4]
abbrev dktX3_loads_0 : List UInt8 := dkwX3_loads_0 ++ dktX3_loads_1
theorem dksX3_loads_0 : cX3_loads.data.toList.drop 0 = dktX3_loads_0 := by decide +kernel
theorem dksX3_loads_1 : cX3_loads.data.toList.drop 24 = dktX3_loads_1 := dk_seg dksX3_loads_0 24 rfl rfl
theorem dksX3_loads_2 : cX3_loads.data.toList.drop 48 = dktX3_loads_2 := dk_seg dksX3_loads_1 24 rfl rfl
theorem dX3_loads_0 : decode cX3_loads 0 = .ok (.aload_n 0, 1) := dk_42 (dk_at dksX3_loads_0 0 rfl rfl)
theorem dX3_loads_1 : decode cX3_loads 1 = .ok (.iload_n 1, 1) := dk_27 (dk_at dksX3_loads_0 1 rfl rfl)
theorem dX3_loads_2 : decode cX3_loads 2 = .ok (.iconst 2, 1) := dk_5 (dk_at dksX3_loads_0 2 rfl rfl)
theorem dX3_loads_3 : decode cX3_loads 3 = .ok (.invokevirtual 69, 3) := dk_182 0 69 (dk_at dksX3_loads_0 3 rfl rfl)
theorem dX3_loads_6 : decode cX3_loads 6 = .ok (.istore_n 2, 1) := dk_61 (dk_at dksX3_loads_0 6 rfl rfl)
theorem dX3_loads_7 : decode cX3_loads 7 = .ok (.aload_n 0, 1) := dk_42 (dk_at dksX3_loads_0 7 rfl rfl)
theorem dX3_loads_8 : decode cX3_loads 8 = .ok (.iload_n 1, 1) := dk_27 (dk_at dksX3_loads_0 8 rfl rfl)
theorem dX3_loads_9 : decode cX3_loads 9 = .ok (.iconst 2, 1) := dk_5 (dk_at dksX3_loads_0 9 rfl rfl)
theorem dX3_loads_10 : decode cX3_loads 10 = .ok (.iconst 1, 1) := dk_4 (dk_at dksX3_loads_0 10 rfl rfl)
theorem dX3_loads_11 : decode cX3_loads 11 = .ok (.invokevirtual 107, 3) := dk_182 0 107 (dk_at dksX3_loads_0 11 rfl rfl)
theorem dX3_loads_14 : decode cX3_loads 14 = .ok (.aload_n 0, 1) := dk_42 (dk_at dksX3_loads_0 14 rfl rfl)
theorem dX3_loads_15 : decode cX3_loads 15 = .ok (.iconst 0, 1) := dk_3 (dk_at dksX3_loads_0 15 rfl rfl)
theorem dX3_loads_16 : decode cX3_loads 16 = .ok (.iconst 0, 1) := dk_3 (dk_at dksX3_loads_0 16 rfl rfl)
theorem dX3_loads_17 : decode cX3_loads 17 = .ok (.iload_n 1, 1) := dk_27 (dk_at dksX3_loads_0 17 rfl rfl)
theorem dX3_loads_18 : decode cX3_loads 18 = .ok (.invokevirtual 51, 3) := dk_182 0 51 (dk_at dksX3_loads_0 18 rfl rfl)
theorem dX3_loads_21 : decode cX3_loads 21 = .ok (.aload_n 0, 1) := dk_42 (dk_at dksX3_loads_0 21 rfl rfl)
theorem dX3_loads_22 : decode cX3_loads 22 = .ok (.iconst 0, 1) := dk_3 (dk_at dksX3_loads_0 22 rfl rfl)
theorem dX3_loads_23 : decode cX3_loads 23 = .ok (.iconst 1, 1) := dk_4 (dk_at dksX3_loads_0 23 rfl rfl)
theorem dX3_loads_24 : decode cX3_loads 24 = .ok (.iload_n 2, 1) := dk_28 (dk_at dksX3_loads_1 0 rfl rfl)
theorem dX3_loads_25 : decode cX3_loads 25 = .ok (.invokevirtual 51, 3) := dk_182 0 51 (dk_at dksX3_loads_1 1 rfl rfl)
theorem dX3_loads_28 : decode cX3_loads 28 = .ok (.aload_n 0, 1) := dk_42 (dk_at dksX3_loads_1 4 rfl rfl)
theorem dX3_loads_29 : decode cX3_loads 29 = .ok (.iconst 0, 1) := dk_3 (dk_at dksX3_loads_1 5 rfl rfl)
theorem dX3_loads_30 : decode cX3_loads 30 = .ok (.iconst 2, 1) := dk_5 (dk_at dksX3_loads_1 6 rfl rfl)
theorem dX3_loads_31 : decode cX3_loads 31 = .ok (.sipush 600, 3) := dk_17 2 88 (dk_at dksX3_loads_1 7 rfl rfl)
theorem dX3_loads_34 : decode cX3_loads 34 = .ok (.invokevirtual 51, 3) := dk_182 0 51 (dk_at dksX3_loads_1 10 rfl rfl)
theorem dX3_loads_37 : decode cX3_loads 37 = .ok (.aload_n 0, 1) := dk_42 (dk_at dksX3_loads_1 13 rfl rfl)
theorem dX3_loads_38 : decode cX3_loads 38 = .ok (.iconst 0, 1) := dk_3 (dk_at dksX3_loads_1 14 rfl rfl)
theorem dX3_loads_39 : decode cX3_loads 39 = .ok (.iconst 3, 1) := dk_6 (dk_at dksX3_loads_1 15 rfl rfl)
theorem dX3_loads_40 : decode cX3_loads 40 = .ok (.iconst 0, 1) := dk_3 (dk_at dksX3_loads_1 16 rfl rfl)
theorem dX3_loads_41 : decode cX3_loads 41 = .ok (.invokevirtual 51, 3) := dk_182 0 51 (dk_at dksX3_loads_1 17 rfl rfl)
theorem dX3_loads_44 : decode cX3_loads 44 = .ok (.aload_n 0, 1) := dk_42 (dk_at dksX3_loads_1 20 rfl rfl)
theorem dX3_loads_45 : decode cX3_loads 45 = .ok (.getfield 13, 3) := dk_180 0 13 (dk_at dksX3_loads_1 21 rfl rfl)
theorem dX3_loads_48 : decode cX3_loads 48 = .ok (.iconst 0, 1) := dk_3 (dk_at dksX3_loads_2 0 rfl rfl)
theorem dX3_loads_49 : decode cX3_loads 49 = .ok (.fconst 0, 1) := dk_11 (dk_at dksX3_loads_2 1 rfl rfl)
theorem dX3_loads_50 : decode cX3_loads 50 = .ok (.fastore, 1) := dk_81 (dk_at dksX3_loads_2 2 rfl rfl)
theorem dX3_loads_51 : decode cX3_loads 51 = .ok (.iload_n 2, 1) := dk_28 (dk_at dksX3_loads_2 3 rfl rfl)
theorem dX3_loads_52 : decode cX3_loads 52 = .ok (.ireturn, 1) := dk_172 (dk_at dksX3_loads_2 4 rfl rfl)
abbrev cX3_growLot : ByteArray := prog_22_method_10_code
def yX3_growLot : MethodName := ⟨RX3, "growLot", "(III)V"⟩
def dkwX3_growLot_0 : List UInt8 := [42, 180, 0, 7, 17, 0, 164, 16, 25, 27, 104, 96, 28, 96, 92, 46, 29, 96, 79, 177]
abbrev dktX3_growLot_0 : List UInt8 := dkwX3_growLot_0 ++ []
theorem dksX3_growLot_0 : cX3_growLot.data.toList.drop 0 = dktX3_growLot_0 := by decide +kernel
theorem dX3_growLot_0 : decode cX3_growLot 0 = .ok (.aload_n 0, 1) := dk_42 (dk_at dksX3_growLot_0 0 rfl rfl)
theorem dX3_growLot_1 : decode cX3_growLot 1 = .ok (.getfield 7, 3) := dk_180 0 7 (dk_at dksX3_growLot_0 1 rfl rfl)
theorem dX3_growLot_4 : decode cX3_growLot 4 = .ok (.sipush 164, 3) := dk_17 0 164 (dk_at dksX3_growLot_0 4 rfl rfl)
theorem dX3_growLot_7 : decode cX3_growLot 7 = .ok (.bipush 25, 2) := dk_16 25 (dk_at dksX3_growLot_0 7 rfl rfl)
theorem dX3_growLot_9 : decode cX3_growLot 9 = .ok (.iload_n 1, 1) := dk_27 (dk_at dksX3_growLot_0 9 rfl rfl)
theorem dX3_growLot_10 : decode cX3_growLot 10 = .ok (.imul, 1) := dk_104 (dk_at dksX3_growLot_0 10 rfl rfl)
theorem dX3_growLot_11 : decode cX3_growLot 11 = .ok (.iadd, 1) := dk_96 (dk_at dksX3_growLot_0 11 rfl rfl)
theorem dX3_growLot_12 : decode cX3_growLot 12 = .ok (.iload_n 2, 1) := dk_28 (dk_at dksX3_growLot_0 12 rfl rfl)
theorem dX3_growLot_13 : decode cX3_growLot 13 = .ok (.iadd, 1) := dk_96 (dk_at dksX3_growLot_0 13 rfl rfl)
theorem dX3_growLot_14 : decode cX3_growLot 14 = .ok (.dup2, 1) := dk_92 (dk_at dksX3_growLot_0 14 rfl rfl)
theorem dX3_growLot_15 : decode cX3_growLot 15 = .ok (.iaload, 1) := dk_46 (dk_at dksX3_growLot_0 15 rfl rfl)
theorem dX3_growLot_16 : decode cX3_growLot 16 = .ok (.iload_n 3, 1) := dk_29 (dk_at dksX3_growLot_0 16 rfl rfl)
theorem dX3_growLot_17 : decode cX3_growLot 17 = .ok (.iadd, 1) := dk_96 (dk_at dksX3_growLot_0 17 rfl rfl)
theorem dX3_growLot_18 : decode cX3_growLot 18 = .ok (.iastore, 1) := dk_79 (dk_at dksX3_growLot_0 18 rfl rfl)
theorem dX3_growLot_19 : decode cX3_growLot 19 = .ok (.return_, 1) := dk_177 (dk_at dksX3_growLot_0 19 rfl rfl)
abbrev cX3_sendCleaner : ByteArray := prog_22_method_53_code
def yX3_sendCleaner : MethodName := ⟨RX3, "sendCleaner", "(II)I"⟩
def dkwX3_sendCleaner_1 : List UInt8 := [182, 0, 155, 172, 42, 182, 0, 158, 42, 27, 28, 182, 0, 188, 172]
abbrev dktX3_sendCleaner_1 : List UInt8 := dkwX3_sendCleaner_1 ++ []
def dkwX3_sendCleaner_0 : List UInt8 := [42, 27, 28, 182, 0, 181, 154, 0, 5, 3, 172, 42, 27, 28, 182, 0, 185, 158, 0, 9, 42, 5]
abbrev dktX3_sendCleaner_0 : List UInt8 := dkwX3_sendCleaner_0 ++ dktX3_sendCleaner_1
theorem dksX3_sendCleaner_0 : cX3_sendCleaner.data.toList.drop 0 = dktX3_sendCleaner_0 := by decide +kernel
theorem dksX3_sendCleaner_1 : cX3_sendCleaner.data.toList.drop 22 = dktX3_sendCleaner_1 := dk_seg dksX3_sendCleaner_0 22 rfl rfl
theorem dX3_sendCleaner_0 : decode cX3_sendCleaner 0 = .ok (.aload_n 0, 1) := dk_42 (dk_at dksX3_sendCleaner_0 0 rfl rfl)
theorem dX3_sendCleaner_1 : decode cX3_sendCleaner 1 = .ok (.iload_n 1, 1) := dk_27 (dk_at dksX3_sendCleaner_0 1 rfl rfl)
theorem dX3_sendCleaner_2 : decode cX3_sendCleaner 2 = .ok (.iload_n 2, 1) := dk_28 (dk_at dksX3_sendCleaner_0 2 rfl rfl)
theorem dX3_sendCleaner_3 : decode cX3_sendCleaner 3 = .ok (.invokevirtual 181, 3) := dk_182 0 181 (dk_at dksX3_sendCleaner_0 3 rfl rfl)
theorem dX3_sendCleaner_6 : decode cX3_sendCleaner 6 = .ok (.ifCond .ne 5, 3) := dk_154 0 5 (dk_at dksX3_sendCleaner_0 6 rfl rfl)
theorem dX3_sendCleaner_9 : decode cX3_sendCleaner 9 = .ok (.iconst 0, 1) := dk_3 (dk_at dksX3_sendCleaner_0 9 rfl rfl)
theorem dX3_sendCleaner_10 : decode cX3_sendCleaner 10 = .ok (.ireturn, 1) := dk_172 (dk_at dksX3_sendCleaner_0 10 rfl rfl)
theorem dX3_sendCleaner_11 : decode cX3_sendCleaner 11 = .ok (.aload_n 0, 1) := dk_42 (dk_at dksX3_sendCleaner_0 11 rfl rfl)
theorem dX3_sendCleaner_12 : decode cX3_sendCleaner 12 = .ok (.iload_n 1, 1) := dk_27 (dk_at dksX3_sendCleaner_0 12 rfl rfl)
theorem dX3_sendCleaner_13 : decode cX3_sendCleaner 13 = .ok (.iload_n 2, 1) := dk_28 (dk_at dksX3_sendCleaner_0 13 rfl rfl)
theorem dX3_sendCleaner_14 : decode cX3_sendCleaner 14 = .ok (.invokevirtual 185, 3) := dk_182 0 185 (dk_at dksX3_sendCleaner_0 14 rfl rfl)
theorem dX3_sendCleaner_17 : decode cX3_sendCleaner 17 = .ok (.ifCond .le 9, 3) := dk_158 0 9 (dk_at dksX3_sendCleaner_0 17 rfl rfl)
theorem dX3_sendCleaner_20 : decode cX3_sendCleaner 20 = .ok (.aload_n 0, 1) := dk_42 (dk_at dksX3_sendCleaner_0 20 rfl rfl)
theorem dX3_sendCleaner_21 : decode cX3_sendCleaner 21 = .ok (.iconst 2, 1) := dk_5 (dk_at dksX3_sendCleaner_0 21 rfl rfl)
theorem dX3_sendCleaner_22 : decode cX3_sendCleaner 22 = .ok (.invokevirtual 155, 3) := dk_182 0 155 (dk_at dksX3_sendCleaner_1 0 rfl rfl)
theorem dX3_sendCleaner_25 : decode cX3_sendCleaner 25 = .ok (.ireturn, 1) := dk_172 (dk_at dksX3_sendCleaner_1 3 rfl rfl)
theorem dX3_sendCleaner_26 : decode cX3_sendCleaner 26 = .ok (.aload_n 0, 1) := dk_42 (dk_at dksX3_sendCleaner_1 4 rfl rfl)
theorem dX3_sendCleaner_27 : decode cX3_sendCleaner 27 = .ok (.invokevirtual 158, 3) := dk_182 0 158 (dk_at dksX3_sendCleaner_1 5 rfl rfl)
theorem dX3_sendCleaner_30 : decode cX3_sendCleaner 30 = .ok (.aload_n 0, 1) := dk_42 (dk_at dksX3_sendCleaner_1 8 rfl rfl)
theorem dX3_sendCleaner_31 : decode cX3_sendCleaner 31 = .ok (.iload_n 1, 1) := dk_27 (dk_at dksX3_sendCleaner_1 9 rfl rfl)
theorem dX3_sendCleaner_32 : decode cX3_sendCleaner 32 = .ok (.iload_n 2, 1) := dk_28 (dk_at dksX3_sendCleaner_1 10 rfl rfl)
theorem dX3_sendCleaner_33 : decode cX3_sendCleaner 33 = .ok (.invokevirtual 188, 3) := dk_182 0 188 (dk_at dksX3_sendCleaner_1 11 rfl rfl)
theorem dX3_sendCleaner_36 : decode cX3_sendCleaner 36 = .ok (.ireturn, 1) := dk_172 (dk_at dksX3_sendCleaner_1 14 rfl rfl)
abbrev cX3_isCleaner : ByteArray := prog_22_method_50_code
def yX3_isCleaner : MethodName := ⟨RX3, "isCleaner", "(II)Z"⟩
def dkwX3_isCleaner_1 : List UInt8 := [4, 181, 0, 54, 42, 180, 0, 54, 154, 0, 7, 4, 167, 0, 4, 3, 172]
abbrev dktX3_isCleaner_1 : List UInt8 := dkwX3_isCleaner_1 ++ []
def dkwX3_isCleaner_0 : List UInt8 := [42, 27, 3, 4, 184, 0, 148, 153, 0, 17, 28, 3, 16, 23, 184, 0, 148, 153, 0, 7, 3, 167, 0, 4]
abbrev dktX3_isCleaner_0 : List UInt8 := dkwX3_isCleaner_0 ++ dktX3_isCleaner_1
theorem dksX3_isCleaner_0 : cX3_isCleaner.data.toList.drop 0 = dktX3_isCleaner_0 := by decide +kernel
theorem dksX3_isCleaner_1 : cX3_isCleaner.data.toList.drop 24 = dktX3_isCleaner_1 := dk_seg dksX3_isCleaner_0 24 rfl rfl
theorem dX3_isCleaner_0 : decode cX3_isCleaner 0 = .ok (.aload_n 0, 1) := dk_42 (dk_at dksX3_isCleaner_0 0 rfl rfl)
theorem dX3_isCleaner_1 : decode cX3_isCleaner 1 = .ok (.iload_n 1, 1) := dk_27 (dk_at dksX3_isCleaner_0 1 rfl rfl)
theorem dX3_isCleaner_2 : decode cX3_isCleaner 2 = .ok (.iconst 0, 1) := dk_3 (dk_at dksX3_isCleaner_0 2 rfl rfl)
theorem dX3_isCleaner_3 : decode cX3_isCleaner 3 = .ok (.iconst 1, 1) := dk_4 (dk_at dksX3_isCleaner_0 3 rfl rfl)
theorem dX3_isCleaner_4 : decode cX3_isCleaner 4 = .ok (.invokestatic 148, 3) := dk_184 0 148 (dk_at dksX3_isCleaner_0 4 rfl rfl)
theorem dX3_isCleaner_7 : decode cX3_isCleaner 7 = .ok (.ifCond .eq 17, 3) := dk_153 0 17 (dk_at dksX3_isCleaner_0 7 rfl rfl)
theorem dX3_isCleaner_10 : decode cX3_isCleaner 10 = .ok (.iload_n 2, 1) := dk_28 (dk_at dksX3_isCleaner_0 10 rfl rfl)
theorem dX3_isCleaner_11 : decode cX3_isCleaner 11 = .ok (.iconst 0, 1) := dk_3 (dk_at dksX3_isCleaner_0 11 rfl rfl)
theorem dX3_isCleaner_12 : decode cX3_isCleaner 12 = .ok (.bipush 23, 2) := dk_16 23 (dk_at dksX3_isCleaner_0 12 rfl rfl)
theorem dX3_isCleaner_14 : decode cX3_isCleaner 14 = .ok (.invokestatic 148, 3) := dk_184 0 148 (dk_at dksX3_isCleaner_0 14 rfl rfl)
theorem dX3_isCleaner_17 : decode cX3_isCleaner 17 = .ok (.ifCond .eq 7, 3) := dk_153 0 7 (dk_at dksX3_isCleaner_0 17 rfl rfl)
theorem dX3_isCleaner_20 : decode cX3_isCleaner 20 = .ok (.iconst 0, 1) := dk_3 (dk_at dksX3_isCleaner_0 20 rfl rfl)
theorem dX3_isCleaner_21 : decode cX3_isCleaner 21 = .ok (.goto 4, 3) := dk_167 0 4 (dk_at dksX3_isCleaner_0 21 rfl rfl)
theorem dX3_isCleaner_24 : decode cX3_isCleaner 24 = .ok (.iconst 1, 1) := dk_4 (dk_at dksX3_isCleaner_1 0 rfl rfl)
theorem dX3_isCleaner_25 : decode cX3_isCleaner 25 = .ok (.putfield 54, 3) := dk_181 0 54 (dk_at dksX3_isCleaner_1 1 rfl rfl)
theorem dX3_isCleaner_28 : decode cX3_isCleaner 28 = .ok (.aload_n 0, 1) := dk_42 (dk_at dksX3_isCleaner_1 4 rfl rfl)
theorem dX3_isCleaner_29 : decode cX3_isCleaner 29 = .ok (.getfield 54, 3) := dk_180 0 54 (dk_at dksX3_isCleaner_1 5 rfl rfl)
theorem dX3_isCleaner_32 : decode cX3_isCleaner 32 = .ok (.ifCond .ne 7, 3) := dk_154 0 7 (dk_at dksX3_isCleaner_1 8 rfl rfl)
theorem dX3_isCleaner_35 : decode cX3_isCleaner 35 = .ok (.iconst 1, 1) := dk_4 (dk_at dksX3_isCleaner_1 11 rfl rfl)
theorem dX3_isCleaner_36 : decode cX3_isCleaner 36 = .ok (.goto 4, 3) := dk_167 0 4 (dk_at dksX3_isCleaner_1 12 rfl rfl)
theorem dX3_isCleaner_39 : decode cX3_isCleaner 39 = .ok (.iconst 0, 1) := dk_3 (dk_at dksX3_isCleaner_1 15 rfl rfl)
theorem dX3_isCleaner_40 : decode cX3_isCleaner 40 = .ok (.ireturn, 1) := dk_172 (dk_at dksX3_isCleaner_1 16 rfl rfl)
abbrev cX3_noCleaning : ByteArray := prog_22_method_51_code
def yX3_noCleaning : MethodName := ⟨RX3, "noCleaning", "(II)I"⟩
def dkwX3_noCleaning_2 : List UInt8 := [29, 4, 96, 46, 158, 0, 17, 42, 180, 0, 7, 29, 46, 28, 160, 0, 7, 6, 167, 0, 4, 3, 172]
abbrev dktX3_noCleaning_2 : List UInt8 := dkwX3_noCleaning_2 ++ []
def dkwX3_noCleaning_1 : List UInt8 := [158, 0, 7, 4, 167, 0, 42, 42, 28, 7, 182, 0, 58, 154, 0, 7, 5, 167, 0, 29, 42, 180, 0, 7]
abbrev dktX3_noCleaning_1 : List UInt8 := dkwX3_noCleaning_1 ++ dktX3_noCleaning_2
def dkwX3_noCleaning_0 : List UInt8 := [17, 2, 13, 5, 4, 27, 100, 104, 96, 62, 42, 180, 0, 7, 17, 2, 13, 5, 27, 104, 96, 4, 96, 46]
abbrev dktX3_noCleaning_0 : List UInt8 := dkwX3_noCleaning_0 ++ dktX3_noCleaning_1
theorem dksX3_noCleaning_0 : cX3_noCleaning.data.toList.drop 0 = dktX3_noCleaning_0 := by decide +kernel
theorem dksX3_noCleaning_1 : cX3_noCleaning.data.toList.drop 24 = dktX3_noCleaning_1 := dk_seg dksX3_noCleaning_0 24 rfl rfl
theorem dksX3_noCleaning_2 : cX3_noCleaning.data.toList.drop 48 = dktX3_noCleaning_2 := dk_seg dksX3_noCleaning_1 24 rfl rfl
theorem dX3_noCleaning_0 : decode cX3_noCleaning 0 = .ok (.sipush 525, 3) := dk_17 2 13 (dk_at dksX3_noCleaning_0 0 rfl rfl)
theorem dX3_noCleaning_3 : decode cX3_noCleaning 3 = .ok (.iconst 2, 1) := dk_5 (dk_at dksX3_noCleaning_0 3 rfl rfl)
theorem dX3_noCleaning_4 : decode cX3_noCleaning 4 = .ok (.iconst 1, 1) := dk_4 (dk_at dksX3_noCleaning_0 4 rfl rfl)
theorem dX3_noCleaning_5 : decode cX3_noCleaning 5 = .ok (.iload_n 1, 1) := dk_27 (dk_at dksX3_noCleaning_0 5 rfl rfl)
theorem dX3_noCleaning_6 : decode cX3_noCleaning 6 = .ok (.isub, 1) := dk_100 (dk_at dksX3_noCleaning_0 6 rfl rfl)
theorem dX3_noCleaning_7 : decode cX3_noCleaning 7 = .ok (.imul, 1) := dk_104 (dk_at dksX3_noCleaning_0 7 rfl rfl)
theorem dX3_noCleaning_8 : decode cX3_noCleaning 8 = .ok (.iadd, 1) := dk_96 (dk_at dksX3_noCleaning_0 8 rfl rfl)
theorem dX3_noCleaning_9 : decode cX3_noCleaning 9 = .ok (.istore_n 3, 1) := dk_62 (dk_at dksX3_noCleaning_0 9 rfl rfl)
theorem dX3_noCleaning_10 : decode cX3_noCleaning 10 = .ok (.aload_n 0, 1) := dk_42 (dk_at dksX3_noCleaning_0 10 rfl rfl)
theorem dX3_noCleaning_11 : decode cX3_noCleaning 11 = .ok (.getfield 7, 3) := dk_180 0 7 (dk_at dksX3_noCleaning_0 11 rfl rfl)
theorem dX3_noCleaning_14 : decode cX3_noCleaning 14 = .ok (.sipush 525, 3) := dk_17 2 13 (dk_at dksX3_noCleaning_0 14 rfl rfl)
theorem dX3_noCleaning_17 : decode cX3_noCleaning 17 = .ok (.iconst 2, 1) := dk_5 (dk_at dksX3_noCleaning_0 17 rfl rfl)
theorem dX3_noCleaning_18 : decode cX3_noCleaning 18 = .ok (.iload_n 1, 1) := dk_27 (dk_at dksX3_noCleaning_0 18 rfl rfl)
theorem dX3_noCleaning_19 : decode cX3_noCleaning 19 = .ok (.imul, 1) := dk_104 (dk_at dksX3_noCleaning_0 19 rfl rfl)
theorem dX3_noCleaning_20 : decode cX3_noCleaning 20 = .ok (.iadd, 1) := dk_96 (dk_at dksX3_noCleaning_0 20 rfl rfl)
theorem dX3_noCleaning_21 : decode cX3_noCleaning 21 = .ok (.iconst 1, 1) := dk_4 (dk_at dksX3_noCleaning_0 21 rfl rfl)
theorem dX3_noCleaning_22 : decode cX3_noCleaning 22 = .ok (.iadd, 1) := dk_96 (dk_at dksX3_noCleaning_0 22 rfl rfl)
theorem dX3_noCleaning_23 : decode cX3_noCleaning 23 = .ok (.iaload, 1) := dk_46 (dk_at dksX3_noCleaning_0 23 rfl rfl)
theorem dX3_noCleaning_24 : decode cX3_noCleaning 24 = .ok (.ifCond .le 7, 3) := dk_158 0 7 (dk_at dksX3_noCleaning_1 0 rfl rfl)
theorem dX3_noCleaning_27 : decode cX3_noCleaning 27 = .ok (.iconst 1, 1) := dk_4 (dk_at dksX3_noCleaning_1 3 rfl rfl)
theorem dX3_noCleaning_28 : decode cX3_noCleaning 28 = .ok (.goto 42, 3) := dk_167 0 42 (dk_at dksX3_noCleaning_1 4 rfl rfl)
theorem dX3_noCleaning_31 : decode cX3_noCleaning 31 = .ok (.aload_n 0, 1) := dk_42 (dk_at dksX3_noCleaning_1 7 rfl rfl)
theorem dX3_noCleaning_32 : decode cX3_noCleaning 32 = .ok (.iload_n 2, 1) := dk_28 (dk_at dksX3_noCleaning_1 8 rfl rfl)
theorem dX3_noCleaning_33 : decode cX3_noCleaning 33 = .ok (.iconst 4, 1) := dk_7 (dk_at dksX3_noCleaning_1 9 rfl rfl)
theorem dX3_noCleaning_34 : decode cX3_noCleaning 34 = .ok (.invokevirtual 58, 3) := dk_182 0 58 (dk_at dksX3_noCleaning_1 10 rfl rfl)
theorem dX3_noCleaning_37 : decode cX3_noCleaning 37 = .ok (.ifCond .ne 7, 3) := dk_154 0 7 (dk_at dksX3_noCleaning_1 13 rfl rfl)
theorem dX3_noCleaning_40 : decode cX3_noCleaning 40 = .ok (.iconst 2, 1) := dk_5 (dk_at dksX3_noCleaning_1 16 rfl rfl)
theorem dX3_noCleaning_41 : decode cX3_noCleaning 41 = .ok (.goto 29, 3) := dk_167 0 29 (dk_at dksX3_noCleaning_1 17 rfl rfl)
theorem dX3_noCleaning_44 : decode cX3_noCleaning 44 = .ok (.aload_n 0, 1) := dk_42 (dk_at dksX3_noCleaning_1 20 rfl rfl)
theorem dX3_noCleaning_45 : decode cX3_noCleaning 45 = .ok (.getfield 7, 3) := dk_180 0 7 (dk_at dksX3_noCleaning_1 21 rfl rfl)
theorem dX3_noCleaning_48 : decode cX3_noCleaning 48 = .ok (.iload_n 3, 1) := dk_29 (dk_at dksX3_noCleaning_2 0 rfl rfl)
theorem dX3_noCleaning_49 : decode cX3_noCleaning 49 = .ok (.iconst 1, 1) := dk_4 (dk_at dksX3_noCleaning_2 1 rfl rfl)
theorem dX3_noCleaning_50 : decode cX3_noCleaning 50 = .ok (.iadd, 1) := dk_96 (dk_at dksX3_noCleaning_2 2 rfl rfl)
theorem dX3_noCleaning_51 : decode cX3_noCleaning 51 = .ok (.iaload, 1) := dk_46 (dk_at dksX3_noCleaning_2 3 rfl rfl)
theorem dX3_noCleaning_52 : decode cX3_noCleaning 52 = .ok (.ifCond .le 17, 3) := dk_158 0 17 (dk_at dksX3_noCleaning_2 4 rfl rfl)
theorem dX3_noCleaning_55 : decode cX3_noCleaning 55 = .ok (.aload_n 0, 1) := dk_42 (dk_at dksX3_noCleaning_2 7 rfl rfl)
theorem dX3_noCleaning_56 : decode cX3_noCleaning 56 = .ok (.getfield 7, 3) := dk_180 0 7 (dk_at dksX3_noCleaning_2 8 rfl rfl)
theorem dX3_noCleaning_59 : decode cX3_noCleaning 59 = .ok (.iload_n 3, 1) := dk_29 (dk_at dksX3_noCleaning_2 11 rfl rfl)
theorem dX3_noCleaning_60 : decode cX3_noCleaning 60 = .ok (.iaload, 1) := dk_46 (dk_at dksX3_noCleaning_2 12 rfl rfl)
theorem dX3_noCleaning_61 : decode cX3_noCleaning 61 = .ok (.iload_n 2, 1) := dk_28 (dk_at dksX3_noCleaning_2 13 rfl rfl)
theorem dX3_noCleaning_62 : decode cX3_noCleaning 62 = .ok (.if_icmp .ne 7, 3) := dk_160 0 7 (dk_at dksX3_noCleaning_2 14 rfl rfl)
theorem dX3_noCleaning_65 : decode cX3_noCleaning 65 = .ok (.iconst 3, 1) := dk_6 (dk_at dksX3_noCleaning_2 17 rfl rfl)
theorem dX3_noCleaning_66 : decode cX3_noCleaning 66 = .ok (.goto 4, 3) := dk_167 0 4 (dk_at dksX3_noCleaning_2 18 rfl rfl)
theorem dX3_noCleaning_69 : decode cX3_noCleaning 69 = .ok (.iconst 0, 1) := dk_3 (dk_at dksX3_noCleaning_2 21 rfl rfl)
theorem dX3_noCleaning_70 : decode cX3_noCleaning 70 = .ok (.ireturn, 1) := dk_172 (dk_at dksX3_noCleaning_2 22 rfl rfl)
abbrev cX3_sends : ByteArray := prog_22_method_52_code
def yX3_sends : MethodName := ⟨RX3, "sends", "(II)I"⟩
def dkwX3_sends_2 : List UInt8 := [180, 0, 7, 29, 4, 96, 6, 21, 4, 5, 108, 96, 79, 42, 180, 0, 7, 29, 4, 96, 46, 172]
abbrev dktX3_sends_2 : List UInt8 := dkwX3_sends_2 ++ []
def dkwX3_sends_1 : List UInt8 := [46, 100, 167, 0, 11, 42, 180, 0, 7, 29, 46, 28, 100, 54, 4, 42, 180, 0, 7, 29, 28, 79, 42]
abbrev dktX3_sends_1 : List UInt8 := dkwX3_sends_1 ++ dktX3_sends_2
def dkwX3_sends_0 : List UInt8 := [17, 2, 13, 5, 27, 104, 96, 62, 42, 180, 0, 7, 29, 46, 28, 162, 0, 14, 28, 42, 180, 0, 7, 29]
abbrev dktX3_sends_0 : List UInt8 := dkwX3_sends_0 ++ dktX3_sends_1
theorem dksX3_sends_0 : cX3_sends.data.toList.drop 0 = dktX3_sends_0 := by decide +kernel
theorem dksX3_sends_1 : cX3_sends.data.toList.drop 24 = dktX3_sends_1 := dk_seg dksX3_sends_0 24 rfl rfl
theorem dksX3_sends_2 : cX3_sends.data.toList.drop 47 = dktX3_sends_2 := dk_seg dksX3_sends_1 23 rfl rfl
theorem dX3_sends_0 : decode cX3_sends 0 = .ok (.sipush 525, 3) := dk_17 2 13 (dk_at dksX3_sends_0 0 rfl rfl)
theorem dX3_sends_3 : decode cX3_sends 3 = .ok (.iconst 2, 1) := dk_5 (dk_at dksX3_sends_0 3 rfl rfl)
theorem dX3_sends_4 : decode cX3_sends 4 = .ok (.iload_n 1, 1) := dk_27 (dk_at dksX3_sends_0 4 rfl rfl)
theorem dX3_sends_5 : decode cX3_sends 5 = .ok (.imul, 1) := dk_104 (dk_at dksX3_sends_0 5 rfl rfl)
theorem dX3_sends_6 : decode cX3_sends 6 = .ok (.iadd, 1) := dk_96 (dk_at dksX3_sends_0 6 rfl rfl)
theorem dX3_sends_7 : decode cX3_sends 7 = .ok (.istore_n 3, 1) := dk_62 (dk_at dksX3_sends_0 7 rfl rfl)
theorem dX3_sends_8 : decode cX3_sends 8 = .ok (.aload_n 0, 1) := dk_42 (dk_at dksX3_sends_0 8 rfl rfl)
theorem dX3_sends_9 : decode cX3_sends 9 = .ok (.getfield 7, 3) := dk_180 0 7 (dk_at dksX3_sends_0 9 rfl rfl)
theorem dX3_sends_12 : decode cX3_sends 12 = .ok (.iload_n 3, 1) := dk_29 (dk_at dksX3_sends_0 12 rfl rfl)
theorem dX3_sends_13 : decode cX3_sends 13 = .ok (.iaload, 1) := dk_46 (dk_at dksX3_sends_0 13 rfl rfl)
theorem dX3_sends_14 : decode cX3_sends 14 = .ok (.iload_n 2, 1) := dk_28 (dk_at dksX3_sends_0 14 rfl rfl)
theorem dX3_sends_15 : decode cX3_sends 15 = .ok (.if_icmp .ge 14, 3) := dk_162 0 14 (dk_at dksX3_sends_0 15 rfl rfl)
theorem dX3_sends_18 : decode cX3_sends 18 = .ok (.iload_n 2, 1) := dk_28 (dk_at dksX3_sends_0 18 rfl rfl)
theorem dX3_sends_19 : decode cX3_sends 19 = .ok (.aload_n 0, 1) := dk_42 (dk_at dksX3_sends_0 19 rfl rfl)
theorem dX3_sends_20 : decode cX3_sends 20 = .ok (.getfield 7, 3) := dk_180 0 7 (dk_at dksX3_sends_0 20 rfl rfl)
theorem dX3_sends_23 : decode cX3_sends 23 = .ok (.iload_n 3, 1) := dk_29 (dk_at dksX3_sends_0 23 rfl rfl)
theorem dX3_sends_24 : decode cX3_sends 24 = .ok (.iaload, 1) := dk_46 (dk_at dksX3_sends_1 0 rfl rfl)
theorem dX3_sends_25 : decode cX3_sends 25 = .ok (.isub, 1) := dk_100 (dk_at dksX3_sends_1 1 rfl rfl)
theorem dX3_sends_26 : decode cX3_sends 26 = .ok (.goto 11, 3) := dk_167 0 11 (dk_at dksX3_sends_1 2 rfl rfl)
theorem dX3_sends_29 : decode cX3_sends 29 = .ok (.aload_n 0, 1) := dk_42 (dk_at dksX3_sends_1 5 rfl rfl)
theorem dX3_sends_30 : decode cX3_sends 30 = .ok (.getfield 7, 3) := dk_180 0 7 (dk_at dksX3_sends_1 6 rfl rfl)
theorem dX3_sends_33 : decode cX3_sends 33 = .ok (.iload_n 3, 1) := dk_29 (dk_at dksX3_sends_1 9 rfl rfl)
theorem dX3_sends_34 : decode cX3_sends 34 = .ok (.iaload, 1) := dk_46 (dk_at dksX3_sends_1 10 rfl rfl)
theorem dX3_sends_35 : decode cX3_sends 35 = .ok (.iload_n 2, 1) := dk_28 (dk_at dksX3_sends_1 11 rfl rfl)
theorem dX3_sends_36 : decode cX3_sends 36 = .ok (.isub, 1) := dk_100 (dk_at dksX3_sends_1 12 rfl rfl)
theorem dX3_sends_37 : decode cX3_sends 37 = .ok (.istore 4, 2) := dk_54 4 (dk_at dksX3_sends_1 13 rfl rfl)
theorem dX3_sends_39 : decode cX3_sends 39 = .ok (.aload_n 0, 1) := dk_42 (dk_at dksX3_sends_1 15 rfl rfl)
theorem dX3_sends_40 : decode cX3_sends 40 = .ok (.getfield 7, 3) := dk_180 0 7 (dk_at dksX3_sends_1 16 rfl rfl)
theorem dX3_sends_43 : decode cX3_sends 43 = .ok (.iload_n 3, 1) := dk_29 (dk_at dksX3_sends_1 19 rfl rfl)
theorem dX3_sends_44 : decode cX3_sends 44 = .ok (.iload_n 2, 1) := dk_28 (dk_at dksX3_sends_1 20 rfl rfl)
theorem dX3_sends_45 : decode cX3_sends 45 = .ok (.iastore, 1) := dk_79 (dk_at dksX3_sends_1 21 rfl rfl)
theorem dX3_sends_46 : decode cX3_sends 46 = .ok (.aload_n 0, 1) := dk_42 (dk_at dksX3_sends_1 22 rfl rfl)
theorem dX3_sends_47 : decode cX3_sends 47 = .ok (.getfield 7, 3) := dk_180 0 7 (dk_at dksX3_sends_2 0 rfl rfl)
theorem dX3_sends_50 : decode cX3_sends 50 = .ok (.iload_n 3, 1) := dk_29 (dk_at dksX3_sends_2 3 rfl rfl)
theorem dX3_sends_51 : decode cX3_sends 51 = .ok (.iconst 1, 1) := dk_4 (dk_at dksX3_sends_2 4 rfl rfl)
theorem dX3_sends_52 : decode cX3_sends 52 = .ok (.iadd, 1) := dk_96 (dk_at dksX3_sends_2 5 rfl rfl)
theorem dX3_sends_53 : decode cX3_sends 53 = .ok (.iconst 3, 1) := dk_6 (dk_at dksX3_sends_2 6 rfl rfl)
theorem dX3_sends_54 : decode cX3_sends 54 = .ok (.iload 4, 2) := dk_21 4 (dk_at dksX3_sends_2 7 rfl rfl)
theorem dX3_sends_56 : decode cX3_sends 56 = .ok (.iconst 2, 1) := dk_5 (dk_at dksX3_sends_2 9 rfl rfl)
theorem dX3_sends_57 : decode cX3_sends 57 = .ok (.idiv, 1) := dk_108 (dk_at dksX3_sends_2 10 rfl rfl)
theorem dX3_sends_58 : decode cX3_sends 58 = .ok (.iadd, 1) := dk_96 (dk_at dksX3_sends_2 11 rfl rfl)
theorem dX3_sends_59 : decode cX3_sends 59 = .ok (.iastore, 1) := dk_79 (dk_at dksX3_sends_2 12 rfl rfl)
theorem dX3_sends_60 : decode cX3_sends 60 = .ok (.aload_n 0, 1) := dk_42 (dk_at dksX3_sends_2 13 rfl rfl)
theorem dX3_sends_61 : decode cX3_sends 61 = .ok (.getfield 7, 3) := dk_180 0 7 (dk_at dksX3_sends_2 14 rfl rfl)
theorem dX3_sends_64 : decode cX3_sends 64 = .ok (.iload_n 3, 1) := dk_29 (dk_at dksX3_sends_2 17 rfl rfl)
theorem dX3_sends_65 : decode cX3_sends 65 = .ok (.iconst 1, 1) := dk_4 (dk_at dksX3_sends_2 18 rfl rfl)
theorem dX3_sends_66 : decode cX3_sends 66 = .ok (.iadd, 1) := dk_96 (dk_at dksX3_sends_2 19 rfl rfl)
theorem dX3_sends_67 : decode cX3_sends 67 = .ok (.iaload, 1) := dk_46 (dk_at dksX3_sends_2 20 rfl rfl)
theorem dX3_sends_68 : decode cX3_sends 68 = .ok (.ireturn, 1) := dk_172 (dk_at dksX3_sends_2 21 rfl rfl)
abbrev cX3_takeOrder : ByteArray := prog_22_method_54_code
def yX3_takeOrder : MethodName := ⟨RX3, "takeOrder", "(IIIII)I"⟩
def dkwX3_takeOrder_11 : List UInt8 := [167, 255, 198, 132, 8, 1, 167, 255, 179, 21, 6, 172]
abbrev dktX3_takeOrder_11 : List UInt8 := dkwX3_takeOrder_11 ++ []
def dkwX3_takeOrder_10 : List UInt8 := [182, 0, 104, 158, 0, 22, 42, 21, 8, 6, 2, 182, 0, 107, 42, 21, 8, 21, 6, 182, 0, 110]
abbrev dktX3_takeOrder_10 : List UInt8 := dkwX3_takeOrder_10 ++ dktX3_takeOrder_11
def dkwX3_takeOrder_9 : List UInt8 := [4, 182, 0, 69, 28, 160, 0, 42, 42, 21, 8, 6, 182, 0, 69, 158, 0, 32, 42, 21, 6, 5]
abbrev dktX3_takeOrder_9 : List UInt8 := dkwX3_takeOrder_9 ++ dktX3_takeOrder_10
def dkwX3_takeOrder_8 : List UInt8 := [180, 0, 7, 17, 0, 163, 46, 162, 0, 70, 42, 21, 8, 3, 182, 0, 69, 27, 160, 0, 53, 42, 21, 8]
abbrev dktX3_takeOrder_8 : List UInt8 := dkwX3_takeOrder_8 ++ dktX3_takeOrder_9
def dkwX3_takeOrder_7 : List UInt8 := [21, 7, 7, 96, 21, 5, 79, 42, 180, 0, 7, 21, 7, 8, 96, 3, 79, 3, 54, 8, 21, 8, 42]
abbrev dktX3_takeOrder_7 : List UInt8 := dkwX3_takeOrder_7 ++ dktX3_takeOrder_8
def dkwX3_takeOrder_6 : List UInt8 := [180, 0, 7, 21, 7, 5, 96, 29, 79, 42, 180, 0, 7, 21, 7, 6, 96, 21, 4, 79, 42, 180, 0, 7]
abbrev dktX3_takeOrder_6 : List UInt8 := dkwX3_takeOrder_6 ++ dktX3_takeOrder_7
def dkwX3_takeOrder_5 : List UInt8 := [79, 42, 180, 0, 7, 21, 7, 3, 96, 27, 79, 42, 180, 0, 7, 21, 7, 4, 96, 28, 79, 42]
abbrev dktX3_takeOrder_5 : List UInt8 := dkwX3_takeOrder_5 ++ dktX3_takeOrder_6
def dkwX3_takeOrder_4 : List UInt8 := [54, 6, 17, 1, 209, 16, 6, 21, 6, 104, 96, 54, 7, 42, 180, 0, 7, 17, 1, 208, 92, 46, 4, 96]
abbrev dktX3_takeOrder_4 : List UInt8 := dkwX3_takeOrder_4 ++ dktX3_takeOrder_5
def dkwX3_takeOrder_3 : List UInt8 := [16, 10, 160, 0, 9, 42, 5, 182, 0, 155, 172, 42, 182, 0, 158, 42, 180, 0, 7, 17, 1, 208, 46]
abbrev dktX3_takeOrder_3 : List UInt8 := dkwX3_takeOrder_3 ++ dktX3_takeOrder_4
def dkwX3_takeOrder_2 : List UInt8 := [4, 16, 99, 184, 0, 148, 154, 0, 9, 42, 4, 182, 0, 155, 172, 42, 180, 0, 7, 17, 1, 208, 46]
abbrev dktX3_takeOrder_2 : List UInt8 := dkwX3_takeOrder_2 ++ dktX3_takeOrder_3
def dkwX3_takeOrder_1 : List UInt8 := [29, 4, 16, 20, 184, 0, 148, 153, 0, 26, 21, 4, 4, 17, 39, 15, 184, 0, 148, 153, 0, 14, 21, 5]
abbrev dktX3_takeOrder_1 : List UInt8 := dkwX3_takeOrder_1 ++ dktX3_takeOrder_2
def dkwX3_takeOrder_0 : List UInt8 := [42, 3, 181, 0, 54, 27, 3, 5, 184, 0, 148, 153, 0, 46, 28, 4, 16, 9, 184, 0, 148, 153, 0, 36]
abbrev dktX3_takeOrder_0 : List UInt8 := dkwX3_takeOrder_0 ++ dktX3_takeOrder_1
theorem dksX3_takeOrder_0 : cX3_takeOrder.data.toList.drop 0 = dktX3_takeOrder_0 := by decide +kernel
theorem dksX3_takeOrder_1 : cX3_takeOrder.data.toList.drop 24 = dktX3_takeOrder_1 := dk_seg dksX3_takeOrder_0 24 rfl rfl
theorem dksX3_takeOrder_2 : cX3_takeOrder.data.toList.drop 48 = dktX3_takeOrder_2 := dk_seg dksX3_takeOrder_1 24 rfl rfl
theorem dksX3_takeOrder_3 : cX3_takeOrder.data.toList.drop 71 = dktX3_takeOrder_3 := dk_seg dksX3_takeOrder_2 23 rfl rfl
theorem dksX3_takeOrder_4 : cX3_takeOrder.data.toList.drop 94 = dktX3_takeOrder_4 := dk_seg dksX3_takeOrder_3 23 rfl rfl
theorem dksX3_takeOrder_5 : cX3_takeOrder.data.toList.drop 118 = dktX3_takeOrder_5 := dk_seg dksX3_takeOrder_4 24 rfl rfl
theorem dksX3_takeOrder_6 : cX3_takeOrder.data.toList.drop 140 = dktX3_takeOrder_6 := dk_seg dksX3_takeOrder_5 22 rfl rfl
theorem dksX3_takeOrder_7 : cX3_takeOrder.data.toList.drop 164 = dktX3_takeOrder_7 := dk_seg dksX3_takeOrder_6 24 rfl rfl
theorem dksX3_takeOrder_8 : cX3_takeOrder.data.toList.drop 187 = dktX3_takeOrder_8 := dk_seg dksX3_takeOrder_7 23 rfl rfl
theorem dksX3_takeOrder_9 : cX3_takeOrder.data.toList.drop 211 = dktX3_takeOrder_9 := dk_seg dksX3_takeOrder_8 24 rfl rfl
theorem dksX3_takeOrder_10 : cX3_takeOrder.data.toList.drop 233 = dktX3_takeOrder_10 := dk_seg dksX3_takeOrder_9 22 rfl rfl
theorem dksX3_takeOrder_11 : cX3_takeOrder.data.toList.drop 255 = dktX3_takeOrder_11 := dk_seg dksX3_takeOrder_10 22 rfl rfl
theorem dX3_takeOrder_0 : decode cX3_takeOrder 0 = .ok (.aload_n 0, 1) := dk_42 (dk_at dksX3_takeOrder_0 0 rfl rfl)
theorem dX3_takeOrder_1 : decode cX3_takeOrder 1 = .ok (.iconst 0, 1) := dk_3 (dk_at dksX3_takeOrder_0 1 rfl rfl)
theorem dX3_takeOrder_2 : decode cX3_takeOrder 2 = .ok (.putfield 54, 3) := dk_181 0 54 (dk_at dksX3_takeOrder_0 2 rfl rfl)
theorem dX3_takeOrder_5 : decode cX3_takeOrder 5 = .ok (.iload_n 1, 1) := dk_27 (dk_at dksX3_takeOrder_0 5 rfl rfl)
theorem dX3_takeOrder_6 : decode cX3_takeOrder 6 = .ok (.iconst 0, 1) := dk_3 (dk_at dksX3_takeOrder_0 6 rfl rfl)
theorem dX3_takeOrder_7 : decode cX3_takeOrder 7 = .ok (.iconst 2, 1) := dk_5 (dk_at dksX3_takeOrder_0 7 rfl rfl)
theorem dX3_takeOrder_8 : decode cX3_takeOrder 8 = .ok (.invokestatic 148, 3) := dk_184 0 148 (dk_at dksX3_takeOrder_0 8 rfl rfl)
theorem dX3_takeOrder_11 : decode cX3_takeOrder 11 = .ok (.ifCond .eq 46, 3) := dk_153 0 46 (dk_at dksX3_takeOrder_0 11 rfl rfl)
theorem dX3_takeOrder_14 : decode cX3_takeOrder 14 = .ok (.iload_n 2, 1) := dk_28 (dk_at dksX3_takeOrder_0 14 rfl rfl)
theorem dX3_takeOrder_15 : decode cX3_takeOrder 15 = .ok (.iconst 1, 1) := dk_4 (dk_at dksX3_takeOrder_0 15 rfl rfl)
theorem dX3_takeOrder_16 : decode cX3_takeOrder 16 = .ok (.bipush 9, 2) := dk_16 9 (dk_at dksX3_takeOrder_0 16 rfl rfl)
theorem dX3_takeOrder_18 : decode cX3_takeOrder 18 = .ok (.invokestatic 148, 3) := dk_184 0 148 (dk_at dksX3_takeOrder_0 18 rfl rfl)
theorem dX3_takeOrder_21 : decode cX3_takeOrder 21 = .ok (.ifCond .eq 36, 3) := dk_153 0 36 (dk_at dksX3_takeOrder_0 21 rfl rfl)
theorem dX3_takeOrder_24 : decode cX3_takeOrder 24 = .ok (.iload_n 3, 1) := dk_29 (dk_at dksX3_takeOrder_1 0 rfl rfl)
theorem dX3_takeOrder_25 : decode cX3_takeOrder 25 = .ok (.iconst 1, 1) := dk_4 (dk_at dksX3_takeOrder_1 1 rfl rfl)
theorem dX3_takeOrder_26 : decode cX3_takeOrder 26 = .ok (.bipush 20, 2) := dk_16 20 (dk_at dksX3_takeOrder_1 2 rfl rfl)
theorem dX3_takeOrder_28 : decode cX3_takeOrder 28 = .ok (.invokestatic 148, 3) := dk_184 0 148 (dk_at dksX3_takeOrder_1 4 rfl rfl)
theorem dX3_takeOrder_31 : decode cX3_takeOrder 31 = .ok (.ifCond .eq 26, 3) := dk_153 0 26 (dk_at dksX3_takeOrder_1 7 rfl rfl)
theorem dX3_takeOrder_34 : decode cX3_takeOrder 34 = .ok (.iload 4, 2) := dk_21 4 (dk_at dksX3_takeOrder_1 10 rfl rfl)
theorem dX3_takeOrder_36 : decode cX3_takeOrder 36 = .ok (.iconst 1, 1) := dk_4 (dk_at dksX3_takeOrder_1 12 rfl rfl)
theorem dX3_takeOrder_37 : decode cX3_takeOrder 37 = .ok (.sipush 9999, 3) := dk_17 39 15 (dk_at dksX3_takeOrder_1 13 rfl rfl)
theorem dX3_takeOrder_40 : decode cX3_takeOrder 40 = .ok (.invokestatic 148, 3) := dk_184 0 148 (dk_at dksX3_takeOrder_1 16 rfl rfl)
theorem dX3_takeOrder_43 : decode cX3_takeOrder 43 = .ok (.ifCond .eq 14, 3) := dk_153 0 14 (dk_at dksX3_takeOrder_1 19 rfl rfl)
theorem dX3_takeOrder_46 : decode cX3_takeOrder 46 = .ok (.iload 5, 2) := dk_21 5 (dk_at dksX3_takeOrder_1 22 rfl rfl)
theorem dX3_takeOrder_48 : decode cX3_takeOrder 48 = .ok (.iconst 1, 1) := dk_4 (dk_at dksX3_takeOrder_2 0 rfl rfl)
theorem dX3_takeOrder_49 : decode cX3_takeOrder 49 = .ok (.bipush 99, 2) := dk_16 99 (dk_at dksX3_takeOrder_2 1 rfl rfl)
theorem dX3_takeOrder_51 : decode cX3_takeOrder 51 = .ok (.invokestatic 148, 3) := dk_184 0 148 (dk_at dksX3_takeOrder_2 3 rfl rfl)
theorem dX3_takeOrder_54 : decode cX3_takeOrder 54 = .ok (.ifCond .ne 9, 3) := dk_154 0 9 (dk_at dksX3_takeOrder_2 6 rfl rfl)
theorem dX3_takeOrder_57 : decode cX3_takeOrder 57 = .ok (.aload_n 0, 1) := dk_42 (dk_at dksX3_takeOrder_2 9 rfl rfl)
theorem dX3_takeOrder_58 : decode cX3_takeOrder 58 = .ok (.iconst 1, 1) := dk_4 (dk_at dksX3_takeOrder_2 10 rfl rfl)
theorem dX3_takeOrder_59 : decode cX3_takeOrder 59 = .ok (.invokevirtual 155, 3) := dk_182 0 155 (dk_at dksX3_takeOrder_2 11 rfl rfl)
theorem dX3_takeOrder_62 : decode cX3_takeOrder 62 = .ok (.ireturn, 1) := dk_172 (dk_at dksX3_takeOrder_2 14 rfl rfl)
theorem dX3_takeOrder_63 : decode cX3_takeOrder 63 = .ok (.aload_n 0, 1) := dk_42 (dk_at dksX3_takeOrder_2 15 rfl rfl)
theorem dX3_takeOrder_64 : decode cX3_takeOrder 64 = .ok (.getfield 7, 3) := dk_180 0 7 (dk_at dksX3_takeOrder_2 16 rfl rfl)
theorem dX3_takeOrder_67 : decode cX3_takeOrder 67 = .ok (.sipush 464, 3) := dk_17 1 208 (dk_at dksX3_takeOrder_2 19 rfl rfl)
theorem dX3_takeOrder_70 : decode cX3_takeOrder 70 = .ok (.iaload, 1) := dk_46 (dk_at dksX3_takeOrder_2 22 rfl rfl)
theorem dX3_takeOrder_71 : decode cX3_takeOrder 71 = .ok (.bipush 10, 2) := dk_16 10 (dk_at dksX3_takeOrder_3 0 rfl rfl)
theorem dX3_takeOrder_73 : decode cX3_takeOrder 73 = .ok (.if_icmp .ne 9, 3) := dk_160 0 9 (dk_at dksX3_takeOrder_3 2 rfl rfl)
theorem dX3_takeOrder_76 : decode cX3_takeOrder 76 = .ok (.aload_n 0, 1) := dk_42 (dk_at dksX3_takeOrder_3 5 rfl rfl)
theorem dX3_takeOrder_77 : decode cX3_takeOrder 77 = .ok (.iconst 2, 1) := dk_5 (dk_at dksX3_takeOrder_3 6 rfl rfl)
theorem dX3_takeOrder_78 : decode cX3_takeOrder 78 = .ok (.invokevirtual 155, 3) := dk_182 0 155 (dk_at dksX3_takeOrder_3 7 rfl rfl)
theorem dX3_takeOrder_81 : decode cX3_takeOrder 81 = .ok (.ireturn, 1) := dk_172 (dk_at dksX3_takeOrder_3 10 rfl rfl)
theorem dX3_takeOrder_82 : decode cX3_takeOrder 82 = .ok (.aload_n 0, 1) := dk_42 (dk_at dksX3_takeOrder_3 11 rfl rfl)
theorem dX3_takeOrder_83 : decode cX3_takeOrder 83 = .ok (.invokevirtual 158, 3) := dk_182 0 158 (dk_at dksX3_takeOrder_3 12 rfl rfl)
theorem dX3_takeOrder_86 : decode cX3_takeOrder 86 = .ok (.aload_n 0, 1) := dk_42 (dk_at dksX3_takeOrder_3 15 rfl rfl)
theorem dX3_takeOrder_87 : decode cX3_takeOrder 87 = .ok (.getfield 7, 3) := dk_180 0 7 (dk_at dksX3_takeOrder_3 16 rfl rfl)
theorem dX3_takeOrder_90 : decode cX3_takeOrder 90 = .ok (.sipush 464, 3) := dk_17 1 208 (dk_at dksX3_takeOrder_3 19 rfl rfl)
theorem dX3_takeOrder_93 : decode cX3_takeOrder 93 = .ok (.iaload, 1) := dk_46 (dk_at dksX3_takeOrder_3 22 rfl rfl)
theorem dX3_takeOrder_94 : decode cX3_takeOrder 94 = .ok (.istore 6, 2) := dk_54 6 (dk_at dksX3_takeOrder_4 0 rfl rfl)
theorem dX3_takeOrder_96 : decode cX3_takeOrder 96 = .ok (.sipush 465, 3) := dk_17 1 209 (dk_at dksX3_takeOrder_4 2 rfl rfl)
theorem dX3_takeOrder_99 : decode cX3_takeOrder 99 = .ok (.bipush 6, 2) := dk_16 6 (dk_at dksX3_takeOrder_4 5 rfl rfl)
theorem dX3_takeOrder_101 : decode cX3_takeOrder 101 = .ok (.iload 6, 2) := dk_21 6 (dk_at dksX3_takeOrder_4 7 rfl rfl)
theorem dX3_takeOrder_103 : decode cX3_takeOrder 103 = .ok (.imul, 1) := dk_104 (dk_at dksX3_takeOrder_4 9 rfl rfl)
theorem dX3_takeOrder_104 : decode cX3_takeOrder 104 = .ok (.iadd, 1) := dk_96 (dk_at dksX3_takeOrder_4 10 rfl rfl)
theorem dX3_takeOrder_105 : decode cX3_takeOrder 105 = .ok (.istore 7, 2) := dk_54 7 (dk_at dksX3_takeOrder_4 11 rfl rfl)
theorem dX3_takeOrder_107 : decode cX3_takeOrder 107 = .ok (.aload_n 0, 1) := dk_42 (dk_at dksX3_takeOrder_4 13 rfl rfl)
theorem dX3_takeOrder_108 : decode cX3_takeOrder 108 = .ok (.getfield 7, 3) := dk_180 0 7 (dk_at dksX3_takeOrder_4 14 rfl rfl)
theorem dX3_takeOrder_111 : decode cX3_takeOrder 111 = .ok (.sipush 464, 3) := dk_17 1 208 (dk_at dksX3_takeOrder_4 17 rfl rfl)
theorem dX3_takeOrder_114 : decode cX3_takeOrder 114 = .ok (.dup2, 1) := dk_92 (dk_at dksX3_takeOrder_4 20 rfl rfl)
theorem dX3_takeOrder_115 : decode cX3_takeOrder 115 = .ok (.iaload, 1) := dk_46 (dk_at dksX3_takeOrder_4 21 rfl rfl)
theorem dX3_takeOrder_116 : decode cX3_takeOrder 116 = .ok (.iconst 1, 1) := dk_4 (dk_at dksX3_takeOrder_4 22 rfl rfl)
theorem dX3_takeOrder_117 : decode cX3_takeOrder 117 = .ok (.iadd, 1) := dk_96 (dk_at dksX3_takeOrder_4 23 rfl rfl)
theorem dX3_takeOrder_118 : decode cX3_takeOrder 118 = .ok (.iastore, 1) := dk_79 (dk_at dksX3_takeOrder_5 0 rfl rfl)
theorem dX3_takeOrder_119 : decode cX3_takeOrder 119 = .ok (.aload_n 0, 1) := dk_42 (dk_at dksX3_takeOrder_5 1 rfl rfl)
theorem dX3_takeOrder_120 : decode cX3_takeOrder 120 = .ok (.getfield 7, 3) := dk_180 0 7 (dk_at dksX3_takeOrder_5 2 rfl rfl)
theorem dX3_takeOrder_123 : decode cX3_takeOrder 123 = .ok (.iload 7, 2) := dk_21 7 (dk_at dksX3_takeOrder_5 5 rfl rfl)
theorem dX3_takeOrder_125 : decode cX3_takeOrder 125 = .ok (.iconst 0, 1) := dk_3 (dk_at dksX3_takeOrder_5 7 rfl rfl)
theorem dX3_takeOrder_126 : decode cX3_takeOrder 126 = .ok (.iadd, 1) := dk_96 (dk_at dksX3_takeOrder_5 8 rfl rfl)
theorem dX3_takeOrder_127 : decode cX3_takeOrder 127 = .ok (.iload_n 1, 1) := dk_27 (dk_at dksX3_takeOrder_5 9 rfl rfl)
theorem dX3_takeOrder_128 : decode cX3_takeOrder 128 = .ok (.iastore, 1) := dk_79 (dk_at dksX3_takeOrder_5 10 rfl rfl)
theorem dX3_takeOrder_129 : decode cX3_takeOrder 129 = .ok (.aload_n 0, 1) := dk_42 (dk_at dksX3_takeOrder_5 11 rfl rfl)
theorem dX3_takeOrder_130 : decode cX3_takeOrder 130 = .ok (.getfield 7, 3) := dk_180 0 7 (dk_at dksX3_takeOrder_5 12 rfl rfl)
theorem dX3_takeOrder_133 : decode cX3_takeOrder 133 = .ok (.iload 7, 2) := dk_21 7 (dk_at dksX3_takeOrder_5 15 rfl rfl)
theorem dX3_takeOrder_135 : decode cX3_takeOrder 135 = .ok (.iconst 1, 1) := dk_4 (dk_at dksX3_takeOrder_5 17 rfl rfl)
theorem dX3_takeOrder_136 : decode cX3_takeOrder 136 = .ok (.iadd, 1) := dk_96 (dk_at dksX3_takeOrder_5 18 rfl rfl)
theorem dX3_takeOrder_137 : decode cX3_takeOrder 137 = .ok (.iload_n 2, 1) := dk_28 (dk_at dksX3_takeOrder_5 19 rfl rfl)
theorem dX3_takeOrder_138 : decode cX3_takeOrder 138 = .ok (.iastore, 1) := dk_79 (dk_at dksX3_takeOrder_5 20 rfl rfl)
theorem dX3_takeOrder_139 : decode cX3_takeOrder 139 = .ok (.aload_n 0, 1) := dk_42 (dk_at dksX3_takeOrder_5 21 rfl rfl)
theorem dX3_takeOrder_140 : decode cX3_takeOrder 140 = .ok (.getfield 7, 3) := dk_180 0 7 (dk_at dksX3_takeOrder_6 0 rfl rfl)
theorem dX3_takeOrder_143 : decode cX3_takeOrder 143 = .ok (.iload 7, 2) := dk_21 7 (dk_at dksX3_takeOrder_6 3 rfl rfl)
theorem dX3_takeOrder_145 : decode cX3_takeOrder 145 = .ok (.iconst 2, 1) := dk_5 (dk_at dksX3_takeOrder_6 5 rfl rfl)
theorem dX3_takeOrder_146 : decode cX3_takeOrder 146 = .ok (.iadd, 1) := dk_96 (dk_at dksX3_takeOrder_6 6 rfl rfl)
theorem dX3_takeOrder_147 : decode cX3_takeOrder 147 = .ok (.iload_n 3, 1) := dk_29 (dk_at dksX3_takeOrder_6 7 rfl rfl)
theorem dX3_takeOrder_148 : decode cX3_takeOrder 148 = .ok (.iastore, 1) := dk_79 (dk_at dksX3_takeOrder_6 8 rfl rfl)
theorem dX3_takeOrder_149 : decode cX3_takeOrder 149 = .ok (.aload_n 0, 1) := dk_42 (dk_at dksX3_takeOrder_6 9 rfl rfl)
theorem dX3_takeOrder_150 : decode cX3_takeOrder 150 = .ok (.getfield 7, 3) := dk_180 0 7 (dk_at dksX3_takeOrder_6 10 rfl rfl)
theorem dX3_takeOrder_153 : decode cX3_takeOrder 153 = .ok (.iload 7, 2) := dk_21 7 (dk_at dksX3_takeOrder_6 13 rfl rfl)
theorem dX3_takeOrder_155 : decode cX3_takeOrder 155 = .ok (.iconst 3, 1) := dk_6 (dk_at dksX3_takeOrder_6 15 rfl rfl)
theorem dX3_takeOrder_156 : decode cX3_takeOrder 156 = .ok (.iadd, 1) := dk_96 (dk_at dksX3_takeOrder_6 16 rfl rfl)
theorem dX3_takeOrder_157 : decode cX3_takeOrder 157 = .ok (.iload 4, 2) := dk_21 4 (dk_at dksX3_takeOrder_6 17 rfl rfl)
theorem dX3_takeOrder_159 : decode cX3_takeOrder 159 = .ok (.iastore, 1) := dk_79 (dk_at dksX3_takeOrder_6 19 rfl rfl)
theorem dX3_takeOrder_160 : decode cX3_takeOrder 160 = .ok (.aload_n 0, 1) := dk_42 (dk_at dksX3_takeOrder_6 20 rfl rfl)
theorem dX3_takeOrder_161 : decode cX3_takeOrder 161 = .ok (.getfield 7, 3) := dk_180 0 7 (dk_at dksX3_takeOrder_6 21 rfl rfl)
theorem dX3_takeOrder_164 : decode cX3_takeOrder 164 = .ok (.iload 7, 2) := dk_21 7 (dk_at dksX3_takeOrder_7 0 rfl rfl)
theorem dX3_takeOrder_166 : decode cX3_takeOrder 166 = .ok (.iconst 4, 1) := dk_7 (dk_at dksX3_takeOrder_7 2 rfl rfl)
theorem dX3_takeOrder_167 : decode cX3_takeOrder 167 = .ok (.iadd, 1) := dk_96 (dk_at dksX3_takeOrder_7 3 rfl rfl)
theorem dX3_takeOrder_168 : decode cX3_takeOrder 168 = .ok (.iload 5, 2) := dk_21 5 (dk_at dksX3_takeOrder_7 4 rfl rfl)
theorem dX3_takeOrder_170 : decode cX3_takeOrder 170 = .ok (.iastore, 1) := dk_79 (dk_at dksX3_takeOrder_7 6 rfl rfl)
theorem dX3_takeOrder_171 : decode cX3_takeOrder 171 = .ok (.aload_n 0, 1) := dk_42 (dk_at dksX3_takeOrder_7 7 rfl rfl)
theorem dX3_takeOrder_172 : decode cX3_takeOrder 172 = .ok (.getfield 7, 3) := dk_180 0 7 (dk_at dksX3_takeOrder_7 8 rfl rfl)
theorem dX3_takeOrder_175 : decode cX3_takeOrder 175 = .ok (.iload 7, 2) := dk_21 7 (dk_at dksX3_takeOrder_7 11 rfl rfl)
theorem dX3_takeOrder_177 : decode cX3_takeOrder 177 = .ok (.iconst 5, 1) := dk_8 (dk_at dksX3_takeOrder_7 13 rfl rfl)
theorem dX3_takeOrder_178 : decode cX3_takeOrder 178 = .ok (.iadd, 1) := dk_96 (dk_at dksX3_takeOrder_7 14 rfl rfl)
theorem dX3_takeOrder_179 : decode cX3_takeOrder 179 = .ok (.iconst 0, 1) := dk_3 (dk_at dksX3_takeOrder_7 15 rfl rfl)
theorem dX3_takeOrder_180 : decode cX3_takeOrder 180 = .ok (.iastore, 1) := dk_79 (dk_at dksX3_takeOrder_7 16 rfl rfl)
theorem dX3_takeOrder_181 : decode cX3_takeOrder 181 = .ok (.iconst 0, 1) := dk_3 (dk_at dksX3_takeOrder_7 17 rfl rfl)
theorem dX3_takeOrder_182 : decode cX3_takeOrder 182 = .ok (.istore 8, 2) := dk_54 8 (dk_at dksX3_takeOrder_7 18 rfl rfl)
theorem dX3_takeOrder_184 : decode cX3_takeOrder 184 = .ok (.iload 8, 2) := dk_21 8 (dk_at dksX3_takeOrder_7 20 rfl rfl)
theorem dX3_takeOrder_186 : decode cX3_takeOrder 186 = .ok (.aload_n 0, 1) := dk_42 (dk_at dksX3_takeOrder_7 22 rfl rfl)
theorem dX3_takeOrder_187 : decode cX3_takeOrder 187 = .ok (.getfield 7, 3) := dk_180 0 7 (dk_at dksX3_takeOrder_8 0 rfl rfl)
theorem dX3_takeOrder_190 : decode cX3_takeOrder 190 = .ok (.sipush 163, 3) := dk_17 0 163 (dk_at dksX3_takeOrder_8 3 rfl rfl)
theorem dX3_takeOrder_193 : decode cX3_takeOrder 193 = .ok (.iaload, 1) := dk_46 (dk_at dksX3_takeOrder_8 6 rfl rfl)
theorem dX3_takeOrder_194 : decode cX3_takeOrder 194 = .ok (.if_icmp .ge 70, 3) := dk_162 0 70 (dk_at dksX3_takeOrder_8 7 rfl rfl)
theorem dX3_takeOrder_197 : decode cX3_takeOrder 197 = .ok (.aload_n 0, 1) := dk_42 (dk_at dksX3_takeOrder_8 10 rfl rfl)
theorem dX3_takeOrder_198 : decode cX3_takeOrder 198 = .ok (.iload 8, 2) := dk_21 8 (dk_at dksX3_takeOrder_8 11 rfl rfl)
theorem dX3_takeOrder_200 : decode cX3_takeOrder 200 = .ok (.iconst 0, 1) := dk_3 (dk_at dksX3_takeOrder_8 13 rfl rfl)
theorem dX3_takeOrder_201 : decode cX3_takeOrder 201 = .ok (.invokevirtual 69, 3) := dk_182 0 69 (dk_at dksX3_takeOrder_8 14 rfl rfl)
theorem dX3_takeOrder_204 : decode cX3_takeOrder 204 = .ok (.iload_n 1, 1) := dk_27 (dk_at dksX3_takeOrder_8 17 rfl rfl)
theorem dX3_takeOrder_205 : decode cX3_takeOrder 205 = .ok (.if_icmp .ne 53, 3) := dk_160 0 53 (dk_at dksX3_takeOrder_8 18 rfl rfl)
theorem dX3_takeOrder_208 : decode cX3_takeOrder 208 = .ok (.aload_n 0, 1) := dk_42 (dk_at dksX3_takeOrder_8 21 rfl rfl)
theorem dX3_takeOrder_209 : decode cX3_takeOrder 209 = .ok (.iload 8, 2) := dk_21 8 (dk_at dksX3_takeOrder_8 22 rfl rfl)
theorem dX3_takeOrder_211 : decode cX3_takeOrder 211 = .ok (.iconst 1, 1) := dk_4 (dk_at dksX3_takeOrder_9 0 rfl rfl)
theorem dX3_takeOrder_212 : decode cX3_takeOrder 212 = .ok (.invokevirtual 69, 3) := dk_182 0 69 (dk_at dksX3_takeOrder_9 1 rfl rfl)
theorem dX3_takeOrder_215 : decode cX3_takeOrder 215 = .ok (.iload_n 2, 1) := dk_28 (dk_at dksX3_takeOrder_9 4 rfl rfl)
theorem dX3_takeOrder_216 : decode cX3_takeOrder 216 = .ok (.if_icmp .ne 42, 3) := dk_160 0 42 (dk_at dksX3_takeOrder_9 5 rfl rfl)
theorem dX3_takeOrder_219 : decode cX3_takeOrder 219 = .ok (.aload_n 0, 1) := dk_42 (dk_at dksX3_takeOrder_9 8 rfl rfl)
theorem dX3_takeOrder_220 : decode cX3_takeOrder 220 = .ok (.iload 8, 2) := dk_21 8 (dk_at dksX3_takeOrder_9 9 rfl rfl)
theorem dX3_takeOrder_222 : decode cX3_takeOrder 222 = .ok (.iconst 3, 1) := dk_6 (dk_at dksX3_takeOrder_9 11 rfl rfl)
theorem dX3_takeOrder_223 : decode cX3_takeOrder 223 = .ok (.invokevirtual 69, 3) := dk_182 0 69 (dk_at dksX3_takeOrder_9 12 rfl rfl)
theorem dX3_takeOrder_226 : decode cX3_takeOrder 226 = .ok (.ifCond .le 32, 3) := dk_158 0 32 (dk_at dksX3_takeOrder_9 15 rfl rfl)
theorem dX3_takeOrder_229 : decode cX3_takeOrder 229 = .ok (.aload_n 0, 1) := dk_42 (dk_at dksX3_takeOrder_9 18 rfl rfl)
theorem dX3_takeOrder_230 : decode cX3_takeOrder 230 = .ok (.iload 6, 2) := dk_21 6 (dk_at dksX3_takeOrder_9 19 rfl rfl)
theorem dX3_takeOrder_232 : decode cX3_takeOrder 232 = .ok (.iconst 2, 1) := dk_5 (dk_at dksX3_takeOrder_9 21 rfl rfl)
theorem dX3_takeOrder_233 : decode cX3_takeOrder 233 = .ok (.invokevirtual 104, 3) := dk_182 0 104 (dk_at dksX3_takeOrder_10 0 rfl rfl)
theorem dX3_takeOrder_236 : decode cX3_takeOrder 236 = .ok (.ifCond .le 22, 3) := dk_158 0 22 (dk_at dksX3_takeOrder_10 3 rfl rfl)
theorem dX3_takeOrder_239 : decode cX3_takeOrder 239 = .ok (.aload_n 0, 1) := dk_42 (dk_at dksX3_takeOrder_10 6 rfl rfl)
theorem dX3_takeOrder_240 : decode cX3_takeOrder 240 = .ok (.iload 8, 2) := dk_21 8 (dk_at dksX3_takeOrder_10 7 rfl rfl)
theorem dX3_takeOrder_242 : decode cX3_takeOrder 242 = .ok (.iconst 3, 1) := dk_6 (dk_at dksX3_takeOrder_10 9 rfl rfl)
theorem dX3_takeOrder_243 : decode cX3_takeOrder 243 = .ok (.iconst (-1), 1) := dk_2 (dk_at dksX3_takeOrder_10 10 rfl rfl)
theorem dX3_takeOrder_244 : decode cX3_takeOrder 244 = .ok (.invokevirtual 107, 3) := dk_182 0 107 (dk_at dksX3_takeOrder_10 11 rfl rfl)
theorem dX3_takeOrder_247 : decode cX3_takeOrder 247 = .ok (.aload_n 0, 1) := dk_42 (dk_at dksX3_takeOrder_10 14 rfl rfl)
theorem dX3_takeOrder_248 : decode cX3_takeOrder 248 = .ok (.iload 8, 2) := dk_21 8 (dk_at dksX3_takeOrder_10 15 rfl rfl)
theorem dX3_takeOrder_250 : decode cX3_takeOrder 250 = .ok (.iload 6, 2) := dk_21 6 (dk_at dksX3_takeOrder_10 17 rfl rfl)
theorem dX3_takeOrder_252 : decode cX3_takeOrder 252 = .ok (.invokevirtual 110, 3) := dk_182 0 110 (dk_at dksX3_takeOrder_10 19 rfl rfl)
theorem dX3_takeOrder_255 : decode cX3_takeOrder 255 = .ok (.goto (-58), 3) := dk_167 255 198 (dk_at dksX3_takeOrder_11 0 rfl rfl)
theorem dX3_takeOrder_258 : decode cX3_takeOrder 258 = .ok (.iinc 8 1, 3) := dk_132 8 1 (dk_at dksX3_takeOrder_11 3 rfl rfl)
theorem dX3_takeOrder_261 : decode cX3_takeOrder 261 = .ok (.goto (-77), 3) := dk_167 255 179 (dk_at dksX3_takeOrder_11 6 rfl rfl)
theorem dX3_takeOrder_264 : decode cX3_takeOrder 264 = .ok (.iload 6, 2) := dk_21 6 (dk_at dksX3_takeOrder_11 9 rfl rfl)
theorem dX3_takeOrder_266 : decode cX3_takeOrder 266 = .ok (.ireturn, 1) := dk_172 (dk_at dksX3_takeOrder_11 11 rfl rfl)
abbrev cX3_order : ByteArray := prog_22_method_11_code
def yX3_order : MethodName := ⟨RX3, "order", "(II)I"⟩
def dkwX3_order_0 : List UInt8 := [42, 180, 0, 7, 17, 1, 209, 16, 6, 27, 104, 96, 28, 96, 46, 172]
abbrev dktX3_order_0 : List UInt8 := dkwX3_order_0 ++ []
theorem dksX3_order_0 : cX3_order.data.toList.drop 0 = dktX3_order_0 := by decide +kernel
theorem dX3_order_0 : decode cX3_order 0 = .ok (.aload_n 0, 1) := dk_42 (dk_at dksX3_order_0 0 rfl rfl)
theorem dX3_order_1 : decode cX3_order 1 = .ok (.getfield 7, 3) := dk_180 0 7 (dk_at dksX3_order_0 1 rfl rfl)
theorem dX3_order_4 : decode cX3_order 4 = .ok (.sipush 465, 3) := dk_17 1 209 (dk_at dksX3_order_0 4 rfl rfl)
theorem dX3_order_7 : decode cX3_order 7 = .ok (.bipush 6, 2) := dk_16 6 (dk_at dksX3_order_0 7 rfl rfl)
theorem dX3_order_9 : decode cX3_order 9 = .ok (.iload_n 1, 1) := dk_27 (dk_at dksX3_order_0 9 rfl rfl)
theorem dX3_order_10 : decode cX3_order 10 = .ok (.imul, 1) := dk_104 (dk_at dksX3_order_0 10 rfl rfl)
theorem dX3_order_11 : decode cX3_order 11 = .ok (.iadd, 1) := dk_96 (dk_at dksX3_order_0 11 rfl rfl)
theorem dX3_order_12 : decode cX3_order 12 = .ok (.iload_n 2, 1) := dk_28 (dk_at dksX3_order_0 12 rfl rfl)
theorem dX3_order_13 : decode cX3_order 13 = .ok (.iadd, 1) := dk_96 (dk_at dksX3_order_0 13 rfl rfl)
theorem dX3_order_14 : decode cX3_order 14 = .ok (.iaload, 1) := dk_46 (dk_at dksX3_order_0 14 rfl rfl)
theorem dX3_order_15 : decode cX3_order 15 = .ok (.ireturn, 1) := dk_172 (dk_at dksX3_order_0 15 rfl rfl)
abbrev cX3_delivers : ByteArray := prog_22_method_30_code
def yX3_delivers : MethodName := ⟨RX3, "delivers", "(II)V"⟩
def dkwX3_delivers_3 : List UInt8 := [96, 92, 46, 4, 100, 79, 177]
abbrev dktX3_delivers_3 : List UInt8 := dkwX3_delivers_3 ++ []
def dkwX3_delivers_2 : List UInt8 := [28, 104, 96, 8, 96, 92, 46, 21, 4, 96, 79, 42, 180, 0, 7, 17, 1, 209, 16, 6, 28, 104, 96, 5]
abbrev dktX3_delivers_2 : List UInt8 := dkwX3_delivers_2 ++ dktX3_delivers_3
def dkwX3_delivers_1 : List UInt8 := [108, 167, 0, 4, 29, 54, 4, 42, 27, 7, 21, 4, 182, 0, 107, 42, 180, 0, 7, 17, 1, 209, 16, 6]
abbrev dktX3_delivers_1 : List UInt8 := dkwX3_delivers_1 ++ dktX3_delivers_2
def dkwX3_delivers_0 : List UInt8 := [42, 28, 7, 182, 0, 104, 62, 42, 180, 0, 7, 3, 46, 42, 28, 6, 182, 0, 104, 164, 0, 9, 29, 5]
abbrev dktX3_delivers_0 : List UInt8 := dkwX3_delivers_0 ++ dktX3_delivers_1
theorem dksX3_delivers_0 : cX3_delivers.data.toList.drop 0 = dktX3_delivers_0 := by decide +kernel
theorem dksX3_delivers_1 : cX3_delivers.data.toList.drop 24 = dktX3_delivers_1 := dk_seg dksX3_delivers_0 24 rfl rfl
theorem dksX3_delivers_2 : cX3_delivers.data.toList.drop 48 = dktX3_delivers_2 := dk_seg dksX3_delivers_1 24 rfl rfl
theorem dksX3_delivers_3 : cX3_delivers.data.toList.drop 72 = dktX3_delivers_3 := dk_seg dksX3_delivers_2 24 rfl rfl
theorem dX3_delivers_0 : decode cX3_delivers 0 = .ok (.aload_n 0, 1) := dk_42 (dk_at dksX3_delivers_0 0 rfl rfl)
theorem dX3_delivers_1 : decode cX3_delivers 1 = .ok (.iload_n 2, 1) := dk_28 (dk_at dksX3_delivers_0 1 rfl rfl)
theorem dX3_delivers_2 : decode cX3_delivers 2 = .ok (.iconst 4, 1) := dk_7 (dk_at dksX3_delivers_0 2 rfl rfl)
theorem dX3_delivers_3 : decode cX3_delivers 3 = .ok (.invokevirtual 104, 3) := dk_182 0 104 (dk_at dksX3_delivers_0 3 rfl rfl)
theorem dX3_delivers_6 : decode cX3_delivers 6 = .ok (.istore_n 3, 1) := dk_62 (dk_at dksX3_delivers_0 6 rfl rfl)
theorem dX3_delivers_7 : decode cX3_delivers 7 = .ok (.aload_n 0, 1) := dk_42 (dk_at dksX3_delivers_0 7 rfl rfl)
theorem dX3_delivers_8 : decode cX3_delivers 8 = .ok (.getfield 7, 3) := dk_180 0 7 (dk_at dksX3_delivers_0 8 rfl rfl)
theorem dX3_delivers_11 : decode cX3_delivers 11 = .ok (.iconst 0, 1) := dk_3 (dk_at dksX3_delivers_0 11 rfl rfl)
theorem dX3_delivers_12 : decode cX3_delivers 12 = .ok (.iaload, 1) := dk_46 (dk_at dksX3_delivers_0 12 rfl rfl)
theorem dX3_delivers_13 : decode cX3_delivers 13 = .ok (.aload_n 0, 1) := dk_42 (dk_at dksX3_delivers_0 13 rfl rfl)
theorem dX3_delivers_14 : decode cX3_delivers 14 = .ok (.iload_n 2, 1) := dk_28 (dk_at dksX3_delivers_0 14 rfl rfl)
theorem dX3_delivers_15 : decode cX3_delivers 15 = .ok (.iconst 3, 1) := dk_6 (dk_at dksX3_delivers_0 15 rfl rfl)
theorem dX3_delivers_16 : decode cX3_delivers 16 = .ok (.invokevirtual 104, 3) := dk_182 0 104 (dk_at dksX3_delivers_0 16 rfl rfl)
theorem dX3_delivers_19 : decode cX3_delivers 19 = .ok (.if_icmp .le 9, 3) := dk_164 0 9 (dk_at dksX3_delivers_0 19 rfl rfl)
theorem dX3_delivers_22 : decode cX3_delivers 22 = .ok (.iload_n 3, 1) := dk_29 (dk_at dksX3_delivers_0 22 rfl rfl)
theorem dX3_delivers_23 : decode cX3_delivers 23 = .ok (.iconst 2, 1) := dk_5 (dk_at dksX3_delivers_0 23 rfl rfl)
theorem dX3_delivers_24 : decode cX3_delivers 24 = .ok (.idiv, 1) := dk_108 (dk_at dksX3_delivers_1 0 rfl rfl)
theorem dX3_delivers_25 : decode cX3_delivers 25 = .ok (.goto 4, 3) := dk_167 0 4 (dk_at dksX3_delivers_1 1 rfl rfl)
theorem dX3_delivers_28 : decode cX3_delivers 28 = .ok (.iload_n 3, 1) := dk_29 (dk_at dksX3_delivers_1 4 rfl rfl)
theorem dX3_delivers_29 : decode cX3_delivers 29 = .ok (.istore 4, 2) := dk_54 4 (dk_at dksX3_delivers_1 5 rfl rfl)
theorem dX3_delivers_31 : decode cX3_delivers 31 = .ok (.aload_n 0, 1) := dk_42 (dk_at dksX3_delivers_1 7 rfl rfl)
theorem dX3_delivers_32 : decode cX3_delivers 32 = .ok (.iload_n 1, 1) := dk_27 (dk_at dksX3_delivers_1 8 rfl rfl)
theorem dX3_delivers_33 : decode cX3_delivers 33 = .ok (.iconst 4, 1) := dk_7 (dk_at dksX3_delivers_1 9 rfl rfl)
theorem dX3_delivers_34 : decode cX3_delivers 34 = .ok (.iload 4, 2) := dk_21 4 (dk_at dksX3_delivers_1 10 rfl rfl)
theorem dX3_delivers_36 : decode cX3_delivers 36 = .ok (.invokevirtual 107, 3) := dk_182 0 107 (dk_at dksX3_delivers_1 12 rfl rfl)
theorem dX3_delivers_39 : decode cX3_delivers 39 = .ok (.aload_n 0, 1) := dk_42 (dk_at dksX3_delivers_1 15 rfl rfl)
theorem dX3_delivers_40 : decode cX3_delivers 40 = .ok (.getfield 7, 3) := dk_180 0 7 (dk_at dksX3_delivers_1 16 rfl rfl)
theorem dX3_delivers_43 : decode cX3_delivers 43 = .ok (.sipush 465, 3) := dk_17 1 209 (dk_at dksX3_delivers_1 19 rfl rfl)
theorem dX3_delivers_46 : decode cX3_delivers 46 = .ok (.bipush 6, 2) := dk_16 6 (dk_at dksX3_delivers_1 22 rfl rfl)
theorem dX3_delivers_48 : decode cX3_delivers 48 = .ok (.iload_n 2, 1) := dk_28 (dk_at dksX3_delivers_2 0 rfl rfl)
theorem dX3_delivers_49 : decode cX3_delivers 49 = .ok (.imul, 1) := dk_104 (dk_at dksX3_delivers_2 1 rfl rfl)
theorem dX3_delivers_50 : decode cX3_delivers 50 = .ok (.iadd, 1) := dk_96 (dk_at dksX3_delivers_2 2 rfl rfl)
theorem dX3_delivers_51 : decode cX3_delivers 51 = .ok (.iconst 5, 1) := dk_8 (dk_at dksX3_delivers_2 3 rfl rfl)
theorem dX3_delivers_52 : decode cX3_delivers 52 = .ok (.iadd, 1) := dk_96 (dk_at dksX3_delivers_2 4 rfl rfl)
theorem dX3_delivers_53 : decode cX3_delivers 53 = .ok (.dup2, 1) := dk_92 (dk_at dksX3_delivers_2 5 rfl rfl)
theorem dX3_delivers_54 : decode cX3_delivers 54 = .ok (.iaload, 1) := dk_46 (dk_at dksX3_delivers_2 6 rfl rfl)
theorem dX3_delivers_55 : decode cX3_delivers 55 = .ok (.iload 4, 2) := dk_21 4 (dk_at dksX3_delivers_2 7 rfl rfl)
theorem dX3_delivers_57 : decode cX3_delivers 57 = .ok (.iadd, 1) := dk_96 (dk_at dksX3_delivers_2 9 rfl rfl)
theorem dX3_delivers_58 : decode cX3_delivers 58 = .ok (.iastore, 1) := dk_79 (dk_at dksX3_delivers_2 10 rfl rfl)
theorem dX3_delivers_59 : decode cX3_delivers 59 = .ok (.aload_n 0, 1) := dk_42 (dk_at dksX3_delivers_2 11 rfl rfl)
theorem dX3_delivers_60 : decode cX3_delivers 60 = .ok (.getfield 7, 3) := dk_180 0 7 (dk_at dksX3_delivers_2 12 rfl rfl)
theorem dX3_delivers_63 : decode cX3_delivers 63 = .ok (.sipush 465, 3) := dk_17 1 209 (dk_at dksX3_delivers_2 15 rfl rfl)
theorem dX3_delivers_66 : decode cX3_delivers 66 = .ok (.bipush 6, 2) := dk_16 6 (dk_at dksX3_delivers_2 18 rfl rfl)
theorem dX3_delivers_68 : decode cX3_delivers 68 = .ok (.iload_n 2, 1) := dk_28 (dk_at dksX3_delivers_2 20 rfl rfl)
theorem dX3_delivers_69 : decode cX3_delivers 69 = .ok (.imul, 1) := dk_104 (dk_at dksX3_delivers_2 21 rfl rfl)
theorem dX3_delivers_70 : decode cX3_delivers 70 = .ok (.iadd, 1) := dk_96 (dk_at dksX3_delivers_2 22 rfl rfl)
theorem dX3_delivers_71 : decode cX3_delivers 71 = .ok (.iconst 2, 1) := dk_5 (dk_at dksX3_delivers_2 23 rfl rfl)
theorem dX3_delivers_72 : decode cX3_delivers 72 = .ok (.iadd, 1) := dk_96 (dk_at dksX3_delivers_3 0 rfl rfl)
theorem dX3_delivers_73 : decode cX3_delivers 73 = .ok (.dup2, 1) := dk_92 (dk_at dksX3_delivers_3 1 rfl rfl)
theorem dX3_delivers_74 : decode cX3_delivers 74 = .ok (.iaload, 1) := dk_46 (dk_at dksX3_delivers_3 2 rfl rfl)
theorem dX3_delivers_75 : decode cX3_delivers 75 = .ok (.iconst 1, 1) := dk_4 (dk_at dksX3_delivers_3 3 rfl rfl)
theorem dX3_delivers_76 : decode cX3_delivers 76 = .ok (.isub, 1) := dk_100 (dk_at dksX3_delivers_3 4 rfl rfl)
theorem dX3_delivers_77 : decode cX3_delivers 77 = .ok (.iastore, 1) := dk_79 (dk_at dksX3_delivers_3 5 rfl rfl)
theorem dX3_delivers_78 : decode cX3_delivers 78 = .ok (.return_, 1) := dk_177 (dk_at dksX3_delivers_3 6 rfl rfl)
abbrev cX3_plan : ByteArray := prog_22_method_56_code
def yX3_plan : MethodName := ⟨RX3, "plan", "(III)I"⟩
def dkwX3_plan_12 : List UInt8 := [180, 0, 7, 21, 6, 4, 96, 28, 79, 42, 180, 0, 7, 21, 6, 5, 96, 29, 79, 21, 5, 172]
abbrev dktX3_plan_12 : List UInt8 := dkwX3_plan_12 ++ []
def dkwX3_plan_11 : List UInt8 := [92, 46, 21, 4, 2, 160, 0, 7, 4, 167, 0, 4, 3, 96, 79, 42, 180, 0, 7, 21, 6, 27, 79, 42]
abbrev dktX3_plan_11 : List UInt8 := dkwX3_plan_11 ++ dktX3_plan_12
def dkwX3_plan_10 : List UInt8 := [42, 180, 0, 7, 17, 2, 17, 46, 104, 96, 167, 0, 5, 21, 4, 54, 6, 42, 180, 0, 7, 17, 2, 17]
abbrev dktX3_plan_10 : List UInt8 := dkwX3_plan_10 ++ dktX3_plan_11
def dkwX3_plan_9 : List UInt8 := [132, 6, 1, 167, 255, 224, 167, 0, 85, 29, 2, 159, 0, 80, 21, 4, 2, 160, 0, 20, 17, 2, 18, 6]
abbrev dktX3_plan_9 : List UInt8 := dkwX3_plan_9 ++ dktX3_plan_10
def dkwX3_plan_8 : List UInt8 := [42, 180, 0, 7, 17, 2, 18, 6, 42, 180, 0, 7, 17, 2, 17, 46, 104, 96, 21, 6, 96, 3, 79]
abbrev dktX3_plan_8 : List UInt8 := dkwX3_plan_8 ++ dktX3_plan_9
def dkwX3_plan_7 : List UInt8 := [180, 0, 7, 21, 6, 6, 96, 46, 79, 132, 6, 1, 167, 255, 218, 3, 54, 6, 21, 6, 6, 162, 0, 32]
abbrev dktX3_plan_7 : List UInt8 := dkwX3_plan_7 ++ dktX3_plan_8
def dkwX3_plan_6 : List UInt8 := [17, 2, 18, 6, 42, 180, 0, 7, 17, 2, 17, 46, 104, 96, 162, 0, 25, 42, 180, 0, 7, 21, 6, 42]
abbrev dktX3_plan_6 : List UInt8 := dkwX3_plan_6 ++ dktX3_plan_7
def dkwX3_plan_5 : List UInt8 := [21, 4, 2, 159, 0, 101, 42, 180, 0, 7, 17, 2, 17, 92, 46, 4, 100, 79, 21, 4, 54, 6, 21, 6]
abbrev dktX3_plan_5 : List UInt8 := dkwX3_plan_5 ++ dktX3_plan_6
def dkwX3_plan_4 : List UInt8 := [160, 0, 7, 2, 167, 0, 12, 42, 180, 0, 7, 21, 4, 5, 96, 46, 54, 5, 29, 2, 160, 0, 107]
abbrev dktX3_plan_4 : List UInt8 := dkwX3_plan_4 ++ dktX3_plan_5
def dkwX3_plan_3 : List UInt8 := [17, 2, 17, 46, 16, 16, 160, 0, 9, 42, 6, 182, 0, 155, 172, 42, 182, 0, 158, 21, 4, 2]
abbrev dktX3_plan_3 : List UInt8 := dkwX3_plan_3 ++ dktX3_plan_4
def dkwX3_plan_2 : List UInt8 := [180, 0, 7, 3, 46, 164, 0, 27, 29, 2, 159, 0, 28, 21, 4, 2, 160, 0, 22, 42, 180, 0, 7]
abbrev dktX3_plan_2 : List UInt8 := dkwX3_plan_2 ++ dktX3_plan_3
def dkwX3_plan_1 : List UInt8 := [184, 0, 148, 154, 0, 9, 42, 5, 182, 0, 155, 172, 42, 27, 28, 182, 0, 191, 54, 4, 27, 42]
abbrev dktX3_plan_1 : List UInt8 := dkwX3_plan_1 ++ dktX3_plan_2
def dkwX3_plan_0 : List UInt8 := [42, 28, 182, 0, 152, 154, 0, 5, 3, 172, 27, 4, 17, 39, 15, 184, 0, 148, 153, 0, 12, 29, 2, 6]
abbrev dktX3_plan_0 : List UInt8 := dkwX3_plan_0 ++ dktX3_plan_1
theorem dksX3_plan_0 : cX3_plan.data.toList.drop 0 = dktX3_plan_0 := by decide +kernel
theorem dksX3_plan_1 : cX3_plan.data.toList.drop 24 = dktX3_plan_1 := dk_seg dksX3_plan_0 24 rfl rfl
theorem dksX3_plan_2 : cX3_plan.data.toList.drop 46 = dktX3_plan_2 := dk_seg dksX3_plan_1 22 rfl rfl
theorem dksX3_plan_3 : cX3_plan.data.toList.drop 69 = dktX3_plan_3 := dk_seg dksX3_plan_2 23 rfl rfl
theorem dksX3_plan_4 : cX3_plan.data.toList.drop 91 = dktX3_plan_4 := dk_seg dksX3_plan_3 22 rfl rfl
theorem dksX3_plan_5 : cX3_plan.data.toList.drop 114 = dktX3_plan_5 := dk_seg dksX3_plan_4 23 rfl rfl
theorem dksX3_plan_6 : cX3_plan.data.toList.drop 138 = dktX3_plan_6 := dk_seg dksX3_plan_5 24 rfl rfl
theorem dksX3_plan_7 : cX3_plan.data.toList.drop 162 = dktX3_plan_7 := dk_seg dksX3_plan_6 24 rfl rfl
theorem dksX3_plan_8 : cX3_plan.data.toList.drop 186 = dktX3_plan_8 := dk_seg dksX3_plan_7 24 rfl rfl
theorem dksX3_plan_9 : cX3_plan.data.toList.drop 209 = dktX3_plan_9 := dk_seg dksX3_plan_8 23 rfl rfl
theorem dksX3_plan_10 : cX3_plan.data.toList.drop 233 = dktX3_plan_10 := dk_seg dksX3_plan_9 24 rfl rfl
theorem dksX3_plan_11 : cX3_plan.data.toList.drop 257 = dktX3_plan_11 := dk_seg dksX3_plan_10 24 rfl rfl
theorem dksX3_plan_12 : cX3_plan.data.toList.drop 281 = dktX3_plan_12 := dk_seg dksX3_plan_11 24 rfl rfl
theorem dX3_plan_0 : decode cX3_plan 0 = .ok (.aload_n 0, 1) := dk_42 (dk_at dksX3_plan_0 0 rfl rfl)
theorem dX3_plan_1 : decode cX3_plan 1 = .ok (.iload_n 2, 1) := dk_28 (dk_at dksX3_plan_0 1 rfl rfl)
theorem dX3_plan_2 : decode cX3_plan 2 = .ok (.invokevirtual 152, 3) := dk_182 0 152 (dk_at dksX3_plan_0 2 rfl rfl)
theorem dX3_plan_5 : decode cX3_plan 5 = .ok (.ifCond .ne 5, 3) := dk_154 0 5 (dk_at dksX3_plan_0 5 rfl rfl)
theorem dX3_plan_8 : decode cX3_plan 8 = .ok (.iconst 0, 1) := dk_3 (dk_at dksX3_plan_0 8 rfl rfl)
theorem dX3_plan_9 : decode cX3_plan 9 = .ok (.ireturn, 1) := dk_172 (dk_at dksX3_plan_0 9 rfl rfl)
theorem dX3_plan_10 : decode cX3_plan 10 = .ok (.iload_n 1, 1) := dk_27 (dk_at dksX3_plan_0 10 rfl rfl)
theorem dX3_plan_11 : decode cX3_plan 11 = .ok (.iconst 1, 1) := dk_4 (dk_at dksX3_plan_0 11 rfl rfl)
theorem dX3_plan_12 : decode cX3_plan 12 = .ok (.sipush 9999, 3) := dk_17 39 15 (dk_at dksX3_plan_0 12 rfl rfl)
theorem dX3_plan_15 : decode cX3_plan 15 = .ok (.invokestatic 148, 3) := dk_184 0 148 (dk_at dksX3_plan_0 15 rfl rfl)
theorem dX3_plan_18 : decode cX3_plan 18 = .ok (.ifCond .eq 12, 3) := dk_153 0 12 (dk_at dksX3_plan_0 18 rfl rfl)
theorem dX3_plan_21 : decode cX3_plan 21 = .ok (.iload_n 3, 1) := dk_29 (dk_at dksX3_plan_0 21 rfl rfl)
theorem dX3_plan_22 : decode cX3_plan 22 = .ok (.iconst (-1), 1) := dk_2 (dk_at dksX3_plan_0 22 rfl rfl)
theorem dX3_plan_23 : decode cX3_plan 23 = .ok (.iconst 3, 1) := dk_6 (dk_at dksX3_plan_0 23 rfl rfl)
theorem dX3_plan_24 : decode cX3_plan 24 = .ok (.invokestatic 148, 3) := dk_184 0 148 (dk_at dksX3_plan_1 0 rfl rfl)
theorem dX3_plan_27 : decode cX3_plan 27 = .ok (.ifCond .ne 9, 3) := dk_154 0 9 (dk_at dksX3_plan_1 3 rfl rfl)
theorem dX3_plan_30 : decode cX3_plan 30 = .ok (.aload_n 0, 1) := dk_42 (dk_at dksX3_plan_1 6 rfl rfl)
theorem dX3_plan_31 : decode cX3_plan 31 = .ok (.iconst 2, 1) := dk_5 (dk_at dksX3_plan_1 7 rfl rfl)
theorem dX3_plan_32 : decode cX3_plan 32 = .ok (.invokevirtual 155, 3) := dk_182 0 155 (dk_at dksX3_plan_1 8 rfl rfl)
theorem dX3_plan_35 : decode cX3_plan 35 = .ok (.ireturn, 1) := dk_172 (dk_at dksX3_plan_1 11 rfl rfl)
theorem dX3_plan_36 : decode cX3_plan 36 = .ok (.aload_n 0, 1) := dk_42 (dk_at dksX3_plan_1 12 rfl rfl)
theorem dX3_plan_37 : decode cX3_plan 37 = .ok (.iload_n 1, 1) := dk_27 (dk_at dksX3_plan_1 13 rfl rfl)
theorem dX3_plan_38 : decode cX3_plan 38 = .ok (.iload_n 2, 1) := dk_28 (dk_at dksX3_plan_1 14 rfl rfl)
theorem dX3_plan_39 : decode cX3_plan 39 = .ok (.invokevirtual 191, 3) := dk_182 0 191 (dk_at dksX3_plan_1 15 rfl rfl)
theorem dX3_plan_42 : decode cX3_plan 42 = .ok (.istore 4, 2) := dk_54 4 (dk_at dksX3_plan_1 18 rfl rfl)
theorem dX3_plan_44 : decode cX3_plan 44 = .ok (.iload_n 1, 1) := dk_27 (dk_at dksX3_plan_1 20 rfl rfl)
theorem dX3_plan_45 : decode cX3_plan 45 = .ok (.aload_n 0, 1) := dk_42 (dk_at dksX3_plan_1 21 rfl rfl)
theorem dX3_plan_46 : decode cX3_plan 46 = .ok (.getfield 7, 3) := dk_180 0 7 (dk_at dksX3_plan_2 0 rfl rfl)
theorem dX3_plan_49 : decode cX3_plan 49 = .ok (.iconst 0, 1) := dk_3 (dk_at dksX3_plan_2 3 rfl rfl)
theorem dX3_plan_50 : decode cX3_plan 50 = .ok (.iaload, 1) := dk_46 (dk_at dksX3_plan_2 4 rfl rfl)
theorem dX3_plan_51 : decode cX3_plan 51 = .ok (.if_icmp .le 27, 3) := dk_164 0 27 (dk_at dksX3_plan_2 5 rfl rfl)
theorem dX3_plan_54 : decode cX3_plan 54 = .ok (.iload_n 3, 1) := dk_29 (dk_at dksX3_plan_2 8 rfl rfl)
theorem dX3_plan_55 : decode cX3_plan 55 = .ok (.iconst (-1), 1) := dk_2 (dk_at dksX3_plan_2 9 rfl rfl)
theorem dX3_plan_56 : decode cX3_plan 56 = .ok (.if_icmp .eq 28, 3) := dk_159 0 28 (dk_at dksX3_plan_2 10 rfl rfl)
theorem dX3_plan_59 : decode cX3_plan 59 = .ok (.iload 4, 2) := dk_21 4 (dk_at dksX3_plan_2 13 rfl rfl)
theorem dX3_plan_61 : decode cX3_plan 61 = .ok (.iconst (-1), 1) := dk_2 (dk_at dksX3_plan_2 15 rfl rfl)
theorem dX3_plan_62 : decode cX3_plan 62 = .ok (.if_icmp .ne 22, 3) := dk_160 0 22 (dk_at dksX3_plan_2 16 rfl rfl)
theorem dX3_plan_65 : decode cX3_plan 65 = .ok (.aload_n 0, 1) := dk_42 (dk_at dksX3_plan_2 19 rfl rfl)
theorem dX3_plan_66 : decode cX3_plan 66 = .ok (.getfield 7, 3) := dk_180 0 7 (dk_at dksX3_plan_2 20 rfl rfl)
theorem dX3_plan_69 : decode cX3_plan 69 = .ok (.sipush 529, 3) := dk_17 2 17 (dk_at dksX3_plan_3 0 rfl rfl)
theorem dX3_plan_72 : decode cX3_plan 72 = .ok (.iaload, 1) := dk_46 (dk_at dksX3_plan_3 3 rfl rfl)
theorem dX3_plan_73 : decode cX3_plan 73 = .ok (.bipush 16, 2) := dk_16 16 (dk_at dksX3_plan_3 4 rfl rfl)
theorem dX3_plan_75 : decode cX3_plan 75 = .ok (.if_icmp .ne 9, 3) := dk_160 0 9 (dk_at dksX3_plan_3 6 rfl rfl)
theorem dX3_plan_78 : decode cX3_plan 78 = .ok (.aload_n 0, 1) := dk_42 (dk_at dksX3_plan_3 9 rfl rfl)
theorem dX3_plan_79 : decode cX3_plan 79 = .ok (.iconst 3, 1) := dk_6 (dk_at dksX3_plan_3 10 rfl rfl)
theorem dX3_plan_80 : decode cX3_plan 80 = .ok (.invokevirtual 155, 3) := dk_182 0 155 (dk_at dksX3_plan_3 11 rfl rfl)
theorem dX3_plan_83 : decode cX3_plan 83 = .ok (.ireturn, 1) := dk_172 (dk_at dksX3_plan_3 14 rfl rfl)
theorem dX3_plan_84 : decode cX3_plan 84 = .ok (.aload_n 0, 1) := dk_42 (dk_at dksX3_plan_3 15 rfl rfl)
theorem dX3_plan_85 : decode cX3_plan 85 = .ok (.invokevirtual 158, 3) := dk_182 0 158 (dk_at dksX3_plan_3 16 rfl rfl)
theorem dX3_plan_88 : decode cX3_plan 88 = .ok (.iload 4, 2) := dk_21 4 (dk_at dksX3_plan_3 19 rfl rfl)
theorem dX3_plan_90 : decode cX3_plan 90 = .ok (.iconst (-1), 1) := dk_2 (dk_at dksX3_plan_3 21 rfl rfl)
theorem dX3_plan_91 : decode cX3_plan 91 = .ok (.if_icmp .ne 7, 3) := dk_160 0 7 (dk_at dksX3_plan_4 0 rfl rfl)
theorem dX3_plan_94 : decode cX3_plan 94 = .ok (.iconst (-1), 1) := dk_2 (dk_at dksX3_plan_4 3 rfl rfl)
theorem dX3_plan_95 : decode cX3_plan 95 = .ok (.goto 12, 3) := dk_167 0 12 (dk_at dksX3_plan_4 4 rfl rfl)
theorem dX3_plan_98 : decode cX3_plan 98 = .ok (.aload_n 0, 1) := dk_42 (dk_at dksX3_plan_4 7 rfl rfl)
theorem dX3_plan_99 : decode cX3_plan 99 = .ok (.getfield 7, 3) := dk_180 0 7 (dk_at dksX3_plan_4 8 rfl rfl)
theorem dX3_plan_102 : decode cX3_plan 102 = .ok (.iload 4, 2) := dk_21 4 (dk_at dksX3_plan_4 11 rfl rfl)
theorem dX3_plan_104 : decode cX3_plan 104 = .ok (.iconst 2, 1) := dk_5 (dk_at dksX3_plan_4 13 rfl rfl)
theorem dX3_plan_105 : decode cX3_plan 105 = .ok (.iadd, 1) := dk_96 (dk_at dksX3_plan_4 14 rfl rfl)
theorem dX3_plan_106 : decode cX3_plan 106 = .ok (.iaload, 1) := dk_46 (dk_at dksX3_plan_4 15 rfl rfl)
theorem dX3_plan_107 : decode cX3_plan 107 = .ok (.istore 5, 2) := dk_54 5 (dk_at dksX3_plan_4 16 rfl rfl)
theorem dX3_plan_109 : decode cX3_plan 109 = .ok (.iload_n 3, 1) := dk_29 (dk_at dksX3_plan_4 18 rfl rfl)
theorem dX3_plan_110 : decode cX3_plan 110 = .ok (.iconst (-1), 1) := dk_2 (dk_at dksX3_plan_4 19 rfl rfl)
theorem dX3_plan_111 : decode cX3_plan 111 = .ok (.if_icmp .ne 107, 3) := dk_160 0 107 (dk_at dksX3_plan_4 20 rfl rfl)
theorem dX3_plan_114 : decode cX3_plan 114 = .ok (.iload 4, 2) := dk_21 4 (dk_at dksX3_plan_5 0 rfl rfl)
theorem dX3_plan_116 : decode cX3_plan 116 = .ok (.iconst (-1), 1) := dk_2 (dk_at dksX3_plan_5 2 rfl rfl)
theorem dX3_plan_117 : decode cX3_plan 117 = .ok (.if_icmp .eq 101, 3) := dk_159 0 101 (dk_at dksX3_plan_5 3 rfl rfl)
theorem dX3_plan_120 : decode cX3_plan 120 = .ok (.aload_n 0, 1) := dk_42 (dk_at dksX3_plan_5 6 rfl rfl)
theorem dX3_plan_121 : decode cX3_plan 121 = .ok (.getfield 7, 3) := dk_180 0 7 (dk_at dksX3_plan_5 7 rfl rfl)
theorem dX3_plan_124 : decode cX3_plan 124 = .ok (.sipush 529, 3) := dk_17 2 17 (dk_at dksX3_plan_5 10 rfl rfl)
theorem dX3_plan_127 : decode cX3_plan 127 = .ok (.dup2, 1) := dk_92 (dk_at dksX3_plan_5 13 rfl rfl)
theorem dX3_plan_128 : decode cX3_plan 128 = .ok (.iaload, 1) := dk_46 (dk_at dksX3_plan_5 14 rfl rfl)
theorem dX3_plan_129 : decode cX3_plan 129 = .ok (.iconst 1, 1) := dk_4 (dk_at dksX3_plan_5 15 rfl rfl)
theorem dX3_plan_130 : decode cX3_plan 130 = .ok (.isub, 1) := dk_100 (dk_at dksX3_plan_5 16 rfl rfl)
theorem dX3_plan_131 : decode cX3_plan 131 = .ok (.iastore, 1) := dk_79 (dk_at dksX3_plan_5 17 rfl rfl)
theorem dX3_plan_132 : decode cX3_plan 132 = .ok (.iload 4, 2) := dk_21 4 (dk_at dksX3_plan_5 18 rfl rfl)
theorem dX3_plan_134 : decode cX3_plan 134 = .ok (.istore 6, 2) := dk_54 6 (dk_at dksX3_plan_5 20 rfl rfl)
theorem dX3_plan_136 : decode cX3_plan 136 = .ok (.iload 6, 2) := dk_21 6 (dk_at dksX3_plan_5 22 rfl rfl)
theorem dX3_plan_138 : decode cX3_plan 138 = .ok (.sipush 530, 3) := dk_17 2 18 (dk_at dksX3_plan_6 0 rfl rfl)
theorem dX3_plan_141 : decode cX3_plan 141 = .ok (.iconst 3, 1) := dk_6 (dk_at dksX3_plan_6 3 rfl rfl)
theorem dX3_plan_142 : decode cX3_plan 142 = .ok (.aload_n 0, 1) := dk_42 (dk_at dksX3_plan_6 4 rfl rfl)
theorem dX3_plan_143 : decode cX3_plan 143 = .ok (.getfield 7, 3) := dk_180 0 7 (dk_at dksX3_plan_6 5 rfl rfl)
theorem dX3_plan_146 : decode cX3_plan 146 = .ok (.sipush 529, 3) := dk_17 2 17 (dk_at dksX3_plan_6 8 rfl rfl)
theorem dX3_plan_149 : decode cX3_plan 149 = .ok (.iaload, 1) := dk_46 (dk_at dksX3_plan_6 11 rfl rfl)
theorem dX3_plan_150 : decode cX3_plan 150 = .ok (.imul, 1) := dk_104 (dk_at dksX3_plan_6 12 rfl rfl)
theorem dX3_plan_151 : decode cX3_plan 151 = .ok (.iadd, 1) := dk_96 (dk_at dksX3_plan_6 13 rfl rfl)
theorem dX3_plan_152 : decode cX3_plan 152 = .ok (.if_icmp .ge 25, 3) := dk_162 0 25 (dk_at dksX3_plan_6 14 rfl rfl)
theorem dX3_plan_155 : decode cX3_plan 155 = .ok (.aload_n 0, 1) := dk_42 (dk_at dksX3_plan_6 17 rfl rfl)
theorem dX3_plan_156 : decode cX3_plan 156 = .ok (.getfield 7, 3) := dk_180 0 7 (dk_at dksX3_plan_6 18 rfl rfl)
theorem dX3_plan_159 : decode cX3_plan 159 = .ok (.iload 6, 2) := dk_21 6 (dk_at dksX3_plan_6 21 rfl rfl)
theorem dX3_plan_161 : decode cX3_plan 161 = .ok (.aload_n 0, 1) := dk_42 (dk_at dksX3_plan_6 23 rfl rfl)
theorem dX3_plan_162 : decode cX3_plan 162 = .ok (.getfield 7, 3) := dk_180 0 7 (dk_at dksX3_plan_7 0 rfl rfl)
theorem dX3_plan_165 : decode cX3_plan 165 = .ok (.iload 6, 2) := dk_21 6 (dk_at dksX3_plan_7 3 rfl rfl)
theorem dX3_plan_167 : decode cX3_plan 167 = .ok (.iconst 3, 1) := dk_6 (dk_at dksX3_plan_7 5 rfl rfl)
theorem dX3_plan_168 : decode cX3_plan 168 = .ok (.iadd, 1) := dk_96 (dk_at dksX3_plan_7 6 rfl rfl)
theorem dX3_plan_169 : decode cX3_plan 169 = .ok (.iaload, 1) := dk_46 (dk_at dksX3_plan_7 7 rfl rfl)
theorem dX3_plan_170 : decode cX3_plan 170 = .ok (.iastore, 1) := dk_79 (dk_at dksX3_plan_7 8 rfl rfl)
theorem dX3_plan_171 : decode cX3_plan 171 = .ok (.iinc 6 1, 3) := dk_132 6 1 (dk_at dksX3_plan_7 9 rfl rfl)
theorem dX3_plan_174 : decode cX3_plan 174 = .ok (.goto (-38), 3) := dk_167 255 218 (dk_at dksX3_plan_7 12 rfl rfl)
theorem dX3_plan_177 : decode cX3_plan 177 = .ok (.iconst 0, 1) := dk_3 (dk_at dksX3_plan_7 15 rfl rfl)
theorem dX3_plan_178 : decode cX3_plan 178 = .ok (.istore 6, 2) := dk_54 6 (dk_at dksX3_plan_7 16 rfl rfl)
theorem dX3_plan_180 : decode cX3_plan 180 = .ok (.iload 6, 2) := dk_21 6 (dk_at dksX3_plan_7 18 rfl rfl)
theorem dX3_plan_182 : decode cX3_plan 182 = .ok (.iconst 3, 1) := dk_6 (dk_at dksX3_plan_7 20 rfl rfl)
theorem dX3_plan_183 : decode cX3_plan 183 = .ok (.if_icmp .ge 32, 3) := dk_162 0 32 (dk_at dksX3_plan_7 21 rfl rfl)
theorem dX3_plan_186 : decode cX3_plan 186 = .ok (.aload_n 0, 1) := dk_42 (dk_at dksX3_plan_8 0 rfl rfl)
theorem dX3_plan_187 : decode cX3_plan 187 = .ok (.getfield 7, 3) := dk_180 0 7 (dk_at dksX3_plan_8 1 rfl rfl)
theorem dX3_plan_190 : decode cX3_plan 190 = .ok (.sipush 530, 3) := dk_17 2 18 (dk_at dksX3_plan_8 4 rfl rfl)
theorem dX3_plan_193 : decode cX3_plan 193 = .ok (.iconst 3, 1) := dk_6 (dk_at dksX3_plan_8 7 rfl rfl)
theorem dX3_plan_194 : decode cX3_plan 194 = .ok (.aload_n 0, 1) := dk_42 (dk_at dksX3_plan_8 8 rfl rfl)
theorem dX3_plan_195 : decode cX3_plan 195 = .ok (.getfield 7, 3) := dk_180 0 7 (dk_at dksX3_plan_8 9 rfl rfl)
theorem dX3_plan_198 : decode cX3_plan 198 = .ok (.sipush 529, 3) := dk_17 2 17 (dk_at dksX3_plan_8 12 rfl rfl)
theorem dX3_plan_201 : decode cX3_plan 201 = .ok (.iaload, 1) := dk_46 (dk_at dksX3_plan_8 15 rfl rfl)
theorem dX3_plan_202 : decode cX3_plan 202 = .ok (.imul, 1) := dk_104 (dk_at dksX3_plan_8 16 rfl rfl)
theorem dX3_plan_203 : decode cX3_plan 203 = .ok (.iadd, 1) := dk_96 (dk_at dksX3_plan_8 17 rfl rfl)
theorem dX3_plan_204 : decode cX3_plan 204 = .ok (.iload 6, 2) := dk_21 6 (dk_at dksX3_plan_8 18 rfl rfl)
theorem dX3_plan_206 : decode cX3_plan 206 = .ok (.iadd, 1) := dk_96 (dk_at dksX3_plan_8 20 rfl rfl)
theorem dX3_plan_207 : decode cX3_plan 207 = .ok (.iconst 0, 1) := dk_3 (dk_at dksX3_plan_8 21 rfl rfl)
theorem dX3_plan_208 : decode cX3_plan 208 = .ok (.iastore, 1) := dk_79 (dk_at dksX3_plan_8 22 rfl rfl)
theorem dX3_plan_209 : decode cX3_plan 209 = .ok (.iinc 6 1, 3) := dk_132 6 1 (dk_at dksX3_plan_9 0 rfl rfl)
theorem dX3_plan_212 : decode cX3_plan 212 = .ok (.goto (-32), 3) := dk_167 255 224 (dk_at dksX3_plan_9 3 rfl rfl)
theorem dX3_plan_215 : decode cX3_plan 215 = .ok (.goto 85, 3) := dk_167 0 85 (dk_at dksX3_plan_9 6 rfl rfl)
theorem dX3_plan_218 : decode cX3_plan 218 = .ok (.iload_n 3, 1) := dk_29 (dk_at dksX3_plan_9 9 rfl rfl)
theorem dX3_plan_219 : decode cX3_plan 219 = .ok (.iconst (-1), 1) := dk_2 (dk_at dksX3_plan_9 10 rfl rfl)
theorem dX3_plan_220 : decode cX3_plan 220 = .ok (.if_icmp .eq 80, 3) := dk_159 0 80 (dk_at dksX3_plan_9 11 rfl rfl)
theorem dX3_plan_223 : decode cX3_plan 223 = .ok (.iload 4, 2) := dk_21 4 (dk_at dksX3_plan_9 14 rfl rfl)
theorem dX3_plan_225 : decode cX3_plan 225 = .ok (.iconst (-1), 1) := dk_2 (dk_at dksX3_plan_9 16 rfl rfl)
theorem dX3_plan_226 : decode cX3_plan 226 = .ok (.if_icmp .ne 20, 3) := dk_160 0 20 (dk_at dksX3_plan_9 17 rfl rfl)
theorem dX3_plan_229 : decode cX3_plan 229 = .ok (.sipush 530, 3) := dk_17 2 18 (dk_at dksX3_plan_9 20 rfl rfl)
theorem dX3_plan_232 : decode cX3_plan 232 = .ok (.iconst 3, 1) := dk_6 (dk_at dksX3_plan_9 23 rfl rfl)
theorem dX3_plan_233 : decode cX3_plan 233 = .ok (.aload_n 0, 1) := dk_42 (dk_at dksX3_plan_10 0 rfl rfl)
theorem dX3_plan_234 : decode cX3_plan 234 = .ok (.getfield 7, 3) := dk_180 0 7 (dk_at dksX3_plan_10 1 rfl rfl)
theorem dX3_plan_237 : decode cX3_plan 237 = .ok (.sipush 529, 3) := dk_17 2 17 (dk_at dksX3_plan_10 4 rfl rfl)
theorem dX3_plan_240 : decode cX3_plan 240 = .ok (.iaload, 1) := dk_46 (dk_at dksX3_plan_10 7 rfl rfl)
theorem dX3_plan_241 : decode cX3_plan 241 = .ok (.imul, 1) := dk_104 (dk_at dksX3_plan_10 8 rfl rfl)
theorem dX3_plan_242 : decode cX3_plan 242 = .ok (.iadd, 1) := dk_96 (dk_at dksX3_plan_10 9 rfl rfl)
theorem dX3_plan_243 : decode cX3_plan 243 = .ok (.goto 5, 3) := dk_167 0 5 (dk_at dksX3_plan_10 10 rfl rfl)
theorem dX3_plan_246 : decode cX3_plan 246 = .ok (.iload 4, 2) := dk_21 4 (dk_at dksX3_plan_10 13 rfl rfl)
theorem dX3_plan_248 : decode cX3_plan 248 = .ok (.istore 6, 2) := dk_54 6 (dk_at dksX3_plan_10 15 rfl rfl)
theorem dX3_plan_250 : decode cX3_plan 250 = .ok (.aload_n 0, 1) := dk_42 (dk_at dksX3_plan_10 17 rfl rfl)
theorem dX3_plan_251 : decode cX3_plan 251 = .ok (.getfield 7, 3) := dk_180 0 7 (dk_at dksX3_plan_10 18 rfl rfl)
theorem dX3_plan_254 : decode cX3_plan 254 = .ok (.sipush 529, 3) := dk_17 2 17 (dk_at dksX3_plan_10 21 rfl rfl)
theorem dX3_plan_257 : decode cX3_plan 257 = .ok (.dup2, 1) := dk_92 (dk_at dksX3_plan_11 0 rfl rfl)
theorem dX3_plan_258 : decode cX3_plan 258 = .ok (.iaload, 1) := dk_46 (dk_at dksX3_plan_11 1 rfl rfl)
theorem dX3_plan_259 : decode cX3_plan 259 = .ok (.iload 4, 2) := dk_21 4 (dk_at dksX3_plan_11 2 rfl rfl)
theorem dX3_plan_261 : decode cX3_plan 261 = .ok (.iconst (-1), 1) := dk_2 (dk_at dksX3_plan_11 4 rfl rfl)
theorem dX3_plan_262 : decode cX3_plan 262 = .ok (.if_icmp .ne 7, 3) := dk_160 0 7 (dk_at dksX3_plan_11 5 rfl rfl)
theorem dX3_plan_265 : decode cX3_plan 265 = .ok (.iconst 1, 1) := dk_4 (dk_at dksX3_plan_11 8 rfl rfl)
theorem dX3_plan_266 : decode cX3_plan 266 = .ok (.goto 4, 3) := dk_167 0 4 (dk_at dksX3_plan_11 9 rfl rfl)
theorem dX3_plan_269 : decode cX3_plan 269 = .ok (.iconst 0, 1) := dk_3 (dk_at dksX3_plan_11 12 rfl rfl)
theorem dX3_plan_270 : decode cX3_plan 270 = .ok (.iadd, 1) := dk_96 (dk_at dksX3_plan_11 13 rfl rfl)
theorem dX3_plan_271 : decode cX3_plan 271 = .ok (.iastore, 1) := dk_79 (dk_at dksX3_plan_11 14 rfl rfl)
theorem dX3_plan_272 : decode cX3_plan 272 = .ok (.aload_n 0, 1) := dk_42 (dk_at dksX3_plan_11 15 rfl rfl)
theorem dX3_plan_273 : decode cX3_plan 273 = .ok (.getfield 7, 3) := dk_180 0 7 (dk_at dksX3_plan_11 16 rfl rfl)
theorem dX3_plan_276 : decode cX3_plan 276 = .ok (.iload 6, 2) := dk_21 6 (dk_at dksX3_plan_11 19 rfl rfl)
theorem dX3_plan_278 : decode cX3_plan 278 = .ok (.iload_n 1, 1) := dk_27 (dk_at dksX3_plan_11 21 rfl rfl)
theorem dX3_plan_279 : decode cX3_plan 279 = .ok (.iastore, 1) := dk_79 (dk_at dksX3_plan_11 22 rfl rfl)
theorem dX3_plan_280 : decode cX3_plan 280 = .ok (.aload_n 0, 1) := dk_42 (dk_at dksX3_plan_11 23 rfl rfl)
theorem dX3_plan_281 : decode cX3_plan 281 = .ok (.getfield 7, 3) := dk_180 0 7 (dk_at dksX3_plan_12 0 rfl rfl)
theorem dX3_plan_284 : decode cX3_plan 284 = .ok (.iload 6, 2) := dk_21 6 (dk_at dksX3_plan_12 3 rfl rfl)
theorem dX3_plan_286 : decode cX3_plan 286 = .ok (.iconst 1, 1) := dk_4 (dk_at dksX3_plan_12 5 rfl rfl)
theorem dX3_plan_287 : decode cX3_plan 287 = .ok (.iadd, 1) := dk_96 (dk_at dksX3_plan_12 6 rfl rfl)
theorem dX3_plan_288 : decode cX3_plan 288 = .ok (.iload_n 2, 1) := dk_28 (dk_at dksX3_plan_12 7 rfl rfl)
theorem dX3_plan_289 : decode cX3_plan 289 = .ok (.iastore, 1) := dk_79 (dk_at dksX3_plan_12 8 rfl rfl)
theorem dX3_plan_290 : decode cX3_plan 290 = .ok (.aload_n 0, 1) := dk_42 (dk_at dksX3_plan_12 9 rfl rfl)
theorem dX3_plan_291 : decode cX3_plan 291 = .ok (.getfield 7, 3) := dk_180 0 7 (dk_at dksX3_plan_12 10 rfl rfl)
theorem dX3_plan_294 : decode cX3_plan 294 = .ok (.iload 6, 2) := dk_21 6 (dk_at dksX3_plan_12 13 rfl rfl)
theorem dX3_plan_296 : decode cX3_plan 296 = .ok (.iconst 2, 1) := dk_5 (dk_at dksX3_plan_12 15 rfl rfl)
theorem dX3_plan_297 : decode cX3_plan 297 = .ok (.iadd, 1) := dk_96 (dk_at dksX3_plan_12 16 rfl rfl)
theorem dX3_plan_298 : decode cX3_plan 298 = .ok (.iload_n 3, 1) := dk_29 (dk_at dksX3_plan_12 17 rfl rfl)
theorem dX3_plan_299 : decode cX3_plan 299 = .ok (.iastore, 1) := dk_79 (dk_at dksX3_plan_12 18 rfl rfl)
theorem dX3_plan_300 : decode cX3_plan 300 = .ok (.iload 5, 2) := dk_21 5 (dk_at dksX3_plan_12 19 rfl rfl)
theorem dX3_plan_302 : decode cX3_plan 302 = .ok (.ireturn, 1) := dk_172 (dk_at dksX3_plan_12 21 rfl rfl)
abbrev cX3_planOf : ByteArray := prog_22_method_55_code
def yX3_planOf : MethodName := ⟨RX3, "planOf", "(II)I"⟩
def dkwX3_planOf_2 : List UInt8 := [132, 3, 3, 167, 255, 211, 2, 172]
abbrev dktX3_planOf_2 : List UInt8 := dkwX3_planOf_2 ++ []
def dkwX3_planOf_1 : List UInt8 := [180, 0, 7, 29, 46, 27, 160, 0, 17, 42, 180, 0, 7, 29, 4, 96, 46, 28, 160, 0, 5, 29, 172]
abbrev dktX3_planOf_1 : List UInt8 := dkwX3_planOf_1 ++ dktX3_planOf_2
def dkwX3_planOf_0 : List UInt8 := [17, 2, 18, 62, 29, 17, 2, 18, 6, 42, 180, 0, 7, 17, 2, 17, 46, 104, 96, 162, 0, 33, 42]
abbrev dktX3_planOf_0 : List UInt8 := dkwX3_planOf_0 ++ dktX3_planOf_1
theorem dksX3_planOf_0 : cX3_planOf.data.toList.drop 0 = dktX3_planOf_0 := by decide +kernel
theorem dksX3_planOf_1 : cX3_planOf.data.toList.drop 23 = dktX3_planOf_1 := dk_seg dksX3_planOf_0 23 rfl rfl
theorem dksX3_planOf_2 : cX3_planOf.data.toList.drop 46 = dktX3_planOf_2 := dk_seg dksX3_planOf_1 23 rfl rfl
theorem dX3_planOf_0 : decode cX3_planOf 0 = .ok (.sipush 530, 3) := dk_17 2 18 (dk_at dksX3_planOf_0 0 rfl rfl)
theorem dX3_planOf_3 : decode cX3_planOf 3 = .ok (.istore_n 3, 1) := dk_62 (dk_at dksX3_planOf_0 3 rfl rfl)
theorem dX3_planOf_4 : decode cX3_planOf 4 = .ok (.iload_n 3, 1) := dk_29 (dk_at dksX3_planOf_0 4 rfl rfl)
theorem dX3_planOf_5 : decode cX3_planOf 5 = .ok (.sipush 530, 3) := dk_17 2 18 (dk_at dksX3_planOf_0 5 rfl rfl)
theorem dX3_planOf_8 : decode cX3_planOf 8 = .ok (.iconst 3, 1) := dk_6 (dk_at dksX3_planOf_0 8 rfl rfl)
theorem dX3_planOf_9 : decode cX3_planOf 9 = .ok (.aload_n 0, 1) := dk_42 (dk_at dksX3_planOf_0 9 rfl rfl)
theorem dX3_planOf_10 : decode cX3_planOf 10 = .ok (.getfield 7, 3) := dk_180 0 7 (dk_at dksX3_planOf_0 10 rfl rfl)
theorem dX3_planOf_13 : decode cX3_planOf 13 = .ok (.sipush 529, 3) := dk_17 2 17 (dk_at dksX3_planOf_0 13 rfl rfl)
theorem dX3_planOf_16 : decode cX3_planOf 16 = .ok (.iaload, 1) := dk_46 (dk_at dksX3_planOf_0 16 rfl rfl)
theorem dX3_planOf_17 : decode cX3_planOf 17 = .ok (.imul, 1) := dk_104 (dk_at dksX3_planOf_0 17 rfl rfl)
theorem dX3_planOf_18 : decode cX3_planOf 18 = .ok (.iadd, 1) := dk_96 (dk_at dksX3_planOf_0 18 rfl rfl)
theorem dX3_planOf_19 : decode cX3_planOf 19 = .ok (.if_icmp .ge 33, 3) := dk_162 0 33 (dk_at dksX3_planOf_0 19 rfl rfl)
theorem dX3_planOf_22 : decode cX3_planOf 22 = .ok (.aload_n 0, 1) := dk_42 (dk_at dksX3_planOf_0 22 rfl rfl)
theorem dX3_planOf_23 : decode cX3_planOf 23 = .ok (.getfield 7, 3) := dk_180 0 7 (dk_at dksX3_planOf_1 0 rfl rfl)
theorem dX3_planOf_26 : decode cX3_planOf 26 = .ok (.iload_n 3, 1) := dk_29 (dk_at dksX3_planOf_1 3 rfl rfl)
theorem dX3_planOf_27 : decode cX3_planOf 27 = .ok (.iaload, 1) := dk_46 (dk_at dksX3_planOf_1 4 rfl rfl)
theorem dX3_planOf_28 : decode cX3_planOf 28 = .ok (.iload_n 1, 1) := dk_27 (dk_at dksX3_planOf_1 5 rfl rfl)
theorem dX3_planOf_29 : decode cX3_planOf 29 = .ok (.if_icmp .ne 17, 3) := dk_160 0 17 (dk_at dksX3_planOf_1 6 rfl rfl)
theorem dX3_planOf_32 : decode cX3_planOf 32 = .ok (.aload_n 0, 1) := dk_42 (dk_at dksX3_planOf_1 9 rfl rfl)
theorem dX3_planOf_33 : decode cX3_planOf 33 = .ok (.getfield 7, 3) := dk_180 0 7 (dk_at dksX3_planOf_1 10 rfl rfl)
theorem dX3_planOf_36 : decode cX3_planOf 36 = .ok (.iload_n 3, 1) := dk_29 (dk_at dksX3_planOf_1 13 rfl rfl)
theorem dX3_planOf_37 : decode cX3_planOf 37 = .ok (.iconst 1, 1) := dk_4 (dk_at dksX3_planOf_1 14 rfl rfl)
theorem dX3_planOf_38 : decode cX3_planOf 38 = .ok (.iadd, 1) := dk_96 (dk_at dksX3_planOf_1 15 rfl rfl)
theorem dX3_planOf_39 : decode cX3_planOf 39 = .ok (.iaload, 1) := dk_46 (dk_at dksX3_planOf_1 16 rfl rfl)
theorem dX3_planOf_40 : decode cX3_planOf 40 = .ok (.iload_n 2, 1) := dk_28 (dk_at dksX3_planOf_1 17 rfl rfl)
theorem dX3_planOf_41 : decode cX3_planOf 41 = .ok (.if_icmp .ne 5, 3) := dk_160 0 5 (dk_at dksX3_planOf_1 18 rfl rfl)
theorem dX3_planOf_44 : decode cX3_planOf 44 = .ok (.iload_n 3, 1) := dk_29 (dk_at dksX3_planOf_1 21 rfl rfl)
theorem dX3_planOf_45 : decode cX3_planOf 45 = .ok (.ireturn, 1) := dk_172 (dk_at dksX3_planOf_1 22 rfl rfl)
theorem dX3_planOf_46 : decode cX3_planOf 46 = .ok (.iinc 3 3, 3) := dk_132 3 3 (dk_at dksX3_planOf_2 0 rfl rfl)
theorem dX3_planOf_49 : decode cX3_planOf 49 = .ok (.goto (-45), 3) := dk_167 255 211 (dk_at dksX3_planOf_2 3 rfl rfl)
theorem dX3_planOf_52 : decode cX3_planOf 52 = .ok (.iconst (-1), 1) := dk_2 (dk_at dksX3_planOf_2 6 rfl rfl)
theorem dX3_planOf_53 : decode cX3_planOf 53 = .ok (.ireturn, 1) := dk_172 (dk_at dksX3_planOf_2 7 rfl rfl)
abbrev cX3_pass : ByteArray := prog_22_method_57_code
def yX3_pass : MethodName := ⟨RX3, "pass", "(I)I"⟩
def dkwX3_pass_2 : List UInt8 := [27, 182, 0, 194, 172]
abbrev dktX3_pass_2 : List UInt8 := dkwX3_pass_2 ++ []
def dkwX3_pass_1 : List UInt8 := [180, 0, 7, 3, 46, 27, 96, 17, 39, 15, 164, 0, 9, 42, 5, 182, 0, 155, 172, 42, 182, 0, 158, 42]
abbrev dktX3_pass_1 : List UInt8 := dkwX3_pass_1 ++ dktX3_pass_2
def dkwX3_pass_0 : List UInt8 := [42, 3, 181, 0, 54, 27, 4, 16, 60, 184, 0, 148, 154, 0, 9, 42, 4, 182, 0, 155, 172, 42]
abbrev dktX3_pass_0 : List UInt8 := dkwX3_pass_0 ++ dktX3_pass_1
theorem dksX3_pass_0 : cX3_pass.data.toList.drop 0 = dktX3_pass_0 := by decide +kernel
theorem dksX3_pass_1 : cX3_pass.data.toList.drop 22 = dktX3_pass_1 := dk_seg dksX3_pass_0 22 rfl rfl
theorem dksX3_pass_2 : cX3_pass.data.toList.drop 46 = dktX3_pass_2 := dk_seg dksX3_pass_1 24 rfl rfl
theorem dX3_pass_0 : decode cX3_pass 0 = .ok (.aload_n 0, 1) := dk_42 (dk_at dksX3_pass_0 0 rfl rfl)
theorem dX3_pass_1 : decode cX3_pass 1 = .ok (.iconst 0, 1) := dk_3 (dk_at dksX3_pass_0 1 rfl rfl)
theorem dX3_pass_2 : decode cX3_pass 2 = .ok (.putfield 54, 3) := dk_181 0 54 (dk_at dksX3_pass_0 2 rfl rfl)
theorem dX3_pass_5 : decode cX3_pass 5 = .ok (.iload_n 1, 1) := dk_27 (dk_at dksX3_pass_0 5 rfl rfl)
theorem dX3_pass_6 : decode cX3_pass 6 = .ok (.iconst 1, 1) := dk_4 (dk_at dksX3_pass_0 6 rfl rfl)
theorem dX3_pass_7 : decode cX3_pass 7 = .ok (.bipush 60, 2) := dk_16 60 (dk_at dksX3_pass_0 7 rfl rfl)
theorem dX3_pass_9 : decode cX3_pass 9 = .ok (.invokestatic 148, 3) := dk_184 0 148 (dk_at dksX3_pass_0 9 rfl rfl)
theorem dX3_pass_12 : decode cX3_pass 12 = .ok (.ifCond .ne 9, 3) := dk_154 0 9 (dk_at dksX3_pass_0 12 rfl rfl)
theorem dX3_pass_15 : decode cX3_pass 15 = .ok (.aload_n 0, 1) := dk_42 (dk_at dksX3_pass_0 15 rfl rfl)
theorem dX3_pass_16 : decode cX3_pass 16 = .ok (.iconst 1, 1) := dk_4 (dk_at dksX3_pass_0 16 rfl rfl)
theorem dX3_pass_17 : decode cX3_pass 17 = .ok (.invokevirtual 155, 3) := dk_182 0 155 (dk_at dksX3_pass_0 17 rfl rfl)
theorem dX3_pass_20 : decode cX3_pass 20 = .ok (.ireturn, 1) := dk_172 (dk_at dksX3_pass_0 20 rfl rfl)
theorem dX3_pass_21 : decode cX3_pass 21 = .ok (.aload_n 0, 1) := dk_42 (dk_at dksX3_pass_0 21 rfl rfl)
theorem dX3_pass_22 : decode cX3_pass 22 = .ok (.getfield 7, 3) := dk_180 0 7 (dk_at dksX3_pass_1 0 rfl rfl)
theorem dX3_pass_25 : decode cX3_pass 25 = .ok (.iconst 0, 1) := dk_3 (dk_at dksX3_pass_1 3 rfl rfl)
theorem dX3_pass_26 : decode cX3_pass 26 = .ok (.iaload, 1) := dk_46 (dk_at dksX3_pass_1 4 rfl rfl)
theorem dX3_pass_27 : decode cX3_pass 27 = .ok (.iload_n 1, 1) := dk_27 (dk_at dksX3_pass_1 5 rfl rfl)
theorem dX3_pass_28 : decode cX3_pass 28 = .ok (.iadd, 1) := dk_96 (dk_at dksX3_pass_1 6 rfl rfl)
theorem dX3_pass_29 : decode cX3_pass 29 = .ok (.sipush 9999, 3) := dk_17 39 15 (dk_at dksX3_pass_1 7 rfl rfl)
theorem dX3_pass_32 : decode cX3_pass 32 = .ok (.if_icmp .le 9, 3) := dk_164 0 9 (dk_at dksX3_pass_1 10 rfl rfl)
theorem dX3_pass_35 : decode cX3_pass 35 = .ok (.aload_n 0, 1) := dk_42 (dk_at dksX3_pass_1 13 rfl rfl)
theorem dX3_pass_36 : decode cX3_pass 36 = .ok (.iconst 2, 1) := dk_5 (dk_at dksX3_pass_1 14 rfl rfl)
theorem dX3_pass_37 : decode cX3_pass 37 = .ok (.invokevirtual 155, 3) := dk_182 0 155 (dk_at dksX3_pass_1 15 rfl rfl)
theorem dX3_pass_40 : decode cX3_pass 40 = .ok (.ireturn, 1) := dk_172 (dk_at dksX3_pass_1 18 rfl rfl)
theorem dX3_pass_41 : decode cX3_pass 41 = .ok (.aload_n 0, 1) := dk_42 (dk_at dksX3_pass_1 19 rfl rfl)
theorem dX3_pass_42 : decode cX3_pass 42 = .ok (.invokevirtual 158, 3) := dk_182 0 158 (dk_at dksX3_pass_1 20 rfl rfl)
theorem dX3_pass_45 : decode cX3_pass 45 = .ok (.aload_n 0, 1) := dk_42 (dk_at dksX3_pass_1 23 rfl rfl)
theorem dX3_pass_46 : decode cX3_pass 46 = .ok (.iload_n 1, 1) := dk_27 (dk_at dksX3_pass_2 0 rfl rfl)
theorem dX3_pass_47 : decode cX3_pass 47 = .ok (.invokevirtual 194, 3) := dk_182 0 194 (dk_at dksX3_pass_2 1 rfl rfl)
theorem dX3_pass_50 : decode cX3_pass 50 = .ok (.ireturn, 1) := dk_172 (dk_at dksX3_pass_2 4 rfl rfl)
abbrev cX3_passes : ByteArray := prog_22_method_36_code
def yX3_passes : MethodName := ⟨RX3, "passes", "(I)I"⟩
def dkwX3_passes_1 : List UInt8 := [167, 255, 241, 28, 172]
abbrev dktX3_passes_1 : List UInt8 := dkwX3_passes_1 ++ []
def dkwX3_passes_0 : List UInt8 := [42, 3, 181, 0, 136, 3, 61, 3, 62, 29, 27, 162, 0, 16, 28, 42, 182, 0, 145, 96, 61, 132, 3, 1]
abbrev dktX3_passes_0 : List UInt8 := dkwX3_passes_0 ++ dktX3_passes_1
theorem dksX3_passes_0 : cX3_passes.data.toList.drop 0 = dktX3_passes_0 := by decide +kernel
theorem dksX3_passes_1 : cX3_passes.data.toList.drop 24 = dktX3_passes_1 := dk_seg dksX3_passes_0 24 rfl rfl
theorem dX3_passes_0 : decode cX3_passes 0 = .ok (.aload_n 0, 1) := dk_42 (dk_at dksX3_passes_0 0 rfl rfl)
theorem dX3_passes_1 : decode cX3_passes 1 = .ok (.iconst 0, 1) := dk_3 (dk_at dksX3_passes_0 1 rfl rfl)
theorem dX3_passes_2 : decode cX3_passes 2 = .ok (.putfield 136, 3) := dk_181 0 136 (dk_at dksX3_passes_0 2 rfl rfl)
theorem dX3_passes_5 : decode cX3_passes 5 = .ok (.iconst 0, 1) := dk_3 (dk_at dksX3_passes_0 5 rfl rfl)
theorem dX3_passes_6 : decode cX3_passes 6 = .ok (.istore_n 2, 1) := dk_61 (dk_at dksX3_passes_0 6 rfl rfl)
theorem dX3_passes_7 : decode cX3_passes 7 = .ok (.iconst 0, 1) := dk_3 (dk_at dksX3_passes_0 7 rfl rfl)
theorem dX3_passes_8 : decode cX3_passes 8 = .ok (.istore_n 3, 1) := dk_62 (dk_at dksX3_passes_0 8 rfl rfl)
theorem dX3_passes_9 : decode cX3_passes 9 = .ok (.iload_n 3, 1) := dk_29 (dk_at dksX3_passes_0 9 rfl rfl)
theorem dX3_passes_10 : decode cX3_passes 10 = .ok (.iload_n 1, 1) := dk_27 (dk_at dksX3_passes_0 10 rfl rfl)
theorem dX3_passes_11 : decode cX3_passes 11 = .ok (.if_icmp .ge 16, 3) := dk_162 0 16 (dk_at dksX3_passes_0 11 rfl rfl)
theorem dX3_passes_14 : decode cX3_passes 14 = .ok (.iload_n 2, 1) := dk_28 (dk_at dksX3_passes_0 14 rfl rfl)
theorem dX3_passes_15 : decode cX3_passes 15 = .ok (.aload_n 0, 1) := dk_42 (dk_at dksX3_passes_0 15 rfl rfl)
theorem dX3_passes_16 : decode cX3_passes 16 = .ok (.invokevirtual 145, 3) := dk_182 0 145 (dk_at dksX3_passes_0 16 rfl rfl)
theorem dX3_passes_19 : decode cX3_passes 19 = .ok (.iadd, 1) := dk_96 (dk_at dksX3_passes_0 19 rfl rfl)
theorem dX3_passes_20 : decode cX3_passes 20 = .ok (.istore_n 2, 1) := dk_61 (dk_at dksX3_passes_0 20 rfl rfl)
theorem dX3_passes_21 : decode cX3_passes 21 = .ok (.iinc 3 1, 3) := dk_132 3 1 (dk_at dksX3_passes_0 21 rfl rfl)
theorem dX3_passes_24 : decode cX3_passes 24 = .ok (.goto (-15), 3) := dk_167 255 241 (dk_at dksX3_passes_1 0 rfl rfl)
theorem dX3_passes_27 : decode cX3_passes 27 = .ok (.iload_n 2, 1) := dk_28 (dk_at dksX3_passes_1 3 rfl rfl)
theorem dX3_passes_28 : decode cX3_passes 28 = .ok (.ireturn, 1) := dk_172 (dk_at dksX3_passes_1 4 rfl rfl)
abbrev cX3_minute : ByteArray := prog_22_method_35_code
def yX3_minute : MethodName := ⟨RX3, "minute", "()I"⟩
def dkwX3_minute_2 : List UInt8 := [182, 0, 142, 27, 172]
abbrev dktX3_minute_2 : List UInt8 := dkwX3_minute_2 ++ []
def dkwX3_minute_1 : List UInt8 := [182, 0, 132, 60, 42, 89, 180, 0, 136, 27, 96, 181, 0, 136, 27, 42, 182, 0, 139, 96, 60, 42]
abbrev dktX3_minute_1 : List UInt8 := dkwX3_minute_1 ++ dktX3_minute_2
def dkwX3_minute_0 : List UInt8 := [42, 180, 0, 7, 3, 92, 46, 4, 96, 79, 42, 182, 0, 123, 42, 182, 0, 126, 42, 182, 0, 129, 42]
abbrev dktX3_minute_0 : List UInt8 := dkwX3_minute_0 ++ dktX3_minute_1
theorem dksX3_minute_0 : cX3_minute.data.toList.drop 0 = dktX3_minute_0 := by decide +kernel
theorem dksX3_minute_1 : cX3_minute.data.toList.drop 23 = dktX3_minute_1 := dk_seg dksX3_minute_0 23 rfl rfl
theorem dksX3_minute_2 : cX3_minute.data.toList.drop 45 = dktX3_minute_2 := dk_seg dksX3_minute_1 22 rfl rfl
theorem dX3_minute_0 : decode cX3_minute 0 = .ok (.aload_n 0, 1) := dk_42 (dk_at dksX3_minute_0 0 rfl rfl)
theorem dX3_minute_1 : decode cX3_minute 1 = .ok (.getfield 7, 3) := dk_180 0 7 (dk_at dksX3_minute_0 1 rfl rfl)
theorem dX3_minute_4 : decode cX3_minute 4 = .ok (.iconst 0, 1) := dk_3 (dk_at dksX3_minute_0 4 rfl rfl)
theorem dX3_minute_5 : decode cX3_minute 5 = .ok (.dup2, 1) := dk_92 (dk_at dksX3_minute_0 5 rfl rfl)
theorem dX3_minute_6 : decode cX3_minute 6 = .ok (.iaload, 1) := dk_46 (dk_at dksX3_minute_0 6 rfl rfl)
theorem dX3_minute_7 : decode cX3_minute 7 = .ok (.iconst 1, 1) := dk_4 (dk_at dksX3_minute_0 7 rfl rfl)
theorem dX3_minute_8 : decode cX3_minute 8 = .ok (.iadd, 1) := dk_96 (dk_at dksX3_minute_0 8 rfl rfl)
theorem dX3_minute_9 : decode cX3_minute 9 = .ok (.iastore, 1) := dk_79 (dk_at dksX3_minute_0 9 rfl rfl)
theorem dX3_minute_10 : decode cX3_minute 10 = .ok (.aload_n 0, 1) := dk_42 (dk_at dksX3_minute_0 10 rfl rfl)
theorem dX3_minute_11 : decode cX3_minute 11 = .ok (.invokevirtual 123, 3) := dk_182 0 123 (dk_at dksX3_minute_0 11 rfl rfl)
theorem dX3_minute_14 : decode cX3_minute 14 = .ok (.aload_n 0, 1) := dk_42 (dk_at dksX3_minute_0 14 rfl rfl)
theorem dX3_minute_15 : decode cX3_minute 15 = .ok (.invokevirtual 126, 3) := dk_182 0 126 (dk_at dksX3_minute_0 15 rfl rfl)
theorem dX3_minute_18 : decode cX3_minute 18 = .ok (.aload_n 0, 1) := dk_42 (dk_at dksX3_minute_0 18 rfl rfl)
theorem dX3_minute_19 : decode cX3_minute 19 = .ok (.invokevirtual 129, 3) := dk_182 0 129 (dk_at dksX3_minute_0 19 rfl rfl)
theorem dX3_minute_22 : decode cX3_minute 22 = .ok (.aload_n 0, 1) := dk_42 (dk_at dksX3_minute_0 22 rfl rfl)
theorem dX3_minute_23 : decode cX3_minute 23 = .ok (.invokevirtual 132, 3) := dk_182 0 132 (dk_at dksX3_minute_1 0 rfl rfl)
theorem dX3_minute_26 : decode cX3_minute 26 = .ok (.istore_n 1, 1) := dk_60 (dk_at dksX3_minute_1 3 rfl rfl)
theorem dX3_minute_27 : decode cX3_minute 27 = .ok (.aload_n 0, 1) := dk_42 (dk_at dksX3_minute_1 4 rfl rfl)
theorem dX3_minute_28 : decode cX3_minute 28 = .ok (.dup, 1) := dk_89 (dk_at dksX3_minute_1 5 rfl rfl)
theorem dX3_minute_29 : decode cX3_minute 29 = .ok (.getfield 136, 3) := dk_180 0 136 (dk_at dksX3_minute_1 6 rfl rfl)
theorem dX3_minute_32 : decode cX3_minute 32 = .ok (.iload_n 1, 1) := dk_27 (dk_at dksX3_minute_1 9 rfl rfl)
theorem dX3_minute_33 : decode cX3_minute 33 = .ok (.iadd, 1) := dk_96 (dk_at dksX3_minute_1 10 rfl rfl)
theorem dX3_minute_34 : decode cX3_minute 34 = .ok (.putfield 136, 3) := dk_181 0 136 (dk_at dksX3_minute_1 11 rfl rfl)
theorem dX3_minute_37 : decode cX3_minute 37 = .ok (.iload_n 1, 1) := dk_27 (dk_at dksX3_minute_1 14 rfl rfl)
theorem dX3_minute_38 : decode cX3_minute 38 = .ok (.aload_n 0, 1) := dk_42 (dk_at dksX3_minute_1 15 rfl rfl)
theorem dX3_minute_39 : decode cX3_minute 39 = .ok (.invokevirtual 139, 3) := dk_182 0 139 (dk_at dksX3_minute_1 16 rfl rfl)
theorem dX3_minute_42 : decode cX3_minute 42 = .ok (.iadd, 1) := dk_96 (dk_at dksX3_minute_1 19 rfl rfl)
theorem dX3_minute_43 : decode cX3_minute 43 = .ok (.istore_n 1, 1) := dk_60 (dk_at dksX3_minute_1 20 rfl rfl)
theorem dX3_minute_44 : decode cX3_minute 44 = .ok (.aload_n 0, 1) := dk_42 (dk_at dksX3_minute_1 21 rfl rfl)
theorem dX3_minute_45 : decode cX3_minute 45 = .ok (.invokevirtual 142, 3) := dk_182 0 142 (dk_at dksX3_minute_2 0 rfl rfl)
theorem dX3_minute_48 : decode cX3_minute 48 = .ok (.iload_n 1, 1) := dk_27 (dk_at dksX3_minute_2 3 rfl rfl)
theorem dX3_minute_49 : decode cX3_minute 49 = .ok (.ireturn, 1) := dk_172 (dk_at dksX3_minute_2 4 rfl rfl)
abbrev cX3_carriesOut : ByteArray := prog_22_method_25_code
def yX3_carriesOut : MethodName := ⟨RX3, "carriesOut", "()V"⟩
def dkwX3_carriesOut_6 : List UInt8 := [132, 2, 1, 167, 255, 228, 42, 180, 0, 7, 17, 2, 17, 27, 79, 177]
abbrev dktX3_carriesOut_6 : List UInt8 := dkwX3_carriesOut_6 ++ []
def dkwX3_carriesOut_5 : List UInt8 := [17, 2, 18, 6, 42, 180, 0, 7, 17, 2, 17, 46, 104, 96, 162, 0, 16, 42, 180, 0, 7, 28, 3, 79]
abbrev dktX3_carriesOut_5 : List UInt8 := dkwX3_carriesOut_5 ++ dktX3_carriesOut_6
def dkwX3_carriesOut_4 : List UInt8 := [132, 4, 1, 167, 255, 223, 132, 1, 1, 132, 2, 1, 167, 255, 152, 17, 2, 18, 6, 27, 104, 96, 61, 28]
abbrev dktX3_carriesOut_4 : List UInt8 := dkwX3_carriesOut_4 ++ dktX3_carriesOut_5
def dkwX3_carriesOut_3 : List UInt8 := [42, 180, 0, 7, 17, 2, 18, 6, 27, 104, 96, 21, 4, 96, 42, 180, 0, 7, 29, 21, 4, 96, 46, 79]
abbrev dktX3_carriesOut_3 : List UInt8 := dkwX3_carriesOut_3 ++ dktX3_carriesOut_4
def dkwX3_carriesOut_2 : List UInt8 := [3, 42, 180, 0, 7, 29, 5, 96, 46, 182, 0, 47, 167, 0, 45, 3, 54, 4, 21, 4, 6, 162, 0, 33]
abbrev dktX3_carriesOut_2 : List UInt8 := dkwX3_carriesOut_2 ++ dktX3_carriesOut_3
def dkwX3_carriesOut_1 : List UInt8 := [42, 180, 0, 7, 29, 46, 42, 180, 0, 7, 3, 46, 160, 0, 27, 42, 42, 180, 0, 7, 29, 4, 96, 46]
abbrev dktX3_carriesOut_1 : List UInt8 := dkwX3_carriesOut_1 ++ dktX3_carriesOut_2
def dkwX3_carriesOut_0 : List UInt8 := [3, 60, 3, 61, 28, 42, 180, 0, 7, 17, 2, 17, 46, 162, 0, 98, 17, 2, 18, 6, 28, 104, 96, 62]
abbrev dktX3_carriesOut_0 : List UInt8 := dkwX3_carriesOut_0 ++ dktX3_carriesOut_1
theorem dksX3_carriesOut_0 : cX3_carriesOut.data.toList.drop 0 = dktX3_carriesOut_0 := by decide +kernel
theorem dksX3_carriesOut_1 : cX3_carriesOut.data.toList.drop 24 = dktX3_carriesOut_1 := dk_seg dksX3_carriesOut_0 24 rfl rfl
theorem dksX3_carriesOut_2 : cX3_carriesOut.data.toList.drop 48 = dktX3_carriesOut_2 := dk_seg dksX3_carriesOut_1 24 rfl rfl
theorem dksX3_carriesOut_3 : cX3_carriesOut.data.toList.drop 72 = dktX3_carriesOut_3 := dk_seg dksX3_carriesOut_2 24 rfl rfl
theorem dksX3_carriesOut_4 : cX3_carriesOut.data.toList.drop 96 = dktX3_carriesOut_4 := dk_seg dksX3_carriesOut_3 24 rfl rfl
theorem dksX3_carriesOut_5 : cX3_carriesOut.data.toList.drop 120 = dktX3_carriesOut_5 := dk_seg dksX3_carriesOut_4 24 rfl rfl
theorem dksX3_carriesOut_6 : cX3_carriesOut.data.toList.drop 144 = dktX3_carriesOut_6 := dk_seg dksX3_carriesOut_5 24 rfl rfl
theorem dX3_carriesOut_0 : decode cX3_carriesOut 0 = .ok (.iconst 0, 1) := dk_3 (dk_at dksX3_carriesOut_0 0 rfl rfl)
theorem dX3_carriesOut_1 : decode cX3_carriesOut 1 = .ok (.istore_n 1, 1) := dk_60 (dk_at dksX3_carriesOut_0 1 rfl rfl)
theorem dX3_carriesOut_2 : decode cX3_carriesOut 2 = .ok (.iconst 0, 1) := dk_3 (dk_at dksX3_carriesOut_0 2 rfl rfl)
theorem dX3_carriesOut_3 : decode cX3_carriesOut 3 = .ok (.istore_n 2, 1) := dk_61 (dk_at dksX3_carriesOut_0 3 rfl rfl)
theorem dX3_carriesOut_4 : decode cX3_carriesOut 4 = .ok (.iload_n 2, 1) := dk_28 (dk_at dksX3_carriesOut_0 4 rfl rfl)
theorem dX3_carriesOut_5 : decode cX3_carriesOut 5 = .ok (.aload_n 0, 1) := dk_42 (dk_at dksX3_carriesOut_0 5 rfl rfl)
theorem dX3_carriesOut_6 : decode cX3_carriesOut 6 = .ok (.getfield 7, 3) := dk_180 0 7 (dk_at dksX3_carriesOut_0 6 rfl rfl)
theorem dX3_carriesOut_9 : decode cX3_carriesOut 9 = .ok (.sipush 529, 3) := dk_17 2 17 (dk_at dksX3_carriesOut_0 9 rfl rfl)
theorem dX3_carriesOut_12 : decode cX3_carriesOut 12 = .ok (.iaload, 1) := dk_46 (dk_at dksX3_carriesOut_0 12 rfl rfl)
theorem dX3_carriesOut_13 : decode cX3_carriesOut 13 = .ok (.if_icmp .ge 98, 3) := dk_162 0 98 (dk_at dksX3_carriesOut_0 13 rfl rfl)
theorem dX3_carriesOut_16 : decode cX3_carriesOut 16 = .ok (.sipush 530, 3) := dk_17 2 18 (dk_at dksX3_carriesOut_0 16 rfl rfl)
theorem dX3_carriesOut_19 : decode cX3_carriesOut 19 = .ok (.iconst 3, 1) := dk_6 (dk_at dksX3_carriesOut_0 19 rfl rfl)
theorem dX3_carriesOut_20 : decode cX3_carriesOut 20 = .ok (.iload_n 2, 1) := dk_28 (dk_at dksX3_carriesOut_0 20 rfl rfl)
theorem dX3_carriesOut_21 : decode cX3_carriesOut 21 = .ok (.imul, 1) := dk_104 (dk_at dksX3_carriesOut_0 21 rfl rfl)
theorem dX3_carriesOut_22 : decode cX3_carriesOut 22 = .ok (.iadd, 1) := dk_96 (dk_at dksX3_carriesOut_0 22 rfl rfl)
theorem dX3_carriesOut_23 : decode cX3_carriesOut 23 = .ok (.istore_n 3, 1) := dk_62 (dk_at dksX3_carriesOut_0 23 rfl rfl)
theorem dX3_carriesOut_24 : decode cX3_carriesOut 24 = .ok (.aload_n 0, 1) := dk_42 (dk_at dksX3_carriesOut_1 0 rfl rfl)
theorem dX3_carriesOut_25 : decode cX3_carriesOut 25 = .ok (.getfield 7, 3) := dk_180 0 7 (dk_at dksX3_carriesOut_1 1 rfl rfl)
theorem dX3_carriesOut_28 : decode cX3_carriesOut 28 = .ok (.iload_n 3, 1) := dk_29 (dk_at dksX3_carriesOut_1 4 rfl rfl)
theorem dX3_carriesOut_29 : decode cX3_carriesOut 29 = .ok (.iaload, 1) := dk_46 (dk_at dksX3_carriesOut_1 5 rfl rfl)
theorem dX3_carriesOut_30 : decode cX3_carriesOut 30 = .ok (.aload_n 0, 1) := dk_42 (dk_at dksX3_carriesOut_1 6 rfl rfl)
theorem dX3_carriesOut_31 : decode cX3_carriesOut 31 = .ok (.getfield 7, 3) := dk_180 0 7 (dk_at dksX3_carriesOut_1 7 rfl rfl)
theorem dX3_carriesOut_34 : decode cX3_carriesOut 34 = .ok (.iconst 0, 1) := dk_3 (dk_at dksX3_carriesOut_1 10 rfl rfl)
theorem dX3_carriesOut_35 : decode cX3_carriesOut 35 = .ok (.iaload, 1) := dk_46 (dk_at dksX3_carriesOut_1 11 rfl rfl)
theorem dX3_carriesOut_36 : decode cX3_carriesOut 36 = .ok (.if_icmp .ne 27, 3) := dk_160 0 27 (dk_at dksX3_carriesOut_1 12 rfl rfl)
theorem dX3_carriesOut_39 : decode cX3_carriesOut 39 = .ok (.aload_n 0, 1) := dk_42 (dk_at dksX3_carriesOut_1 15 rfl rfl)
theorem dX3_carriesOut_40 : decode cX3_carriesOut 40 = .ok (.aload_n 0, 1) := dk_42 (dk_at dksX3_carriesOut_1 16 rfl rfl)
theorem dX3_carriesOut_41 : decode cX3_carriesOut 41 = .ok (.getfield 7, 3) := dk_180 0 7 (dk_at dksX3_carriesOut_1 17 rfl rfl)
theorem dX3_carriesOut_44 : decode cX3_carriesOut 44 = .ok (.iload_n 3, 1) := dk_29 (dk_at dksX3_carriesOut_1 20 rfl rfl)
theorem dX3_carriesOut_45 : decode cX3_carriesOut 45 = .ok (.iconst 1, 1) := dk_4 (dk_at dksX3_carriesOut_1 21 rfl rfl)
theorem dX3_carriesOut_46 : decode cX3_carriesOut 46 = .ok (.iadd, 1) := dk_96 (dk_at dksX3_carriesOut_1 22 rfl rfl)
theorem dX3_carriesOut_47 : decode cX3_carriesOut 47 = .ok (.iaload, 1) := dk_46 (dk_at dksX3_carriesOut_1 23 rfl rfl)
theorem dX3_carriesOut_48 : decode cX3_carriesOut 48 = .ok (.iconst 0, 1) := dk_3 (dk_at dksX3_carriesOut_2 0 rfl rfl)
theorem dX3_carriesOut_49 : decode cX3_carriesOut 49 = .ok (.aload_n 0, 1) := dk_42 (dk_at dksX3_carriesOut_2 1 rfl rfl)
theorem dX3_carriesOut_50 : decode cX3_carriesOut 50 = .ok (.getfield 7, 3) := dk_180 0 7 (dk_at dksX3_carriesOut_2 2 rfl rfl)
theorem dX3_carriesOut_53 : decode cX3_carriesOut 53 = .ok (.iload_n 3, 1) := dk_29 (dk_at dksX3_carriesOut_2 5 rfl rfl)
theorem dX3_carriesOut_54 : decode cX3_carriesOut 54 = .ok (.iconst 2, 1) := dk_5 (dk_at dksX3_carriesOut_2 6 rfl rfl)
theorem dX3_carriesOut_55 : decode cX3_carriesOut 55 = .ok (.iadd, 1) := dk_96 (dk_at dksX3_carriesOut_2 7 rfl rfl)
theorem dX3_carriesOut_56 : decode cX3_carriesOut 56 = .ok (.iaload, 1) := dk_46 (dk_at dksX3_carriesOut_2 8 rfl rfl)
theorem dX3_carriesOut_57 : decode cX3_carriesOut 57 = .ok (.invokevirtual 47, 3) := dk_182 0 47 (dk_at dksX3_carriesOut_2 9 rfl rfl)
theorem dX3_carriesOut_60 : decode cX3_carriesOut 60 = .ok (.goto 45, 3) := dk_167 0 45 (dk_at dksX3_carriesOut_2 12 rfl rfl)
theorem dX3_carriesOut_63 : decode cX3_carriesOut 63 = .ok (.iconst 0, 1) := dk_3 (dk_at dksX3_carriesOut_2 15 rfl rfl)
theorem dX3_carriesOut_64 : decode cX3_carriesOut 64 = .ok (.istore 4, 2) := dk_54 4 (dk_at dksX3_carriesOut_2 16 rfl rfl)
theorem dX3_carriesOut_66 : decode cX3_carriesOut 66 = .ok (.iload 4, 2) := dk_21 4 (dk_at dksX3_carriesOut_2 18 rfl rfl)
theorem dX3_carriesOut_68 : decode cX3_carriesOut 68 = .ok (.iconst 3, 1) := dk_6 (dk_at dksX3_carriesOut_2 20 rfl rfl)
theorem dX3_carriesOut_69 : decode cX3_carriesOut 69 = .ok (.if_icmp .ge 33, 3) := dk_162 0 33 (dk_at dksX3_carriesOut_2 21 rfl rfl)
theorem dX3_carriesOut_72 : decode cX3_carriesOut 72 = .ok (.aload_n 0, 1) := dk_42 (dk_at dksX3_carriesOut_3 0 rfl rfl)
theorem dX3_carriesOut_73 : decode cX3_carriesOut 73 = .ok (.getfield 7, 3) := dk_180 0 7 (dk_at dksX3_carriesOut_3 1 rfl rfl)
theorem dX3_carriesOut_76 : decode cX3_carriesOut 76 = .ok (.sipush 530, 3) := dk_17 2 18 (dk_at dksX3_carriesOut_3 4 rfl rfl)
theorem dX3_carriesOut_79 : decode cX3_carriesOut 79 = .ok (.iconst 3, 1) := dk_6 (dk_at dksX3_carriesOut_3 7 rfl rfl)
theorem dX3_carriesOut_80 : decode cX3_carriesOut 80 = .ok (.iload_n 1, 1) := dk_27 (dk_at dksX3_carriesOut_3 8 rfl rfl)
theorem dX3_carriesOut_81 : decode cX3_carriesOut 81 = .ok (.imul, 1) := dk_104 (dk_at dksX3_carriesOut_3 9 rfl rfl)
theorem dX3_carriesOut_82 : decode cX3_carriesOut 82 = .ok (.iadd, 1) := dk_96 (dk_at dksX3_carriesOut_3 10 rfl rfl)
theorem dX3_carriesOut_83 : decode cX3_carriesOut 83 = .ok (.iload 4, 2) := dk_21 4 (dk_at dksX3_carriesOut_3 11 rfl rfl)
theorem dX3_carriesOut_85 : decode cX3_carriesOut 85 = .ok (.iadd, 1) := dk_96 (dk_at dksX3_carriesOut_3 13 rfl rfl)
theorem dX3_carriesOut_86 : decode cX3_carriesOut 86 = .ok (.aload_n 0, 1) := dk_42 (dk_at dksX3_carriesOut_3 14 rfl rfl)
theorem dX3_carriesOut_87 : decode cX3_carriesOut 87 = .ok (.getfield 7, 3) := dk_180 0 7 (dk_at dksX3_carriesOut_3 15 rfl rfl)
theorem dX3_carriesOut_90 : decode cX3_carriesOut 90 = .ok (.iload_n 3, 1) := dk_29 (dk_at dksX3_carriesOut_3 18 rfl rfl)
theorem dX3_carriesOut_91 : decode cX3_carriesOut 91 = .ok (.iload 4, 2) := dk_21 4 (dk_at dksX3_carriesOut_3 19 rfl rfl)
theorem dX3_carriesOut_93 : decode cX3_carriesOut 93 = .ok (.iadd, 1) := dk_96 (dk_at dksX3_carriesOut_3 21 rfl rfl)
theorem dX3_carriesOut_94 : decode cX3_carriesOut 94 = .ok (.iaload, 1) := dk_46 (dk_at dksX3_carriesOut_3 22 rfl rfl)
theorem dX3_carriesOut_95 : decode cX3_carriesOut 95 = .ok (.iastore, 1) := dk_79 (dk_at dksX3_carriesOut_3 23 rfl rfl)
theorem dX3_carriesOut_96 : decode cX3_carriesOut 96 = .ok (.iinc 4 1, 3) := dk_132 4 1 (dk_at dksX3_carriesOut_4 0 rfl rfl)
theorem dX3_carriesOut_99 : decode cX3_carriesOut 99 = .ok (.goto (-33), 3) := dk_167 255 223 (dk_at dksX3_carriesOut_4 3 rfl rfl)
theorem dX3_carriesOut_102 : decode cX3_carriesOut 102 = .ok (.iinc 1 1, 3) := dk_132 1 1 (dk_at dksX3_carriesOut_4 6 rfl rfl)
theorem dX3_carriesOut_105 : decode cX3_carriesOut 105 = .ok (.iinc 2 1, 3) := dk_132 2 1 (dk_at dksX3_carriesOut_4 9 rfl rfl)
theorem dX3_carriesOut_108 : decode cX3_carriesOut 108 = .ok (.goto (-104), 3) := dk_167 255 152 (dk_at dksX3_carriesOut_4 12 rfl rfl)
theorem dX3_carriesOut_111 : decode cX3_carriesOut 111 = .ok (.sipush 530, 3) := dk_17 2 18 (dk_at dksX3_carriesOut_4 15 rfl rfl)
theorem dX3_carriesOut_114 : decode cX3_carriesOut 114 = .ok (.iconst 3, 1) := dk_6 (dk_at dksX3_carriesOut_4 18 rfl rfl)
theorem dX3_carriesOut_115 : decode cX3_carriesOut 115 = .ok (.iload_n 1, 1) := dk_27 (dk_at dksX3_carriesOut_4 19 rfl rfl)
theorem dX3_carriesOut_116 : decode cX3_carriesOut 116 = .ok (.imul, 1) := dk_104 (dk_at dksX3_carriesOut_4 20 rfl rfl)
theorem dX3_carriesOut_117 : decode cX3_carriesOut 117 = .ok (.iadd, 1) := dk_96 (dk_at dksX3_carriesOut_4 21 rfl rfl)
theorem dX3_carriesOut_118 : decode cX3_carriesOut 118 = .ok (.istore_n 2, 1) := dk_61 (dk_at dksX3_carriesOut_4 22 rfl rfl)
theorem dX3_carriesOut_119 : decode cX3_carriesOut 119 = .ok (.iload_n 2, 1) := dk_28 (dk_at dksX3_carriesOut_4 23 rfl rfl)
theorem dX3_carriesOut_120 : decode cX3_carriesOut 120 = .ok (.sipush 530, 3) := dk_17 2 18 (dk_at dksX3_carriesOut_5 0 rfl rfl)
theorem dX3_carriesOut_123 : decode cX3_carriesOut 123 = .ok (.iconst 3, 1) := dk_6 (dk_at dksX3_carriesOut_5 3 rfl rfl)
theorem dX3_carriesOut_124 : decode cX3_carriesOut 124 = .ok (.aload_n 0, 1) := dk_42 (dk_at dksX3_carriesOut_5 4 rfl rfl)
theorem dX3_carriesOut_125 : decode cX3_carriesOut 125 = .ok (.getfield 7, 3) := dk_180 0 7 (dk_at dksX3_carriesOut_5 5 rfl rfl)
theorem dX3_carriesOut_128 : decode cX3_carriesOut 128 = .ok (.sipush 529, 3) := dk_17 2 17 (dk_at dksX3_carriesOut_5 8 rfl rfl)
theorem dX3_carriesOut_131 : decode cX3_carriesOut 131 = .ok (.iaload, 1) := dk_46 (dk_at dksX3_carriesOut_5 11 rfl rfl)
theorem dX3_carriesOut_132 : decode cX3_carriesOut 132 = .ok (.imul, 1) := dk_104 (dk_at dksX3_carriesOut_5 12 rfl rfl)
theorem dX3_carriesOut_133 : decode cX3_carriesOut 133 = .ok (.iadd, 1) := dk_96 (dk_at dksX3_carriesOut_5 13 rfl rfl)
theorem dX3_carriesOut_134 : decode cX3_carriesOut 134 = .ok (.if_icmp .ge 16, 3) := dk_162 0 16 (dk_at dksX3_carriesOut_5 14 rfl rfl)
theorem dX3_carriesOut_137 : decode cX3_carriesOut 137 = .ok (.aload_n 0, 1) := dk_42 (dk_at dksX3_carriesOut_5 17 rfl rfl)
theorem dX3_carriesOut_138 : decode cX3_carriesOut 138 = .ok (.getfield 7, 3) := dk_180 0 7 (dk_at dksX3_carriesOut_5 18 rfl rfl)
theorem dX3_carriesOut_141 : decode cX3_carriesOut 141 = .ok (.iload_n 2, 1) := dk_28 (dk_at dksX3_carriesOut_5 21 rfl rfl)
theorem dX3_carriesOut_142 : decode cX3_carriesOut 142 = .ok (.iconst 0, 1) := dk_3 (dk_at dksX3_carriesOut_5 22 rfl rfl)
theorem dX3_carriesOut_143 : decode cX3_carriesOut 143 = .ok (.iastore, 1) := dk_79 (dk_at dksX3_carriesOut_5 23 rfl rfl)
theorem dX3_carriesOut_144 : decode cX3_carriesOut 144 = .ok (.iinc 2 1, 3) := dk_132 2 1 (dk_at dksX3_carriesOut_6 0 rfl rfl)
theorem dX3_carriesOut_147 : decode cX3_carriesOut 147 = .ok (.goto (-28), 3) := dk_167 255 228 (dk_at dksX3_carriesOut_6 3 rfl rfl)
theorem dX3_carriesOut_150 : decode cX3_carriesOut 150 = .ok (.aload_n 0, 1) := dk_42 (dk_at dksX3_carriesOut_6 6 rfl rfl)
theorem dX3_carriesOut_151 : decode cX3_carriesOut 151 = .ok (.getfield 7, 3) := dk_180 0 7 (dk_at dksX3_carriesOut_6 7 rfl rfl)
theorem dX3_carriesOut_154 : decode cX3_carriesOut 154 = .ok (.sipush 529, 3) := dk_17 2 17 (dk_at dksX3_carriesOut_6 10 rfl rfl)
theorem dX3_carriesOut_157 : decode cX3_carriesOut 157 = .ok (.iload_n 1, 1) := dk_27 (dk_at dksX3_carriesOut_6 13 rfl rfl)
theorem dX3_carriesOut_158 : decode cX3_carriesOut 158 = .ok (.iastore, 1) := dk_79 (dk_at dksX3_carriesOut_6 14 rfl rfl)
theorem dX3_carriesOut_159 : decode cX3_carriesOut 159 = .ok (.return_, 1) := dk_177 (dk_at dksX3_carriesOut_6 15 rfl rfl)
abbrev cX3_heats : ByteArray := prog_22_method_26_code
def yX3_heats : MethodName := ⟨RX3, "heats", "()V"⟩
def dkwX3_heats_7 : List UInt8 := [6, 42, 180, 0, 41, 27, 46, 28, 100, 29, 96, 182, 0, 47, 132, 1, 1, 167, 255, 175, 177]
abbrev dktX3_heats_7 : List UInt8 := dkwX3_heats_7 ++ []
def dkwX3_heats_6 : List UInt8 := [180, 0, 41, 27, 4, 100, 46, 42, 180, 0, 41, 27, 46, 100, 16, 16, 108, 167, 0, 4, 3, 62, 42, 27]
abbrev dktX3_heats_6 : List UInt8 := dkwX3_heats_6 ++ dktX3_heats_7
def dkwX3_heats_5 : List UInt8 := [27, 46, 42, 180, 0, 41, 27, 4, 96, 46, 100, 16, 16, 108, 167, 0, 4, 3, 61, 27, 158, 0, 24, 42]
abbrev dktX3_heats_5 : List UInt8 := dkwX3_heats_5 ++ dktX3_heats_6
def dkwX3_heats_4 : List UInt8 := [132, 1, 1, 167, 255, 164, 3, 60, 27, 16, 8, 162, 0, 81, 27, 16, 7, 162, 0, 24, 42, 180, 0, 41]
abbrev dktX3_heats_4 : List UInt8 := dkwX3_heats_4 ++ dktX3_heats_5
def dkwX3_heats_3 : List UInt8 := [42, 27, 4, 182, 0, 72, 29, 16, 20, 100, 104, 16, 50, 108, 100, 62, 42, 180, 0, 41, 27, 29, 79]
abbrev dktX3_heats_3 : List UInt8 := dkwX3_heats_3 ++ dktX3_heats_4
def dkwX3_heats_2 : List UInt8 := [182, 0, 72, 62, 29, 42, 180, 0, 38, 27, 46, 184, 0, 78, 29, 100, 16, 8, 184, 0, 82, 96, 62, 29]
abbrev dktX3_heats_2 : List UInt8 := dkwX3_heats_2 ++ dktX3_heats_3
def dkwX3_heats_1 : List UInt8 := [42, 27, 7, 182, 0, 72, 28, 96, 182, 0, 47, 42, 180, 0, 7, 5, 92, 46, 28, 96, 79, 42, 27, 6]
abbrev dktX3_heats_1 : List UInt8 := dkwX3_heats_1 ++ dktX3_heats_2
def dkwX3_heats_0 : List UInt8 := [42, 182, 0, 75, 3, 60, 27, 16, 8, 162, 0, 92, 6, 42, 180, 0, 38, 27, 46, 104, 61, 42, 27, 7]
abbrev dktX3_heats_0 : List UInt8 := dkwX3_heats_0 ++ dktX3_heats_1
theorem dksX3_heats_0 : cX3_heats.data.toList.drop 0 = dktX3_heats_0 := by decide +kernel
theorem dksX3_heats_1 : cX3_heats.data.toList.drop 24 = dktX3_heats_1 := dk_seg dksX3_heats_0 24 rfl rfl
theorem dksX3_heats_2 : cX3_heats.data.toList.drop 48 = dktX3_heats_2 := dk_seg dksX3_heats_1 24 rfl rfl
theorem dksX3_heats_3 : cX3_heats.data.toList.drop 72 = dktX3_heats_3 := dk_seg dksX3_heats_2 24 rfl rfl
theorem dksX3_heats_4 : cX3_heats.data.toList.drop 95 = dktX3_heats_4 := dk_seg dksX3_heats_3 23 rfl rfl
theorem dksX3_heats_5 : cX3_heats.data.toList.drop 119 = dktX3_heats_5 := dk_seg dksX3_heats_4 24 rfl rfl
theorem dksX3_heats_6 : cX3_heats.data.toList.drop 143 = dktX3_heats_6 := dk_seg dksX3_heats_5 24 rfl rfl
theorem dksX3_heats_7 : cX3_heats.data.toList.drop 167 = dktX3_heats_7 := dk_seg dksX3_heats_6 24 rfl rfl
theorem dX3_heats_0 : decode cX3_heats 0 = .ok (.aload_n 0, 1) := dk_42 (dk_at dksX3_heats_0 0 rfl rfl)
theorem dX3_heats_1 : decode cX3_heats 1 = .ok (.invokevirtual 75, 3) := dk_182 0 75 (dk_at dksX3_heats_0 1 rfl rfl)
theorem dX3_heats_4 : decode cX3_heats 4 = .ok (.iconst 0, 1) := dk_3 (dk_at dksX3_heats_0 4 rfl rfl)
theorem dX3_heats_5 : decode cX3_heats 5 = .ok (.istore_n 1, 1) := dk_60 (dk_at dksX3_heats_0 5 rfl rfl)
theorem dX3_heats_6 : decode cX3_heats 6 = .ok (.iload_n 1, 1) := dk_27 (dk_at dksX3_heats_0 6 rfl rfl)
theorem dX3_heats_7 : decode cX3_heats 7 = .ok (.bipush 8, 2) := dk_16 8 (dk_at dksX3_heats_0 7 rfl rfl)
theorem dX3_heats_9 : decode cX3_heats 9 = .ok (.if_icmp .ge 92, 3) := dk_162 0 92 (dk_at dksX3_heats_0 9 rfl rfl)
theorem dX3_heats_12 : decode cX3_heats 12 = .ok (.iconst 3, 1) := dk_6 (dk_at dksX3_heats_0 12 rfl rfl)
theorem dX3_heats_13 : decode cX3_heats 13 = .ok (.aload_n 0, 1) := dk_42 (dk_at dksX3_heats_0 13 rfl rfl)
theorem dX3_heats_14 : decode cX3_heats 14 = .ok (.getfield 38, 3) := dk_180 0 38 (dk_at dksX3_heats_0 14 rfl rfl)
theorem dX3_heats_17 : decode cX3_heats 17 = .ok (.iload_n 1, 1) := dk_27 (dk_at dksX3_heats_0 17 rfl rfl)
theorem dX3_heats_18 : decode cX3_heats 18 = .ok (.iaload, 1) := dk_46 (dk_at dksX3_heats_0 18 rfl rfl)
theorem dX3_heats_19 : decode cX3_heats 19 = .ok (.imul, 1) := dk_104 (dk_at dksX3_heats_0 19 rfl rfl)
theorem dX3_heats_20 : decode cX3_heats 20 = .ok (.istore_n 2, 1) := dk_61 (dk_at dksX3_heats_0 20 rfl rfl)
theorem dX3_heats_21 : decode cX3_heats 21 = .ok (.aload_n 0, 1) := dk_42 (dk_at dksX3_heats_0 21 rfl rfl)
theorem dX3_heats_22 : decode cX3_heats 22 = .ok (.iload_n 1, 1) := dk_27 (dk_at dksX3_heats_0 22 rfl rfl)
theorem dX3_heats_23 : decode cX3_heats 23 = .ok (.iconst 4, 1) := dk_7 (dk_at dksX3_heats_0 23 rfl rfl)
theorem dX3_heats_24 : decode cX3_heats 24 = .ok (.aload_n 0, 1) := dk_42 (dk_at dksX3_heats_1 0 rfl rfl)
theorem dX3_heats_25 : decode cX3_heats 25 = .ok (.iload_n 1, 1) := dk_27 (dk_at dksX3_heats_1 1 rfl rfl)
theorem dX3_heats_26 : decode cX3_heats 26 = .ok (.iconst 4, 1) := dk_7 (dk_at dksX3_heats_1 2 rfl rfl)
theorem dX3_heats_27 : decode cX3_heats 27 = .ok (.invokevirtual 72, 3) := dk_182 0 72 (dk_at dksX3_heats_1 3 rfl rfl)
theorem dX3_heats_30 : decode cX3_heats 30 = .ok (.iload_n 2, 1) := dk_28 (dk_at dksX3_heats_1 6 rfl rfl)
theorem dX3_heats_31 : decode cX3_heats 31 = .ok (.iadd, 1) := dk_96 (dk_at dksX3_heats_1 7 rfl rfl)
theorem dX3_heats_32 : decode cX3_heats 32 = .ok (.invokevirtual 47, 3) := dk_182 0 47 (dk_at dksX3_heats_1 8 rfl rfl)
theorem dX3_heats_35 : decode cX3_heats 35 = .ok (.aload_n 0, 1) := dk_42 (dk_at dksX3_heats_1 11 rfl rfl)
theorem dX3_heats_36 : decode cX3_heats 36 = .ok (.getfield 7, 3) := dk_180 0 7 (dk_at dksX3_heats_1 12 rfl rfl)
theorem dX3_heats_39 : decode cX3_heats 39 = .ok (.iconst 2, 1) := dk_5 (dk_at dksX3_heats_1 15 rfl rfl)
theorem dX3_heats_40 : decode cX3_heats 40 = .ok (.dup2, 1) := dk_92 (dk_at dksX3_heats_1 16 rfl rfl)
theorem dX3_heats_41 : decode cX3_heats 41 = .ok (.iaload, 1) := dk_46 (dk_at dksX3_heats_1 17 rfl rfl)
theorem dX3_heats_42 : decode cX3_heats 42 = .ok (.iload_n 2, 1) := dk_28 (dk_at dksX3_heats_1 18 rfl rfl)
theorem dX3_heats_43 : decode cX3_heats 43 = .ok (.iadd, 1) := dk_96 (dk_at dksX3_heats_1 19 rfl rfl)
theorem dX3_heats_44 : decode cX3_heats 44 = .ok (.iastore, 1) := dk_79 (dk_at dksX3_heats_1 20 rfl rfl)
theorem dX3_heats_45 : decode cX3_heats 45 = .ok (.aload_n 0, 1) := dk_42 (dk_at dksX3_heats_1 21 rfl rfl)
theorem dX3_heats_46 : decode cX3_heats 46 = .ok (.iload_n 1, 1) := dk_27 (dk_at dksX3_heats_1 22 rfl rfl)
theorem dX3_heats_47 : decode cX3_heats 47 = .ok (.iconst 3, 1) := dk_6 (dk_at dksX3_heats_1 23 rfl rfl)
theorem dX3_heats_48 : decode cX3_heats 48 = .ok (.invokevirtual 72, 3) := dk_182 0 72 (dk_at dksX3_heats_2 0 rfl rfl)
theorem dX3_heats_51 : decode cX3_heats 51 = .ok (.istore_n 3, 1) := dk_62 (dk_at dksX3_heats_2 3 rfl rfl)
theorem dX3_heats_52 : decode cX3_heats 52 = .ok (.iload_n 3, 1) := dk_29 (dk_at dksX3_heats_2 4 rfl rfl)
theorem dX3_heats_53 : decode cX3_heats 53 = .ok (.aload_n 0, 1) := dk_42 (dk_at dksX3_heats_2 5 rfl rfl)
theorem dX3_heats_54 : decode cX3_heats 54 = .ok (.getfield 38, 3) := dk_180 0 38 (dk_at dksX3_heats_2 6 rfl rfl)
theorem dX3_heats_57 : decode cX3_heats 57 = .ok (.iload_n 1, 1) := dk_27 (dk_at dksX3_heats_2 9 rfl rfl)
theorem dX3_heats_58 : decode cX3_heats 58 = .ok (.iaload, 1) := dk_46 (dk_at dksX3_heats_2 10 rfl rfl)
theorem dX3_heats_59 : decode cX3_heats 59 = .ok (.invokestatic 78, 3) := dk_184 0 78 (dk_at dksX3_heats_2 11 rfl rfl)
theorem dX3_heats_62 : decode cX3_heats 62 = .ok (.iload_n 3, 1) := dk_29 (dk_at dksX3_heats_2 14 rfl rfl)
theorem dX3_heats_63 : decode cX3_heats 63 = .ok (.isub, 1) := dk_100 (dk_at dksX3_heats_2 15 rfl rfl)
theorem dX3_heats_64 : decode cX3_heats 64 = .ok (.bipush 8, 2) := dk_16 8 (dk_at dksX3_heats_2 16 rfl rfl)
theorem dX3_heats_66 : decode cX3_heats 66 = .ok (.invokestatic 82, 3) := dk_184 0 82 (dk_at dksX3_heats_2 18 rfl rfl)
theorem dX3_heats_69 : decode cX3_heats 69 = .ok (.iadd, 1) := dk_96 (dk_at dksX3_heats_2 21 rfl rfl)
theorem dX3_heats_70 : decode cX3_heats 70 = .ok (.istore_n 3, 1) := dk_62 (dk_at dksX3_heats_2 22 rfl rfl)
theorem dX3_heats_71 : decode cX3_heats 71 = .ok (.iload_n 3, 1) := dk_29 (dk_at dksX3_heats_2 23 rfl rfl)
theorem dX3_heats_72 : decode cX3_heats 72 = .ok (.aload_n 0, 1) := dk_42 (dk_at dksX3_heats_3 0 rfl rfl)
theorem dX3_heats_73 : decode cX3_heats 73 = .ok (.iload_n 1, 1) := dk_27 (dk_at dksX3_heats_3 1 rfl rfl)
theorem dX3_heats_74 : decode cX3_heats 74 = .ok (.iconst 1, 1) := dk_4 (dk_at dksX3_heats_3 2 rfl rfl)
theorem dX3_heats_75 : decode cX3_heats 75 = .ok (.invokevirtual 72, 3) := dk_182 0 72 (dk_at dksX3_heats_3 3 rfl rfl)
theorem dX3_heats_78 : decode cX3_heats 78 = .ok (.iload_n 3, 1) := dk_29 (dk_at dksX3_heats_3 6 rfl rfl)
theorem dX3_heats_79 : decode cX3_heats 79 = .ok (.bipush 20, 2) := dk_16 20 (dk_at dksX3_heats_3 7 rfl rfl)
theorem dX3_heats_81 : decode cX3_heats 81 = .ok (.isub, 1) := dk_100 (dk_at dksX3_heats_3 9 rfl rfl)
theorem dX3_heats_82 : decode cX3_heats 82 = .ok (.imul, 1) := dk_104 (dk_at dksX3_heats_3 10 rfl rfl)
theorem dX3_heats_83 : decode cX3_heats 83 = .ok (.bipush 50, 2) := dk_16 50 (dk_at dksX3_heats_3 11 rfl rfl)
theorem dX3_heats_85 : decode cX3_heats 85 = .ok (.idiv, 1) := dk_108 (dk_at dksX3_heats_3 13 rfl rfl)
theorem dX3_heats_86 : decode cX3_heats 86 = .ok (.isub, 1) := dk_100 (dk_at dksX3_heats_3 14 rfl rfl)
theorem dX3_heats_87 : decode cX3_heats 87 = .ok (.istore_n 3, 1) := dk_62 (dk_at dksX3_heats_3 15 rfl rfl)
theorem dX3_heats_88 : decode cX3_heats 88 = .ok (.aload_n 0, 1) := dk_42 (dk_at dksX3_heats_3 16 rfl rfl)
theorem dX3_heats_89 : decode cX3_heats 89 = .ok (.getfield 41, 3) := dk_180 0 41 (dk_at dksX3_heats_3 17 rfl rfl)
theorem dX3_heats_92 : decode cX3_heats 92 = .ok (.iload_n 1, 1) := dk_27 (dk_at dksX3_heats_3 20 rfl rfl)
theorem dX3_heats_93 : decode cX3_heats 93 = .ok (.iload_n 3, 1) := dk_29 (dk_at dksX3_heats_3 21 rfl rfl)
theorem dX3_heats_94 : decode cX3_heats 94 = .ok (.iastore, 1) := dk_79 (dk_at dksX3_heats_3 22 rfl rfl)
theorem dX3_heats_95 : decode cX3_heats 95 = .ok (.iinc 1 1, 3) := dk_132 1 1 (dk_at dksX3_heats_4 0 rfl rfl)
theorem dX3_heats_98 : decode cX3_heats 98 = .ok (.goto (-92), 3) := dk_167 255 164 (dk_at dksX3_heats_4 3 rfl rfl)
theorem dX3_heats_101 : decode cX3_heats 101 = .ok (.iconst 0, 1) := dk_3 (dk_at dksX3_heats_4 6 rfl rfl)
theorem dX3_heats_102 : decode cX3_heats 102 = .ok (.istore_n 1, 1) := dk_60 (dk_at dksX3_heats_4 7 rfl rfl)
theorem dX3_heats_103 : decode cX3_heats 103 = .ok (.iload_n 1, 1) := dk_27 (dk_at dksX3_heats_4 8 rfl rfl)
theorem dX3_heats_104 : decode cX3_heats 104 = .ok (.bipush 8, 2) := dk_16 8 (dk_at dksX3_heats_4 9 rfl rfl)
theorem dX3_heats_106 : decode cX3_heats 106 = .ok (.if_icmp .ge 81, 3) := dk_162 0 81 (dk_at dksX3_heats_4 11 rfl rfl)
theorem dX3_heats_109 : decode cX3_heats 109 = .ok (.iload_n 1, 1) := dk_27 (dk_at dksX3_heats_4 14 rfl rfl)
theorem dX3_heats_110 : decode cX3_heats 110 = .ok (.bipush 7, 2) := dk_16 7 (dk_at dksX3_heats_4 15 rfl rfl)
theorem dX3_heats_112 : decode cX3_heats 112 = .ok (.if_icmp .ge 24, 3) := dk_162 0 24 (dk_at dksX3_heats_4 17 rfl rfl)
theorem dX3_heats_115 : decode cX3_heats 115 = .ok (.aload_n 0, 1) := dk_42 (dk_at dksX3_heats_4 20 rfl rfl)
theorem dX3_heats_116 : decode cX3_heats 116 = .ok (.getfield 41, 3) := dk_180 0 41 (dk_at dksX3_heats_4 21 rfl rfl)
theorem dX3_heats_119 : decode cX3_heats 119 = .ok (.iload_n 1, 1) := dk_27 (dk_at dksX3_heats_5 0 rfl rfl)
theorem dX3_heats_120 : decode cX3_heats 120 = .ok (.iaload, 1) := dk_46 (dk_at dksX3_heats_5 1 rfl rfl)
theorem dX3_heats_121 : decode cX3_heats 121 = .ok (.aload_n 0, 1) := dk_42 (dk_at dksX3_heats_5 2 rfl rfl)
theorem dX3_heats_122 : decode cX3_heats 122 = .ok (.getfield 41, 3) := dk_180 0 41 (dk_at dksX3_heats_5 3 rfl rfl)
theorem dX3_heats_125 : decode cX3_heats 125 = .ok (.iload_n 1, 1) := dk_27 (dk_at dksX3_heats_5 6 rfl rfl)
theorem dX3_heats_126 : decode cX3_heats 126 = .ok (.iconst 1, 1) := dk_4 (dk_at dksX3_heats_5 7 rfl rfl)
theorem dX3_heats_127 : decode cX3_heats 127 = .ok (.iadd, 1) := dk_96 (dk_at dksX3_heats_5 8 rfl rfl)
theorem dX3_heats_128 : decode cX3_heats 128 = .ok (.iaload, 1) := dk_46 (dk_at dksX3_heats_5 9 rfl rfl)
theorem dX3_heats_129 : decode cX3_heats 129 = .ok (.isub, 1) := dk_100 (dk_at dksX3_heats_5 10 rfl rfl)
theorem dX3_heats_130 : decode cX3_heats 130 = .ok (.bipush 16, 2) := dk_16 16 (dk_at dksX3_heats_5 11 rfl rfl)
theorem dX3_heats_132 : decode cX3_heats 132 = .ok (.idiv, 1) := dk_108 (dk_at dksX3_heats_5 13 rfl rfl)
theorem dX3_heats_133 : decode cX3_heats 133 = .ok (.goto 4, 3) := dk_167 0 4 (dk_at dksX3_heats_5 14 rfl rfl)
theorem dX3_heats_136 : decode cX3_heats 136 = .ok (.iconst 0, 1) := dk_3 (dk_at dksX3_heats_5 17 rfl rfl)
theorem dX3_heats_137 : decode cX3_heats 137 = .ok (.istore_n 2, 1) := dk_61 (dk_at dksX3_heats_5 18 rfl rfl)
theorem dX3_heats_138 : decode cX3_heats 138 = .ok (.iload_n 1, 1) := dk_27 (dk_at dksX3_heats_5 19 rfl rfl)
theorem dX3_heats_139 : decode cX3_heats 139 = .ok (.ifCond .le 24, 3) := dk_158 0 24 (dk_at dksX3_heats_5 20 rfl rfl)
theorem dX3_heats_142 : decode cX3_heats 142 = .ok (.aload_n 0, 1) := dk_42 (dk_at dksX3_heats_5 23 rfl rfl)
theorem dX3_heats_143 : decode cX3_heats 143 = .ok (.getfield 41, 3) := dk_180 0 41 (dk_at dksX3_heats_6 0 rfl rfl)
theorem dX3_heats_146 : decode cX3_heats 146 = .ok (.iload_n 1, 1) := dk_27 (dk_at dksX3_heats_6 3 rfl rfl)
theorem dX3_heats_147 : decode cX3_heats 147 = .ok (.iconst 1, 1) := dk_4 (dk_at dksX3_heats_6 4 rfl rfl)
theorem dX3_heats_148 : decode cX3_heats 148 = .ok (.isub, 1) := dk_100 (dk_at dksX3_heats_6 5 rfl rfl)
theorem dX3_heats_149 : decode cX3_heats 149 = .ok (.iaload, 1) := dk_46 (dk_at dksX3_heats_6 6 rfl rfl)
theorem dX3_heats_150 : decode cX3_heats 150 = .ok (.aload_n 0, 1) := dk_42 (dk_at dksX3_heats_6 7 rfl rfl)
theorem dX3_heats_151 : decode cX3_heats 151 = .ok (.getfield 41, 3) := dk_180 0 41 (dk_at dksX3_heats_6 8 rfl rfl)
theorem dX3_heats_154 : decode cX3_heats 154 = .ok (.iload_n 1, 1) := dk_27 (dk_at dksX3_heats_6 11 rfl rfl)
theorem dX3_heats_155 : decode cX3_heats 155 = .ok (.iaload, 1) := dk_46 (dk_at dksX3_heats_6 12 rfl rfl)
theorem dX3_heats_156 : decode cX3_heats 156 = .ok (.isub, 1) := dk_100 (dk_at dksX3_heats_6 13 rfl rfl)
theorem dX3_heats_157 : decode cX3_heats 157 = .ok (.bipush 16, 2) := dk_16 16 (dk_at dksX3_heats_6 14 rfl rfl)
theorem dX3_heats_159 : decode cX3_heats 159 = .ok (.idiv, 1) := dk_108 (dk_at dksX3_heats_6 16 rfl rfl)
theorem dX3_heats_160 : decode cX3_heats 160 = .ok (.goto 4, 3) := dk_167 0 4 (dk_at dksX3_heats_6 17 rfl rfl)
theorem dX3_heats_163 : decode cX3_heats 163 = .ok (.iconst 0, 1) := dk_3 (dk_at dksX3_heats_6 20 rfl rfl)
theorem dX3_heats_164 : decode cX3_heats 164 = .ok (.istore_n 3, 1) := dk_62 (dk_at dksX3_heats_6 21 rfl rfl)
theorem dX3_heats_165 : decode cX3_heats 165 = .ok (.aload_n 0, 1) := dk_42 (dk_at dksX3_heats_6 22 rfl rfl)
theorem dX3_heats_166 : decode cX3_heats 166 = .ok (.iload_n 1, 1) := dk_27 (dk_at dksX3_heats_6 23 rfl rfl)
theorem dX3_heats_167 : decode cX3_heats 167 = .ok (.iconst 3, 1) := dk_6 (dk_at dksX3_heats_7 0 rfl rfl)
theorem dX3_heats_168 : decode cX3_heats 168 = .ok (.aload_n 0, 1) := dk_42 (dk_at dksX3_heats_7 1 rfl rfl)
theorem dX3_heats_169 : decode cX3_heats 169 = .ok (.getfield 41, 3) := dk_180 0 41 (dk_at dksX3_heats_7 2 rfl rfl)
theorem dX3_heats_172 : decode cX3_heats 172 = .ok (.iload_n 1, 1) := dk_27 (dk_at dksX3_heats_7 5 rfl rfl)
theorem dX3_heats_173 : decode cX3_heats 173 = .ok (.iaload, 1) := dk_46 (dk_at dksX3_heats_7 6 rfl rfl)
theorem dX3_heats_174 : decode cX3_heats 174 = .ok (.iload_n 2, 1) := dk_28 (dk_at dksX3_heats_7 7 rfl rfl)
theorem dX3_heats_175 : decode cX3_heats 175 = .ok (.isub, 1) := dk_100 (dk_at dksX3_heats_7 8 rfl rfl)
theorem dX3_heats_176 : decode cX3_heats 176 = .ok (.iload_n 3, 1) := dk_29 (dk_at dksX3_heats_7 9 rfl rfl)
theorem dX3_heats_177 : decode cX3_heats 177 = .ok (.iadd, 1) := dk_96 (dk_at dksX3_heats_7 10 rfl rfl)
theorem dX3_heats_178 : decode cX3_heats 178 = .ok (.invokevirtual 47, 3) := dk_182 0 47 (dk_at dksX3_heats_7 11 rfl rfl)
theorem dX3_heats_181 : decode cX3_heats 181 = .ok (.iinc 1 1, 3) := dk_132 1 1 (dk_at dksX3_heats_7 14 rfl rfl)
theorem dX3_heats_184 : decode cX3_heats 184 = .ok (.goto (-81), 3) := dk_167 255 175 (dk_at dksX3_heats_7 17 rfl rfl)
theorem dX3_heats_187 : decode cX3_heats 187 = .ok (.return_, 1) := dk_177 (dk_at dksX3_heats_7 20 rfl rfl)
abbrev cX3_burns : ByteArray := prog_22_method_24_code
def yX3_burns : MethodName := ⟨RX3, "burns", "()V"⟩
def dkwX3_burns_2 : List UInt8 := [100, 79, 167, 255, 234, 27, 6, 42, 180, 0, 38, 28, 46, 104, 100, 60, 132, 2, 1, 167, 255, 199, 177]
abbrev dktX3_burns_2 : List UInt8 := dkwX3_burns_2 ++ []
def dkwX3_burns_1 : List UInt8 := [182, 0, 72, 79, 6, 42, 180, 0, 38, 28, 46, 104, 27, 164, 0, 16, 42, 180, 0, 38, 28, 92, 46, 4]
abbrev dktX3_burns_1 : List UInt8 := dkwX3_burns_1 ++ dktX3_burns_2
def dkwX3_burns_0 : List UInt8 := [42, 180, 0, 7, 4, 46, 60, 3, 61, 28, 16, 8, 162, 0, 57, 42, 180, 0, 38, 28, 42, 28, 3]
abbrev dktX3_burns_0 : List UInt8 := dkwX3_burns_0 ++ dktX3_burns_1
theorem dksX3_burns_0 : cX3_burns.data.toList.drop 0 = dktX3_burns_0 := by decide +kernel
theorem dksX3_burns_1 : cX3_burns.data.toList.drop 23 = dktX3_burns_1 := dk_seg dksX3_burns_0 23 rfl rfl
theorem dksX3_burns_2 : cX3_burns.data.toList.drop 47 = dktX3_burns_2 := dk_seg dksX3_burns_1 24 rfl rfl
theorem dX3_burns_0 : decode cX3_burns 0 = .ok (.aload_n 0, 1) := dk_42 (dk_at dksX3_burns_0 0 rfl rfl)
theorem dX3_burns_1 : decode cX3_burns 1 = .ok (.getfield 7, 3) := dk_180 0 7 (dk_at dksX3_burns_0 1 rfl rfl)
theorem dX3_burns_4 : decode cX3_burns 4 = .ok (.iconst 1, 1) := dk_4 (dk_at dksX3_burns_0 4 rfl rfl)
theorem dX3_burns_5 : decode cX3_burns 5 = .ok (.iaload, 1) := dk_46 (dk_at dksX3_burns_0 5 rfl rfl)
theorem dX3_burns_6 : decode cX3_burns 6 = .ok (.istore_n 1, 1) := dk_60 (dk_at dksX3_burns_0 6 rfl rfl)
theorem dX3_burns_7 : decode cX3_burns 7 = .ok (.iconst 0, 1) := dk_3 (dk_at dksX3_burns_0 7 rfl rfl)
theorem dX3_burns_8 : decode cX3_burns 8 = .ok (.istore_n 2, 1) := dk_61 (dk_at dksX3_burns_0 8 rfl rfl)
theorem dX3_burns_9 : decode cX3_burns 9 = .ok (.iload_n 2, 1) := dk_28 (dk_at dksX3_burns_0 9 rfl rfl)
theorem dX3_burns_10 : decode cX3_burns 10 = .ok (.bipush 8, 2) := dk_16 8 (dk_at dksX3_burns_0 10 rfl rfl)
theorem dX3_burns_12 : decode cX3_burns 12 = .ok (.if_icmp .ge 57, 3) := dk_162 0 57 (dk_at dksX3_burns_0 12 rfl rfl)
theorem dX3_burns_15 : decode cX3_burns 15 = .ok (.aload_n 0, 1) := dk_42 (dk_at dksX3_burns_0 15 rfl rfl)
theorem dX3_burns_16 : decode cX3_burns 16 = .ok (.getfield 38, 3) := dk_180 0 38 (dk_at dksX3_burns_0 16 rfl rfl)
theorem dX3_burns_19 : decode cX3_burns 19 = .ok (.iload_n 2, 1) := dk_28 (dk_at dksX3_burns_0 19 rfl rfl)
theorem dX3_burns_20 : decode cX3_burns 20 = .ok (.aload_n 0, 1) := dk_42 (dk_at dksX3_burns_0 20 rfl rfl)
theorem dX3_burns_21 : decode cX3_burns 21 = .ok (.iload_n 2, 1) := dk_28 (dk_at dksX3_burns_0 21 rfl rfl)
theorem dX3_burns_22 : decode cX3_burns 22 = .ok (.iconst 0, 1) := dk_3 (dk_at dksX3_burns_0 22 rfl rfl)
theorem dX3_burns_23 : decode cX3_burns 23 = .ok (.invokevirtual 72, 3) := dk_182 0 72 (dk_at dksX3_burns_1 0 rfl rfl)
theorem dX3_burns_26 : decode cX3_burns 26 = .ok (.iastore, 1) := dk_79 (dk_at dksX3_burns_1 3 rfl rfl)
theorem dX3_burns_27 : decode cX3_burns 27 = .ok (.iconst 3, 1) := dk_6 (dk_at dksX3_burns_1 4 rfl rfl)
theorem dX3_burns_28 : decode cX3_burns 28 = .ok (.aload_n 0, 1) := dk_42 (dk_at dksX3_burns_1 5 rfl rfl)
theorem dX3_burns_29 : decode cX3_burns 29 = .ok (.getfield 38, 3) := dk_180 0 38 (dk_at dksX3_burns_1 6 rfl rfl)
theorem dX3_burns_32 : decode cX3_burns 32 = .ok (.iload_n 2, 1) := dk_28 (dk_at dksX3_burns_1 9 rfl rfl)
theorem dX3_burns_33 : decode cX3_burns 33 = .ok (.iaload, 1) := dk_46 (dk_at dksX3_burns_1 10 rfl rfl)
theorem dX3_burns_34 : decode cX3_burns 34 = .ok (.imul, 1) := dk_104 (dk_at dksX3_burns_1 11 rfl rfl)
theorem dX3_burns_35 : decode cX3_burns 35 = .ok (.iload_n 1, 1) := dk_27 (dk_at dksX3_burns_1 12 rfl rfl)
theorem dX3_burns_36 : decode cX3_burns 36 = .ok (.if_icmp .le 16, 3) := dk_164 0 16 (dk_at dksX3_burns_1 13 rfl rfl)
theorem dX3_burns_39 : decode cX3_burns 39 = .ok (.aload_n 0, 1) := dk_42 (dk_at dksX3_burns_1 16 rfl rfl)
theorem dX3_burns_40 : decode cX3_burns 40 = .ok (.getfield 38, 3) := dk_180 0 38 (dk_at dksX3_burns_1 17 rfl rfl)
theorem dX3_burns_43 : decode cX3_burns 43 = .ok (.iload_n 2, 1) := dk_28 (dk_at dksX3_burns_1 20 rfl rfl)
theorem dX3_burns_44 : decode cX3_burns 44 = .ok (.dup2, 1) := dk_92 (dk_at dksX3_burns_1 21 rfl rfl)
theorem dX3_burns_45 : decode cX3_burns 45 = .ok (.iaload, 1) := dk_46 (dk_at dksX3_burns_1 22 rfl rfl)
theorem dX3_burns_46 : decode cX3_burns 46 = .ok (.iconst 1, 1) := dk_4 (dk_at dksX3_burns_1 23 rfl rfl)
theorem dX3_burns_47 : decode cX3_burns 47 = .ok (.isub, 1) := dk_100 (dk_at dksX3_burns_2 0 rfl rfl)
theorem dX3_burns_48 : decode cX3_burns 48 = .ok (.iastore, 1) := dk_79 (dk_at dksX3_burns_2 1 rfl rfl)
theorem dX3_burns_49 : decode cX3_burns 49 = .ok (.goto (-22), 3) := dk_167 255 234 (dk_at dksX3_burns_2 2 rfl rfl)
theorem dX3_burns_52 : decode cX3_burns 52 = .ok (.iload_n 1, 1) := dk_27 (dk_at dksX3_burns_2 5 rfl rfl)
theorem dX3_burns_53 : decode cX3_burns 53 = .ok (.iconst 3, 1) := dk_6 (dk_at dksX3_burns_2 6 rfl rfl)
theorem dX3_burns_54 : decode cX3_burns 54 = .ok (.aload_n 0, 1) := dk_42 (dk_at dksX3_burns_2 7 rfl rfl)
theorem dX3_burns_55 : decode cX3_burns 55 = .ok (.getfield 38, 3) := dk_180 0 38 (dk_at dksX3_burns_2 8 rfl rfl)
theorem dX3_burns_58 : decode cX3_burns 58 = .ok (.iload_n 2, 1) := dk_28 (dk_at dksX3_burns_2 11 rfl rfl)
theorem dX3_burns_59 : decode cX3_burns 59 = .ok (.iaload, 1) := dk_46 (dk_at dksX3_burns_2 12 rfl rfl)
theorem dX3_burns_60 : decode cX3_burns 60 = .ok (.imul, 1) := dk_104 (dk_at dksX3_burns_2 13 rfl rfl)
theorem dX3_burns_61 : decode cX3_burns 61 = .ok (.isub, 1) := dk_100 (dk_at dksX3_burns_2 14 rfl rfl)
theorem dX3_burns_62 : decode cX3_burns 62 = .ok (.istore_n 1, 1) := dk_60 (dk_at dksX3_burns_2 15 rfl rfl)
theorem dX3_burns_63 : decode cX3_burns 63 = .ok (.iinc 2 1, 3) := dk_132 2 1 (dk_at dksX3_burns_2 16 rfl rfl)
theorem dX3_burns_66 : decode cX3_burns 66 = .ok (.goto (-57), 3) := dk_167 255 199 (dk_at dksX3_burns_2 19 rfl rfl)
theorem dX3_burns_69 : decode cX3_burns 69 = .ok (.return_, 1) := dk_177 (dk_at dksX3_burns_2 22 rfl rfl)
abbrev cX3_target : ByteArray := prog_22_method_22_code
def yX3_target : MethodName := ⟨RX3, "target", "(I)I"⟩
def dkwX3_target_1 : List UInt8 := [160, 0, 9, 17, 1, 194, 167, 0, 6, 17, 2, 68, 172]
abbrev dktX3_target_1 : List UInt8 := dkwX3_target_1 ++ []
def dkwX3_target_0 : List UInt8 := [26, 154, 0, 8, 16, 20, 167, 0, 28, 26, 4, 160, 0, 9, 17, 0, 250, 167, 0, 17, 26, 5]
abbrev dktX3_target_0 : List UInt8 := dkwX3_target_0 ++ dktX3_target_1
theorem dksX3_target_0 : cX3_target.data.toList.drop 0 = dktX3_target_0 := by decide +kernel
theorem dksX3_target_1 : cX3_target.data.toList.drop 22 = dktX3_target_1 := dk_seg dksX3_target_0 22 rfl rfl
theorem dX3_target_0 : decode cX3_target 0 = .ok (.iload_n 0, 1) := dk_26 (dk_at dksX3_target_0 0 rfl rfl)
theorem dX3_target_1 : decode cX3_target 1 = .ok (.ifCond .ne 8, 3) := dk_154 0 8 (dk_at dksX3_target_0 1 rfl rfl)
theorem dX3_target_4 : decode cX3_target 4 = .ok (.bipush 20, 2) := dk_16 20 (dk_at dksX3_target_0 4 rfl rfl)
theorem dX3_target_6 : decode cX3_target 6 = .ok (.goto 28, 3) := dk_167 0 28 (dk_at dksX3_target_0 6 rfl rfl)
theorem dX3_target_9 : decode cX3_target 9 = .ok (.iload_n 0, 1) := dk_26 (dk_at dksX3_target_0 9 rfl rfl)
theorem dX3_target_10 : decode cX3_target 10 = .ok (.iconst 1, 1) := dk_4 (dk_at dksX3_target_0 10 rfl rfl)
theorem dX3_target_11 : decode cX3_target 11 = .ok (.if_icmp .ne 9, 3) := dk_160 0 9 (dk_at dksX3_target_0 11 rfl rfl)
theorem dX3_target_14 : decode cX3_target 14 = .ok (.sipush 250, 3) := dk_17 0 250 (dk_at dksX3_target_0 14 rfl rfl)
theorem dX3_target_17 : decode cX3_target 17 = .ok (.goto 17, 3) := dk_167 0 17 (dk_at dksX3_target_0 17 rfl rfl)
theorem dX3_target_20 : decode cX3_target 20 = .ok (.iload_n 0, 1) := dk_26 (dk_at dksX3_target_0 20 rfl rfl)
theorem dX3_target_21 : decode cX3_target 21 = .ok (.iconst 2, 1) := dk_5 (dk_at dksX3_target_0 21 rfl rfl)
theorem dX3_target_22 : decode cX3_target 22 = .ok (.if_icmp .ne 9, 3) := dk_160 0 9 (dk_at dksX3_target_1 0 rfl rfl)
theorem dX3_target_25 : decode cX3_target 25 = .ok (.sipush 450, 3) := dk_17 1 194 (dk_at dksX3_target_1 3 rfl rfl)
theorem dX3_target_28 : decode cX3_target 28 = .ok (.goto 6, 3) := dk_167 0 6 (dk_at dksX3_target_1 6 rfl rfl)
theorem dX3_target_31 : decode cX3_target 31 = .ok (.sipush 580, 3) := dk_17 2 68 (dk_at dksX3_target_1 9 rfl rfl)
theorem dX3_target_34 : decode cX3_target 34 = .ok (.ireturn, 1) := dk_172 (dk_at dksX3_target_1 12 rfl rfl)
abbrev cX3_step : ByteArray := prog_22_method_23_code
def yX3_step : MethodName := ⟨RX3, "step", "(II)I"⟩
def dkwX3_step_1 : List UInt8 := [4, 172]
abbrev dktX3_step_1 : List UInt8 := dkwX3_step_1 ++ []
def dkwX3_step_0 : List UInt8 := [26, 27, 108, 61, 28, 154, 0, 7, 26, 154, 0, 7, 28, 167, 0, 12, 26, 156, 0, 7, 2, 167, 0, 4]
abbrev dktX3_step_0 : List UInt8 := dkwX3_step_0 ++ dktX3_step_1
theorem dksX3_step_0 : cX3_step.data.toList.drop 0 = dktX3_step_0 := by decide +kernel
theorem dksX3_step_1 : cX3_step.data.toList.drop 24 = dktX3_step_1 := dk_seg dksX3_step_0 24 rfl rfl
theorem dX3_step_0 : decode cX3_step 0 = .ok (.iload_n 0, 1) := dk_26 (dk_at dksX3_step_0 0 rfl rfl)
theorem dX3_step_1 : decode cX3_step 1 = .ok (.iload_n 1, 1) := dk_27 (dk_at dksX3_step_0 1 rfl rfl)
theorem dX3_step_2 : decode cX3_step 2 = .ok (.idiv, 1) := dk_108 (dk_at dksX3_step_0 2 rfl rfl)
theorem dX3_step_3 : decode cX3_step 3 = .ok (.istore_n 2, 1) := dk_61 (dk_at dksX3_step_0 3 rfl rfl)
theorem dX3_step_4 : decode cX3_step 4 = .ok (.iload_n 2, 1) := dk_28 (dk_at dksX3_step_0 4 rfl rfl)
theorem dX3_step_5 : decode cX3_step 5 = .ok (.ifCond .ne 7, 3) := dk_154 0 7 (dk_at dksX3_step_0 5 rfl rfl)
theorem dX3_step_8 : decode cX3_step 8 = .ok (.iload_n 0, 1) := dk_26 (dk_at dksX3_step_0 8 rfl rfl)
theorem dX3_step_9 : decode cX3_step 9 = .ok (.ifCond .ne 7, 3) := dk_154 0 7 (dk_at dksX3_step_0 9 rfl rfl)
theorem dX3_step_12 : decode cX3_step 12 = .ok (.iload_n 2, 1) := dk_28 (dk_at dksX3_step_0 12 rfl rfl)
theorem dX3_step_13 : decode cX3_step 13 = .ok (.goto 12, 3) := dk_167 0 12 (dk_at dksX3_step_0 13 rfl rfl)
theorem dX3_step_16 : decode cX3_step 16 = .ok (.iload_n 0, 1) := dk_26 (dk_at dksX3_step_0 16 rfl rfl)
theorem dX3_step_17 : decode cX3_step 17 = .ok (.ifCond .ge 7, 3) := dk_156 0 7 (dk_at dksX3_step_0 17 rfl rfl)
theorem dX3_step_20 : decode cX3_step 20 = .ok (.iconst (-1), 1) := dk_2 (dk_at dksX3_step_0 20 rfl rfl)
theorem dX3_step_21 : decode cX3_step 21 = .ok (.goto 4, 3) := dk_167 0 4 (dk_at dksX3_step_0 21 rfl rfl)
theorem dX3_step_24 : decode cX3_step 24 = .ok (.iconst 1, 1) := dk_4 (dk_at dksX3_step_1 0 rfl rfl)
theorem dX3_step_25 : decode cX3_step 25 = .ok (.ireturn, 1) := dk_172 (dk_at dksX3_step_1 1 rfl rfl)
abbrev cX3_cools : ByteArray := prog_22_method_27_code
def yX3_cools : MethodName := ⟨RX3, "cools", "()V"⟩
def dkwX3_cools_10 : List UInt8 := [167, 255, 56, 177]
abbrev dktX3_cools_10 : List UInt8 := dkwX3_cools_10 ++ []
def dkwX3_cools_9 : List UInt8 := [180, 0, 41, 27, 6, 108, 46, 162, 0, 7, 2, 167, 0, 4, 3, 96, 182, 0, 47, 132, 1, 1]
abbrev dktX3_cools_9 : List UInt8 := dkwX3_cools_9 ++ dktX3_cools_10
def dkwX3_cools_8 : List UInt8 := [182, 0, 72, 21, 5, 42, 180, 0, 41, 27, 6, 108, 46, 164, 0, 7, 4, 167, 0, 21, 21, 5, 42]
abbrev dktX3_cools_8 : List UInt8 := dkwX3_cools_8 ++ dktX3_cools_9
def dkwX3_cools_7 : List UInt8 := [167, 0, 11, 42, 180, 0, 13, 27, 48, 13, 110, 81, 42, 27, 6, 108, 6, 42, 27, 6, 108, 6]
abbrev dktX3_cools_7 : List UInt8 := dkwX3_cools_7 ++ dktX3_cools_8
def dkwX3_cools_6 : List UInt8 := [180, 0, 13, 27, 48, 28, 28, 104, 21, 4, 21, 5, 100, 104, 134, 29, 184, 0, 94, 134, 110, 98]
abbrev dktX3_cools_6 : List UInt8 := dkwX3_cools_6 ++ dktX3_cools_7
def dkwX3_cools_5 : List UInt8 := [21, 4, 29, 184, 0, 91, 161, 0, 50, 42, 180, 0, 13, 27, 21, 5, 21, 4, 162, 0, 29, 42]
abbrev dktX3_cools_5 : List UInt8 := dkwX3_cools_5 ++ dktX3_cools_6
def dkwX3_cools_4 : List UInt8 := [21, 5, 182, 0, 51, 21, 4, 29, 184, 0, 88, 164, 0, 13, 42, 180, 0, 13, 27, 11, 81, 167, 0, 59]
abbrev dktX3_cools_4 : List UInt8 := dkwX3_cools_4 ++ dktX3_cools_5
def dkwX3_cools_3 : List UInt8 := [42, 180, 0, 41, 27, 6, 108, 46, 21, 4, 100, 28, 5, 96, 184, 0, 82, 96, 54, 5, 42, 27, 5]
abbrev dktX3_cools_3 : List UInt8 := dkwX3_cools_3 ++ dktX3_cools_4
def dkwX3_cools_2 : List UInt8 := [182, 0, 58, 4, 182, 0, 69, 61, 42, 27, 182, 0, 85, 62, 42, 27, 5, 182, 0, 58, 54, 4, 21, 4]
abbrev dktX3_cools_2 : List UInt8 := dkwX3_cools_2 ++ dktX3_cools_3
def dkwX3_cools_1 : List UInt8 := [167, 255, 235, 3, 60, 27, 16, 24, 162, 0, 200, 42, 27, 182, 0, 62, 153, 0, 186, 42, 42, 27, 3]
abbrev dktX3_cools_1 : List UInt8 := dkwX3_cools_1 ++ dktX3_cools_2
def dkwX3_cools_0 : List UInt8 := [3, 60, 27, 16, 8, 162, 0, 21, 42, 180, 0, 41, 27, 42, 27, 6, 182, 0, 72, 79, 132, 1, 1]
abbrev dktX3_cools_0 : List UInt8 := dkwX3_cools_0 ++ dktX3_cools_1
theorem dksX3_cools_0 : cX3_cools.data.toList.drop 0 = dktX3_cools_0 := by decide +kernel
theorem dksX3_cools_1 : cX3_cools.data.toList.drop 23 = dktX3_cools_1 := dk_seg dksX3_cools_0 23 rfl rfl
theorem dksX3_cools_2 : cX3_cools.data.toList.drop 46 = dktX3_cools_2 := dk_seg dksX3_cools_1 23 rfl rfl
theorem dksX3_cools_3 : cX3_cools.data.toList.drop 70 = dktX3_cools_3 := dk_seg dksX3_cools_2 24 rfl rfl
theorem dksX3_cools_4 : cX3_cools.data.toList.drop 93 = dktX3_cools_4 := dk_seg dksX3_cools_3 23 rfl rfl
theorem dksX3_cools_5 : cX3_cools.data.toList.drop 117 = dktX3_cools_5 := dk_seg dksX3_cools_4 24 rfl rfl
theorem dksX3_cools_6 : cX3_cools.data.toList.drop 139 = dktX3_cools_6 := dk_seg dksX3_cools_5 22 rfl rfl
theorem dksX3_cools_7 : cX3_cools.data.toList.drop 161 = dktX3_cools_7 := dk_seg dksX3_cools_6 22 rfl rfl
theorem dksX3_cools_8 : cX3_cools.data.toList.drop 183 = dktX3_cools_8 := dk_seg dksX3_cools_7 22 rfl rfl
theorem dksX3_cools_9 : cX3_cools.data.toList.drop 206 = dktX3_cools_9 := dk_seg dksX3_cools_8 23 rfl rfl
theorem dksX3_cools_10 : cX3_cools.data.toList.drop 228 = dktX3_cools_10 := dk_seg dksX3_cools_9 22 rfl rfl
theorem dX3_cools_0 : decode cX3_cools 0 = .ok (.iconst 0, 1) := dk_3 (dk_at dksX3_cools_0 0 rfl rfl)
theorem dX3_cools_1 : decode cX3_cools 1 = .ok (.istore_n 1, 1) := dk_60 (dk_at dksX3_cools_0 1 rfl rfl)
theorem dX3_cools_2 : decode cX3_cools 2 = .ok (.iload_n 1, 1) := dk_27 (dk_at dksX3_cools_0 2 rfl rfl)
theorem dX3_cools_3 : decode cX3_cools 3 = .ok (.bipush 8, 2) := dk_16 8 (dk_at dksX3_cools_0 3 rfl rfl)
theorem dX3_cools_5 : decode cX3_cools 5 = .ok (.if_icmp .ge 21, 3) := dk_162 0 21 (dk_at dksX3_cools_0 5 rfl rfl)
theorem dX3_cools_8 : decode cX3_cools 8 = .ok (.aload_n 0, 1) := dk_42 (dk_at dksX3_cools_0 8 rfl rfl)
theorem dX3_cools_9 : decode cX3_cools 9 = .ok (.getfield 41, 3) := dk_180 0 41 (dk_at dksX3_cools_0 9 rfl rfl)
theorem dX3_cools_12 : decode cX3_cools 12 = .ok (.iload_n 1, 1) := dk_27 (dk_at dksX3_cools_0 12 rfl rfl)
theorem dX3_cools_13 : decode cX3_cools 13 = .ok (.aload_n 0, 1) := dk_42 (dk_at dksX3_cools_0 13 rfl rfl)
theorem dX3_cools_14 : decode cX3_cools 14 = .ok (.iload_n 1, 1) := dk_27 (dk_at dksX3_cools_0 14 rfl rfl)
theorem dX3_cools_15 : decode cX3_cools 15 = .ok (.iconst 3, 1) := dk_6 (dk_at dksX3_cools_0 15 rfl rfl)
theorem dX3_cools_16 : decode cX3_cools 16 = .ok (.invokevirtual 72, 3) := dk_182 0 72 (dk_at dksX3_cools_0 16 rfl rfl)
theorem dX3_cools_19 : decode cX3_cools 19 = .ok (.iastore, 1) := dk_79 (dk_at dksX3_cools_0 19 rfl rfl)
theorem dX3_cools_20 : decode cX3_cools 20 = .ok (.iinc 1 1, 3) := dk_132 1 1 (dk_at dksX3_cools_0 20 rfl rfl)
theorem dX3_cools_23 : decode cX3_cools 23 = .ok (.goto (-21), 3) := dk_167 255 235 (dk_at dksX3_cools_1 0 rfl rfl)
theorem dX3_cools_26 : decode cX3_cools 26 = .ok (.iconst 0, 1) := dk_3 (dk_at dksX3_cools_1 3 rfl rfl)
theorem dX3_cools_27 : decode cX3_cools 27 = .ok (.istore_n 1, 1) := dk_60 (dk_at dksX3_cools_1 4 rfl rfl)
theorem dX3_cools_28 : decode cX3_cools 28 = .ok (.iload_n 1, 1) := dk_27 (dk_at dksX3_cools_1 5 rfl rfl)
theorem dX3_cools_29 : decode cX3_cools 29 = .ok (.bipush 24, 2) := dk_16 24 (dk_at dksX3_cools_1 6 rfl rfl)
theorem dX3_cools_31 : decode cX3_cools 31 = .ok (.if_icmp .ge 200, 3) := dk_162 0 200 (dk_at dksX3_cools_1 8 rfl rfl)
theorem dX3_cools_34 : decode cX3_cools 34 = .ok (.aload_n 0, 1) := dk_42 (dk_at dksX3_cools_1 11 rfl rfl)
theorem dX3_cools_35 : decode cX3_cools 35 = .ok (.iload_n 1, 1) := dk_27 (dk_at dksX3_cools_1 12 rfl rfl)
theorem dX3_cools_36 : decode cX3_cools 36 = .ok (.invokevirtual 62, 3) := dk_182 0 62 (dk_at dksX3_cools_1 13 rfl rfl)
theorem dX3_cools_39 : decode cX3_cools 39 = .ok (.ifCond .eq 186, 3) := dk_153 0 186 (dk_at dksX3_cools_1 16 rfl rfl)
theorem dX3_cools_42 : decode cX3_cools 42 = .ok (.aload_n 0, 1) := dk_42 (dk_at dksX3_cools_1 19 rfl rfl)
theorem dX3_cools_43 : decode cX3_cools 43 = .ok (.aload_n 0, 1) := dk_42 (dk_at dksX3_cools_1 20 rfl rfl)
theorem dX3_cools_44 : decode cX3_cools 44 = .ok (.iload_n 1, 1) := dk_27 (dk_at dksX3_cools_1 21 rfl rfl)
theorem dX3_cools_45 : decode cX3_cools 45 = .ok (.iconst 0, 1) := dk_3 (dk_at dksX3_cools_1 22 rfl rfl)
theorem dX3_cools_46 : decode cX3_cools 46 = .ok (.invokevirtual 58, 3) := dk_182 0 58 (dk_at dksX3_cools_2 0 rfl rfl)
theorem dX3_cools_49 : decode cX3_cools 49 = .ok (.iconst 1, 1) := dk_4 (dk_at dksX3_cools_2 3 rfl rfl)
theorem dX3_cools_50 : decode cX3_cools 50 = .ok (.invokevirtual 69, 3) := dk_182 0 69 (dk_at dksX3_cools_2 4 rfl rfl)
theorem dX3_cools_53 : decode cX3_cools 53 = .ok (.istore_n 2, 1) := dk_61 (dk_at dksX3_cools_2 7 rfl rfl)
theorem dX3_cools_54 : decode cX3_cools 54 = .ok (.aload_n 0, 1) := dk_42 (dk_at dksX3_cools_2 8 rfl rfl)
theorem dX3_cools_55 : decode cX3_cools 55 = .ok (.iload_n 1, 1) := dk_27 (dk_at dksX3_cools_2 9 rfl rfl)
theorem dX3_cools_56 : decode cX3_cools 56 = .ok (.invokevirtual 85, 3) := dk_182 0 85 (dk_at dksX3_cools_2 10 rfl rfl)
theorem dX3_cools_59 : decode cX3_cools 59 = .ok (.istore_n 3, 1) := dk_62 (dk_at dksX3_cools_2 13 rfl rfl)
theorem dX3_cools_60 : decode cX3_cools 60 = .ok (.aload_n 0, 1) := dk_42 (dk_at dksX3_cools_2 14 rfl rfl)
theorem dX3_cools_61 : decode cX3_cools 61 = .ok (.iload_n 1, 1) := dk_27 (dk_at dksX3_cools_2 15 rfl rfl)
theorem dX3_cools_62 : decode cX3_cools 62 = .ok (.iconst 2, 1) := dk_5 (dk_at dksX3_cools_2 16 rfl rfl)
theorem dX3_cools_63 : decode cX3_cools 63 = .ok (.invokevirtual 58, 3) := dk_182 0 58 (dk_at dksX3_cools_2 17 rfl rfl)
theorem dX3_cools_66 : decode cX3_cools 66 = .ok (.istore 4, 2) := dk_54 4 (dk_at dksX3_cools_2 20 rfl rfl)
theorem dX3_cools_68 : decode cX3_cools 68 = .ok (.iload 4, 2) := dk_21 4 (dk_at dksX3_cools_2 22 rfl rfl)
theorem dX3_cools_70 : decode cX3_cools 70 = .ok (.aload_n 0, 1) := dk_42 (dk_at dksX3_cools_3 0 rfl rfl)
theorem dX3_cools_71 : decode cX3_cools 71 = .ok (.getfield 41, 3) := dk_180 0 41 (dk_at dksX3_cools_3 1 rfl rfl)
theorem dX3_cools_74 : decode cX3_cools 74 = .ok (.iload_n 1, 1) := dk_27 (dk_at dksX3_cools_3 4 rfl rfl)
theorem dX3_cools_75 : decode cX3_cools 75 = .ok (.iconst 3, 1) := dk_6 (dk_at dksX3_cools_3 5 rfl rfl)
theorem dX3_cools_76 : decode cX3_cools 76 = .ok (.idiv, 1) := dk_108 (dk_at dksX3_cools_3 6 rfl rfl)
theorem dX3_cools_77 : decode cX3_cools 77 = .ok (.iaload, 1) := dk_46 (dk_at dksX3_cools_3 7 rfl rfl)
theorem dX3_cools_78 : decode cX3_cools 78 = .ok (.iload 4, 2) := dk_21 4 (dk_at dksX3_cools_3 8 rfl rfl)
theorem dX3_cools_80 : decode cX3_cools 80 = .ok (.isub, 1) := dk_100 (dk_at dksX3_cools_3 10 rfl rfl)
theorem dX3_cools_81 : decode cX3_cools 81 = .ok (.iload_n 2, 1) := dk_28 (dk_at dksX3_cools_3 11 rfl rfl)
theorem dX3_cools_82 : decode cX3_cools 82 = .ok (.iconst 2, 1) := dk_5 (dk_at dksX3_cools_3 12 rfl rfl)
theorem dX3_cools_83 : decode cX3_cools 83 = .ok (.iadd, 1) := dk_96 (dk_at dksX3_cools_3 13 rfl rfl)
theorem dX3_cools_84 : decode cX3_cools 84 = .ok (.invokestatic 82, 3) := dk_184 0 82 (dk_at dksX3_cools_3 14 rfl rfl)
theorem dX3_cools_87 : decode cX3_cools 87 = .ok (.iadd, 1) := dk_96 (dk_at dksX3_cools_3 17 rfl rfl)
theorem dX3_cools_88 : decode cX3_cools 88 = .ok (.istore 5, 2) := dk_54 5 (dk_at dksX3_cools_3 18 rfl rfl)
theorem dX3_cools_90 : decode cX3_cools 90 = .ok (.aload_n 0, 1) := dk_42 (dk_at dksX3_cools_3 20 rfl rfl)
theorem dX3_cools_91 : decode cX3_cools 91 = .ok (.iload_n 1, 1) := dk_27 (dk_at dksX3_cools_3 21 rfl rfl)
theorem dX3_cools_92 : decode cX3_cools 92 = .ok (.iconst 2, 1) := dk_5 (dk_at dksX3_cools_3 22 rfl rfl)
theorem dX3_cools_93 : decode cX3_cools 93 = .ok (.iload 5, 2) := dk_21 5 (dk_at dksX3_cools_4 0 rfl rfl)
theorem dX3_cools_95 : decode cX3_cools 95 = .ok (.invokevirtual 51, 3) := dk_182 0 51 (dk_at dksX3_cools_4 2 rfl rfl)
theorem dX3_cools_98 : decode cX3_cools 98 = .ok (.iload 4, 2) := dk_21 4 (dk_at dksX3_cools_4 5 rfl rfl)
theorem dX3_cools_100 : decode cX3_cools 100 = .ok (.iload_n 3, 1) := dk_29 (dk_at dksX3_cools_4 7 rfl rfl)
theorem dX3_cools_101 : decode cX3_cools 101 = .ok (.invokestatic 88, 3) := dk_184 0 88 (dk_at dksX3_cools_4 8 rfl rfl)
theorem dX3_cools_104 : decode cX3_cools 104 = .ok (.if_icmp .le 13, 3) := dk_164 0 13 (dk_at dksX3_cools_4 11 rfl rfl)
theorem dX3_cools_107 : decode cX3_cools 107 = .ok (.aload_n 0, 1) := dk_42 (dk_at dksX3_cools_4 14 rfl rfl)
theorem dX3_cools_108 : decode cX3_cools 108 = .ok (.getfield 13, 3) := dk_180 0 13 (dk_at dksX3_cools_4 15 rfl rfl)
theorem dX3_cools_111 : decode cX3_cools 111 = .ok (.iload_n 1, 1) := dk_27 (dk_at dksX3_cools_4 18 rfl rfl)
theorem dX3_cools_112 : decode cX3_cools 112 = .ok (.fconst 0, 1) := dk_11 (dk_at dksX3_cools_4 19 rfl rfl)
theorem dX3_cools_113 : decode cX3_cools 113 = .ok (.fastore, 1) := dk_81 (dk_at dksX3_cools_4 20 rfl rfl)
theorem dX3_cools_114 : decode cX3_cools 114 = .ok (.goto 59, 3) := dk_167 0 59 (dk_at dksX3_cools_4 21 rfl rfl)
theorem dX3_cools_117 : decode cX3_cools 117 = .ok (.iload 4, 2) := dk_21 4 (dk_at dksX3_cools_5 0 rfl rfl)
theorem dX3_cools_119 : decode cX3_cools 119 = .ok (.iload_n 3, 1) := dk_29 (dk_at dksX3_cools_5 2 rfl rfl)
theorem dX3_cools_120 : decode cX3_cools 120 = .ok (.invokestatic 91, 3) := dk_184 0 91 (dk_at dksX3_cools_5 3 rfl rfl)
theorem dX3_cools_123 : decode cX3_cools 123 = .ok (.if_icmp .lt 50, 3) := dk_161 0 50 (dk_at dksX3_cools_5 6 rfl rfl)
theorem dX3_cools_126 : decode cX3_cools 126 = .ok (.aload_n 0, 1) := dk_42 (dk_at dksX3_cools_5 9 rfl rfl)
theorem dX3_cools_127 : decode cX3_cools 127 = .ok (.getfield 13, 3) := dk_180 0 13 (dk_at dksX3_cools_5 10 rfl rfl)
theorem dX3_cools_130 : decode cX3_cools 130 = .ok (.iload_n 1, 1) := dk_27 (dk_at dksX3_cools_5 13 rfl rfl)
theorem dX3_cools_131 : decode cX3_cools 131 = .ok (.iload 5, 2) := dk_21 5 (dk_at dksX3_cools_5 14 rfl rfl)
theorem dX3_cools_133 : decode cX3_cools 133 = .ok (.iload 4, 2) := dk_21 4 (dk_at dksX3_cools_5 16 rfl rfl)
theorem dX3_cools_135 : decode cX3_cools 135 = .ok (.if_icmp .ge 29, 3) := dk_162 0 29 (dk_at dksX3_cools_5 18 rfl rfl)
theorem dX3_cools_138 : decode cX3_cools 138 = .ok (.aload_n 0, 1) := dk_42 (dk_at dksX3_cools_5 21 rfl rfl)
theorem dX3_cools_139 : decode cX3_cools 139 = .ok (.getfield 13, 3) := dk_180 0 13 (dk_at dksX3_cools_6 0 rfl rfl)
theorem dX3_cools_142 : decode cX3_cools 142 = .ok (.iload_n 1, 1) := dk_27 (dk_at dksX3_cools_6 3 rfl rfl)
theorem dX3_cools_143 : decode cX3_cools 143 = .ok (.faload, 1) := dk_48 (dk_at dksX3_cools_6 4 rfl rfl)
theorem dX3_cools_144 : decode cX3_cools 144 = .ok (.iload_n 2, 1) := dk_28 (dk_at dksX3_cools_6 5 rfl rfl)
theorem dX3_cools_145 : decode cX3_cools 145 = .ok (.iload_n 2, 1) := dk_28 (dk_at dksX3_cools_6 6 rfl rfl)
theorem dX3_cools_146 : decode cX3_cools 146 = .ok (.imul, 1) := dk_104 (dk_at dksX3_cools_6 7 rfl rfl)
theorem dX3_cools_147 : decode cX3_cools 147 = .ok (.iload 4, 2) := dk_21 4 (dk_at dksX3_cools_6 8 rfl rfl)
theorem dX3_cools_149 : decode cX3_cools 149 = .ok (.iload 5, 2) := dk_21 5 (dk_at dksX3_cools_6 10 rfl rfl)
theorem dX3_cools_151 : decode cX3_cools 151 = .ok (.isub, 1) := dk_100 (dk_at dksX3_cools_6 12 rfl rfl)
theorem dX3_cools_152 : decode cX3_cools 152 = .ok (.imul, 1) := dk_104 (dk_at dksX3_cools_6 13 rfl rfl)
theorem dX3_cools_153 : decode cX3_cools 153 = .ok (.i2f, 1) := dk_134 (dk_at dksX3_cools_6 14 rfl rfl)
theorem dX3_cools_154 : decode cX3_cools 154 = .ok (.iload_n 3, 1) := dk_29 (dk_at dksX3_cools_6 15 rfl rfl)
theorem dX3_cools_155 : decode cX3_cools 155 = .ok (.invokestatic 94, 3) := dk_184 0 94 (dk_at dksX3_cools_6 16 rfl rfl)
theorem dX3_cools_158 : decode cX3_cools 158 = .ok (.i2f, 1) := dk_134 (dk_at dksX3_cools_6 19 rfl rfl)
theorem dX3_cools_159 : decode cX3_cools 159 = .ok (.fdiv, 1) := dk_110 (dk_at dksX3_cools_6 20 rfl rfl)
theorem dX3_cools_160 : decode cX3_cools 160 = .ok (.fadd, 1) := dk_98 (dk_at dksX3_cools_6 21 rfl rfl)
theorem dX3_cools_161 : decode cX3_cools 161 = .ok (.goto 11, 3) := dk_167 0 11 (dk_at dksX3_cools_7 0 rfl rfl)
theorem dX3_cools_164 : decode cX3_cools 164 = .ok (.aload_n 0, 1) := dk_42 (dk_at dksX3_cools_7 3 rfl rfl)
theorem dX3_cools_165 : decode cX3_cools 165 = .ok (.getfield 13, 3) := dk_180 0 13 (dk_at dksX3_cools_7 4 rfl rfl)
theorem dX3_cools_168 : decode cX3_cools 168 = .ok (.iload_n 1, 1) := dk_27 (dk_at dksX3_cools_7 7 rfl rfl)
theorem dX3_cools_169 : decode cX3_cools 169 = .ok (.faload, 1) := dk_48 (dk_at dksX3_cools_7 8 rfl rfl)
theorem dX3_cools_170 : decode cX3_cools 170 = .ok (.fconst 2, 1) := dk_13 (dk_at dksX3_cools_7 9 rfl rfl)
theorem dX3_cools_171 : decode cX3_cools 171 = .ok (.fdiv, 1) := dk_110 (dk_at dksX3_cools_7 10 rfl rfl)
theorem dX3_cools_172 : decode cX3_cools 172 = .ok (.fastore, 1) := dk_81 (dk_at dksX3_cools_7 11 rfl rfl)
theorem dX3_cools_173 : decode cX3_cools 173 = .ok (.aload_n 0, 1) := dk_42 (dk_at dksX3_cools_7 12 rfl rfl)
theorem dX3_cools_174 : decode cX3_cools 174 = .ok (.iload_n 1, 1) := dk_27 (dk_at dksX3_cools_7 13 rfl rfl)
theorem dX3_cools_175 : decode cX3_cools 175 = .ok (.iconst 3, 1) := dk_6 (dk_at dksX3_cools_7 14 rfl rfl)
theorem dX3_cools_176 : decode cX3_cools 176 = .ok (.idiv, 1) := dk_108 (dk_at dksX3_cools_7 15 rfl rfl)
theorem dX3_cools_177 : decode cX3_cools 177 = .ok (.iconst 3, 1) := dk_6 (dk_at dksX3_cools_7 16 rfl rfl)
theorem dX3_cools_178 : decode cX3_cools 178 = .ok (.aload_n 0, 1) := dk_42 (dk_at dksX3_cools_7 17 rfl rfl)
theorem dX3_cools_179 : decode cX3_cools 179 = .ok (.iload_n 1, 1) := dk_27 (dk_at dksX3_cools_7 18 rfl rfl)
theorem dX3_cools_180 : decode cX3_cools 180 = .ok (.iconst 3, 1) := dk_6 (dk_at dksX3_cools_7 19 rfl rfl)
theorem dX3_cools_181 : decode cX3_cools 181 = .ok (.idiv, 1) := dk_108 (dk_at dksX3_cools_7 20 rfl rfl)
theorem dX3_cools_182 : decode cX3_cools 182 = .ok (.iconst 3, 1) := dk_6 (dk_at dksX3_cools_7 21 rfl rfl)
theorem dX3_cools_183 : decode cX3_cools 183 = .ok (.invokevirtual 72, 3) := dk_182 0 72 (dk_at dksX3_cools_8 0 rfl rfl)
theorem dX3_cools_186 : decode cX3_cools 186 = .ok (.iload 5, 2) := dk_21 5 (dk_at dksX3_cools_8 3 rfl rfl)
theorem dX3_cools_188 : decode cX3_cools 188 = .ok (.aload_n 0, 1) := dk_42 (dk_at dksX3_cools_8 5 rfl rfl)
theorem dX3_cools_189 : decode cX3_cools 189 = .ok (.getfield 41, 3) := dk_180 0 41 (dk_at dksX3_cools_8 6 rfl rfl)
theorem dX3_cools_192 : decode cX3_cools 192 = .ok (.iload_n 1, 1) := dk_27 (dk_at dksX3_cools_8 9 rfl rfl)
theorem dX3_cools_193 : decode cX3_cools 193 = .ok (.iconst 3, 1) := dk_6 (dk_at dksX3_cools_8 10 rfl rfl)
theorem dX3_cools_194 : decode cX3_cools 194 = .ok (.idiv, 1) := dk_108 (dk_at dksX3_cools_8 11 rfl rfl)
theorem dX3_cools_195 : decode cX3_cools 195 = .ok (.iaload, 1) := dk_46 (dk_at dksX3_cools_8 12 rfl rfl)
theorem dX3_cools_196 : decode cX3_cools 196 = .ok (.if_icmp .le 7, 3) := dk_164 0 7 (dk_at dksX3_cools_8 13 rfl rfl)
theorem dX3_cools_199 : decode cX3_cools 199 = .ok (.iconst 1, 1) := dk_4 (dk_at dksX3_cools_8 16 rfl rfl)
theorem dX3_cools_200 : decode cX3_cools 200 = .ok (.goto 21, 3) := dk_167 0 21 (dk_at dksX3_cools_8 17 rfl rfl)
theorem dX3_cools_203 : decode cX3_cools 203 = .ok (.iload 5, 2) := dk_21 5 (dk_at dksX3_cools_8 20 rfl rfl)
theorem dX3_cools_205 : decode cX3_cools 205 = .ok (.aload_n 0, 1) := dk_42 (dk_at dksX3_cools_8 22 rfl rfl)
theorem dX3_cools_206 : decode cX3_cools 206 = .ok (.getfield 41, 3) := dk_180 0 41 (dk_at dksX3_cools_9 0 rfl rfl)
theorem dX3_cools_209 : decode cX3_cools 209 = .ok (.iload_n 1, 1) := dk_27 (dk_at dksX3_cools_9 3 rfl rfl)
theorem dX3_cools_210 : decode cX3_cools 210 = .ok (.iconst 3, 1) := dk_6 (dk_at dksX3_cools_9 4 rfl rfl)
theorem dX3_cools_211 : decode cX3_cools 211 = .ok (.idiv, 1) := dk_108 (dk_at dksX3_cools_9 5 rfl rfl)
theorem dX3_cools_212 : decode cX3_cools 212 = .ok (.iaload, 1) := dk_46 (dk_at dksX3_cools_9 6 rfl rfl)
theorem dX3_cools_213 : decode cX3_cools 213 = .ok (.if_icmp .ge 7, 3) := dk_162 0 7 (dk_at dksX3_cools_9 7 rfl rfl)
theorem dX3_cools_216 : decode cX3_cools 216 = .ok (.iconst (-1), 1) := dk_2 (dk_at dksX3_cools_9 10 rfl rfl)
theorem dX3_cools_217 : decode cX3_cools 217 = .ok (.goto 4, 3) := dk_167 0 4 (dk_at dksX3_cools_9 11 rfl rfl)
theorem dX3_cools_220 : decode cX3_cools 220 = .ok (.iconst 0, 1) := dk_3 (dk_at dksX3_cools_9 14 rfl rfl)
theorem dX3_cools_221 : decode cX3_cools 221 = .ok (.iadd, 1) := dk_96 (dk_at dksX3_cools_9 15 rfl rfl)
theorem dX3_cools_222 : decode cX3_cools 222 = .ok (.invokevirtual 47, 3) := dk_182 0 47 (dk_at dksX3_cools_9 16 rfl rfl)
theorem dX3_cools_225 : decode cX3_cools 225 = .ok (.iinc 1 1, 3) := dk_132 1 1 (dk_at dksX3_cools_9 19 rfl rfl)
theorem dX3_cools_228 : decode cX3_cools 228 = .ok (.goto (-200), 3) := dk_167 255 56 (dk_at dksX3_cools_10 0 rfl rfl)
theorem dX3_cools_231 : decode cX3_cools 231 = .ok (.return_, 1) := dk_177 (dk_at dksX3_cools_10 3 rfl rfl)
abbrev cX3_kindAt : ByteArray := prog_22_method_21_code
def yX3_kindAt : MethodName := ⟨RX3, "kindAt", "(I)I"⟩
def dkwX3_kindAt_0 : List UInt8 := [42, 42, 27, 3, 182, 0, 58, 3, 182, 0, 69, 172]
abbrev dktX3_kindAt_0 : List UInt8 := dkwX3_kindAt_0 ++ []
theorem dksX3_kindAt_0 : cX3_kindAt.data.toList.drop 0 = dktX3_kindAt_0 := by decide +kernel
theorem dX3_kindAt_0 : decode cX3_kindAt 0 = .ok (.aload_n 0, 1) := dk_42 (dk_at dksX3_kindAt_0 0 rfl rfl)
theorem dX3_kindAt_1 : decode cX3_kindAt 1 = .ok (.aload_n 0, 1) := dk_42 (dk_at dksX3_kindAt_0 1 rfl rfl)
theorem dX3_kindAt_2 : decode cX3_kindAt 2 = .ok (.iload_n 1, 1) := dk_27 (dk_at dksX3_kindAt_0 2 rfl rfl)
theorem dX3_kindAt_3 : decode cX3_kindAt 3 = .ok (.iconst 0, 1) := dk_3 (dk_at dksX3_kindAt_0 3 rfl rfl)
theorem dX3_kindAt_4 : decode cX3_kindAt 4 = .ok (.invokevirtual 58, 3) := dk_182 0 58 (dk_at dksX3_kindAt_0 4 rfl rfl)
theorem dX3_kindAt_7 : decode cX3_kindAt 7 = .ok (.iconst 0, 1) := dk_3 (dk_at dksX3_kindAt_0 7 rfl rfl)
theorem dX3_kindAt_8 : decode cX3_kindAt 8 = .ok (.invokevirtual 69, 3) := dk_182 0 69 (dk_at dksX3_kindAt_0 8 rfl rfl)
theorem dX3_kindAt_11 : decode cX3_kindAt 11 = .ok (.ireturn, 1) := dk_172 (dk_at dksX3_kindAt_0 11 rfl rfl)
abbrev cX3_high : ByteArray := prog_22_method_18_code
def yX3_high : MethodName := ⟨RX3, "high", "(I)I"⟩
def dkwX3_high_1 : List UInt8 := [172]
abbrev dktX3_high_1 : List UInt8 := dkwX3_high_1 ++ []
def dkwX3_high_0 : List UInt8 := [26, 154, 0, 9, 17, 2, 38, 167, 0, 17, 26, 4, 160, 0, 9, 17, 2, 48, 167, 0, 6, 17, 2, 28]
abbrev dktX3_high_0 : List UInt8 := dkwX3_high_0 ++ dktX3_high_1
theorem dksX3_high_0 : cX3_high.data.toList.drop 0 = dktX3_high_0 := by decide +kernel
theorem dksX3_high_1 : cX3_high.data.toList.drop 24 = dktX3_high_1 := dk_seg dksX3_high_0 24 rfl rfl
theorem dX3_high_0 : decode cX3_high 0 = .ok (.iload_n 0, 1) := dk_26 (dk_at dksX3_high_0 0 rfl rfl)
theorem dX3_high_1 : decode cX3_high 1 = .ok (.ifCond .ne 9, 3) := dk_154 0 9 (dk_at dksX3_high_0 1 rfl rfl)
theorem dX3_high_4 : decode cX3_high 4 = .ok (.sipush 550, 3) := dk_17 2 38 (dk_at dksX3_high_0 4 rfl rfl)
theorem dX3_high_7 : decode cX3_high 7 = .ok (.goto 17, 3) := dk_167 0 17 (dk_at dksX3_high_0 7 rfl rfl)
theorem dX3_high_10 : decode cX3_high 10 = .ok (.iload_n 0, 1) := dk_26 (dk_at dksX3_high_0 10 rfl rfl)
theorem dX3_high_11 : decode cX3_high 11 = .ok (.iconst 1, 1) := dk_4 (dk_at dksX3_high_0 11 rfl rfl)
theorem dX3_high_12 : decode cX3_high 12 = .ok (.if_icmp .ne 9, 3) := dk_160 0 9 (dk_at dksX3_high_0 12 rfl rfl)
theorem dX3_high_15 : decode cX3_high 15 = .ok (.sipush 560, 3) := dk_17 2 48 (dk_at dksX3_high_0 15 rfl rfl)
theorem dX3_high_18 : decode cX3_high 18 = .ok (.goto 6, 3) := dk_167 0 6 (dk_at dksX3_high_0 18 rfl rfl)
theorem dX3_high_21 : decode cX3_high 21 = .ok (.sipush 540, 3) := dk_17 2 28 (dk_at dksX3_high_0 21 rfl rfl)
theorem dX3_high_24 : decode cX3_high 24 = .ok (.ireturn, 1) := dk_172 (dk_at dksX3_high_1 0 rfl rfl)
abbrev cX3_low : ByteArray := prog_22_method_17_code
def yX3_low : MethodName := ⟨RX3, "low", "(I)I"⟩
def dkwX3_low_1 : List UInt8 := [172]
abbrev dktX3_low_1 : List UInt8 := dkwX3_low_1 ++ []
def dkwX3_low_0 : List UInt8 := [26, 154, 0, 9, 17, 1, 194, 167, 0, 17, 26, 4, 160, 0, 9, 17, 1, 214, 167, 0, 6, 17, 1, 174]
abbrev dktX3_low_0 : List UInt8 := dkwX3_low_0 ++ dktX3_low_1
theorem dksX3_low_0 : cX3_low.data.toList.drop 0 = dktX3_low_0 := by decide +kernel
theorem dksX3_low_1 : cX3_low.data.toList.drop 24 = dktX3_low_1 := dk_seg dksX3_low_0 24 rfl rfl
theorem dX3_low_0 : decode cX3_low 0 = .ok (.iload_n 0, 1) := dk_26 (dk_at dksX3_low_0 0 rfl rfl)
theorem dX3_low_1 : decode cX3_low 1 = .ok (.ifCond .ne 9, 3) := dk_154 0 9 (dk_at dksX3_low_0 1 rfl rfl)
theorem dX3_low_4 : decode cX3_low 4 = .ok (.sipush 450, 3) := dk_17 1 194 (dk_at dksX3_low_0 4 rfl rfl)
theorem dX3_low_7 : decode cX3_low 7 = .ok (.goto 17, 3) := dk_167 0 17 (dk_at dksX3_low_0 7 rfl rfl)
theorem dX3_low_10 : decode cX3_low 10 = .ok (.iload_n 0, 1) := dk_26 (dk_at dksX3_low_0 10 rfl rfl)
theorem dX3_low_11 : decode cX3_low 11 = .ok (.iconst 1, 1) := dk_4 (dk_at dksX3_low_0 11 rfl rfl)
theorem dX3_low_12 : decode cX3_low 12 = .ok (.if_icmp .ne 9, 3) := dk_160 0 9 (dk_at dksX3_low_0 12 rfl rfl)
theorem dX3_low_15 : decode cX3_low 15 = .ok (.sipush 470, 3) := dk_17 1 214 (dk_at dksX3_low_0 15 rfl rfl)
theorem dX3_low_18 : decode cX3_low 18 = .ok (.goto 6, 3) := dk_167 0 6 (dk_at dksX3_low_0 18 rfl rfl)
theorem dX3_low_21 : decode cX3_low 21 = .ok (.sipush 430, 3) := dk_17 1 174 (dk_at dksX3_low_0 21 rfl rfl)
theorem dX3_low_24 : decode cX3_low 24 = .ok (.ireturn, 1) := dk_172 (dk_at dksX3_low_1 0 rfl rfl)
abbrev cX3_soft : ByteArray := prog_22_method_19_code
def yX3_soft : MethodName := ⟨RX3, "soft", "(I)I"⟩
def dkwX3_soft_0 : List UInt8 := [26, 154, 0, 8, 16, 40, 167, 0, 15, 26, 4, 160, 0, 8, 16, 25, 167, 0, 5, 16, 60, 172]
abbrev dktX3_soft_0 : List UInt8 := dkwX3_soft_0 ++ []
theorem dksX3_soft_0 : cX3_soft.data.toList.drop 0 = dktX3_soft_0 := by decide +kernel
theorem dX3_soft_0 : decode cX3_soft 0 = .ok (.iload_n 0, 1) := dk_26 (dk_at dksX3_soft_0 0 rfl rfl)
theorem dX3_soft_1 : decode cX3_soft 1 = .ok (.ifCond .ne 8, 3) := dk_154 0 8 (dk_at dksX3_soft_0 1 rfl rfl)
theorem dX3_soft_4 : decode cX3_soft 4 = .ok (.bipush 40, 2) := dk_16 40 (dk_at dksX3_soft_0 4 rfl rfl)
theorem dX3_soft_6 : decode cX3_soft 6 = .ok (.goto 15, 3) := dk_167 0 15 (dk_at dksX3_soft_0 6 rfl rfl)
theorem dX3_soft_9 : decode cX3_soft 9 = .ok (.iload_n 0, 1) := dk_26 (dk_at dksX3_soft_0 9 rfl rfl)
theorem dX3_soft_10 : decode cX3_soft 10 = .ok (.iconst 1, 1) := dk_4 (dk_at dksX3_soft_0 10 rfl rfl)
theorem dX3_soft_11 : decode cX3_soft 11 = .ok (.if_icmp .ne 8, 3) := dk_160 0 8 (dk_at dksX3_soft_0 11 rfl rfl)
theorem dX3_soft_14 : decode cX3_soft 14 = .ok (.bipush 25, 2) := dk_16 25 (dk_at dksX3_soft_0 14 rfl rfl)
theorem dX3_soft_16 : decode cX3_soft 16 = .ok (.goto 5, 3) := dk_167 0 5 (dk_at dksX3_soft_0 16 rfl rfl)
theorem dX3_soft_19 : decode cX3_soft 19 = .ok (.bipush 60, 2) := dk_16 60 (dk_at dksX3_soft_0 19 rfl rfl)
theorem dX3_soft_21 : decode cX3_soft 21 = .ok (.ireturn, 1) := dk_172 (dk_at dksX3_soft_0 21 rfl rfl)
abbrev cX3_breaks : ByteArray := prog_22_method_29_code
def yX3_breaks : MethodName := ⟨RX3, "breaks", "()I"⟩
def dkwX3_breaks_2 : List UInt8 := [182, 0, 51, 132, 1, 1, 132, 2, 1, 167, 255, 204, 27, 172]
abbrev dktX3_breaks_2 : List UInt8 := dkwX3_breaks_2 ++ []
def dkwX3_breaks_1 : List UInt8 := [42, 28, 182, 0, 85, 184, 0, 97, 134, 149, 158, 0, 19, 42, 28, 7, 182, 0, 100, 42, 28, 7, 4]
abbrev dktX3_breaks_1 : List UInt8 := dkwX3_breaks_1 ++ dktX3_breaks_2
def dkwX3_breaks_0 : List UInt8 := [3, 60, 3, 61, 28, 16, 24, 162, 0, 52, 42, 28, 182, 0, 62, 153, 0, 38, 42, 180, 0, 13, 28, 48]
abbrev dktX3_breaks_0 : List UInt8 := dkwX3_breaks_0 ++ dktX3_breaks_1
theorem dksX3_breaks_0 : cX3_breaks.data.toList.drop 0 = dktX3_breaks_0 := by decide +kernel
theorem dksX3_breaks_1 : cX3_breaks.data.toList.drop 24 = dktX3_breaks_1 := dk_seg dksX3_breaks_0 24 rfl rfl
theorem dksX3_breaks_2 : cX3_breaks.data.toList.drop 47 = dktX3_breaks_2 := dk_seg dksX3_breaks_1 23 rfl rfl
theorem dX3_breaks_0 : decode cX3_breaks 0 = .ok (.iconst 0, 1) := dk_3 (dk_at dksX3_breaks_0 0 rfl rfl)
theorem dX3_breaks_1 : decode cX3_breaks 1 = .ok (.istore_n 1, 1) := dk_60 (dk_at dksX3_breaks_0 1 rfl rfl)
theorem dX3_breaks_2 : decode cX3_breaks 2 = .ok (.iconst 0, 1) := dk_3 (dk_at dksX3_breaks_0 2 rfl rfl)
theorem dX3_breaks_3 : decode cX3_breaks 3 = .ok (.istore_n 2, 1) := dk_61 (dk_at dksX3_breaks_0 3 rfl rfl)
theorem dX3_breaks_4 : decode cX3_breaks 4 = .ok (.iload_n 2, 1) := dk_28 (dk_at dksX3_breaks_0 4 rfl rfl)
theorem dX3_breaks_5 : decode cX3_breaks 5 = .ok (.bipush 24, 2) := dk_16 24 (dk_at dksX3_breaks_0 5 rfl rfl)
theorem dX3_breaks_7 : decode cX3_breaks 7 = .ok (.if_icmp .ge 52, 3) := dk_162 0 52 (dk_at dksX3_breaks_0 7 rfl rfl)
theorem dX3_breaks_10 : decode cX3_breaks 10 = .ok (.aload_n 0, 1) := dk_42 (dk_at dksX3_breaks_0 10 rfl rfl)
theorem dX3_breaks_11 : decode cX3_breaks 11 = .ok (.iload_n 2, 1) := dk_28 (dk_at dksX3_breaks_0 11 rfl rfl)
theorem dX3_breaks_12 : decode cX3_breaks 12 = .ok (.invokevirtual 62, 3) := dk_182 0 62 (dk_at dksX3_breaks_0 12 rfl rfl)
theorem dX3_breaks_15 : decode cX3_breaks 15 = .ok (.ifCond .eq 38, 3) := dk_153 0 38 (dk_at dksX3_breaks_0 15 rfl rfl)
theorem dX3_breaks_18 : decode cX3_breaks 18 = .ok (.aload_n 0, 1) := dk_42 (dk_at dksX3_breaks_0 18 rfl rfl)
theorem dX3_breaks_19 : decode cX3_breaks 19 = .ok (.getfield 13, 3) := dk_180 0 13 (dk_at dksX3_breaks_0 19 rfl rfl)
theorem dX3_breaks_22 : decode cX3_breaks 22 = .ok (.iload_n 2, 1) := dk_28 (dk_at dksX3_breaks_0 22 rfl rfl)
theorem dX3_breaks_23 : decode cX3_breaks 23 = .ok (.faload, 1) := dk_48 (dk_at dksX3_breaks_0 23 rfl rfl)
theorem dX3_breaks_24 : decode cX3_breaks 24 = .ok (.aload_n 0, 1) := dk_42 (dk_at dksX3_breaks_1 0 rfl rfl)
theorem dX3_breaks_25 : decode cX3_breaks 25 = .ok (.iload_n 2, 1) := dk_28 (dk_at dksX3_breaks_1 1 rfl rfl)
theorem dX3_breaks_26 : decode cX3_breaks 26 = .ok (.invokevirtual 85, 3) := dk_182 0 85 (dk_at dksX3_breaks_1 2 rfl rfl)
theorem dX3_breaks_29 : decode cX3_breaks 29 = .ok (.invokestatic 97, 3) := dk_184 0 97 (dk_at dksX3_breaks_1 5 rfl rfl)
theorem dX3_breaks_32 : decode cX3_breaks 32 = .ok (.i2f, 1) := dk_134 (dk_at dksX3_breaks_1 8 rfl rfl)
theorem dX3_breaks_33 : decode cX3_breaks 33 = .ok (.fcmp .l, 1) := dk_149 (dk_at dksX3_breaks_1 9 rfl rfl)
theorem dX3_breaks_34 : decode cX3_breaks 34 = .ok (.ifCond .le 19, 3) := dk_158 0 19 (dk_at dksX3_breaks_1 10 rfl rfl)
theorem dX3_breaks_37 : decode cX3_breaks 37 = .ok (.aload_n 0, 1) := dk_42 (dk_at dksX3_breaks_1 13 rfl rfl)
theorem dX3_breaks_38 : decode cX3_breaks 38 = .ok (.iload_n 2, 1) := dk_28 (dk_at dksX3_breaks_1 14 rfl rfl)
theorem dX3_breaks_39 : decode cX3_breaks 39 = .ok (.iconst 4, 1) := dk_7 (dk_at dksX3_breaks_1 15 rfl rfl)
theorem dX3_breaks_40 : decode cX3_breaks 40 = .ok (.invokevirtual 100, 3) := dk_182 0 100 (dk_at dksX3_breaks_1 16 rfl rfl)
theorem dX3_breaks_43 : decode cX3_breaks 43 = .ok (.aload_n 0, 1) := dk_42 (dk_at dksX3_breaks_1 19 rfl rfl)
theorem dX3_breaks_44 : decode cX3_breaks 44 = .ok (.iload_n 2, 1) := dk_28 (dk_at dksX3_breaks_1 20 rfl rfl)
theorem dX3_breaks_45 : decode cX3_breaks 45 = .ok (.iconst 4, 1) := dk_7 (dk_at dksX3_breaks_1 21 rfl rfl)
theorem dX3_breaks_46 : decode cX3_breaks 46 = .ok (.iconst 1, 1) := dk_4 (dk_at dksX3_breaks_1 22 rfl rfl)
theorem dX3_breaks_47 : decode cX3_breaks 47 = .ok (.invokevirtual 51, 3) := dk_182 0 51 (dk_at dksX3_breaks_2 0 rfl rfl)
theorem dX3_breaks_50 : decode cX3_breaks 50 = .ok (.iinc 1 1, 3) := dk_132 1 1 (dk_at dksX3_breaks_2 3 rfl rfl)
theorem dX3_breaks_53 : decode cX3_breaks 53 = .ok (.iinc 2 1, 3) := dk_132 2 1 (dk_at dksX3_breaks_2 6 rfl rfl)
theorem dX3_breaks_56 : decode cX3_breaks 56 = .ok (.goto (-52), 3) := dk_167 255 204 (dk_at dksX3_breaks_2 9 rfl rfl)
theorem dX3_breaks_59 : decode cX3_breaks 59 = .ok (.iload_n 1, 1) := dk_27 (dk_at dksX3_breaks_2 12 rfl rfl)
theorem dX3_breaks_60 : decode cX3_breaks 60 = .ok (.ireturn, 1) := dk_172 (dk_at dksX3_breaks_2 13 rfl rfl)
abbrev cX3_limit : ByteArray := prog_22_method_20_code
def yX3_limit : MethodName := ⟨RX3, "limit", "(I)I"⟩
def dkwX3_limit_0 : List UInt8 := [26, 154, 0, 8, 16, 30, 167, 0, 15, 26, 4, 160, 0, 8, 16, 20, 167, 0, 5, 16, 45, 172]
abbrev dktX3_limit_0 : List UInt8 := dkwX3_limit_0 ++ []
theorem dksX3_limit_0 : cX3_limit.data.toList.drop 0 = dktX3_limit_0 := by decide +kernel
theorem dX3_limit_0 : decode cX3_limit 0 = .ok (.iload_n 0, 1) := dk_26 (dk_at dksX3_limit_0 0 rfl rfl)
theorem dX3_limit_1 : decode cX3_limit 1 = .ok (.ifCond .ne 8, 3) := dk_154 0 8 (dk_at dksX3_limit_0 1 rfl rfl)
theorem dX3_limit_4 : decode cX3_limit 4 = .ok (.bipush 30, 2) := dk_16 30 (dk_at dksX3_limit_0 4 rfl rfl)
theorem dX3_limit_6 : decode cX3_limit 6 = .ok (.goto 15, 3) := dk_167 0 15 (dk_at dksX3_limit_0 6 rfl rfl)
theorem dX3_limit_9 : decode cX3_limit 9 = .ok (.iload_n 0, 1) := dk_26 (dk_at dksX3_limit_0 9 rfl rfl)
theorem dX3_limit_10 : decode cX3_limit 10 = .ok (.iconst 1, 1) := dk_4 (dk_at dksX3_limit_0 10 rfl rfl)
theorem dX3_limit_11 : decode cX3_limit 11 = .ok (.if_icmp .ne 8, 3) := dk_160 0 8 (dk_at dksX3_limit_0 11 rfl rfl)
theorem dX3_limit_14 : decode cX3_limit 14 = .ok (.bipush 20, 2) := dk_16 20 (dk_at dksX3_limit_0 14 rfl rfl)
theorem dX3_limit_16 : decode cX3_limit 16 = .ok (.goto 5, 3) := dk_167 0 5 (dk_at dksX3_limit_0 16 rfl rfl)
theorem dX3_limit_19 : decode cX3_limit 19 = .ok (.bipush 45, 2) := dk_16 45 (dk_at dksX3_limit_0 19 rfl rfl)
theorem dX3_limit_21 : decode cX3_limit 21 = .ok (.ireturn, 1) := dk_172 (dk_at dksX3_limit_0 21 rfl rfl)
abbrev cX3_ends : ByteArray := prog_22_method_28_code
def yX3_ends : MethodName := ⟨RX3, "ends", "(II)V"⟩
def dkwX3_ends_2 : List UInt8 := [182, 0, 51, 42, 27, 6, 3, 182, 0, 51, 42, 180, 0, 13, 27, 11, 81, 177]
abbrev dktX3_ends_2 : List UInt8 := dkwX3_ends_2 ++ []
def dkwX3_ends_1 : List UInt8 := [182, 0, 58, 96, 28, 79, 42, 27, 3, 2, 182, 0, 51, 42, 27, 4, 3, 182, 0, 51, 42, 27, 5, 3]
abbrev dktX3_ends_1 : List UInt8 := dkwX3_ends_1 ++ dktX3_ends_2
def dkwX3_ends_0 : List UInt8 := [42, 27, 3, 182, 0, 58, 62, 42, 180, 0, 7, 17, 0, 164, 16, 25, 29, 104, 96, 8, 96, 42, 27, 4]
abbrev dktX3_ends_0 : List UInt8 := dkwX3_ends_0 ++ dktX3_ends_1
theorem dksX3_ends_0 : cX3_ends.data.toList.drop 0 = dktX3_ends_0 := by decide +kernel
theorem dksX3_ends_1 : cX3_ends.data.toList.drop 24 = dktX3_ends_1 := dk_seg dksX3_ends_0 24 rfl rfl
theorem dksX3_ends_2 : cX3_ends.data.toList.drop 48 = dktX3_ends_2 := dk_seg dksX3_ends_1 24 rfl rfl
theorem dX3_ends_0 : decode cX3_ends 0 = .ok (.aload_n 0, 1) := dk_42 (dk_at dksX3_ends_0 0 rfl rfl)
theorem dX3_ends_1 : decode cX3_ends 1 = .ok (.iload_n 1, 1) := dk_27 (dk_at dksX3_ends_0 1 rfl rfl)
theorem dX3_ends_2 : decode cX3_ends 2 = .ok (.iconst 0, 1) := dk_3 (dk_at dksX3_ends_0 2 rfl rfl)
theorem dX3_ends_3 : decode cX3_ends 3 = .ok (.invokevirtual 58, 3) := dk_182 0 58 (dk_at dksX3_ends_0 3 rfl rfl)
theorem dX3_ends_6 : decode cX3_ends 6 = .ok (.istore_n 3, 1) := dk_62 (dk_at dksX3_ends_0 6 rfl rfl)
theorem dX3_ends_7 : decode cX3_ends 7 = .ok (.aload_n 0, 1) := dk_42 (dk_at dksX3_ends_0 7 rfl rfl)
theorem dX3_ends_8 : decode cX3_ends 8 = .ok (.getfield 7, 3) := dk_180 0 7 (dk_at dksX3_ends_0 8 rfl rfl)
theorem dX3_ends_11 : decode cX3_ends 11 = .ok (.sipush 164, 3) := dk_17 0 164 (dk_at dksX3_ends_0 11 rfl rfl)
theorem dX3_ends_14 : decode cX3_ends 14 = .ok (.bipush 25, 2) := dk_16 25 (dk_at dksX3_ends_0 14 rfl rfl)
theorem dX3_ends_16 : decode cX3_ends 16 = .ok (.iload_n 3, 1) := dk_29 (dk_at dksX3_ends_0 16 rfl rfl)
theorem dX3_ends_17 : decode cX3_ends 17 = .ok (.imul, 1) := dk_104 (dk_at dksX3_ends_0 17 rfl rfl)
theorem dX3_ends_18 : decode cX3_ends 18 = .ok (.iadd, 1) := dk_96 (dk_at dksX3_ends_0 18 rfl rfl)
theorem dX3_ends_19 : decode cX3_ends 19 = .ok (.iconst 5, 1) := dk_8 (dk_at dksX3_ends_0 19 rfl rfl)
theorem dX3_ends_20 : decode cX3_ends 20 = .ok (.iadd, 1) := dk_96 (dk_at dksX3_ends_0 20 rfl rfl)
theorem dX3_ends_21 : decode cX3_ends 21 = .ok (.aload_n 0, 1) := dk_42 (dk_at dksX3_ends_0 21 rfl rfl)
theorem dX3_ends_22 : decode cX3_ends 22 = .ok (.iload_n 1, 1) := dk_27 (dk_at dksX3_ends_0 22 rfl rfl)
theorem dX3_ends_23 : decode cX3_ends 23 = .ok (.iconst 1, 1) := dk_4 (dk_at dksX3_ends_0 23 rfl rfl)
theorem dX3_ends_24 : decode cX3_ends 24 = .ok (.invokevirtual 58, 3) := dk_182 0 58 (dk_at dksX3_ends_1 0 rfl rfl)
theorem dX3_ends_27 : decode cX3_ends 27 = .ok (.iadd, 1) := dk_96 (dk_at dksX3_ends_1 3 rfl rfl)
theorem dX3_ends_28 : decode cX3_ends 28 = .ok (.iload_n 2, 1) := dk_28 (dk_at dksX3_ends_1 4 rfl rfl)
theorem dX3_ends_29 : decode cX3_ends 29 = .ok (.iastore, 1) := dk_79 (dk_at dksX3_ends_1 5 rfl rfl)
theorem dX3_ends_30 : decode cX3_ends 30 = .ok (.aload_n 0, 1) := dk_42 (dk_at dksX3_ends_1 6 rfl rfl)
theorem dX3_ends_31 : decode cX3_ends 31 = .ok (.iload_n 1, 1) := dk_27 (dk_at dksX3_ends_1 7 rfl rfl)
theorem dX3_ends_32 : decode cX3_ends 32 = .ok (.iconst 0, 1) := dk_3 (dk_at dksX3_ends_1 8 rfl rfl)
theorem dX3_ends_33 : decode cX3_ends 33 = .ok (.iconst (-1), 1) := dk_2 (dk_at dksX3_ends_1 9 rfl rfl)
theorem dX3_ends_34 : decode cX3_ends 34 = .ok (.invokevirtual 51, 3) := dk_182 0 51 (dk_at dksX3_ends_1 10 rfl rfl)
theorem dX3_ends_37 : decode cX3_ends 37 = .ok (.aload_n 0, 1) := dk_42 (dk_at dksX3_ends_1 13 rfl rfl)
theorem dX3_ends_38 : decode cX3_ends 38 = .ok (.iload_n 1, 1) := dk_27 (dk_at dksX3_ends_1 14 rfl rfl)
theorem dX3_ends_39 : decode cX3_ends 39 = .ok (.iconst 1, 1) := dk_4 (dk_at dksX3_ends_1 15 rfl rfl)
theorem dX3_ends_40 : decode cX3_ends 40 = .ok (.iconst 0, 1) := dk_3 (dk_at dksX3_ends_1 16 rfl rfl)
theorem dX3_ends_41 : decode cX3_ends 41 = .ok (.invokevirtual 51, 3) := dk_182 0 51 (dk_at dksX3_ends_1 17 rfl rfl)
theorem dX3_ends_44 : decode cX3_ends 44 = .ok (.aload_n 0, 1) := dk_42 (dk_at dksX3_ends_1 20 rfl rfl)
theorem dX3_ends_45 : decode cX3_ends 45 = .ok (.iload_n 1, 1) := dk_27 (dk_at dksX3_ends_1 21 rfl rfl)
theorem dX3_ends_46 : decode cX3_ends 46 = .ok (.iconst 2, 1) := dk_5 (dk_at dksX3_ends_1 22 rfl rfl)
theorem dX3_ends_47 : decode cX3_ends 47 = .ok (.iconst 0, 1) := dk_3 (dk_at dksX3_ends_1 23 rfl rfl)
theorem dX3_ends_48 : decode cX3_ends 48 = .ok (.invokevirtual 51, 3) := dk_182 0 51 (dk_at dksX3_ends_2 0 rfl rfl)
theorem dX3_ends_51 : decode cX3_ends 51 = .ok (.aload_n 0, 1) := dk_42 (dk_at dksX3_ends_2 3 rfl rfl)
theorem dX3_ends_52 : decode cX3_ends 52 = .ok (.iload_n 1, 1) := dk_27 (dk_at dksX3_ends_2 4 rfl rfl)
theorem dX3_ends_53 : decode cX3_ends 53 = .ok (.iconst 3, 1) := dk_6 (dk_at dksX3_ends_2 5 rfl rfl)
theorem dX3_ends_54 : decode cX3_ends 54 = .ok (.iconst 0, 1) := dk_3 (dk_at dksX3_ends_2 6 rfl rfl)
theorem dX3_ends_55 : decode cX3_ends 55 = .ok (.invokevirtual 51, 3) := dk_182 0 51 (dk_at dksX3_ends_2 7 rfl rfl)
theorem dX3_ends_58 : decode cX3_ends 58 = .ok (.aload_n 0, 1) := dk_42 (dk_at dksX3_ends_2 10 rfl rfl)
theorem dX3_ends_59 : decode cX3_ends 59 = .ok (.getfield 13, 3) := dk_180 0 13 (dk_at dksX3_ends_2 11 rfl rfl)
theorem dX3_ends_62 : decode cX3_ends 62 = .ok (.iload_n 1, 1) := dk_27 (dk_at dksX3_ends_2 14 rfl rfl)
theorem dX3_ends_63 : decode cX3_ends 63 = .ok (.fconst 0, 1) := dk_11 (dk_at dksX3_ends_2 15 rfl rfl)
theorem dX3_ends_64 : decode cX3_ends 64 = .ok (.fastore, 1) := dk_81 (dk_at dksX3_ends_2 16 rfl rfl)
theorem dX3_ends_65 : decode cX3_ends 65 = .ok (.return_, 1) := dk_177 (dk_at dksX3_ends_2 17 rfl rfl)
abbrev cX3_moves : ByteArray := prog_22_method_33_code
def yX3_moves : MethodName := ⟨RX3, "moves", "()I"⟩
def dkwX3_moves_8 : List UInt8 := [167, 255, 78, 27, 172]
abbrev dktX3_moves_8 : List UInt8 := dkwX3_moves_8 ++ []
def dkwX3_moves_7 : List UInt8 := [180, 0, 13, 28, 4, 96, 42, 180, 0, 13, 28, 48, 81, 42, 180, 0, 13, 28, 11, 81, 132, 2, 255]
abbrev dktX3_moves_7 : List UInt8 := dkwX3_moves_7 ++ dktX3_moves_8
def dkwX3_moves_6 : List UInt8 := [4, 96, 6, 3, 182, 0, 51, 42, 28, 6, 3, 182, 0, 51, 42, 28, 3, 2, 182, 0, 51, 42]
abbrev dktX3_moves_6 : List UInt8 := dkwX3_moves_6 ++ dktX3_moves_7
def dkwX3_moves_5 : List UInt8 := [21, 5, 182, 0, 58, 182, 0, 51, 42, 28, 21, 5, 3, 182, 0, 51, 132, 5, 1, 167, 255, 223, 42, 28]
abbrev dktX3_moves_5 : List UInt8 := dkwX3_moves_5 ++ dktX3_moves_6
def dkwX3_moves_4 : List UInt8 := [182, 0, 120, 153, 0, 86, 3, 54, 5, 21, 5, 5, 163, 0, 33, 42, 28, 4, 96, 21, 5, 42, 28]
abbrev dktX3_moves_4 : List UInt8 := dkwX3_moves_4 ++ dktX3_moves_5
def dkwX3_moves_3 : List UInt8 := [160, 0, 13, 42, 182, 0, 117, 132, 1, 1, 167, 0, 101, 21, 4, 153, 0, 96, 42, 28, 4, 96]
abbrev dktX3_moves_3 : List UInt8 := dkwX3_moves_3 ++ dktX3_moves_4
def dkwX3_moves_2 : List UInt8 := [182, 0, 58, 29, 161, 0, 7, 4, 167, 0, 4, 3, 54, 4, 21, 4, 153, 0, 19, 28, 16, 23]
abbrev dktX3_moves_2 : List UInt8 := dkwX3_moves_2 ++ dktX3_moves_3
def dkwX3_moves_1 : List UInt8 := [182, 0, 58, 4, 96, 182, 0, 51, 42, 28, 6, 108, 5, 182, 0, 72, 62, 29, 158, 0, 17, 42, 28, 6]
abbrev dktX3_moves_1 : List UInt8 := dkwX3_moves_1 ++ dktX3_moves_2
def dkwX3_moves_0 : List UInt8 := [3, 60, 16, 23, 61, 28, 155, 0, 180, 42, 28, 182, 0, 62, 153, 0, 166, 42, 28, 6, 42, 28, 6]
abbrev dktX3_moves_0 : List UInt8 := dkwX3_moves_0 ++ dktX3_moves_1
theorem dksX3_moves_0 : cX3_moves.data.toList.drop 0 = dktX3_moves_0 := by decide +kernel
theorem dksX3_moves_1 : cX3_moves.data.toList.drop 23 = dktX3_moves_1 := dk_seg dksX3_moves_0 23 rfl rfl
theorem dksX3_moves_2 : cX3_moves.data.toList.drop 47 = dktX3_moves_2 := dk_seg dksX3_moves_1 24 rfl rfl
theorem dksX3_moves_3 : cX3_moves.data.toList.drop 69 = dktX3_moves_3 := dk_seg dksX3_moves_2 22 rfl rfl
theorem dksX3_moves_4 : cX3_moves.data.toList.drop 91 = dktX3_moves_4 := dk_seg dksX3_moves_3 22 rfl rfl
theorem dksX3_moves_5 : cX3_moves.data.toList.drop 114 = dktX3_moves_5 := dk_seg dksX3_moves_4 23 rfl rfl
theorem dksX3_moves_6 : cX3_moves.data.toList.drop 138 = dktX3_moves_6 := dk_seg dksX3_moves_5 24 rfl rfl
theorem dksX3_moves_7 : cX3_moves.data.toList.drop 160 = dktX3_moves_7 := dk_seg dksX3_moves_6 22 rfl rfl
theorem dksX3_moves_8 : cX3_moves.data.toList.drop 183 = dktX3_moves_8 := dk_seg dksX3_moves_7 23 rfl rfl
theorem dX3_moves_0 : decode cX3_moves 0 = .ok (.iconst 0, 1) := dk_3 (dk_at dksX3_moves_0 0 rfl rfl)
theorem dX3_moves_1 : decode cX3_moves 1 = .ok (.istore_n 1, 1) := dk_60 (dk_at dksX3_moves_0 1 rfl rfl)
theorem dX3_moves_2 : decode cX3_moves 2 = .ok (.bipush 23, 2) := dk_16 23 (dk_at dksX3_moves_0 2 rfl rfl)
theorem dX3_moves_4 : decode cX3_moves 4 = .ok (.istore_n 2, 1) := dk_61 (dk_at dksX3_moves_0 4 rfl rfl)
theorem dX3_moves_5 : decode cX3_moves 5 = .ok (.iload_n 2, 1) := dk_28 (dk_at dksX3_moves_0 5 rfl rfl)
theorem dX3_moves_6 : decode cX3_moves 6 = .ok (.ifCond .lt 180, 3) := dk_155 0 180 (dk_at dksX3_moves_0 6 rfl rfl)
theorem dX3_moves_9 : decode cX3_moves 9 = .ok (.aload_n 0, 1) := dk_42 (dk_at dksX3_moves_0 9 rfl rfl)
theorem dX3_moves_10 : decode cX3_moves 10 = .ok (.iload_n 2, 1) := dk_28 (dk_at dksX3_moves_0 10 rfl rfl)
theorem dX3_moves_11 : decode cX3_moves 11 = .ok (.invokevirtual 62, 3) := dk_182 0 62 (dk_at dksX3_moves_0 11 rfl rfl)
theorem dX3_moves_14 : decode cX3_moves 14 = .ok (.ifCond .eq 166, 3) := dk_153 0 166 (dk_at dksX3_moves_0 14 rfl rfl)
theorem dX3_moves_17 : decode cX3_moves 17 = .ok (.aload_n 0, 1) := dk_42 (dk_at dksX3_moves_0 17 rfl rfl)
theorem dX3_moves_18 : decode cX3_moves 18 = .ok (.iload_n 2, 1) := dk_28 (dk_at dksX3_moves_0 18 rfl rfl)
theorem dX3_moves_19 : decode cX3_moves 19 = .ok (.iconst 3, 1) := dk_6 (dk_at dksX3_moves_0 19 rfl rfl)
theorem dX3_moves_20 : decode cX3_moves 20 = .ok (.aload_n 0, 1) := dk_42 (dk_at dksX3_moves_0 20 rfl rfl)
theorem dX3_moves_21 : decode cX3_moves 21 = .ok (.iload_n 2, 1) := dk_28 (dk_at dksX3_moves_0 21 rfl rfl)
theorem dX3_moves_22 : decode cX3_moves 22 = .ok (.iconst 3, 1) := dk_6 (dk_at dksX3_moves_0 22 rfl rfl)
theorem dX3_moves_23 : decode cX3_moves 23 = .ok (.invokevirtual 58, 3) := dk_182 0 58 (dk_at dksX3_moves_1 0 rfl rfl)
theorem dX3_moves_26 : decode cX3_moves 26 = .ok (.iconst 1, 1) := dk_4 (dk_at dksX3_moves_1 3 rfl rfl)
theorem dX3_moves_27 : decode cX3_moves 27 = .ok (.iadd, 1) := dk_96 (dk_at dksX3_moves_1 4 rfl rfl)
theorem dX3_moves_28 : decode cX3_moves 28 = .ok (.invokevirtual 51, 3) := dk_182 0 51 (dk_at dksX3_moves_1 5 rfl rfl)
theorem dX3_moves_31 : decode cX3_moves 31 = .ok (.aload_n 0, 1) := dk_42 (dk_at dksX3_moves_1 8 rfl rfl)
theorem dX3_moves_32 : decode cX3_moves 32 = .ok (.iload_n 2, 1) := dk_28 (dk_at dksX3_moves_1 9 rfl rfl)
theorem dX3_moves_33 : decode cX3_moves 33 = .ok (.iconst 3, 1) := dk_6 (dk_at dksX3_moves_1 10 rfl rfl)
theorem dX3_moves_34 : decode cX3_moves 34 = .ok (.idiv, 1) := dk_108 (dk_at dksX3_moves_1 11 rfl rfl)
theorem dX3_moves_35 : decode cX3_moves 35 = .ok (.iconst 2, 1) := dk_5 (dk_at dksX3_moves_1 12 rfl rfl)
theorem dX3_moves_36 : decode cX3_moves 36 = .ok (.invokevirtual 72, 3) := dk_182 0 72 (dk_at dksX3_moves_1 13 rfl rfl)
theorem dX3_moves_39 : decode cX3_moves 39 = .ok (.istore_n 3, 1) := dk_62 (dk_at dksX3_moves_1 16 rfl rfl)
theorem dX3_moves_40 : decode cX3_moves 40 = .ok (.iload_n 3, 1) := dk_29 (dk_at dksX3_moves_1 17 rfl rfl)
theorem dX3_moves_41 : decode cX3_moves 41 = .ok (.ifCond .le 17, 3) := dk_158 0 17 (dk_at dksX3_moves_1 18 rfl rfl)
theorem dX3_moves_44 : decode cX3_moves 44 = .ok (.aload_n 0, 1) := dk_42 (dk_at dksX3_moves_1 21 rfl rfl)
theorem dX3_moves_45 : decode cX3_moves 45 = .ok (.iload_n 2, 1) := dk_28 (dk_at dksX3_moves_1 22 rfl rfl)
theorem dX3_moves_46 : decode cX3_moves 46 = .ok (.iconst 3, 1) := dk_6 (dk_at dksX3_moves_1 23 rfl rfl)
theorem dX3_moves_47 : decode cX3_moves 47 = .ok (.invokevirtual 58, 3) := dk_182 0 58 (dk_at dksX3_moves_2 0 rfl rfl)
theorem dX3_moves_50 : decode cX3_moves 50 = .ok (.iload_n 3, 1) := dk_29 (dk_at dksX3_moves_2 3 rfl rfl)
theorem dX3_moves_51 : decode cX3_moves 51 = .ok (.if_icmp .lt 7, 3) := dk_161 0 7 (dk_at dksX3_moves_2 4 rfl rfl)
theorem dX3_moves_54 : decode cX3_moves 54 = .ok (.iconst 1, 1) := dk_4 (dk_at dksX3_moves_2 7 rfl rfl)
theorem dX3_moves_55 : decode cX3_moves 55 = .ok (.goto 4, 3) := dk_167 0 4 (dk_at dksX3_moves_2 8 rfl rfl)
theorem dX3_moves_58 : decode cX3_moves 58 = .ok (.iconst 0, 1) := dk_3 (dk_at dksX3_moves_2 11 rfl rfl)
theorem dX3_moves_59 : decode cX3_moves 59 = .ok (.istore 4, 2) := dk_54 4 (dk_at dksX3_moves_2 12 rfl rfl)
theorem dX3_moves_61 : decode cX3_moves 61 = .ok (.iload 4, 2) := dk_21 4 (dk_at dksX3_moves_2 14 rfl rfl)
theorem dX3_moves_63 : decode cX3_moves 63 = .ok (.ifCond .eq 19, 3) := dk_153 0 19 (dk_at dksX3_moves_2 16 rfl rfl)
theorem dX3_moves_66 : decode cX3_moves 66 = .ok (.iload_n 2, 1) := dk_28 (dk_at dksX3_moves_2 19 rfl rfl)
theorem dX3_moves_67 : decode cX3_moves 67 = .ok (.bipush 23, 2) := dk_16 23 (dk_at dksX3_moves_2 20 rfl rfl)
theorem dX3_moves_69 : decode cX3_moves 69 = .ok (.if_icmp .ne 13, 3) := dk_160 0 13 (dk_at dksX3_moves_3 0 rfl rfl)
theorem dX3_moves_72 : decode cX3_moves 72 = .ok (.aload_n 0, 1) := dk_42 (dk_at dksX3_moves_3 3 rfl rfl)
theorem dX3_moves_73 : decode cX3_moves 73 = .ok (.invokevirtual 117, 3) := dk_182 0 117 (dk_at dksX3_moves_3 4 rfl rfl)
theorem dX3_moves_76 : decode cX3_moves 76 = .ok (.iinc 1 1, 3) := dk_132 1 1 (dk_at dksX3_moves_3 7 rfl rfl)
theorem dX3_moves_79 : decode cX3_moves 79 = .ok (.goto 101, 3) := dk_167 0 101 (dk_at dksX3_moves_3 10 rfl rfl)
theorem dX3_moves_82 : decode cX3_moves 82 = .ok (.iload 4, 2) := dk_21 4 (dk_at dksX3_moves_3 13 rfl rfl)
theorem dX3_moves_84 : decode cX3_moves 84 = .ok (.ifCond .eq 96, 3) := dk_153 0 96 (dk_at dksX3_moves_3 15 rfl rfl)
theorem dX3_moves_87 : decode cX3_moves 87 = .ok (.aload_n 0, 1) := dk_42 (dk_at dksX3_moves_3 18 rfl rfl)
theorem dX3_moves_88 : decode cX3_moves 88 = .ok (.iload_n 2, 1) := dk_28 (dk_at dksX3_moves_3 19 rfl rfl)
theorem dX3_moves_89 : decode cX3_moves 89 = .ok (.iconst 1, 1) := dk_4 (dk_at dksX3_moves_3 20 rfl rfl)
theorem dX3_moves_90 : decode cX3_moves 90 = .ok (.iadd, 1) := dk_96 (dk_at dksX3_moves_3 21 rfl rfl)
theorem dX3_moves_91 : decode cX3_moves 91 = .ok (.invokevirtual 120, 3) := dk_182 0 120 (dk_at dksX3_moves_4 0 rfl rfl)
theorem dX3_moves_94 : decode cX3_moves 94 = .ok (.ifCond .eq 86, 3) := dk_153 0 86 (dk_at dksX3_moves_4 3 rfl rfl)
theorem dX3_moves_97 : decode cX3_moves 97 = .ok (.iconst 0, 1) := dk_3 (dk_at dksX3_moves_4 6 rfl rfl)
theorem dX3_moves_98 : decode cX3_moves 98 = .ok (.istore 5, 2) := dk_54 5 (dk_at dksX3_moves_4 7 rfl rfl)
theorem dX3_moves_100 : decode cX3_moves 100 = .ok (.iload 5, 2) := dk_21 5 (dk_at dksX3_moves_4 9 rfl rfl)
theorem dX3_moves_102 : decode cX3_moves 102 = .ok (.iconst 2, 1) := dk_5 (dk_at dksX3_moves_4 11 rfl rfl)
theorem dX3_moves_103 : decode cX3_moves 103 = .ok (.if_icmp .gt 33, 3) := dk_163 0 33 (dk_at dksX3_moves_4 12 rfl rfl)
theorem dX3_moves_106 : decode cX3_moves 106 = .ok (.aload_n 0, 1) := dk_42 (dk_at dksX3_moves_4 15 rfl rfl)
theorem dX3_moves_107 : decode cX3_moves 107 = .ok (.iload_n 2, 1) := dk_28 (dk_at dksX3_moves_4 16 rfl rfl)
theorem dX3_moves_108 : decode cX3_moves 108 = .ok (.iconst 1, 1) := dk_4 (dk_at dksX3_moves_4 17 rfl rfl)
theorem dX3_moves_109 : decode cX3_moves 109 = .ok (.iadd, 1) := dk_96 (dk_at dksX3_moves_4 18 rfl rfl)
theorem dX3_moves_110 : decode cX3_moves 110 = .ok (.iload 5, 2) := dk_21 5 (dk_at dksX3_moves_4 19 rfl rfl)
theorem dX3_moves_112 : decode cX3_moves 112 = .ok (.aload_n 0, 1) := dk_42 (dk_at dksX3_moves_4 21 rfl rfl)
theorem dX3_moves_113 : decode cX3_moves 113 = .ok (.iload_n 2, 1) := dk_28 (dk_at dksX3_moves_4 22 rfl rfl)
theorem dX3_moves_114 : decode cX3_moves 114 = .ok (.iload 5, 2) := dk_21 5 (dk_at dksX3_moves_5 0 rfl rfl)
theorem dX3_moves_116 : decode cX3_moves 116 = .ok (.invokevirtual 58, 3) := dk_182 0 58 (dk_at dksX3_moves_5 2 rfl rfl)
theorem dX3_moves_119 : decode cX3_moves 119 = .ok (.invokevirtual 51, 3) := dk_182 0 51 (dk_at dksX3_moves_5 5 rfl rfl)
theorem dX3_moves_122 : decode cX3_moves 122 = .ok (.aload_n 0, 1) := dk_42 (dk_at dksX3_moves_5 8 rfl rfl)
theorem dX3_moves_123 : decode cX3_moves 123 = .ok (.iload_n 2, 1) := dk_28 (dk_at dksX3_moves_5 9 rfl rfl)
theorem dX3_moves_124 : decode cX3_moves 124 = .ok (.iload 5, 2) := dk_21 5 (dk_at dksX3_moves_5 10 rfl rfl)
theorem dX3_moves_126 : decode cX3_moves 126 = .ok (.iconst 0, 1) := dk_3 (dk_at dksX3_moves_5 12 rfl rfl)
theorem dX3_moves_127 : decode cX3_moves 127 = .ok (.invokevirtual 51, 3) := dk_182 0 51 (dk_at dksX3_moves_5 13 rfl rfl)
theorem dX3_moves_130 : decode cX3_moves 130 = .ok (.iinc 5 1, 3) := dk_132 5 1 (dk_at dksX3_moves_5 16 rfl rfl)
theorem dX3_moves_133 : decode cX3_moves 133 = .ok (.goto (-33), 3) := dk_167 255 223 (dk_at dksX3_moves_5 19 rfl rfl)
theorem dX3_moves_136 : decode cX3_moves 136 = .ok (.aload_n 0, 1) := dk_42 (dk_at dksX3_moves_5 22 rfl rfl)
theorem dX3_moves_137 : decode cX3_moves 137 = .ok (.iload_n 2, 1) := dk_28 (dk_at dksX3_moves_5 23 rfl rfl)
theorem dX3_moves_138 : decode cX3_moves 138 = .ok (.iconst 1, 1) := dk_4 (dk_at dksX3_moves_6 0 rfl rfl)
theorem dX3_moves_139 : decode cX3_moves 139 = .ok (.iadd, 1) := dk_96 (dk_at dksX3_moves_6 1 rfl rfl)
theorem dX3_moves_140 : decode cX3_moves 140 = .ok (.iconst 3, 1) := dk_6 (dk_at dksX3_moves_6 2 rfl rfl)
theorem dX3_moves_141 : decode cX3_moves 141 = .ok (.iconst 0, 1) := dk_3 (dk_at dksX3_moves_6 3 rfl rfl)
theorem dX3_moves_142 : decode cX3_moves 142 = .ok (.invokevirtual 51, 3) := dk_182 0 51 (dk_at dksX3_moves_6 4 rfl rfl)
theorem dX3_moves_145 : decode cX3_moves 145 = .ok (.aload_n 0, 1) := dk_42 (dk_at dksX3_moves_6 7 rfl rfl)
theorem dX3_moves_146 : decode cX3_moves 146 = .ok (.iload_n 2, 1) := dk_28 (dk_at dksX3_moves_6 8 rfl rfl)
theorem dX3_moves_147 : decode cX3_moves 147 = .ok (.iconst 3, 1) := dk_6 (dk_at dksX3_moves_6 9 rfl rfl)
theorem dX3_moves_148 : decode cX3_moves 148 = .ok (.iconst 0, 1) := dk_3 (dk_at dksX3_moves_6 10 rfl rfl)
theorem dX3_moves_149 : decode cX3_moves 149 = .ok (.invokevirtual 51, 3) := dk_182 0 51 (dk_at dksX3_moves_6 11 rfl rfl)
theorem dX3_moves_152 : decode cX3_moves 152 = .ok (.aload_n 0, 1) := dk_42 (dk_at dksX3_moves_6 14 rfl rfl)
theorem dX3_moves_153 : decode cX3_moves 153 = .ok (.iload_n 2, 1) := dk_28 (dk_at dksX3_moves_6 15 rfl rfl)
theorem dX3_moves_154 : decode cX3_moves 154 = .ok (.iconst 0, 1) := dk_3 (dk_at dksX3_moves_6 16 rfl rfl)
theorem dX3_moves_155 : decode cX3_moves 155 = .ok (.iconst (-1), 1) := dk_2 (dk_at dksX3_moves_6 17 rfl rfl)
theorem dX3_moves_156 : decode cX3_moves 156 = .ok (.invokevirtual 51, 3) := dk_182 0 51 (dk_at dksX3_moves_6 18 rfl rfl)
theorem dX3_moves_159 : decode cX3_moves 159 = .ok (.aload_n 0, 1) := dk_42 (dk_at dksX3_moves_6 21 rfl rfl)
theorem dX3_moves_160 : decode cX3_moves 160 = .ok (.getfield 13, 3) := dk_180 0 13 (dk_at dksX3_moves_7 0 rfl rfl)
theorem dX3_moves_163 : decode cX3_moves 163 = .ok (.iload_n 2, 1) := dk_28 (dk_at dksX3_moves_7 3 rfl rfl)
theorem dX3_moves_164 : decode cX3_moves 164 = .ok (.iconst 1, 1) := dk_4 (dk_at dksX3_moves_7 4 rfl rfl)
theorem dX3_moves_165 : decode cX3_moves 165 = .ok (.iadd, 1) := dk_96 (dk_at dksX3_moves_7 5 rfl rfl)
theorem dX3_moves_166 : decode cX3_moves 166 = .ok (.aload_n 0, 1) := dk_42 (dk_at dksX3_moves_7 6 rfl rfl)
theorem dX3_moves_167 : decode cX3_moves 167 = .ok (.getfield 13, 3) := dk_180 0 13 (dk_at dksX3_moves_7 7 rfl rfl)
theorem dX3_moves_170 : decode cX3_moves 170 = .ok (.iload_n 2, 1) := dk_28 (dk_at dksX3_moves_7 10 rfl rfl)
theorem dX3_moves_171 : decode cX3_moves 171 = .ok (.faload, 1) := dk_48 (dk_at dksX3_moves_7 11 rfl rfl)
theorem dX3_moves_172 : decode cX3_moves 172 = .ok (.fastore, 1) := dk_81 (dk_at dksX3_moves_7 12 rfl rfl)
theorem dX3_moves_173 : decode cX3_moves 173 = .ok (.aload_n 0, 1) := dk_42 (dk_at dksX3_moves_7 13 rfl rfl)
theorem dX3_moves_174 : decode cX3_moves 174 = .ok (.getfield 13, 3) := dk_180 0 13 (dk_at dksX3_moves_7 14 rfl rfl)
theorem dX3_moves_177 : decode cX3_moves 177 = .ok (.iload_n 2, 1) := dk_28 (dk_at dksX3_moves_7 17 rfl rfl)
theorem dX3_moves_178 : decode cX3_moves 178 = .ok (.fconst 0, 1) := dk_11 (dk_at dksX3_moves_7 18 rfl rfl)
theorem dX3_moves_179 : decode cX3_moves 179 = .ok (.fastore, 1) := dk_81 (dk_at dksX3_moves_7 19 rfl rfl)
theorem dX3_moves_180 : decode cX3_moves 180 = .ok (.iinc 2 (-1), 3) := dk_132 2 255 (dk_at dksX3_moves_7 20 rfl rfl)
theorem dX3_moves_183 : decode cX3_moves 183 = .ok (.goto (-178), 3) := dk_167 255 78 (dk_at dksX3_moves_8 0 rfl rfl)
theorem dX3_moves_186 : decode cX3_moves 186 = .ok (.iload_n 1, 1) := dk_27 (dk_at dksX3_moves_8 3 rfl rfl)
theorem dX3_moves_187 : decode cX3_moves 187 = .ok (.ireturn, 1) := dk_172 (dk_at dksX3_moves_8 4 rfl rfl)
abbrev cX3_comesOut : ByteArray := prog_22_method_32_code
def yX3_comesOut : MethodName := ⟨RX3, "comesOut", "()V"⟩
def dkwX3_comesOut_2 : List UInt8 := [5, 167, 0, 4, 4, 62, 42, 27, 29, 182, 0, 100, 29, 4, 160, 0, 8, 42, 28, 182, 0, 113, 177]
abbrev dktX3_comesOut_2 : List UInt8 := dkwX3_comesOut_2 ++ []
def dkwX3_comesOut_1 : List UInt8 := [167, 0, 29, 42, 180, 0, 13, 27, 48, 42, 27, 182, 0, 85, 184, 0, 97, 134, 13, 110, 149, 158, 0, 7]
abbrev dktX3_comesOut_1 : List UInt8 := dkwX3_comesOut_1 ++ dktX3_comesOut_2
def dkwX3_comesOut_0 : List UInt8 := [16, 23, 60, 42, 27, 3, 182, 0, 58, 61, 42, 27, 5, 182, 0, 58, 17, 0, 150, 164, 0, 7, 6]
abbrev dktX3_comesOut_0 : List UInt8 := dkwX3_comesOut_0 ++ dktX3_comesOut_1
theorem dksX3_comesOut_0 : cX3_comesOut.data.toList.drop 0 = dktX3_comesOut_0 := by decide +kernel
theorem dksX3_comesOut_1 : cX3_comesOut.data.toList.drop 23 = dktX3_comesOut_1 := dk_seg dksX3_comesOut_0 23 rfl rfl
theorem dksX3_comesOut_2 : cX3_comesOut.data.toList.drop 47 = dktX3_comesOut_2 := dk_seg dksX3_comesOut_1 24 rfl rfl
theorem dX3_comesOut_0 : decode cX3_comesOut 0 = .ok (.bipush 23, 2) := dk_16 23 (dk_at dksX3_comesOut_0 0 rfl rfl)
theorem dX3_comesOut_2 : decode cX3_comesOut 2 = .ok (.istore_n 1, 1) := dk_60 (dk_at dksX3_comesOut_0 2 rfl rfl)
theorem dX3_comesOut_3 : decode cX3_comesOut 3 = .ok (.aload_n 0, 1) := dk_42 (dk_at dksX3_comesOut_0 3 rfl rfl)
theorem dX3_comesOut_4 : decode cX3_comesOut 4 = .ok (.iload_n 1, 1) := dk_27 (dk_at dksX3_comesOut_0 4 rfl rfl)
theorem dX3_comesOut_5 : decode cX3_comesOut 5 = .ok (.iconst 0, 1) := dk_3 (dk_at dksX3_comesOut_0 5 rfl rfl)
theorem dX3_comesOut_6 : decode cX3_comesOut 6 = .ok (.invokevirtual 58, 3) := dk_182 0 58 (dk_at dksX3_comesOut_0 6 rfl rfl)
theorem dX3_comesOut_9 : decode cX3_comesOut 9 = .ok (.istore_n 2, 1) := dk_61 (dk_at dksX3_comesOut_0 9 rfl rfl)
theorem dX3_comesOut_10 : decode cX3_comesOut 10 = .ok (.aload_n 0, 1) := dk_42 (dk_at dksX3_comesOut_0 10 rfl rfl)
theorem dX3_comesOut_11 : decode cX3_comesOut 11 = .ok (.iload_n 1, 1) := dk_27 (dk_at dksX3_comesOut_0 11 rfl rfl)
theorem dX3_comesOut_12 : decode cX3_comesOut 12 = .ok (.iconst 2, 1) := dk_5 (dk_at dksX3_comesOut_0 12 rfl rfl)
theorem dX3_comesOut_13 : decode cX3_comesOut 13 = .ok (.invokevirtual 58, 3) := dk_182 0 58 (dk_at dksX3_comesOut_0 13 rfl rfl)
theorem dX3_comesOut_16 : decode cX3_comesOut 16 = .ok (.sipush 150, 3) := dk_17 0 150 (dk_at dksX3_comesOut_0 16 rfl rfl)
theorem dX3_comesOut_19 : decode cX3_comesOut 19 = .ok (.if_icmp .le 7, 3) := dk_164 0 7 (dk_at dksX3_comesOut_0 19 rfl rfl)
theorem dX3_comesOut_22 : decode cX3_comesOut 22 = .ok (.iconst 3, 1) := dk_6 (dk_at dksX3_comesOut_0 22 rfl rfl)
theorem dX3_comesOut_23 : decode cX3_comesOut 23 = .ok (.goto 29, 3) := dk_167 0 29 (dk_at dksX3_comesOut_1 0 rfl rfl)
theorem dX3_comesOut_26 : decode cX3_comesOut 26 = .ok (.aload_n 0, 1) := dk_42 (dk_at dksX3_comesOut_1 3 rfl rfl)
theorem dX3_comesOut_27 : decode cX3_comesOut 27 = .ok (.getfield 13, 3) := dk_180 0 13 (dk_at dksX3_comesOut_1 4 rfl rfl)
theorem dX3_comesOut_30 : decode cX3_comesOut 30 = .ok (.iload_n 1, 1) := dk_27 (dk_at dksX3_comesOut_1 7 rfl rfl)
theorem dX3_comesOut_31 : decode cX3_comesOut 31 = .ok (.faload, 1) := dk_48 (dk_at dksX3_comesOut_1 8 rfl rfl)
theorem dX3_comesOut_32 : decode cX3_comesOut 32 = .ok (.aload_n 0, 1) := dk_42 (dk_at dksX3_comesOut_1 9 rfl rfl)
theorem dX3_comesOut_33 : decode cX3_comesOut 33 = .ok (.iload_n 1, 1) := dk_27 (dk_at dksX3_comesOut_1 10 rfl rfl)
theorem dX3_comesOut_34 : decode cX3_comesOut 34 = .ok (.invokevirtual 85, 3) := dk_182 0 85 (dk_at dksX3_comesOut_1 11 rfl rfl)
theorem dX3_comesOut_37 : decode cX3_comesOut 37 = .ok (.invokestatic 97, 3) := dk_184 0 97 (dk_at dksX3_comesOut_1 14 rfl rfl)
theorem dX3_comesOut_40 : decode cX3_comesOut 40 = .ok (.i2f, 1) := dk_134 (dk_at dksX3_comesOut_1 17 rfl rfl)
theorem dX3_comesOut_41 : decode cX3_comesOut 41 = .ok (.fconst 2, 1) := dk_13 (dk_at dksX3_comesOut_1 18 rfl rfl)
theorem dX3_comesOut_42 : decode cX3_comesOut 42 = .ok (.fdiv, 1) := dk_110 (dk_at dksX3_comesOut_1 19 rfl rfl)
theorem dX3_comesOut_43 : decode cX3_comesOut 43 = .ok (.fcmp .l, 1) := dk_149 (dk_at dksX3_comesOut_1 20 rfl rfl)
theorem dX3_comesOut_44 : decode cX3_comesOut 44 = .ok (.ifCond .le 7, 3) := dk_158 0 7 (dk_at dksX3_comesOut_1 21 rfl rfl)
theorem dX3_comesOut_47 : decode cX3_comesOut 47 = .ok (.iconst 2, 1) := dk_5 (dk_at dksX3_comesOut_2 0 rfl rfl)
theorem dX3_comesOut_48 : decode cX3_comesOut 48 = .ok (.goto 4, 3) := dk_167 0 4 (dk_at dksX3_comesOut_2 1 rfl rfl)
theorem dX3_comesOut_51 : decode cX3_comesOut 51 = .ok (.iconst 1, 1) := dk_4 (dk_at dksX3_comesOut_2 4 rfl rfl)
theorem dX3_comesOut_52 : decode cX3_comesOut 52 = .ok (.istore_n 3, 1) := dk_62 (dk_at dksX3_comesOut_2 5 rfl rfl)
theorem dX3_comesOut_53 : decode cX3_comesOut 53 = .ok (.aload_n 0, 1) := dk_42 (dk_at dksX3_comesOut_2 6 rfl rfl)
theorem dX3_comesOut_54 : decode cX3_comesOut 54 = .ok (.iload_n 1, 1) := dk_27 (dk_at dksX3_comesOut_2 7 rfl rfl)
theorem dX3_comesOut_55 : decode cX3_comesOut 55 = .ok (.iload_n 3, 1) := dk_29 (dk_at dksX3_comesOut_2 8 rfl rfl)
theorem dX3_comesOut_56 : decode cX3_comesOut 56 = .ok (.invokevirtual 100, 3) := dk_182 0 100 (dk_at dksX3_comesOut_2 9 rfl rfl)
theorem dX3_comesOut_59 : decode cX3_comesOut 59 = .ok (.iload_n 3, 1) := dk_29 (dk_at dksX3_comesOut_2 12 rfl rfl)
theorem dX3_comesOut_60 : decode cX3_comesOut 60 = .ok (.iconst 1, 1) := dk_4 (dk_at dksX3_comesOut_2 13 rfl rfl)
theorem dX3_comesOut_61 : decode cX3_comesOut 61 = .ok (.if_icmp .ne 8, 3) := dk_160 0 8 (dk_at dksX3_comesOut_2 14 rfl rfl)
theorem dX3_comesOut_64 : decode cX3_comesOut 64 = .ok (.aload_n 0, 1) := dk_42 (dk_at dksX3_comesOut_2 17 rfl rfl)
theorem dX3_comesOut_65 : decode cX3_comesOut 65 = .ok (.iload_n 2, 1) := dk_28 (dk_at dksX3_comesOut_2 18 rfl rfl)
theorem dX3_comesOut_66 : decode cX3_comesOut 66 = .ok (.invokevirtual 113, 3) := dk_182 0 113 (dk_at dksX3_comesOut_2 19 rfl rfl)
theorem dX3_comesOut_69 : decode cX3_comesOut 69 = .ok (.return_, 1) := dk_177 (dk_at dksX3_comesOut_2 22 rfl rfl)
abbrev cX3_good : ByteArray := prog_22_method_31_code
def yX3_good : MethodName := ⟨RX3, "good", "(I)V"⟩
def dkwX3_good_5 : List UInt8 := [177]
abbrev dktX3_good_5 : List UInt8 := dkwX3_good_5 ++ []
def dkwX3_good_4 : List UInt8 := [167, 255, 164, 28, 2, 160, 0, 13, 42, 27, 6, 4, 182, 0, 107, 167, 0, 9, 42, 27, 28, 182, 0, 110]
abbrev dktX3_good_4 : List UInt8 := dkwX3_good_4 ++ dktX3_good_5
def dkwX3_good_3 : List UInt8 := [42, 29, 6, 182, 0, 104, 42, 28, 6, 182, 0, 104, 162, 0, 7, 29, 167, 0, 4, 28, 61, 132, 3, 1]
abbrev dktX3_good_3 : List UInt8 := dkwX3_good_3 ++ dktX3_good_4
def dkwX3_good_2 : List UInt8 := [5, 182, 0, 104, 158, 0, 7, 4, 167, 0, 4, 3, 54, 4, 21, 4, 153, 0, 27, 28, 2, 159, 0, 18]
abbrev dktX3_good_2 : List UInt8 := dkwX3_good_2 ++ dktX3_good_3
def dkwX3_good_1 : List UInt8 := [3, 182, 0, 69, 160, 0, 31, 42, 29, 4, 182, 0, 104, 42, 27, 4, 182, 0, 69, 160, 0, 16, 42, 29]
abbrev dktX3_good_1 : List UInt8 := dkwX3_good_1 ++ dktX3_good_2
def dkwX3_good_0 : List UInt8 := [2, 61, 3, 62, 29, 42, 180, 0, 7, 17, 1, 208, 46, 162, 0, 86, 42, 29, 3, 182, 0, 104, 42, 27]
abbrev dktX3_good_0 : List UInt8 := dkwX3_good_0 ++ dktX3_good_1
theorem dksX3_good_0 : cX3_good.data.toList.drop 0 = dktX3_good_0 := by decide +kernel
theorem dksX3_good_1 : cX3_good.data.toList.drop 24 = dktX3_good_1 := dk_seg dksX3_good_0 24 rfl rfl
theorem dksX3_good_2 : cX3_good.data.toList.drop 48 = dktX3_good_2 := dk_seg dksX3_good_1 24 rfl rfl
theorem dksX3_good_3 : cX3_good.data.toList.drop 72 = dktX3_good_3 := dk_seg dksX3_good_2 24 rfl rfl
theorem dksX3_good_4 : cX3_good.data.toList.drop 96 = dktX3_good_4 := dk_seg dksX3_good_3 24 rfl rfl
theorem dksX3_good_5 : cX3_good.data.toList.drop 120 = dktX3_good_5 := dk_seg dksX3_good_4 24 rfl rfl
theorem dX3_good_0 : decode cX3_good 0 = .ok (.iconst (-1), 1) := dk_2 (dk_at dksX3_good_0 0 rfl rfl)
theorem dX3_good_1 : decode cX3_good 1 = .ok (.istore_n 2, 1) := dk_61 (dk_at dksX3_good_0 1 rfl rfl)
theorem dX3_good_2 : decode cX3_good 2 = .ok (.iconst 0, 1) := dk_3 (dk_at dksX3_good_0 2 rfl rfl)
theorem dX3_good_3 : decode cX3_good 3 = .ok (.istore_n 3, 1) := dk_62 (dk_at dksX3_good_0 3 rfl rfl)
theorem dX3_good_4 : decode cX3_good 4 = .ok (.iload_n 3, 1) := dk_29 (dk_at dksX3_good_0 4 rfl rfl)
theorem dX3_good_5 : decode cX3_good 5 = .ok (.aload_n 0, 1) := dk_42 (dk_at dksX3_good_0 5 rfl rfl)
theorem dX3_good_6 : decode cX3_good 6 = .ok (.getfield 7, 3) := dk_180 0 7 (dk_at dksX3_good_0 6 rfl rfl)
theorem dX3_good_9 : decode cX3_good 9 = .ok (.sipush 464, 3) := dk_17 1 208 (dk_at dksX3_good_0 9 rfl rfl)
theorem dX3_good_12 : decode cX3_good 12 = .ok (.iaload, 1) := dk_46 (dk_at dksX3_good_0 12 rfl rfl)
theorem dX3_good_13 : decode cX3_good 13 = .ok (.if_icmp .ge 86, 3) := dk_162 0 86 (dk_at dksX3_good_0 13 rfl rfl)
theorem dX3_good_16 : decode cX3_good 16 = .ok (.aload_n 0, 1) := dk_42 (dk_at dksX3_good_0 16 rfl rfl)
theorem dX3_good_17 : decode cX3_good 17 = .ok (.iload_n 3, 1) := dk_29 (dk_at dksX3_good_0 17 rfl rfl)
theorem dX3_good_18 : decode cX3_good 18 = .ok (.iconst 0, 1) := dk_3 (dk_at dksX3_good_0 18 rfl rfl)
theorem dX3_good_19 : decode cX3_good 19 = .ok (.invokevirtual 104, 3) := dk_182 0 104 (dk_at dksX3_good_0 19 rfl rfl)
theorem dX3_good_22 : decode cX3_good 22 = .ok (.aload_n 0, 1) := dk_42 (dk_at dksX3_good_0 22 rfl rfl)
theorem dX3_good_23 : decode cX3_good 23 = .ok (.iload_n 1, 1) := dk_27 (dk_at dksX3_good_0 23 rfl rfl)
theorem dX3_good_24 : decode cX3_good 24 = .ok (.iconst 0, 1) := dk_3 (dk_at dksX3_good_1 0 rfl rfl)
theorem dX3_good_25 : decode cX3_good 25 = .ok (.invokevirtual 69, 3) := dk_182 0 69 (dk_at dksX3_good_1 1 rfl rfl)
theorem dX3_good_28 : decode cX3_good 28 = .ok (.if_icmp .ne 31, 3) := dk_160 0 31 (dk_at dksX3_good_1 4 rfl rfl)
theorem dX3_good_31 : decode cX3_good 31 = .ok (.aload_n 0, 1) := dk_42 (dk_at dksX3_good_1 7 rfl rfl)
theorem dX3_good_32 : decode cX3_good 32 = .ok (.iload_n 3, 1) := dk_29 (dk_at dksX3_good_1 8 rfl rfl)
theorem dX3_good_33 : decode cX3_good 33 = .ok (.iconst 1, 1) := dk_4 (dk_at dksX3_good_1 9 rfl rfl)
theorem dX3_good_34 : decode cX3_good 34 = .ok (.invokevirtual 104, 3) := dk_182 0 104 (dk_at dksX3_good_1 10 rfl rfl)
theorem dX3_good_37 : decode cX3_good 37 = .ok (.aload_n 0, 1) := dk_42 (dk_at dksX3_good_1 13 rfl rfl)
theorem dX3_good_38 : decode cX3_good 38 = .ok (.iload_n 1, 1) := dk_27 (dk_at dksX3_good_1 14 rfl rfl)
theorem dX3_good_39 : decode cX3_good 39 = .ok (.iconst 1, 1) := dk_4 (dk_at dksX3_good_1 15 rfl rfl)
theorem dX3_good_40 : decode cX3_good 40 = .ok (.invokevirtual 69, 3) := dk_182 0 69 (dk_at dksX3_good_1 16 rfl rfl)
theorem dX3_good_43 : decode cX3_good 43 = .ok (.if_icmp .ne 16, 3) := dk_160 0 16 (dk_at dksX3_good_1 19 rfl rfl)
theorem dX3_good_46 : decode cX3_good 46 = .ok (.aload_n 0, 1) := dk_42 (dk_at dksX3_good_1 22 rfl rfl)
theorem dX3_good_47 : decode cX3_good 47 = .ok (.iload_n 3, 1) := dk_29 (dk_at dksX3_good_1 23 rfl rfl)
theorem dX3_good_48 : decode cX3_good 48 = .ok (.iconst 2, 1) := dk_5 (dk_at dksX3_good_2 0 rfl rfl)
theorem dX3_good_49 : decode cX3_good 49 = .ok (.invokevirtual 104, 3) := dk_182 0 104 (dk_at dksX3_good_2 1 rfl rfl)
theorem dX3_good_52 : decode cX3_good 52 = .ok (.ifCond .le 7, 3) := dk_158 0 7 (dk_at dksX3_good_2 4 rfl rfl)
theorem dX3_good_55 : decode cX3_good 55 = .ok (.iconst 1, 1) := dk_4 (dk_at dksX3_good_2 7 rfl rfl)
theorem dX3_good_56 : decode cX3_good 56 = .ok (.goto 4, 3) := dk_167 0 4 (dk_at dksX3_good_2 8 rfl rfl)
theorem dX3_good_59 : decode cX3_good 59 = .ok (.iconst 0, 1) := dk_3 (dk_at dksX3_good_2 11 rfl rfl)
theorem dX3_good_60 : decode cX3_good 60 = .ok (.istore 4, 2) := dk_54 4 (dk_at dksX3_good_2 12 rfl rfl)
theorem dX3_good_62 : decode cX3_good 62 = .ok (.iload 4, 2) := dk_21 4 (dk_at dksX3_good_2 14 rfl rfl)
theorem dX3_good_64 : decode cX3_good 64 = .ok (.ifCond .eq 27, 3) := dk_153 0 27 (dk_at dksX3_good_2 16 rfl rfl)
theorem dX3_good_67 : decode cX3_good 67 = .ok (.iload_n 2, 1) := dk_28 (dk_at dksX3_good_2 19 rfl rfl)
theorem dX3_good_68 : decode cX3_good 68 = .ok (.iconst (-1), 1) := dk_2 (dk_at dksX3_good_2 20 rfl rfl)
theorem dX3_good_69 : decode cX3_good 69 = .ok (.if_icmp .eq 18, 3) := dk_159 0 18 (dk_at dksX3_good_2 21 rfl rfl)
theorem dX3_good_72 : decode cX3_good 72 = .ok (.aload_n 0, 1) := dk_42 (dk_at dksX3_good_3 0 rfl rfl)
theorem dX3_good_73 : decode cX3_good 73 = .ok (.iload_n 3, 1) := dk_29 (dk_at dksX3_good_3 1 rfl rfl)
theorem dX3_good_74 : decode cX3_good 74 = .ok (.iconst 3, 1) := dk_6 (dk_at dksX3_good_3 2 rfl rfl)
theorem dX3_good_75 : decode cX3_good 75 = .ok (.invokevirtual 104, 3) := dk_182 0 104 (dk_at dksX3_good_3 3 rfl rfl)
theorem dX3_good_78 : decode cX3_good 78 = .ok (.aload_n 0, 1) := dk_42 (dk_at dksX3_good_3 6 rfl rfl)
theorem dX3_good_79 : decode cX3_good 79 = .ok (.iload_n 2, 1) := dk_28 (dk_at dksX3_good_3 7 rfl rfl)
theorem dX3_good_80 : decode cX3_good 80 = .ok (.iconst 3, 1) := dk_6 (dk_at dksX3_good_3 8 rfl rfl)
theorem dX3_good_81 : decode cX3_good 81 = .ok (.invokevirtual 104, 3) := dk_182 0 104 (dk_at dksX3_good_3 9 rfl rfl)
theorem dX3_good_84 : decode cX3_good 84 = .ok (.if_icmp .ge 7, 3) := dk_162 0 7 (dk_at dksX3_good_3 12 rfl rfl)
theorem dX3_good_87 : decode cX3_good 87 = .ok (.iload_n 3, 1) := dk_29 (dk_at dksX3_good_3 15 rfl rfl)
theorem dX3_good_88 : decode cX3_good 88 = .ok (.goto 4, 3) := dk_167 0 4 (dk_at dksX3_good_3 16 rfl rfl)
theorem dX3_good_91 : decode cX3_good 91 = .ok (.iload_n 2, 1) := dk_28 (dk_at dksX3_good_3 19 rfl rfl)
theorem dX3_good_92 : decode cX3_good 92 = .ok (.istore_n 2, 1) := dk_61 (dk_at dksX3_good_3 20 rfl rfl)
theorem dX3_good_93 : decode cX3_good 93 = .ok (.iinc 3 1, 3) := dk_132 3 1 (dk_at dksX3_good_3 21 rfl rfl)
theorem dX3_good_96 : decode cX3_good 96 = .ok (.goto (-92), 3) := dk_167 255 164 (dk_at dksX3_good_4 0 rfl rfl)
theorem dX3_good_99 : decode cX3_good 99 = .ok (.iload_n 2, 1) := dk_28 (dk_at dksX3_good_4 3 rfl rfl)
theorem dX3_good_100 : decode cX3_good 100 = .ok (.iconst (-1), 1) := dk_2 (dk_at dksX3_good_4 4 rfl rfl)
theorem dX3_good_101 : decode cX3_good 101 = .ok (.if_icmp .ne 13, 3) := dk_160 0 13 (dk_at dksX3_good_4 5 rfl rfl)
theorem dX3_good_104 : decode cX3_good 104 = .ok (.aload_n 0, 1) := dk_42 (dk_at dksX3_good_4 8 rfl rfl)
theorem dX3_good_105 : decode cX3_good 105 = .ok (.iload_n 1, 1) := dk_27 (dk_at dksX3_good_4 9 rfl rfl)
theorem dX3_good_106 : decode cX3_good 106 = .ok (.iconst 3, 1) := dk_6 (dk_at dksX3_good_4 10 rfl rfl)
theorem dX3_good_107 : decode cX3_good 107 = .ok (.iconst 1, 1) := dk_4 (dk_at dksX3_good_4 11 rfl rfl)
theorem dX3_good_108 : decode cX3_good 108 = .ok (.invokevirtual 107, 3) := dk_182 0 107 (dk_at dksX3_good_4 12 rfl rfl)
theorem dX3_good_111 : decode cX3_good 111 = .ok (.goto 9, 3) := dk_167 0 9 (dk_at dksX3_good_4 15 rfl rfl)
theorem dX3_good_114 : decode cX3_good 114 = .ok (.aload_n 0, 1) := dk_42 (dk_at dksX3_good_4 18 rfl rfl)
theorem dX3_good_115 : decode cX3_good 115 = .ok (.iload_n 1, 1) := dk_27 (dk_at dksX3_good_4 19 rfl rfl)
theorem dX3_good_116 : decode cX3_good 116 = .ok (.iload_n 2, 1) := dk_28 (dk_at dksX3_good_4 20 rfl rfl)
theorem dX3_good_117 : decode cX3_good 117 = .ok (.invokevirtual 110, 3) := dk_182 0 110 (dk_at dksX3_good_4 21 rfl rfl)
theorem dX3_good_120 : decode cX3_good 120 = .ok (.return_, 1) := dk_177 (dk_at dksX3_good_5 0 rfl rfl)
abbrev cX3_isFree : ByteArray := prog_22_method_13_code
def yX3_isFree : MethodName := ⟨RX3, "isFree", "(I)Z"⟩
def dkwX3_isFree_0 : List UInt8 := [42, 27, 182, 0, 62, 154, 0, 16, 42, 27, 7, 182, 0, 58, 154, 0, 7, 4, 167, 0, 4, 3, 172]
abbrev dktX3_isFree_0 : List UInt8 := dkwX3_isFree_0 ++ []
theorem dksX3_isFree_0 : cX3_isFree.data.toList.drop 0 = dktX3_isFree_0 := by decide +kernel
theorem dX3_isFree_0 : decode cX3_isFree 0 = .ok (.aload_n 0, 1) := dk_42 (dk_at dksX3_isFree_0 0 rfl rfl)
theorem dX3_isFree_1 : decode cX3_isFree 1 = .ok (.iload_n 1, 1) := dk_27 (dk_at dksX3_isFree_0 1 rfl rfl)
theorem dX3_isFree_2 : decode cX3_isFree 2 = .ok (.invokevirtual 62, 3) := dk_182 0 62 (dk_at dksX3_isFree_0 2 rfl rfl)
theorem dX3_isFree_5 : decode cX3_isFree 5 = .ok (.ifCond .ne 16, 3) := dk_154 0 16 (dk_at dksX3_isFree_0 5 rfl rfl)
theorem dX3_isFree_8 : decode cX3_isFree 8 = .ok (.aload_n 0, 1) := dk_42 (dk_at dksX3_isFree_0 8 rfl rfl)
theorem dX3_isFree_9 : decode cX3_isFree 9 = .ok (.iload_n 1, 1) := dk_27 (dk_at dksX3_isFree_0 9 rfl rfl)
theorem dX3_isFree_10 : decode cX3_isFree 10 = .ok (.iconst 4, 1) := dk_7 (dk_at dksX3_isFree_0 10 rfl rfl)
theorem dX3_isFree_11 : decode cX3_isFree 11 = .ok (.invokevirtual 58, 3) := dk_182 0 58 (dk_at dksX3_isFree_0 11 rfl rfl)
theorem dX3_isFree_14 : decode cX3_isFree 14 = .ok (.ifCond .ne 7, 3) := dk_154 0 7 (dk_at dksX3_isFree_0 14 rfl rfl)
theorem dX3_isFree_17 : decode cX3_isFree 17 = .ok (.iconst 1, 1) := dk_4 (dk_at dksX3_isFree_0 17 rfl rfl)
theorem dX3_isFree_18 : decode cX3_isFree 18 = .ok (.goto 4, 3) := dk_167 0 4 (dk_at dksX3_isFree_0 18 rfl rfl)
theorem dX3_isFree_21 : decode cX3_isFree 21 = .ok (.iconst 0, 1) := dk_3 (dk_at dksX3_isFree_0 21 rfl rfl)
theorem dX3_isFree_22 : decode cX3_isFree 22 = .ok (.ireturn, 1) := dk_172 (dk_at dksX3_isFree_0 22 rfl rfl)
abbrev cX3_cleans : ByteArray := prog_22_method_34_code
def yX3_cleans : MethodName := ⟨RX3, "cleans", "()V"⟩
def dkwX3_cleans_2 : List UInt8 := [154, 0, 15, 42, 42, 180, 0, 7, 28, 46, 7, 3, 182, 0, 51, 132, 1, 1, 167, 255, 194, 177]
abbrev dktX3_cleans_2 : List UInt8 := dkwX3_cleans_2 ++ []
def dkwX3_cleans_1 : List UInt8 := [158, 0, 38, 42, 180, 0, 7, 28, 4, 96, 92, 46, 4, 100, 79, 42, 180, 0, 7, 28, 4, 96, 46]
abbrev dktX3_cleans_1 : List UInt8 := dkwX3_cleans_1 ++ dktX3_cleans_2
def dkwX3_cleans_0 : List UInt8 := [3, 60, 27, 5, 162, 0, 63, 17, 2, 13, 5, 27, 104, 96, 61, 42, 180, 0, 7, 28, 4, 96, 46]
abbrev dktX3_cleans_0 : List UInt8 := dkwX3_cleans_0 ++ dktX3_cleans_1
theorem dksX3_cleans_0 : cX3_cleans.data.toList.drop 0 = dktX3_cleans_0 := by decide +kernel
theorem dksX3_cleans_1 : cX3_cleans.data.toList.drop 23 = dktX3_cleans_1 := dk_seg dksX3_cleans_0 23 rfl rfl
theorem dksX3_cleans_2 : cX3_cleans.data.toList.drop 46 = dktX3_cleans_2 := dk_seg dksX3_cleans_1 23 rfl rfl
theorem dX3_cleans_0 : decode cX3_cleans 0 = .ok (.iconst 0, 1) := dk_3 (dk_at dksX3_cleans_0 0 rfl rfl)
theorem dX3_cleans_1 : decode cX3_cleans 1 = .ok (.istore_n 1, 1) := dk_60 (dk_at dksX3_cleans_0 1 rfl rfl)
theorem dX3_cleans_2 : decode cX3_cleans 2 = .ok (.iload_n 1, 1) := dk_27 (dk_at dksX3_cleans_0 2 rfl rfl)
theorem dX3_cleans_3 : decode cX3_cleans 3 = .ok (.iconst 2, 1) := dk_5 (dk_at dksX3_cleans_0 3 rfl rfl)
theorem dX3_cleans_4 : decode cX3_cleans 4 = .ok (.if_icmp .ge 63, 3) := dk_162 0 63 (dk_at dksX3_cleans_0 4 rfl rfl)
theorem dX3_cleans_7 : decode cX3_cleans 7 = .ok (.sipush 525, 3) := dk_17 2 13 (dk_at dksX3_cleans_0 7 rfl rfl)
theorem dX3_cleans_10 : decode cX3_cleans 10 = .ok (.iconst 2, 1) := dk_5 (dk_at dksX3_cleans_0 10 rfl rfl)
theorem dX3_cleans_11 : decode cX3_cleans 11 = .ok (.iload_n 1, 1) := dk_27 (dk_at dksX3_cleans_0 11 rfl rfl)
theorem dX3_cleans_12 : decode cX3_cleans 12 = .ok (.imul, 1) := dk_104 (dk_at dksX3_cleans_0 12 rfl rfl)
theorem dX3_cleans_13 : decode cX3_cleans 13 = .ok (.iadd, 1) := dk_96 (dk_at dksX3_cleans_0 13 rfl rfl)
theorem dX3_cleans_14 : decode cX3_cleans 14 = .ok (.istore_n 2, 1) := dk_61 (dk_at dksX3_cleans_0 14 rfl rfl)
theorem dX3_cleans_15 : decode cX3_cleans 15 = .ok (.aload_n 0, 1) := dk_42 (dk_at dksX3_cleans_0 15 rfl rfl)
theorem dX3_cleans_16 : decode cX3_cleans 16 = .ok (.getfield 7, 3) := dk_180 0 7 (dk_at dksX3_cleans_0 16 rfl rfl)
theorem dX3_cleans_19 : decode cX3_cleans 19 = .ok (.iload_n 2, 1) := dk_28 (dk_at dksX3_cleans_0 19 rfl rfl)
theorem dX3_cleans_20 : decode cX3_cleans 20 = .ok (.iconst 1, 1) := dk_4 (dk_at dksX3_cleans_0 20 rfl rfl)
theorem dX3_cleans_21 : decode cX3_cleans 21 = .ok (.iadd, 1) := dk_96 (dk_at dksX3_cleans_0 21 rfl rfl)
theorem dX3_cleans_22 : decode cX3_cleans 22 = .ok (.iaload, 1) := dk_46 (dk_at dksX3_cleans_0 22 rfl rfl)
theorem dX3_cleans_23 : decode cX3_cleans 23 = .ok (.ifCond .le 38, 3) := dk_158 0 38 (dk_at dksX3_cleans_1 0 rfl rfl)
theorem dX3_cleans_26 : decode cX3_cleans 26 = .ok (.aload_n 0, 1) := dk_42 (dk_at dksX3_cleans_1 3 rfl rfl)
theorem dX3_cleans_27 : decode cX3_cleans 27 = .ok (.getfield 7, 3) := dk_180 0 7 (dk_at dksX3_cleans_1 4 rfl rfl)
theorem dX3_cleans_30 : decode cX3_cleans 30 = .ok (.iload_n 2, 1) := dk_28 (dk_at dksX3_cleans_1 7 rfl rfl)
theorem dX3_cleans_31 : decode cX3_cleans 31 = .ok (.iconst 1, 1) := dk_4 (dk_at dksX3_cleans_1 8 rfl rfl)
theorem dX3_cleans_32 : decode cX3_cleans 32 = .ok (.iadd, 1) := dk_96 (dk_at dksX3_cleans_1 9 rfl rfl)
theorem dX3_cleans_33 : decode cX3_cleans 33 = .ok (.dup2, 1) := dk_92 (dk_at dksX3_cleans_1 10 rfl rfl)
theorem dX3_cleans_34 : decode cX3_cleans 34 = .ok (.iaload, 1) := dk_46 (dk_at dksX3_cleans_1 11 rfl rfl)
theorem dX3_cleans_35 : decode cX3_cleans 35 = .ok (.iconst 1, 1) := dk_4 (dk_at dksX3_cleans_1 12 rfl rfl)
theorem dX3_cleans_36 : decode cX3_cleans 36 = .ok (.isub, 1) := dk_100 (dk_at dksX3_cleans_1 13 rfl rfl)
theorem dX3_cleans_37 : decode cX3_cleans 37 = .ok (.iastore, 1) := dk_79 (dk_at dksX3_cleans_1 14 rfl rfl)
theorem dX3_cleans_38 : decode cX3_cleans 38 = .ok (.aload_n 0, 1) := dk_42 (dk_at dksX3_cleans_1 15 rfl rfl)
theorem dX3_cleans_39 : decode cX3_cleans 39 = .ok (.getfield 7, 3) := dk_180 0 7 (dk_at dksX3_cleans_1 16 rfl rfl)
theorem dX3_cleans_42 : decode cX3_cleans 42 = .ok (.iload_n 2, 1) := dk_28 (dk_at dksX3_cleans_1 19 rfl rfl)
theorem dX3_cleans_43 : decode cX3_cleans 43 = .ok (.iconst 1, 1) := dk_4 (dk_at dksX3_cleans_1 20 rfl rfl)
theorem dX3_cleans_44 : decode cX3_cleans 44 = .ok (.iadd, 1) := dk_96 (dk_at dksX3_cleans_1 21 rfl rfl)
theorem dX3_cleans_45 : decode cX3_cleans 45 = .ok (.iaload, 1) := dk_46 (dk_at dksX3_cleans_1 22 rfl rfl)
theorem dX3_cleans_46 : decode cX3_cleans 46 = .ok (.ifCond .ne 15, 3) := dk_154 0 15 (dk_at dksX3_cleans_2 0 rfl rfl)
theorem dX3_cleans_49 : decode cX3_cleans 49 = .ok (.aload_n 0, 1) := dk_42 (dk_at dksX3_cleans_2 3 rfl rfl)
theorem dX3_cleans_50 : decode cX3_cleans 50 = .ok (.aload_n 0, 1) := dk_42 (dk_at dksX3_cleans_2 4 rfl rfl)
theorem dX3_cleans_51 : decode cX3_cleans 51 = .ok (.getfield 7, 3) := dk_180 0 7 (dk_at dksX3_cleans_2 5 rfl rfl)
theorem dX3_cleans_54 : decode cX3_cleans 54 = .ok (.iload_n 2, 1) := dk_28 (dk_at dksX3_cleans_2 8 rfl rfl)
theorem dX3_cleans_55 : decode cX3_cleans 55 = .ok (.iaload, 1) := dk_46 (dk_at dksX3_cleans_2 9 rfl rfl)
theorem dX3_cleans_56 : decode cX3_cleans 56 = .ok (.iconst 4, 1) := dk_7 (dk_at dksX3_cleans_2 10 rfl rfl)
theorem dX3_cleans_57 : decode cX3_cleans 57 = .ok (.iconst 0, 1) := dk_3 (dk_at dksX3_cleans_2 11 rfl rfl)
theorem dX3_cleans_58 : decode cX3_cleans 58 = .ok (.invokevirtual 51, 3) := dk_182 0 51 (dk_at dksX3_cleans_2 12 rfl rfl)
theorem dX3_cleans_61 : decode cX3_cleans 61 = .ok (.iinc 1 1, 3) := dk_132 1 1 (dk_at dksX3_cleans_2 15 rfl rfl)
theorem dX3_cleans_64 : decode cX3_cleans 64 = .ok (.goto (-62), 3) := dk_167 255 194 (dk_at dksX3_cleans_2 18 rfl rfl)
theorem dX3_cleans_67 : decode cX3_cleans 67 = .ok (.return_, 1) := dk_177 (dk_at dksX3_cleans_2 21 rfl rfl)
abbrev cX3_time : ByteArray := prog_22_method_58_code
def yX3_time : MethodName := ⟨RX3, "time", "()I"⟩
def dkwX3_time_0 : List UInt8 := [42, 3, 181, 0, 54, 42, 180, 0, 7, 3, 46, 172]
abbrev dktX3_time_0 : List UInt8 := dkwX3_time_0 ++ []
theorem dksX3_time_0 : cX3_time.data.toList.drop 0 = dktX3_time_0 := by decide +kernel
theorem dX3_time_0 : decode cX3_time 0 = .ok (.aload_n 0, 1) := dk_42 (dk_at dksX3_time_0 0 rfl rfl)
theorem dX3_time_1 : decode cX3_time 1 = .ok (.iconst 0, 1) := dk_3 (dk_at dksX3_time_0 1 rfl rfl)
theorem dX3_time_2 : decode cX3_time 2 = .ok (.putfield 54, 3) := dk_181 0 54 (dk_at dksX3_time_0 2 rfl rfl)
theorem dX3_time_5 : decode cX3_time 5 = .ok (.aload_n 0, 1) := dk_42 (dk_at dksX3_time_0 5 rfl rfl)
theorem dX3_time_6 : decode cX3_time 6 = .ok (.getfield 7, 3) := dk_180 0 7 (dk_at dksX3_time_0 6 rfl rfl)
theorem dX3_time_9 : decode cX3_time 9 = .ok (.iconst 0, 1) := dk_3 (dk_at dksX3_time_0 9 rfl rfl)
theorem dX3_time_10 : decode cX3_time 10 = .ok (.iaload, 1) := dk_46 (dk_at dksX3_time_0 10 rfl rfl)
theorem dX3_time_11 : decode cX3_time 11 = .ok (.ireturn, 1) := dk_172 (dk_at dksX3_time_0 11 rfl rfl)
abbrev cX3_burnerOf : ByteArray := prog_22_method_59_code
def yX3_burnerOf : MethodName := ⟨RX3, "burnerOf", "(I)I"⟩
def dkwX3_burnerOf_0 : List UInt8 := [42, 27, 182, 0, 152, 153, 0, 12, 42, 27, 3, 182, 0, 72, 167, 0, 4, 3, 172]
abbrev dktX3_burnerOf_0 : List UInt8 := dkwX3_burnerOf_0 ++ []
theorem dksX3_burnerOf_0 : cX3_burnerOf.data.toList.drop 0 = dktX3_burnerOf_0 := by decide +kernel
theorem dX3_burnerOf_0 : decode cX3_burnerOf 0 = .ok (.aload_n 0, 1) := dk_42 (dk_at dksX3_burnerOf_0 0 rfl rfl)
theorem dX3_burnerOf_1 : decode cX3_burnerOf 1 = .ok (.iload_n 1, 1) := dk_27 (dk_at dksX3_burnerOf_0 1 rfl rfl)
theorem dX3_burnerOf_2 : decode cX3_burnerOf 2 = .ok (.invokevirtual 152, 3) := dk_182 0 152 (dk_at dksX3_burnerOf_0 2 rfl rfl)
theorem dX3_burnerOf_5 : decode cX3_burnerOf 5 = .ok (.ifCond .eq 12, 3) := dk_153 0 12 (dk_at dksX3_burnerOf_0 5 rfl rfl)
theorem dX3_burnerOf_8 : decode cX3_burnerOf 8 = .ok (.aload_n 0, 1) := dk_42 (dk_at dksX3_burnerOf_0 8 rfl rfl)
theorem dX3_burnerOf_9 : decode cX3_burnerOf 9 = .ok (.iload_n 1, 1) := dk_27 (dk_at dksX3_burnerOf_0 9 rfl rfl)
theorem dX3_burnerOf_10 : decode cX3_burnerOf 10 = .ok (.iconst 0, 1) := dk_3 (dk_at dksX3_burnerOf_0 10 rfl rfl)
theorem dX3_burnerOf_11 : decode cX3_burnerOf 11 = .ok (.invokevirtual 72, 3) := dk_182 0 72 (dk_at dksX3_burnerOf_0 11 rfl rfl)
theorem dX3_burnerOf_14 : decode cX3_burnerOf 14 = .ok (.goto 4, 3) := dk_167 0 4 (dk_at dksX3_burnerOf_0 14 rfl rfl)
theorem dX3_burnerOf_17 : decode cX3_burnerOf 17 = .ok (.iconst 0, 1) := dk_3 (dk_at dksX3_burnerOf_0 17 rfl rfl)
theorem dX3_burnerOf_18 : decode cX3_burnerOf 18 = .ok (.ireturn, 1) := dk_172 (dk_at dksX3_burnerOf_0 18 rfl rfl)
abbrev cX3_burningOf : ByteArray := prog_22_method_60_code
def yX3_burningOf : MethodName := ⟨RX3, "burningOf", "(I)I"⟩
def dkwX3_burningOf_0 : List UInt8 := [42, 27, 182, 0, 152, 154, 0, 5, 3, 172, 42, 182, 0, 75, 42, 180, 0, 38, 27, 46, 172]
abbrev dktX3_burningOf_0 : List UInt8 := dkwX3_burningOf_0 ++ []
theorem dksX3_burningOf_0 : cX3_burningOf.data.toList.drop 0 = dktX3_burningOf_0 := by decide +kernel
theorem dX3_burningOf_0 : decode cX3_burningOf 0 = .ok (.aload_n 0, 1) := dk_42 (dk_at dksX3_burningOf_0 0 rfl rfl)
theorem dX3_burningOf_1 : decode cX3_burningOf 1 = .ok (.iload_n 1, 1) := dk_27 (dk_at dksX3_burningOf_0 1 rfl rfl)
theorem dX3_burningOf_2 : decode cX3_burningOf 2 = .ok (.invokevirtual 152, 3) := dk_182 0 152 (dk_at dksX3_burningOf_0 2 rfl rfl)
theorem dX3_burningOf_5 : decode cX3_burningOf 5 = .ok (.ifCond .ne 5, 3) := dk_154 0 5 (dk_at dksX3_burningOf_0 5 rfl rfl)
theorem dX3_burningOf_8 : decode cX3_burningOf 8 = .ok (.iconst 0, 1) := dk_3 (dk_at dksX3_burningOf_0 8 rfl rfl)
theorem dX3_burningOf_9 : decode cX3_burningOf 9 = .ok (.ireturn, 1) := dk_172 (dk_at dksX3_burningOf_0 9 rfl rfl)
theorem dX3_burningOf_10 : decode cX3_burningOf 10 = .ok (.aload_n 0, 1) := dk_42 (dk_at dksX3_burningOf_0 10 rfl rfl)
theorem dX3_burningOf_11 : decode cX3_burningOf 11 = .ok (.invokevirtual 75, 3) := dk_182 0 75 (dk_at dksX3_burningOf_0 11 rfl rfl)
theorem dX3_burningOf_14 : decode cX3_burningOf 14 = .ok (.aload_n 0, 1) := dk_42 (dk_at dksX3_burningOf_0 14 rfl rfl)
theorem dX3_burningOf_15 : decode cX3_burningOf 15 = .ok (.getfield 38, 3) := dk_180 0 38 (dk_at dksX3_burningOf_0 15 rfl rfl)
theorem dX3_burningOf_18 : decode cX3_burningOf 18 = .ok (.iload_n 1, 1) := dk_27 (dk_at dksX3_burningOf_0 18 rfl rfl)
theorem dX3_burningOf_19 : decode cX3_burningOf 19 = .ok (.iaload, 1) := dk_46 (dk_at dksX3_burningOf_0 19 rfl rfl)
theorem dX3_burningOf_20 : decode cX3_burningOf 20 = .ok (.ireturn, 1) := dk_172 (dk_at dksX3_burningOf_0 20 rfl rfl)
abbrev cX3_fanOf : ByteArray := prog_22_method_61_code
def yX3_fanOf : MethodName := ⟨RX3, "fanOf", "(I)I"⟩
def dkwX3_fanOf_0 : List UInt8 := [42, 27, 182, 0, 152, 153, 0, 12, 42, 27, 4, 182, 0, 72, 167, 0, 4, 3, 172]
abbrev dktX3_fanOf_0 : List UInt8 := dkwX3_fanOf_0 ++ []
theorem dksX3_fanOf_0 : cX3_fanOf.data.toList.drop 0 = dktX3_fanOf_0 := by decide +kernel
theorem dX3_fanOf_0 : decode cX3_fanOf 0 = .ok (.aload_n 0, 1) := dk_42 (dk_at dksX3_fanOf_0 0 rfl rfl)
theorem dX3_fanOf_1 : decode cX3_fanOf 1 = .ok (.iload_n 1, 1) := dk_27 (dk_at dksX3_fanOf_0 1 rfl rfl)
theorem dX3_fanOf_2 : decode cX3_fanOf 2 = .ok (.invokevirtual 152, 3) := dk_182 0 152 (dk_at dksX3_fanOf_0 2 rfl rfl)
theorem dX3_fanOf_5 : decode cX3_fanOf 5 = .ok (.ifCond .eq 12, 3) := dk_153 0 12 (dk_at dksX3_fanOf_0 5 rfl rfl)
theorem dX3_fanOf_8 : decode cX3_fanOf 8 = .ok (.aload_n 0, 1) := dk_42 (dk_at dksX3_fanOf_0 8 rfl rfl)
theorem dX3_fanOf_9 : decode cX3_fanOf 9 = .ok (.iload_n 1, 1) := dk_27 (dk_at dksX3_fanOf_0 9 rfl rfl)
theorem dX3_fanOf_10 : decode cX3_fanOf 10 = .ok (.iconst 1, 1) := dk_4 (dk_at dksX3_fanOf_0 10 rfl rfl)
theorem dX3_fanOf_11 : decode cX3_fanOf 11 = .ok (.invokevirtual 72, 3) := dk_182 0 72 (dk_at dksX3_fanOf_0 11 rfl rfl)
theorem dX3_fanOf_14 : decode cX3_fanOf 14 = .ok (.goto 4, 3) := dk_167 0 4 (dk_at dksX3_fanOf_0 14 rfl rfl)
theorem dX3_fanOf_17 : decode cX3_fanOf 17 = .ok (.iconst 0, 1) := dk_3 (dk_at dksX3_fanOf_0 17 rfl rfl)
theorem dX3_fanOf_18 : decode cX3_fanOf 18 = .ok (.ireturn, 1) := dk_172 (dk_at dksX3_fanOf_0 18 rfl rfl)
abbrev cX3_rollersOf : ByteArray := prog_22_method_62_code
def yX3_rollersOf : MethodName := ⟨RX3, "rollersOf", "(I)I"⟩
def dkwX3_rollersOf_0 : List UInt8 := [42, 27, 182, 0, 152, 153, 0, 12, 42, 27, 5, 182, 0, 72, 167, 0, 4, 3, 172]
abbrev dktX3_rollersOf_0 : List UInt8 := dkwX3_rollersOf_0 ++ []
theorem dksX3_rollersOf_0 : cX3_rollersOf.data.toList.drop 0 = dktX3_rollersOf_0 := by decide +kernel
theorem dX3_rollersOf_0 : decode cX3_rollersOf 0 = .ok (.aload_n 0, 1) := dk_42 (dk_at dksX3_rollersOf_0 0 rfl rfl)
theorem dX3_rollersOf_1 : decode cX3_rollersOf 1 = .ok (.iload_n 1, 1) := dk_27 (dk_at dksX3_rollersOf_0 1 rfl rfl)
theorem dX3_rollersOf_2 : decode cX3_rollersOf 2 = .ok (.invokevirtual 152, 3) := dk_182 0 152 (dk_at dksX3_rollersOf_0 2 rfl rfl)
theorem dX3_rollersOf_5 : decode cX3_rollersOf 5 = .ok (.ifCond .eq 12, 3) := dk_153 0 12 (dk_at dksX3_rollersOf_0 5 rfl rfl)
theorem dX3_rollersOf_8 : decode cX3_rollersOf 8 = .ok (.aload_n 0, 1) := dk_42 (dk_at dksX3_rollersOf_0 8 rfl rfl)
theorem dX3_rollersOf_9 : decode cX3_rollersOf 9 = .ok (.iload_n 1, 1) := dk_27 (dk_at dksX3_rollersOf_0 9 rfl rfl)
theorem dX3_rollersOf_10 : decode cX3_rollersOf 10 = .ok (.iconst 2, 1) := dk_5 (dk_at dksX3_rollersOf_0 10 rfl rfl)
theorem dX3_rollersOf_11 : decode cX3_rollersOf 11 = .ok (.invokevirtual 72, 3) := dk_182 0 72 (dk_at dksX3_rollersOf_0 11 rfl rfl)
theorem dX3_rollersOf_14 : decode cX3_rollersOf 14 = .ok (.goto 4, 3) := dk_167 0 4 (dk_at dksX3_rollersOf_0 14 rfl rfl)
theorem dX3_rollersOf_17 : decode cX3_rollersOf 17 = .ok (.iconst 0, 1) := dk_3 (dk_at dksX3_rollersOf_0 17 rfl rfl)
theorem dX3_rollersOf_18 : decode cX3_rollersOf 18 = .ok (.ireturn, 1) := dk_172 (dk_at dksX3_rollersOf_0 18 rfl rfl)
abbrev cX3_temperatureOf : ByteArray := prog_22_method_63_code
def yX3_temperatureOf : MethodName := ⟨RX3, "temperatureOf", "(I)I"⟩
def dkwX3_temperatureOf_0 : List UInt8 := [42, 27, 182, 0, 152, 153, 0, 12, 42, 27, 6, 182, 0, 72, 167, 0, 4, 3, 172]
abbrev dktX3_temperatureOf_0 : List UInt8 := dkwX3_temperatureOf_0 ++ []
theorem dksX3_temperatureOf_0 : cX3_temperatureOf.data.toList.drop 0 = dktX3_temperatureOf_0 := by decide +kernel
theorem dX3_temperatureOf_0 : decode cX3_temperatureOf 0 = .ok (.aload_n 0, 1) := dk_42 (dk_at dksX3_temperatureOf_0 0 rfl rfl)
theorem dX3_temperatureOf_1 : decode cX3_temperatureOf 1 = .ok (.iload_n 1, 1) := dk_27 (dk_at dksX3_temperatureOf_0 1 rfl rfl)
theorem dX3_temperatureOf_2 : decode cX3_temperatureOf 2 = .ok (.invokevirtual 152, 3) := dk_182 0 152 (dk_at dksX3_temperatureOf_0 2 rfl rfl)
theorem dX3_temperatureOf_5 : decode cX3_temperatureOf 5 = .ok (.ifCond .eq 12, 3) := dk_153 0 12 (dk_at dksX3_temperatureOf_0 5 rfl rfl)
theorem dX3_temperatureOf_8 : decode cX3_temperatureOf 8 = .ok (.aload_n 0, 1) := dk_42 (dk_at dksX3_temperatureOf_0 8 rfl rfl)
theorem dX3_temperatureOf_9 : decode cX3_temperatureOf 9 = .ok (.iload_n 1, 1) := dk_27 (dk_at dksX3_temperatureOf_0 9 rfl rfl)
theorem dX3_temperatureOf_10 : decode cX3_temperatureOf 10 = .ok (.iconst 3, 1) := dk_6 (dk_at dksX3_temperatureOf_0 10 rfl rfl)
theorem dX3_temperatureOf_11 : decode cX3_temperatureOf 11 = .ok (.invokevirtual 72, 3) := dk_182 0 72 (dk_at dksX3_temperatureOf_0 11 rfl rfl)
theorem dX3_temperatureOf_14 : decode cX3_temperatureOf 14 = .ok (.goto 4, 3) := dk_167 0 4 (dk_at dksX3_temperatureOf_0 14 rfl rfl)
theorem dX3_temperatureOf_17 : decode cX3_temperatureOf 17 = .ok (.iconst 0, 1) := dk_3 (dk_at dksX3_temperatureOf_0 17 rfl rfl)
theorem dX3_temperatureOf_18 : decode cX3_temperatureOf 18 = .ok (.ireturn, 1) := dk_172 (dk_at dksX3_temperatureOf_0 18 rfl rfl)
abbrev cX3_gasByZones : ByteArray := prog_22_method_64_code
def yX3_gasByZones : MethodName := ⟨RX3, "gasByZones", "()I"⟩
def dkwX3_gasByZones_1 : List UInt8 := [132, 2, 1, 167, 255, 238, 27, 172]
abbrev dktX3_gasByZones_1 : List UInt8 := dkwX3_gasByZones_1 ++ []
def dkwX3_gasByZones_0 : List UInt8 := [42, 3, 181, 0, 54, 3, 60, 3, 61, 28, 16, 8, 162, 0, 18, 27, 42, 28, 7, 182, 0, 72, 96, 60]
abbrev dktX3_gasByZones_0 : List UInt8 := dkwX3_gasByZones_0 ++ dktX3_gasByZones_1
theorem dksX3_gasByZones_0 : cX3_gasByZones.data.toList.drop 0 = dktX3_gasByZones_0 := by decide +kernel
theorem dksX3_gasByZones_1 : cX3_gasByZones.data.toList.drop 24 = dktX3_gasByZones_1 := dk_seg dksX3_gasByZones_0 24 rfl rfl
theorem dX3_gasByZones_0 : decode cX3_gasByZones 0 = .ok (.aload_n 0, 1) := dk_42 (dk_at dksX3_gasByZones_0 0 rfl rfl)
theorem dX3_gasByZones_1 : decode cX3_gasByZones 1 = .ok (.iconst 0, 1) := dk_3 (dk_at dksX3_gasByZones_0 1 rfl rfl)
theorem dX3_gasByZones_2 : decode cX3_gasByZones 2 = .ok (.putfield 54, 3) := dk_181 0 54 (dk_at dksX3_gasByZones_0 2 rfl rfl)
theorem dX3_gasByZones_5 : decode cX3_gasByZones 5 = .ok (.iconst 0, 1) := dk_3 (dk_at dksX3_gasByZones_0 5 rfl rfl)
theorem dX3_gasByZones_6 : decode cX3_gasByZones 6 = .ok (.istore_n 1, 1) := dk_60 (dk_at dksX3_gasByZones_0 6 rfl rfl)
theorem dX3_gasByZones_7 : decode cX3_gasByZones 7 = .ok (.iconst 0, 1) := dk_3 (dk_at dksX3_gasByZones_0 7 rfl rfl)
theorem dX3_gasByZones_8 : decode cX3_gasByZones 8 = .ok (.istore_n 2, 1) := dk_61 (dk_at dksX3_gasByZones_0 8 rfl rfl)
theorem dX3_gasByZones_9 : decode cX3_gasByZones 9 = .ok (.iload_n 2, 1) := dk_28 (dk_at dksX3_gasByZones_0 9 rfl rfl)
theorem dX3_gasByZones_10 : decode cX3_gasByZones 10 = .ok (.bipush 8, 2) := dk_16 8 (dk_at dksX3_gasByZones_0 10 rfl rfl)
theorem dX3_gasByZones_12 : decode cX3_gasByZones 12 = .ok (.if_icmp .ge 18, 3) := dk_162 0 18 (dk_at dksX3_gasByZones_0 12 rfl rfl)
theorem dX3_gasByZones_15 : decode cX3_gasByZones 15 = .ok (.iload_n 1, 1) := dk_27 (dk_at dksX3_gasByZones_0 15 rfl rfl)
theorem dX3_gasByZones_16 : decode cX3_gasByZones 16 = .ok (.aload_n 0, 1) := dk_42 (dk_at dksX3_gasByZones_0 16 rfl rfl)
theorem dX3_gasByZones_17 : decode cX3_gasByZones 17 = .ok (.iload_n 2, 1) := dk_28 (dk_at dksX3_gasByZones_0 17 rfl rfl)
theorem dX3_gasByZones_18 : decode cX3_gasByZones 18 = .ok (.iconst 4, 1) := dk_7 (dk_at dksX3_gasByZones_0 18 rfl rfl)
theorem dX3_gasByZones_19 : decode cX3_gasByZones 19 = .ok (.invokevirtual 72, 3) := dk_182 0 72 (dk_at dksX3_gasByZones_0 19 rfl rfl)
theorem dX3_gasByZones_22 : decode cX3_gasByZones 22 = .ok (.iadd, 1) := dk_96 (dk_at dksX3_gasByZones_0 22 rfl rfl)
theorem dX3_gasByZones_23 : decode cX3_gasByZones 23 = .ok (.istore_n 1, 1) := dk_60 (dk_at dksX3_gasByZones_0 23 rfl rfl)
theorem dX3_gasByZones_24 : decode cX3_gasByZones 24 = .ok (.iinc 2 1, 3) := dk_132 2 1 (dk_at dksX3_gasByZones_1 0 rfl rfl)
theorem dX3_gasByZones_27 : decode cX3_gasByZones 27 = .ok (.goto (-18), 3) := dk_167 255 238 (dk_at dksX3_gasByZones_1 3 rfl rfl)
theorem dX3_gasByZones_30 : decode cX3_gasByZones 30 = .ok (.iload_n 1, 1) := dk_27 (dk_at dksX3_gasByZones_1 6 rfl rfl)
theorem dX3_gasByZones_31 : decode cX3_gasByZones 31 = .ok (.ireturn, 1) := dk_172 (dk_at dksX3_gasByZones_1 7 rfl rfl)
abbrev cX3_gasByMinutes : ByteArray := prog_22_method_65_code
def yX3_gasByMinutes : MethodName := ⟨RX3, "gasByMinutes", "()I"⟩
def dkwX3_gasByMinutes_0 : List UInt8 := [42, 3, 181, 0, 54, 42, 180, 0, 7, 5, 46, 172]
abbrev dktX3_gasByMinutes_0 : List UInt8 := dkwX3_gasByMinutes_0 ++ []
theorem dksX3_gasByMinutes_0 : cX3_gasByMinutes.data.toList.drop 0 = dktX3_gasByMinutes_0 := by decide +kernel
theorem dX3_gasByMinutes_0 : decode cX3_gasByMinutes 0 = .ok (.aload_n 0, 1) := dk_42 (dk_at dksX3_gasByMinutes_0 0 rfl rfl)
theorem dX3_gasByMinutes_1 : decode cX3_gasByMinutes 1 = .ok (.iconst 0, 1) := dk_3 (dk_at dksX3_gasByMinutes_0 1 rfl rfl)
theorem dX3_gasByMinutes_2 : decode cX3_gasByMinutes 2 = .ok (.putfield 54, 3) := dk_181 0 54 (dk_at dksX3_gasByMinutes_0 2 rfl rfl)
theorem dX3_gasByMinutes_5 : decode cX3_gasByMinutes 5 = .ok (.aload_n 0, 1) := dk_42 (dk_at dksX3_gasByMinutes_0 5 rfl rfl)
theorem dX3_gasByMinutes_6 : decode cX3_gasByMinutes 6 = .ok (.getfield 7, 3) := dk_180 0 7 (dk_at dksX3_gasByMinutes_0 6 rfl rfl)
theorem dX3_gasByMinutes_9 : decode cX3_gasByMinutes 9 = .ok (.iconst 2, 1) := dk_5 (dk_at dksX3_gasByMinutes_0 9 rfl rfl)
theorem dX3_gasByMinutes_10 : decode cX3_gasByMinutes 10 = .ok (.iaload, 1) := dk_46 (dk_at dksX3_gasByMinutes_0 10 rfl rfl)
theorem dX3_gasByMinutes_11 : decode cX3_gasByMinutes 11 = .ok (.ireturn, 1) := dk_172 (dk_at dksX3_gasByMinutes_0 11 rfl rfl)
abbrev cX3_plans : ByteArray := prog_22_method_66_code
def yX3_plans : MethodName := ⟨RX3, "plans", "()I"⟩
def dkwX3_plans_0 : List UInt8 := [42, 3, 181, 0, 54, 42, 180, 0, 7, 17, 2, 17, 46, 172]
abbrev dktX3_plans_0 : List UInt8 := dkwX3_plans_0 ++ []
theorem dksX3_plans_0 : cX3_plans.data.toList.drop 0 = dktX3_plans_0 := by decide +kernel
theorem dX3_plans_0 : decode cX3_plans 0 = .ok (.aload_n 0, 1) := dk_42 (dk_at dksX3_plans_0 0 rfl rfl)
theorem dX3_plans_1 : decode cX3_plans 1 = .ok (.iconst 0, 1) := dk_3 (dk_at dksX3_plans_0 1 rfl rfl)
theorem dX3_plans_2 : decode cX3_plans 2 = .ok (.putfield 54, 3) := dk_181 0 54 (dk_at dksX3_plans_0 2 rfl rfl)
theorem dX3_plans_5 : decode cX3_plans 5 = .ok (.aload_n 0, 1) := dk_42 (dk_at dksX3_plans_0 5 rfl rfl)
theorem dX3_plans_6 : decode cX3_plans 6 = .ok (.getfield 7, 3) := dk_180 0 7 (dk_at dksX3_plans_0 6 rfl rfl)
theorem dX3_plans_9 : decode cX3_plans 9 = .ok (.sipush 529, 3) := dk_17 2 17 (dk_at dksX3_plans_0 9 rfl rfl)
theorem dX3_plans_12 : decode cX3_plans 12 = .ok (.iaload, 1) := dk_46 (dk_at dksX3_plans_0 12 rfl rfl)
theorem dX3_plans_13 : decode cX3_plans 13 = .ok (.ireturn, 1) := dk_172 (dk_at dksX3_plans_0 13 rfl rfl)
abbrev cX3_plannedFor : ByteArray := prog_22_method_67_code
def yX3_plannedFor : MethodName := ⟨RX3, "plannedFor", "(II)I"⟩
def dkwX3_plannedFor_2 : List UInt8 := [29, 5, 96, 46, 172]
abbrev dktX3_plannedFor_2 : List UInt8 := dkwX3_plannedFor_2 ++ []
def dkwX3_plannedFor_1 : List UInt8 := [182, 0, 155, 172, 42, 27, 28, 182, 0, 191, 62, 29, 2, 160, 0, 7, 2, 167, 0, 11, 42, 180, 0, 7]
abbrev dktX3_plannedFor_1 : List UInt8 := dkwX3_plannedFor_1 ++ dktX3_plannedFor_2
def dkwX3_plannedFor_0 : List UInt8 := [42, 28, 182, 0, 152, 154, 0, 5, 3, 172, 27, 4, 17, 39, 15, 184, 0, 148, 154, 0, 9, 42, 5]
abbrev dktX3_plannedFor_0 : List UInt8 := dkwX3_plannedFor_0 ++ dktX3_plannedFor_1
theorem dksX3_plannedFor_0 : cX3_plannedFor.data.toList.drop 0 = dktX3_plannedFor_0 := by decide +kernel
theorem dksX3_plannedFor_1 : cX3_plannedFor.data.toList.drop 23 = dktX3_plannedFor_1 := dk_seg dksX3_plannedFor_0 23 rfl rfl
theorem dksX3_plannedFor_2 : cX3_plannedFor.data.toList.drop 47 = dktX3_plannedFor_2 := dk_seg dksX3_plannedFor_1 24 rfl rfl
theorem dX3_plannedFor_0 : decode cX3_plannedFor 0 = .ok (.aload_n 0, 1) := dk_42 (dk_at dksX3_plannedFor_0 0 rfl rfl)
theorem dX3_plannedFor_1 : decode cX3_plannedFor 1 = .ok (.iload_n 2, 1) := dk_28 (dk_at dksX3_plannedFor_0 1 rfl rfl)
theorem dX3_plannedFor_2 : decode cX3_plannedFor 2 = .ok (.invokevirtual 152, 3) := dk_182 0 152 (dk_at dksX3_plannedFor_0 2 rfl rfl)
theorem dX3_plannedFor_5 : decode cX3_plannedFor 5 = .ok (.ifCond .ne 5, 3) := dk_154 0 5 (dk_at dksX3_plannedFor_0 5 rfl rfl)
theorem dX3_plannedFor_8 : decode cX3_plannedFor 8 = .ok (.iconst 0, 1) := dk_3 (dk_at dksX3_plannedFor_0 8 rfl rfl)
theorem dX3_plannedFor_9 : decode cX3_plannedFor 9 = .ok (.ireturn, 1) := dk_172 (dk_at dksX3_plannedFor_0 9 rfl rfl)
theorem dX3_plannedFor_10 : decode cX3_plannedFor 10 = .ok (.iload_n 1, 1) := dk_27 (dk_at dksX3_plannedFor_0 10 rfl rfl)
theorem dX3_plannedFor_11 : decode cX3_plannedFor 11 = .ok (.iconst 1, 1) := dk_4 (dk_at dksX3_plannedFor_0 11 rfl rfl)
theorem dX3_plannedFor_12 : decode cX3_plannedFor 12 = .ok (.sipush 9999, 3) := dk_17 39 15 (dk_at dksX3_plannedFor_0 12 rfl rfl)
theorem dX3_plannedFor_15 : decode cX3_plannedFor 15 = .ok (.invokestatic 148, 3) := dk_184 0 148 (dk_at dksX3_plannedFor_0 15 rfl rfl)
theorem dX3_plannedFor_18 : decode cX3_plannedFor 18 = .ok (.ifCond .ne 9, 3) := dk_154 0 9 (dk_at dksX3_plannedFor_0 18 rfl rfl)
theorem dX3_plannedFor_21 : decode cX3_plannedFor 21 = .ok (.aload_n 0, 1) := dk_42 (dk_at dksX3_plannedFor_0 21 rfl rfl)
theorem dX3_plannedFor_22 : decode cX3_plannedFor 22 = .ok (.iconst 2, 1) := dk_5 (dk_at dksX3_plannedFor_0 22 rfl rfl)
theorem dX3_plannedFor_23 : decode cX3_plannedFor 23 = .ok (.invokevirtual 155, 3) := dk_182 0 155 (dk_at dksX3_plannedFor_1 0 rfl rfl)
theorem dX3_plannedFor_26 : decode cX3_plannedFor 26 = .ok (.ireturn, 1) := dk_172 (dk_at dksX3_plannedFor_1 3 rfl rfl)
theorem dX3_plannedFor_27 : decode cX3_plannedFor 27 = .ok (.aload_n 0, 1) := dk_42 (dk_at dksX3_plannedFor_1 4 rfl rfl)
theorem dX3_plannedFor_28 : decode cX3_plannedFor 28 = .ok (.iload_n 1, 1) := dk_27 (dk_at dksX3_plannedFor_1 5 rfl rfl)
theorem dX3_plannedFor_29 : decode cX3_plannedFor 29 = .ok (.iload_n 2, 1) := dk_28 (dk_at dksX3_plannedFor_1 6 rfl rfl)
theorem dX3_plannedFor_30 : decode cX3_plannedFor 30 = .ok (.invokevirtual 191, 3) := dk_182 0 191 (dk_at dksX3_plannedFor_1 7 rfl rfl)
theorem dX3_plannedFor_33 : decode cX3_plannedFor 33 = .ok (.istore_n 3, 1) := dk_62 (dk_at dksX3_plannedFor_1 10 rfl rfl)
theorem dX3_plannedFor_34 : decode cX3_plannedFor 34 = .ok (.iload_n 3, 1) := dk_29 (dk_at dksX3_plannedFor_1 11 rfl rfl)
theorem dX3_plannedFor_35 : decode cX3_plannedFor 35 = .ok (.iconst (-1), 1) := dk_2 (dk_at dksX3_plannedFor_1 12 rfl rfl)
theorem dX3_plannedFor_36 : decode cX3_plannedFor 36 = .ok (.if_icmp .ne 7, 3) := dk_160 0 7 (dk_at dksX3_plannedFor_1 13 rfl rfl)
theorem dX3_plannedFor_39 : decode cX3_plannedFor 39 = .ok (.iconst (-1), 1) := dk_2 (dk_at dksX3_plannedFor_1 16 rfl rfl)
theorem dX3_plannedFor_40 : decode cX3_plannedFor 40 = .ok (.goto 11, 3) := dk_167 0 11 (dk_at dksX3_plannedFor_1 17 rfl rfl)
theorem dX3_plannedFor_43 : decode cX3_plannedFor 43 = .ok (.aload_n 0, 1) := dk_42 (dk_at dksX3_plannedFor_1 20 rfl rfl)
theorem dX3_plannedFor_44 : decode cX3_plannedFor 44 = .ok (.getfield 7, 3) := dk_180 0 7 (dk_at dksX3_plannedFor_1 21 rfl rfl)
theorem dX3_plannedFor_47 : decode cX3_plannedFor 47 = .ok (.iload_n 3, 1) := dk_29 (dk_at dksX3_plannedFor_2 0 rfl rfl)
theorem dX3_plannedFor_48 : decode cX3_plannedFor 48 = .ok (.iconst 2, 1) := dk_5 (dk_at dksX3_plannedFor_2 1 rfl rfl)
theorem dX3_plannedFor_49 : decode cX3_plannedFor 49 = .ok (.iadd, 1) := dk_96 (dk_at dksX3_plannedFor_2 2 rfl rfl)
theorem dX3_plannedFor_50 : decode cX3_plannedFor 50 = .ok (.iaload, 1) := dk_46 (dk_at dksX3_plannedFor_2 3 rfl rfl)
theorem dX3_plannedFor_51 : decode cX3_plannedFor 51 = .ok (.ireturn, 1) := dk_172 (dk_at dksX3_plannedFor_2 4 rfl rfl)
abbrev cX3_lotAt : ByteArray := prog_22_method_70_code
def yX3_lotAt : MethodName := ⟨RX3, "lotAt", "(I)I"⟩
def dkwX3_lotAt_0 : List UInt8 := [42, 27, 182, 0, 197, 153, 0, 12, 42, 27, 3, 182, 0, 58, 167, 0, 4, 3, 172]
abbrev dktX3_lotAt_0 : List UInt8 := dkwX3_lotAt_0 ++ []
theorem dksX3_lotAt_0 : cX3_lotAt.data.toList.drop 0 = dktX3_lotAt_0 := by decide +kernel
theorem dX3_lotAt_0 : decode cX3_lotAt 0 = .ok (.aload_n 0, 1) := dk_42 (dk_at dksX3_lotAt_0 0 rfl rfl)
theorem dX3_lotAt_1 : decode cX3_lotAt 1 = .ok (.iload_n 1, 1) := dk_27 (dk_at dksX3_lotAt_0 1 rfl rfl)
theorem dX3_lotAt_2 : decode cX3_lotAt 2 = .ok (.invokevirtual 197, 3) := dk_182 0 197 (dk_at dksX3_lotAt_0 2 rfl rfl)
theorem dX3_lotAt_5 : decode cX3_lotAt 5 = .ok (.ifCond .eq 12, 3) := dk_153 0 12 (dk_at dksX3_lotAt_0 5 rfl rfl)
theorem dX3_lotAt_8 : decode cX3_lotAt 8 = .ok (.aload_n 0, 1) := dk_42 (dk_at dksX3_lotAt_0 8 rfl rfl)
theorem dX3_lotAt_9 : decode cX3_lotAt 9 = .ok (.iload_n 1, 1) := dk_27 (dk_at dksX3_lotAt_0 9 rfl rfl)
theorem dX3_lotAt_10 : decode cX3_lotAt 10 = .ok (.iconst 0, 1) := dk_3 (dk_at dksX3_lotAt_0 10 rfl rfl)
theorem dX3_lotAt_11 : decode cX3_lotAt 11 = .ok (.invokevirtual 58, 3) := dk_182 0 58 (dk_at dksX3_lotAt_0 11 rfl rfl)
theorem dX3_lotAt_14 : decode cX3_lotAt 14 = .ok (.goto 4, 3) := dk_167 0 4 (dk_at dksX3_lotAt_0 14 rfl rfl)
theorem dX3_lotAt_17 : decode cX3_lotAt 17 = .ok (.iconst 0, 1) := dk_3 (dk_at dksX3_lotAt_0 17 rfl rfl)
theorem dX3_lotAt_18 : decode cX3_lotAt 18 = .ok (.ireturn, 1) := dk_172 (dk_at dksX3_lotAt_0 18 rfl rfl)
abbrev cX3_isPlace : ByteArray := prog_22_method_68_code
def yX3_isPlace : MethodName := ⟨RX3, "isPlace", "(I)Z"⟩
def dkwX3_isPlace_1 : List UInt8 := [154, 0, 7, 4, 167, 0, 4, 3, 172]
abbrev dktX3_isPlace_1 : List UInt8 := dkwX3_isPlace_1 ++ []
def dkwX3_isPlace_0 : List UInt8 := [42, 27, 3, 16, 23, 184, 0, 148, 153, 0, 7, 3, 167, 0, 4, 4, 181, 0, 54, 42, 180, 0, 54]
abbrev dktX3_isPlace_0 : List UInt8 := dkwX3_isPlace_0 ++ dktX3_isPlace_1
theorem dksX3_isPlace_0 : cX3_isPlace.data.toList.drop 0 = dktX3_isPlace_0 := by decide +kernel
theorem dksX3_isPlace_1 : cX3_isPlace.data.toList.drop 23 = dktX3_isPlace_1 := dk_seg dksX3_isPlace_0 23 rfl rfl
theorem dX3_isPlace_0 : decode cX3_isPlace 0 = .ok (.aload_n 0, 1) := dk_42 (dk_at dksX3_isPlace_0 0 rfl rfl)
theorem dX3_isPlace_1 : decode cX3_isPlace 1 = .ok (.iload_n 1, 1) := dk_27 (dk_at dksX3_isPlace_0 1 rfl rfl)
theorem dX3_isPlace_2 : decode cX3_isPlace 2 = .ok (.iconst 0, 1) := dk_3 (dk_at dksX3_isPlace_0 2 rfl rfl)
theorem dX3_isPlace_3 : decode cX3_isPlace 3 = .ok (.bipush 23, 2) := dk_16 23 (dk_at dksX3_isPlace_0 3 rfl rfl)
theorem dX3_isPlace_5 : decode cX3_isPlace 5 = .ok (.invokestatic 148, 3) := dk_184 0 148 (dk_at dksX3_isPlace_0 5 rfl rfl)
theorem dX3_isPlace_8 : decode cX3_isPlace 8 = .ok (.ifCond .eq 7, 3) := dk_153 0 7 (dk_at dksX3_isPlace_0 8 rfl rfl)
theorem dX3_isPlace_11 : decode cX3_isPlace 11 = .ok (.iconst 0, 1) := dk_3 (dk_at dksX3_isPlace_0 11 rfl rfl)
theorem dX3_isPlace_12 : decode cX3_isPlace 12 = .ok (.goto 4, 3) := dk_167 0 4 (dk_at dksX3_isPlace_0 12 rfl rfl)
theorem dX3_isPlace_15 : decode cX3_isPlace 15 = .ok (.iconst 1, 1) := dk_4 (dk_at dksX3_isPlace_0 15 rfl rfl)
theorem dX3_isPlace_16 : decode cX3_isPlace 16 = .ok (.putfield 54, 3) := dk_181 0 54 (dk_at dksX3_isPlace_0 16 rfl rfl)
theorem dX3_isPlace_19 : decode cX3_isPlace 19 = .ok (.aload_n 0, 1) := dk_42 (dk_at dksX3_isPlace_0 19 rfl rfl)
theorem dX3_isPlace_20 : decode cX3_isPlace 20 = .ok (.getfield 54, 3) := dk_180 0 54 (dk_at dksX3_isPlace_0 20 rfl rfl)
theorem dX3_isPlace_23 : decode cX3_isPlace 23 = .ok (.ifCond .ne 7, 3) := dk_154 0 7 (dk_at dksX3_isPlace_1 0 rfl rfl)
theorem dX3_isPlace_26 : decode cX3_isPlace 26 = .ok (.iconst 1, 1) := dk_4 (dk_at dksX3_isPlace_1 3 rfl rfl)
theorem dX3_isPlace_27 : decode cX3_isPlace 27 = .ok (.goto 4, 3) := dk_167 0 4 (dk_at dksX3_isPlace_1 4 rfl rfl)
theorem dX3_isPlace_30 : decode cX3_isPlace 30 = .ok (.iconst 0, 1) := dk_3 (dk_at dksX3_isPlace_1 7 rfl rfl)
theorem dX3_isPlace_31 : decode cX3_isPlace 31 = .ok (.ireturn, 1) := dk_172 (dk_at dksX3_isPlace_1 8 rfl rfl)
abbrev cX3_numberAt : ByteArray := prog_22_method_71_code
def yX3_numberAt : MethodName := ⟨RX3, "numberAt", "(I)I"⟩
def dkwX3_numberAt_1 : List UInt8 := [167, 0, 8, 2, 167, 0, 4, 3, 172]
abbrev dktX3_numberAt_1 : List UInt8 := dkwX3_numberAt_1 ++ []
def dkwX3_numberAt_0 : List UInt8 := [42, 27, 182, 0, 197, 153, 0, 24, 42, 27, 182, 0, 62, 153, 0, 12, 42, 27, 4, 182, 0, 58]
abbrev dktX3_numberAt_0 : List UInt8 := dkwX3_numberAt_0 ++ dktX3_numberAt_1
theorem dksX3_numberAt_0 : cX3_numberAt.data.toList.drop 0 = dktX3_numberAt_0 := by decide +kernel
theorem dksX3_numberAt_1 : cX3_numberAt.data.toList.drop 22 = dktX3_numberAt_1 := dk_seg dksX3_numberAt_0 22 rfl rfl
theorem dX3_numberAt_0 : decode cX3_numberAt 0 = .ok (.aload_n 0, 1) := dk_42 (dk_at dksX3_numberAt_0 0 rfl rfl)
theorem dX3_numberAt_1 : decode cX3_numberAt 1 = .ok (.iload_n 1, 1) := dk_27 (dk_at dksX3_numberAt_0 1 rfl rfl)
theorem dX3_numberAt_2 : decode cX3_numberAt 2 = .ok (.invokevirtual 197, 3) := dk_182 0 197 (dk_at dksX3_numberAt_0 2 rfl rfl)
theorem dX3_numberAt_5 : decode cX3_numberAt 5 = .ok (.ifCond .eq 24, 3) := dk_153 0 24 (dk_at dksX3_numberAt_0 5 rfl rfl)
theorem dX3_numberAt_8 : decode cX3_numberAt 8 = .ok (.aload_n 0, 1) := dk_42 (dk_at dksX3_numberAt_0 8 rfl rfl)
theorem dX3_numberAt_9 : decode cX3_numberAt 9 = .ok (.iload_n 1, 1) := dk_27 (dk_at dksX3_numberAt_0 9 rfl rfl)
theorem dX3_numberAt_10 : decode cX3_numberAt 10 = .ok (.invokevirtual 62, 3) := dk_182 0 62 (dk_at dksX3_numberAt_0 10 rfl rfl)
theorem dX3_numberAt_13 : decode cX3_numberAt 13 = .ok (.ifCond .eq 12, 3) := dk_153 0 12 (dk_at dksX3_numberAt_0 13 rfl rfl)
theorem dX3_numberAt_16 : decode cX3_numberAt 16 = .ok (.aload_n 0, 1) := dk_42 (dk_at dksX3_numberAt_0 16 rfl rfl)
theorem dX3_numberAt_17 : decode cX3_numberAt 17 = .ok (.iload_n 1, 1) := dk_27 (dk_at dksX3_numberAt_0 17 rfl rfl)
theorem dX3_numberAt_18 : decode cX3_numberAt 18 = .ok (.iconst 1, 1) := dk_4 (dk_at dksX3_numberAt_0 18 rfl rfl)
theorem dX3_numberAt_19 : decode cX3_numberAt 19 = .ok (.invokevirtual 58, 3) := dk_182 0 58 (dk_at dksX3_numberAt_0 19 rfl rfl)
theorem dX3_numberAt_22 : decode cX3_numberAt 22 = .ok (.goto 8, 3) := dk_167 0 8 (dk_at dksX3_numberAt_1 0 rfl rfl)
theorem dX3_numberAt_25 : decode cX3_numberAt 25 = .ok (.iconst (-1), 1) := dk_2 (dk_at dksX3_numberAt_1 3 rfl rfl)
theorem dX3_numberAt_26 : decode cX3_numberAt 26 = .ok (.goto 4, 3) := dk_167 0 4 (dk_at dksX3_numberAt_1 4 rfl rfl)
theorem dX3_numberAt_29 : decode cX3_numberAt 29 = .ok (.iconst 0, 1) := dk_3 (dk_at dksX3_numberAt_1 7 rfl rfl)
theorem dX3_numberAt_30 : decode cX3_numberAt 30 = .ok (.ireturn, 1) := dk_172 (dk_at dksX3_numberAt_1 8 rfl rfl)
abbrev cX3_warmthAt : ByteArray := prog_22_method_72_code
def yX3_warmthAt : MethodName := ⟨RX3, "warmthAt", "(I)I"⟩
def dkwX3_warmthAt_0 : List UInt8 := [42, 27, 182, 0, 200, 153, 0, 12, 42, 27, 5, 182, 0, 58, 167, 0, 4, 3, 172]
abbrev dktX3_warmthAt_0 : List UInt8 := dkwX3_warmthAt_0 ++ []
theorem dksX3_warmthAt_0 : cX3_warmthAt.data.toList.drop 0 = dktX3_warmthAt_0 := by decide +kernel
theorem dX3_warmthAt_0 : decode cX3_warmthAt 0 = .ok (.aload_n 0, 1) := dk_42 (dk_at dksX3_warmthAt_0 0 rfl rfl)
theorem dX3_warmthAt_1 : decode cX3_warmthAt 1 = .ok (.iload_n 1, 1) := dk_27 (dk_at dksX3_warmthAt_0 1 rfl rfl)
theorem dX3_warmthAt_2 : decode cX3_warmthAt 2 = .ok (.invokevirtual 200, 3) := dk_182 0 200 (dk_at dksX3_warmthAt_0 2 rfl rfl)
theorem dX3_warmthAt_5 : decode cX3_warmthAt 5 = .ok (.ifCond .eq 12, 3) := dk_153 0 12 (dk_at dksX3_warmthAt_0 5 rfl rfl)
theorem dX3_warmthAt_8 : decode cX3_warmthAt 8 = .ok (.aload_n 0, 1) := dk_42 (dk_at dksX3_warmthAt_0 8 rfl rfl)
theorem dX3_warmthAt_9 : decode cX3_warmthAt 9 = .ok (.iload_n 1, 1) := dk_27 (dk_at dksX3_warmthAt_0 9 rfl rfl)
theorem dX3_warmthAt_10 : decode cX3_warmthAt 10 = .ok (.iconst 2, 1) := dk_5 (dk_at dksX3_warmthAt_0 10 rfl rfl)
theorem dX3_warmthAt_11 : decode cX3_warmthAt 11 = .ok (.invokevirtual 58, 3) := dk_182 0 58 (dk_at dksX3_warmthAt_0 11 rfl rfl)
theorem dX3_warmthAt_14 : decode cX3_warmthAt 14 = .ok (.goto 4, 3) := dk_167 0 4 (dk_at dksX3_warmthAt_0 14 rfl rfl)
theorem dX3_warmthAt_17 : decode cX3_warmthAt 17 = .ok (.iconst 0, 1) := dk_3 (dk_at dksX3_warmthAt_0 17 rfl rfl)
theorem dX3_warmthAt_18 : decode cX3_warmthAt 18 = .ok (.ireturn, 1) := dk_172 (dk_at dksX3_warmthAt_0 18 rfl rfl)
abbrev cX3_hasPiece : ByteArray := prog_22_method_69_code
def yX3_hasPiece : MethodName := ⟨RX3, "hasPiece", "(I)Z"⟩
def dkwX3_hasPiece_1 : List UInt8 := [167, 0, 4, 5, 181, 0, 54, 42, 180, 0, 54, 154, 0, 7, 4, 167, 0, 4, 3, 172]
abbrev dktX3_hasPiece_1 : List UInt8 := dkwX3_hasPiece_1 ++ []
def dkwX3_hasPiece_0 : List UInt8 := [42, 27, 3, 16, 23, 184, 0, 148, 154, 0, 7, 4, 167, 0, 16, 42, 27, 182, 0, 62, 153, 0, 7, 3]
abbrev dktX3_hasPiece_0 : List UInt8 := dkwX3_hasPiece_0 ++ dktX3_hasPiece_1
theorem dksX3_hasPiece_0 : cX3_hasPiece.data.toList.drop 0 = dktX3_hasPiece_0 := by decide +kernel
theorem dksX3_hasPiece_1 : cX3_hasPiece.data.toList.drop 24 = dktX3_hasPiece_1 := dk_seg dksX3_hasPiece_0 24 rfl rfl
theorem dX3_hasPiece_0 : decode cX3_hasPiece 0 = .ok (.aload_n 0, 1) := dk_42 (dk_at dksX3_hasPiece_0 0 rfl rfl)
theorem dX3_hasPiece_1 : decode cX3_hasPiece 1 = .ok (.iload_n 1, 1) := dk_27 (dk_at dksX3_hasPiece_0 1 rfl rfl)
theorem dX3_hasPiece_2 : decode cX3_hasPiece 2 = .ok (.iconst 0, 1) := dk_3 (dk_at dksX3_hasPiece_0 2 rfl rfl)
theorem dX3_hasPiece_3 : decode cX3_hasPiece 3 = .ok (.bipush 23, 2) := dk_16 23 (dk_at dksX3_hasPiece_0 3 rfl rfl)
theorem dX3_hasPiece_5 : decode cX3_hasPiece 5 = .ok (.invokestatic 148, 3) := dk_184 0 148 (dk_at dksX3_hasPiece_0 5 rfl rfl)
theorem dX3_hasPiece_8 : decode cX3_hasPiece 8 = .ok (.ifCond .ne 7, 3) := dk_154 0 7 (dk_at dksX3_hasPiece_0 8 rfl rfl)
theorem dX3_hasPiece_11 : decode cX3_hasPiece 11 = .ok (.iconst 1, 1) := dk_4 (dk_at dksX3_hasPiece_0 11 rfl rfl)
theorem dX3_hasPiece_12 : decode cX3_hasPiece 12 = .ok (.goto 16, 3) := dk_167 0 16 (dk_at dksX3_hasPiece_0 12 rfl rfl)
theorem dX3_hasPiece_15 : decode cX3_hasPiece 15 = .ok (.aload_n 0, 1) := dk_42 (dk_at dksX3_hasPiece_0 15 rfl rfl)
theorem dX3_hasPiece_16 : decode cX3_hasPiece 16 = .ok (.iload_n 1, 1) := dk_27 (dk_at dksX3_hasPiece_0 16 rfl rfl)
theorem dX3_hasPiece_17 : decode cX3_hasPiece 17 = .ok (.invokevirtual 62, 3) := dk_182 0 62 (dk_at dksX3_hasPiece_0 17 rfl rfl)
theorem dX3_hasPiece_20 : decode cX3_hasPiece 20 = .ok (.ifCond .eq 7, 3) := dk_153 0 7 (dk_at dksX3_hasPiece_0 20 rfl rfl)
theorem dX3_hasPiece_23 : decode cX3_hasPiece 23 = .ok (.iconst 0, 1) := dk_3 (dk_at dksX3_hasPiece_0 23 rfl rfl)
theorem dX3_hasPiece_24 : decode cX3_hasPiece 24 = .ok (.goto 4, 3) := dk_167 0 4 (dk_at dksX3_hasPiece_1 0 rfl rfl)
theorem dX3_hasPiece_27 : decode cX3_hasPiece 27 = .ok (.iconst 2, 1) := dk_5 (dk_at dksX3_hasPiece_1 3 rfl rfl)
theorem dX3_hasPiece_28 : decode cX3_hasPiece 28 = .ok (.putfield 54, 3) := dk_181 0 54 (dk_at dksX3_hasPiece_1 4 rfl rfl)
theorem dX3_hasPiece_31 : decode cX3_hasPiece 31 = .ok (.aload_n 0, 1) := dk_42 (dk_at dksX3_hasPiece_1 7 rfl rfl)
theorem dX3_hasPiece_32 : decode cX3_hasPiece 32 = .ok (.getfield 54, 3) := dk_180 0 54 (dk_at dksX3_hasPiece_1 8 rfl rfl)
theorem dX3_hasPiece_35 : decode cX3_hasPiece 35 = .ok (.ifCond .ne 7, 3) := dk_154 0 7 (dk_at dksX3_hasPiece_1 11 rfl rfl)
theorem dX3_hasPiece_38 : decode cX3_hasPiece 38 = .ok (.iconst 1, 1) := dk_4 (dk_at dksX3_hasPiece_1 14 rfl rfl)
theorem dX3_hasPiece_39 : decode cX3_hasPiece 39 = .ok (.goto 4, 3) := dk_167 0 4 (dk_at dksX3_hasPiece_1 15 rfl rfl)
theorem dX3_hasPiece_42 : decode cX3_hasPiece 42 = .ok (.iconst 0, 1) := dk_3 (dk_at dksX3_hasPiece_1 18 rfl rfl)
theorem dX3_hasPiece_43 : decode cX3_hasPiece 43 = .ok (.ireturn, 1) := dk_172 (dk_at dksX3_hasPiece_1 19 rfl rfl)
abbrev cX3_stressAt : ByteArray := prog_22_method_73_code
def yX3_stressAt : MethodName := ⟨RX3, "stressAt", "(I)F"⟩
def dkwX3_stressAt_0 : List UInt8 := [42, 27, 182, 0, 200, 153, 0, 12, 42, 180, 0, 13, 27, 48, 167, 0, 4, 11, 174]
abbrev dktX3_stressAt_0 : List UInt8 := dkwX3_stressAt_0 ++ []
theorem dksX3_stressAt_0 : cX3_stressAt.data.toList.drop 0 = dktX3_stressAt_0 := by decide +kernel
theorem dX3_stressAt_0 : decode cX3_stressAt 0 = .ok (.aload_n 0, 1) := dk_42 (dk_at dksX3_stressAt_0 0 rfl rfl)
theorem dX3_stressAt_1 : decode cX3_stressAt 1 = .ok (.iload_n 1, 1) := dk_27 (dk_at dksX3_stressAt_0 1 rfl rfl)
theorem dX3_stressAt_2 : decode cX3_stressAt 2 = .ok (.invokevirtual 200, 3) := dk_182 0 200 (dk_at dksX3_stressAt_0 2 rfl rfl)
theorem dX3_stressAt_5 : decode cX3_stressAt 5 = .ok (.ifCond .eq 12, 3) := dk_153 0 12 (dk_at dksX3_stressAt_0 5 rfl rfl)
theorem dX3_stressAt_8 : decode cX3_stressAt 8 = .ok (.aload_n 0, 1) := dk_42 (dk_at dksX3_stressAt_0 8 rfl rfl)
theorem dX3_stressAt_9 : decode cX3_stressAt 9 = .ok (.getfield 13, 3) := dk_180 0 13 (dk_at dksX3_stressAt_0 9 rfl rfl)
theorem dX3_stressAt_12 : decode cX3_stressAt 12 = .ok (.iload_n 1, 1) := dk_27 (dk_at dksX3_stressAt_0 12 rfl rfl)
theorem dX3_stressAt_13 : decode cX3_stressAt 13 = .ok (.faload, 1) := dk_48 (dk_at dksX3_stressAt_0 13 rfl rfl)
theorem dX3_stressAt_14 : decode cX3_stressAt 14 = .ok (.goto 4, 3) := dk_167 0 4 (dk_at dksX3_stressAt_0 14 rfl rfl)
theorem dX3_stressAt_17 : decode cX3_stressAt 17 = .ok (.fconst 0, 1) := dk_11 (dk_at dksX3_stressAt_0 17 rfl rfl)
theorem dX3_stressAt_18 : decode cX3_stressAt 18 = .ok (.freturn, 1) := dk_174 (dk_at dksX3_stressAt_0 18 rfl rfl)
abbrev cX3_stressBitsAt : ByteArray := prog_22_method_74_code
def yX3_stressBitsAt : MethodName := ⟨RX3, "stressBitsAt", "(I)I"⟩
def dkwX3_stressBitsAt_0 : List UInt8 := [42, 27, 182, 0, 200, 153, 0, 15, 42, 180, 0, 13, 27, 48, 184, 0, 203, 167, 0, 4, 3, 172]
abbrev dktX3_stressBitsAt_0 : List UInt8 := dkwX3_stressBitsAt_0 ++ []
theorem dksX3_stressBitsAt_0 : cX3_stressBitsAt.data.toList.drop 0 = dktX3_stressBitsAt_0 := by decide +kernel
theorem dX3_stressBitsAt_0 : decode cX3_stressBitsAt 0 = .ok (.aload_n 0, 1) := dk_42 (dk_at dksX3_stressBitsAt_0 0 rfl rfl)
theorem dX3_stressBitsAt_1 : decode cX3_stressBitsAt 1 = .ok (.iload_n 1, 1) := dk_27 (dk_at dksX3_stressBitsAt_0 1 rfl rfl)
theorem dX3_stressBitsAt_2 : decode cX3_stressBitsAt 2 = .ok (.invokevirtual 200, 3) := dk_182 0 200 (dk_at dksX3_stressBitsAt_0 2 rfl rfl)
theorem dX3_stressBitsAt_5 : decode cX3_stressBitsAt 5 = .ok (.ifCond .eq 15, 3) := dk_153 0 15 (dk_at dksX3_stressBitsAt_0 5 rfl rfl)
theorem dX3_stressBitsAt_8 : decode cX3_stressBitsAt 8 = .ok (.aload_n 0, 1) := dk_42 (dk_at dksX3_stressBitsAt_0 8 rfl rfl)
theorem dX3_stressBitsAt_9 : decode cX3_stressBitsAt 9 = .ok (.getfield 13, 3) := dk_180 0 13 (dk_at dksX3_stressBitsAt_0 9 rfl rfl)
theorem dX3_stressBitsAt_12 : decode cX3_stressBitsAt 12 = .ok (.iload_n 1, 1) := dk_27 (dk_at dksX3_stressBitsAt_0 12 rfl rfl)
theorem dX3_stressBitsAt_13 : decode cX3_stressBitsAt 13 = .ok (.faload, 1) := dk_48 (dk_at dksX3_stressBitsAt_0 13 rfl rfl)
theorem dX3_stressBitsAt_14 : decode cX3_stressBitsAt 14 = .ok (.invokestatic 203, 3) := dk_184 0 203 (dk_at dksX3_stressBitsAt_0 14 rfl rfl)
theorem dX3_stressBitsAt_17 : decode cX3_stressBitsAt 17 = .ok (.goto 4, 3) := dk_167 0 4 (dk_at dksX3_stressBitsAt_0 17 rfl rfl)
theorem dX3_stressBitsAt_20 : decode cX3_stressBitsAt 20 = .ok (.iconst 0, 1) := dk_3 (dk_at dksX3_stressBitsAt_0 20 rfl rfl)
theorem dX3_stressBitsAt_21 : decode cX3_stressBitsAt 21 = .ok (.ireturn, 1) := dk_172 (dk_at dksX3_stressBitsAt_0 21 rfl rfl)
abbrev cX3_bitsOf : ByteArray := prog_22_method_77_code
def yX3_bitsOf : MethodName := ⟨RX3, "bitsOf", "(F)I"⟩
def dkwX3_bitsOf_6 : List UInt8 := [96, 54, 7, 132, 8, 1, 167, 255, 207, 21, 7, 172]
abbrev dktX3_bitsOf_6 : List UInt8 := dkwX3_bitsOf_6 ++ []
def dkwX3_bitsOf_5 : List UInt8 := [155, 0, 7, 4, 167, 0, 4, 3, 54, 9, 24, 5, 21, 9, 135, 103, 57, 5, 5, 21, 7, 104, 21, 9]
abbrev dktX3_bitsOf_5 : List UInt8 := dkwX3_bitsOf_5 ++ dktX3_bitsOf_6
def dkwX3_bitsOf_4 : List UInt8 := [54, 7, 3, 54, 8, 21, 8, 16, 23, 162, 0, 48, 24, 5, 20, 0, 207, 107, 57, 5, 24, 5, 15, 151]
abbrev dktX3_bitsOf_4 : List UInt8 := dkwX3_bitsOf_4 ++ dktX3_bitsOf_5
def dkwX3_bitsOf_3 : List UInt8 := [21, 4, 153, 0, 7, 39, 167, 0, 6, 39, 15, 103, 57, 5, 21, 4, 153, 0, 7, 3, 167, 0, 4, 29]
abbrev dktX3_bitsOf_3 : List UInt8 := dkwX3_bitsOf_3 ++ dktX3_bitsOf_4
def dkwX3_bitsOf_2 : List UInt8 := [20, 0, 207, 107, 72, 132, 3, 255, 167, 255, 236, 39, 15, 152, 156, 0, 7, 4, 167, 0, 4, 3, 54, 4]
abbrev dktX3_bitsOf_2 : List UInt8 := dkwX3_bitsOf_2 ++ dktX3_bitsOf_3
def dkwX3_bitsOf_1 : List UInt8 := [20, 0, 207, 111, 72, 132, 3, 1, 167, 255, 239, 39, 15, 152, 156, 0, 20, 29, 4, 164, 0, 15, 39]
abbrev dktX3_bitsOf_1 : List UInt8 := dkwX3_bitsOf_1 ++ dktX3_bitsOf_2
def dkwX3_bitsOf_0 : List UInt8 := [34, 11, 149, 154, 0, 5, 3, 172, 34, 141, 72, 16, 127, 62, 39, 20, 0, 207, 151, 155, 0, 15, 39]
abbrev dktX3_bitsOf_0 : List UInt8 := dkwX3_bitsOf_0 ++ dktX3_bitsOf_1
theorem dksX3_bitsOf_0 : cX3_bitsOf.data.toList.drop 0 = dktX3_bitsOf_0 := by decide +kernel
theorem dksX3_bitsOf_1 : cX3_bitsOf.data.toList.drop 23 = dktX3_bitsOf_1 := dk_seg dksX3_bitsOf_0 23 rfl rfl
theorem dksX3_bitsOf_2 : cX3_bitsOf.data.toList.drop 46 = dktX3_bitsOf_2 := dk_seg dksX3_bitsOf_1 23 rfl rfl
theorem dksX3_bitsOf_3 : cX3_bitsOf.data.toList.drop 70 = dktX3_bitsOf_3 := dk_seg dksX3_bitsOf_2 24 rfl rfl
theorem dksX3_bitsOf_4 : cX3_bitsOf.data.toList.drop 94 = dktX3_bitsOf_4 := dk_seg dksX3_bitsOf_3 24 rfl rfl
theorem dksX3_bitsOf_5 : cX3_bitsOf.data.toList.drop 118 = dktX3_bitsOf_5 := dk_seg dksX3_bitsOf_4 24 rfl rfl
theorem dksX3_bitsOf_6 : cX3_bitsOf.data.toList.drop 142 = dktX3_bitsOf_6 := dk_seg dksX3_bitsOf_5 24 rfl rfl
theorem dX3_bitsOf_0 : decode cX3_bitsOf 0 = .ok (.fload_n 0, 1) := dk_34 (dk_at dksX3_bitsOf_0 0 rfl rfl)
theorem dX3_bitsOf_1 : decode cX3_bitsOf 1 = .ok (.fconst 0, 1) := dk_11 (dk_at dksX3_bitsOf_0 1 rfl rfl)
theorem dX3_bitsOf_2 : decode cX3_bitsOf 2 = .ok (.fcmp .l, 1) := dk_149 (dk_at dksX3_bitsOf_0 2 rfl rfl)
theorem dX3_bitsOf_3 : decode cX3_bitsOf 3 = .ok (.ifCond .ne 5, 3) := dk_154 0 5 (dk_at dksX3_bitsOf_0 3 rfl rfl)
theorem dX3_bitsOf_6 : decode cX3_bitsOf 6 = .ok (.iconst 0, 1) := dk_3 (dk_at dksX3_bitsOf_0 6 rfl rfl)
theorem dX3_bitsOf_7 : decode cX3_bitsOf 7 = .ok (.ireturn, 1) := dk_172 (dk_at dksX3_bitsOf_0 7 rfl rfl)
theorem dX3_bitsOf_8 : decode cX3_bitsOf 8 = .ok (.fload_n 0, 1) := dk_34 (dk_at dksX3_bitsOf_0 8 rfl rfl)
theorem dX3_bitsOf_9 : decode cX3_bitsOf 9 = .ok (.f2d, 1) := dk_141 (dk_at dksX3_bitsOf_0 9 rfl rfl)
theorem dX3_bitsOf_10 : decode cX3_bitsOf 10 = .ok (.dstore_n 1, 1) := dk_72 (dk_at dksX3_bitsOf_0 10 rfl rfl)
theorem dX3_bitsOf_11 : decode cX3_bitsOf 11 = .ok (.bipush 127, 2) := dk_16 127 (dk_at dksX3_bitsOf_0 11 rfl rfl)
theorem dX3_bitsOf_13 : decode cX3_bitsOf 13 = .ok (.istore_n 3, 1) := dk_62 (dk_at dksX3_bitsOf_0 13 rfl rfl)
theorem dX3_bitsOf_14 : decode cX3_bitsOf 14 = .ok (.dload_n 1, 1) := dk_39 (dk_at dksX3_bitsOf_0 14 rfl rfl)
theorem dX3_bitsOf_15 : decode cX3_bitsOf 15 = .ok (.ldc2_w 207, 3) := dk_20 0 207 (dk_at dksX3_bitsOf_0 15 rfl rfl)
theorem dX3_bitsOf_18 : decode cX3_bitsOf 18 = .ok (.dcmp .l, 1) := dk_151 (dk_at dksX3_bitsOf_0 18 rfl rfl)
theorem dX3_bitsOf_19 : decode cX3_bitsOf 19 = .ok (.ifCond .lt 15, 3) := dk_155 0 15 (dk_at dksX3_bitsOf_0 19 rfl rfl)
theorem dX3_bitsOf_22 : decode cX3_bitsOf 22 = .ok (.dload_n 1, 1) := dk_39 (dk_at dksX3_bitsOf_0 22 rfl rfl)
theorem dX3_bitsOf_23 : decode cX3_bitsOf 23 = .ok (.ldc2_w 207, 3) := dk_20 0 207 (dk_at dksX3_bitsOf_1 0 rfl rfl)
theorem dX3_bitsOf_26 : decode cX3_bitsOf 26 = .ok (.ddiv, 1) := dk_111 (dk_at dksX3_bitsOf_1 3 rfl rfl)
theorem dX3_bitsOf_27 : decode cX3_bitsOf 27 = .ok (.dstore_n 1, 1) := dk_72 (dk_at dksX3_bitsOf_1 4 rfl rfl)
theorem dX3_bitsOf_28 : decode cX3_bitsOf 28 = .ok (.iinc 3 1, 3) := dk_132 3 1 (dk_at dksX3_bitsOf_1 5 rfl rfl)
theorem dX3_bitsOf_31 : decode cX3_bitsOf 31 = .ok (.goto (-17), 3) := dk_167 255 239 (dk_at dksX3_bitsOf_1 8 rfl rfl)
theorem dX3_bitsOf_34 : decode cX3_bitsOf 34 = .ok (.dload_n 1, 1) := dk_39 (dk_at dksX3_bitsOf_1 11 rfl rfl)
theorem dX3_bitsOf_35 : decode cX3_bitsOf 35 = .ok (.dconst 1, 1) := dk_15 (dk_at dksX3_bitsOf_1 12 rfl rfl)
theorem dX3_bitsOf_36 : decode cX3_bitsOf 36 = .ok (.dcmp .g, 1) := dk_152 (dk_at dksX3_bitsOf_1 13 rfl rfl)
theorem dX3_bitsOf_37 : decode cX3_bitsOf 37 = .ok (.ifCond .ge 20, 3) := dk_156 0 20 (dk_at dksX3_bitsOf_1 14 rfl rfl)
theorem dX3_bitsOf_40 : decode cX3_bitsOf 40 = .ok (.iload_n 3, 1) := dk_29 (dk_at dksX3_bitsOf_1 17 rfl rfl)
theorem dX3_bitsOf_41 : decode cX3_bitsOf 41 = .ok (.iconst 1, 1) := dk_4 (dk_at dksX3_bitsOf_1 18 rfl rfl)
theorem dX3_bitsOf_42 : decode cX3_bitsOf 42 = .ok (.if_icmp .le 15, 3) := dk_164 0 15 (dk_at dksX3_bitsOf_1 19 rfl rfl)
theorem dX3_bitsOf_45 : decode cX3_bitsOf 45 = .ok (.dload_n 1, 1) := dk_39 (dk_at dksX3_bitsOf_1 22 rfl rfl)
theorem dX3_bitsOf_46 : decode cX3_bitsOf 46 = .ok (.ldc2_w 207, 3) := dk_20 0 207 (dk_at dksX3_bitsOf_2 0 rfl rfl)
theorem dX3_bitsOf_49 : decode cX3_bitsOf 49 = .ok (.dmul, 1) := dk_107 (dk_at dksX3_bitsOf_2 3 rfl rfl)
theorem dX3_bitsOf_50 : decode cX3_bitsOf 50 = .ok (.dstore_n 1, 1) := dk_72 (dk_at dksX3_bitsOf_2 4 rfl rfl)
theorem dX3_bitsOf_51 : decode cX3_bitsOf 51 = .ok (.iinc 3 (-1), 3) := dk_132 3 255 (dk_at dksX3_bitsOf_2 5 rfl rfl)
theorem dX3_bitsOf_54 : decode cX3_bitsOf 54 = .ok (.goto (-20), 3) := dk_167 255 236 (dk_at dksX3_bitsOf_2 8 rfl rfl)
theorem dX3_bitsOf_57 : decode cX3_bitsOf 57 = .ok (.dload_n 1, 1) := dk_39 (dk_at dksX3_bitsOf_2 11 rfl rfl)
theorem dX3_bitsOf_58 : decode cX3_bitsOf 58 = .ok (.dconst 1, 1) := dk_15 (dk_at dksX3_bitsOf_2 12 rfl rfl)
theorem dX3_bitsOf_59 : decode cX3_bitsOf 59 = .ok (.dcmp .g, 1) := dk_152 (dk_at dksX3_bitsOf_2 13 rfl rfl)
theorem dX3_bitsOf_60 : decode cX3_bitsOf 60 = .ok (.ifCond .ge 7, 3) := dk_156 0 7 (dk_at dksX3_bitsOf_2 14 rfl rfl)
theorem dX3_bitsOf_63 : decode cX3_bitsOf 63 = .ok (.iconst 1, 1) := dk_4 (dk_at dksX3_bitsOf_2 17 rfl rfl)
theorem dX3_bitsOf_64 : decode cX3_bitsOf 64 = .ok (.goto 4, 3) := dk_167 0 4 (dk_at dksX3_bitsOf_2 18 rfl rfl)
theorem dX3_bitsOf_67 : decode cX3_bitsOf 67 = .ok (.iconst 0, 1) := dk_3 (dk_at dksX3_bitsOf_2 21 rfl rfl)
theorem dX3_bitsOf_68 : decode cX3_bitsOf 68 = .ok (.istore 4, 2) := dk_54 4 (dk_at dksX3_bitsOf_2 22 rfl rfl)
theorem dX3_bitsOf_70 : decode cX3_bitsOf 70 = .ok (.iload 4, 2) := dk_21 4 (dk_at dksX3_bitsOf_3 0 rfl rfl)
theorem dX3_bitsOf_72 : decode cX3_bitsOf 72 = .ok (.ifCond .eq 7, 3) := dk_153 0 7 (dk_at dksX3_bitsOf_3 2 rfl rfl)
theorem dX3_bitsOf_75 : decode cX3_bitsOf 75 = .ok (.dload_n 1, 1) := dk_39 (dk_at dksX3_bitsOf_3 5 rfl rfl)
theorem dX3_bitsOf_76 : decode cX3_bitsOf 76 = .ok (.goto 6, 3) := dk_167 0 6 (dk_at dksX3_bitsOf_3 6 rfl rfl)
theorem dX3_bitsOf_79 : decode cX3_bitsOf 79 = .ok (.dload_n 1, 1) := dk_39 (dk_at dksX3_bitsOf_3 9 rfl rfl)
theorem dX3_bitsOf_80 : decode cX3_bitsOf 80 = .ok (.dconst 1, 1) := dk_15 (dk_at dksX3_bitsOf_3 10 rfl rfl)
theorem dX3_bitsOf_81 : decode cX3_bitsOf 81 = .ok (.dsub, 1) := dk_103 (dk_at dksX3_bitsOf_3 11 rfl rfl)
theorem dX3_bitsOf_82 : decode cX3_bitsOf 82 = .ok (.dstore 5, 2) := dk_57 5 (dk_at dksX3_bitsOf_3 12 rfl rfl)
theorem dX3_bitsOf_84 : decode cX3_bitsOf 84 = .ok (.iload 4, 2) := dk_21 4 (dk_at dksX3_bitsOf_3 14 rfl rfl)
theorem dX3_bitsOf_86 : decode cX3_bitsOf 86 = .ok (.ifCond .eq 7, 3) := dk_153 0 7 (dk_at dksX3_bitsOf_3 16 rfl rfl)
theorem dX3_bitsOf_89 : decode cX3_bitsOf 89 = .ok (.iconst 0, 1) := dk_3 (dk_at dksX3_bitsOf_3 19 rfl rfl)
theorem dX3_bitsOf_90 : decode cX3_bitsOf 90 = .ok (.goto 4, 3) := dk_167 0 4 (dk_at dksX3_bitsOf_3 20 rfl rfl)
theorem dX3_bitsOf_93 : decode cX3_bitsOf 93 = .ok (.iload_n 3, 1) := dk_29 (dk_at dksX3_bitsOf_3 23 rfl rfl)
theorem dX3_bitsOf_94 : decode cX3_bitsOf 94 = .ok (.istore 7, 2) := dk_54 7 (dk_at dksX3_bitsOf_4 0 rfl rfl)
theorem dX3_bitsOf_96 : decode cX3_bitsOf 96 = .ok (.iconst 0, 1) := dk_3 (dk_at dksX3_bitsOf_4 2 rfl rfl)
theorem dX3_bitsOf_97 : decode cX3_bitsOf 97 = .ok (.istore 8, 2) := dk_54 8 (dk_at dksX3_bitsOf_4 3 rfl rfl)
theorem dX3_bitsOf_99 : decode cX3_bitsOf 99 = .ok (.iload 8, 2) := dk_21 8 (dk_at dksX3_bitsOf_4 5 rfl rfl)
theorem dX3_bitsOf_101 : decode cX3_bitsOf 101 = .ok (.bipush 23, 2) := dk_16 23 (dk_at dksX3_bitsOf_4 7 rfl rfl)
theorem dX3_bitsOf_103 : decode cX3_bitsOf 103 = .ok (.if_icmp .ge 48, 3) := dk_162 0 48 (dk_at dksX3_bitsOf_4 9 rfl rfl)
theorem dX3_bitsOf_106 : decode cX3_bitsOf 106 = .ok (.dload 5, 2) := dk_24 5 (dk_at dksX3_bitsOf_4 12 rfl rfl)
theorem dX3_bitsOf_108 : decode cX3_bitsOf 108 = .ok (.ldc2_w 207, 3) := dk_20 0 207 (dk_at dksX3_bitsOf_4 14 rfl rfl)
theorem dX3_bitsOf_111 : decode cX3_bitsOf 111 = .ok (.dmul, 1) := dk_107 (dk_at dksX3_bitsOf_4 17 rfl rfl)
theorem dX3_bitsOf_112 : decode cX3_bitsOf 112 = .ok (.dstore 5, 2) := dk_57 5 (dk_at dksX3_bitsOf_4 18 rfl rfl)
theorem dX3_bitsOf_114 : decode cX3_bitsOf 114 = .ok (.dload 5, 2) := dk_24 5 (dk_at dksX3_bitsOf_4 20 rfl rfl)
theorem dX3_bitsOf_116 : decode cX3_bitsOf 116 = .ok (.dconst 1, 1) := dk_15 (dk_at dksX3_bitsOf_4 22 rfl rfl)
theorem dX3_bitsOf_117 : decode cX3_bitsOf 117 = .ok (.dcmp .l, 1) := dk_151 (dk_at dksX3_bitsOf_4 23 rfl rfl)
theorem dX3_bitsOf_118 : decode cX3_bitsOf 118 = .ok (.ifCond .lt 7, 3) := dk_155 0 7 (dk_at dksX3_bitsOf_5 0 rfl rfl)
theorem dX3_bitsOf_121 : decode cX3_bitsOf 121 = .ok (.iconst 1, 1) := dk_4 (dk_at dksX3_bitsOf_5 3 rfl rfl)
theorem dX3_bitsOf_122 : decode cX3_bitsOf 122 = .ok (.goto 4, 3) := dk_167 0 4 (dk_at dksX3_bitsOf_5 4 rfl rfl)
theorem dX3_bitsOf_125 : decode cX3_bitsOf 125 = .ok (.iconst 0, 1) := dk_3 (dk_at dksX3_bitsOf_5 7 rfl rfl)
theorem dX3_bitsOf_126 : decode cX3_bitsOf 126 = .ok (.istore 9, 2) := dk_54 9 (dk_at dksX3_bitsOf_5 8 rfl rfl)
theorem dX3_bitsOf_128 : decode cX3_bitsOf 128 = .ok (.dload 5, 2) := dk_24 5 (dk_at dksX3_bitsOf_5 10 rfl rfl)
theorem dX3_bitsOf_130 : decode cX3_bitsOf 130 = .ok (.iload 9, 2) := dk_21 9 (dk_at dksX3_bitsOf_5 12 rfl rfl)
theorem dX3_bitsOf_132 : decode cX3_bitsOf 132 = .ok (.i2d, 1) := dk_135 (dk_at dksX3_bitsOf_5 14 rfl rfl)
theorem dX3_bitsOf_133 : decode cX3_bitsOf 133 = .ok (.dsub, 1) := dk_103 (dk_at dksX3_bitsOf_5 15 rfl rfl)
theorem dX3_bitsOf_134 : decode cX3_bitsOf 134 = .ok (.dstore 5, 2) := dk_57 5 (dk_at dksX3_bitsOf_5 16 rfl rfl)
theorem dX3_bitsOf_136 : decode cX3_bitsOf 136 = .ok (.iconst 2, 1) := dk_5 (dk_at dksX3_bitsOf_5 18 rfl rfl)
theorem dX3_bitsOf_137 : decode cX3_bitsOf 137 = .ok (.iload 7, 2) := dk_21 7 (dk_at dksX3_bitsOf_5 19 rfl rfl)
theorem dX3_bitsOf_139 : decode cX3_bitsOf 139 = .ok (.imul, 1) := dk_104 (dk_at dksX3_bitsOf_5 21 rfl rfl)
theorem dX3_bitsOf_140 : decode cX3_bitsOf 140 = .ok (.iload 9, 2) := dk_21 9 (dk_at dksX3_bitsOf_5 22 rfl rfl)
theorem dX3_bitsOf_142 : decode cX3_bitsOf 142 = .ok (.iadd, 1) := dk_96 (dk_at dksX3_bitsOf_6 0 rfl rfl)
theorem dX3_bitsOf_143 : decode cX3_bitsOf 143 = .ok (.istore 7, 2) := dk_54 7 (dk_at dksX3_bitsOf_6 1 rfl rfl)
theorem dX3_bitsOf_145 : decode cX3_bitsOf 145 = .ok (.iinc 8 1, 3) := dk_132 8 1 (dk_at dksX3_bitsOf_6 3 rfl rfl)
theorem dX3_bitsOf_148 : decode cX3_bitsOf 148 = .ok (.goto (-49), 3) := dk_167 255 207 (dk_at dksX3_bitsOf_6 6 rfl rfl)
theorem dX3_bitsOf_151 : decode cX3_bitsOf 151 = .ok (.iload 7, 2) := dk_21 7 (dk_at dksX3_bitsOf_6 9 rfl rfl)
theorem dX3_bitsOf_153 : decode cX3_bitsOf 153 = .ok (.ireturn, 1) := dk_172 (dk_at dksX3_bitsOf_6 11 rfl rfl)
abbrev cX3_minutesAt : ByteArray := prog_22_method_75_code
def yX3_minutesAt : MethodName := ⟨RX3, "minutesAt", "(I)I"⟩
def dkwX3_minutesAt_0 : List UInt8 := [42, 27, 182, 0, 200, 153, 0, 12, 42, 27, 6, 182, 0, 58, 167, 0, 4, 3, 172]
abbrev dktX3_minutesAt_0 : List UInt8 := dkwX3_minutesAt_0 ++ []
theorem dksX3_minutesAt_0 : cX3_minutesAt.data.toList.drop 0 = dktX3_minutesAt_0 := by decide +kernel
theorem dX3_minutesAt_0 : decode cX3_minutesAt 0 = .ok (.aload_n 0, 1) := dk_42 (dk_at dksX3_minutesAt_0 0 rfl rfl)
theorem dX3_minutesAt_1 : decode cX3_minutesAt 1 = .ok (.iload_n 1, 1) := dk_27 (dk_at dksX3_minutesAt_0 1 rfl rfl)
theorem dX3_minutesAt_2 : decode cX3_minutesAt 2 = .ok (.invokevirtual 200, 3) := dk_182 0 200 (dk_at dksX3_minutesAt_0 2 rfl rfl)
theorem dX3_minutesAt_5 : decode cX3_minutesAt 5 = .ok (.ifCond .eq 12, 3) := dk_153 0 12 (dk_at dksX3_minutesAt_0 5 rfl rfl)
theorem dX3_minutesAt_8 : decode cX3_minutesAt 8 = .ok (.aload_n 0, 1) := dk_42 (dk_at dksX3_minutesAt_0 8 rfl rfl)
theorem dX3_minutesAt_9 : decode cX3_minutesAt 9 = .ok (.iload_n 1, 1) := dk_27 (dk_at dksX3_minutesAt_0 9 rfl rfl)
theorem dX3_minutesAt_10 : decode cX3_minutesAt 10 = .ok (.iconst 3, 1) := dk_6 (dk_at dksX3_minutesAt_0 10 rfl rfl)
theorem dX3_minutesAt_11 : decode cX3_minutesAt 11 = .ok (.invokevirtual 58, 3) := dk_182 0 58 (dk_at dksX3_minutesAt_0 11 rfl rfl)
theorem dX3_minutesAt_14 : decode cX3_minutesAt 14 = .ok (.goto 4, 3) := dk_167 0 4 (dk_at dksX3_minutesAt_0 14 rfl rfl)
theorem dX3_minutesAt_17 : decode cX3_minutesAt 17 = .ok (.iconst 0, 1) := dk_3 (dk_at dksX3_minutesAt_0 17 rfl rfl)
theorem dX3_minutesAt_18 : decode cX3_minutesAt 18 = .ok (.ireturn, 1) := dk_172 (dk_at dksX3_minutesAt_0 18 rfl rfl)
abbrev cX3_hasShards : ByteArray := prog_22_method_76_code
def yX3_hasShards : MethodName := ⟨RX3, "hasShards", "(I)Z"⟩
def dkwX3_hasShards_0 : List UInt8 := [42, 27, 182, 0, 197, 153, 0, 17, 42, 27, 7, 182, 0, 58, 4, 160, 0, 7, 4, 167, 0, 4, 3, 172]
abbrev dktX3_hasShards_0 : List UInt8 := dkwX3_hasShards_0 ++ []
theorem dksX3_hasShards_0 : cX3_hasShards.data.toList.drop 0 = dktX3_hasShards_0 := by decide +kernel
theorem dX3_hasShards_0 : decode cX3_hasShards 0 = .ok (.aload_n 0, 1) := dk_42 (dk_at dksX3_hasShards_0 0 rfl rfl)
theorem dX3_hasShards_1 : decode cX3_hasShards 1 = .ok (.iload_n 1, 1) := dk_27 (dk_at dksX3_hasShards_0 1 rfl rfl)
theorem dX3_hasShards_2 : decode cX3_hasShards 2 = .ok (.invokevirtual 197, 3) := dk_182 0 197 (dk_at dksX3_hasShards_0 2 rfl rfl)
theorem dX3_hasShards_5 : decode cX3_hasShards 5 = .ok (.ifCond .eq 17, 3) := dk_153 0 17 (dk_at dksX3_hasShards_0 5 rfl rfl)
theorem dX3_hasShards_8 : decode cX3_hasShards 8 = .ok (.aload_n 0, 1) := dk_42 (dk_at dksX3_hasShards_0 8 rfl rfl)
theorem dX3_hasShards_9 : decode cX3_hasShards 9 = .ok (.iload_n 1, 1) := dk_27 (dk_at dksX3_hasShards_0 9 rfl rfl)
theorem dX3_hasShards_10 : decode cX3_hasShards 10 = .ok (.iconst 4, 1) := dk_7 (dk_at dksX3_hasShards_0 10 rfl rfl)
theorem dX3_hasShards_11 : decode cX3_hasShards 11 = .ok (.invokevirtual 58, 3) := dk_182 0 58 (dk_at dksX3_hasShards_0 11 rfl rfl)
theorem dX3_hasShards_14 : decode cX3_hasShards 14 = .ok (.iconst 1, 1) := dk_4 (dk_at dksX3_hasShards_0 14 rfl rfl)
theorem dX3_hasShards_15 : decode cX3_hasShards 15 = .ok (.if_icmp .ne 7, 3) := dk_160 0 7 (dk_at dksX3_hasShards_0 15 rfl rfl)
theorem dX3_hasShards_18 : decode cX3_hasShards 18 = .ok (.iconst 1, 1) := dk_4 (dk_at dksX3_hasShards_0 18 rfl rfl)
theorem dX3_hasShards_19 : decode cX3_hasShards 19 = .ok (.goto 4, 3) := dk_167 0 4 (dk_at dksX3_hasShards_0 19 rfl rfl)
theorem dX3_hasShards_22 : decode cX3_hasShards 22 = .ok (.iconst 0, 1) := dk_3 (dk_at dksX3_hasShards_0 22 rfl rfl)
theorem dX3_hasShards_23 : decode cX3_hasShards 23 = .ok (.ireturn, 1) := dk_172 (dk_at dksX3_hasShards_0 23 rfl rfl)
abbrev cX3_whyNotMoving : ByteArray := prog_22_method_79_code
def yX3_whyNotMoving : MethodName := ⟨RX3, "whyNotMoving", "(I)I"⟩
def dkwX3_whyNotMoving_0 : List UInt8 := [42, 27, 182, 0, 197, 154, 0, 5, 3, 172, 42, 182, 0, 209, 42, 180, 0, 44, 27, 46, 172]
abbrev dktX3_whyNotMoving_0 : List UInt8 := dkwX3_whyNotMoving_0 ++ []
theorem dksX3_whyNotMoving_0 : cX3_whyNotMoving.data.toList.drop 0 = dktX3_whyNotMoving_0 := by decide +kernel
theorem dX3_whyNotMoving_0 : decode cX3_whyNotMoving 0 = .ok (.aload_n 0, 1) := dk_42 (dk_at dksX3_whyNotMoving_0 0 rfl rfl)
theorem dX3_whyNotMoving_1 : decode cX3_whyNotMoving 1 = .ok (.iload_n 1, 1) := dk_27 (dk_at dksX3_whyNotMoving_0 1 rfl rfl)
theorem dX3_whyNotMoving_2 : decode cX3_whyNotMoving 2 = .ok (.invokevirtual 197, 3) := dk_182 0 197 (dk_at dksX3_whyNotMoving_0 2 rfl rfl)
theorem dX3_whyNotMoving_5 : decode cX3_whyNotMoving 5 = .ok (.ifCond .ne 5, 3) := dk_154 0 5 (dk_at dksX3_whyNotMoving_0 5 rfl rfl)
theorem dX3_whyNotMoving_8 : decode cX3_whyNotMoving 8 = .ok (.iconst 0, 1) := dk_3 (dk_at dksX3_whyNotMoving_0 8 rfl rfl)
theorem dX3_whyNotMoving_9 : decode cX3_whyNotMoving 9 = .ok (.ireturn, 1) := dk_172 (dk_at dksX3_whyNotMoving_0 9 rfl rfl)
theorem dX3_whyNotMoving_10 : decode cX3_whyNotMoving 10 = .ok (.aload_n 0, 1) := dk_42 (dk_at dksX3_whyNotMoving_0 10 rfl rfl)
theorem dX3_whyNotMoving_11 : decode cX3_whyNotMoving 11 = .ok (.invokevirtual 209, 3) := dk_182 0 209 (dk_at dksX3_whyNotMoving_0 11 rfl rfl)
theorem dX3_whyNotMoving_14 : decode cX3_whyNotMoving 14 = .ok (.aload_n 0, 1) := dk_42 (dk_at dksX3_whyNotMoving_0 14 rfl rfl)
theorem dX3_whyNotMoving_15 : decode cX3_whyNotMoving 15 = .ok (.getfield 44, 3) := dk_180 0 44 (dk_at dksX3_whyNotMoving_0 15 rfl rfl)
theorem dX3_whyNotMoving_18 : decode cX3_whyNotMoving 18 = .ok (.iload_n 1, 1) := dk_27 (dk_at dksX3_whyNotMoving_0 18 rfl rfl)
theorem dX3_whyNotMoving_19 : decode cX3_whyNotMoving 19 = .ok (.iaload, 1) := dk_46 (dk_at dksX3_whyNotMoving_0 19 rfl rfl)
theorem dX3_whyNotMoving_20 : decode cX3_whyNotMoving 20 = .ok (.ireturn, 1) := dk_172 (dk_at dksX3_whyNotMoving_0 20 rfl rfl)
abbrev cX3_asksWhy : ByteArray := prog_22_method_78_code
def yX3_asksWhy : MethodName := ⟨RX3, "asksWhy", "()V"⟩
def dkwX3_asksWhy_5 : List UInt8 := [167, 0, 4, 3, 79, 132, 1, 255, 167, 255, 132, 177]
abbrev dktX3_asksWhy_5 : List UInt8 := dkwX3_asksWhy_5 ++ []
def dkwX3_asksWhy_4 : List UInt8 := [29, 46, 154, 0, 7, 3, 167, 0, 22, 7, 167, 0, 18, 42, 29, 7, 182, 0, 58, 4, 160, 0, 7, 8]
abbrev dktX3_asksWhy_4 : List UInt8 := dkwX3_asksWhy_4 ++ dktX3_asksWhy_5
def dkwX3_asksWhy_3 : List UInt8 := [167, 0, 52, 21, 4, 153, 0, 7, 3, 167, 0, 43, 42, 29, 182, 0, 62, 153, 0, 20, 42, 180, 0, 44]
abbrev dktX3_asksWhy_3 : List UInt8 := dkwX3_asksWhy_3 ++ dktX3_asksWhy_4
def dkwX3_asksWhy_2 : List UInt8 := [167, 0, 76, 28, 154, 0, 7, 5, 167, 0, 68, 42, 27, 6, 182, 0, 58, 4, 96, 28, 162, 0, 7, 6]
abbrev dktX3_asksWhy_2 : List UInt8 := dkwX3_asksWhy_2 ++ dktX3_asksWhy_3
def dkwX3_asksWhy_1 : List UInt8 := [160, 0, 7, 4, 167, 0, 4, 3, 54, 4, 42, 180, 0, 44, 27, 42, 27, 182, 0, 62, 154, 0, 7, 4]
abbrev dktX3_asksWhy_1 : List UInt8 := dkwX3_asksWhy_1 ++ dktX3_asksWhy_2
def dkwX3_asksWhy_0 : List UInt8 := [16, 23, 60, 27, 155, 0, 126, 42, 27, 6, 108, 5, 182, 0, 72, 61, 27, 4, 96, 62, 29, 16, 24]
abbrev dktX3_asksWhy_0 : List UInt8 := dkwX3_asksWhy_0 ++ dktX3_asksWhy_1
theorem dksX3_asksWhy_0 : cX3_asksWhy.data.toList.drop 0 = dktX3_asksWhy_0 := by decide +kernel
theorem dksX3_asksWhy_1 : cX3_asksWhy.data.toList.drop 23 = dktX3_asksWhy_1 := dk_seg dksX3_asksWhy_0 23 rfl rfl
theorem dksX3_asksWhy_2 : cX3_asksWhy.data.toList.drop 47 = dktX3_asksWhy_2 := dk_seg dksX3_asksWhy_1 24 rfl rfl
theorem dksX3_asksWhy_3 : cX3_asksWhy.data.toList.drop 71 = dktX3_asksWhy_3 := dk_seg dksX3_asksWhy_2 24 rfl rfl
theorem dksX3_asksWhy_4 : cX3_asksWhy.data.toList.drop 95 = dktX3_asksWhy_4 := dk_seg dksX3_asksWhy_3 24 rfl rfl
theorem dksX3_asksWhy_5 : cX3_asksWhy.data.toList.drop 119 = dktX3_asksWhy_5 := dk_seg dksX3_asksWhy_4 24 rfl rfl
theorem dX3_asksWhy_0 : decode cX3_asksWhy 0 = .ok (.bipush 23, 2) := dk_16 23 (dk_at dksX3_asksWhy_0 0 rfl rfl)
theorem dX3_asksWhy_2 : decode cX3_asksWhy 2 = .ok (.istore_n 1, 1) := dk_60 (dk_at dksX3_asksWhy_0 2 rfl rfl)
theorem dX3_asksWhy_3 : decode cX3_asksWhy 3 = .ok (.iload_n 1, 1) := dk_27 (dk_at dksX3_asksWhy_0 3 rfl rfl)
theorem dX3_asksWhy_4 : decode cX3_asksWhy 4 = .ok (.ifCond .lt 126, 3) := dk_155 0 126 (dk_at dksX3_asksWhy_0 4 rfl rfl)
theorem dX3_asksWhy_7 : decode cX3_asksWhy 7 = .ok (.aload_n 0, 1) := dk_42 (dk_at dksX3_asksWhy_0 7 rfl rfl)
theorem dX3_asksWhy_8 : decode cX3_asksWhy 8 = .ok (.iload_n 1, 1) := dk_27 (dk_at dksX3_asksWhy_0 8 rfl rfl)
theorem dX3_asksWhy_9 : decode cX3_asksWhy 9 = .ok (.iconst 3, 1) := dk_6 (dk_at dksX3_asksWhy_0 9 rfl rfl)
theorem dX3_asksWhy_10 : decode cX3_asksWhy 10 = .ok (.idiv, 1) := dk_108 (dk_at dksX3_asksWhy_0 10 rfl rfl)
theorem dX3_asksWhy_11 : decode cX3_asksWhy 11 = .ok (.iconst 2, 1) := dk_5 (dk_at dksX3_asksWhy_0 11 rfl rfl)
theorem dX3_asksWhy_12 : decode cX3_asksWhy 12 = .ok (.invokevirtual 72, 3) := dk_182 0 72 (dk_at dksX3_asksWhy_0 12 rfl rfl)
theorem dX3_asksWhy_15 : decode cX3_asksWhy 15 = .ok (.istore_n 2, 1) := dk_61 (dk_at dksX3_asksWhy_0 15 rfl rfl)
theorem dX3_asksWhy_16 : decode cX3_asksWhy 16 = .ok (.iload_n 1, 1) := dk_27 (dk_at dksX3_asksWhy_0 16 rfl rfl)
theorem dX3_asksWhy_17 : decode cX3_asksWhy 17 = .ok (.iconst 1, 1) := dk_4 (dk_at dksX3_asksWhy_0 17 rfl rfl)
theorem dX3_asksWhy_18 : decode cX3_asksWhy 18 = .ok (.iadd, 1) := dk_96 (dk_at dksX3_asksWhy_0 18 rfl rfl)
theorem dX3_asksWhy_19 : decode cX3_asksWhy 19 = .ok (.istore_n 3, 1) := dk_62 (dk_at dksX3_asksWhy_0 19 rfl rfl)
theorem dX3_asksWhy_20 : decode cX3_asksWhy 20 = .ok (.iload_n 3, 1) := dk_29 (dk_at dksX3_asksWhy_0 20 rfl rfl)
theorem dX3_asksWhy_21 : decode cX3_asksWhy 21 = .ok (.bipush 24, 2) := dk_16 24 (dk_at dksX3_asksWhy_0 21 rfl rfl)
theorem dX3_asksWhy_23 : decode cX3_asksWhy 23 = .ok (.if_icmp .ne 7, 3) := dk_160 0 7 (dk_at dksX3_asksWhy_1 0 rfl rfl)
theorem dX3_asksWhy_26 : decode cX3_asksWhy 26 = .ok (.iconst 1, 1) := dk_4 (dk_at dksX3_asksWhy_1 3 rfl rfl)
theorem dX3_asksWhy_27 : decode cX3_asksWhy 27 = .ok (.goto 4, 3) := dk_167 0 4 (dk_at dksX3_asksWhy_1 4 rfl rfl)
theorem dX3_asksWhy_30 : decode cX3_asksWhy 30 = .ok (.iconst 0, 1) := dk_3 (dk_at dksX3_asksWhy_1 7 rfl rfl)
theorem dX3_asksWhy_31 : decode cX3_asksWhy 31 = .ok (.istore 4, 2) := dk_54 4 (dk_at dksX3_asksWhy_1 8 rfl rfl)
theorem dX3_asksWhy_33 : decode cX3_asksWhy 33 = .ok (.aload_n 0, 1) := dk_42 (dk_at dksX3_asksWhy_1 10 rfl rfl)
theorem dX3_asksWhy_34 : decode cX3_asksWhy 34 = .ok (.getfield 44, 3) := dk_180 0 44 (dk_at dksX3_asksWhy_1 11 rfl rfl)
theorem dX3_asksWhy_37 : decode cX3_asksWhy 37 = .ok (.iload_n 1, 1) := dk_27 (dk_at dksX3_asksWhy_1 14 rfl rfl)
theorem dX3_asksWhy_38 : decode cX3_asksWhy 38 = .ok (.aload_n 0, 1) := dk_42 (dk_at dksX3_asksWhy_1 15 rfl rfl)
theorem dX3_asksWhy_39 : decode cX3_asksWhy 39 = .ok (.iload_n 1, 1) := dk_27 (dk_at dksX3_asksWhy_1 16 rfl rfl)
theorem dX3_asksWhy_40 : decode cX3_asksWhy 40 = .ok (.invokevirtual 62, 3) := dk_182 0 62 (dk_at dksX3_asksWhy_1 17 rfl rfl)
theorem dX3_asksWhy_43 : decode cX3_asksWhy 43 = .ok (.ifCond .ne 7, 3) := dk_154 0 7 (dk_at dksX3_asksWhy_1 20 rfl rfl)
theorem dX3_asksWhy_46 : decode cX3_asksWhy 46 = .ok (.iconst 1, 1) := dk_4 (dk_at dksX3_asksWhy_1 23 rfl rfl)
theorem dX3_asksWhy_47 : decode cX3_asksWhy 47 = .ok (.goto 76, 3) := dk_167 0 76 (dk_at dksX3_asksWhy_2 0 rfl rfl)
theorem dX3_asksWhy_50 : decode cX3_asksWhy 50 = .ok (.iload_n 2, 1) := dk_28 (dk_at dksX3_asksWhy_2 3 rfl rfl)
theorem dX3_asksWhy_51 : decode cX3_asksWhy 51 = .ok (.ifCond .ne 7, 3) := dk_154 0 7 (dk_at dksX3_asksWhy_2 4 rfl rfl)
theorem dX3_asksWhy_54 : decode cX3_asksWhy 54 = .ok (.iconst 2, 1) := dk_5 (dk_at dksX3_asksWhy_2 7 rfl rfl)
theorem dX3_asksWhy_55 : decode cX3_asksWhy 55 = .ok (.goto 68, 3) := dk_167 0 68 (dk_at dksX3_asksWhy_2 8 rfl rfl)
theorem dX3_asksWhy_58 : decode cX3_asksWhy 58 = .ok (.aload_n 0, 1) := dk_42 (dk_at dksX3_asksWhy_2 11 rfl rfl)
theorem dX3_asksWhy_59 : decode cX3_asksWhy 59 = .ok (.iload_n 1, 1) := dk_27 (dk_at dksX3_asksWhy_2 12 rfl rfl)
theorem dX3_asksWhy_60 : decode cX3_asksWhy 60 = .ok (.iconst 3, 1) := dk_6 (dk_at dksX3_asksWhy_2 13 rfl rfl)
theorem dX3_asksWhy_61 : decode cX3_asksWhy 61 = .ok (.invokevirtual 58, 3) := dk_182 0 58 (dk_at dksX3_asksWhy_2 14 rfl rfl)
theorem dX3_asksWhy_64 : decode cX3_asksWhy 64 = .ok (.iconst 1, 1) := dk_4 (dk_at dksX3_asksWhy_2 17 rfl rfl)
theorem dX3_asksWhy_65 : decode cX3_asksWhy 65 = .ok (.iadd, 1) := dk_96 (dk_at dksX3_asksWhy_2 18 rfl rfl)
theorem dX3_asksWhy_66 : decode cX3_asksWhy 66 = .ok (.iload_n 2, 1) := dk_28 (dk_at dksX3_asksWhy_2 19 rfl rfl)
theorem dX3_asksWhy_67 : decode cX3_asksWhy 67 = .ok (.if_icmp .ge 7, 3) := dk_162 0 7 (dk_at dksX3_asksWhy_2 20 rfl rfl)
theorem dX3_asksWhy_70 : decode cX3_asksWhy 70 = .ok (.iconst 3, 1) := dk_6 (dk_at dksX3_asksWhy_2 23 rfl rfl)
theorem dX3_asksWhy_71 : decode cX3_asksWhy 71 = .ok (.goto 52, 3) := dk_167 0 52 (dk_at dksX3_asksWhy_3 0 rfl rfl)
theorem dX3_asksWhy_74 : decode cX3_asksWhy 74 = .ok (.iload 4, 2) := dk_21 4 (dk_at dksX3_asksWhy_3 3 rfl rfl)
theorem dX3_asksWhy_76 : decode cX3_asksWhy 76 = .ok (.ifCond .eq 7, 3) := dk_153 0 7 (dk_at dksX3_asksWhy_3 5 rfl rfl)
theorem dX3_asksWhy_79 : decode cX3_asksWhy 79 = .ok (.iconst 0, 1) := dk_3 (dk_at dksX3_asksWhy_3 8 rfl rfl)
theorem dX3_asksWhy_80 : decode cX3_asksWhy 80 = .ok (.goto 43, 3) := dk_167 0 43 (dk_at dksX3_asksWhy_3 9 rfl rfl)
theorem dX3_asksWhy_83 : decode cX3_asksWhy 83 = .ok (.aload_n 0, 1) := dk_42 (dk_at dksX3_asksWhy_3 12 rfl rfl)
theorem dX3_asksWhy_84 : decode cX3_asksWhy 84 = .ok (.iload_n 3, 1) := dk_29 (dk_at dksX3_asksWhy_3 13 rfl rfl)
theorem dX3_asksWhy_85 : decode cX3_asksWhy 85 = .ok (.invokevirtual 62, 3) := dk_182 0 62 (dk_at dksX3_asksWhy_3 14 rfl rfl)
theorem dX3_asksWhy_88 : decode cX3_asksWhy 88 = .ok (.ifCond .eq 20, 3) := dk_153 0 20 (dk_at dksX3_asksWhy_3 17 rfl rfl)
theorem dX3_asksWhy_91 : decode cX3_asksWhy 91 = .ok (.aload_n 0, 1) := dk_42 (dk_at dksX3_asksWhy_3 20 rfl rfl)
theorem dX3_asksWhy_92 : decode cX3_asksWhy 92 = .ok (.getfield 44, 3) := dk_180 0 44 (dk_at dksX3_asksWhy_3 21 rfl rfl)
theorem dX3_asksWhy_95 : decode cX3_asksWhy 95 = .ok (.iload_n 3, 1) := dk_29 (dk_at dksX3_asksWhy_4 0 rfl rfl)
theorem dX3_asksWhy_96 : decode cX3_asksWhy 96 = .ok (.iaload, 1) := dk_46 (dk_at dksX3_asksWhy_4 1 rfl rfl)
theorem dX3_asksWhy_97 : decode cX3_asksWhy 97 = .ok (.ifCond .ne 7, 3) := dk_154 0 7 (dk_at dksX3_asksWhy_4 2 rfl rfl)
theorem dX3_asksWhy_100 : decode cX3_asksWhy 100 = .ok (.iconst 0, 1) := dk_3 (dk_at dksX3_asksWhy_4 5 rfl rfl)
theorem dX3_asksWhy_101 : decode cX3_asksWhy 101 = .ok (.goto 22, 3) := dk_167 0 22 (dk_at dksX3_asksWhy_4 6 rfl rfl)
theorem dX3_asksWhy_104 : decode cX3_asksWhy 104 = .ok (.iconst 4, 1) := dk_7 (dk_at dksX3_asksWhy_4 9 rfl rfl)
theorem dX3_asksWhy_105 : decode cX3_asksWhy 105 = .ok (.goto 18, 3) := dk_167 0 18 (dk_at dksX3_asksWhy_4 10 rfl rfl)
theorem dX3_asksWhy_108 : decode cX3_asksWhy 108 = .ok (.aload_n 0, 1) := dk_42 (dk_at dksX3_asksWhy_4 13 rfl rfl)
theorem dX3_asksWhy_109 : decode cX3_asksWhy 109 = .ok (.iload_n 3, 1) := dk_29 (dk_at dksX3_asksWhy_4 14 rfl rfl)
theorem dX3_asksWhy_110 : decode cX3_asksWhy 110 = .ok (.iconst 4, 1) := dk_7 (dk_at dksX3_asksWhy_4 15 rfl rfl)
theorem dX3_asksWhy_111 : decode cX3_asksWhy 111 = .ok (.invokevirtual 58, 3) := dk_182 0 58 (dk_at dksX3_asksWhy_4 16 rfl rfl)
theorem dX3_asksWhy_114 : decode cX3_asksWhy 114 = .ok (.iconst 1, 1) := dk_4 (dk_at dksX3_asksWhy_4 19 rfl rfl)
theorem dX3_asksWhy_115 : decode cX3_asksWhy 115 = .ok (.if_icmp .ne 7, 3) := dk_160 0 7 (dk_at dksX3_asksWhy_4 20 rfl rfl)
theorem dX3_asksWhy_118 : decode cX3_asksWhy 118 = .ok (.iconst 5, 1) := dk_8 (dk_at dksX3_asksWhy_4 23 rfl rfl)
theorem dX3_asksWhy_119 : decode cX3_asksWhy 119 = .ok (.goto 4, 3) := dk_167 0 4 (dk_at dksX3_asksWhy_5 0 rfl rfl)
theorem dX3_asksWhy_122 : decode cX3_asksWhy 122 = .ok (.iconst 0, 1) := dk_3 (dk_at dksX3_asksWhy_5 3 rfl rfl)
theorem dX3_asksWhy_123 : decode cX3_asksWhy 123 = .ok (.iastore, 1) := dk_79 (dk_at dksX3_asksWhy_5 4 rfl rfl)
theorem dX3_asksWhy_124 : decode cX3_asksWhy 124 = .ok (.iinc 1 (-1), 3) := dk_132 1 255 (dk_at dksX3_asksWhy_5 5 rfl rfl)
theorem dX3_asksWhy_127 : decode cX3_asksWhy 127 = .ok (.goto (-124), 3) := dk_167 255 132 (dk_at dksX3_asksWhy_5 8 rfl rfl)
theorem dX3_asksWhy_130 : decode cX3_asksWhy 130 = .ok (.return_, 1) := dk_177 (dk_at dksX3_asksWhy_5 11 rfl rfl)
abbrev cX3_heldUpBy : ByteArray := prog_22_method_80_code
def yX3_heldUpBy : MethodName := ⟨RX3, "heldUpBy", "(I)I"⟩
def dkwX3_heldUpBy_2 : List UInt8 := [28, 46, 8, 160, 0, 9, 28, 4, 96, 167, 0, 4, 28, 172]
abbrev dktX3_heldUpBy_2 : List UInt8 := dkwX3_heldUpBy_2 ++ []
def dkwX3_heldUpBy_1 : List UInt8 := [2, 172, 27, 61, 42, 180, 0, 44, 28, 46, 7, 160, 0, 9, 132, 2, 1, 167, 255, 243, 42, 180, 0, 44]
abbrev dktX3_heldUpBy_1 : List UInt8 := dkwX3_heldUpBy_1 ++ dktX3_heldUpBy_2
def dkwX3_heldUpBy_0 : List UInt8 := [42, 27, 182, 0, 197, 154, 0, 5, 3, 172, 42, 182, 0, 209, 42, 180, 0, 44, 27, 46, 5, 162, 0, 5]
abbrev dktX3_heldUpBy_0 : List UInt8 := dkwX3_heldUpBy_0 ++ dktX3_heldUpBy_1
theorem dksX3_heldUpBy_0 : cX3_heldUpBy.data.toList.drop 0 = dktX3_heldUpBy_0 := by decide +kernel
theorem dksX3_heldUpBy_1 : cX3_heldUpBy.data.toList.drop 24 = dktX3_heldUpBy_1 := dk_seg dksX3_heldUpBy_0 24 rfl rfl
theorem dksX3_heldUpBy_2 : cX3_heldUpBy.data.toList.drop 48 = dktX3_heldUpBy_2 := dk_seg dksX3_heldUpBy_1 24 rfl rfl
theorem dX3_heldUpBy_0 : decode cX3_heldUpBy 0 = .ok (.aload_n 0, 1) := dk_42 (dk_at dksX3_heldUpBy_0 0 rfl rfl)
theorem dX3_heldUpBy_1 : decode cX3_heldUpBy 1 = .ok (.iload_n 1, 1) := dk_27 (dk_at dksX3_heldUpBy_0 1 rfl rfl)
theorem dX3_heldUpBy_2 : decode cX3_heldUpBy 2 = .ok (.invokevirtual 197, 3) := dk_182 0 197 (dk_at dksX3_heldUpBy_0 2 rfl rfl)
theorem dX3_heldUpBy_5 : decode cX3_heldUpBy 5 = .ok (.ifCond .ne 5, 3) := dk_154 0 5 (dk_at dksX3_heldUpBy_0 5 rfl rfl)
theorem dX3_heldUpBy_8 : decode cX3_heldUpBy 8 = .ok (.iconst 0, 1) := dk_3 (dk_at dksX3_heldUpBy_0 8 rfl rfl)
theorem dX3_heldUpBy_9 : decode cX3_heldUpBy 9 = .ok (.ireturn, 1) := dk_172 (dk_at dksX3_heldUpBy_0 9 rfl rfl)
theorem dX3_heldUpBy_10 : decode cX3_heldUpBy 10 = .ok (.aload_n 0, 1) := dk_42 (dk_at dksX3_heldUpBy_0 10 rfl rfl)
theorem dX3_heldUpBy_11 : decode cX3_heldUpBy 11 = .ok (.invokevirtual 209, 3) := dk_182 0 209 (dk_at dksX3_heldUpBy_0 11 rfl rfl)
theorem dX3_heldUpBy_14 : decode cX3_heldUpBy 14 = .ok (.aload_n 0, 1) := dk_42 (dk_at dksX3_heldUpBy_0 14 rfl rfl)
theorem dX3_heldUpBy_15 : decode cX3_heldUpBy 15 = .ok (.getfield 44, 3) := dk_180 0 44 (dk_at dksX3_heldUpBy_0 15 rfl rfl)
theorem dX3_heldUpBy_18 : decode cX3_heldUpBy 18 = .ok (.iload_n 1, 1) := dk_27 (dk_at dksX3_heldUpBy_0 18 rfl rfl)
theorem dX3_heldUpBy_19 : decode cX3_heldUpBy 19 = .ok (.iaload, 1) := dk_46 (dk_at dksX3_heldUpBy_0 19 rfl rfl)
theorem dX3_heldUpBy_20 : decode cX3_heldUpBy 20 = .ok (.iconst 2, 1) := dk_5 (dk_at dksX3_heldUpBy_0 20 rfl rfl)
theorem dX3_heldUpBy_21 : decode cX3_heldUpBy 21 = .ok (.if_icmp .ge 5, 3) := dk_162 0 5 (dk_at dksX3_heldUpBy_0 21 rfl rfl)
theorem dX3_heldUpBy_24 : decode cX3_heldUpBy 24 = .ok (.iconst (-1), 1) := dk_2 (dk_at dksX3_heldUpBy_1 0 rfl rfl)
theorem dX3_heldUpBy_25 : decode cX3_heldUpBy 25 = .ok (.ireturn, 1) := dk_172 (dk_at dksX3_heldUpBy_1 1 rfl rfl)
theorem dX3_heldUpBy_26 : decode cX3_heldUpBy 26 = .ok (.iload_n 1, 1) := dk_27 (dk_at dksX3_heldUpBy_1 2 rfl rfl)
theorem dX3_heldUpBy_27 : decode cX3_heldUpBy 27 = .ok (.istore_n 2, 1) := dk_61 (dk_at dksX3_heldUpBy_1 3 rfl rfl)
theorem dX3_heldUpBy_28 : decode cX3_heldUpBy 28 = .ok (.aload_n 0, 1) := dk_42 (dk_at dksX3_heldUpBy_1 4 rfl rfl)
theorem dX3_heldUpBy_29 : decode cX3_heldUpBy 29 = .ok (.getfield 44, 3) := dk_180 0 44 (dk_at dksX3_heldUpBy_1 5 rfl rfl)
theorem dX3_heldUpBy_32 : decode cX3_heldUpBy 32 = .ok (.iload_n 2, 1) := dk_28 (dk_at dksX3_heldUpBy_1 8 rfl rfl)
theorem dX3_heldUpBy_33 : decode cX3_heldUpBy 33 = .ok (.iaload, 1) := dk_46 (dk_at dksX3_heldUpBy_1 9 rfl rfl)
theorem dX3_heldUpBy_34 : decode cX3_heldUpBy 34 = .ok (.iconst 4, 1) := dk_7 (dk_at dksX3_heldUpBy_1 10 rfl rfl)
theorem dX3_heldUpBy_35 : decode cX3_heldUpBy 35 = .ok (.if_icmp .ne 9, 3) := dk_160 0 9 (dk_at dksX3_heldUpBy_1 11 rfl rfl)
theorem dX3_heldUpBy_38 : decode cX3_heldUpBy 38 = .ok (.iinc 2 1, 3) := dk_132 2 1 (dk_at dksX3_heldUpBy_1 14 rfl rfl)
theorem dX3_heldUpBy_41 : decode cX3_heldUpBy 41 = .ok (.goto (-13), 3) := dk_167 255 243 (dk_at dksX3_heldUpBy_1 17 rfl rfl)
theorem dX3_heldUpBy_44 : decode cX3_heldUpBy 44 = .ok (.aload_n 0, 1) := dk_42 (dk_at dksX3_heldUpBy_1 20 rfl rfl)
theorem dX3_heldUpBy_45 : decode cX3_heldUpBy 45 = .ok (.getfield 44, 3) := dk_180 0 44 (dk_at dksX3_heldUpBy_1 21 rfl rfl)
theorem dX3_heldUpBy_48 : decode cX3_heldUpBy 48 = .ok (.iload_n 2, 1) := dk_28 (dk_at dksX3_heldUpBy_2 0 rfl rfl)
theorem dX3_heldUpBy_49 : decode cX3_heldUpBy 49 = .ok (.iaload, 1) := dk_46 (dk_at dksX3_heldUpBy_2 1 rfl rfl)
theorem dX3_heldUpBy_50 : decode cX3_heldUpBy 50 = .ok (.iconst 5, 1) := dk_8 (dk_at dksX3_heldUpBy_2 2 rfl rfl)
theorem dX3_heldUpBy_51 : decode cX3_heldUpBy 51 = .ok (.if_icmp .ne 9, 3) := dk_160 0 9 (dk_at dksX3_heldUpBy_2 3 rfl rfl)
theorem dX3_heldUpBy_54 : decode cX3_heldUpBy 54 = .ok (.iload_n 2, 1) := dk_28 (dk_at dksX3_heldUpBy_2 6 rfl rfl)
theorem dX3_heldUpBy_55 : decode cX3_heldUpBy 55 = .ok (.iconst 1, 1) := dk_4 (dk_at dksX3_heldUpBy_2 7 rfl rfl)
theorem dX3_heldUpBy_56 : decode cX3_heldUpBy 56 = .ok (.iadd, 1) := dk_96 (dk_at dksX3_heldUpBy_2 8 rfl rfl)
theorem dX3_heldUpBy_57 : decode cX3_heldUpBy 57 = .ok (.goto 4, 3) := dk_167 0 4 (dk_at dksX3_heldUpBy_2 9 rfl rfl)
theorem dX3_heldUpBy_60 : decode cX3_heldUpBy 60 = .ok (.iload_n 2, 1) := dk_28 (dk_at dksX3_heldUpBy_2 12 rfl rfl)
theorem dX3_heldUpBy_61 : decode cX3_heldUpBy 61 = .ok (.ireturn, 1) := dk_172 (dk_at dksX3_heldUpBy_2 13 rfl rfl)
abbrev cX3_cleanerAt : ByteArray := prog_22_method_81_code
def yX3_cleanerAt : MethodName := ⟨RX3, "cleanerAt", "(I)I"⟩
def dkwX3_cleanerAt_1 : List UInt8 := [3, 172]
abbrev dktX3_cleanerAt_1 : List UInt8 := dkwX3_cleanerAt_1 ++ []
def dkwX3_cleanerAt_0 : List UInt8 := [42, 27, 3, 182, 0, 181, 153, 0, 18, 42, 180, 0, 7, 17, 2, 13, 5, 27, 104, 96, 46, 167, 0, 4]
abbrev dktX3_cleanerAt_0 : List UInt8 := dkwX3_cleanerAt_0 ++ dktX3_cleanerAt_1
theorem dksX3_cleanerAt_0 : cX3_cleanerAt.data.toList.drop 0 = dktX3_cleanerAt_0 := by decide +kernel
theorem dksX3_cleanerAt_1 : cX3_cleanerAt.data.toList.drop 24 = dktX3_cleanerAt_1 := dk_seg dksX3_cleanerAt_0 24 rfl rfl
theorem dX3_cleanerAt_0 : decode cX3_cleanerAt 0 = .ok (.aload_n 0, 1) := dk_42 (dk_at dksX3_cleanerAt_0 0 rfl rfl)
theorem dX3_cleanerAt_1 : decode cX3_cleanerAt 1 = .ok (.iload_n 1, 1) := dk_27 (dk_at dksX3_cleanerAt_0 1 rfl rfl)
theorem dX3_cleanerAt_2 : decode cX3_cleanerAt 2 = .ok (.iconst 0, 1) := dk_3 (dk_at dksX3_cleanerAt_0 2 rfl rfl)
theorem dX3_cleanerAt_3 : decode cX3_cleanerAt 3 = .ok (.invokevirtual 181, 3) := dk_182 0 181 (dk_at dksX3_cleanerAt_0 3 rfl rfl)
theorem dX3_cleanerAt_6 : decode cX3_cleanerAt 6 = .ok (.ifCond .eq 18, 3) := dk_153 0 18 (dk_at dksX3_cleanerAt_0 6 rfl rfl)
theorem dX3_cleanerAt_9 : decode cX3_cleanerAt 9 = .ok (.aload_n 0, 1) := dk_42 (dk_at dksX3_cleanerAt_0 9 rfl rfl)
theorem dX3_cleanerAt_10 : decode cX3_cleanerAt 10 = .ok (.getfield 7, 3) := dk_180 0 7 (dk_at dksX3_cleanerAt_0 10 rfl rfl)
theorem dX3_cleanerAt_13 : decode cX3_cleanerAt 13 = .ok (.sipush 525, 3) := dk_17 2 13 (dk_at dksX3_cleanerAt_0 13 rfl rfl)
theorem dX3_cleanerAt_16 : decode cX3_cleanerAt 16 = .ok (.iconst 2, 1) := dk_5 (dk_at dksX3_cleanerAt_0 16 rfl rfl)
theorem dX3_cleanerAt_17 : decode cX3_cleanerAt 17 = .ok (.iload_n 1, 1) := dk_27 (dk_at dksX3_cleanerAt_0 17 rfl rfl)
theorem dX3_cleanerAt_18 : decode cX3_cleanerAt 18 = .ok (.imul, 1) := dk_104 (dk_at dksX3_cleanerAt_0 18 rfl rfl)
theorem dX3_cleanerAt_19 : decode cX3_cleanerAt 19 = .ok (.iadd, 1) := dk_96 (dk_at dksX3_cleanerAt_0 19 rfl rfl)
theorem dX3_cleanerAt_20 : decode cX3_cleanerAt 20 = .ok (.iaload, 1) := dk_46 (dk_at dksX3_cleanerAt_0 20 rfl rfl)
theorem dX3_cleanerAt_21 : decode cX3_cleanerAt 21 = .ok (.goto 4, 3) := dk_167 0 4 (dk_at dksX3_cleanerAt_0 21 rfl rfl)
theorem dX3_cleanerAt_24 : decode cX3_cleanerAt 24 = .ok (.iconst 0, 1) := dk_3 (dk_at dksX3_cleanerAt_1 0 rfl rfl)
theorem dX3_cleanerAt_25 : decode cX3_cleanerAt 25 = .ok (.ireturn, 1) := dk_172 (dk_at dksX3_cleanerAt_1 1 rfl rfl)
abbrev cX3_busyFor : ByteArray := prog_22_method_82_code
def yX3_busyFor : MethodName := ⟨RX3, "busyFor", "(I)I"⟩
def dkwX3_busyFor_1 : List UInt8 := [167, 0, 4, 3, 172]
abbrev dktX3_busyFor_1 : List UInt8 := dkwX3_busyFor_1 ++ []
def dkwX3_busyFor_0 : List UInt8 := [42, 27, 3, 182, 0, 181, 153, 0, 20, 42, 180, 0, 7, 17, 2, 13, 5, 27, 104, 96, 4, 96, 46]
abbrev dktX3_busyFor_0 : List UInt8 := dkwX3_busyFor_0 ++ dktX3_busyFor_1
theorem dksX3_busyFor_0 : cX3_busyFor.data.toList.drop 0 = dktX3_busyFor_0 := by decide +kernel
theorem dksX3_busyFor_1 : cX3_busyFor.data.toList.drop 23 = dktX3_busyFor_1 := dk_seg dksX3_busyFor_0 23 rfl rfl
theorem dX3_busyFor_0 : decode cX3_busyFor 0 = .ok (.aload_n 0, 1) := dk_42 (dk_at dksX3_busyFor_0 0 rfl rfl)
theorem dX3_busyFor_1 : decode cX3_busyFor 1 = .ok (.iload_n 1, 1) := dk_27 (dk_at dksX3_busyFor_0 1 rfl rfl)
theorem dX3_busyFor_2 : decode cX3_busyFor 2 = .ok (.iconst 0, 1) := dk_3 (dk_at dksX3_busyFor_0 2 rfl rfl)
theorem dX3_busyFor_3 : decode cX3_busyFor 3 = .ok (.invokevirtual 181, 3) := dk_182 0 181 (dk_at dksX3_busyFor_0 3 rfl rfl)
theorem dX3_busyFor_6 : decode cX3_busyFor 6 = .ok (.ifCond .eq 20, 3) := dk_153 0 20 (dk_at dksX3_busyFor_0 6 rfl rfl)
theorem dX3_busyFor_9 : decode cX3_busyFor 9 = .ok (.aload_n 0, 1) := dk_42 (dk_at dksX3_busyFor_0 9 rfl rfl)
theorem dX3_busyFor_10 : decode cX3_busyFor 10 = .ok (.getfield 7, 3) := dk_180 0 7 (dk_at dksX3_busyFor_0 10 rfl rfl)
theorem dX3_busyFor_13 : decode cX3_busyFor 13 = .ok (.sipush 525, 3) := dk_17 2 13 (dk_at dksX3_busyFor_0 13 rfl rfl)
theorem dX3_busyFor_16 : decode cX3_busyFor 16 = .ok (.iconst 2, 1) := dk_5 (dk_at dksX3_busyFor_0 16 rfl rfl)
theorem dX3_busyFor_17 : decode cX3_busyFor 17 = .ok (.iload_n 1, 1) := dk_27 (dk_at dksX3_busyFor_0 17 rfl rfl)
theorem dX3_busyFor_18 : decode cX3_busyFor 18 = .ok (.imul, 1) := dk_104 (dk_at dksX3_busyFor_0 18 rfl rfl)
theorem dX3_busyFor_19 : decode cX3_busyFor 19 = .ok (.iadd, 1) := dk_96 (dk_at dksX3_busyFor_0 19 rfl rfl)
theorem dX3_busyFor_20 : decode cX3_busyFor 20 = .ok (.iconst 1, 1) := dk_4 (dk_at dksX3_busyFor_0 20 rfl rfl)
theorem dX3_busyFor_21 : decode cX3_busyFor 21 = .ok (.iadd, 1) := dk_96 (dk_at dksX3_busyFor_0 21 rfl rfl)
theorem dX3_busyFor_22 : decode cX3_busyFor 22 = .ok (.iaload, 1) := dk_46 (dk_at dksX3_busyFor_0 22 rfl rfl)
theorem dX3_busyFor_23 : decode cX3_busyFor 23 = .ok (.goto 4, 3) := dk_167 0 4 (dk_at dksX3_busyFor_1 0 rfl rfl)
theorem dX3_busyFor_26 : decode cX3_busyFor 26 = .ok (.iconst 0, 1) := dk_3 (dk_at dksX3_busyFor_1 3 rfl rfl)
theorem dX3_busyFor_27 : decode cX3_busyFor 27 = .ok (.ireturn, 1) := dk_172 (dk_at dksX3_busyFor_1 4 rfl rfl)
abbrev cX3_whyNotCleaning : ByteArray := prog_22_method_83_code
def yX3_whyNotCleaning : MethodName := ⟨RX3, "whyNotCleaning", "(II)I"⟩
def dkwX3_whyNotCleaning_0 : List UInt8 := [42, 27, 28, 182, 0, 181, 153, 0, 12, 42, 27, 28, 182, 0, 185, 167, 0, 4, 3, 172]
abbrev dktX3_whyNotCleaning_0 : List UInt8 := dkwX3_whyNotCleaning_0 ++ []
theorem dksX3_whyNotCleaning_0 : cX3_whyNotCleaning.data.toList.drop 0 = dktX3_whyNotCleaning_0 := by decide +kernel
theorem dX3_whyNotCleaning_0 : decode cX3_whyNotCleaning 0 = .ok (.aload_n 0, 1) := dk_42 (dk_at dksX3_whyNotCleaning_0 0 rfl rfl)
theorem dX3_whyNotCleaning_1 : decode cX3_whyNotCleaning 1 = .ok (.iload_n 1, 1) := dk_27 (dk_at dksX3_whyNotCleaning_0 1 rfl rfl)
theorem dX3_whyNotCleaning_2 : decode cX3_whyNotCleaning 2 = .ok (.iload_n 2, 1) := dk_28 (dk_at dksX3_whyNotCleaning_0 2 rfl rfl)
theorem dX3_whyNotCleaning_3 : decode cX3_whyNotCleaning 3 = .ok (.invokevirtual 181, 3) := dk_182 0 181 (dk_at dksX3_whyNotCleaning_0 3 rfl rfl)
theorem dX3_whyNotCleaning_6 : decode cX3_whyNotCleaning 6 = .ok (.ifCond .eq 12, 3) := dk_153 0 12 (dk_at dksX3_whyNotCleaning_0 6 rfl rfl)
theorem dX3_whyNotCleaning_9 : decode cX3_whyNotCleaning 9 = .ok (.aload_n 0, 1) := dk_42 (dk_at dksX3_whyNotCleaning_0 9 rfl rfl)
theorem dX3_whyNotCleaning_10 : decode cX3_whyNotCleaning 10 = .ok (.iload_n 1, 1) := dk_27 (dk_at dksX3_whyNotCleaning_0 10 rfl rfl)
theorem dX3_whyNotCleaning_11 : decode cX3_whyNotCleaning 11 = .ok (.iload_n 2, 1) := dk_28 (dk_at dksX3_whyNotCleaning_0 11 rfl rfl)
theorem dX3_whyNotCleaning_12 : decode cX3_whyNotCleaning 12 = .ok (.invokevirtual 185, 3) := dk_182 0 185 (dk_at dksX3_whyNotCleaning_0 12 rfl rfl)
theorem dX3_whyNotCleaning_15 : decode cX3_whyNotCleaning 15 = .ok (.goto 4, 3) := dk_167 0 4 (dk_at dksX3_whyNotCleaning_0 15 rfl rfl)
theorem dX3_whyNotCleaning_18 : decode cX3_whyNotCleaning 18 = .ok (.iconst 0, 1) := dk_3 (dk_at dksX3_whyNotCleaning_0 18 rfl rfl)
theorem dX3_whyNotCleaning_19 : decode cX3_whyNotCleaning 19 = .ok (.ireturn, 1) := dk_172 (dk_at dksX3_whyNotCleaning_0 19 rfl rfl)
abbrev cX3_lots : ByteArray := prog_22_method_84_code
def yX3_lots : MethodName := ⟨RX3, "lots", "()I"⟩
def dkwX3_lots_0 : List UInt8 := [42, 3, 181, 0, 54, 42, 180, 0, 7, 17, 0, 163, 46, 172]
abbrev dktX3_lots_0 : List UInt8 := dkwX3_lots_0 ++ []
theorem dksX3_lots_0 : cX3_lots.data.toList.drop 0 = dktX3_lots_0 := by decide +kernel
theorem dX3_lots_0 : decode cX3_lots 0 = .ok (.aload_n 0, 1) := dk_42 (dk_at dksX3_lots_0 0 rfl rfl)
theorem dX3_lots_1 : decode cX3_lots 1 = .ok (.iconst 0, 1) := dk_3 (dk_at dksX3_lots_0 1 rfl rfl)
theorem dX3_lots_2 : decode cX3_lots 2 = .ok (.putfield 54, 3) := dk_181 0 54 (dk_at dksX3_lots_0 2 rfl rfl)
theorem dX3_lots_5 : decode cX3_lots 5 = .ok (.aload_n 0, 1) := dk_42 (dk_at dksX3_lots_0 5 rfl rfl)
theorem dX3_lots_6 : decode cX3_lots 6 = .ok (.getfield 7, 3) := dk_180 0 7 (dk_at dksX3_lots_0 6 rfl rfl)
theorem dX3_lots_9 : decode cX3_lots 9 = .ok (.sipush 163, 3) := dk_17 0 163 (dk_at dksX3_lots_0 9 rfl rfl)
theorem dX3_lots_12 : decode cX3_lots 12 = .ok (.iaload, 1) := dk_46 (dk_at dksX3_lots_0 12 rfl rfl)
theorem dX3_lots_13 : decode cX3_lots 13 = .ok (.ireturn, 1) := dk_172 (dk_at dksX3_lots_0 13 rfl rfl)
abbrev cX3_kindOf : ByteArray := prog_22_method_85_code
def yX3_kindOf : MethodName := ⟨RX3, "kindOf", "(I)I"⟩
def dkwX3_kindOf_0 : List UInt8 := [42, 27, 182, 0, 172, 153, 0, 12, 42, 27, 3, 182, 0, 69, 167, 0, 4, 3, 172]
abbrev dktX3_kindOf_0 : List UInt8 := dkwX3_kindOf_0 ++ []
theorem dksX3_kindOf_0 : cX3_kindOf.data.toList.drop 0 = dktX3_kindOf_0 := by decide +kernel
theorem dX3_kindOf_0 : decode cX3_kindOf 0 = .ok (.aload_n 0, 1) := dk_42 (dk_at dksX3_kindOf_0 0 rfl rfl)
theorem dX3_kindOf_1 : decode cX3_kindOf 1 = .ok (.iload_n 1, 1) := dk_27 (dk_at dksX3_kindOf_0 1 rfl rfl)
theorem dX3_kindOf_2 : decode cX3_kindOf 2 = .ok (.invokevirtual 172, 3) := dk_182 0 172 (dk_at dksX3_kindOf_0 2 rfl rfl)
theorem dX3_kindOf_5 : decode cX3_kindOf 5 = .ok (.ifCond .eq 12, 3) := dk_153 0 12 (dk_at dksX3_kindOf_0 5 rfl rfl)
theorem dX3_kindOf_8 : decode cX3_kindOf 8 = .ok (.aload_n 0, 1) := dk_42 (dk_at dksX3_kindOf_0 8 rfl rfl)
theorem dX3_kindOf_9 : decode cX3_kindOf 9 = .ok (.iload_n 1, 1) := dk_27 (dk_at dksX3_kindOf_0 9 rfl rfl)
theorem dX3_kindOf_10 : decode cX3_kindOf 10 = .ok (.iconst 0, 1) := dk_3 (dk_at dksX3_kindOf_0 10 rfl rfl)
theorem dX3_kindOf_11 : decode cX3_kindOf 11 = .ok (.invokevirtual 69, 3) := dk_182 0 69 (dk_at dksX3_kindOf_0 11 rfl rfl)
theorem dX3_kindOf_14 : decode cX3_kindOf 14 = .ok (.goto 4, 3) := dk_167 0 4 (dk_at dksX3_kindOf_0 14 rfl rfl)
theorem dX3_kindOf_17 : decode cX3_kindOf 17 = .ok (.iconst 0, 1) := dk_3 (dk_at dksX3_kindOf_0 17 rfl rfl)
theorem dX3_kindOf_18 : decode cX3_kindOf 18 = .ok (.ireturn, 1) := dk_172 (dk_at dksX3_kindOf_0 18 rfl rfl)
abbrev cX3_wallOf : ByteArray := prog_22_method_86_code
def yX3_wallOf : MethodName := ⟨RX3, "wallOf", "(I)I"⟩
def dkwX3_wallOf_0 : List UInt8 := [42, 27, 182, 0, 172, 153, 0, 12, 42, 27, 4, 182, 0, 69, 167, 0, 4, 3, 172]
abbrev dktX3_wallOf_0 : List UInt8 := dkwX3_wallOf_0 ++ []
theorem dksX3_wallOf_0 : cX3_wallOf.data.toList.drop 0 = dktX3_wallOf_0 := by decide +kernel
theorem dX3_wallOf_0 : decode cX3_wallOf 0 = .ok (.aload_n 0, 1) := dk_42 (dk_at dksX3_wallOf_0 0 rfl rfl)
theorem dX3_wallOf_1 : decode cX3_wallOf 1 = .ok (.iload_n 1, 1) := dk_27 (dk_at dksX3_wallOf_0 1 rfl rfl)
theorem dX3_wallOf_2 : decode cX3_wallOf 2 = .ok (.invokevirtual 172, 3) := dk_182 0 172 (dk_at dksX3_wallOf_0 2 rfl rfl)
theorem dX3_wallOf_5 : decode cX3_wallOf 5 = .ok (.ifCond .eq 12, 3) := dk_153 0 12 (dk_at dksX3_wallOf_0 5 rfl rfl)
theorem dX3_wallOf_8 : decode cX3_wallOf 8 = .ok (.aload_n 0, 1) := dk_42 (dk_at dksX3_wallOf_0 8 rfl rfl)
theorem dX3_wallOf_9 : decode cX3_wallOf 9 = .ok (.iload_n 1, 1) := dk_27 (dk_at dksX3_wallOf_0 9 rfl rfl)
theorem dX3_wallOf_10 : decode cX3_wallOf 10 = .ok (.iconst 1, 1) := dk_4 (dk_at dksX3_wallOf_0 10 rfl rfl)
theorem dX3_wallOf_11 : decode cX3_wallOf 11 = .ok (.invokevirtual 69, 3) := dk_182 0 69 (dk_at dksX3_wallOf_0 11 rfl rfl)
theorem dX3_wallOf_14 : decode cX3_wallOf 14 = .ok (.goto 4, 3) := dk_167 0 4 (dk_at dksX3_wallOf_0 14 rfl rfl)
theorem dX3_wallOf_17 : decode cX3_wallOf 17 = .ok (.iconst 0, 1) := dk_3 (dk_at dksX3_wallOf_0 17 rfl rfl)
theorem dX3_wallOf_18 : decode cX3_wallOf 18 = .ok (.ireturn, 1) := dk_172 (dk_at dksX3_wallOf_0 18 rfl rfl)
abbrev cX3_piecesOf : ByteArray := prog_22_method_88_code
def yX3_piecesOf : MethodName := ⟨RX3, "piecesOf", "(II)I"⟩
def dkwX3_piecesOf_1 : List UInt8 := [182, 0, 212, 167, 0, 8, 42, 5, 182, 0, 155, 172]
abbrev dktX3_piecesOf_1 : List UInt8 := dkwX3_piecesOf_1 ++ []
def dkwX3_piecesOf_0 : List UInt8 := [42, 27, 182, 0, 172, 154, 0, 5, 3, 172, 28, 3, 7, 184, 0, 148, 153, 0, 12, 42, 27, 28]
abbrev dktX3_piecesOf_0 : List UInt8 := dkwX3_piecesOf_0 ++ dktX3_piecesOf_1
theorem dksX3_piecesOf_0 : cX3_piecesOf.data.toList.drop 0 = dktX3_piecesOf_0 := by decide +kernel
theorem dksX3_piecesOf_1 : cX3_piecesOf.data.toList.drop 22 = dktX3_piecesOf_1 := dk_seg dksX3_piecesOf_0 22 rfl rfl
theorem dX3_piecesOf_0 : decode cX3_piecesOf 0 = .ok (.aload_n 0, 1) := dk_42 (dk_at dksX3_piecesOf_0 0 rfl rfl)
theorem dX3_piecesOf_1 : decode cX3_piecesOf 1 = .ok (.iload_n 1, 1) := dk_27 (dk_at dksX3_piecesOf_0 1 rfl rfl)
theorem dX3_piecesOf_2 : decode cX3_piecesOf 2 = .ok (.invokevirtual 172, 3) := dk_182 0 172 (dk_at dksX3_piecesOf_0 2 rfl rfl)
theorem dX3_piecesOf_5 : decode cX3_piecesOf 5 = .ok (.ifCond .ne 5, 3) := dk_154 0 5 (dk_at dksX3_piecesOf_0 5 rfl rfl)
theorem dX3_piecesOf_8 : decode cX3_piecesOf 8 = .ok (.iconst 0, 1) := dk_3 (dk_at dksX3_piecesOf_0 8 rfl rfl)
theorem dX3_piecesOf_9 : decode cX3_piecesOf 9 = .ok (.ireturn, 1) := dk_172 (dk_at dksX3_piecesOf_0 9 rfl rfl)
theorem dX3_piecesOf_10 : decode cX3_piecesOf 10 = .ok (.iload_n 2, 1) := dk_28 (dk_at dksX3_piecesOf_0 10 rfl rfl)
theorem dX3_piecesOf_11 : decode cX3_piecesOf 11 = .ok (.iconst 0, 1) := dk_3 (dk_at dksX3_piecesOf_0 11 rfl rfl)
theorem dX3_piecesOf_12 : decode cX3_piecesOf 12 = .ok (.iconst 4, 1) := dk_7 (dk_at dksX3_piecesOf_0 12 rfl rfl)
theorem dX3_piecesOf_13 : decode cX3_piecesOf 13 = .ok (.invokestatic 148, 3) := dk_184 0 148 (dk_at dksX3_piecesOf_0 13 rfl rfl)
theorem dX3_piecesOf_16 : decode cX3_piecesOf 16 = .ok (.ifCond .eq 12, 3) := dk_153 0 12 (dk_at dksX3_piecesOf_0 16 rfl rfl)
theorem dX3_piecesOf_19 : decode cX3_piecesOf 19 = .ok (.aload_n 0, 1) := dk_42 (dk_at dksX3_piecesOf_0 19 rfl rfl)
theorem dX3_piecesOf_20 : decode cX3_piecesOf 20 = .ok (.iload_n 1, 1) := dk_27 (dk_at dksX3_piecesOf_0 20 rfl rfl)
theorem dX3_piecesOf_21 : decode cX3_piecesOf 21 = .ok (.iload_n 2, 1) := dk_28 (dk_at dksX3_piecesOf_0 21 rfl rfl)
theorem dX3_piecesOf_22 : decode cX3_piecesOf 22 = .ok (.invokevirtual 212, 3) := dk_182 0 212 (dk_at dksX3_piecesOf_1 0 rfl rfl)
theorem dX3_piecesOf_25 : decode cX3_piecesOf 25 = .ok (.goto 8, 3) := dk_167 0 8 (dk_at dksX3_piecesOf_1 3 rfl rfl)
theorem dX3_piecesOf_28 : decode cX3_piecesOf 28 = .ok (.aload_n 0, 1) := dk_42 (dk_at dksX3_piecesOf_1 6 rfl rfl)
theorem dX3_piecesOf_29 : decode cX3_piecesOf 29 = .ok (.iconst 2, 1) := dk_5 (dk_at dksX3_piecesOf_1 7 rfl rfl)
theorem dX3_piecesOf_30 : decode cX3_piecesOf 30 = .ok (.invokevirtual 155, 3) := dk_182 0 155 (dk_at dksX3_piecesOf_1 8 rfl rfl)
theorem dX3_piecesOf_33 : decode cX3_piecesOf 33 = .ok (.ireturn, 1) := dk_172 (dk_at dksX3_piecesOf_1 11 rfl rfl)
abbrev cX3_fated : ByteArray := prog_22_method_87_code
def yX3_fated : MethodName := ⟨RX3, "fated", "(II)I"⟩
def dkwX3_fated_1 : List UInt8 := [182, 0, 69, 28, 160, 0, 7, 4, 167, 0, 4, 3, 96, 62, 132, 4, 1, 167, 255, 221, 29, 172]
abbrev dktX3_fated_1 : List UInt8 := dkwX3_fated_1 ++ []
def dkwX3_fated_0 : List UInt8 := [3, 62, 3, 54, 4, 21, 4, 42, 27, 5, 182, 0, 69, 162, 0, 30, 29, 42, 27, 8, 21, 4, 96]
abbrev dktX3_fated_0 : List UInt8 := dkwX3_fated_0 ++ dktX3_fated_1
theorem dksX3_fated_0 : cX3_fated.data.toList.drop 0 = dktX3_fated_0 := by decide +kernel
theorem dksX3_fated_1 : cX3_fated.data.toList.drop 23 = dktX3_fated_1 := dk_seg dksX3_fated_0 23 rfl rfl
theorem dX3_fated_0 : decode cX3_fated 0 = .ok (.iconst 0, 1) := dk_3 (dk_at dksX3_fated_0 0 rfl rfl)
theorem dX3_fated_1 : decode cX3_fated 1 = .ok (.istore_n 3, 1) := dk_62 (dk_at dksX3_fated_0 1 rfl rfl)
theorem dX3_fated_2 : decode cX3_fated 2 = .ok (.iconst 0, 1) := dk_3 (dk_at dksX3_fated_0 2 rfl rfl)
theorem dX3_fated_3 : decode cX3_fated 3 = .ok (.istore 4, 2) := dk_54 4 (dk_at dksX3_fated_0 3 rfl rfl)
theorem dX3_fated_5 : decode cX3_fated 5 = .ok (.iload 4, 2) := dk_21 4 (dk_at dksX3_fated_0 5 rfl rfl)
theorem dX3_fated_7 : decode cX3_fated 7 = .ok (.aload_n 0, 1) := dk_42 (dk_at dksX3_fated_0 7 rfl rfl)
theorem dX3_fated_8 : decode cX3_fated 8 = .ok (.iload_n 1, 1) := dk_27 (dk_at dksX3_fated_0 8 rfl rfl)
theorem dX3_fated_9 : decode cX3_fated 9 = .ok (.iconst 2, 1) := dk_5 (dk_at dksX3_fated_0 9 rfl rfl)
theorem dX3_fated_10 : decode cX3_fated 10 = .ok (.invokevirtual 69, 3) := dk_182 0 69 (dk_at dksX3_fated_0 10 rfl rfl)
theorem dX3_fated_13 : decode cX3_fated 13 = .ok (.if_icmp .ge 30, 3) := dk_162 0 30 (dk_at dksX3_fated_0 13 rfl rfl)
theorem dX3_fated_16 : decode cX3_fated 16 = .ok (.iload_n 3, 1) := dk_29 (dk_at dksX3_fated_0 16 rfl rfl)
theorem dX3_fated_17 : decode cX3_fated 17 = .ok (.aload_n 0, 1) := dk_42 (dk_at dksX3_fated_0 17 rfl rfl)
theorem dX3_fated_18 : decode cX3_fated 18 = .ok (.iload_n 1, 1) := dk_27 (dk_at dksX3_fated_0 18 rfl rfl)
theorem dX3_fated_19 : decode cX3_fated 19 = .ok (.iconst 5, 1) := dk_8 (dk_at dksX3_fated_0 19 rfl rfl)
theorem dX3_fated_20 : decode cX3_fated 20 = .ok (.iload 4, 2) := dk_21 4 (dk_at dksX3_fated_0 20 rfl rfl)
theorem dX3_fated_22 : decode cX3_fated 22 = .ok (.iadd, 1) := dk_96 (dk_at dksX3_fated_0 22 rfl rfl)
theorem dX3_fated_23 : decode cX3_fated 23 = .ok (.invokevirtual 69, 3) := dk_182 0 69 (dk_at dksX3_fated_1 0 rfl rfl)
theorem dX3_fated_26 : decode cX3_fated 26 = .ok (.iload_n 2, 1) := dk_28 (dk_at dksX3_fated_1 3 rfl rfl)
theorem dX3_fated_27 : decode cX3_fated 27 = .ok (.if_icmp .ne 7, 3) := dk_160 0 7 (dk_at dksX3_fated_1 4 rfl rfl)
theorem dX3_fated_30 : decode cX3_fated 30 = .ok (.iconst 1, 1) := dk_4 (dk_at dksX3_fated_1 7 rfl rfl)
theorem dX3_fated_31 : decode cX3_fated 31 = .ok (.goto 4, 3) := dk_167 0 4 (dk_at dksX3_fated_1 8 rfl rfl)
theorem dX3_fated_34 : decode cX3_fated 34 = .ok (.iconst 0, 1) := dk_3 (dk_at dksX3_fated_1 11 rfl rfl)
theorem dX3_fated_35 : decode cX3_fated 35 = .ok (.iadd, 1) := dk_96 (dk_at dksX3_fated_1 12 rfl rfl)
theorem dX3_fated_36 : decode cX3_fated 36 = .ok (.istore_n 3, 1) := dk_62 (dk_at dksX3_fated_1 13 rfl rfl)
theorem dX3_fated_37 : decode cX3_fated 37 = .ok (.iinc 4 1, 3) := dk_132 4 1 (dk_at dksX3_fated_1 14 rfl rfl)
theorem dX3_fated_40 : decode cX3_fated 40 = .ok (.goto (-35), 3) := dk_167 255 221 (dk_at dksX3_fated_1 17 rfl rfl)
theorem dX3_fated_43 : decode cX3_fated 43 = .ok (.iload_n 3, 1) := dk_29 (dk_at dksX3_fated_1 20 rfl rfl)
theorem dX3_fated_44 : decode cX3_fated 44 = .ok (.ireturn, 1) := dk_172 (dk_at dksX3_fated_1 21 rfl rfl)
abbrev cX3_fateOf : ByteArray := prog_22_method_91_code
def yX3_fateOf : MethodName := ⟨RX3, "fateOf", "(II)I"⟩
def dkwX3_fateOf_0 : List UInt8 := [42, 27, 28, 182, 0, 215, 153, 0, 14, 42, 27, 8, 28, 96, 182, 0, 69, 167, 0, 4, 3, 172]
abbrev dktX3_fateOf_0 : List UInt8 := dkwX3_fateOf_0 ++ []
theorem dksX3_fateOf_0 : cX3_fateOf.data.toList.drop 0 = dktX3_fateOf_0 := by decide +kernel
theorem dX3_fateOf_0 : decode cX3_fateOf 0 = .ok (.aload_n 0, 1) := dk_42 (dk_at dksX3_fateOf_0 0 rfl rfl)
theorem dX3_fateOf_1 : decode cX3_fateOf 1 = .ok (.iload_n 1, 1) := dk_27 (dk_at dksX3_fateOf_0 1 rfl rfl)
theorem dX3_fateOf_2 : decode cX3_fateOf 2 = .ok (.iload_n 2, 1) := dk_28 (dk_at dksX3_fateOf_0 2 rfl rfl)
theorem dX3_fateOf_3 : decode cX3_fateOf 3 = .ok (.invokevirtual 215, 3) := dk_182 0 215 (dk_at dksX3_fateOf_0 3 rfl rfl)
theorem dX3_fateOf_6 : decode cX3_fateOf 6 = .ok (.ifCond .eq 14, 3) := dk_153 0 14 (dk_at dksX3_fateOf_0 6 rfl rfl)
theorem dX3_fateOf_9 : decode cX3_fateOf 9 = .ok (.aload_n 0, 1) := dk_42 (dk_at dksX3_fateOf_0 9 rfl rfl)
theorem dX3_fateOf_10 : decode cX3_fateOf 10 = .ok (.iload_n 1, 1) := dk_27 (dk_at dksX3_fateOf_0 10 rfl rfl)
theorem dX3_fateOf_11 : decode cX3_fateOf 11 = .ok (.iconst 5, 1) := dk_8 (dk_at dksX3_fateOf_0 11 rfl rfl)
theorem dX3_fateOf_12 : decode cX3_fateOf 12 = .ok (.iload_n 2, 1) := dk_28 (dk_at dksX3_fateOf_0 12 rfl rfl)
theorem dX3_fateOf_13 : decode cX3_fateOf 13 = .ok (.iadd, 1) := dk_96 (dk_at dksX3_fateOf_0 13 rfl rfl)
theorem dX3_fateOf_14 : decode cX3_fateOf 14 = .ok (.invokevirtual 69, 3) := dk_182 0 69 (dk_at dksX3_fateOf_0 14 rfl rfl)
theorem dX3_fateOf_17 : decode cX3_fateOf 17 = .ok (.goto 4, 3) := dk_167 0 4 (dk_at dksX3_fateOf_0 17 rfl rfl)
theorem dX3_fateOf_20 : decode cX3_fateOf 20 = .ok (.iconst 0, 1) := dk_3 (dk_at dksX3_fateOf_0 20 rfl rfl)
theorem dX3_fateOf_21 : decode cX3_fateOf 21 = .ok (.ireturn, 1) := dk_172 (dk_at dksX3_fateOf_0 21 rfl rfl)
abbrev cX3_isThere : ByteArray := prog_22_method_89_code
def yX3_isThere : MethodName := ⟨RX3, "isThere", "(II)Z"⟩
def dkwX3_isThere_1 : List UInt8 := [153, 0, 7, 3, 167, 0, 4, 4, 181, 0, 54, 42, 180, 0, 54, 154, 0, 7, 4, 167, 0, 4, 3, 172]
abbrev dktX3_isThere_1 : List UInt8 := dkwX3_isThere_1 ++ []
def dkwX3_isThere_0 : List UInt8 := [42, 42, 27, 182, 0, 172, 153, 0, 23, 28, 3, 42, 27, 5, 182, 0, 69, 4, 100, 184, 0, 148]
abbrev dktX3_isThere_0 : List UInt8 := dkwX3_isThere_0 ++ dktX3_isThere_1
theorem dksX3_isThere_0 : cX3_isThere.data.toList.drop 0 = dktX3_isThere_0 := by decide +kernel
theorem dksX3_isThere_1 : cX3_isThere.data.toList.drop 22 = dktX3_isThere_1 := dk_seg dksX3_isThere_0 22 rfl rfl
theorem dX3_isThere_0 : decode cX3_isThere 0 = .ok (.aload_n 0, 1) := dk_42 (dk_at dksX3_isThere_0 0 rfl rfl)
theorem dX3_isThere_1 : decode cX3_isThere 1 = .ok (.aload_n 0, 1) := dk_42 (dk_at dksX3_isThere_0 1 rfl rfl)
theorem dX3_isThere_2 : decode cX3_isThere 2 = .ok (.iload_n 1, 1) := dk_27 (dk_at dksX3_isThere_0 2 rfl rfl)
theorem dX3_isThere_3 : decode cX3_isThere 3 = .ok (.invokevirtual 172, 3) := dk_182 0 172 (dk_at dksX3_isThere_0 3 rfl rfl)
theorem dX3_isThere_6 : decode cX3_isThere 6 = .ok (.ifCond .eq 23, 3) := dk_153 0 23 (dk_at dksX3_isThere_0 6 rfl rfl)
theorem dX3_isThere_9 : decode cX3_isThere 9 = .ok (.iload_n 2, 1) := dk_28 (dk_at dksX3_isThere_0 9 rfl rfl)
theorem dX3_isThere_10 : decode cX3_isThere 10 = .ok (.iconst 0, 1) := dk_3 (dk_at dksX3_isThere_0 10 rfl rfl)
theorem dX3_isThere_11 : decode cX3_isThere 11 = .ok (.aload_n 0, 1) := dk_42 (dk_at dksX3_isThere_0 11 rfl rfl)
theorem dX3_isThere_12 : decode cX3_isThere 12 = .ok (.iload_n 1, 1) := dk_27 (dk_at dksX3_isThere_0 12 rfl rfl)
theorem dX3_isThere_13 : decode cX3_isThere 13 = .ok (.iconst 2, 1) := dk_5 (dk_at dksX3_isThere_0 13 rfl rfl)
theorem dX3_isThere_14 : decode cX3_isThere 14 = .ok (.invokevirtual 69, 3) := dk_182 0 69 (dk_at dksX3_isThere_0 14 rfl rfl)
theorem dX3_isThere_17 : decode cX3_isThere 17 = .ok (.iconst 1, 1) := dk_4 (dk_at dksX3_isThere_0 17 rfl rfl)
theorem dX3_isThere_18 : decode cX3_isThere 18 = .ok (.isub, 1) := dk_100 (dk_at dksX3_isThere_0 18 rfl rfl)
theorem dX3_isThere_19 : decode cX3_isThere 19 = .ok (.invokestatic 148, 3) := dk_184 0 148 (dk_at dksX3_isThere_0 19 rfl rfl)
theorem dX3_isThere_22 : decode cX3_isThere 22 = .ok (.ifCond .eq 7, 3) := dk_153 0 7 (dk_at dksX3_isThere_1 0 rfl rfl)
theorem dX3_isThere_25 : decode cX3_isThere 25 = .ok (.iconst 0, 1) := dk_3 (dk_at dksX3_isThere_1 3 rfl rfl)
theorem dX3_isThere_26 : decode cX3_isThere 26 = .ok (.goto 4, 3) := dk_167 0 4 (dk_at dksX3_isThere_1 4 rfl rfl)
theorem dX3_isThere_29 : decode cX3_isThere 29 = .ok (.iconst 1, 1) := dk_4 (dk_at dksX3_isThere_1 7 rfl rfl)
theorem dX3_isThere_30 : decode cX3_isThere 30 = .ok (.putfield 54, 3) := dk_181 0 54 (dk_at dksX3_isThere_1 8 rfl rfl)
theorem dX3_isThere_33 : decode cX3_isThere 33 = .ok (.aload_n 0, 1) := dk_42 (dk_at dksX3_isThere_1 11 rfl rfl)
theorem dX3_isThere_34 : decode cX3_isThere 34 = .ok (.getfield 54, 3) := dk_180 0 54 (dk_at dksX3_isThere_1 12 rfl rfl)
theorem dX3_isThere_37 : decode cX3_isThere 37 = .ok (.ifCond .ne 7, 3) := dk_154 0 7 (dk_at dksX3_isThere_1 15 rfl rfl)
theorem dX3_isThere_40 : decode cX3_isThere 40 = .ok (.iconst 1, 1) := dk_4 (dk_at dksX3_isThere_1 18 rfl rfl)
theorem dX3_isThere_41 : decode cX3_isThere 41 = .ok (.goto 4, 3) := dk_167 0 4 (dk_at dksX3_isThere_1 19 rfl rfl)
theorem dX3_isThere_44 : decode cX3_isThere 44 = .ok (.iconst 0, 1) := dk_3 (dk_at dksX3_isThere_1 22 rfl rfl)
theorem dX3_isThere_45 : decode cX3_isThere 45 = .ok (.ireturn, 1) := dk_172 (dk_at dksX3_isThere_1 23 rfl rfl)
abbrev cX3_placeOf : ByteArray := prog_22_method_92_code
def yX3_placeOf : MethodName := ⟨RX3, "placeOf", "(II)I"⟩
def dkwX3_placeOf_0 : List UInt8 := [42, 27, 28, 182, 0, 215, 153, 0, 12, 42, 27, 28, 182, 0, 218, 167, 0, 4, 3, 172]
abbrev dktX3_placeOf_0 : List UInt8 := dkwX3_placeOf_0 ++ []
theorem dksX3_placeOf_0 : cX3_placeOf.data.toList.drop 0 = dktX3_placeOf_0 := by decide +kernel
theorem dX3_placeOf_0 : decode cX3_placeOf 0 = .ok (.aload_n 0, 1) := dk_42 (dk_at dksX3_placeOf_0 0 rfl rfl)
theorem dX3_placeOf_1 : decode cX3_placeOf 1 = .ok (.iload_n 1, 1) := dk_27 (dk_at dksX3_placeOf_0 1 rfl rfl)
theorem dX3_placeOf_2 : decode cX3_placeOf 2 = .ok (.iload_n 2, 1) := dk_28 (dk_at dksX3_placeOf_0 2 rfl rfl)
theorem dX3_placeOf_3 : decode cX3_placeOf 3 = .ok (.invokevirtual 215, 3) := dk_182 0 215 (dk_at dksX3_placeOf_0 3 rfl rfl)
theorem dX3_placeOf_6 : decode cX3_placeOf 6 = .ok (.ifCond .eq 12, 3) := dk_153 0 12 (dk_at dksX3_placeOf_0 6 rfl rfl)
theorem dX3_placeOf_9 : decode cX3_placeOf 9 = .ok (.aload_n 0, 1) := dk_42 (dk_at dksX3_placeOf_0 9 rfl rfl)
theorem dX3_placeOf_10 : decode cX3_placeOf 10 = .ok (.iload_n 1, 1) := dk_27 (dk_at dksX3_placeOf_0 10 rfl rfl)
theorem dX3_placeOf_11 : decode cX3_placeOf 11 = .ok (.iload_n 2, 1) := dk_28 (dk_at dksX3_placeOf_0 11 rfl rfl)
theorem dX3_placeOf_12 : decode cX3_placeOf 12 = .ok (.invokevirtual 218, 3) := dk_182 0 218 (dk_at dksX3_placeOf_0 12 rfl rfl)
theorem dX3_placeOf_15 : decode cX3_placeOf 15 = .ok (.goto 4, 3) := dk_167 0 4 (dk_at dksX3_placeOf_0 15 rfl rfl)
theorem dX3_placeOf_18 : decode cX3_placeOf 18 = .ok (.iconst 0, 1) := dk_3 (dk_at dksX3_placeOf_0 18 rfl rfl)
theorem dX3_placeOf_19 : decode cX3_placeOf 19 = .ok (.ireturn, 1) := dk_172 (dk_at dksX3_placeOf_0 19 rfl rfl)
abbrev cX3_placed : ByteArray := prog_22_method_90_code
def yX3_placed : MethodName := ⟨RX3, "placed", "(II)I"⟩
def dkwX3_placed_1 : List UInt8 := [28, 160, 0, 5, 29, 172, 132, 3, 1, 167, 255, 225, 2, 172]
abbrev dktX3_placed_1 : List UInt8 := dkwX3_placed_1 ++ []
def dkwX3_placed_0 : List UInt8 := [3, 62, 29, 16, 24, 162, 0, 31, 42, 29, 3, 182, 0, 58, 27, 160, 0, 15, 42, 29, 4, 182, 0, 58]
abbrev dktX3_placed_0 : List UInt8 := dkwX3_placed_0 ++ dktX3_placed_1
theorem dksX3_placed_0 : cX3_placed.data.toList.drop 0 = dktX3_placed_0 := by decide +kernel
theorem dksX3_placed_1 : cX3_placed.data.toList.drop 24 = dktX3_placed_1 := dk_seg dksX3_placed_0 24 rfl rfl
theorem dX3_placed_0 : decode cX3_placed 0 = .ok (.iconst 0, 1) := dk_3 (dk_at dksX3_placed_0 0 rfl rfl)
theorem dX3_placed_1 : decode cX3_placed 1 = .ok (.istore_n 3, 1) := dk_62 (dk_at dksX3_placed_0 1 rfl rfl)
theorem dX3_placed_2 : decode cX3_placed 2 = .ok (.iload_n 3, 1) := dk_29 (dk_at dksX3_placed_0 2 rfl rfl)
theorem dX3_placed_3 : decode cX3_placed 3 = .ok (.bipush 24, 2) := dk_16 24 (dk_at dksX3_placed_0 3 rfl rfl)
theorem dX3_placed_5 : decode cX3_placed 5 = .ok (.if_icmp .ge 31, 3) := dk_162 0 31 (dk_at dksX3_placed_0 5 rfl rfl)
theorem dX3_placed_8 : decode cX3_placed 8 = .ok (.aload_n 0, 1) := dk_42 (dk_at dksX3_placed_0 8 rfl rfl)
theorem dX3_placed_9 : decode cX3_placed 9 = .ok (.iload_n 3, 1) := dk_29 (dk_at dksX3_placed_0 9 rfl rfl)
theorem dX3_placed_10 : decode cX3_placed 10 = .ok (.iconst 0, 1) := dk_3 (dk_at dksX3_placed_0 10 rfl rfl)
theorem dX3_placed_11 : decode cX3_placed 11 = .ok (.invokevirtual 58, 3) := dk_182 0 58 (dk_at dksX3_placed_0 11 rfl rfl)
theorem dX3_placed_14 : decode cX3_placed 14 = .ok (.iload_n 1, 1) := dk_27 (dk_at dksX3_placed_0 14 rfl rfl)
theorem dX3_placed_15 : decode cX3_placed 15 = .ok (.if_icmp .ne 15, 3) := dk_160 0 15 (dk_at dksX3_placed_0 15 rfl rfl)
theorem dX3_placed_18 : decode cX3_placed 18 = .ok (.aload_n 0, 1) := dk_42 (dk_at dksX3_placed_0 18 rfl rfl)
theorem dX3_placed_19 : decode cX3_placed 19 = .ok (.iload_n 3, 1) := dk_29 (dk_at dksX3_placed_0 19 rfl rfl)
theorem dX3_placed_20 : decode cX3_placed 20 = .ok (.iconst 1, 1) := dk_4 (dk_at dksX3_placed_0 20 rfl rfl)
theorem dX3_placed_21 : decode cX3_placed 21 = .ok (.invokevirtual 58, 3) := dk_182 0 58 (dk_at dksX3_placed_0 21 rfl rfl)
theorem dX3_placed_24 : decode cX3_placed 24 = .ok (.iload_n 2, 1) := dk_28 (dk_at dksX3_placed_1 0 rfl rfl)
theorem dX3_placed_25 : decode cX3_placed 25 = .ok (.if_icmp .ne 5, 3) := dk_160 0 5 (dk_at dksX3_placed_1 1 rfl rfl)
theorem dX3_placed_28 : decode cX3_placed 28 = .ok (.iload_n 3, 1) := dk_29 (dk_at dksX3_placed_1 4 rfl rfl)
theorem dX3_placed_29 : decode cX3_placed 29 = .ok (.ireturn, 1) := dk_172 (dk_at dksX3_placed_1 5 rfl rfl)
theorem dX3_placed_30 : decode cX3_placed 30 = .ok (.iinc 3 1, 3) := dk_132 3 1 (dk_at dksX3_placed_1 6 rfl rfl)
theorem dX3_placed_33 : decode cX3_placed 33 = .ok (.goto (-31), 3) := dk_167 255 225 (dk_at dksX3_placed_1 9 rfl rfl)
theorem dX3_placed_36 : decode cX3_placed 36 = .ok (.iconst (-1), 1) := dk_2 (dk_at dksX3_placed_1 12 rfl rfl)
theorem dX3_placed_37 : decode cX3_placed 37 = .ok (.ireturn, 1) := dk_172 (dk_at dksX3_placed_1 13 rfl rfl)
abbrev cX3_whyNotLoading : ByteArray := prog_22_method_93_code
def yX3_whyNotLoading : MethodName := ⟨RX3, "whyNotLoading", "(I)I"⟩
def dkwX3_whyNotLoading_0 : List UInt8 := [42, 27, 182, 0, 172, 153, 0, 11, 42, 27, 182, 0, 175, 167, 0, 4, 3, 172]
abbrev dktX3_whyNotLoading_0 : List UInt8 := dkwX3_whyNotLoading_0 ++ []
theorem dksX3_whyNotLoading_0 : cX3_whyNotLoading.data.toList.drop 0 = dktX3_whyNotLoading_0 := by decide +kernel
theorem dX3_whyNotLoading_0 : decode cX3_whyNotLoading 0 = .ok (.aload_n 0, 1) := dk_42 (dk_at dksX3_whyNotLoading_0 0 rfl rfl)
theorem dX3_whyNotLoading_1 : decode cX3_whyNotLoading 1 = .ok (.iload_n 1, 1) := dk_27 (dk_at dksX3_whyNotLoading_0 1 rfl rfl)
theorem dX3_whyNotLoading_2 : decode cX3_whyNotLoading 2 = .ok (.invokevirtual 172, 3) := dk_182 0 172 (dk_at dksX3_whyNotLoading_0 2 rfl rfl)
theorem dX3_whyNotLoading_5 : decode cX3_whyNotLoading 5 = .ok (.ifCond .eq 11, 3) := dk_153 0 11 (dk_at dksX3_whyNotLoading_0 5 rfl rfl)
theorem dX3_whyNotLoading_8 : decode cX3_whyNotLoading 8 = .ok (.aload_n 0, 1) := dk_42 (dk_at dksX3_whyNotLoading_0 8 rfl rfl)
theorem dX3_whyNotLoading_9 : decode cX3_whyNotLoading 9 = .ok (.iload_n 1, 1) := dk_27 (dk_at dksX3_whyNotLoading_0 9 rfl rfl)
theorem dX3_whyNotLoading_10 : decode cX3_whyNotLoading 10 = .ok (.invokevirtual 175, 3) := dk_182 0 175 (dk_at dksX3_whyNotLoading_0 10 rfl rfl)
theorem dX3_whyNotLoading_13 : decode cX3_whyNotLoading 13 = .ok (.goto 4, 3) := dk_167 0 4 (dk_at dksX3_whyNotLoading_0 13 rfl rfl)
theorem dX3_whyNotLoading_16 : decode cX3_whyNotLoading 16 = .ok (.iconst 0, 1) := dk_3 (dk_at dksX3_whyNotLoading_0 16 rfl rfl)
theorem dX3_whyNotLoading_17 : decode cX3_whyNotLoading 17 = .ok (.ireturn, 1) := dk_172 (dk_at dksX3_whyNotLoading_0 17 rfl rfl)
abbrev cX3_stockOf : ByteArray := prog_22_method_94_code
def yX3_stockOf : MethodName := ⟨RX3, "stockOf", "(I)I"⟩
def dkwX3_stockOf_0 : List UInt8 := [42, 27, 182, 0, 172, 153, 0, 12, 42, 27, 6, 182, 0, 69, 167, 0, 4, 3, 172]
abbrev dktX3_stockOf_0 : List UInt8 := dkwX3_stockOf_0 ++ []
theorem dksX3_stockOf_0 : cX3_stockOf.data.toList.drop 0 = dktX3_stockOf_0 := by decide +kernel
theorem dX3_stockOf_0 : decode cX3_stockOf 0 = .ok (.aload_n 0, 1) := dk_42 (dk_at dksX3_stockOf_0 0 rfl rfl)
theorem dX3_stockOf_1 : decode cX3_stockOf 1 = .ok (.iload_n 1, 1) := dk_27 (dk_at dksX3_stockOf_0 1 rfl rfl)
theorem dX3_stockOf_2 : decode cX3_stockOf 2 = .ok (.invokevirtual 172, 3) := dk_182 0 172 (dk_at dksX3_stockOf_0 2 rfl rfl)
theorem dX3_stockOf_5 : decode cX3_stockOf 5 = .ok (.ifCond .eq 12, 3) := dk_153 0 12 (dk_at dksX3_stockOf_0 5 rfl rfl)
theorem dX3_stockOf_8 : decode cX3_stockOf 8 = .ok (.aload_n 0, 1) := dk_42 (dk_at dksX3_stockOf_0 8 rfl rfl)
theorem dX3_stockOf_9 : decode cX3_stockOf 9 = .ok (.iload_n 1, 1) := dk_27 (dk_at dksX3_stockOf_0 9 rfl rfl)
theorem dX3_stockOf_10 : decode cX3_stockOf 10 = .ok (.iconst 3, 1) := dk_6 (dk_at dksX3_stockOf_0 10 rfl rfl)
theorem dX3_stockOf_11 : decode cX3_stockOf 11 = .ok (.invokevirtual 69, 3) := dk_182 0 69 (dk_at dksX3_stockOf_0 11 rfl rfl)
theorem dX3_stockOf_14 : decode cX3_stockOf 14 = .ok (.goto 4, 3) := dk_167 0 4 (dk_at dksX3_stockOf_0 14 rfl rfl)
theorem dX3_stockOf_17 : decode cX3_stockOf 17 = .ok (.iconst 0, 1) := dk_3 (dk_at dksX3_stockOf_0 17 rfl rfl)
theorem dX3_stockOf_18 : decode cX3_stockOf 18 = .ok (.ireturn, 1) := dk_172 (dk_at dksX3_stockOf_0 18 rfl rfl)
abbrev cX3_orders : ByteArray := prog_22_method_95_code
def yX3_orders : MethodName := ⟨RX3, "orders", "()I"⟩
def dkwX3_orders_0 : List UInt8 := [42, 3, 181, 0, 54, 42, 180, 0, 7, 17, 1, 208, 46, 172]
abbrev dktX3_orders_0 : List UInt8 := dkwX3_orders_0 ++ []
theorem dksX3_orders_0 : cX3_orders.data.toList.drop 0 = dktX3_orders_0 := by decide +kernel
theorem dX3_orders_0 : decode cX3_orders 0 = .ok (.aload_n 0, 1) := dk_42 (dk_at dksX3_orders_0 0 rfl rfl)
theorem dX3_orders_1 : decode cX3_orders 1 = .ok (.iconst 0, 1) := dk_3 (dk_at dksX3_orders_0 1 rfl rfl)
theorem dX3_orders_2 : decode cX3_orders 2 = .ok (.putfield 54, 3) := dk_181 0 54 (dk_at dksX3_orders_0 2 rfl rfl)
theorem dX3_orders_5 : decode cX3_orders 5 = .ok (.aload_n 0, 1) := dk_42 (dk_at dksX3_orders_0 5 rfl rfl)
theorem dX3_orders_6 : decode cX3_orders 6 = .ok (.getfield 7, 3) := dk_180 0 7 (dk_at dksX3_orders_0 6 rfl rfl)
theorem dX3_orders_9 : decode cX3_orders 9 = .ok (.sipush 464, 3) := dk_17 1 208 (dk_at dksX3_orders_0 9 rfl rfl)
theorem dX3_orders_12 : decode cX3_orders 12 = .ok (.iaload, 1) := dk_46 (dk_at dksX3_orders_0 12 rfl rfl)
theorem dX3_orders_13 : decode cX3_orders 13 = .ok (.ireturn, 1) := dk_172 (dk_at dksX3_orders_0 13 rfl rfl)
abbrev cX3_wantedBy : ByteArray := prog_22_method_96_code
def yX3_wantedBy : MethodName := ⟨RX3, "wantedBy", "(I)I"⟩
def dkwX3_wantedBy_1 : List UInt8 := [181, 0, 54, 42, 180, 0, 54, 154, 0, 12, 42, 27, 5, 182, 0, 104, 167, 0, 4, 3, 172]
abbrev dktX3_wantedBy_1 : List UInt8 := dkwX3_wantedBy_1 ++ []
def dkwX3_wantedBy_0 : List UInt8 := [42, 27, 3, 42, 180, 0, 7, 17, 1, 208, 46, 4, 100, 184, 0, 148, 153, 0, 7, 3, 167, 0, 4, 4]
abbrev dktX3_wantedBy_0 : List UInt8 := dkwX3_wantedBy_0 ++ dktX3_wantedBy_1
theorem dksX3_wantedBy_0 : cX3_wantedBy.data.toList.drop 0 = dktX3_wantedBy_0 := by decide +kernel
theorem dksX3_wantedBy_1 : cX3_wantedBy.data.toList.drop 24 = dktX3_wantedBy_1 := dk_seg dksX3_wantedBy_0 24 rfl rfl
theorem dX3_wantedBy_0 : decode cX3_wantedBy 0 = .ok (.aload_n 0, 1) := dk_42 (dk_at dksX3_wantedBy_0 0 rfl rfl)
theorem dX3_wantedBy_1 : decode cX3_wantedBy 1 = .ok (.iload_n 1, 1) := dk_27 (dk_at dksX3_wantedBy_0 1 rfl rfl)
theorem dX3_wantedBy_2 : decode cX3_wantedBy 2 = .ok (.iconst 0, 1) := dk_3 (dk_at dksX3_wantedBy_0 2 rfl rfl)
theorem dX3_wantedBy_3 : decode cX3_wantedBy 3 = .ok (.aload_n 0, 1) := dk_42 (dk_at dksX3_wantedBy_0 3 rfl rfl)
theorem dX3_wantedBy_4 : decode cX3_wantedBy 4 = .ok (.getfield 7, 3) := dk_180 0 7 (dk_at dksX3_wantedBy_0 4 rfl rfl)
theorem dX3_wantedBy_7 : decode cX3_wantedBy 7 = .ok (.sipush 464, 3) := dk_17 1 208 (dk_at dksX3_wantedBy_0 7 rfl rfl)
theorem dX3_wantedBy_10 : decode cX3_wantedBy 10 = .ok (.iaload, 1) := dk_46 (dk_at dksX3_wantedBy_0 10 rfl rfl)
theorem dX3_wantedBy_11 : decode cX3_wantedBy 11 = .ok (.iconst 1, 1) := dk_4 (dk_at dksX3_wantedBy_0 11 rfl rfl)
theorem dX3_wantedBy_12 : decode cX3_wantedBy 12 = .ok (.isub, 1) := dk_100 (dk_at dksX3_wantedBy_0 12 rfl rfl)
theorem dX3_wantedBy_13 : decode cX3_wantedBy 13 = .ok (.invokestatic 148, 3) := dk_184 0 148 (dk_at dksX3_wantedBy_0 13 rfl rfl)
theorem dX3_wantedBy_16 : decode cX3_wantedBy 16 = .ok (.ifCond .eq 7, 3) := dk_153 0 7 (dk_at dksX3_wantedBy_0 16 rfl rfl)
theorem dX3_wantedBy_19 : decode cX3_wantedBy 19 = .ok (.iconst 0, 1) := dk_3 (dk_at dksX3_wantedBy_0 19 rfl rfl)
theorem dX3_wantedBy_20 : decode cX3_wantedBy 20 = .ok (.goto 4, 3) := dk_167 0 4 (dk_at dksX3_wantedBy_0 20 rfl rfl)
theorem dX3_wantedBy_23 : decode cX3_wantedBy 23 = .ok (.iconst 1, 1) := dk_4 (dk_at dksX3_wantedBy_0 23 rfl rfl)
theorem dX3_wantedBy_24 : decode cX3_wantedBy 24 = .ok (.putfield 54, 3) := dk_181 0 54 (dk_at dksX3_wantedBy_1 0 rfl rfl)
theorem dX3_wantedBy_27 : decode cX3_wantedBy 27 = .ok (.aload_n 0, 1) := dk_42 (dk_at dksX3_wantedBy_1 3 rfl rfl)
theorem dX3_wantedBy_28 : decode cX3_wantedBy 28 = .ok (.getfield 54, 3) := dk_180 0 54 (dk_at dksX3_wantedBy_1 4 rfl rfl)
theorem dX3_wantedBy_31 : decode cX3_wantedBy 31 = .ok (.ifCond .ne 12, 3) := dk_154 0 12 (dk_at dksX3_wantedBy_1 7 rfl rfl)
theorem dX3_wantedBy_34 : decode cX3_wantedBy 34 = .ok (.aload_n 0, 1) := dk_42 (dk_at dksX3_wantedBy_1 10 rfl rfl)
theorem dX3_wantedBy_35 : decode cX3_wantedBy 35 = .ok (.iload_n 1, 1) := dk_27 (dk_at dksX3_wantedBy_1 11 rfl rfl)
theorem dX3_wantedBy_36 : decode cX3_wantedBy 36 = .ok (.iconst 2, 1) := dk_5 (dk_at dksX3_wantedBy_1 12 rfl rfl)
theorem dX3_wantedBy_37 : decode cX3_wantedBy 37 = .ok (.invokevirtual 104, 3) := dk_182 0 104 (dk_at dksX3_wantedBy_1 13 rfl rfl)
theorem dX3_wantedBy_40 : decode cX3_wantedBy 40 = .ok (.goto 4, 3) := dk_167 0 4 (dk_at dksX3_wantedBy_1 16 rfl rfl)
theorem dX3_wantedBy_43 : decode cX3_wantedBy 43 = .ok (.iconst 0, 1) := dk_3 (dk_at dksX3_wantedBy_1 19 rfl rfl)
theorem dX3_wantedBy_44 : decode cX3_wantedBy 44 = .ok (.ireturn, 1) := dk_172 (dk_at dksX3_wantedBy_1 20 rfl rfl)
abbrev cX3_incomeOf : ByteArray := prog_22_method_97_code
def yX3_incomeOf : MethodName := ⟨RX3, "incomeOf", "(I)I"⟩
def dkwX3_incomeOf_0 : List UInt8 := [42, 27, 182, 0, 172, 153, 0, 12, 42, 27, 7, 182, 0, 69, 167, 0, 4, 3, 172]
abbrev dktX3_incomeOf_0 : List UInt8 := dkwX3_incomeOf_0 ++ []
theorem dksX3_incomeOf_0 : cX3_incomeOf.data.toList.drop 0 = dktX3_incomeOf_0 := by decide +kernel
theorem dX3_incomeOf_0 : decode cX3_incomeOf 0 = .ok (.aload_n 0, 1) := dk_42 (dk_at dksX3_incomeOf_0 0 rfl rfl)
theorem dX3_incomeOf_1 : decode cX3_incomeOf 1 = .ok (.iload_n 1, 1) := dk_27 (dk_at dksX3_incomeOf_0 1 rfl rfl)
theorem dX3_incomeOf_2 : decode cX3_incomeOf 2 = .ok (.invokevirtual 172, 3) := dk_182 0 172 (dk_at dksX3_incomeOf_0 2 rfl rfl)
theorem dX3_incomeOf_5 : decode cX3_incomeOf 5 = .ok (.ifCond .eq 12, 3) := dk_153 0 12 (dk_at dksX3_incomeOf_0 5 rfl rfl)
theorem dX3_incomeOf_8 : decode cX3_incomeOf 8 = .ok (.aload_n 0, 1) := dk_42 (dk_at dksX3_incomeOf_0 8 rfl rfl)
theorem dX3_incomeOf_9 : decode cX3_incomeOf 9 = .ok (.iload_n 1, 1) := dk_27 (dk_at dksX3_incomeOf_0 9 rfl rfl)
theorem dX3_incomeOf_10 : decode cX3_incomeOf 10 = .ok (.iconst 4, 1) := dk_7 (dk_at dksX3_incomeOf_0 10 rfl rfl)
theorem dX3_incomeOf_11 : decode cX3_incomeOf 11 = .ok (.invokevirtual 69, 3) := dk_182 0 69 (dk_at dksX3_incomeOf_0 11 rfl rfl)
theorem dX3_incomeOf_14 : decode cX3_incomeOf 14 = .ok (.goto 4, 3) := dk_167 0 4 (dk_at dksX3_incomeOf_0 14 rfl rfl)
theorem dX3_incomeOf_17 : decode cX3_incomeOf 17 = .ok (.iconst 0, 1) := dk_3 (dk_at dksX3_incomeOf_0 17 rfl rfl)
theorem dX3_incomeOf_18 : decode cX3_incomeOf 18 = .ok (.ireturn, 1) := dk_172 (dk_at dksX3_incomeOf_0 18 rfl rfl)
abbrev cX3_incomeByOrders : ByteArray := prog_22_method_98_code
def yX3_incomeByOrders : MethodName := ⟨RX3, "incomeByOrders", "()I"⟩
def dkwX3_incomeByOrders_1 : List UInt8 := [8, 182, 0, 104, 96, 60, 132, 2, 1, 167, 255, 232, 27, 172]
abbrev dktX3_incomeByOrders_1 : List UInt8 := dkwX3_incomeByOrders_1 ++ []
def dkwX3_incomeByOrders_0 : List UInt8 := [42, 3, 181, 0, 54, 3, 60, 3, 61, 28, 42, 180, 0, 7, 17, 1, 208, 46, 162, 0, 18, 27, 42, 28]
abbrev dktX3_incomeByOrders_0 : List UInt8 := dkwX3_incomeByOrders_0 ++ dktX3_incomeByOrders_1
theorem dksX3_incomeByOrders_0 : cX3_incomeByOrders.data.toList.drop 0 = dktX3_incomeByOrders_0 := by decide +kernel
theorem dksX3_incomeByOrders_1 : cX3_incomeByOrders.data.toList.drop 24 = dktX3_incomeByOrders_1 := dk_seg dksX3_incomeByOrders_0 24 rfl rfl
theorem dX3_incomeByOrders_0 : decode cX3_incomeByOrders 0 = .ok (.aload_n 0, 1) := dk_42 (dk_at dksX3_incomeByOrders_0 0 rfl rfl)
theorem dX3_incomeByOrders_1 : decode cX3_incomeByOrders 1 = .ok (.iconst 0, 1) := dk_3 (dk_at dksX3_incomeByOrders_0 1 rfl rfl)
theorem dX3_incomeByOrders_2 : decode cX3_incomeByOrders 2 = .ok (.putfield 54, 3) := dk_181 0 54 (dk_at dksX3_incomeByOrders_0 2 rfl rfl)
theorem dX3_incomeByOrders_5 : decode cX3_incomeByOrders 5 = .ok (.iconst 0, 1) := dk_3 (dk_at dksX3_incomeByOrders_0 5 rfl rfl)
theorem dX3_incomeByOrders_6 : decode cX3_incomeByOrders 6 = .ok (.istore_n 1, 1) := dk_60 (dk_at dksX3_incomeByOrders_0 6 rfl rfl)
theorem dX3_incomeByOrders_7 : decode cX3_incomeByOrders 7 = .ok (.iconst 0, 1) := dk_3 (dk_at dksX3_incomeByOrders_0 7 rfl rfl)
theorem dX3_incomeByOrders_8 : decode cX3_incomeByOrders 8 = .ok (.istore_n 2, 1) := dk_61 (dk_at dksX3_incomeByOrders_0 8 rfl rfl)
theorem dX3_incomeByOrders_9 : decode cX3_incomeByOrders 9 = .ok (.iload_n 2, 1) := dk_28 (dk_at dksX3_incomeByOrders_0 9 rfl rfl)
theorem dX3_incomeByOrders_10 : decode cX3_incomeByOrders 10 = .ok (.aload_n 0, 1) := dk_42 (dk_at dksX3_incomeByOrders_0 10 rfl rfl)
theorem dX3_incomeByOrders_11 : decode cX3_incomeByOrders 11 = .ok (.getfield 7, 3) := dk_180 0 7 (dk_at dksX3_incomeByOrders_0 11 rfl rfl)
theorem dX3_incomeByOrders_14 : decode cX3_incomeByOrders 14 = .ok (.sipush 464, 3) := dk_17 1 208 (dk_at dksX3_incomeByOrders_0 14 rfl rfl)
theorem dX3_incomeByOrders_17 : decode cX3_incomeByOrders 17 = .ok (.iaload, 1) := dk_46 (dk_at dksX3_incomeByOrders_0 17 rfl rfl)
theorem dX3_incomeByOrders_18 : decode cX3_incomeByOrders 18 = .ok (.if_icmp .ge 18, 3) := dk_162 0 18 (dk_at dksX3_incomeByOrders_0 18 rfl rfl)
theorem dX3_incomeByOrders_21 : decode cX3_incomeByOrders 21 = .ok (.iload_n 1, 1) := dk_27 (dk_at dksX3_incomeByOrders_0 21 rfl rfl)
theorem dX3_incomeByOrders_22 : decode cX3_incomeByOrders 22 = .ok (.aload_n 0, 1) := dk_42 (dk_at dksX3_incomeByOrders_0 22 rfl rfl)
theorem dX3_incomeByOrders_23 : decode cX3_incomeByOrders 23 = .ok (.iload_n 2, 1) := dk_28 (dk_at dksX3_incomeByOrders_0 23 rfl rfl)
theorem dX3_incomeByOrders_24 : decode cX3_incomeByOrders 24 = .ok (.iconst 5, 1) := dk_8 (dk_at dksX3_incomeByOrders_1 0 rfl rfl)
theorem dX3_incomeByOrders_25 : decode cX3_incomeByOrders 25 = .ok (.invokevirtual 104, 3) := dk_182 0 104 (dk_at dksX3_incomeByOrders_1 1 rfl rfl)
theorem dX3_incomeByOrders_28 : decode cX3_incomeByOrders 28 = .ok (.iadd, 1) := dk_96 (dk_at dksX3_incomeByOrders_1 4 rfl rfl)
theorem dX3_incomeByOrders_29 : decode cX3_incomeByOrders 29 = .ok (.istore_n 1, 1) := dk_60 (dk_at dksX3_incomeByOrders_1 5 rfl rfl)
theorem dX3_incomeByOrders_30 : decode cX3_incomeByOrders 30 = .ok (.iinc 2 1, 3) := dk_132 2 1 (dk_at dksX3_incomeByOrders_1 6 rfl rfl)
theorem dX3_incomeByOrders_33 : decode cX3_incomeByOrders 33 = .ok (.goto (-24), 3) := dk_167 255 232 (dk_at dksX3_incomeByOrders_1 9 rfl rfl)
theorem dX3_incomeByOrders_36 : decode cX3_incomeByOrders 36 = .ok (.iload_n 1, 1) := dk_27 (dk_at dksX3_incomeByOrders_1 12 rfl rfl)
theorem dX3_incomeByOrders_37 : decode cX3_incomeByOrders 37 = .ok (.ireturn, 1) := dk_172 (dk_at dksX3_incomeByOrders_1 13 rfl rfl)
abbrev cX3_incomeByLots : ByteArray := prog_22_method_100_code
def yX3_incomeByLots : MethodName := ⟨RX3, "incomeByLots", "()I"⟩
def dkwX3_incomeByLots_0 : List UInt8 := [42, 3, 181, 0, 54, 42, 182, 0, 221, 172]
abbrev dktX3_incomeByLots_0 : List UInt8 := dkwX3_incomeByLots_0 ++ []
theorem dksX3_incomeByLots_0 : cX3_incomeByLots.data.toList.drop 0 = dktX3_incomeByLots_0 := by decide +kernel
theorem dX3_incomeByLots_0 : decode cX3_incomeByLots 0 = .ok (.aload_n 0, 1) := dk_42 (dk_at dksX3_incomeByLots_0 0 rfl rfl)
theorem dX3_incomeByLots_1 : decode cX3_incomeByLots 1 = .ok (.iconst 0, 1) := dk_3 (dk_at dksX3_incomeByLots_0 1 rfl rfl)
theorem dX3_incomeByLots_2 : decode cX3_incomeByLots 2 = .ok (.putfield 54, 3) := dk_181 0 54 (dk_at dksX3_incomeByLots_0 2 rfl rfl)
theorem dX3_incomeByLots_5 : decode cX3_incomeByLots 5 = .ok (.aload_n 0, 1) := dk_42 (dk_at dksX3_incomeByLots_0 5 rfl rfl)
theorem dX3_incomeByLots_6 : decode cX3_incomeByLots 6 = .ok (.invokevirtual 221, 3) := dk_182 0 221 (dk_at dksX3_incomeByLots_0 6 rfl rfl)
theorem dX3_incomeByLots_9 : decode cX3_incomeByLots 9 = .ok (.ireturn, 1) := dk_172 (dk_at dksX3_incomeByLots_0 9 rfl rfl)
abbrev cX3_allIncome : ByteArray := prog_22_method_99_code
def yX3_allIncome : MethodName := ⟨RX3, "allIncome", "()I"⟩
def dkwX3_allIncome_1 : List UInt8 := [60, 132, 2, 1, 167, 255, 232, 27, 172]
abbrev dktX3_allIncome_1 : List UInt8 := dkwX3_allIncome_1 ++ []
def dkwX3_allIncome_0 : List UInt8 := [3, 60, 3, 61, 28, 42, 180, 0, 7, 17, 0, 163, 46, 162, 0, 18, 27, 42, 28, 7, 182, 0, 69, 96]
abbrev dktX3_allIncome_0 : List UInt8 := dkwX3_allIncome_0 ++ dktX3_allIncome_1
theorem dksX3_allIncome_0 : cX3_allIncome.data.toList.drop 0 = dktX3_allIncome_0 := by decide +kernel
theorem dksX3_allIncome_1 : cX3_allIncome.data.toList.drop 24 = dktX3_allIncome_1 := dk_seg dksX3_allIncome_0 24 rfl rfl
theorem dX3_allIncome_0 : decode cX3_allIncome 0 = .ok (.iconst 0, 1) := dk_3 (dk_at dksX3_allIncome_0 0 rfl rfl)
theorem dX3_allIncome_1 : decode cX3_allIncome 1 = .ok (.istore_n 1, 1) := dk_60 (dk_at dksX3_allIncome_0 1 rfl rfl)
theorem dX3_allIncome_2 : decode cX3_allIncome 2 = .ok (.iconst 0, 1) := dk_3 (dk_at dksX3_allIncome_0 2 rfl rfl)
theorem dX3_allIncome_3 : decode cX3_allIncome 3 = .ok (.istore_n 2, 1) := dk_61 (dk_at dksX3_allIncome_0 3 rfl rfl)
theorem dX3_allIncome_4 : decode cX3_allIncome 4 = .ok (.iload_n 2, 1) := dk_28 (dk_at dksX3_allIncome_0 4 rfl rfl)
theorem dX3_allIncome_5 : decode cX3_allIncome 5 = .ok (.aload_n 0, 1) := dk_42 (dk_at dksX3_allIncome_0 5 rfl rfl)
theorem dX3_allIncome_6 : decode cX3_allIncome 6 = .ok (.getfield 7, 3) := dk_180 0 7 (dk_at dksX3_allIncome_0 6 rfl rfl)
theorem dX3_allIncome_9 : decode cX3_allIncome 9 = .ok (.sipush 163, 3) := dk_17 0 163 (dk_at dksX3_allIncome_0 9 rfl rfl)
theorem dX3_allIncome_12 : decode cX3_allIncome 12 = .ok (.iaload, 1) := dk_46 (dk_at dksX3_allIncome_0 12 rfl rfl)
theorem dX3_allIncome_13 : decode cX3_allIncome 13 = .ok (.if_icmp .ge 18, 3) := dk_162 0 18 (dk_at dksX3_allIncome_0 13 rfl rfl)
theorem dX3_allIncome_16 : decode cX3_allIncome 16 = .ok (.iload_n 1, 1) := dk_27 (dk_at dksX3_allIncome_0 16 rfl rfl)
theorem dX3_allIncome_17 : decode cX3_allIncome 17 = .ok (.aload_n 0, 1) := dk_42 (dk_at dksX3_allIncome_0 17 rfl rfl)
theorem dX3_allIncome_18 : decode cX3_allIncome 18 = .ok (.iload_n 2, 1) := dk_28 (dk_at dksX3_allIncome_0 18 rfl rfl)
theorem dX3_allIncome_19 : decode cX3_allIncome 19 = .ok (.iconst 4, 1) := dk_7 (dk_at dksX3_allIncome_0 19 rfl rfl)
theorem dX3_allIncome_20 : decode cX3_allIncome 20 = .ok (.invokevirtual 69, 3) := dk_182 0 69 (dk_at dksX3_allIncome_0 20 rfl rfl)
theorem dX3_allIncome_23 : decode cX3_allIncome 23 = .ok (.iadd, 1) := dk_96 (dk_at dksX3_allIncome_0 23 rfl rfl)
theorem dX3_allIncome_24 : decode cX3_allIncome 24 = .ok (.istore_n 1, 1) := dk_60 (dk_at dksX3_allIncome_1 0 rfl rfl)
theorem dX3_allIncome_25 : decode cX3_allIncome 25 = .ok (.iinc 2 1, 3) := dk_132 2 1 (dk_at dksX3_allIncome_1 1 rfl rfl)
theorem dX3_allIncome_28 : decode cX3_allIncome 28 = .ok (.goto (-24), 3) := dk_167 255 232 (dk_at dksX3_allIncome_1 4 rfl rfl)
theorem dX3_allIncome_31 : decode cX3_allIncome 31 = .ok (.iload_n 1, 1) := dk_27 (dk_at dksX3_allIncome_1 7 rfl rfl)
theorem dX3_allIncome_32 : decode cX3_allIncome 32 = .ok (.ireturn, 1) := dk_172 (dk_at dksX3_allIncome_1 8 rfl rfl)
abbrev cX3_piecesByPlaces : ByteArray := prog_22_method_101_code
def yX3_piecesByPlaces : MethodName := ⟨RX3, "piecesByPlaces", "()I"⟩
def dkwX3_piecesByPlaces_1 : List UInt8 := [4, 167, 0, 4, 3, 96, 60, 132, 2, 1, 167, 255, 231, 27, 172]
abbrev dktX3_piecesByPlaces_1 : List UInt8 := dkwX3_piecesByPlaces_1 ++ []
def dkwX3_piecesByPlaces_0 : List UInt8 := [42, 3, 181, 0, 54, 3, 60, 3, 61, 28, 16, 24, 162, 0, 25, 27, 42, 28, 182, 0, 62, 153, 0, 7]
abbrev dktX3_piecesByPlaces_0 : List UInt8 := dkwX3_piecesByPlaces_0 ++ dktX3_piecesByPlaces_1
theorem dksX3_piecesByPlaces_0 : cX3_piecesByPlaces.data.toList.drop 0 = dktX3_piecesByPlaces_0 := by decide +kernel
theorem dksX3_piecesByPlaces_1 : cX3_piecesByPlaces.data.toList.drop 24 = dktX3_piecesByPlaces_1 := dk_seg dksX3_piecesByPlaces_0 24 rfl rfl
theorem dX3_piecesByPlaces_0 : decode cX3_piecesByPlaces 0 = .ok (.aload_n 0, 1) := dk_42 (dk_at dksX3_piecesByPlaces_0 0 rfl rfl)
theorem dX3_piecesByPlaces_1 : decode cX3_piecesByPlaces 1 = .ok (.iconst 0, 1) := dk_3 (dk_at dksX3_piecesByPlaces_0 1 rfl rfl)
theorem dX3_piecesByPlaces_2 : decode cX3_piecesByPlaces 2 = .ok (.putfield 54, 3) := dk_181 0 54 (dk_at dksX3_piecesByPlaces_0 2 rfl rfl)
theorem dX3_piecesByPlaces_5 : decode cX3_piecesByPlaces 5 = .ok (.iconst 0, 1) := dk_3 (dk_at dksX3_piecesByPlaces_0 5 rfl rfl)
theorem dX3_piecesByPlaces_6 : decode cX3_piecesByPlaces 6 = .ok (.istore_n 1, 1) := dk_60 (dk_at dksX3_piecesByPlaces_0 6 rfl rfl)
theorem dX3_piecesByPlaces_7 : decode cX3_piecesByPlaces 7 = .ok (.iconst 0, 1) := dk_3 (dk_at dksX3_piecesByPlaces_0 7 rfl rfl)
theorem dX3_piecesByPlaces_8 : decode cX3_piecesByPlaces 8 = .ok (.istore_n 2, 1) := dk_61 (dk_at dksX3_piecesByPlaces_0 8 rfl rfl)
theorem dX3_piecesByPlaces_9 : decode cX3_piecesByPlaces 9 = .ok (.iload_n 2, 1) := dk_28 (dk_at dksX3_piecesByPlaces_0 9 rfl rfl)
theorem dX3_piecesByPlaces_10 : decode cX3_piecesByPlaces 10 = .ok (.bipush 24, 2) := dk_16 24 (dk_at dksX3_piecesByPlaces_0 10 rfl rfl)
theorem dX3_piecesByPlaces_12 : decode cX3_piecesByPlaces 12 = .ok (.if_icmp .ge 25, 3) := dk_162 0 25 (dk_at dksX3_piecesByPlaces_0 12 rfl rfl)
theorem dX3_piecesByPlaces_15 : decode cX3_piecesByPlaces 15 = .ok (.iload_n 1, 1) := dk_27 (dk_at dksX3_piecesByPlaces_0 15 rfl rfl)
theorem dX3_piecesByPlaces_16 : decode cX3_piecesByPlaces 16 = .ok (.aload_n 0, 1) := dk_42 (dk_at dksX3_piecesByPlaces_0 16 rfl rfl)
theorem dX3_piecesByPlaces_17 : decode cX3_piecesByPlaces 17 = .ok (.iload_n 2, 1) := dk_28 (dk_at dksX3_piecesByPlaces_0 17 rfl rfl)
theorem dX3_piecesByPlaces_18 : decode cX3_piecesByPlaces 18 = .ok (.invokevirtual 62, 3) := dk_182 0 62 (dk_at dksX3_piecesByPlaces_0 18 rfl rfl)
theorem dX3_piecesByPlaces_21 : decode cX3_piecesByPlaces 21 = .ok (.ifCond .eq 7, 3) := dk_153 0 7 (dk_at dksX3_piecesByPlaces_0 21 rfl rfl)
theorem dX3_piecesByPlaces_24 : decode cX3_piecesByPlaces 24 = .ok (.iconst 1, 1) := dk_4 (dk_at dksX3_piecesByPlaces_1 0 rfl rfl)
theorem dX3_piecesByPlaces_25 : decode cX3_piecesByPlaces 25 = .ok (.goto 4, 3) := dk_167 0 4 (dk_at dksX3_piecesByPlaces_1 1 rfl rfl)
theorem dX3_piecesByPlaces_28 : decode cX3_piecesByPlaces 28 = .ok (.iconst 0, 1) := dk_3 (dk_at dksX3_piecesByPlaces_1 4 rfl rfl)
theorem dX3_piecesByPlaces_29 : decode cX3_piecesByPlaces 29 = .ok (.iadd, 1) := dk_96 (dk_at dksX3_piecesByPlaces_1 5 rfl rfl)
theorem dX3_piecesByPlaces_30 : decode cX3_piecesByPlaces 30 = .ok (.istore_n 1, 1) := dk_60 (dk_at dksX3_piecesByPlaces_1 6 rfl rfl)
theorem dX3_piecesByPlaces_31 : decode cX3_piecesByPlaces 31 = .ok (.iinc 2 1, 3) := dk_132 2 1 (dk_at dksX3_piecesByPlaces_1 7 rfl rfl)
theorem dX3_piecesByPlaces_34 : decode cX3_piecesByPlaces 34 = .ok (.goto (-25), 3) := dk_167 255 231 (dk_at dksX3_piecesByPlaces_1 10 rfl rfl)
theorem dX3_piecesByPlaces_37 : decode cX3_piecesByPlaces 37 = .ok (.iload_n 1, 1) := dk_27 (dk_at dksX3_piecesByPlaces_1 13 rfl rfl)
theorem dX3_piecesByPlaces_38 : decode cX3_piecesByPlaces 38 = .ok (.ireturn, 1) := dk_172 (dk_at dksX3_piecesByPlaces_1 14 rfl rfl)
abbrev cX3_piecesByLots : ByteArray := prog_22_method_102_code
def yX3_piecesByLots : MethodName := ⟨RX3, "piecesByLots", "()I"⟩
def dkwX3_piecesByLots_1 : List UInt8 := [3, 182, 0, 212, 96, 60, 132, 2, 1, 167, 255, 232, 27, 172]
abbrev dktX3_piecesByLots_1 : List UInt8 := dkwX3_piecesByLots_1 ++ []
def dkwX3_piecesByLots_0 : List UInt8 := [42, 3, 181, 0, 54, 3, 60, 3, 61, 28, 42, 180, 0, 7, 17, 0, 163, 46, 162, 0, 18, 27, 42, 28]
abbrev dktX3_piecesByLots_0 : List UInt8 := dkwX3_piecesByLots_0 ++ dktX3_piecesByLots_1
theorem dksX3_piecesByLots_0 : cX3_piecesByLots.data.toList.drop 0 = dktX3_piecesByLots_0 := by decide +kernel
theorem dksX3_piecesByLots_1 : cX3_piecesByLots.data.toList.drop 24 = dktX3_piecesByLots_1 := dk_seg dksX3_piecesByLots_0 24 rfl rfl
theorem dX3_piecesByLots_0 : decode cX3_piecesByLots 0 = .ok (.aload_n 0, 1) := dk_42 (dk_at dksX3_piecesByLots_0 0 rfl rfl)
theorem dX3_piecesByLots_1 : decode cX3_piecesByLots 1 = .ok (.iconst 0, 1) := dk_3 (dk_at dksX3_piecesByLots_0 1 rfl rfl)
theorem dX3_piecesByLots_2 : decode cX3_piecesByLots 2 = .ok (.putfield 54, 3) := dk_181 0 54 (dk_at dksX3_piecesByLots_0 2 rfl rfl)
theorem dX3_piecesByLots_5 : decode cX3_piecesByLots 5 = .ok (.iconst 0, 1) := dk_3 (dk_at dksX3_piecesByLots_0 5 rfl rfl)
theorem dX3_piecesByLots_6 : decode cX3_piecesByLots 6 = .ok (.istore_n 1, 1) := dk_60 (dk_at dksX3_piecesByLots_0 6 rfl rfl)
theorem dX3_piecesByLots_7 : decode cX3_piecesByLots 7 = .ok (.iconst 0, 1) := dk_3 (dk_at dksX3_piecesByLots_0 7 rfl rfl)
theorem dX3_piecesByLots_8 : decode cX3_piecesByLots 8 = .ok (.istore_n 2, 1) := dk_61 (dk_at dksX3_piecesByLots_0 8 rfl rfl)
theorem dX3_piecesByLots_9 : decode cX3_piecesByLots 9 = .ok (.iload_n 2, 1) := dk_28 (dk_at dksX3_piecesByLots_0 9 rfl rfl)
theorem dX3_piecesByLots_10 : decode cX3_piecesByLots 10 = .ok (.aload_n 0, 1) := dk_42 (dk_at dksX3_piecesByLots_0 10 rfl rfl)
theorem dX3_piecesByLots_11 : decode cX3_piecesByLots 11 = .ok (.getfield 7, 3) := dk_180 0 7 (dk_at dksX3_piecesByLots_0 11 rfl rfl)
theorem dX3_piecesByLots_14 : decode cX3_piecesByLots 14 = .ok (.sipush 163, 3) := dk_17 0 163 (dk_at dksX3_piecesByLots_0 14 rfl rfl)
theorem dX3_piecesByLots_17 : decode cX3_piecesByLots 17 = .ok (.iaload, 1) := dk_46 (dk_at dksX3_piecesByLots_0 17 rfl rfl)
theorem dX3_piecesByLots_18 : decode cX3_piecesByLots 18 = .ok (.if_icmp .ge 18, 3) := dk_162 0 18 (dk_at dksX3_piecesByLots_0 18 rfl rfl)
theorem dX3_piecesByLots_21 : decode cX3_piecesByLots 21 = .ok (.iload_n 1, 1) := dk_27 (dk_at dksX3_piecesByLots_0 21 rfl rfl)
theorem dX3_piecesByLots_22 : decode cX3_piecesByLots 22 = .ok (.aload_n 0, 1) := dk_42 (dk_at dksX3_piecesByLots_0 22 rfl rfl)
theorem dX3_piecesByLots_23 : decode cX3_piecesByLots 23 = .ok (.iload_n 2, 1) := dk_28 (dk_at dksX3_piecesByLots_0 23 rfl rfl)
theorem dX3_piecesByLots_24 : decode cX3_piecesByLots 24 = .ok (.iconst 0, 1) := dk_3 (dk_at dksX3_piecesByLots_1 0 rfl rfl)
theorem dX3_piecesByLots_25 : decode cX3_piecesByLots 25 = .ok (.invokevirtual 212, 3) := dk_182 0 212 (dk_at dksX3_piecesByLots_1 1 rfl rfl)
theorem dX3_piecesByLots_28 : decode cX3_piecesByLots 28 = .ok (.iadd, 1) := dk_96 (dk_at dksX3_piecesByLots_1 4 rfl rfl)
theorem dX3_piecesByLots_29 : decode cX3_piecesByLots 29 = .ok (.istore_n 1, 1) := dk_60 (dk_at dksX3_piecesByLots_1 5 rfl rfl)
theorem dX3_piecesByLots_30 : decode cX3_piecesByLots 30 = .ok (.iinc 2 1, 3) := dk_132 2 1 (dk_at dksX3_piecesByLots_1 6 rfl rfl)
theorem dX3_piecesByLots_33 : decode cX3_piecesByLots 33 = .ok (.goto (-24), 3) := dk_167 255 232 (dk_at dksX3_piecesByLots_1 9 rfl rfl)
theorem dX3_piecesByLots_36 : decode cX3_piecesByLots 36 = .ok (.iload_n 1, 1) := dk_27 (dk_at dksX3_piecesByLots_1 12 rfl rfl)
theorem dX3_piecesByLots_37 : decode cX3_piecesByLots 37 = .ok (.ireturn, 1) := dk_172 (dk_at dksX3_piecesByLots_1 13 rfl rfl)
abbrev cX3_piecesOfKind : ByteArray := prog_22_method_103_code
def yX3_piecesOfKind : MethodName := ⟨RX3, "piecesOfKind", "(II)I"⟩
def dkwX3_piecesOfKind_3 : List UInt8 := [182, 0, 212, 167, 0, 4, 3, 96, 62, 132, 4, 1, 167, 255, 208, 29, 172]
abbrev dktX3_piecesOfKind_3 : List UInt8 := dkwX3_piecesOfKind_3 ++ []
def dkwX3_piecesOfKind_2 : List UInt8 := [180, 0, 54, 154, 0, 34, 29, 42, 21, 4, 3, 182, 0, 69, 27, 160, 0, 13, 42, 21, 4, 28]
abbrev dktX3_piecesOfKind_2 : List UInt8 := dkwX3_piecesOfKind_2 ++ dktX3_piecesOfKind_3
def dkwX3_piecesOfKind_1 : List UInt8 := [181, 0, 54, 3, 62, 3, 54, 4, 21, 4, 42, 180, 0, 7, 17, 0, 163, 46, 162, 0, 41, 42]
abbrev dktX3_piecesOfKind_1 : List UInt8 := dkwX3_piecesOfKind_1 ++ dktX3_piecesOfKind_2
def dkwX3_piecesOfKind_0 : List UInt8 := [42, 27, 3, 5, 184, 0, 148, 153, 0, 16, 28, 3, 7, 184, 0, 148, 153, 0, 7, 3, 167, 0, 4, 4]
abbrev dktX3_piecesOfKind_0 : List UInt8 := dkwX3_piecesOfKind_0 ++ dktX3_piecesOfKind_1
theorem dksX3_piecesOfKind_0 : cX3_piecesOfKind.data.toList.drop 0 = dktX3_piecesOfKind_0 := by decide +kernel
theorem dksX3_piecesOfKind_1 : cX3_piecesOfKind.data.toList.drop 24 = dktX3_piecesOfKind_1 := dk_seg dksX3_piecesOfKind_0 24 rfl rfl
theorem dksX3_piecesOfKind_2 : cX3_piecesOfKind.data.toList.drop 46 = dktX3_piecesOfKind_2 := dk_seg dksX3_piecesOfKind_1 22 rfl rfl
theorem dksX3_piecesOfKind_3 : cX3_piecesOfKind.data.toList.drop 68 = dktX3_piecesOfKind_3 := dk_seg dksX3_piecesOfKind_2 22 rfl rfl
theorem dX3_piecesOfKind_0 : decode cX3_piecesOfKind 0 = .ok (.aload_n 0, 1) := dk_42 (dk_at dksX3_piecesOfKind_0 0 rfl rfl)
theorem dX3_piecesOfKind_1 : decode cX3_piecesOfKind 1 = .ok (.iload_n 1, 1) := dk_27 (dk_at dksX3_piecesOfKind_0 1 rfl rfl)
theorem dX3_piecesOfKind_2 : decode cX3_piecesOfKind 2 = .ok (.iconst 0, 1) := dk_3 (dk_at dksX3_piecesOfKind_0 2 rfl rfl)
theorem dX3_piecesOfKind_3 : decode cX3_piecesOfKind 3 = .ok (.iconst 2, 1) := dk_5 (dk_at dksX3_piecesOfKind_0 3 rfl rfl)
theorem dX3_piecesOfKind_4 : decode cX3_piecesOfKind 4 = .ok (.invokestatic 148, 3) := dk_184 0 148 (dk_at dksX3_piecesOfKind_0 4 rfl rfl)
theorem dX3_piecesOfKind_7 : decode cX3_piecesOfKind 7 = .ok (.ifCond .eq 16, 3) := dk_153 0 16 (dk_at dksX3_piecesOfKind_0 7 rfl rfl)
theorem dX3_piecesOfKind_10 : decode cX3_piecesOfKind 10 = .ok (.iload_n 2, 1) := dk_28 (dk_at dksX3_piecesOfKind_0 10 rfl rfl)
theorem dX3_piecesOfKind_11 : decode cX3_piecesOfKind 11 = .ok (.iconst 0, 1) := dk_3 (dk_at dksX3_piecesOfKind_0 11 rfl rfl)
theorem dX3_piecesOfKind_12 : decode cX3_piecesOfKind 12 = .ok (.iconst 4, 1) := dk_7 (dk_at dksX3_piecesOfKind_0 12 rfl rfl)
theorem dX3_piecesOfKind_13 : decode cX3_piecesOfKind 13 = .ok (.invokestatic 148, 3) := dk_184 0 148 (dk_at dksX3_piecesOfKind_0 13 rfl rfl)
theorem dX3_piecesOfKind_16 : decode cX3_piecesOfKind 16 = .ok (.ifCond .eq 7, 3) := dk_153 0 7 (dk_at dksX3_piecesOfKind_0 16 rfl rfl)
theorem dX3_piecesOfKind_19 : decode cX3_piecesOfKind 19 = .ok (.iconst 0, 1) := dk_3 (dk_at dksX3_piecesOfKind_0 19 rfl rfl)
theorem dX3_piecesOfKind_20 : decode cX3_piecesOfKind 20 = .ok (.goto 4, 3) := dk_167 0 4 (dk_at dksX3_piecesOfKind_0 20 rfl rfl)
theorem dX3_piecesOfKind_23 : decode cX3_piecesOfKind 23 = .ok (.iconst 1, 1) := dk_4 (dk_at dksX3_piecesOfKind_0 23 rfl rfl)
theorem dX3_piecesOfKind_24 : decode cX3_piecesOfKind 24 = .ok (.putfield 54, 3) := dk_181 0 54 (dk_at dksX3_piecesOfKind_1 0 rfl rfl)
theorem dX3_piecesOfKind_27 : decode cX3_piecesOfKind 27 = .ok (.iconst 0, 1) := dk_3 (dk_at dksX3_piecesOfKind_1 3 rfl rfl)
theorem dX3_piecesOfKind_28 : decode cX3_piecesOfKind 28 = .ok (.istore_n 3, 1) := dk_62 (dk_at dksX3_piecesOfKind_1 4 rfl rfl)
theorem dX3_piecesOfKind_29 : decode cX3_piecesOfKind 29 = .ok (.iconst 0, 1) := dk_3 (dk_at dksX3_piecesOfKind_1 5 rfl rfl)
theorem dX3_piecesOfKind_30 : decode cX3_piecesOfKind 30 = .ok (.istore 4, 2) := dk_54 4 (dk_at dksX3_piecesOfKind_1 6 rfl rfl)
theorem dX3_piecesOfKind_32 : decode cX3_piecesOfKind 32 = .ok (.iload 4, 2) := dk_21 4 (dk_at dksX3_piecesOfKind_1 8 rfl rfl)
theorem dX3_piecesOfKind_34 : decode cX3_piecesOfKind 34 = .ok (.aload_n 0, 1) := dk_42 (dk_at dksX3_piecesOfKind_1 10 rfl rfl)
theorem dX3_piecesOfKind_35 : decode cX3_piecesOfKind 35 = .ok (.getfield 7, 3) := dk_180 0 7 (dk_at dksX3_piecesOfKind_1 11 rfl rfl)
theorem dX3_piecesOfKind_38 : decode cX3_piecesOfKind 38 = .ok (.sipush 163, 3) := dk_17 0 163 (dk_at dksX3_piecesOfKind_1 14 rfl rfl)
theorem dX3_piecesOfKind_41 : decode cX3_piecesOfKind 41 = .ok (.iaload, 1) := dk_46 (dk_at dksX3_piecesOfKind_1 17 rfl rfl)
theorem dX3_piecesOfKind_42 : decode cX3_piecesOfKind 42 = .ok (.if_icmp .ge 41, 3) := dk_162 0 41 (dk_at dksX3_piecesOfKind_1 18 rfl rfl)
theorem dX3_piecesOfKind_45 : decode cX3_piecesOfKind 45 = .ok (.aload_n 0, 1) := dk_42 (dk_at dksX3_piecesOfKind_1 21 rfl rfl)
theorem dX3_piecesOfKind_46 : decode cX3_piecesOfKind 46 = .ok (.getfield 54, 3) := dk_180 0 54 (dk_at dksX3_piecesOfKind_2 0 rfl rfl)
theorem dX3_piecesOfKind_49 : decode cX3_piecesOfKind 49 = .ok (.ifCond .ne 34, 3) := dk_154 0 34 (dk_at dksX3_piecesOfKind_2 3 rfl rfl)
theorem dX3_piecesOfKind_52 : decode cX3_piecesOfKind 52 = .ok (.iload_n 3, 1) := dk_29 (dk_at dksX3_piecesOfKind_2 6 rfl rfl)
theorem dX3_piecesOfKind_53 : decode cX3_piecesOfKind 53 = .ok (.aload_n 0, 1) := dk_42 (dk_at dksX3_piecesOfKind_2 7 rfl rfl)
theorem dX3_piecesOfKind_54 : decode cX3_piecesOfKind 54 = .ok (.iload 4, 2) := dk_21 4 (dk_at dksX3_piecesOfKind_2 8 rfl rfl)
theorem dX3_piecesOfKind_56 : decode cX3_piecesOfKind 56 = .ok (.iconst 0, 1) := dk_3 (dk_at dksX3_piecesOfKind_2 10 rfl rfl)
theorem dX3_piecesOfKind_57 : decode cX3_piecesOfKind 57 = .ok (.invokevirtual 69, 3) := dk_182 0 69 (dk_at dksX3_piecesOfKind_2 11 rfl rfl)
theorem dX3_piecesOfKind_60 : decode cX3_piecesOfKind 60 = .ok (.iload_n 1, 1) := dk_27 (dk_at dksX3_piecesOfKind_2 14 rfl rfl)
theorem dX3_piecesOfKind_61 : decode cX3_piecesOfKind 61 = .ok (.if_icmp .ne 13, 3) := dk_160 0 13 (dk_at dksX3_piecesOfKind_2 15 rfl rfl)
theorem dX3_piecesOfKind_64 : decode cX3_piecesOfKind 64 = .ok (.aload_n 0, 1) := dk_42 (dk_at dksX3_piecesOfKind_2 18 rfl rfl)
theorem dX3_piecesOfKind_65 : decode cX3_piecesOfKind 65 = .ok (.iload 4, 2) := dk_21 4 (dk_at dksX3_piecesOfKind_2 19 rfl rfl)
theorem dX3_piecesOfKind_67 : decode cX3_piecesOfKind 67 = .ok (.iload_n 2, 1) := dk_28 (dk_at dksX3_piecesOfKind_2 21 rfl rfl)
theorem dX3_piecesOfKind_68 : decode cX3_piecesOfKind 68 = .ok (.invokevirtual 212, 3) := dk_182 0 212 (dk_at dksX3_piecesOfKind_3 0 rfl rfl)
theorem dX3_piecesOfKind_71 : decode cX3_piecesOfKind 71 = .ok (.goto 4, 3) := dk_167 0 4 (dk_at dksX3_piecesOfKind_3 3 rfl rfl)
theorem dX3_piecesOfKind_74 : decode cX3_piecesOfKind 74 = .ok (.iconst 0, 1) := dk_3 (dk_at dksX3_piecesOfKind_3 6 rfl rfl)
theorem dX3_piecesOfKind_75 : decode cX3_piecesOfKind 75 = .ok (.iadd, 1) := dk_96 (dk_at dksX3_piecesOfKind_3 7 rfl rfl)
theorem dX3_piecesOfKind_76 : decode cX3_piecesOfKind 76 = .ok (.istore_n 3, 1) := dk_62 (dk_at dksX3_piecesOfKind_3 8 rfl rfl)
theorem dX3_piecesOfKind_77 : decode cX3_piecesOfKind 77 = .ok (.iinc 4 1, 3) := dk_132 4 1 (dk_at dksX3_piecesOfKind_3 9 rfl rfl)
theorem dX3_piecesOfKind_80 : decode cX3_piecesOfKind 80 = .ok (.goto (-48), 3) := dk_167 255 208 (dk_at dksX3_piecesOfKind_3 12 rfl rfl)
theorem dX3_piecesOfKind_83 : decode cX3_piecesOfKind 83 = .ok (.iload_n 3, 1) := dk_29 (dk_at dksX3_piecesOfKind_3 15 rfl rfl)
theorem dX3_piecesOfKind_84 : decode cX3_piecesOfKind 84 = .ok (.ireturn, 1) := dk_172 (dk_at dksX3_piecesOfKind_3 16 rfl rfl)
abbrev cX3_greatestStress : ByteArray := prog_22_method_104_code
def yX3_greatestStress : MethodName := ⟨RX3, "greatestStress", "()F"⟩
def dkwX3_greatestStress_2 : List UInt8 := [167, 255, 217, 35, 174]
abbrev dktX3_greatestStress_2 : List UInt8 := dkwX3_greatestStress_2 ++ []
def dkwX3_greatestStress_1 : List UInt8 := [180, 0, 13, 28, 48, 35, 149, 158, 0, 12, 42, 180, 0, 13, 28, 48, 167, 0, 4, 35, 68, 132, 2, 1]
abbrev dktX3_greatestStress_1 : List UInt8 := dkwX3_greatestStress_1 ++ dktX3_greatestStress_2
def dkwX3_greatestStress_0 : List UInt8 := [42, 3, 181, 0, 54, 11, 68, 3, 61, 28, 16, 24, 162, 0, 39, 42, 28, 182, 0, 62, 153, 0, 23, 42]
abbrev dktX3_greatestStress_0 : List UInt8 := dkwX3_greatestStress_0 ++ dktX3_greatestStress_1
theorem dksX3_greatestStress_0 : cX3_greatestStress.data.toList.drop 0 = dktX3_greatestStress_0 := by decide +kernel
theorem dksX3_greatestStress_1 : cX3_greatestStress.data.toList.drop 24 = dktX3_greatestStress_1 := dk_seg dksX3_greatestStress_0 24 rfl rfl
theorem dksX3_greatestStress_2 : cX3_greatestStress.data.toList.drop 48 = dktX3_greatestStress_2 := dk_seg dksX3_greatestStress_1 24 rfl rfl
theorem dX3_greatestStress_0 : decode cX3_greatestStress 0 = .ok (.aload_n 0, 1) := dk_42 (dk_at dksX3_greatestStress_0 0 rfl rfl)
theorem dX3_greatestStress_1 : decode cX3_greatestStress 1 = .ok (.iconst 0, 1) := dk_3 (dk_at dksX3_greatestStress_0 1 rfl rfl)
theorem dX3_greatestStress_2 : decode cX3_greatestStress 2 = .ok (.putfield 54, 3) := dk_181 0 54 (dk_at dksX3_greatestStress_0 2 rfl rfl)
theorem dX3_greatestStress_5 : decode cX3_greatestStress 5 = .ok (.fconst 0, 1) := dk_11 (dk_at dksX3_greatestStress_0 5 rfl rfl)
theorem dX3_greatestStress_6 : decode cX3_greatestStress 6 = .ok (.fstore_n 1, 1) := dk_68 (dk_at dksX3_greatestStress_0 6 rfl rfl)
theorem dX3_greatestStress_7 : decode cX3_greatestStress 7 = .ok (.iconst 0, 1) := dk_3 (dk_at dksX3_greatestStress_0 7 rfl rfl)
theorem dX3_greatestStress_8 : decode cX3_greatestStress 8 = .ok (.istore_n 2, 1) := dk_61 (dk_at dksX3_greatestStress_0 8 rfl rfl)
theorem dX3_greatestStress_9 : decode cX3_greatestStress 9 = .ok (.iload_n 2, 1) := dk_28 (dk_at dksX3_greatestStress_0 9 rfl rfl)
theorem dX3_greatestStress_10 : decode cX3_greatestStress 10 = .ok (.bipush 24, 2) := dk_16 24 (dk_at dksX3_greatestStress_0 10 rfl rfl)
theorem dX3_greatestStress_12 : decode cX3_greatestStress 12 = .ok (.if_icmp .ge 39, 3) := dk_162 0 39 (dk_at dksX3_greatestStress_0 12 rfl rfl)
theorem dX3_greatestStress_15 : decode cX3_greatestStress 15 = .ok (.aload_n 0, 1) := dk_42 (dk_at dksX3_greatestStress_0 15 rfl rfl)
theorem dX3_greatestStress_16 : decode cX3_greatestStress 16 = .ok (.iload_n 2, 1) := dk_28 (dk_at dksX3_greatestStress_0 16 rfl rfl)
theorem dX3_greatestStress_17 : decode cX3_greatestStress 17 = .ok (.invokevirtual 62, 3) := dk_182 0 62 (dk_at dksX3_greatestStress_0 17 rfl rfl)
theorem dX3_greatestStress_20 : decode cX3_greatestStress 20 = .ok (.ifCond .eq 23, 3) := dk_153 0 23 (dk_at dksX3_greatestStress_0 20 rfl rfl)
theorem dX3_greatestStress_23 : decode cX3_greatestStress 23 = .ok (.aload_n 0, 1) := dk_42 (dk_at dksX3_greatestStress_0 23 rfl rfl)
theorem dX3_greatestStress_24 : decode cX3_greatestStress 24 = .ok (.getfield 13, 3) := dk_180 0 13 (dk_at dksX3_greatestStress_1 0 rfl rfl)
theorem dX3_greatestStress_27 : decode cX3_greatestStress 27 = .ok (.iload_n 2, 1) := dk_28 (dk_at dksX3_greatestStress_1 3 rfl rfl)
theorem dX3_greatestStress_28 : decode cX3_greatestStress 28 = .ok (.faload, 1) := dk_48 (dk_at dksX3_greatestStress_1 4 rfl rfl)
theorem dX3_greatestStress_29 : decode cX3_greatestStress 29 = .ok (.fload_n 1, 1) := dk_35 (dk_at dksX3_greatestStress_1 5 rfl rfl)
theorem dX3_greatestStress_30 : decode cX3_greatestStress 30 = .ok (.fcmp .l, 1) := dk_149 (dk_at dksX3_greatestStress_1 6 rfl rfl)
theorem dX3_greatestStress_31 : decode cX3_greatestStress 31 = .ok (.ifCond .le 12, 3) := dk_158 0 12 (dk_at dksX3_greatestStress_1 7 rfl rfl)
theorem dX3_greatestStress_34 : decode cX3_greatestStress 34 = .ok (.aload_n 0, 1) := dk_42 (dk_at dksX3_greatestStress_1 10 rfl rfl)
theorem dX3_greatestStress_35 : decode cX3_greatestStress 35 = .ok (.getfield 13, 3) := dk_180 0 13 (dk_at dksX3_greatestStress_1 11 rfl rfl)
theorem dX3_greatestStress_38 : decode cX3_greatestStress 38 = .ok (.iload_n 2, 1) := dk_28 (dk_at dksX3_greatestStress_1 14 rfl rfl)
theorem dX3_greatestStress_39 : decode cX3_greatestStress 39 = .ok (.faload, 1) := dk_48 (dk_at dksX3_greatestStress_1 15 rfl rfl)
theorem dX3_greatestStress_40 : decode cX3_greatestStress 40 = .ok (.goto 4, 3) := dk_167 0 4 (dk_at dksX3_greatestStress_1 16 rfl rfl)
theorem dX3_greatestStress_43 : decode cX3_greatestStress 43 = .ok (.fload_n 1, 1) := dk_35 (dk_at dksX3_greatestStress_1 19 rfl rfl)
theorem dX3_greatestStress_44 : decode cX3_greatestStress 44 = .ok (.fstore_n 1, 1) := dk_68 (dk_at dksX3_greatestStress_1 20 rfl rfl)
theorem dX3_greatestStress_45 : decode cX3_greatestStress 45 = .ok (.iinc 2 1, 3) := dk_132 2 1 (dk_at dksX3_greatestStress_1 21 rfl rfl)
theorem dX3_greatestStress_48 : decode cX3_greatestStress 48 = .ok (.goto (-39), 3) := dk_167 255 217 (dk_at dksX3_greatestStress_2 0 rfl rfl)
theorem dX3_greatestStress_51 : decode cX3_greatestStress 51 = .ok (.fload_n 1, 1) := dk_35 (dk_at dksX3_greatestStress_2 3 rfl rfl)
theorem dX3_greatestStress_52 : decode cX3_greatestStress 52 = .ok (.freturn, 1) := dk_174 (dk_at dksX3_greatestStress_2 4 rfl rfl)
abbrev cX3_meanStress : ByteArray := prog_22_method_105_code
def yX3_meanStress : MethodName := ⟨RX3, "meanStress", "()D"⟩
def dkwX3_meanStress_3 : List UInt8 := [167, 0, 7, 39, 29, 135, 111, 175]
abbrev dktX3_meanStress_3 : List UInt8 := dkwX3_meanStress_3 ++ []
def dkwX3_meanStress_2 : List UInt8 := [182, 0, 62, 153, 0, 7, 4, 167, 0, 4, 3, 96, 62, 132, 4, 1, 167, 255, 205, 29, 154, 0, 7, 14]
abbrev dktX3_meanStress_2 : List UInt8 := dkwX3_meanStress_2 ++ dktX3_meanStress_3
def dkwX3_meanStress_1 : List UInt8 := [182, 0, 62, 153, 0, 14, 42, 180, 0, 13, 21, 4, 48, 141, 167, 0, 4, 14, 99, 72, 29, 42, 21, 4]
abbrev dktX3_meanStress_1 : List UInt8 := dkwX3_meanStress_1 ++ dktX3_meanStress_2
def dkwX3_meanStress_0 : List UInt8 := [42, 3, 181, 0, 54, 14, 72, 3, 62, 3, 54, 4, 21, 4, 16, 24, 162, 0, 50, 39, 42, 21, 4]
abbrev dktX3_meanStress_0 : List UInt8 := dkwX3_meanStress_0 ++ dktX3_meanStress_1
theorem dksX3_meanStress_0 : cX3_meanStress.data.toList.drop 0 = dktX3_meanStress_0 := by decide +kernel
theorem dksX3_meanStress_1 : cX3_meanStress.data.toList.drop 23 = dktX3_meanStress_1 := dk_seg dksX3_meanStress_0 23 rfl rfl
theorem dksX3_meanStress_2 : cX3_meanStress.data.toList.drop 47 = dktX3_meanStress_2 := dk_seg dksX3_meanStress_1 24 rfl rfl
theorem dksX3_meanStress_3 : cX3_meanStress.data.toList.drop 71 = dktX3_meanStress_3 := dk_seg dksX3_meanStress_2 24 rfl rfl
theorem dX3_meanStress_0 : decode cX3_meanStress 0 = .ok (.aload_n 0, 1) := dk_42 (dk_at dksX3_meanStress_0 0 rfl rfl)
theorem dX3_meanStress_1 : decode cX3_meanStress 1 = .ok (.iconst 0, 1) := dk_3 (dk_at dksX3_meanStress_0 1 rfl rfl)
theorem dX3_meanStress_2 : decode cX3_meanStress 2 = .ok (.putfield 54, 3) := dk_181 0 54 (dk_at dksX3_meanStress_0 2 rfl rfl)
theorem dX3_meanStress_5 : decode cX3_meanStress 5 = .ok (.dconst 0, 1) := dk_14 (dk_at dksX3_meanStress_0 5 rfl rfl)
theorem dX3_meanStress_6 : decode cX3_meanStress 6 = .ok (.dstore_n 1, 1) := dk_72 (dk_at dksX3_meanStress_0 6 rfl rfl)
theorem dX3_meanStress_7 : decode cX3_meanStress 7 = .ok (.iconst 0, 1) := dk_3 (dk_at dksX3_meanStress_0 7 rfl rfl)
theorem dX3_meanStress_8 : decode cX3_meanStress 8 = .ok (.istore_n 3, 1) := dk_62 (dk_at dksX3_meanStress_0 8 rfl rfl)
theorem dX3_meanStress_9 : decode cX3_meanStress 9 = .ok (.iconst 0, 1) := dk_3 (dk_at dksX3_meanStress_0 9 rfl rfl)
theorem dX3_meanStress_10 : decode cX3_meanStress 10 = .ok (.istore 4, 2) := dk_54 4 (dk_at dksX3_meanStress_0 10 rfl rfl)
theorem dX3_meanStress_12 : decode cX3_meanStress 12 = .ok (.iload 4, 2) := dk_21 4 (dk_at dksX3_meanStress_0 12 rfl rfl)
theorem dX3_meanStress_14 : decode cX3_meanStress 14 = .ok (.bipush 24, 2) := dk_16 24 (dk_at dksX3_meanStress_0 14 rfl rfl)
theorem dX3_meanStress_16 : decode cX3_meanStress 16 = .ok (.if_icmp .ge 50, 3) := dk_162 0 50 (dk_at dksX3_meanStress_0 16 rfl rfl)
theorem dX3_meanStress_19 : decode cX3_meanStress 19 = .ok (.dload_n 1, 1) := dk_39 (dk_at dksX3_meanStress_0 19 rfl rfl)
theorem dX3_meanStress_20 : decode cX3_meanStress 20 = .ok (.aload_n 0, 1) := dk_42 (dk_at dksX3_meanStress_0 20 rfl rfl)
theorem dX3_meanStress_21 : decode cX3_meanStress 21 = .ok (.iload 4, 2) := dk_21 4 (dk_at dksX3_meanStress_0 21 rfl rfl)
theorem dX3_meanStress_23 : decode cX3_meanStress 23 = .ok (.invokevirtual 62, 3) := dk_182 0 62 (dk_at dksX3_meanStress_1 0 rfl rfl)
theorem dX3_meanStress_26 : decode cX3_meanStress 26 = .ok (.ifCond .eq 14, 3) := dk_153 0 14 (dk_at dksX3_meanStress_1 3 rfl rfl)
theorem dX3_meanStress_29 : decode cX3_meanStress 29 = .ok (.aload_n 0, 1) := dk_42 (dk_at dksX3_meanStress_1 6 rfl rfl)
theorem dX3_meanStress_30 : decode cX3_meanStress 30 = .ok (.getfield 13, 3) := dk_180 0 13 (dk_at dksX3_meanStress_1 7 rfl rfl)
theorem dX3_meanStress_33 : decode cX3_meanStress 33 = .ok (.iload 4, 2) := dk_21 4 (dk_at dksX3_meanStress_1 10 rfl rfl)
theorem dX3_meanStress_35 : decode cX3_meanStress 35 = .ok (.faload, 1) := dk_48 (dk_at dksX3_meanStress_1 12 rfl rfl)
theorem dX3_meanStress_36 : decode cX3_meanStress 36 = .ok (.f2d, 1) := dk_141 (dk_at dksX3_meanStress_1 13 rfl rfl)
theorem dX3_meanStress_37 : decode cX3_meanStress 37 = .ok (.goto 4, 3) := dk_167 0 4 (dk_at dksX3_meanStress_1 14 rfl rfl)
theorem dX3_meanStress_40 : decode cX3_meanStress 40 = .ok (.dconst 0, 1) := dk_14 (dk_at dksX3_meanStress_1 17 rfl rfl)
theorem dX3_meanStress_41 : decode cX3_meanStress 41 = .ok (.dadd, 1) := dk_99 (dk_at dksX3_meanStress_1 18 rfl rfl)
theorem dX3_meanStress_42 : decode cX3_meanStress 42 = .ok (.dstore_n 1, 1) := dk_72 (dk_at dksX3_meanStress_1 19 rfl rfl)
theorem dX3_meanStress_43 : decode cX3_meanStress 43 = .ok (.iload_n 3, 1) := dk_29 (dk_at dksX3_meanStress_1 20 rfl rfl)
theorem dX3_meanStress_44 : decode cX3_meanStress 44 = .ok (.aload_n 0, 1) := dk_42 (dk_at dksX3_meanStress_1 21 rfl rfl)
theorem dX3_meanStress_45 : decode cX3_meanStress 45 = .ok (.iload 4, 2) := dk_21 4 (dk_at dksX3_meanStress_1 22 rfl rfl)
theorem dX3_meanStress_47 : decode cX3_meanStress 47 = .ok (.invokevirtual 62, 3) := dk_182 0 62 (dk_at dksX3_meanStress_2 0 rfl rfl)
theorem dX3_meanStress_50 : decode cX3_meanStress 50 = .ok (.ifCond .eq 7, 3) := dk_153 0 7 (dk_at dksX3_meanStress_2 3 rfl rfl)
theorem dX3_meanStress_53 : decode cX3_meanStress 53 = .ok (.iconst 1, 1) := dk_4 (dk_at dksX3_meanStress_2 6 rfl rfl)
theorem dX3_meanStress_54 : decode cX3_meanStress 54 = .ok (.goto 4, 3) := dk_167 0 4 (dk_at dksX3_meanStress_2 7 rfl rfl)
theorem dX3_meanStress_57 : decode cX3_meanStress 57 = .ok (.iconst 0, 1) := dk_3 (dk_at dksX3_meanStress_2 10 rfl rfl)
theorem dX3_meanStress_58 : decode cX3_meanStress 58 = .ok (.iadd, 1) := dk_96 (dk_at dksX3_meanStress_2 11 rfl rfl)
theorem dX3_meanStress_59 : decode cX3_meanStress 59 = .ok (.istore_n 3, 1) := dk_62 (dk_at dksX3_meanStress_2 12 rfl rfl)
theorem dX3_meanStress_60 : decode cX3_meanStress 60 = .ok (.iinc 4 1, 3) := dk_132 4 1 (dk_at dksX3_meanStress_2 13 rfl rfl)
theorem dX3_meanStress_63 : decode cX3_meanStress 63 = .ok (.goto (-51), 3) := dk_167 255 205 (dk_at dksX3_meanStress_2 16 rfl rfl)
theorem dX3_meanStress_66 : decode cX3_meanStress 66 = .ok (.iload_n 3, 1) := dk_29 (dk_at dksX3_meanStress_2 19 rfl rfl)
theorem dX3_meanStress_67 : decode cX3_meanStress 67 = .ok (.ifCond .ne 7, 3) := dk_154 0 7 (dk_at dksX3_meanStress_2 20 rfl rfl)
theorem dX3_meanStress_70 : decode cX3_meanStress 70 = .ok (.dconst 0, 1) := dk_14 (dk_at dksX3_meanStress_2 23 rfl rfl)
theorem dX3_meanStress_71 : decode cX3_meanStress 71 = .ok (.goto 7, 3) := dk_167 0 7 (dk_at dksX3_meanStress_3 0 rfl rfl)
theorem dX3_meanStress_74 : decode cX3_meanStress 74 = .ok (.dload_n 1, 1) := dk_39 (dk_at dksX3_meanStress_3 3 rfl rfl)
theorem dX3_meanStress_75 : decode cX3_meanStress 75 = .ok (.iload_n 3, 1) := dk_29 (dk_at dksX3_meanStress_3 4 rfl rfl)
theorem dX3_meanStress_76 : decode cX3_meanStress 76 = .ok (.i2d, 1) := dk_135 (dk_at dksX3_meanStress_3 5 rfl rfl)
theorem dX3_meanStress_77 : decode cX3_meanStress 77 = .ok (.ddiv, 1) := dk_111 (dk_at dksX3_meanStress_3 6 rfl rfl)
theorem dX3_meanStress_78 : decode cX3_meanStress 78 = .ok (.dreturn, 1) := dk_175 (dk_at dksX3_meanStress_3 7 rfl rfl)
abbrev cX3_brokenIn : ByteArray := prog_22_method_106_code
def yX3_brokenIn : MethodName := ⟨RX3, "brokenIn", "(I)I"⟩
def dkwX3_brokenIn_1 : List UInt8 := [182, 0, 224, 42, 27, 182, 0, 194, 61, 42, 182, 0, 227, 42, 180, 0, 136, 172]
abbrev dktX3_brokenIn_1 : List UInt8 := dkwX3_brokenIn_1 ++ []
def dkwX3_brokenIn_0 : List UInt8 := [42, 3, 181, 0, 54, 27, 4, 16, 120, 184, 0, 148, 154, 0, 9, 42, 4, 182, 0, 155, 172, 42]
abbrev dktX3_brokenIn_0 : List UInt8 := dkwX3_brokenIn_0 ++ dktX3_brokenIn_1
theorem dksX3_brokenIn_0 : cX3_brokenIn.data.toList.drop 0 = dktX3_brokenIn_0 := by decide +kernel
theorem dksX3_brokenIn_1 : cX3_brokenIn.data.toList.drop 22 = dktX3_brokenIn_1 := dk_seg dksX3_brokenIn_0 22 rfl rfl
theorem dX3_brokenIn_0 : decode cX3_brokenIn 0 = .ok (.aload_n 0, 1) := dk_42 (dk_at dksX3_brokenIn_0 0 rfl rfl)
theorem dX3_brokenIn_1 : decode cX3_brokenIn 1 = .ok (.iconst 0, 1) := dk_3 (dk_at dksX3_brokenIn_0 1 rfl rfl)
theorem dX3_brokenIn_2 : decode cX3_brokenIn 2 = .ok (.putfield 54, 3) := dk_181 0 54 (dk_at dksX3_brokenIn_0 2 rfl rfl)
theorem dX3_brokenIn_5 : decode cX3_brokenIn 5 = .ok (.iload_n 1, 1) := dk_27 (dk_at dksX3_brokenIn_0 5 rfl rfl)
theorem dX3_brokenIn_6 : decode cX3_brokenIn 6 = .ok (.iconst 1, 1) := dk_4 (dk_at dksX3_brokenIn_0 6 rfl rfl)
theorem dX3_brokenIn_7 : decode cX3_brokenIn 7 = .ok (.bipush 120, 2) := dk_16 120 (dk_at dksX3_brokenIn_0 7 rfl rfl)
theorem dX3_brokenIn_9 : decode cX3_brokenIn 9 = .ok (.invokestatic 148, 3) := dk_184 0 148 (dk_at dksX3_brokenIn_0 9 rfl rfl)
theorem dX3_brokenIn_12 : decode cX3_brokenIn 12 = .ok (.ifCond .ne 9, 3) := dk_154 0 9 (dk_at dksX3_brokenIn_0 12 rfl rfl)
theorem dX3_brokenIn_15 : decode cX3_brokenIn 15 = .ok (.aload_n 0, 1) := dk_42 (dk_at dksX3_brokenIn_0 15 rfl rfl)
theorem dX3_brokenIn_16 : decode cX3_brokenIn 16 = .ok (.iconst 1, 1) := dk_4 (dk_at dksX3_brokenIn_0 16 rfl rfl)
theorem dX3_brokenIn_17 : decode cX3_brokenIn 17 = .ok (.invokevirtual 155, 3) := dk_182 0 155 (dk_at dksX3_brokenIn_0 17 rfl rfl)
theorem dX3_brokenIn_20 : decode cX3_brokenIn 20 = .ok (.ireturn, 1) := dk_172 (dk_at dksX3_brokenIn_0 20 rfl rfl)
theorem dX3_brokenIn_21 : decode cX3_brokenIn 21 = .ok (.aload_n 0, 1) := dk_42 (dk_at dksX3_brokenIn_0 21 rfl rfl)
theorem dX3_brokenIn_22 : decode cX3_brokenIn 22 = .ok (.invokevirtual 224, 3) := dk_182 0 224 (dk_at dksX3_brokenIn_1 0 rfl rfl)
theorem dX3_brokenIn_25 : decode cX3_brokenIn 25 = .ok (.aload_n 0, 1) := dk_42 (dk_at dksX3_brokenIn_1 3 rfl rfl)
theorem dX3_brokenIn_26 : decode cX3_brokenIn 26 = .ok (.iload_n 1, 1) := dk_27 (dk_at dksX3_brokenIn_1 4 rfl rfl)
theorem dX3_brokenIn_27 : decode cX3_brokenIn 27 = .ok (.invokevirtual 194, 3) := dk_182 0 194 (dk_at dksX3_brokenIn_1 5 rfl rfl)
theorem dX3_brokenIn_30 : decode cX3_brokenIn 30 = .ok (.istore_n 2, 1) := dk_61 (dk_at dksX3_brokenIn_1 8 rfl rfl)
theorem dX3_brokenIn_31 : decode cX3_brokenIn 31 = .ok (.aload_n 0, 1) := dk_42 (dk_at dksX3_brokenIn_1 9 rfl rfl)
theorem dX3_brokenIn_32 : decode cX3_brokenIn 32 = .ok (.invokevirtual 227, 3) := dk_182 0 227 (dk_at dksX3_brokenIn_1 10 rfl rfl)
theorem dX3_brokenIn_35 : decode cX3_brokenIn 35 = .ok (.aload_n 0, 1) := dk_42 (dk_at dksX3_brokenIn_1 13 rfl rfl)
theorem dX3_brokenIn_36 : decode cX3_brokenIn 36 = .ok (.getfield 136, 3) := dk_180 0 136 (dk_at dksX3_brokenIn_1 14 rfl rfl)
theorem dX3_brokenIn_39 : decode cX3_brokenIn 39 = .ok (.ireturn, 1) := dk_172 (dk_at dksX3_brokenIn_1 17 rfl rfl)
abbrev cX3_keepsAside : ByteArray := prog_22_method_15_code
def yX3_keepsAside : MethodName := ⟨RX3, "keepsAside", "()V"⟩
def dkwX3_keepsAside_2 : List UInt8 := [132, 1, 1, 167, 255, 235, 177]
abbrev dktX3_keepsAside_2 : List UInt8 := dkwX3_keepsAside_2 ++ []
def dkwX3_keepsAside_1 : List UInt8 := [167, 255, 234, 3, 60, 27, 16, 24, 162, 0, 21, 42, 180, 0, 32, 27, 42, 180, 0, 13, 27, 48, 81]
abbrev dktX3_keepsAside_1 : List UInt8 := dkwX3_keepsAside_1 ++ dktX3_keepsAside_2
def dkwX3_keepsAside_0 : List UInt8 := [3, 60, 27, 17, 2, 66, 162, 0, 21, 42, 180, 0, 29, 27, 42, 180, 0, 7, 27, 46, 79, 132, 1, 1]
abbrev dktX3_keepsAside_0 : List UInt8 := dkwX3_keepsAside_0 ++ dktX3_keepsAside_1
theorem dksX3_keepsAside_0 : cX3_keepsAside.data.toList.drop 0 = dktX3_keepsAside_0 := by decide +kernel
theorem dksX3_keepsAside_1 : cX3_keepsAside.data.toList.drop 24 = dktX3_keepsAside_1 := dk_seg dksX3_keepsAside_0 24 rfl rfl
theorem dksX3_keepsAside_2 : cX3_keepsAside.data.toList.drop 47 = dktX3_keepsAside_2 := dk_seg dksX3_keepsAside_1 23 rfl rfl
theorem dX3_keepsAside_0 : decode cX3_keepsAside 0 = .ok (.iconst 0, 1) := dk_3 (dk_at dksX3_keepsAside_0 0 rfl rfl)
theorem dX3_keepsAside_1 : decode cX3_keepsAside 1 = .ok (.istore_n 1, 1) := dk_60 (dk_at dksX3_keepsAside_0 1 rfl rfl)
theorem dX3_keepsAside_2 : decode cX3_keepsAside 2 = .ok (.iload_n 1, 1) := dk_27 (dk_at dksX3_keepsAside_0 2 rfl rfl)
theorem dX3_keepsAside_3 : decode cX3_keepsAside 3 = .ok (.sipush 578, 3) := dk_17 2 66 (dk_at dksX3_keepsAside_0 3 rfl rfl)
theorem dX3_keepsAside_6 : decode cX3_keepsAside 6 = .ok (.if_icmp .ge 21, 3) := dk_162 0 21 (dk_at dksX3_keepsAside_0 6 rfl rfl)
theorem dX3_keepsAside_9 : decode cX3_keepsAside 9 = .ok (.aload_n 0, 1) := dk_42 (dk_at dksX3_keepsAside_0 9 rfl rfl)
theorem dX3_keepsAside_10 : decode cX3_keepsAside 10 = .ok (.getfield 29, 3) := dk_180 0 29 (dk_at dksX3_keepsAside_0 10 rfl rfl)
theorem dX3_keepsAside_13 : decode cX3_keepsAside 13 = .ok (.iload_n 1, 1) := dk_27 (dk_at dksX3_keepsAside_0 13 rfl rfl)
theorem dX3_keepsAside_14 : decode cX3_keepsAside 14 = .ok (.aload_n 0, 1) := dk_42 (dk_at dksX3_keepsAside_0 14 rfl rfl)
theorem dX3_keepsAside_15 : decode cX3_keepsAside 15 = .ok (.getfield 7, 3) := dk_180 0 7 (dk_at dksX3_keepsAside_0 15 rfl rfl)
theorem dX3_keepsAside_18 : decode cX3_keepsAside 18 = .ok (.iload_n 1, 1) := dk_27 (dk_at dksX3_keepsAside_0 18 rfl rfl)
theorem dX3_keepsAside_19 : decode cX3_keepsAside 19 = .ok (.iaload, 1) := dk_46 (dk_at dksX3_keepsAside_0 19 rfl rfl)
theorem dX3_keepsAside_20 : decode cX3_keepsAside 20 = .ok (.iastore, 1) := dk_79 (dk_at dksX3_keepsAside_0 20 rfl rfl)
theorem dX3_keepsAside_21 : decode cX3_keepsAside 21 = .ok (.iinc 1 1, 3) := dk_132 1 1 (dk_at dksX3_keepsAside_0 21 rfl rfl)
theorem dX3_keepsAside_24 : decode cX3_keepsAside 24 = .ok (.goto (-22), 3) := dk_167 255 234 (dk_at dksX3_keepsAside_1 0 rfl rfl)
theorem dX3_keepsAside_27 : decode cX3_keepsAside 27 = .ok (.iconst 0, 1) := dk_3 (dk_at dksX3_keepsAside_1 3 rfl rfl)
theorem dX3_keepsAside_28 : decode cX3_keepsAside 28 = .ok (.istore_n 1, 1) := dk_60 (dk_at dksX3_keepsAside_1 4 rfl rfl)
theorem dX3_keepsAside_29 : decode cX3_keepsAside 29 = .ok (.iload_n 1, 1) := dk_27 (dk_at dksX3_keepsAside_1 5 rfl rfl)
theorem dX3_keepsAside_30 : decode cX3_keepsAside 30 = .ok (.bipush 24, 2) := dk_16 24 (dk_at dksX3_keepsAside_1 6 rfl rfl)
theorem dX3_keepsAside_32 : decode cX3_keepsAside 32 = .ok (.if_icmp .ge 21, 3) := dk_162 0 21 (dk_at dksX3_keepsAside_1 8 rfl rfl)
theorem dX3_keepsAside_35 : decode cX3_keepsAside 35 = .ok (.aload_n 0, 1) := dk_42 (dk_at dksX3_keepsAside_1 11 rfl rfl)
theorem dX3_keepsAside_36 : decode cX3_keepsAside 36 = .ok (.getfield 32, 3) := dk_180 0 32 (dk_at dksX3_keepsAside_1 12 rfl rfl)
theorem dX3_keepsAside_39 : decode cX3_keepsAside 39 = .ok (.iload_n 1, 1) := dk_27 (dk_at dksX3_keepsAside_1 15 rfl rfl)
theorem dX3_keepsAside_40 : decode cX3_keepsAside 40 = .ok (.aload_n 0, 1) := dk_42 (dk_at dksX3_keepsAside_1 16 rfl rfl)
theorem dX3_keepsAside_41 : decode cX3_keepsAside 41 = .ok (.getfield 13, 3) := dk_180 0 13 (dk_at dksX3_keepsAside_1 17 rfl rfl)
theorem dX3_keepsAside_44 : decode cX3_keepsAside 44 = .ok (.iload_n 1, 1) := dk_27 (dk_at dksX3_keepsAside_1 20 rfl rfl)
theorem dX3_keepsAside_45 : decode cX3_keepsAside 45 = .ok (.faload, 1) := dk_48 (dk_at dksX3_keepsAside_1 21 rfl rfl)
theorem dX3_keepsAside_46 : decode cX3_keepsAside 46 = .ok (.fastore, 1) := dk_81 (dk_at dksX3_keepsAside_1 22 rfl rfl)
theorem dX3_keepsAside_47 : decode cX3_keepsAside 47 = .ok (.iinc 1 1, 3) := dk_132 1 1 (dk_at dksX3_keepsAside_2 0 rfl rfl)
theorem dX3_keepsAside_50 : decode cX3_keepsAside 50 = .ok (.goto (-21), 3) := dk_167 255 235 (dk_at dksX3_keepsAside_2 3 rfl rfl)
theorem dX3_keepsAside_53 : decode cX3_keepsAside 53 = .ok (.return_, 1) := dk_177 (dk_at dksX3_keepsAside_2 6 rfl rfl)
abbrev cX3_putsBack : ByteArray := prog_22_method_16_code
def yX3_putsBack : MethodName := ⟨RX3, "putsBack", "()V"⟩
def dkwX3_putsBack_2 : List UInt8 := [132, 1, 1, 167, 255, 235, 177]
abbrev dktX3_putsBack_2 : List UInt8 := dkwX3_putsBack_2 ++ []
def dkwX3_putsBack_1 : List UInt8 := [167, 255, 234, 3, 60, 27, 16, 24, 162, 0, 21, 42, 180, 0, 13, 27, 42, 180, 0, 32, 27, 48, 81]
abbrev dktX3_putsBack_1 : List UInt8 := dkwX3_putsBack_1 ++ dktX3_putsBack_2
def dkwX3_putsBack_0 : List UInt8 := [3, 60, 27, 17, 2, 66, 162, 0, 21, 42, 180, 0, 7, 27, 42, 180, 0, 29, 27, 46, 79, 132, 1, 1]
abbrev dktX3_putsBack_0 : List UInt8 := dkwX3_putsBack_0 ++ dktX3_putsBack_1
theorem dksX3_putsBack_0 : cX3_putsBack.data.toList.drop 0 = dktX3_putsBack_0 := by decide +kernel
theorem dksX3_putsBack_1 : cX3_putsBack.data.toList.drop 24 = dktX3_putsBack_1 := dk_seg dksX3_putsBack_0 24 rfl rfl
theorem dksX3_putsBack_2 : cX3_putsBack.data.toList.drop 47 = dktX3_putsBack_2 := dk_seg dksX3_putsBack_1 23 rfl rfl
theorem dX3_putsBack_0 : decode cX3_putsBack 0 = .ok (.iconst 0, 1) := dk_3 (dk_at dksX3_putsBack_0 0 rfl rfl)
theorem dX3_putsBack_1 : decode cX3_putsBack 1 = .ok (.istore_n 1, 1) := dk_60 (dk_at dksX3_putsBack_0 1 rfl rfl)
theorem dX3_putsBack_2 : decode cX3_putsBack 2 = .ok (.iload_n 1, 1) := dk_27 (dk_at dksX3_putsBack_0 2 rfl rfl)
theorem dX3_putsBack_3 : decode cX3_putsBack 3 = .ok (.sipush 578, 3) := dk_17 2 66 (dk_at dksX3_putsBack_0 3 rfl rfl)
theorem dX3_putsBack_6 : decode cX3_putsBack 6 = .ok (.if_icmp .ge 21, 3) := dk_162 0 21 (dk_at dksX3_putsBack_0 6 rfl rfl)
theorem dX3_putsBack_9 : decode cX3_putsBack 9 = .ok (.aload_n 0, 1) := dk_42 (dk_at dksX3_putsBack_0 9 rfl rfl)
theorem dX3_putsBack_10 : decode cX3_putsBack 10 = .ok (.getfield 7, 3) := dk_180 0 7 (dk_at dksX3_putsBack_0 10 rfl rfl)
theorem dX3_putsBack_13 : decode cX3_putsBack 13 = .ok (.iload_n 1, 1) := dk_27 (dk_at dksX3_putsBack_0 13 rfl rfl)
theorem dX3_putsBack_14 : decode cX3_putsBack 14 = .ok (.aload_n 0, 1) := dk_42 (dk_at dksX3_putsBack_0 14 rfl rfl)
theorem dX3_putsBack_15 : decode cX3_putsBack 15 = .ok (.getfield 29, 3) := dk_180 0 29 (dk_at dksX3_putsBack_0 15 rfl rfl)
theorem dX3_putsBack_18 : decode cX3_putsBack 18 = .ok (.iload_n 1, 1) := dk_27 (dk_at dksX3_putsBack_0 18 rfl rfl)
theorem dX3_putsBack_19 : decode cX3_putsBack 19 = .ok (.iaload, 1) := dk_46 (dk_at dksX3_putsBack_0 19 rfl rfl)
theorem dX3_putsBack_20 : decode cX3_putsBack 20 = .ok (.iastore, 1) := dk_79 (dk_at dksX3_putsBack_0 20 rfl rfl)
theorem dX3_putsBack_21 : decode cX3_putsBack 21 = .ok (.iinc 1 1, 3) := dk_132 1 1 (dk_at dksX3_putsBack_0 21 rfl rfl)
theorem dX3_putsBack_24 : decode cX3_putsBack 24 = .ok (.goto (-22), 3) := dk_167 255 234 (dk_at dksX3_putsBack_1 0 rfl rfl)
theorem dX3_putsBack_27 : decode cX3_putsBack 27 = .ok (.iconst 0, 1) := dk_3 (dk_at dksX3_putsBack_1 3 rfl rfl)
theorem dX3_putsBack_28 : decode cX3_putsBack 28 = .ok (.istore_n 1, 1) := dk_60 (dk_at dksX3_putsBack_1 4 rfl rfl)
theorem dX3_putsBack_29 : decode cX3_putsBack 29 = .ok (.iload_n 1, 1) := dk_27 (dk_at dksX3_putsBack_1 5 rfl rfl)
theorem dX3_putsBack_30 : decode cX3_putsBack 30 = .ok (.bipush 24, 2) := dk_16 24 (dk_at dksX3_putsBack_1 6 rfl rfl)
theorem dX3_putsBack_32 : decode cX3_putsBack 32 = .ok (.if_icmp .ge 21, 3) := dk_162 0 21 (dk_at dksX3_putsBack_1 8 rfl rfl)
theorem dX3_putsBack_35 : decode cX3_putsBack 35 = .ok (.aload_n 0, 1) := dk_42 (dk_at dksX3_putsBack_1 11 rfl rfl)
theorem dX3_putsBack_36 : decode cX3_putsBack 36 = .ok (.getfield 13, 3) := dk_180 0 13 (dk_at dksX3_putsBack_1 12 rfl rfl)
theorem dX3_putsBack_39 : decode cX3_putsBack 39 = .ok (.iload_n 1, 1) := dk_27 (dk_at dksX3_putsBack_1 15 rfl rfl)
theorem dX3_putsBack_40 : decode cX3_putsBack 40 = .ok (.aload_n 0, 1) := dk_42 (dk_at dksX3_putsBack_1 16 rfl rfl)
theorem dX3_putsBack_41 : decode cX3_putsBack 41 = .ok (.getfield 32, 3) := dk_180 0 32 (dk_at dksX3_putsBack_1 17 rfl rfl)
theorem dX3_putsBack_44 : decode cX3_putsBack 44 = .ok (.iload_n 1, 1) := dk_27 (dk_at dksX3_putsBack_1 20 rfl rfl)
theorem dX3_putsBack_45 : decode cX3_putsBack 45 = .ok (.faload, 1) := dk_48 (dk_at dksX3_putsBack_1 21 rfl rfl)
theorem dX3_putsBack_46 : decode cX3_putsBack 46 = .ok (.fastore, 1) := dk_81 (dk_at dksX3_putsBack_1 22 rfl rfl)
theorem dX3_putsBack_47 : decode cX3_putsBack 47 = .ok (.iinc 1 1, 3) := dk_132 1 1 (dk_at dksX3_putsBack_2 0 rfl rfl)
theorem dX3_putsBack_50 : decode cX3_putsBack 50 = .ok (.goto (-21), 3) := dk_167 255 235 (dk_at dksX3_putsBack_2 3 rfl rfl)
theorem dX3_putsBack_53 : decode cX3_putsBack 53 = .ok (.return_, 1) := dk_177 (dk_at dksX3_putsBack_2 6 rfl rfl)
abbrev cX3_incomeIn : ByteArray := prog_22_method_107_code
def yX3_incomeIn : MethodName := ⟨RX3, "incomeIn", "(I)I"⟩
def dkwX3_incomeIn_2 : List UInt8 := [21, 4, 28, 100, 172]
abbrev dktX3_incomeIn_2 : List UInt8 := dkwX3_incomeIn_2 ++ []
def dkwX3_incomeIn_1 : List UInt8 := [182, 0, 221, 61, 42, 182, 0, 224, 42, 27, 182, 0, 194, 62, 42, 182, 0, 221, 54, 4, 42, 182, 0, 227]
abbrev dktX3_incomeIn_1 : List UInt8 := dkwX3_incomeIn_1 ++ dktX3_incomeIn_2
def dkwX3_incomeIn_0 : List UInt8 := [42, 3, 181, 0, 54, 27, 4, 16, 120, 184, 0, 148, 154, 0, 9, 42, 4, 182, 0, 155, 172, 42]
abbrev dktX3_incomeIn_0 : List UInt8 := dkwX3_incomeIn_0 ++ dktX3_incomeIn_1
theorem dksX3_incomeIn_0 : cX3_incomeIn.data.toList.drop 0 = dktX3_incomeIn_0 := by decide +kernel
theorem dksX3_incomeIn_1 : cX3_incomeIn.data.toList.drop 22 = dktX3_incomeIn_1 := dk_seg dksX3_incomeIn_0 22 rfl rfl
theorem dksX3_incomeIn_2 : cX3_incomeIn.data.toList.drop 46 = dktX3_incomeIn_2 := dk_seg dksX3_incomeIn_1 24 rfl rfl
theorem dX3_incomeIn_0 : decode cX3_incomeIn 0 = .ok (.aload_n 0, 1) := dk_42 (dk_at dksX3_incomeIn_0 0 rfl rfl)
theorem dX3_incomeIn_1 : decode cX3_incomeIn 1 = .ok (.iconst 0, 1) := dk_3 (dk_at dksX3_incomeIn_0 1 rfl rfl)
theorem dX3_incomeIn_2 : decode cX3_incomeIn 2 = .ok (.putfield 54, 3) := dk_181 0 54 (dk_at dksX3_incomeIn_0 2 rfl rfl)
theorem dX3_incomeIn_5 : decode cX3_incomeIn 5 = .ok (.iload_n 1, 1) := dk_27 (dk_at dksX3_incomeIn_0 5 rfl rfl)
theorem dX3_incomeIn_6 : decode cX3_incomeIn 6 = .ok (.iconst 1, 1) := dk_4 (dk_at dksX3_incomeIn_0 6 rfl rfl)
theorem dX3_incomeIn_7 : decode cX3_incomeIn 7 = .ok (.bipush 120, 2) := dk_16 120 (dk_at dksX3_incomeIn_0 7 rfl rfl)
theorem dX3_incomeIn_9 : decode cX3_incomeIn 9 = .ok (.invokestatic 148, 3) := dk_184 0 148 (dk_at dksX3_incomeIn_0 9 rfl rfl)
theorem dX3_incomeIn_12 : decode cX3_incomeIn 12 = .ok (.ifCond .ne 9, 3) := dk_154 0 9 (dk_at dksX3_incomeIn_0 12 rfl rfl)
theorem dX3_incomeIn_15 : decode cX3_incomeIn 15 = .ok (.aload_n 0, 1) := dk_42 (dk_at dksX3_incomeIn_0 15 rfl rfl)
theorem dX3_incomeIn_16 : decode cX3_incomeIn 16 = .ok (.iconst 1, 1) := dk_4 (dk_at dksX3_incomeIn_0 16 rfl rfl)
theorem dX3_incomeIn_17 : decode cX3_incomeIn 17 = .ok (.invokevirtual 155, 3) := dk_182 0 155 (dk_at dksX3_incomeIn_0 17 rfl rfl)
theorem dX3_incomeIn_20 : decode cX3_incomeIn 20 = .ok (.ireturn, 1) := dk_172 (dk_at dksX3_incomeIn_0 20 rfl rfl)
theorem dX3_incomeIn_21 : decode cX3_incomeIn 21 = .ok (.aload_n 0, 1) := dk_42 (dk_at dksX3_incomeIn_0 21 rfl rfl)
theorem dX3_incomeIn_22 : decode cX3_incomeIn 22 = .ok (.invokevirtual 221, 3) := dk_182 0 221 (dk_at dksX3_incomeIn_1 0 rfl rfl)
theorem dX3_incomeIn_25 : decode cX3_incomeIn 25 = .ok (.istore_n 2, 1) := dk_61 (dk_at dksX3_incomeIn_1 3 rfl rfl)
theorem dX3_incomeIn_26 : decode cX3_incomeIn 26 = .ok (.aload_n 0, 1) := dk_42 (dk_at dksX3_incomeIn_1 4 rfl rfl)
theorem dX3_incomeIn_27 : decode cX3_incomeIn 27 = .ok (.invokevirtual 224, 3) := dk_182 0 224 (dk_at dksX3_incomeIn_1 5 rfl rfl)
theorem dX3_incomeIn_30 : decode cX3_incomeIn 30 = .ok (.aload_n 0, 1) := dk_42 (dk_at dksX3_incomeIn_1 8 rfl rfl)
theorem dX3_incomeIn_31 : decode cX3_incomeIn 31 = .ok (.iload_n 1, 1) := dk_27 (dk_at dksX3_incomeIn_1 9 rfl rfl)
theorem dX3_incomeIn_32 : decode cX3_incomeIn 32 = .ok (.invokevirtual 194, 3) := dk_182 0 194 (dk_at dksX3_incomeIn_1 10 rfl rfl)
theorem dX3_incomeIn_35 : decode cX3_incomeIn 35 = .ok (.istore_n 3, 1) := dk_62 (dk_at dksX3_incomeIn_1 13 rfl rfl)
theorem dX3_incomeIn_36 : decode cX3_incomeIn 36 = .ok (.aload_n 0, 1) := dk_42 (dk_at dksX3_incomeIn_1 14 rfl rfl)
theorem dX3_incomeIn_37 : decode cX3_incomeIn 37 = .ok (.invokevirtual 221, 3) := dk_182 0 221 (dk_at dksX3_incomeIn_1 15 rfl rfl)
theorem dX3_incomeIn_40 : decode cX3_incomeIn 40 = .ok (.istore 4, 2) := dk_54 4 (dk_at dksX3_incomeIn_1 18 rfl rfl)
theorem dX3_incomeIn_42 : decode cX3_incomeIn 42 = .ok (.aload_n 0, 1) := dk_42 (dk_at dksX3_incomeIn_1 20 rfl rfl)
theorem dX3_incomeIn_43 : decode cX3_incomeIn 43 = .ok (.invokevirtual 227, 3) := dk_182 0 227 (dk_at dksX3_incomeIn_1 21 rfl rfl)
theorem dX3_incomeIn_46 : decode cX3_incomeIn 46 = .ok (.iload 4, 2) := dk_21 4 (dk_at dksX3_incomeIn_2 0 rfl rfl)
theorem dX3_incomeIn_48 : decode cX3_incomeIn 48 = .ok (.iload_n 2, 1) := dk_28 (dk_at dksX3_incomeIn_2 2 rfl rfl)
theorem dX3_incomeIn_49 : decode cX3_incomeIn 49 = .ok (.isub, 1) := dk_100 (dk_at dksX3_incomeIn_2 3 rfl rfl)
theorem dX3_incomeIn_50 : decode cX3_incomeIn 50 = .ok (.ireturn, 1) := dk_172 (dk_at dksX3_incomeIn_2 4 rfl rfl)
abbrev cX3_minutesOnTheWay : ByteArray := prog_22_method_108_code
def yX3_minutesOnTheWay : MethodName := ⟨RX3, "minutesOnTheWay", "(II)I"⟩
def dkwX3_minutesOnTheWay_2 : List UInt8 := [182, 0, 227, 29, 17, 0, 240, 164, 0, 7, 2, 167, 0, 4, 29, 172]
abbrev dktX3_minutesOnTheWay_2 : List UInt8 := dkwX3_minutesOnTheWay_2 ++ []
def dkwX3_minutesOnTheWay_1 : List UInt8 := [42, 27, 8, 28, 96, 182, 0, 69, 154, 0, 15, 42, 182, 0, 145, 54, 4, 132, 3, 1, 167, 255, 229, 42]
abbrev dktX3_minutesOnTheWay_1 : List UInt8 := dkwX3_minutesOnTheWay_1 ++ dktX3_minutesOnTheWay_2
def dkwX3_minutesOnTheWay_0 : List UInt8 := [42, 27, 28, 182, 0, 215, 154, 0, 5, 3, 172, 42, 182, 0, 224, 3, 62, 29, 17, 0, 240, 163, 0, 26]
abbrev dktX3_minutesOnTheWay_0 : List UInt8 := dkwX3_minutesOnTheWay_0 ++ dktX3_minutesOnTheWay_1
theorem dksX3_minutesOnTheWay_0 : cX3_minutesOnTheWay.data.toList.drop 0 = dktX3_minutesOnTheWay_0 := by decide +kernel
theorem dksX3_minutesOnTheWay_1 : cX3_minutesOnTheWay.data.toList.drop 24 = dktX3_minutesOnTheWay_1 := dk_seg dksX3_minutesOnTheWay_0 24 rfl rfl
theorem dksX3_minutesOnTheWay_2 : cX3_minutesOnTheWay.data.toList.drop 48 = dktX3_minutesOnTheWay_2 := dk_seg dksX3_minutesOnTheWay_1 24 rfl rfl
theorem dX3_minutesOnTheWay_0 : decode cX3_minutesOnTheWay 0 = .ok (.aload_n 0, 1) := dk_42 (dk_at dksX3_minutesOnTheWay_0 0 rfl rfl)
theorem dX3_minutesOnTheWay_1 : decode cX3_minutesOnTheWay 1 = .ok (.iload_n 1, 1) := dk_27 (dk_at dksX3_minutesOnTheWay_0 1 rfl rfl)
theorem dX3_minutesOnTheWay_2 : decode cX3_minutesOnTheWay 2 = .ok (.iload_n 2, 1) := dk_28 (dk_at dksX3_minutesOnTheWay_0 2 rfl rfl)
theorem dX3_minutesOnTheWay_3 : decode cX3_minutesOnTheWay 3 = .ok (.invokevirtual 215, 3) := dk_182 0 215 (dk_at dksX3_minutesOnTheWay_0 3 rfl rfl)
theorem dX3_minutesOnTheWay_6 : decode cX3_minutesOnTheWay 6 = .ok (.ifCond .ne 5, 3) := dk_154 0 5 (dk_at dksX3_minutesOnTheWay_0 6 rfl rfl)
theorem dX3_minutesOnTheWay_9 : decode cX3_minutesOnTheWay 9 = .ok (.iconst 0, 1) := dk_3 (dk_at dksX3_minutesOnTheWay_0 9 rfl rfl)
theorem dX3_minutesOnTheWay_10 : decode cX3_minutesOnTheWay 10 = .ok (.ireturn, 1) := dk_172 (dk_at dksX3_minutesOnTheWay_0 10 rfl rfl)
theorem dX3_minutesOnTheWay_11 : decode cX3_minutesOnTheWay 11 = .ok (.aload_n 0, 1) := dk_42 (dk_at dksX3_minutesOnTheWay_0 11 rfl rfl)
theorem dX3_minutesOnTheWay_12 : decode cX3_minutesOnTheWay 12 = .ok (.invokevirtual 224, 3) := dk_182 0 224 (dk_at dksX3_minutesOnTheWay_0 12 rfl rfl)
theorem dX3_minutesOnTheWay_15 : decode cX3_minutesOnTheWay 15 = .ok (.iconst 0, 1) := dk_3 (dk_at dksX3_minutesOnTheWay_0 15 rfl rfl)
theorem dX3_minutesOnTheWay_16 : decode cX3_minutesOnTheWay 16 = .ok (.istore_n 3, 1) := dk_62 (dk_at dksX3_minutesOnTheWay_0 16 rfl rfl)
theorem dX3_minutesOnTheWay_17 : decode cX3_minutesOnTheWay 17 = .ok (.iload_n 3, 1) := dk_29 (dk_at dksX3_minutesOnTheWay_0 17 rfl rfl)
theorem dX3_minutesOnTheWay_18 : decode cX3_minutesOnTheWay 18 = .ok (.sipush 240, 3) := dk_17 0 240 (dk_at dksX3_minutesOnTheWay_0 18 rfl rfl)
theorem dX3_minutesOnTheWay_21 : decode cX3_minutesOnTheWay 21 = .ok (.if_icmp .gt 26, 3) := dk_163 0 26 (dk_at dksX3_minutesOnTheWay_0 21 rfl rfl)
theorem dX3_minutesOnTheWay_24 : decode cX3_minutesOnTheWay 24 = .ok (.aload_n 0, 1) := dk_42 (dk_at dksX3_minutesOnTheWay_1 0 rfl rfl)
theorem dX3_minutesOnTheWay_25 : decode cX3_minutesOnTheWay 25 = .ok (.iload_n 1, 1) := dk_27 (dk_at dksX3_minutesOnTheWay_1 1 rfl rfl)
theorem dX3_minutesOnTheWay_26 : decode cX3_minutesOnTheWay 26 = .ok (.iconst 5, 1) := dk_8 (dk_at dksX3_minutesOnTheWay_1 2 rfl rfl)
theorem dX3_minutesOnTheWay_27 : decode cX3_minutesOnTheWay 27 = .ok (.iload_n 2, 1) := dk_28 (dk_at dksX3_minutesOnTheWay_1 3 rfl rfl)
theorem dX3_minutesOnTheWay_28 : decode cX3_minutesOnTheWay 28 = .ok (.iadd, 1) := dk_96 (dk_at dksX3_minutesOnTheWay_1 4 rfl rfl)
theorem dX3_minutesOnTheWay_29 : decode cX3_minutesOnTheWay 29 = .ok (.invokevirtual 69, 3) := dk_182 0 69 (dk_at dksX3_minutesOnTheWay_1 5 rfl rfl)
theorem dX3_minutesOnTheWay_32 : decode cX3_minutesOnTheWay 32 = .ok (.ifCond .ne 15, 3) := dk_154 0 15 (dk_at dksX3_minutesOnTheWay_1 8 rfl rfl)
theorem dX3_minutesOnTheWay_35 : decode cX3_minutesOnTheWay 35 = .ok (.aload_n 0, 1) := dk_42 (dk_at dksX3_minutesOnTheWay_1 11 rfl rfl)
theorem dX3_minutesOnTheWay_36 : decode cX3_minutesOnTheWay 36 = .ok (.invokevirtual 145, 3) := dk_182 0 145 (dk_at dksX3_minutesOnTheWay_1 12 rfl rfl)
theorem dX3_minutesOnTheWay_39 : decode cX3_minutesOnTheWay 39 = .ok (.istore 4, 2) := dk_54 4 (dk_at dksX3_minutesOnTheWay_1 15 rfl rfl)
theorem dX3_minutesOnTheWay_41 : decode cX3_minutesOnTheWay 41 = .ok (.iinc 3 1, 3) := dk_132 3 1 (dk_at dksX3_minutesOnTheWay_1 17 rfl rfl)
theorem dX3_minutesOnTheWay_44 : decode cX3_minutesOnTheWay 44 = .ok (.goto (-27), 3) := dk_167 255 229 (dk_at dksX3_minutesOnTheWay_1 20 rfl rfl)
theorem dX3_minutesOnTheWay_47 : decode cX3_minutesOnTheWay 47 = .ok (.aload_n 0, 1) := dk_42 (dk_at dksX3_minutesOnTheWay_1 23 rfl rfl)
theorem dX3_minutesOnTheWay_48 : decode cX3_minutesOnTheWay 48 = .ok (.invokevirtual 227, 3) := dk_182 0 227 (dk_at dksX3_minutesOnTheWay_2 0 rfl rfl)
theorem dX3_minutesOnTheWay_51 : decode cX3_minutesOnTheWay 51 = .ok (.iload_n 3, 1) := dk_29 (dk_at dksX3_minutesOnTheWay_2 3 rfl rfl)
theorem dX3_minutesOnTheWay_52 : decode cX3_minutesOnTheWay 52 = .ok (.sipush 240, 3) := dk_17 0 240 (dk_at dksX3_minutesOnTheWay_2 4 rfl rfl)
theorem dX3_minutesOnTheWay_55 : decode cX3_minutesOnTheWay 55 = .ok (.if_icmp .le 7, 3) := dk_164 0 7 (dk_at dksX3_minutesOnTheWay_2 7 rfl rfl)
theorem dX3_minutesOnTheWay_58 : decode cX3_minutesOnTheWay 58 = .ok (.iconst (-1), 1) := dk_2 (dk_at dksX3_minutesOnTheWay_2 10 rfl rfl)
theorem dX3_minutesOnTheWay_59 : decode cX3_minutesOnTheWay 59 = .ok (.goto 4, 3) := dk_167 0 4 (dk_at dksX3_minutesOnTheWay_2 11 rfl rfl)
theorem dX3_minutesOnTheWay_62 : decode cX3_minutesOnTheWay 62 = .ok (.iload_n 3, 1) := dk_29 (dk_at dksX3_minutesOnTheWay_2 14 rfl rfl)
theorem dX3_minutesOnTheWay_63 : decode cX3_minutesOnTheWay 63 = .ok (.ireturn, 1) := dk_172 (dk_at dksX3_minutesOnTheWay_2 15 rfl rfl)
abbrev cX3_minutesToGo : ByteArray := prog_22_method_109_code
def yX3_minutesToGo : MethodName := ⟨RX3, "minutesToGo", "(II)I"⟩
def dkwX3_minutesToGo_4 : List UInt8 := [54, 4, 132, 5, 1, 167, 255, 188, 21, 4, 172]
abbrev dktX3_minutesToGo_4 : List UInt8 := dkwX3_minutesToGo_4 ++ []
def dkwX3_minutesToGo_3 : List UInt8 := [54, 7, 21, 6, 154, 0, 5, 2, 172, 21, 4, 21, 7, 4, 162, 0, 7, 4, 167, 0, 5, 21, 7, 96]
abbrev dktX3_minutesToGo_3 : List UInt8 := dkwX3_minutesToGo_3 ++ dktX3_minutesToGo_4
def dkwX3_minutesToGo_2 : List UInt8 := [54, 6, 21, 5, 29, 160, 0, 16, 21, 6, 42, 21, 5, 6, 182, 0, 58, 100, 167, 0, 5, 21, 6]
abbrev dktX3_minutesToGo_2 : List UInt8 := dkwX3_minutesToGo_2 ++ dktX3_minutesToGo_3
def dkwX3_minutesToGo_1 : List UInt8 := [172, 3, 54, 4, 29, 54, 5, 21, 5, 16, 24, 162, 0, 67, 42, 21, 5, 6, 108, 5, 182, 0, 72]
abbrev dktX3_minutesToGo_1 : List UInt8 := dkwX3_minutesToGo_1 ++ dktX3_minutesToGo_2
def dkwX3_minutesToGo_0 : List UInt8 := [42, 27, 28, 182, 0, 215, 154, 0, 5, 3, 172, 42, 27, 28, 182, 0, 218, 62, 29, 2, 160, 0, 5, 2]
abbrev dktX3_minutesToGo_0 : List UInt8 := dkwX3_minutesToGo_0 ++ dktX3_minutesToGo_1
theorem dksX3_minutesToGo_0 : cX3_minutesToGo.data.toList.drop 0 = dktX3_minutesToGo_0 := by decide +kernel
theorem dksX3_minutesToGo_1 : cX3_minutesToGo.data.toList.drop 24 = dktX3_minutesToGo_1 := dk_seg dksX3_minutesToGo_0 24 rfl rfl
theorem dksX3_minutesToGo_2 : cX3_minutesToGo.data.toList.drop 47 = dktX3_minutesToGo_2 := dk_seg dksX3_minutesToGo_1 23 rfl rfl
theorem dksX3_minutesToGo_3 : cX3_minutesToGo.data.toList.drop 70 = dktX3_minutesToGo_3 := dk_seg dksX3_minutesToGo_2 23 rfl rfl
theorem dksX3_minutesToGo_4 : cX3_minutesToGo.data.toList.drop 94 = dktX3_minutesToGo_4 := dk_seg dksX3_minutesToGo_3 24 rfl rfl
theorem dX3_minutesToGo_0 : decode cX3_minutesToGo 0 = .ok (.aload_n 0, 1) := dk_42 (dk_at dksX3_minutesToGo_0 0 rfl rfl)
theorem dX3_minutesToGo_1 : decode cX3_minutesToGo 1 = .ok (.iload_n 1, 1) := dk_27 (dk_at dksX3_minutesToGo_0 1 rfl rfl)
theorem dX3_minutesToGo_2 : decode cX3_minutesToGo 2 = .ok (.iload_n 2, 1) := dk_28 (dk_at dksX3_minutesToGo_0 2 rfl rfl)
theorem dX3_minutesToGo_3 : decode cX3_minutesToGo 3 = .ok (.invokevirtual 215, 3) := dk_182 0 215 (dk_at dksX3_minutesToGo_0 3 rfl rfl)
theorem dX3_minutesToGo_6 : decode cX3_minutesToGo 6 = .ok (.ifCond .ne 5, 3) := dk_154 0 5 (dk_at dksX3_minutesToGo_0 6 rfl rfl)
theorem dX3_minutesToGo_9 : decode cX3_minutesToGo 9 = .ok (.iconst 0, 1) := dk_3 (dk_at dksX3_minutesToGo_0 9 rfl rfl)
theorem dX3_minutesToGo_10 : decode cX3_minutesToGo 10 = .ok (.ireturn, 1) := dk_172 (dk_at dksX3_minutesToGo_0 10 rfl rfl)
theorem dX3_minutesToGo_11 : decode cX3_minutesToGo 11 = .ok (.aload_n 0, 1) := dk_42 (dk_at dksX3_minutesToGo_0 11 rfl rfl)
theorem dX3_minutesToGo_12 : decode cX3_minutesToGo 12 = .ok (.iload_n 1, 1) := dk_27 (dk_at dksX3_minutesToGo_0 12 rfl rfl)
theorem dX3_minutesToGo_13 : decode cX3_minutesToGo 13 = .ok (.iload_n 2, 1) := dk_28 (dk_at dksX3_minutesToGo_0 13 rfl rfl)
theorem dX3_minutesToGo_14 : decode cX3_minutesToGo 14 = .ok (.invokevirtual 218, 3) := dk_182 0 218 (dk_at dksX3_minutesToGo_0 14 rfl rfl)
theorem dX3_minutesToGo_17 : decode cX3_minutesToGo 17 = .ok (.istore_n 3, 1) := dk_62 (dk_at dksX3_minutesToGo_0 17 rfl rfl)
theorem dX3_minutesToGo_18 : decode cX3_minutesToGo 18 = .ok (.iload_n 3, 1) := dk_29 (dk_at dksX3_minutesToGo_0 18 rfl rfl)
theorem dX3_minutesToGo_19 : decode cX3_minutesToGo 19 = .ok (.iconst (-1), 1) := dk_2 (dk_at dksX3_minutesToGo_0 19 rfl rfl)
theorem dX3_minutesToGo_20 : decode cX3_minutesToGo 20 = .ok (.if_icmp .ne 5, 3) := dk_160 0 5 (dk_at dksX3_minutesToGo_0 20 rfl rfl)
theorem dX3_minutesToGo_23 : decode cX3_minutesToGo 23 = .ok (.iconst (-1), 1) := dk_2 (dk_at dksX3_minutesToGo_0 23 rfl rfl)
theorem dX3_minutesToGo_24 : decode cX3_minutesToGo 24 = .ok (.ireturn, 1) := dk_172 (dk_at dksX3_minutesToGo_1 0 rfl rfl)
theorem dX3_minutesToGo_25 : decode cX3_minutesToGo 25 = .ok (.iconst 0, 1) := dk_3 (dk_at dksX3_minutesToGo_1 1 rfl rfl)
theorem dX3_minutesToGo_26 : decode cX3_minutesToGo 26 = .ok (.istore 4, 2) := dk_54 4 (dk_at dksX3_minutesToGo_1 2 rfl rfl)
theorem dX3_minutesToGo_28 : decode cX3_minutesToGo 28 = .ok (.iload_n 3, 1) := dk_29 (dk_at dksX3_minutesToGo_1 4 rfl rfl)
theorem dX3_minutesToGo_29 : decode cX3_minutesToGo 29 = .ok (.istore 5, 2) := dk_54 5 (dk_at dksX3_minutesToGo_1 5 rfl rfl)
theorem dX3_minutesToGo_31 : decode cX3_minutesToGo 31 = .ok (.iload 5, 2) := dk_21 5 (dk_at dksX3_minutesToGo_1 7 rfl rfl)
theorem dX3_minutesToGo_33 : decode cX3_minutesToGo 33 = .ok (.bipush 24, 2) := dk_16 24 (dk_at dksX3_minutesToGo_1 9 rfl rfl)
theorem dX3_minutesToGo_35 : decode cX3_minutesToGo 35 = .ok (.if_icmp .ge 67, 3) := dk_162 0 67 (dk_at dksX3_minutesToGo_1 11 rfl rfl)
theorem dX3_minutesToGo_38 : decode cX3_minutesToGo 38 = .ok (.aload_n 0, 1) := dk_42 (dk_at dksX3_minutesToGo_1 14 rfl rfl)
theorem dX3_minutesToGo_39 : decode cX3_minutesToGo 39 = .ok (.iload 5, 2) := dk_21 5 (dk_at dksX3_minutesToGo_1 15 rfl rfl)
theorem dX3_minutesToGo_41 : decode cX3_minutesToGo 41 = .ok (.iconst 3, 1) := dk_6 (dk_at dksX3_minutesToGo_1 17 rfl rfl)
theorem dX3_minutesToGo_42 : decode cX3_minutesToGo 42 = .ok (.idiv, 1) := dk_108 (dk_at dksX3_minutesToGo_1 18 rfl rfl)
theorem dX3_minutesToGo_43 : decode cX3_minutesToGo 43 = .ok (.iconst 2, 1) := dk_5 (dk_at dksX3_minutesToGo_1 19 rfl rfl)
theorem dX3_minutesToGo_44 : decode cX3_minutesToGo 44 = .ok (.invokevirtual 72, 3) := dk_182 0 72 (dk_at dksX3_minutesToGo_1 20 rfl rfl)
theorem dX3_minutesToGo_47 : decode cX3_minutesToGo 47 = .ok (.istore 6, 2) := dk_54 6 (dk_at dksX3_minutesToGo_2 0 rfl rfl)
theorem dX3_minutesToGo_49 : decode cX3_minutesToGo 49 = .ok (.iload 5, 2) := dk_21 5 (dk_at dksX3_minutesToGo_2 2 rfl rfl)
theorem dX3_minutesToGo_51 : decode cX3_minutesToGo 51 = .ok (.iload_n 3, 1) := dk_29 (dk_at dksX3_minutesToGo_2 4 rfl rfl)
theorem dX3_minutesToGo_52 : decode cX3_minutesToGo 52 = .ok (.if_icmp .ne 16, 3) := dk_160 0 16 (dk_at dksX3_minutesToGo_2 5 rfl rfl)
theorem dX3_minutesToGo_55 : decode cX3_minutesToGo 55 = .ok (.iload 6, 2) := dk_21 6 (dk_at dksX3_minutesToGo_2 8 rfl rfl)
theorem dX3_minutesToGo_57 : decode cX3_minutesToGo 57 = .ok (.aload_n 0, 1) := dk_42 (dk_at dksX3_minutesToGo_2 10 rfl rfl)
theorem dX3_minutesToGo_58 : decode cX3_minutesToGo 58 = .ok (.iload 5, 2) := dk_21 5 (dk_at dksX3_minutesToGo_2 11 rfl rfl)
theorem dX3_minutesToGo_60 : decode cX3_minutesToGo 60 = .ok (.iconst 3, 1) := dk_6 (dk_at dksX3_minutesToGo_2 13 rfl rfl)
theorem dX3_minutesToGo_61 : decode cX3_minutesToGo 61 = .ok (.invokevirtual 58, 3) := dk_182 0 58 (dk_at dksX3_minutesToGo_2 14 rfl rfl)
theorem dX3_minutesToGo_64 : decode cX3_minutesToGo 64 = .ok (.isub, 1) := dk_100 (dk_at dksX3_minutesToGo_2 17 rfl rfl)
theorem dX3_minutesToGo_65 : decode cX3_minutesToGo 65 = .ok (.goto 5, 3) := dk_167 0 5 (dk_at dksX3_minutesToGo_2 18 rfl rfl)
theorem dX3_minutesToGo_68 : decode cX3_minutesToGo 68 = .ok (.iload 6, 2) := dk_21 6 (dk_at dksX3_minutesToGo_2 21 rfl rfl)
theorem dX3_minutesToGo_70 : decode cX3_minutesToGo 70 = .ok (.istore 7, 2) := dk_54 7 (dk_at dksX3_minutesToGo_3 0 rfl rfl)
theorem dX3_minutesToGo_72 : decode cX3_minutesToGo 72 = .ok (.iload 6, 2) := dk_21 6 (dk_at dksX3_minutesToGo_3 2 rfl rfl)
theorem dX3_minutesToGo_74 : decode cX3_minutesToGo 74 = .ok (.ifCond .ne 5, 3) := dk_154 0 5 (dk_at dksX3_minutesToGo_3 4 rfl rfl)
theorem dX3_minutesToGo_77 : decode cX3_minutesToGo 77 = .ok (.iconst (-1), 1) := dk_2 (dk_at dksX3_minutesToGo_3 7 rfl rfl)
theorem dX3_minutesToGo_78 : decode cX3_minutesToGo 78 = .ok (.ireturn, 1) := dk_172 (dk_at dksX3_minutesToGo_3 8 rfl rfl)
theorem dX3_minutesToGo_79 : decode cX3_minutesToGo 79 = .ok (.iload 4, 2) := dk_21 4 (dk_at dksX3_minutesToGo_3 9 rfl rfl)
theorem dX3_minutesToGo_81 : decode cX3_minutesToGo 81 = .ok (.iload 7, 2) := dk_21 7 (dk_at dksX3_minutesToGo_3 11 rfl rfl)
theorem dX3_minutesToGo_83 : decode cX3_minutesToGo 83 = .ok (.iconst 1, 1) := dk_4 (dk_at dksX3_minutesToGo_3 13 rfl rfl)
theorem dX3_minutesToGo_84 : decode cX3_minutesToGo 84 = .ok (.if_icmp .ge 7, 3) := dk_162 0 7 (dk_at dksX3_minutesToGo_3 14 rfl rfl)
theorem dX3_minutesToGo_87 : decode cX3_minutesToGo 87 = .ok (.iconst 1, 1) := dk_4 (dk_at dksX3_minutesToGo_3 17 rfl rfl)
theorem dX3_minutesToGo_88 : decode cX3_minutesToGo 88 = .ok (.goto 5, 3) := dk_167 0 5 (dk_at dksX3_minutesToGo_3 18 rfl rfl)
theorem dX3_minutesToGo_91 : decode cX3_minutesToGo 91 = .ok (.iload 7, 2) := dk_21 7 (dk_at dksX3_minutesToGo_3 21 rfl rfl)
theorem dX3_minutesToGo_93 : decode cX3_minutesToGo 93 = .ok (.iadd, 1) := dk_96 (dk_at dksX3_minutesToGo_3 23 rfl rfl)
theorem dX3_minutesToGo_94 : decode cX3_minutesToGo 94 = .ok (.istore 4, 2) := dk_54 4 (dk_at dksX3_minutesToGo_4 0 rfl rfl)
theorem dX3_minutesToGo_96 : decode cX3_minutesToGo 96 = .ok (.iinc 5 1, 3) := dk_132 5 1 (dk_at dksX3_minutesToGo_4 2 rfl rfl)
theorem dX3_minutesToGo_99 : decode cX3_minutesToGo 99 = .ok (.goto (-68), 3) := dk_167 255 188 (dk_at dksX3_minutesToGo_4 5 rfl rfl)
theorem dX3_minutesToGo_102 : decode cX3_minutesToGo 102 = .ok (.iload 4, 2) := dk_21 4 (dk_at dksX3_minutesToGo_4 8 rfl rfl)
theorem dX3_minutesToGo_104 : decode cX3_minutesToGo 104 = .ok (.ireturn, 1) := dk_172 (dk_at dksX3_minutesToGo_4 10 rfl rfl)
abbrev cX3_lowestSafeBurner : ByteArray := prog_22_method_110_code
def yX3_lowestSafeBurner : MethodName := ⟨RX3, "lowestSafeBurner", "(I)I"⟩
def dkwX3_lowestSafeBurner_2 : List UInt8 := [132, 2, 1, 167, 255, 217, 2, 172]
abbrev dktX3_lowestSafeBurner_2 : List UInt8 := dkwX3_lowestSafeBurner_2 ++ []
def dkwX3_lowestSafeBurner_1 : List UInt8 := [28, 182, 0, 47, 42, 16, 60, 182, 0, 194, 62, 42, 182, 0, 227, 42, 180, 0, 136, 154, 0, 5, 28, 172]
abbrev dktX3_lowestSafeBurner_1 : List UInt8 := dkwX3_lowestSafeBurner_1 ++ dktX3_lowestSafeBurner_2
def dkwX3_lowestSafeBurner_0 : List UInt8 := [42, 27, 182, 0, 152, 154, 0, 5, 3, 172, 3, 61, 28, 7, 162, 0, 40, 42, 182, 0, 224, 42, 27, 3]
abbrev dktX3_lowestSafeBurner_0 : List UInt8 := dkwX3_lowestSafeBurner_0 ++ dktX3_lowestSafeBurner_1
theorem dksX3_lowestSafeBurner_0 : cX3_lowestSafeBurner.data.toList.drop 0 = dktX3_lowestSafeBurner_0 := by decide +kernel
theorem dksX3_lowestSafeBurner_1 : cX3_lowestSafeBurner.data.toList.drop 24 = dktX3_lowestSafeBurner_1 := dk_seg dksX3_lowestSafeBurner_0 24 rfl rfl
theorem dksX3_lowestSafeBurner_2 : cX3_lowestSafeBurner.data.toList.drop 48 = dktX3_lowestSafeBurner_2 := dk_seg dksX3_lowestSafeBurner_1 24 rfl rfl
theorem dX3_lowestSafeBurner_0 : decode cX3_lowestSafeBurner 0 = .ok (.aload_n 0, 1) := dk_42 (dk_at dksX3_lowestSafeBurner_0 0 rfl rfl)
theorem dX3_lowestSafeBurner_1 : decode cX3_lowestSafeBurner 1 = .ok (.iload_n 1, 1) := dk_27 (dk_at dksX3_lowestSafeBurner_0 1 rfl rfl)
theorem dX3_lowestSafeBurner_2 : decode cX3_lowestSafeBurner 2 = .ok (.invokevirtual 152, 3) := dk_182 0 152 (dk_at dksX3_lowestSafeBurner_0 2 rfl rfl)
theorem dX3_lowestSafeBurner_5 : decode cX3_lowestSafeBurner 5 = .ok (.ifCond .ne 5, 3) := dk_154 0 5 (dk_at dksX3_lowestSafeBurner_0 5 rfl rfl)
theorem dX3_lowestSafeBurner_8 : decode cX3_lowestSafeBurner 8 = .ok (.iconst 0, 1) := dk_3 (dk_at dksX3_lowestSafeBurner_0 8 rfl rfl)
theorem dX3_lowestSafeBurner_9 : decode cX3_lowestSafeBurner 9 = .ok (.ireturn, 1) := dk_172 (dk_at dksX3_lowestSafeBurner_0 9 rfl rfl)
theorem dX3_lowestSafeBurner_10 : decode cX3_lowestSafeBurner 10 = .ok (.iconst 0, 1) := dk_3 (dk_at dksX3_lowestSafeBurner_0 10 rfl rfl)
theorem dX3_lowestSafeBurner_11 : decode cX3_lowestSafeBurner 11 = .ok (.istore_n 2, 1) := dk_61 (dk_at dksX3_lowestSafeBurner_0 11 rfl rfl)
theorem dX3_lowestSafeBurner_12 : decode cX3_lowestSafeBurner 12 = .ok (.iload_n 2, 1) := dk_28 (dk_at dksX3_lowestSafeBurner_0 12 rfl rfl)
theorem dX3_lowestSafeBurner_13 : decode cX3_lowestSafeBurner 13 = .ok (.iconst 4, 1) := dk_7 (dk_at dksX3_lowestSafeBurner_0 13 rfl rfl)
theorem dX3_lowestSafeBurner_14 : decode cX3_lowestSafeBurner 14 = .ok (.if_icmp .ge 40, 3) := dk_162 0 40 (dk_at dksX3_lowestSafeBurner_0 14 rfl rfl)
theorem dX3_lowestSafeBurner_17 : decode cX3_lowestSafeBurner 17 = .ok (.aload_n 0, 1) := dk_42 (dk_at dksX3_lowestSafeBurner_0 17 rfl rfl)
theorem dX3_lowestSafeBurner_18 : decode cX3_lowestSafeBurner 18 = .ok (.invokevirtual 224, 3) := dk_182 0 224 (dk_at dksX3_lowestSafeBurner_0 18 rfl rfl)
theorem dX3_lowestSafeBurner_21 : decode cX3_lowestSafeBurner 21 = .ok (.aload_n 0, 1) := dk_42 (dk_at dksX3_lowestSafeBurner_0 21 rfl rfl)
theorem dX3_lowestSafeBurner_22 : decode cX3_lowestSafeBurner 22 = .ok (.iload_n 1, 1) := dk_27 (dk_at dksX3_lowestSafeBurner_0 22 rfl rfl)
theorem dX3_lowestSafeBurner_23 : decode cX3_lowestSafeBurner 23 = .ok (.iconst 0, 1) := dk_3 (dk_at dksX3_lowestSafeBurner_0 23 rfl rfl)
theorem dX3_lowestSafeBurner_24 : decode cX3_lowestSafeBurner 24 = .ok (.iload_n 2, 1) := dk_28 (dk_at dksX3_lowestSafeBurner_1 0 rfl rfl)
theorem dX3_lowestSafeBurner_25 : decode cX3_lowestSafeBurner 25 = .ok (.invokevirtual 47, 3) := dk_182 0 47 (dk_at dksX3_lowestSafeBurner_1 1 rfl rfl)
theorem dX3_lowestSafeBurner_28 : decode cX3_lowestSafeBurner 28 = .ok (.aload_n 0, 1) := dk_42 (dk_at dksX3_lowestSafeBurner_1 4 rfl rfl)
theorem dX3_lowestSafeBurner_29 : decode cX3_lowestSafeBurner 29 = .ok (.bipush 60, 2) := dk_16 60 (dk_at dksX3_lowestSafeBurner_1 5 rfl rfl)
theorem dX3_lowestSafeBurner_31 : decode cX3_lowestSafeBurner 31 = .ok (.invokevirtual 194, 3) := dk_182 0 194 (dk_at dksX3_lowestSafeBurner_1 7 rfl rfl)
theorem dX3_lowestSafeBurner_34 : decode cX3_lowestSafeBurner 34 = .ok (.istore_n 3, 1) := dk_62 (dk_at dksX3_lowestSafeBurner_1 10 rfl rfl)
theorem dX3_lowestSafeBurner_35 : decode cX3_lowestSafeBurner 35 = .ok (.aload_n 0, 1) := dk_42 (dk_at dksX3_lowestSafeBurner_1 11 rfl rfl)
theorem dX3_lowestSafeBurner_36 : decode cX3_lowestSafeBurner 36 = .ok (.invokevirtual 227, 3) := dk_182 0 227 (dk_at dksX3_lowestSafeBurner_1 12 rfl rfl)
theorem dX3_lowestSafeBurner_39 : decode cX3_lowestSafeBurner 39 = .ok (.aload_n 0, 1) := dk_42 (dk_at dksX3_lowestSafeBurner_1 15 rfl rfl)
theorem dX3_lowestSafeBurner_40 : decode cX3_lowestSafeBurner 40 = .ok (.getfield 136, 3) := dk_180 0 136 (dk_at dksX3_lowestSafeBurner_1 16 rfl rfl)
theorem dX3_lowestSafeBurner_43 : decode cX3_lowestSafeBurner 43 = .ok (.ifCond .ne 5, 3) := dk_154 0 5 (dk_at dksX3_lowestSafeBurner_1 19 rfl rfl)
theorem dX3_lowestSafeBurner_46 : decode cX3_lowestSafeBurner 46 = .ok (.iload_n 2, 1) := dk_28 (dk_at dksX3_lowestSafeBurner_1 22 rfl rfl)
theorem dX3_lowestSafeBurner_47 : decode cX3_lowestSafeBurner 47 = .ok (.ireturn, 1) := dk_172 (dk_at dksX3_lowestSafeBurner_1 23 rfl rfl)
theorem dX3_lowestSafeBurner_48 : decode cX3_lowestSafeBurner 48 = .ok (.iinc 2 1, 3) := dk_132 2 1 (dk_at dksX3_lowestSafeBurner_2 0 rfl rfl)
theorem dX3_lowestSafeBurner_51 : decode cX3_lowestSafeBurner 51 = .ok (.goto (-39), 3) := dk_167 255 217 (dk_at dksX3_lowestSafeBurner_2 3 rfl rfl)
theorem dX3_lowestSafeBurner_54 : decode cX3_lowestSafeBurner 54 = .ok (.iconst (-1), 1) := dk_2 (dk_at dksX3_lowestSafeBurner_2 6 rfl rfl)
theorem dX3_lowestSafeBurner_55 : decode cX3_lowestSafeBurner 55 = .ok (.ireturn, 1) := dk_172 (dk_at dksX3_lowestSafeBurner_2 7 rfl rfl)
abbrev cX3_append : ByteArray := prog_22_method_111_code
def yX3_append : MethodName := ⟨RX3, "append", "(I)I"⟩
def dkwX3_append_2 : List UInt8 := [42, 89, 180, 0, 230, 4, 96, 181, 0, 230, 42, 180, 0, 230, 172]
abbrev dktX3_append_2 : List UInt8 := dkwX3_append_2 ++ []
def dkwX3_append_1 : List UInt8 := [180, 0, 230, 16, 60, 160, 0, 9, 42, 5, 182, 0, 155, 172, 42, 180, 0, 35, 42, 180, 0, 230, 27, 79]
abbrev dktX3_append_1 : List UInt8 := dkwX3_append_1 ++ dktX3_append_2
def dkwX3_append_0 : List UInt8 := [42, 3, 181, 0, 54, 27, 16, 32, 16, 126, 184, 0, 148, 154, 0, 9, 42, 4, 182, 0, 155, 172, 42]
abbrev dktX3_append_0 : List UInt8 := dkwX3_append_0 ++ dktX3_append_1
theorem dksX3_append_0 : cX3_append.data.toList.drop 0 = dktX3_append_0 := by decide +kernel
theorem dksX3_append_1 : cX3_append.data.toList.drop 23 = dktX3_append_1 := dk_seg dksX3_append_0 23 rfl rfl
theorem dksX3_append_2 : cX3_append.data.toList.drop 47 = dktX3_append_2 := dk_seg dksX3_append_1 24 rfl rfl
theorem dX3_append_0 : decode cX3_append 0 = .ok (.aload_n 0, 1) := dk_42 (dk_at dksX3_append_0 0 rfl rfl)
theorem dX3_append_1 : decode cX3_append 1 = .ok (.iconst 0, 1) := dk_3 (dk_at dksX3_append_0 1 rfl rfl)
theorem dX3_append_2 : decode cX3_append 2 = .ok (.putfield 54, 3) := dk_181 0 54 (dk_at dksX3_append_0 2 rfl rfl)
theorem dX3_append_5 : decode cX3_append 5 = .ok (.iload_n 1, 1) := dk_27 (dk_at dksX3_append_0 5 rfl rfl)
theorem dX3_append_6 : decode cX3_append 6 = .ok (.bipush 32, 2) := dk_16 32 (dk_at dksX3_append_0 6 rfl rfl)
theorem dX3_append_8 : decode cX3_append 8 = .ok (.bipush 126, 2) := dk_16 126 (dk_at dksX3_append_0 8 rfl rfl)
theorem dX3_append_10 : decode cX3_append 10 = .ok (.invokestatic 148, 3) := dk_184 0 148 (dk_at dksX3_append_0 10 rfl rfl)
theorem dX3_append_13 : decode cX3_append 13 = .ok (.ifCond .ne 9, 3) := dk_154 0 9 (dk_at dksX3_append_0 13 rfl rfl)
theorem dX3_append_16 : decode cX3_append 16 = .ok (.aload_n 0, 1) := dk_42 (dk_at dksX3_append_0 16 rfl rfl)
theorem dX3_append_17 : decode cX3_append 17 = .ok (.iconst 1, 1) := dk_4 (dk_at dksX3_append_0 17 rfl rfl)
theorem dX3_append_18 : decode cX3_append 18 = .ok (.invokevirtual 155, 3) := dk_182 0 155 (dk_at dksX3_append_0 18 rfl rfl)
theorem dX3_append_21 : decode cX3_append 21 = .ok (.ireturn, 1) := dk_172 (dk_at dksX3_append_0 21 rfl rfl)
theorem dX3_append_22 : decode cX3_append 22 = .ok (.aload_n 0, 1) := dk_42 (dk_at dksX3_append_0 22 rfl rfl)
theorem dX3_append_23 : decode cX3_append 23 = .ok (.getfield 230, 3) := dk_180 0 230 (dk_at dksX3_append_1 0 rfl rfl)
theorem dX3_append_26 : decode cX3_append 26 = .ok (.bipush 60, 2) := dk_16 60 (dk_at dksX3_append_1 3 rfl rfl)
theorem dX3_append_28 : decode cX3_append 28 = .ok (.if_icmp .ne 9, 3) := dk_160 0 9 (dk_at dksX3_append_1 5 rfl rfl)
theorem dX3_append_31 : decode cX3_append 31 = .ok (.aload_n 0, 1) := dk_42 (dk_at dksX3_append_1 8 rfl rfl)
theorem dX3_append_32 : decode cX3_append 32 = .ok (.iconst 2, 1) := dk_5 (dk_at dksX3_append_1 9 rfl rfl)
theorem dX3_append_33 : decode cX3_append 33 = .ok (.invokevirtual 155, 3) := dk_182 0 155 (dk_at dksX3_append_1 10 rfl rfl)
theorem dX3_append_36 : decode cX3_append 36 = .ok (.ireturn, 1) := dk_172 (dk_at dksX3_append_1 13 rfl rfl)
theorem dX3_append_37 : decode cX3_append 37 = .ok (.aload_n 0, 1) := dk_42 (dk_at dksX3_append_1 14 rfl rfl)
theorem dX3_append_38 : decode cX3_append 38 = .ok (.getfield 35, 3) := dk_180 0 35 (dk_at dksX3_append_1 15 rfl rfl)
theorem dX3_append_41 : decode cX3_append 41 = .ok (.aload_n 0, 1) := dk_42 (dk_at dksX3_append_1 18 rfl rfl)
theorem dX3_append_42 : decode cX3_append 42 = .ok (.getfield 230, 3) := dk_180 0 230 (dk_at dksX3_append_1 19 rfl rfl)
theorem dX3_append_45 : decode cX3_append 45 = .ok (.iload_n 1, 1) := dk_27 (dk_at dksX3_append_1 22 rfl rfl)
theorem dX3_append_46 : decode cX3_append 46 = .ok (.iastore, 1) := dk_79 (dk_at dksX3_append_1 23 rfl rfl)
theorem dX3_append_47 : decode cX3_append 47 = .ok (.aload_n 0, 1) := dk_42 (dk_at dksX3_append_2 0 rfl rfl)
theorem dX3_append_48 : decode cX3_append 48 = .ok (.dup, 1) := dk_89 (dk_at dksX3_append_2 1 rfl rfl)
theorem dX3_append_49 : decode cX3_append 49 = .ok (.getfield 230, 3) := dk_180 0 230 (dk_at dksX3_append_2 2 rfl rfl)
theorem dX3_append_52 : decode cX3_append 52 = .ok (.iconst 1, 1) := dk_4 (dk_at dksX3_append_2 5 rfl rfl)
theorem dX3_append_53 : decode cX3_append 53 = .ok (.iadd, 1) := dk_96 (dk_at dksX3_append_2 6 rfl rfl)
theorem dX3_append_54 : decode cX3_append 54 = .ok (.putfield 230, 3) := dk_181 0 230 (dk_at dksX3_append_2 7 rfl rfl)
theorem dX3_append_57 : decode cX3_append 57 = .ok (.aload_n 0, 1) := dk_42 (dk_at dksX3_append_2 10 rfl rfl)
theorem dX3_append_58 : decode cX3_append 58 = .ok (.getfield 230, 3) := dk_180 0 230 (dk_at dksX3_append_2 11 rfl rfl)
theorem dX3_append_61 : decode cX3_append 61 = .ok (.ireturn, 1) := dk_172 (dk_at dksX3_append_2 14 rfl rfl)
abbrev cX3_clearText : ByteArray := prog_22_method_112_code
def yX3_clearText : MethodName := ⟨RX3, "clearText", "()I"⟩
def dkwX3_clearText_0 : List UInt8 := [42, 3, 181, 0, 54, 42, 180, 0, 230, 60, 42, 3, 181, 0, 230, 27, 172]
abbrev dktX3_clearText_0 : List UInt8 := dkwX3_clearText_0 ++ []
theorem dksX3_clearText_0 : cX3_clearText.data.toList.drop 0 = dktX3_clearText_0 := by decide +kernel
theorem dX3_clearText_0 : decode cX3_clearText 0 = .ok (.aload_n 0, 1) := dk_42 (dk_at dksX3_clearText_0 0 rfl rfl)
theorem dX3_clearText_1 : decode cX3_clearText 1 = .ok (.iconst 0, 1) := dk_3 (dk_at dksX3_clearText_0 1 rfl rfl)
theorem dX3_clearText_2 : decode cX3_clearText 2 = .ok (.putfield 54, 3) := dk_181 0 54 (dk_at dksX3_clearText_0 2 rfl rfl)
theorem dX3_clearText_5 : decode cX3_clearText 5 = .ok (.aload_n 0, 1) := dk_42 (dk_at dksX3_clearText_0 5 rfl rfl)
theorem dX3_clearText_6 : decode cX3_clearText 6 = .ok (.getfield 230, 3) := dk_180 0 230 (dk_at dksX3_clearText_0 6 rfl rfl)
theorem dX3_clearText_9 : decode cX3_clearText 9 = .ok (.istore_n 1, 1) := dk_60 (dk_at dksX3_clearText_0 9 rfl rfl)
theorem dX3_clearText_10 : decode cX3_clearText 10 = .ok (.aload_n 0, 1) := dk_42 (dk_at dksX3_clearText_0 10 rfl rfl)
theorem dX3_clearText_11 : decode cX3_clearText 11 = .ok (.iconst 0, 1) := dk_3 (dk_at dksX3_clearText_0 11 rfl rfl)
theorem dX3_clearText_12 : decode cX3_clearText 12 = .ok (.putfield 230, 3) := dk_181 0 230 (dk_at dksX3_clearText_0 12 rfl rfl)
theorem dX3_clearText_15 : decode cX3_clearText 15 = .ok (.iload_n 1, 1) := dk_27 (dk_at dksX3_clearText_0 15 rfl rfl)
theorem dX3_clearText_16 : decode cX3_clearText 16 = .ok (.ireturn, 1) := dk_172 (dk_at dksX3_clearText_0 16 rfl rfl)
abbrev cX3_errorPosition : ByteArray := prog_22_method_118_code
def yX3_errorPosition : MethodName := ⟨RX3, "errorPosition", "()I"⟩
def dkwX3_errorPosition_1 : List UInt8 := [167, 0, 7, 42, 180, 0, 230, 172]
abbrev dktX3_errorPosition_1 : List UInt8 := dkwX3_errorPosition_1 ++ []
def dkwX3_errorPosition_0 : List UInt8 := [42, 3, 181, 0, 54, 42, 3, 182, 0, 253, 60, 42, 180, 0, 236, 153, 0, 10, 42, 180, 0, 233]
abbrev dktX3_errorPosition_0 : List UInt8 := dkwX3_errorPosition_0 ++ dktX3_errorPosition_1
theorem dksX3_errorPosition_0 : cX3_errorPosition.data.toList.drop 0 = dktX3_errorPosition_0 := by decide +kernel
theorem dksX3_errorPosition_1 : cX3_errorPosition.data.toList.drop 22 = dktX3_errorPosition_1 := dk_seg dksX3_errorPosition_0 22 rfl rfl
theorem dX3_errorPosition_0 : decode cX3_errorPosition 0 = .ok (.aload_n 0, 1) := dk_42 (dk_at dksX3_errorPosition_0 0 rfl rfl)
theorem dX3_errorPosition_1 : decode cX3_errorPosition 1 = .ok (.iconst 0, 1) := dk_3 (dk_at dksX3_errorPosition_0 1 rfl rfl)
theorem dX3_errorPosition_2 : decode cX3_errorPosition 2 = .ok (.putfield 54, 3) := dk_181 0 54 (dk_at dksX3_errorPosition_0 2 rfl rfl)
theorem dX3_errorPosition_5 : decode cX3_errorPosition 5 = .ok (.aload_n 0, 1) := dk_42 (dk_at dksX3_errorPosition_0 5 rfl rfl)
theorem dX3_errorPosition_6 : decode cX3_errorPosition 6 = .ok (.iconst 0, 1) := dk_3 (dk_at dksX3_errorPosition_0 6 rfl rfl)
theorem dX3_errorPosition_7 : decode cX3_errorPosition 7 = .ok (.invokevirtual 253, 3) := dk_182 0 253 (dk_at dksX3_errorPosition_0 7 rfl rfl)
theorem dX3_errorPosition_10 : decode cX3_errorPosition 10 = .ok (.istore_n 1, 1) := dk_60 (dk_at dksX3_errorPosition_0 10 rfl rfl)
theorem dX3_errorPosition_11 : decode cX3_errorPosition 11 = .ok (.aload_n 0, 1) := dk_42 (dk_at dksX3_errorPosition_0 11 rfl rfl)
theorem dX3_errorPosition_12 : decode cX3_errorPosition 12 = .ok (.getfield 236, 3) := dk_180 0 236 (dk_at dksX3_errorPosition_0 12 rfl rfl)
theorem dX3_errorPosition_15 : decode cX3_errorPosition 15 = .ok (.ifCond .eq 10, 3) := dk_153 0 10 (dk_at dksX3_errorPosition_0 15 rfl rfl)
theorem dX3_errorPosition_18 : decode cX3_errorPosition 18 = .ok (.aload_n 0, 1) := dk_42 (dk_at dksX3_errorPosition_0 18 rfl rfl)
theorem dX3_errorPosition_19 : decode cX3_errorPosition 19 = .ok (.getfield 233, 3) := dk_180 0 233 (dk_at dksX3_errorPosition_0 19 rfl rfl)
theorem dX3_errorPosition_22 : decode cX3_errorPosition 22 = .ok (.goto 7, 3) := dk_167 0 7 (dk_at dksX3_errorPosition_1 0 rfl rfl)
theorem dX3_errorPosition_25 : decode cX3_errorPosition 25 = .ok (.aload_n 0, 1) := dk_42 (dk_at dksX3_errorPosition_1 3 rfl rfl)
theorem dX3_errorPosition_26 : decode cX3_errorPosition 26 = .ok (.getfield 230, 3) := dk_180 0 230 (dk_at dksX3_errorPosition_1 4 rfl rfl)
theorem dX3_errorPosition_29 : decode cX3_errorPosition 29 = .ok (.ireturn, 1) := dk_172 (dk_at dksX3_errorPosition_1 7 rfl rfl)
abbrev cX3_go : ByteArray := prog_22_method_117_code
def yX3_go : MethodName := ⟨RX3, "go", "(Z)I"⟩
def dkwX3_go_3 : List UInt8 := [180, 0, 236, 154, 0, 7, 4, 167, 0, 4, 3, 62, 167, 255, 188, 28, 172]
abbrev dktX3_go_3 : List UInt8 := dkwX3_go_3 ++ []
def dkwX3_go_2 : List UInt8 := [162, 0, 7, 4, 167, 0, 4, 3, 62, 29, 153, 255, 214, 42, 16, 59, 16, 59, 182, 0, 240, 54, 4, 42]
abbrev dktX3_go_2 : List UInt8 := dkwX3_go_2 ++ dktX3_go_3
def dkwX3_go_1 : List UInt8 := [154, 0, 5, 28, 172, 132, 2, 1, 42, 180, 0, 236, 154, 0, 18, 42, 180, 0, 233, 42, 180, 0, 230]
abbrev dktX3_go_1 : List UInt8 := dkwX3_go_1 ++ dktX3_go_2
def dkwX3_go_0 : List UInt8 := [42, 3, 181, 0, 233, 42, 3, 181, 0, 236, 3, 61, 4, 62, 29, 153, 0, 70, 42, 27, 182, 0, 249]
abbrev dktX3_go_0 : List UInt8 := dkwX3_go_0 ++ dktX3_go_1
theorem dksX3_go_0 : cX3_go.data.toList.drop 0 = dktX3_go_0 := by decide +kernel
theorem dksX3_go_1 : cX3_go.data.toList.drop 23 = dktX3_go_1 := dk_seg dksX3_go_0 23 rfl rfl
theorem dksX3_go_2 : cX3_go.data.toList.drop 46 = dktX3_go_2 := dk_seg dksX3_go_1 23 rfl rfl
theorem dksX3_go_3 : cX3_go.data.toList.drop 70 = dktX3_go_3 := dk_seg dksX3_go_2 24 rfl rfl
theorem dX3_go_0 : decode cX3_go 0 = .ok (.aload_n 0, 1) := dk_42 (dk_at dksX3_go_0 0 rfl rfl)
theorem dX3_go_1 : decode cX3_go 1 = .ok (.iconst 0, 1) := dk_3 (dk_at dksX3_go_0 1 rfl rfl)
theorem dX3_go_2 : decode cX3_go 2 = .ok (.putfield 233, 3) := dk_181 0 233 (dk_at dksX3_go_0 2 rfl rfl)
theorem dX3_go_5 : decode cX3_go 5 = .ok (.aload_n 0, 1) := dk_42 (dk_at dksX3_go_0 5 rfl rfl)
theorem dX3_go_6 : decode cX3_go 6 = .ok (.iconst 0, 1) := dk_3 (dk_at dksX3_go_0 6 rfl rfl)
theorem dX3_go_7 : decode cX3_go 7 = .ok (.putfield 236, 3) := dk_181 0 236 (dk_at dksX3_go_0 7 rfl rfl)
theorem dX3_go_10 : decode cX3_go 10 = .ok (.iconst 0, 1) := dk_3 (dk_at dksX3_go_0 10 rfl rfl)
theorem dX3_go_11 : decode cX3_go 11 = .ok (.istore_n 2, 1) := dk_61 (dk_at dksX3_go_0 11 rfl rfl)
theorem dX3_go_12 : decode cX3_go 12 = .ok (.iconst 1, 1) := dk_4 (dk_at dksX3_go_0 12 rfl rfl)
theorem dX3_go_13 : decode cX3_go 13 = .ok (.istore_n 3, 1) := dk_62 (dk_at dksX3_go_0 13 rfl rfl)
theorem dX3_go_14 : decode cX3_go 14 = .ok (.iload_n 3, 1) := dk_29 (dk_at dksX3_go_0 14 rfl rfl)
theorem dX3_go_15 : decode cX3_go 15 = .ok (.ifCond .eq 70, 3) := dk_153 0 70 (dk_at dksX3_go_0 15 rfl rfl)
theorem dX3_go_18 : decode cX3_go 18 = .ok (.aload_n 0, 1) := dk_42 (dk_at dksX3_go_0 18 rfl rfl)
theorem dX3_go_19 : decode cX3_go 19 = .ok (.iload_n 1, 1) := dk_27 (dk_at dksX3_go_0 19 rfl rfl)
theorem dX3_go_20 : decode cX3_go 20 = .ok (.invokevirtual 249, 3) := dk_182 0 249 (dk_at dksX3_go_0 20 rfl rfl)
theorem dX3_go_23 : decode cX3_go 23 = .ok (.ifCond .ne 5, 3) := dk_154 0 5 (dk_at dksX3_go_1 0 rfl rfl)
theorem dX3_go_26 : decode cX3_go 26 = .ok (.iload_n 2, 1) := dk_28 (dk_at dksX3_go_1 3 rfl rfl)
theorem dX3_go_27 : decode cX3_go 27 = .ok (.ireturn, 1) := dk_172 (dk_at dksX3_go_1 4 rfl rfl)
theorem dX3_go_28 : decode cX3_go 28 = .ok (.iinc 2 1, 3) := dk_132 2 1 (dk_at dksX3_go_1 5 rfl rfl)
theorem dX3_go_31 : decode cX3_go 31 = .ok (.aload_n 0, 1) := dk_42 (dk_at dksX3_go_1 8 rfl rfl)
theorem dX3_go_32 : decode cX3_go 32 = .ok (.getfield 236, 3) := dk_180 0 236 (dk_at dksX3_go_1 9 rfl rfl)
theorem dX3_go_35 : decode cX3_go 35 = .ok (.ifCond .ne 18, 3) := dk_154 0 18 (dk_at dksX3_go_1 12 rfl rfl)
theorem dX3_go_38 : decode cX3_go 38 = .ok (.aload_n 0, 1) := dk_42 (dk_at dksX3_go_1 15 rfl rfl)
theorem dX3_go_39 : decode cX3_go 39 = .ok (.getfield 233, 3) := dk_180 0 233 (dk_at dksX3_go_1 16 rfl rfl)
theorem dX3_go_42 : decode cX3_go 42 = .ok (.aload_n 0, 1) := dk_42 (dk_at dksX3_go_1 19 rfl rfl)
theorem dX3_go_43 : decode cX3_go 43 = .ok (.getfield 230, 3) := dk_180 0 230 (dk_at dksX3_go_1 20 rfl rfl)
theorem dX3_go_46 : decode cX3_go 46 = .ok (.if_icmp .ge 7, 3) := dk_162 0 7 (dk_at dksX3_go_2 0 rfl rfl)
theorem dX3_go_49 : decode cX3_go 49 = .ok (.iconst 1, 1) := dk_4 (dk_at dksX3_go_2 3 rfl rfl)
theorem dX3_go_50 : decode cX3_go 50 = .ok (.goto 4, 3) := dk_167 0 4 (dk_at dksX3_go_2 4 rfl rfl)
theorem dX3_go_53 : decode cX3_go 53 = .ok (.iconst 0, 1) := dk_3 (dk_at dksX3_go_2 7 rfl rfl)
theorem dX3_go_54 : decode cX3_go 54 = .ok (.istore_n 3, 1) := dk_62 (dk_at dksX3_go_2 8 rfl rfl)
theorem dX3_go_55 : decode cX3_go 55 = .ok (.iload_n 3, 1) := dk_29 (dk_at dksX3_go_2 9 rfl rfl)
theorem dX3_go_56 : decode cX3_go 56 = .ok (.ifCond .eq (-42), 3) := dk_153 255 214 (dk_at dksX3_go_2 10 rfl rfl)
theorem dX3_go_59 : decode cX3_go 59 = .ok (.aload_n 0, 1) := dk_42 (dk_at dksX3_go_2 13 rfl rfl)
theorem dX3_go_60 : decode cX3_go 60 = .ok (.bipush 59, 2) := dk_16 59 (dk_at dksX3_go_2 14 rfl rfl)
theorem dX3_go_62 : decode cX3_go 62 = .ok (.bipush 59, 2) := dk_16 59 (dk_at dksX3_go_2 16 rfl rfl)
theorem dX3_go_64 : decode cX3_go 64 = .ok (.invokevirtual 240, 3) := dk_182 0 240 (dk_at dksX3_go_2 18 rfl rfl)
theorem dX3_go_67 : decode cX3_go 67 = .ok (.istore 4, 2) := dk_54 4 (dk_at dksX3_go_2 21 rfl rfl)
theorem dX3_go_69 : decode cX3_go 69 = .ok (.aload_n 0, 1) := dk_42 (dk_at dksX3_go_2 23 rfl rfl)
theorem dX3_go_70 : decode cX3_go 70 = .ok (.getfield 236, 3) := dk_180 0 236 (dk_at dksX3_go_3 0 rfl rfl)
theorem dX3_go_73 : decode cX3_go 73 = .ok (.ifCond .ne 7, 3) := dk_154 0 7 (dk_at dksX3_go_3 3 rfl rfl)
theorem dX3_go_76 : decode cX3_go 76 = .ok (.iconst 1, 1) := dk_4 (dk_at dksX3_go_3 6 rfl rfl)
theorem dX3_go_77 : decode cX3_go 77 = .ok (.goto 4, 3) := dk_167 0 4 (dk_at dksX3_go_3 7 rfl rfl)
theorem dX3_go_80 : decode cX3_go 80 = .ok (.iconst 0, 1) := dk_3 (dk_at dksX3_go_3 10 rfl rfl)
theorem dX3_go_81 : decode cX3_go 81 = .ok (.istore_n 3, 1) := dk_62 (dk_at dksX3_go_3 11 rfl rfl)
theorem dX3_go_82 : decode cX3_go 82 = .ok (.goto (-68), 3) := dk_167 255 188 (dk_at dksX3_go_3 12 rfl rfl)
theorem dX3_go_85 : decode cX3_go 85 = .ok (.iload_n 2, 1) := dk_28 (dk_at dksX3_go_3 15 rfl rfl)
theorem dX3_go_86 : decode cX3_go 86 = .ok (.ireturn, 1) := dk_172 (dk_at dksX3_go_3 16 rfl rfl)
abbrev cX3_part : ByteArray := prog_22_method_115_code
def yX3_part : MethodName := ⟨RX3, "part", "(Z)Z"⟩
def dkwX3_part_12 : List UInt8 := [54, 4, 27, 153, 0, 15, 42, 28, 21, 4, 21, 5, 182, 0, 246, 153, 0, 7, 4, 167, 0, 4, 3, 172]
abbrev dktX3_part_12 : List UInt8 := dkwX3_part_12 ++ []
def dkwX3_part_11 : List UInt8 := [182, 0, 240, 54, 6, 42, 3, 16, 23, 182, 0, 243, 54, 5, 167, 0, 12, 42, 4, 16, 60, 182, 0, 243]
abbrev dktX3_part_11 : List UInt8 := dkwX3_part_11 ++ dktX3_part_12
def dkwX3_part_10 : List UInt8 := [16, 99, 160, 0, 38, 42, 16, 48, 16, 49, 182, 0, 240, 16, 48, 100, 54, 4, 42, 16, 58, 16, 58]
abbrev dktX3_part_10 : List UInt8 := dkwX3_part_10 ++ dktX3_part_11
def dkwX3_part_9 : List UInt8 := [54, 5, 167, 0, 71, 28, 16, 108, 160, 0, 15, 42, 3, 16, 11, 182, 0, 243, 54, 4, 167, 0, 53, 28]
abbrev dktX3_part_9 : List UInt8 := dkwX3_part_9 ++ dktX3_part_10
def dkwX3_part_8 : List UInt8 := [16, 48, 16, 50, 182, 0, 240, 16, 48, 100, 54, 4, 42, 16, 49, 16, 57, 182, 0, 240, 16, 48, 100]
abbrev dktX3_part_8 : List UInt8 := dkwX3_part_8 ++ dktX3_part_9
def dkwX3_part_7 : List UInt8 := [167, 0, 5, 16, 51, 182, 0, 240, 16, 48, 100, 54, 5, 167, 0, 106, 28, 16, 111, 160, 0, 32, 42]
abbrev dktX3_part_7 : List UInt8 := dkwX3_part_7 ++ dktX3_part_8
def dkwX3_part_6 : List UInt8 := [100, 54, 4, 42, 16, 61, 16, 61, 182, 0, 240, 54, 6, 42, 16, 48, 28, 16, 114, 160, 0, 8, 16, 57]
abbrev dktX3_part_6 : List UInt8 := dkwX3_part_6 ++ dktX3_part_7
def dkwX3_part_5 : List UInt8 := [96, 181, 0, 233, 3, 54, 4, 3, 54, 5, 29, 153, 0, 53, 42, 16, 48, 16, 55, 182, 0, 240, 16, 48]
abbrev dktX3_part_5 : List UInt8 := dkwX3_part_5 ++ dktX3_part_6
def dkwX3_part_4 : List UInt8 := [167, 0, 4, 3, 181, 0, 236, 42, 89, 180, 0, 233, 42, 180, 0, 236, 153, 0, 7, 3, 167, 0, 4, 4]
abbrev dktX3_part_4 : List UInt8 := dkwX3_part_4 ++ dktX3_part_5
def dkwX3_part_3 : List UInt8 := [159, 0, 25, 28, 16, 108, 159, 0, 19, 28, 16, 99, 159, 0, 13, 28, 16, 109, 159, 0, 7, 4]
abbrev dktX3_part_3 : List UInt8 := dkwX3_part_3 ++ dktX3_part_4
def dkwX3_part_2 : List UInt8 := [160, 0, 7, 4, 167, 0, 4, 3, 62, 42, 42, 180, 0, 236, 154, 0, 31, 29, 154, 0, 31, 28, 16, 111]
abbrev dktX3_part_2 : List UInt8 := dkwX3_part_2 ++ dktX3_part_3
def dkwX3_part_1 : List UInt8 := [180, 0, 233, 46, 167, 0, 4, 3, 61, 28, 16, 98, 159, 0, 15, 28, 16, 102, 159, 0, 9, 28, 16, 114]
abbrev dktX3_part_1 : List UInt8 := dkwX3_part_1 ++ dktX3_part_2
def dkwX3_part_0 : List UInt8 := [42, 180, 0, 233, 42, 180, 0, 230, 162, 0, 22, 42, 180, 0, 236, 154, 0, 15, 42, 180, 0, 35, 42]
abbrev dktX3_part_0 : List UInt8 := dkwX3_part_0 ++ dktX3_part_1
theorem dksX3_part_0 : cX3_part.data.toList.drop 0 = dktX3_part_0 := by decide +kernel
theorem dksX3_part_1 : cX3_part.data.toList.drop 23 = dktX3_part_1 := dk_seg dksX3_part_0 23 rfl rfl
theorem dksX3_part_2 : cX3_part.data.toList.drop 47 = dktX3_part_2 := dk_seg dksX3_part_1 24 rfl rfl
theorem dksX3_part_3 : cX3_part.data.toList.drop 71 = dktX3_part_3 := dk_seg dksX3_part_2 24 rfl rfl
theorem dksX3_part_4 : cX3_part.data.toList.drop 93 = dktX3_part_4 := dk_seg dksX3_part_3 22 rfl rfl
theorem dksX3_part_5 : cX3_part.data.toList.drop 117 = dktX3_part_5 := dk_seg dksX3_part_4 24 rfl rfl
theorem dksX3_part_6 : cX3_part.data.toList.drop 141 = dktX3_part_6 := dk_seg dksX3_part_5 24 rfl rfl
theorem dksX3_part_7 : cX3_part.data.toList.drop 165 = dktX3_part_7 := dk_seg dksX3_part_6 24 rfl rfl
theorem dksX3_part_8 : cX3_part.data.toList.drop 188 = dktX3_part_8 := dk_seg dksX3_part_7 23 rfl rfl
theorem dksX3_part_9 : cX3_part.data.toList.drop 211 = dktX3_part_9 := dk_seg dksX3_part_8 23 rfl rfl
theorem dksX3_part_10 : cX3_part.data.toList.drop 235 = dktX3_part_10 := dk_seg dksX3_part_9 24 rfl rfl
theorem dksX3_part_11 : cX3_part.data.toList.drop 258 = dktX3_part_11 := dk_seg dksX3_part_10 23 rfl rfl
theorem dksX3_part_12 : cX3_part.data.toList.drop 282 = dktX3_part_12 := dk_seg dksX3_part_11 24 rfl rfl
theorem dX3_part_0 : decode cX3_part 0 = .ok (.aload_n 0, 1) := dk_42 (dk_at dksX3_part_0 0 rfl rfl)
theorem dX3_part_1 : decode cX3_part 1 = .ok (.getfield 233, 3) := dk_180 0 233 (dk_at dksX3_part_0 1 rfl rfl)
theorem dX3_part_4 : decode cX3_part 4 = .ok (.aload_n 0, 1) := dk_42 (dk_at dksX3_part_0 4 rfl rfl)
theorem dX3_part_5 : decode cX3_part 5 = .ok (.getfield 230, 3) := dk_180 0 230 (dk_at dksX3_part_0 5 rfl rfl)
theorem dX3_part_8 : decode cX3_part 8 = .ok (.if_icmp .ge 22, 3) := dk_162 0 22 (dk_at dksX3_part_0 8 rfl rfl)
theorem dX3_part_11 : decode cX3_part 11 = .ok (.aload_n 0, 1) := dk_42 (dk_at dksX3_part_0 11 rfl rfl)
theorem dX3_part_12 : decode cX3_part 12 = .ok (.getfield 236, 3) := dk_180 0 236 (dk_at dksX3_part_0 12 rfl rfl)
theorem dX3_part_15 : decode cX3_part 15 = .ok (.ifCond .ne 15, 3) := dk_154 0 15 (dk_at dksX3_part_0 15 rfl rfl)
theorem dX3_part_18 : decode cX3_part 18 = .ok (.aload_n 0, 1) := dk_42 (dk_at dksX3_part_0 18 rfl rfl)
theorem dX3_part_19 : decode cX3_part 19 = .ok (.getfield 35, 3) := dk_180 0 35 (dk_at dksX3_part_0 19 rfl rfl)
theorem dX3_part_22 : decode cX3_part 22 = .ok (.aload_n 0, 1) := dk_42 (dk_at dksX3_part_0 22 rfl rfl)
theorem dX3_part_23 : decode cX3_part 23 = .ok (.getfield 233, 3) := dk_180 0 233 (dk_at dksX3_part_1 0 rfl rfl)
theorem dX3_part_26 : decode cX3_part 26 = .ok (.iaload, 1) := dk_46 (dk_at dksX3_part_1 3 rfl rfl)
theorem dX3_part_27 : decode cX3_part 27 = .ok (.goto 4, 3) := dk_167 0 4 (dk_at dksX3_part_1 4 rfl rfl)
theorem dX3_part_30 : decode cX3_part 30 = .ok (.iconst 0, 1) := dk_3 (dk_at dksX3_part_1 7 rfl rfl)
theorem dX3_part_31 : decode cX3_part 31 = .ok (.istore_n 2, 1) := dk_61 (dk_at dksX3_part_1 8 rfl rfl)
theorem dX3_part_32 : decode cX3_part 32 = .ok (.iload_n 2, 1) := dk_28 (dk_at dksX3_part_1 9 rfl rfl)
theorem dX3_part_33 : decode cX3_part 33 = .ok (.bipush 98, 2) := dk_16 98 (dk_at dksX3_part_1 10 rfl rfl)
theorem dX3_part_35 : decode cX3_part 35 = .ok (.if_icmp .eq 15, 3) := dk_159 0 15 (dk_at dksX3_part_1 12 rfl rfl)
theorem dX3_part_38 : decode cX3_part 38 = .ok (.iload_n 2, 1) := dk_28 (dk_at dksX3_part_1 15 rfl rfl)
theorem dX3_part_39 : decode cX3_part 39 = .ok (.bipush 102, 2) := dk_16 102 (dk_at dksX3_part_1 16 rfl rfl)
theorem dX3_part_41 : decode cX3_part 41 = .ok (.if_icmp .eq 9, 3) := dk_159 0 9 (dk_at dksX3_part_1 18 rfl rfl)
theorem dX3_part_44 : decode cX3_part 44 = .ok (.iload_n 2, 1) := dk_28 (dk_at dksX3_part_1 21 rfl rfl)
theorem dX3_part_45 : decode cX3_part 45 = .ok (.bipush 114, 2) := dk_16 114 (dk_at dksX3_part_1 22 rfl rfl)
theorem dX3_part_47 : decode cX3_part 47 = .ok (.if_icmp .ne 7, 3) := dk_160 0 7 (dk_at dksX3_part_2 0 rfl rfl)
theorem dX3_part_50 : decode cX3_part 50 = .ok (.iconst 1, 1) := dk_4 (dk_at dksX3_part_2 3 rfl rfl)
theorem dX3_part_51 : decode cX3_part 51 = .ok (.goto 4, 3) := dk_167 0 4 (dk_at dksX3_part_2 4 rfl rfl)
theorem dX3_part_54 : decode cX3_part 54 = .ok (.iconst 0, 1) := dk_3 (dk_at dksX3_part_2 7 rfl rfl)
theorem dX3_part_55 : decode cX3_part 55 = .ok (.istore_n 3, 1) := dk_62 (dk_at dksX3_part_2 8 rfl rfl)
theorem dX3_part_56 : decode cX3_part 56 = .ok (.aload_n 0, 1) := dk_42 (dk_at dksX3_part_2 9 rfl rfl)
theorem dX3_part_57 : decode cX3_part 57 = .ok (.aload_n 0, 1) := dk_42 (dk_at dksX3_part_2 10 rfl rfl)
theorem dX3_part_58 : decode cX3_part 58 = .ok (.getfield 236, 3) := dk_180 0 236 (dk_at dksX3_part_2 11 rfl rfl)
theorem dX3_part_61 : decode cX3_part 61 = .ok (.ifCond .ne 31, 3) := dk_154 0 31 (dk_at dksX3_part_2 14 rfl rfl)
theorem dX3_part_64 : decode cX3_part 64 = .ok (.iload_n 3, 1) := dk_29 (dk_at dksX3_part_2 17 rfl rfl)
theorem dX3_part_65 : decode cX3_part 65 = .ok (.ifCond .ne 31, 3) := dk_154 0 31 (dk_at dksX3_part_2 18 rfl rfl)
theorem dX3_part_68 : decode cX3_part 68 = .ok (.iload_n 2, 1) := dk_28 (dk_at dksX3_part_2 21 rfl rfl)
theorem dX3_part_69 : decode cX3_part 69 = .ok (.bipush 111, 2) := dk_16 111 (dk_at dksX3_part_2 22 rfl rfl)
theorem dX3_part_71 : decode cX3_part 71 = .ok (.if_icmp .eq 25, 3) := dk_159 0 25 (dk_at dksX3_part_3 0 rfl rfl)
theorem dX3_part_74 : decode cX3_part 74 = .ok (.iload_n 2, 1) := dk_28 (dk_at dksX3_part_3 3 rfl rfl)
theorem dX3_part_75 : decode cX3_part 75 = .ok (.bipush 108, 2) := dk_16 108 (dk_at dksX3_part_3 4 rfl rfl)
theorem dX3_part_77 : decode cX3_part 77 = .ok (.if_icmp .eq 19, 3) := dk_159 0 19 (dk_at dksX3_part_3 6 rfl rfl)
theorem dX3_part_80 : decode cX3_part 80 = .ok (.iload_n 2, 1) := dk_28 (dk_at dksX3_part_3 9 rfl rfl)
theorem dX3_part_81 : decode cX3_part 81 = .ok (.bipush 99, 2) := dk_16 99 (dk_at dksX3_part_3 10 rfl rfl)
theorem dX3_part_83 : decode cX3_part 83 = .ok (.if_icmp .eq 13, 3) := dk_159 0 13 (dk_at dksX3_part_3 12 rfl rfl)
theorem dX3_part_86 : decode cX3_part 86 = .ok (.iload_n 2, 1) := dk_28 (dk_at dksX3_part_3 15 rfl rfl)
theorem dX3_part_87 : decode cX3_part 87 = .ok (.bipush 109, 2) := dk_16 109 (dk_at dksX3_part_3 16 rfl rfl)
theorem dX3_part_89 : decode cX3_part 89 = .ok (.if_icmp .eq 7, 3) := dk_159 0 7 (dk_at dksX3_part_3 18 rfl rfl)
theorem dX3_part_92 : decode cX3_part 92 = .ok (.iconst 1, 1) := dk_4 (dk_at dksX3_part_3 21 rfl rfl)
theorem dX3_part_93 : decode cX3_part 93 = .ok (.goto 4, 3) := dk_167 0 4 (dk_at dksX3_part_4 0 rfl rfl)
theorem dX3_part_96 : decode cX3_part 96 = .ok (.iconst 0, 1) := dk_3 (dk_at dksX3_part_4 3 rfl rfl)
theorem dX3_part_97 : decode cX3_part 97 = .ok (.putfield 236, 3) := dk_181 0 236 (dk_at dksX3_part_4 4 rfl rfl)
theorem dX3_part_100 : decode cX3_part 100 = .ok (.aload_n 0, 1) := dk_42 (dk_at dksX3_part_4 7 rfl rfl)
theorem dX3_part_101 : decode cX3_part 101 = .ok (.dup, 1) := dk_89 (dk_at dksX3_part_4 8 rfl rfl)
theorem dX3_part_102 : decode cX3_part 102 = .ok (.getfield 233, 3) := dk_180 0 233 (dk_at dksX3_part_4 9 rfl rfl)
theorem dX3_part_105 : decode cX3_part 105 = .ok (.aload_n 0, 1) := dk_42 (dk_at dksX3_part_4 12 rfl rfl)
theorem dX3_part_106 : decode cX3_part 106 = .ok (.getfield 236, 3) := dk_180 0 236 (dk_at dksX3_part_4 13 rfl rfl)
theorem dX3_part_109 : decode cX3_part 109 = .ok (.ifCond .eq 7, 3) := dk_153 0 7 (dk_at dksX3_part_4 16 rfl rfl)
theorem dX3_part_112 : decode cX3_part 112 = .ok (.iconst 0, 1) := dk_3 (dk_at dksX3_part_4 19 rfl rfl)
theorem dX3_part_113 : decode cX3_part 113 = .ok (.goto 4, 3) := dk_167 0 4 (dk_at dksX3_part_4 20 rfl rfl)
theorem dX3_part_116 : decode cX3_part 116 = .ok (.iconst 1, 1) := dk_4 (dk_at dksX3_part_4 23 rfl rfl)
theorem dX3_part_117 : decode cX3_part 117 = .ok (.iadd, 1) := dk_96 (dk_at dksX3_part_5 0 rfl rfl)
theorem dX3_part_118 : decode cX3_part 118 = .ok (.putfield 233, 3) := dk_181 0 233 (dk_at dksX3_part_5 1 rfl rfl)
theorem dX3_part_121 : decode cX3_part 121 = .ok (.iconst 0, 1) := dk_3 (dk_at dksX3_part_5 4 rfl rfl)
theorem dX3_part_122 : decode cX3_part 122 = .ok (.istore 4, 2) := dk_54 4 (dk_at dksX3_part_5 5 rfl rfl)
theorem dX3_part_124 : decode cX3_part 124 = .ok (.iconst 0, 1) := dk_3 (dk_at dksX3_part_5 7 rfl rfl)
theorem dX3_part_125 : decode cX3_part 125 = .ok (.istore 5, 2) := dk_54 5 (dk_at dksX3_part_5 8 rfl rfl)
theorem dX3_part_127 : decode cX3_part 127 = .ok (.iload_n 3, 1) := dk_29 (dk_at dksX3_part_5 10 rfl rfl)
theorem dX3_part_128 : decode cX3_part 128 = .ok (.ifCond .eq 53, 3) := dk_153 0 53 (dk_at dksX3_part_5 11 rfl rfl)
theorem dX3_part_131 : decode cX3_part 131 = .ok (.aload_n 0, 1) := dk_42 (dk_at dksX3_part_5 14 rfl rfl)
theorem dX3_part_132 : decode cX3_part 132 = .ok (.bipush 48, 2) := dk_16 48 (dk_at dksX3_part_5 15 rfl rfl)
theorem dX3_part_134 : decode cX3_part 134 = .ok (.bipush 55, 2) := dk_16 55 (dk_at dksX3_part_5 17 rfl rfl)
theorem dX3_part_136 : decode cX3_part 136 = .ok (.invokevirtual 240, 3) := dk_182 0 240 (dk_at dksX3_part_5 19 rfl rfl)
theorem dX3_part_139 : decode cX3_part 139 = .ok (.bipush 48, 2) := dk_16 48 (dk_at dksX3_part_5 22 rfl rfl)
theorem dX3_part_141 : decode cX3_part 141 = .ok (.isub, 1) := dk_100 (dk_at dksX3_part_6 0 rfl rfl)
theorem dX3_part_142 : decode cX3_part 142 = .ok (.istore 4, 2) := dk_54 4 (dk_at dksX3_part_6 1 rfl rfl)
theorem dX3_part_144 : decode cX3_part 144 = .ok (.aload_n 0, 1) := dk_42 (dk_at dksX3_part_6 3 rfl rfl)
theorem dX3_part_145 : decode cX3_part 145 = .ok (.bipush 61, 2) := dk_16 61 (dk_at dksX3_part_6 4 rfl rfl)
theorem dX3_part_147 : decode cX3_part 147 = .ok (.bipush 61, 2) := dk_16 61 (dk_at dksX3_part_6 6 rfl rfl)
theorem dX3_part_149 : decode cX3_part 149 = .ok (.invokevirtual 240, 3) := dk_182 0 240 (dk_at dksX3_part_6 8 rfl rfl)
theorem dX3_part_152 : decode cX3_part 152 = .ok (.istore 6, 2) := dk_54 6 (dk_at dksX3_part_6 11 rfl rfl)
theorem dX3_part_154 : decode cX3_part 154 = .ok (.aload_n 0, 1) := dk_42 (dk_at dksX3_part_6 13 rfl rfl)
theorem dX3_part_155 : decode cX3_part 155 = .ok (.bipush 48, 2) := dk_16 48 (dk_at dksX3_part_6 14 rfl rfl)
theorem dX3_part_157 : decode cX3_part 157 = .ok (.iload_n 2, 1) := dk_28 (dk_at dksX3_part_6 16 rfl rfl)
theorem dX3_part_158 : decode cX3_part 158 = .ok (.bipush 114, 2) := dk_16 114 (dk_at dksX3_part_6 17 rfl rfl)
theorem dX3_part_160 : decode cX3_part 160 = .ok (.if_icmp .ne 8, 3) := dk_160 0 8 (dk_at dksX3_part_6 19 rfl rfl)
theorem dX3_part_163 : decode cX3_part 163 = .ok (.bipush 57, 2) := dk_16 57 (dk_at dksX3_part_6 22 rfl rfl)
theorem dX3_part_165 : decode cX3_part 165 = .ok (.goto 5, 3) := dk_167 0 5 (dk_at dksX3_part_7 0 rfl rfl)
theorem dX3_part_168 : decode cX3_part 168 = .ok (.bipush 51, 2) := dk_16 51 (dk_at dksX3_part_7 3 rfl rfl)
theorem dX3_part_170 : decode cX3_part 170 = .ok (.invokevirtual 240, 3) := dk_182 0 240 (dk_at dksX3_part_7 5 rfl rfl)
theorem dX3_part_173 : decode cX3_part 173 = .ok (.bipush 48, 2) := dk_16 48 (dk_at dksX3_part_7 8 rfl rfl)
theorem dX3_part_175 : decode cX3_part 175 = .ok (.isub, 1) := dk_100 (dk_at dksX3_part_7 10 rfl rfl)
theorem dX3_part_176 : decode cX3_part 176 = .ok (.istore 5, 2) := dk_54 5 (dk_at dksX3_part_7 11 rfl rfl)
theorem dX3_part_178 : decode cX3_part 178 = .ok (.goto 106, 3) := dk_167 0 106 (dk_at dksX3_part_7 13 rfl rfl)
theorem dX3_part_181 : decode cX3_part 181 = .ok (.iload_n 2, 1) := dk_28 (dk_at dksX3_part_7 16 rfl rfl)
theorem dX3_part_182 : decode cX3_part 182 = .ok (.bipush 111, 2) := dk_16 111 (dk_at dksX3_part_7 17 rfl rfl)
theorem dX3_part_184 : decode cX3_part 184 = .ok (.if_icmp .ne 32, 3) := dk_160 0 32 (dk_at dksX3_part_7 19 rfl rfl)
theorem dX3_part_187 : decode cX3_part 187 = .ok (.aload_n 0, 1) := dk_42 (dk_at dksX3_part_7 22 rfl rfl)
theorem dX3_part_188 : decode cX3_part 188 = .ok (.bipush 48, 2) := dk_16 48 (dk_at dksX3_part_8 0 rfl rfl)
theorem dX3_part_190 : decode cX3_part 190 = .ok (.bipush 50, 2) := dk_16 50 (dk_at dksX3_part_8 2 rfl rfl)
theorem dX3_part_192 : decode cX3_part 192 = .ok (.invokevirtual 240, 3) := dk_182 0 240 (dk_at dksX3_part_8 4 rfl rfl)
theorem dX3_part_195 : decode cX3_part 195 = .ok (.bipush 48, 2) := dk_16 48 (dk_at dksX3_part_8 7 rfl rfl)
theorem dX3_part_197 : decode cX3_part 197 = .ok (.isub, 1) := dk_100 (dk_at dksX3_part_8 9 rfl rfl)
theorem dX3_part_198 : decode cX3_part 198 = .ok (.istore 4, 2) := dk_54 4 (dk_at dksX3_part_8 10 rfl rfl)
theorem dX3_part_200 : decode cX3_part 200 = .ok (.aload_n 0, 1) := dk_42 (dk_at dksX3_part_8 12 rfl rfl)
theorem dX3_part_201 : decode cX3_part 201 = .ok (.bipush 49, 2) := dk_16 49 (dk_at dksX3_part_8 13 rfl rfl)
theorem dX3_part_203 : decode cX3_part 203 = .ok (.bipush 57, 2) := dk_16 57 (dk_at dksX3_part_8 15 rfl rfl)
theorem dX3_part_205 : decode cX3_part 205 = .ok (.invokevirtual 240, 3) := dk_182 0 240 (dk_at dksX3_part_8 17 rfl rfl)
theorem dX3_part_208 : decode cX3_part 208 = .ok (.bipush 48, 2) := dk_16 48 (dk_at dksX3_part_8 20 rfl rfl)
theorem dX3_part_210 : decode cX3_part 210 = .ok (.isub, 1) := dk_100 (dk_at dksX3_part_8 22 rfl rfl)
theorem dX3_part_211 : decode cX3_part 211 = .ok (.istore 5, 2) := dk_54 5 (dk_at dksX3_part_9 0 rfl rfl)
theorem dX3_part_213 : decode cX3_part 213 = .ok (.goto 71, 3) := dk_167 0 71 (dk_at dksX3_part_9 2 rfl rfl)
theorem dX3_part_216 : decode cX3_part 216 = .ok (.iload_n 2, 1) := dk_28 (dk_at dksX3_part_9 5 rfl rfl)
theorem dX3_part_217 : decode cX3_part 217 = .ok (.bipush 108, 2) := dk_16 108 (dk_at dksX3_part_9 6 rfl rfl)
theorem dX3_part_219 : decode cX3_part 219 = .ok (.if_icmp .ne 15, 3) := dk_160 0 15 (dk_at dksX3_part_9 8 rfl rfl)
theorem dX3_part_222 : decode cX3_part 222 = .ok (.aload_n 0, 1) := dk_42 (dk_at dksX3_part_9 11 rfl rfl)
theorem dX3_part_223 : decode cX3_part 223 = .ok (.iconst 0, 1) := dk_3 (dk_at dksX3_part_9 12 rfl rfl)
theorem dX3_part_224 : decode cX3_part 224 = .ok (.bipush 11, 2) := dk_16 11 (dk_at dksX3_part_9 13 rfl rfl)
theorem dX3_part_226 : decode cX3_part 226 = .ok (.invokevirtual 243, 3) := dk_182 0 243 (dk_at dksX3_part_9 15 rfl rfl)
theorem dX3_part_229 : decode cX3_part 229 = .ok (.istore 4, 2) := dk_54 4 (dk_at dksX3_part_9 18 rfl rfl)
theorem dX3_part_231 : decode cX3_part 231 = .ok (.goto 53, 3) := dk_167 0 53 (dk_at dksX3_part_9 20 rfl rfl)
theorem dX3_part_234 : decode cX3_part 234 = .ok (.iload_n 2, 1) := dk_28 (dk_at dksX3_part_9 23 rfl rfl)
theorem dX3_part_235 : decode cX3_part 235 = .ok (.bipush 99, 2) := dk_16 99 (dk_at dksX3_part_10 0 rfl rfl)
theorem dX3_part_237 : decode cX3_part 237 = .ok (.if_icmp .ne 38, 3) := dk_160 0 38 (dk_at dksX3_part_10 2 rfl rfl)
theorem dX3_part_240 : decode cX3_part 240 = .ok (.aload_n 0, 1) := dk_42 (dk_at dksX3_part_10 5 rfl rfl)
theorem dX3_part_241 : decode cX3_part 241 = .ok (.bipush 48, 2) := dk_16 48 (dk_at dksX3_part_10 6 rfl rfl)
theorem dX3_part_243 : decode cX3_part 243 = .ok (.bipush 49, 2) := dk_16 49 (dk_at dksX3_part_10 8 rfl rfl)
theorem dX3_part_245 : decode cX3_part 245 = .ok (.invokevirtual 240, 3) := dk_182 0 240 (dk_at dksX3_part_10 10 rfl rfl)
theorem dX3_part_248 : decode cX3_part 248 = .ok (.bipush 48, 2) := dk_16 48 (dk_at dksX3_part_10 13 rfl rfl)
theorem dX3_part_250 : decode cX3_part 250 = .ok (.isub, 1) := dk_100 (dk_at dksX3_part_10 15 rfl rfl)
theorem dX3_part_251 : decode cX3_part 251 = .ok (.istore 4, 2) := dk_54 4 (dk_at dksX3_part_10 16 rfl rfl)
theorem dX3_part_253 : decode cX3_part 253 = .ok (.aload_n 0, 1) := dk_42 (dk_at dksX3_part_10 18 rfl rfl)
theorem dX3_part_254 : decode cX3_part 254 = .ok (.bipush 58, 2) := dk_16 58 (dk_at dksX3_part_10 19 rfl rfl)
theorem dX3_part_256 : decode cX3_part 256 = .ok (.bipush 58, 2) := dk_16 58 (dk_at dksX3_part_10 21 rfl rfl)
theorem dX3_part_258 : decode cX3_part 258 = .ok (.invokevirtual 240, 3) := dk_182 0 240 (dk_at dksX3_part_11 0 rfl rfl)
theorem dX3_part_261 : decode cX3_part 261 = .ok (.istore 6, 2) := dk_54 6 (dk_at dksX3_part_11 3 rfl rfl)
theorem dX3_part_263 : decode cX3_part 263 = .ok (.aload_n 0, 1) := dk_42 (dk_at dksX3_part_11 5 rfl rfl)
theorem dX3_part_264 : decode cX3_part 264 = .ok (.iconst 0, 1) := dk_3 (dk_at dksX3_part_11 6 rfl rfl)
theorem dX3_part_265 : decode cX3_part 265 = .ok (.bipush 23, 2) := dk_16 23 (dk_at dksX3_part_11 7 rfl rfl)
theorem dX3_part_267 : decode cX3_part 267 = .ok (.invokevirtual 243, 3) := dk_182 0 243 (dk_at dksX3_part_11 9 rfl rfl)
theorem dX3_part_270 : decode cX3_part 270 = .ok (.istore 5, 2) := dk_54 5 (dk_at dksX3_part_11 12 rfl rfl)
theorem dX3_part_272 : decode cX3_part 272 = .ok (.goto 12, 3) := dk_167 0 12 (dk_at dksX3_part_11 14 rfl rfl)
theorem dX3_part_275 : decode cX3_part 275 = .ok (.aload_n 0, 1) := dk_42 (dk_at dksX3_part_11 17 rfl rfl)
theorem dX3_part_276 : decode cX3_part 276 = .ok (.iconst 1, 1) := dk_4 (dk_at dksX3_part_11 18 rfl rfl)
theorem dX3_part_277 : decode cX3_part 277 = .ok (.bipush 60, 2) := dk_16 60 (dk_at dksX3_part_11 19 rfl rfl)
theorem dX3_part_279 : decode cX3_part 279 = .ok (.invokevirtual 243, 3) := dk_182 0 243 (dk_at dksX3_part_11 21 rfl rfl)
theorem dX3_part_282 : decode cX3_part 282 = .ok (.istore 4, 2) := dk_54 4 (dk_at dksX3_part_12 0 rfl rfl)
theorem dX3_part_284 : decode cX3_part 284 = .ok (.iload_n 1, 1) := dk_27 (dk_at dksX3_part_12 2 rfl rfl)
theorem dX3_part_285 : decode cX3_part 285 = .ok (.ifCond .eq 15, 3) := dk_153 0 15 (dk_at dksX3_part_12 3 rfl rfl)
theorem dX3_part_288 : decode cX3_part 288 = .ok (.aload_n 0, 1) := dk_42 (dk_at dksX3_part_12 6 rfl rfl)
theorem dX3_part_289 : decode cX3_part 289 = .ok (.iload_n 2, 1) := dk_28 (dk_at dksX3_part_12 7 rfl rfl)
theorem dX3_part_290 : decode cX3_part 290 = .ok (.iload 4, 2) := dk_21 4 (dk_at dksX3_part_12 8 rfl rfl)
theorem dX3_part_292 : decode cX3_part 292 = .ok (.iload 5, 2) := dk_21 5 (dk_at dksX3_part_12 10 rfl rfl)
theorem dX3_part_294 : decode cX3_part 294 = .ok (.invokevirtual 246, 3) := dk_182 0 246 (dk_at dksX3_part_12 12 rfl rfl)
theorem dX3_part_297 : decode cX3_part 297 = .ok (.ifCond .eq 7, 3) := dk_153 0 7 (dk_at dksX3_part_12 15 rfl rfl)
theorem dX3_part_300 : decode cX3_part 300 = .ok (.iconst 1, 1) := dk_4 (dk_at dksX3_part_12 18 rfl rfl)
theorem dX3_part_301 : decode cX3_part 301 = .ok (.goto 4, 3) := dk_167 0 4 (dk_at dksX3_part_12 19 rfl rfl)
theorem dX3_part_304 : decode cX3_part 304 = .ok (.iconst 0, 1) := dk_3 (dk_at dksX3_part_12 22 rfl rfl)
theorem dX3_part_305 : decode cX3_part 305 = .ok (.ireturn, 1) := dk_172 (dk_at dksX3_part_12 23 rfl rfl)
abbrev cX3_sign : ByteArray := prog_22_method_113_code
def yX3_sign : MethodName := ⟨RX3, "sign", "(II)I"⟩
def dkwX3_sign_3 : List UInt8 := [167, 0, 4, 4, 96, 181, 0, 233, 29, 172]
abbrev dktX3_sign_3 : List UInt8 := dkwX3_sign_3 ++ []
def dkwX3_sign_2 : List UInt8 := [154, 0, 7, 4, 167, 0, 4, 3, 181, 0, 236, 42, 89, 180, 0, 233, 42, 180, 0, 236, 153, 0, 7, 3]
abbrev dktX3_sign_2 : List UInt8 := dkwX3_sign_2 ++ dktX3_sign_3
def dkwX3_sign_1 : List UInt8 := [180, 0, 233, 46, 167, 0, 4, 3, 62, 42, 42, 180, 0, 236, 154, 0, 12, 29, 27, 28, 184, 0, 148]
abbrev dktX3_sign_1 : List UInt8 := dkwX3_sign_1 ++ dktX3_sign_2
def dkwX3_sign_0 : List UInt8 := [42, 180, 0, 233, 42, 180, 0, 230, 162, 0, 22, 42, 180, 0, 236, 154, 0, 15, 42, 180, 0, 35, 42]
abbrev dktX3_sign_0 : List UInt8 := dkwX3_sign_0 ++ dktX3_sign_1
theorem dksX3_sign_0 : cX3_sign.data.toList.drop 0 = dktX3_sign_0 := by decide +kernel
theorem dksX3_sign_1 : cX3_sign.data.toList.drop 23 = dktX3_sign_1 := dk_seg dksX3_sign_0 23 rfl rfl
theorem dksX3_sign_2 : cX3_sign.data.toList.drop 46 = dktX3_sign_2 := dk_seg dksX3_sign_1 23 rfl rfl
theorem dksX3_sign_3 : cX3_sign.data.toList.drop 70 = dktX3_sign_3 := dk_seg dksX3_sign_2 24 rfl rfl
theorem dX3_sign_0 : decode cX3_sign 0 = .ok (.aload_n 0, 1) := dk_42 (dk_at dksX3_sign_0 0 rfl rfl)
theorem dX3_sign_1 : decode cX3_sign 1 = .ok (.getfield 233, 3) := dk_180 0 233 (dk_at dksX3_sign_0 1 rfl rfl)
theorem dX3_sign_4 : decode cX3_sign 4 = .ok (.aload_n 0, 1) := dk_42 (dk_at dksX3_sign_0 4 rfl rfl)
theorem dX3_sign_5 : decode cX3_sign 5 = .ok (.getfield 230, 3) := dk_180 0 230 (dk_at dksX3_sign_0 5 rfl rfl)
theorem dX3_sign_8 : decode cX3_sign 8 = .ok (.if_icmp .ge 22, 3) := dk_162 0 22 (dk_at dksX3_sign_0 8 rfl rfl)
theorem dX3_sign_11 : decode cX3_sign 11 = .ok (.aload_n 0, 1) := dk_42 (dk_at dksX3_sign_0 11 rfl rfl)
theorem dX3_sign_12 : decode cX3_sign 12 = .ok (.getfield 236, 3) := dk_180 0 236 (dk_at dksX3_sign_0 12 rfl rfl)
theorem dX3_sign_15 : decode cX3_sign 15 = .ok (.ifCond .ne 15, 3) := dk_154 0 15 (dk_at dksX3_sign_0 15 rfl rfl)
theorem dX3_sign_18 : decode cX3_sign 18 = .ok (.aload_n 0, 1) := dk_42 (dk_at dksX3_sign_0 18 rfl rfl)
theorem dX3_sign_19 : decode cX3_sign 19 = .ok (.getfield 35, 3) := dk_180 0 35 (dk_at dksX3_sign_0 19 rfl rfl)
theorem dX3_sign_22 : decode cX3_sign 22 = .ok (.aload_n 0, 1) := dk_42 (dk_at dksX3_sign_0 22 rfl rfl)
theorem dX3_sign_23 : decode cX3_sign 23 = .ok (.getfield 233, 3) := dk_180 0 233 (dk_at dksX3_sign_1 0 rfl rfl)
theorem dX3_sign_26 : decode cX3_sign 26 = .ok (.iaload, 1) := dk_46 (dk_at dksX3_sign_1 3 rfl rfl)
theorem dX3_sign_27 : decode cX3_sign 27 = .ok (.goto 4, 3) := dk_167 0 4 (dk_at dksX3_sign_1 4 rfl rfl)
theorem dX3_sign_30 : decode cX3_sign 30 = .ok (.iconst 0, 1) := dk_3 (dk_at dksX3_sign_1 7 rfl rfl)
theorem dX3_sign_31 : decode cX3_sign 31 = .ok (.istore_n 3, 1) := dk_62 (dk_at dksX3_sign_1 8 rfl rfl)
theorem dX3_sign_32 : decode cX3_sign 32 = .ok (.aload_n 0, 1) := dk_42 (dk_at dksX3_sign_1 9 rfl rfl)
theorem dX3_sign_33 : decode cX3_sign 33 = .ok (.aload_n 0, 1) := dk_42 (dk_at dksX3_sign_1 10 rfl rfl)
theorem dX3_sign_34 : decode cX3_sign 34 = .ok (.getfield 236, 3) := dk_180 0 236 (dk_at dksX3_sign_1 11 rfl rfl)
theorem dX3_sign_37 : decode cX3_sign 37 = .ok (.ifCond .ne 12, 3) := dk_154 0 12 (dk_at dksX3_sign_1 14 rfl rfl)
theorem dX3_sign_40 : decode cX3_sign 40 = .ok (.iload_n 3, 1) := dk_29 (dk_at dksX3_sign_1 17 rfl rfl)
theorem dX3_sign_41 : decode cX3_sign 41 = .ok (.iload_n 1, 1) := dk_27 (dk_at dksX3_sign_1 18 rfl rfl)
theorem dX3_sign_42 : decode cX3_sign 42 = .ok (.iload_n 2, 1) := dk_28 (dk_at dksX3_sign_1 19 rfl rfl)
theorem dX3_sign_43 : decode cX3_sign 43 = .ok (.invokestatic 148, 3) := dk_184 0 148 (dk_at dksX3_sign_1 20 rfl rfl)
theorem dX3_sign_46 : decode cX3_sign 46 = .ok (.ifCond .ne 7, 3) := dk_154 0 7 (dk_at dksX3_sign_2 0 rfl rfl)
theorem dX3_sign_49 : decode cX3_sign 49 = .ok (.iconst 1, 1) := dk_4 (dk_at dksX3_sign_2 3 rfl rfl)
theorem dX3_sign_50 : decode cX3_sign 50 = .ok (.goto 4, 3) := dk_167 0 4 (dk_at dksX3_sign_2 4 rfl rfl)
theorem dX3_sign_53 : decode cX3_sign 53 = .ok (.iconst 0, 1) := dk_3 (dk_at dksX3_sign_2 7 rfl rfl)
theorem dX3_sign_54 : decode cX3_sign 54 = .ok (.putfield 236, 3) := dk_181 0 236 (dk_at dksX3_sign_2 8 rfl rfl)
theorem dX3_sign_57 : decode cX3_sign 57 = .ok (.aload_n 0, 1) := dk_42 (dk_at dksX3_sign_2 11 rfl rfl)
theorem dX3_sign_58 : decode cX3_sign 58 = .ok (.dup, 1) := dk_89 (dk_at dksX3_sign_2 12 rfl rfl)
theorem dX3_sign_59 : decode cX3_sign 59 = .ok (.getfield 233, 3) := dk_180 0 233 (dk_at dksX3_sign_2 13 rfl rfl)
theorem dX3_sign_62 : decode cX3_sign 62 = .ok (.aload_n 0, 1) := dk_42 (dk_at dksX3_sign_2 16 rfl rfl)
theorem dX3_sign_63 : decode cX3_sign 63 = .ok (.getfield 236, 3) := dk_180 0 236 (dk_at dksX3_sign_2 17 rfl rfl)
theorem dX3_sign_66 : decode cX3_sign 66 = .ok (.ifCond .eq 7, 3) := dk_153 0 7 (dk_at dksX3_sign_2 20 rfl rfl)
theorem dX3_sign_69 : decode cX3_sign 69 = .ok (.iconst 0, 1) := dk_3 (dk_at dksX3_sign_2 23 rfl rfl)
theorem dX3_sign_70 : decode cX3_sign 70 = .ok (.goto 4, 3) := dk_167 0 4 (dk_at dksX3_sign_3 0 rfl rfl)
theorem dX3_sign_73 : decode cX3_sign 73 = .ok (.iconst 1, 1) := dk_4 (dk_at dksX3_sign_3 3 rfl rfl)
theorem dX3_sign_74 : decode cX3_sign 74 = .ok (.iadd, 1) := dk_96 (dk_at dksX3_sign_3 4 rfl rfl)
theorem dX3_sign_75 : decode cX3_sign 75 = .ok (.putfield 233, 3) := dk_181 0 233 (dk_at dksX3_sign_3 5 rfl rfl)
theorem dX3_sign_78 : decode cX3_sign 78 = .ok (.iload_n 3, 1) := dk_29 (dk_at dksX3_sign_3 8 rfl rfl)
theorem dX3_sign_79 : decode cX3_sign 79 = .ok (.ireturn, 1) := dk_172 (dk_at dksX3_sign_3 9 rfl rfl)
abbrev cX3_number : ByteArray := prog_22_method_114_code
def yX3_number : MethodName := ⟨RX3, "number", "(II)I"⟩
def dkwX3_number_4 : List UInt8 := [167, 255, 177, 29, 172]
abbrev dktX3_number_4 : List UInt8 := dkwX3_number_4 ++ []
def dkwX3_number_3 : List UInt8 := [16, 48, 100, 28, 163, 0, 23, 16, 10, 29, 104, 42, 16, 48, 16, 57, 182, 0, 240, 96, 16, 48, 100, 62]
abbrev dktX3_number_3 : List UInt8 := dkwX3_number_3 ++ dktX3_number_4
def dkwX3_number_2 : List UInt8 := [16, 48, 16, 57, 184, 0, 148, 153, 0, 44, 16, 10, 29, 104, 42, 180, 0, 35, 42, 180, 0, 233, 46, 96]
abbrev dktX3_number_2 : List UInt8 := dkwX3_number_2 ++ dktX3_number_3
def dkwX3_number_1 : List UInt8 := [158, 0, 74, 42, 180, 0, 233, 42, 180, 0, 230, 162, 0, 63, 42, 180, 0, 35, 42, 180, 0, 233, 46]
abbrev dktX3_number_1 : List UInt8 := dkwX3_number_1 ++ dktX3_number_2
def dkwX3_number_0 : List UInt8 := [42, 16, 48, 27, 96, 16, 57, 182, 0, 240, 16, 48, 100, 62, 42, 180, 0, 236, 154, 0, 78, 29]
abbrev dktX3_number_0 : List UInt8 := dkwX3_number_0 ++ dktX3_number_1
theorem dksX3_number_0 : cX3_number.data.toList.drop 0 = dktX3_number_0 := by decide +kernel
theorem dksX3_number_1 : cX3_number.data.toList.drop 22 = dktX3_number_1 := dk_seg dksX3_number_0 22 rfl rfl
theorem dksX3_number_2 : cX3_number.data.toList.drop 45 = dktX3_number_2 := dk_seg dksX3_number_1 23 rfl rfl
theorem dksX3_number_3 : cX3_number.data.toList.drop 69 = dktX3_number_3 := dk_seg dksX3_number_2 24 rfl rfl
theorem dksX3_number_4 : cX3_number.data.toList.drop 93 = dktX3_number_4 := dk_seg dksX3_number_3 24 rfl rfl
theorem dX3_number_0 : decode cX3_number 0 = .ok (.aload_n 0, 1) := dk_42 (dk_at dksX3_number_0 0 rfl rfl)
theorem dX3_number_1 : decode cX3_number 1 = .ok (.bipush 48, 2) := dk_16 48 (dk_at dksX3_number_0 1 rfl rfl)
theorem dX3_number_3 : decode cX3_number 3 = .ok (.iload_n 1, 1) := dk_27 (dk_at dksX3_number_0 3 rfl rfl)
theorem dX3_number_4 : decode cX3_number 4 = .ok (.iadd, 1) := dk_96 (dk_at dksX3_number_0 4 rfl rfl)
theorem dX3_number_5 : decode cX3_number 5 = .ok (.bipush 57, 2) := dk_16 57 (dk_at dksX3_number_0 5 rfl rfl)
theorem dX3_number_7 : decode cX3_number 7 = .ok (.invokevirtual 240, 3) := dk_182 0 240 (dk_at dksX3_number_0 7 rfl rfl)
theorem dX3_number_10 : decode cX3_number 10 = .ok (.bipush 48, 2) := dk_16 48 (dk_at dksX3_number_0 10 rfl rfl)
theorem dX3_number_12 : decode cX3_number 12 = .ok (.isub, 1) := dk_100 (dk_at dksX3_number_0 12 rfl rfl)
theorem dX3_number_13 : decode cX3_number 13 = .ok (.istore_n 3, 1) := dk_62 (dk_at dksX3_number_0 13 rfl rfl)
theorem dX3_number_14 : decode cX3_number 14 = .ok (.aload_n 0, 1) := dk_42 (dk_at dksX3_number_0 14 rfl rfl)
theorem dX3_number_15 : decode cX3_number 15 = .ok (.getfield 236, 3) := dk_180 0 236 (dk_at dksX3_number_0 15 rfl rfl)
theorem dX3_number_18 : decode cX3_number 18 = .ok (.ifCond .ne 78, 3) := dk_154 0 78 (dk_at dksX3_number_0 18 rfl rfl)
theorem dX3_number_21 : decode cX3_number 21 = .ok (.iload_n 3, 1) := dk_29 (dk_at dksX3_number_0 21 rfl rfl)
theorem dX3_number_22 : decode cX3_number 22 = .ok (.ifCond .le 74, 3) := dk_158 0 74 (dk_at dksX3_number_1 0 rfl rfl)
theorem dX3_number_25 : decode cX3_number 25 = .ok (.aload_n 0, 1) := dk_42 (dk_at dksX3_number_1 3 rfl rfl)
theorem dX3_number_26 : decode cX3_number 26 = .ok (.getfield 233, 3) := dk_180 0 233 (dk_at dksX3_number_1 4 rfl rfl)
theorem dX3_number_29 : decode cX3_number 29 = .ok (.aload_n 0, 1) := dk_42 (dk_at dksX3_number_1 7 rfl rfl)
theorem dX3_number_30 : decode cX3_number 30 = .ok (.getfield 230, 3) := dk_180 0 230 (dk_at dksX3_number_1 8 rfl rfl)
theorem dX3_number_33 : decode cX3_number 33 = .ok (.if_icmp .ge 63, 3) := dk_162 0 63 (dk_at dksX3_number_1 11 rfl rfl)
theorem dX3_number_36 : decode cX3_number 36 = .ok (.aload_n 0, 1) := dk_42 (dk_at dksX3_number_1 14 rfl rfl)
theorem dX3_number_37 : decode cX3_number 37 = .ok (.getfield 35, 3) := dk_180 0 35 (dk_at dksX3_number_1 15 rfl rfl)
theorem dX3_number_40 : decode cX3_number 40 = .ok (.aload_n 0, 1) := dk_42 (dk_at dksX3_number_1 18 rfl rfl)
theorem dX3_number_41 : decode cX3_number 41 = .ok (.getfield 233, 3) := dk_180 0 233 (dk_at dksX3_number_1 19 rfl rfl)
theorem dX3_number_44 : decode cX3_number 44 = .ok (.iaload, 1) := dk_46 (dk_at dksX3_number_1 22 rfl rfl)
theorem dX3_number_45 : decode cX3_number 45 = .ok (.bipush 48, 2) := dk_16 48 (dk_at dksX3_number_2 0 rfl rfl)
theorem dX3_number_47 : decode cX3_number 47 = .ok (.bipush 57, 2) := dk_16 57 (dk_at dksX3_number_2 2 rfl rfl)
theorem dX3_number_49 : decode cX3_number 49 = .ok (.invokestatic 148, 3) := dk_184 0 148 (dk_at dksX3_number_2 4 rfl rfl)
theorem dX3_number_52 : decode cX3_number 52 = .ok (.ifCond .eq 44, 3) := dk_153 0 44 (dk_at dksX3_number_2 7 rfl rfl)
theorem dX3_number_55 : decode cX3_number 55 = .ok (.bipush 10, 2) := dk_16 10 (dk_at dksX3_number_2 10 rfl rfl)
theorem dX3_number_57 : decode cX3_number 57 = .ok (.iload_n 3, 1) := dk_29 (dk_at dksX3_number_2 12 rfl rfl)
theorem dX3_number_58 : decode cX3_number 58 = .ok (.imul, 1) := dk_104 (dk_at dksX3_number_2 13 rfl rfl)
theorem dX3_number_59 : decode cX3_number 59 = .ok (.aload_n 0, 1) := dk_42 (dk_at dksX3_number_2 14 rfl rfl)
theorem dX3_number_60 : decode cX3_number 60 = .ok (.getfield 35, 3) := dk_180 0 35 (dk_at dksX3_number_2 15 rfl rfl)
theorem dX3_number_63 : decode cX3_number 63 = .ok (.aload_n 0, 1) := dk_42 (dk_at dksX3_number_2 18 rfl rfl)
theorem dX3_number_64 : decode cX3_number 64 = .ok (.getfield 233, 3) := dk_180 0 233 (dk_at dksX3_number_2 19 rfl rfl)
theorem dX3_number_67 : decode cX3_number 67 = .ok (.iaload, 1) := dk_46 (dk_at dksX3_number_2 22 rfl rfl)
theorem dX3_number_68 : decode cX3_number 68 = .ok (.iadd, 1) := dk_96 (dk_at dksX3_number_2 23 rfl rfl)
theorem dX3_number_69 : decode cX3_number 69 = .ok (.bipush 48, 2) := dk_16 48 (dk_at dksX3_number_3 0 rfl rfl)
theorem dX3_number_71 : decode cX3_number 71 = .ok (.isub, 1) := dk_100 (dk_at dksX3_number_3 2 rfl rfl)
theorem dX3_number_72 : decode cX3_number 72 = .ok (.iload_n 2, 1) := dk_28 (dk_at dksX3_number_3 3 rfl rfl)
theorem dX3_number_73 : decode cX3_number 73 = .ok (.if_icmp .gt 23, 3) := dk_163 0 23 (dk_at dksX3_number_3 4 rfl rfl)
theorem dX3_number_76 : decode cX3_number 76 = .ok (.bipush 10, 2) := dk_16 10 (dk_at dksX3_number_3 7 rfl rfl)
theorem dX3_number_78 : decode cX3_number 78 = .ok (.iload_n 3, 1) := dk_29 (dk_at dksX3_number_3 9 rfl rfl)
theorem dX3_number_79 : decode cX3_number 79 = .ok (.imul, 1) := dk_104 (dk_at dksX3_number_3 10 rfl rfl)
theorem dX3_number_80 : decode cX3_number 80 = .ok (.aload_n 0, 1) := dk_42 (dk_at dksX3_number_3 11 rfl rfl)
theorem dX3_number_81 : decode cX3_number 81 = .ok (.bipush 48, 2) := dk_16 48 (dk_at dksX3_number_3 12 rfl rfl)
theorem dX3_number_83 : decode cX3_number 83 = .ok (.bipush 57, 2) := dk_16 57 (dk_at dksX3_number_3 14 rfl rfl)
theorem dX3_number_85 : decode cX3_number 85 = .ok (.invokevirtual 240, 3) := dk_182 0 240 (dk_at dksX3_number_3 16 rfl rfl)
theorem dX3_number_88 : decode cX3_number 88 = .ok (.iadd, 1) := dk_96 (dk_at dksX3_number_3 19 rfl rfl)
theorem dX3_number_89 : decode cX3_number 89 = .ok (.bipush 48, 2) := dk_16 48 (dk_at dksX3_number_3 20 rfl rfl)
theorem dX3_number_91 : decode cX3_number 91 = .ok (.isub, 1) := dk_100 (dk_at dksX3_number_3 22 rfl rfl)
theorem dX3_number_92 : decode cX3_number 92 = .ok (.istore_n 3, 1) := dk_62 (dk_at dksX3_number_3 23 rfl rfl)
theorem dX3_number_93 : decode cX3_number 93 = .ok (.goto (-79), 3) := dk_167 255 177 (dk_at dksX3_number_4 0 rfl rfl)
theorem dX3_number_96 : decode cX3_number 96 = .ok (.iload_n 3, 1) := dk_29 (dk_at dksX3_number_4 3 rfl rfl)
theorem dX3_number_97 : decode cX3_number 97 = .ok (.ireturn, 1) := dk_172 (dk_at dksX3_number_4 4 rfl rfl)
abbrev cX3_does : ByteArray := prog_22_method_116_code
def yX3_does : MethodName := ⟨RX3, "does", "(III)Z"⟩
def dkwX3_does_10 : List UInt8 := [167, 0, 8, 42, 28, 182, 0, 194, 54, 6, 21, 4, 172]
abbrev dktX3_does_10 : List UInt8 := dkwX3_does_10 ++ []
def dkwX3_does_9 : List UInt8 := [160, 0, 11, 42, 28, 182, 0, 178, 167, 0, 23, 27, 16, 99, 160, 0, 12, 42, 28, 29, 182, 0, 188]
abbrev dktX3_does_9 : List UInt8 := dkwX3_does_9 ++ dktX3_does_10
def dkwX3_does_8 : List UInt8 := [182, 0, 161, 167, 0, 52, 27, 16, 111, 160, 0, 12, 42, 28, 29, 182, 0, 169, 167, 0, 37, 27, 16, 108]
abbrev dktX3_does_8 : List UInt8 := dkwX3_does_8 ++ dktX3_does_9
def dkwX3_does_7 : List UInt8 := [42, 28, 27, 16, 98, 160, 0, 7, 3, 167, 0, 14, 27, 16, 102, 160, 0, 7, 4, 167, 0, 4, 5, 29]
abbrev dktX3_does_7 : List UInt8 := dkwX3_does_7 ++ dktX3_does_8
def dkwX3_does_6 : List UInt8 := [27, 16, 102, 159, 0, 9, 27, 16, 114, 160, 0, 7, 4, 167, 0, 4, 3, 54, 5, 21, 5, 153, 0, 33]
abbrev dktX3_does_6 : List UInt8 := dkwX3_does_6 ++ dktX3_does_7
def dkwX3_does_5 : List UInt8 := [182, 0, 175, 154, 0, 7, 4, 167, 0, 4, 3, 54, 4, 21, 4, 153, 0, 114, 27, 16, 98, 159, 0, 15]
abbrev dktX3_does_5 : List UInt8 := dkwX3_does_5 ++ dktX3_does_6
def dkwX3_does_4 : List UInt8 := [163, 0, 7, 4, 167, 0, 4, 3, 54, 4, 21, 4, 153, 0, 21, 27, 16, 108, 160, 0, 11, 42, 28]
abbrev dktX3_does_4 : List UInt8 := dkwX3_does_4 ++ dktX3_does_5
def dkwX3_does_3 : List UInt8 := [167, 0, 32, 3, 167, 0, 28, 27, 16, 109, 160, 0, 17, 42, 180, 0, 7, 3, 46, 28, 96, 17, 39, 15]
abbrev dktX3_does_3 : List UInt8 := dkwX3_does_3 ++ dktX3_does_4
def dkwX3_does_2 : List UInt8 := [167, 0, 55, 3, 167, 0, 51, 27, 16, 99, 160, 0, 20, 42, 28, 29, 182, 0, 185, 154, 0, 7, 4]
abbrev dktX3_does_2 : List UInt8 := dkwX3_does_2 ++ dktX3_does_3
def dkwX3_does_1 : List UInt8 := [167, 0, 77, 27, 16, 108, 160, 0, 23, 28, 42, 180, 0, 7, 17, 0, 163, 46, 162, 0, 7, 4]
abbrev dktX3_does_1 : List UInt8 := dkwX3_does_1 ++ dktX3_does_2
def dkwX3_does_0 : List UInt8 := [27, 16, 111, 160, 0, 24, 42, 180, 0, 7, 17, 0, 163, 46, 16, 12, 162, 0, 7, 4, 167, 0, 81, 3]
abbrev dktX3_does_0 : List UInt8 := dkwX3_does_0 ++ dktX3_does_1
theorem dksX3_does_0 : cX3_does.data.toList.drop 0 = dktX3_does_0 := by decide +kernel
theorem dksX3_does_1 : cX3_does.data.toList.drop 24 = dktX3_does_1 := dk_seg dksX3_does_0 24 rfl rfl
theorem dksX3_does_2 : cX3_does.data.toList.drop 46 = dktX3_does_2 := dk_seg dksX3_does_1 22 rfl rfl
theorem dksX3_does_3 : cX3_does.data.toList.drop 69 = dktX3_does_3 := dk_seg dksX3_does_2 23 rfl rfl
theorem dksX3_does_4 : cX3_does.data.toList.drop 93 = dktX3_does_4 := dk_seg dksX3_does_3 24 rfl rfl
theorem dksX3_does_5 : cX3_does.data.toList.drop 116 = dktX3_does_5 := dk_seg dksX3_does_4 23 rfl rfl
theorem dksX3_does_6 : cX3_does.data.toList.drop 140 = dktX3_does_6 := dk_seg dksX3_does_5 24 rfl rfl
theorem dksX3_does_7 : cX3_does.data.toList.drop 164 = dktX3_does_7 := dk_seg dksX3_does_6 24 rfl rfl
theorem dksX3_does_8 : cX3_does.data.toList.drop 188 = dktX3_does_8 := dk_seg dksX3_does_7 24 rfl rfl
theorem dksX3_does_9 : cX3_does.data.toList.drop 212 = dktX3_does_9 := dk_seg dksX3_does_8 24 rfl rfl
theorem dksX3_does_10 : cX3_does.data.toList.drop 235 = dktX3_does_10 := dk_seg dksX3_does_9 23 rfl rfl
theorem dX3_does_0 : decode cX3_does 0 = .ok (.iload_n 1, 1) := dk_27 (dk_at dksX3_does_0 0 rfl rfl)
theorem dX3_does_1 : decode cX3_does 1 = .ok (.bipush 111, 2) := dk_16 111 (dk_at dksX3_does_0 1 rfl rfl)
theorem dX3_does_3 : decode cX3_does 3 = .ok (.if_icmp .ne 24, 3) := dk_160 0 24 (dk_at dksX3_does_0 3 rfl rfl)
theorem dX3_does_6 : decode cX3_does 6 = .ok (.aload_n 0, 1) := dk_42 (dk_at dksX3_does_0 6 rfl rfl)
theorem dX3_does_7 : decode cX3_does 7 = .ok (.getfield 7, 3) := dk_180 0 7 (dk_at dksX3_does_0 7 rfl rfl)
theorem dX3_does_10 : decode cX3_does 10 = .ok (.sipush 163, 3) := dk_17 0 163 (dk_at dksX3_does_0 10 rfl rfl)
theorem dX3_does_13 : decode cX3_does 13 = .ok (.iaload, 1) := dk_46 (dk_at dksX3_does_0 13 rfl rfl)
theorem dX3_does_14 : decode cX3_does 14 = .ok (.bipush 12, 2) := dk_16 12 (dk_at dksX3_does_0 14 rfl rfl)
theorem dX3_does_16 : decode cX3_does 16 = .ok (.if_icmp .ge 7, 3) := dk_162 0 7 (dk_at dksX3_does_0 16 rfl rfl)
theorem dX3_does_19 : decode cX3_does 19 = .ok (.iconst 1, 1) := dk_4 (dk_at dksX3_does_0 19 rfl rfl)
theorem dX3_does_20 : decode cX3_does 20 = .ok (.goto 81, 3) := dk_167 0 81 (dk_at dksX3_does_0 20 rfl rfl)
theorem dX3_does_23 : decode cX3_does 23 = .ok (.iconst 0, 1) := dk_3 (dk_at dksX3_does_0 23 rfl rfl)
theorem dX3_does_24 : decode cX3_does 24 = .ok (.goto 77, 3) := dk_167 0 77 (dk_at dksX3_does_1 0 rfl rfl)
theorem dX3_does_27 : decode cX3_does 27 = .ok (.iload_n 1, 1) := dk_27 (dk_at dksX3_does_1 3 rfl rfl)
theorem dX3_does_28 : decode cX3_does 28 = .ok (.bipush 108, 2) := dk_16 108 (dk_at dksX3_does_1 4 rfl rfl)
theorem dX3_does_30 : decode cX3_does 30 = .ok (.if_icmp .ne 23, 3) := dk_160 0 23 (dk_at dksX3_does_1 6 rfl rfl)
theorem dX3_does_33 : decode cX3_does 33 = .ok (.iload_n 2, 1) := dk_28 (dk_at dksX3_does_1 9 rfl rfl)
theorem dX3_does_34 : decode cX3_does 34 = .ok (.aload_n 0, 1) := dk_42 (dk_at dksX3_does_1 10 rfl rfl)
theorem dX3_does_35 : decode cX3_does 35 = .ok (.getfield 7, 3) := dk_180 0 7 (dk_at dksX3_does_1 11 rfl rfl)
theorem dX3_does_38 : decode cX3_does 38 = .ok (.sipush 163, 3) := dk_17 0 163 (dk_at dksX3_does_1 14 rfl rfl)
theorem dX3_does_41 : decode cX3_does 41 = .ok (.iaload, 1) := dk_46 (dk_at dksX3_does_1 17 rfl rfl)
theorem dX3_does_42 : decode cX3_does 42 = .ok (.if_icmp .ge 7, 3) := dk_162 0 7 (dk_at dksX3_does_1 18 rfl rfl)
theorem dX3_does_45 : decode cX3_does 45 = .ok (.iconst 1, 1) := dk_4 (dk_at dksX3_does_1 21 rfl rfl)
theorem dX3_does_46 : decode cX3_does 46 = .ok (.goto 55, 3) := dk_167 0 55 (dk_at dksX3_does_2 0 rfl rfl)
theorem dX3_does_49 : decode cX3_does 49 = .ok (.iconst 0, 1) := dk_3 (dk_at dksX3_does_2 3 rfl rfl)
theorem dX3_does_50 : decode cX3_does 50 = .ok (.goto 51, 3) := dk_167 0 51 (dk_at dksX3_does_2 4 rfl rfl)
theorem dX3_does_53 : decode cX3_does 53 = .ok (.iload_n 1, 1) := dk_27 (dk_at dksX3_does_2 7 rfl rfl)
theorem dX3_does_54 : decode cX3_does 54 = .ok (.bipush 99, 2) := dk_16 99 (dk_at dksX3_does_2 8 rfl rfl)
theorem dX3_does_56 : decode cX3_does 56 = .ok (.if_icmp .ne 20, 3) := dk_160 0 20 (dk_at dksX3_does_2 10 rfl rfl)
theorem dX3_does_59 : decode cX3_does 59 = .ok (.aload_n 0, 1) := dk_42 (dk_at dksX3_does_2 13 rfl rfl)
theorem dX3_does_60 : decode cX3_does 60 = .ok (.iload_n 2, 1) := dk_28 (dk_at dksX3_does_2 14 rfl rfl)
theorem dX3_does_61 : decode cX3_does 61 = .ok (.iload_n 3, 1) := dk_29 (dk_at dksX3_does_2 15 rfl rfl)
theorem dX3_does_62 : decode cX3_does 62 = .ok (.invokevirtual 185, 3) := dk_182 0 185 (dk_at dksX3_does_2 16 rfl rfl)
theorem dX3_does_65 : decode cX3_does 65 = .ok (.ifCond .ne 7, 3) := dk_154 0 7 (dk_at dksX3_does_2 19 rfl rfl)
theorem dX3_does_68 : decode cX3_does 68 = .ok (.iconst 1, 1) := dk_4 (dk_at dksX3_does_2 22 rfl rfl)
theorem dX3_does_69 : decode cX3_does 69 = .ok (.goto 32, 3) := dk_167 0 32 (dk_at dksX3_does_3 0 rfl rfl)
theorem dX3_does_72 : decode cX3_does 72 = .ok (.iconst 0, 1) := dk_3 (dk_at dksX3_does_3 3 rfl rfl)
theorem dX3_does_73 : decode cX3_does 73 = .ok (.goto 28, 3) := dk_167 0 28 (dk_at dksX3_does_3 4 rfl rfl)
theorem dX3_does_76 : decode cX3_does 76 = .ok (.iload_n 1, 1) := dk_27 (dk_at dksX3_does_3 7 rfl rfl)
theorem dX3_does_77 : decode cX3_does 77 = .ok (.bipush 109, 2) := dk_16 109 (dk_at dksX3_does_3 8 rfl rfl)
theorem dX3_does_79 : decode cX3_does 79 = .ok (.if_icmp .ne 17, 3) := dk_160 0 17 (dk_at dksX3_does_3 10 rfl rfl)
theorem dX3_does_82 : decode cX3_does 82 = .ok (.aload_n 0, 1) := dk_42 (dk_at dksX3_does_3 13 rfl rfl)
theorem dX3_does_83 : decode cX3_does 83 = .ok (.getfield 7, 3) := dk_180 0 7 (dk_at dksX3_does_3 14 rfl rfl)
theorem dX3_does_86 : decode cX3_does 86 = .ok (.iconst 0, 1) := dk_3 (dk_at dksX3_does_3 17 rfl rfl)
theorem dX3_does_87 : decode cX3_does 87 = .ok (.iaload, 1) := dk_46 (dk_at dksX3_does_3 18 rfl rfl)
theorem dX3_does_88 : decode cX3_does 88 = .ok (.iload_n 2, 1) := dk_28 (dk_at dksX3_does_3 19 rfl rfl)
theorem dX3_does_89 : decode cX3_does 89 = .ok (.iadd, 1) := dk_96 (dk_at dksX3_does_3 20 rfl rfl)
theorem dX3_does_90 : decode cX3_does 90 = .ok (.sipush 9999, 3) := dk_17 39 15 (dk_at dksX3_does_3 21 rfl rfl)
theorem dX3_does_93 : decode cX3_does 93 = .ok (.if_icmp .gt 7, 3) := dk_163 0 7 (dk_at dksX3_does_4 0 rfl rfl)
theorem dX3_does_96 : decode cX3_does 96 = .ok (.iconst 1, 1) := dk_4 (dk_at dksX3_does_4 3 rfl rfl)
theorem dX3_does_97 : decode cX3_does 97 = .ok (.goto 4, 3) := dk_167 0 4 (dk_at dksX3_does_4 4 rfl rfl)
theorem dX3_does_100 : decode cX3_does 100 = .ok (.iconst 0, 1) := dk_3 (dk_at dksX3_does_4 7 rfl rfl)
theorem dX3_does_101 : decode cX3_does 101 = .ok (.istore 4, 2) := dk_54 4 (dk_at dksX3_does_4 8 rfl rfl)
theorem dX3_does_103 : decode cX3_does 103 = .ok (.iload 4, 2) := dk_21 4 (dk_at dksX3_does_4 10 rfl rfl)
theorem dX3_does_105 : decode cX3_does 105 = .ok (.ifCond .eq 21, 3) := dk_153 0 21 (dk_at dksX3_does_4 12 rfl rfl)
theorem dX3_does_108 : decode cX3_does 108 = .ok (.iload_n 1, 1) := dk_27 (dk_at dksX3_does_4 15 rfl rfl)
theorem dX3_does_109 : decode cX3_does 109 = .ok (.bipush 108, 2) := dk_16 108 (dk_at dksX3_does_4 16 rfl rfl)
theorem dX3_does_111 : decode cX3_does 111 = .ok (.if_icmp .ne 11, 3) := dk_160 0 11 (dk_at dksX3_does_4 18 rfl rfl)
theorem dX3_does_114 : decode cX3_does 114 = .ok (.aload_n 0, 1) := dk_42 (dk_at dksX3_does_4 21 rfl rfl)
theorem dX3_does_115 : decode cX3_does 115 = .ok (.iload_n 2, 1) := dk_28 (dk_at dksX3_does_4 22 rfl rfl)
theorem dX3_does_116 : decode cX3_does 116 = .ok (.invokevirtual 175, 3) := dk_182 0 175 (dk_at dksX3_does_5 0 rfl rfl)
theorem dX3_does_119 : decode cX3_does 119 = .ok (.ifCond .ne 7, 3) := dk_154 0 7 (dk_at dksX3_does_5 3 rfl rfl)
theorem dX3_does_122 : decode cX3_does 122 = .ok (.iconst 1, 1) := dk_4 (dk_at dksX3_does_5 6 rfl rfl)
theorem dX3_does_123 : decode cX3_does 123 = .ok (.goto 4, 3) := dk_167 0 4 (dk_at dksX3_does_5 7 rfl rfl)
theorem dX3_does_126 : decode cX3_does 126 = .ok (.iconst 0, 1) := dk_3 (dk_at dksX3_does_5 10 rfl rfl)
theorem dX3_does_127 : decode cX3_does 127 = .ok (.istore 4, 2) := dk_54 4 (dk_at dksX3_does_5 11 rfl rfl)
theorem dX3_does_129 : decode cX3_does 129 = .ok (.iload 4, 2) := dk_21 4 (dk_at dksX3_does_5 13 rfl rfl)
theorem dX3_does_131 : decode cX3_does 131 = .ok (.ifCond .eq 114, 3) := dk_153 0 114 (dk_at dksX3_does_5 15 rfl rfl)
theorem dX3_does_134 : decode cX3_does 134 = .ok (.iload_n 1, 1) := dk_27 (dk_at dksX3_does_5 18 rfl rfl)
theorem dX3_does_135 : decode cX3_does 135 = .ok (.bipush 98, 2) := dk_16 98 (dk_at dksX3_does_5 19 rfl rfl)
theorem dX3_does_137 : decode cX3_does 137 = .ok (.if_icmp .eq 15, 3) := dk_159 0 15 (dk_at dksX3_does_5 21 rfl rfl)
theorem dX3_does_140 : decode cX3_does 140 = .ok (.iload_n 1, 1) := dk_27 (dk_at dksX3_does_6 0 rfl rfl)
theorem dX3_does_141 : decode cX3_does 141 = .ok (.bipush 102, 2) := dk_16 102 (dk_at dksX3_does_6 1 rfl rfl)
theorem dX3_does_143 : decode cX3_does 143 = .ok (.if_icmp .eq 9, 3) := dk_159 0 9 (dk_at dksX3_does_6 3 rfl rfl)
theorem dX3_does_146 : decode cX3_does 146 = .ok (.iload_n 1, 1) := dk_27 (dk_at dksX3_does_6 6 rfl rfl)
theorem dX3_does_147 : decode cX3_does 147 = .ok (.bipush 114, 2) := dk_16 114 (dk_at dksX3_does_6 7 rfl rfl)
theorem dX3_does_149 : decode cX3_does 149 = .ok (.if_icmp .ne 7, 3) := dk_160 0 7 (dk_at dksX3_does_6 9 rfl rfl)
theorem dX3_does_152 : decode cX3_does 152 = .ok (.iconst 1, 1) := dk_4 (dk_at dksX3_does_6 12 rfl rfl)
theorem dX3_does_153 : decode cX3_does 153 = .ok (.goto 4, 3) := dk_167 0 4 (dk_at dksX3_does_6 13 rfl rfl)
theorem dX3_does_156 : decode cX3_does 156 = .ok (.iconst 0, 1) := dk_3 (dk_at dksX3_does_6 16 rfl rfl)
theorem dX3_does_157 : decode cX3_does 157 = .ok (.istore 5, 2) := dk_54 5 (dk_at dksX3_does_6 17 rfl rfl)
theorem dX3_does_159 : decode cX3_does 159 = .ok (.iload 5, 2) := dk_21 5 (dk_at dksX3_does_6 19 rfl rfl)
theorem dX3_does_161 : decode cX3_does 161 = .ok (.ifCond .eq 33, 3) := dk_153 0 33 (dk_at dksX3_does_6 21 rfl rfl)
theorem dX3_does_164 : decode cX3_does 164 = .ok (.aload_n 0, 1) := dk_42 (dk_at dksX3_does_7 0 rfl rfl)
theorem dX3_does_165 : decode cX3_does 165 = .ok (.iload_n 2, 1) := dk_28 (dk_at dksX3_does_7 1 rfl rfl)
theorem dX3_does_166 : decode cX3_does 166 = .ok (.iload_n 1, 1) := dk_27 (dk_at dksX3_does_7 2 rfl rfl)
theorem dX3_does_167 : decode cX3_does 167 = .ok (.bipush 98, 2) := dk_16 98 (dk_at dksX3_does_7 3 rfl rfl)
theorem dX3_does_169 : decode cX3_does 169 = .ok (.if_icmp .ne 7, 3) := dk_160 0 7 (dk_at dksX3_does_7 5 rfl rfl)
theorem dX3_does_172 : decode cX3_does 172 = .ok (.iconst 0, 1) := dk_3 (dk_at dksX3_does_7 8 rfl rfl)
theorem dX3_does_173 : decode cX3_does 173 = .ok (.goto 14, 3) := dk_167 0 14 (dk_at dksX3_does_7 9 rfl rfl)
theorem dX3_does_176 : decode cX3_does 176 = .ok (.iload_n 1, 1) := dk_27 (dk_at dksX3_does_7 12 rfl rfl)
theorem dX3_does_177 : decode cX3_does 177 = .ok (.bipush 102, 2) := dk_16 102 (dk_at dksX3_does_7 13 rfl rfl)
theorem dX3_does_179 : decode cX3_does 179 = .ok (.if_icmp .ne 7, 3) := dk_160 0 7 (dk_at dksX3_does_7 15 rfl rfl)
theorem dX3_does_182 : decode cX3_does 182 = .ok (.iconst 1, 1) := dk_4 (dk_at dksX3_does_7 18 rfl rfl)
theorem dX3_does_183 : decode cX3_does 183 = .ok (.goto 4, 3) := dk_167 0 4 (dk_at dksX3_does_7 19 rfl rfl)
theorem dX3_does_186 : decode cX3_does 186 = .ok (.iconst 2, 1) := dk_5 (dk_at dksX3_does_7 22 rfl rfl)
theorem dX3_does_187 : decode cX3_does 187 = .ok (.iload_n 3, 1) := dk_29 (dk_at dksX3_does_7 23 rfl rfl)
theorem dX3_does_188 : decode cX3_does 188 = .ok (.invokevirtual 161, 3) := dk_182 0 161 (dk_at dksX3_does_8 0 rfl rfl)
theorem dX3_does_191 : decode cX3_does 191 = .ok (.goto 52, 3) := dk_167 0 52 (dk_at dksX3_does_8 3 rfl rfl)
theorem dX3_does_194 : decode cX3_does 194 = .ok (.iload_n 1, 1) := dk_27 (dk_at dksX3_does_8 6 rfl rfl)
theorem dX3_does_195 : decode cX3_does 195 = .ok (.bipush 111, 2) := dk_16 111 (dk_at dksX3_does_8 7 rfl rfl)
theorem dX3_does_197 : decode cX3_does 197 = .ok (.if_icmp .ne 12, 3) := dk_160 0 12 (dk_at dksX3_does_8 9 rfl rfl)
theorem dX3_does_200 : decode cX3_does 200 = .ok (.aload_n 0, 1) := dk_42 (dk_at dksX3_does_8 12 rfl rfl)
theorem dX3_does_201 : decode cX3_does 201 = .ok (.iload_n 2, 1) := dk_28 (dk_at dksX3_does_8 13 rfl rfl)
theorem dX3_does_202 : decode cX3_does 202 = .ok (.iload_n 3, 1) := dk_29 (dk_at dksX3_does_8 14 rfl rfl)
theorem dX3_does_203 : decode cX3_does 203 = .ok (.invokevirtual 169, 3) := dk_182 0 169 (dk_at dksX3_does_8 15 rfl rfl)
theorem dX3_does_206 : decode cX3_does 206 = .ok (.goto 37, 3) := dk_167 0 37 (dk_at dksX3_does_8 18 rfl rfl)
theorem dX3_does_209 : decode cX3_does 209 = .ok (.iload_n 1, 1) := dk_27 (dk_at dksX3_does_8 21 rfl rfl)
theorem dX3_does_210 : decode cX3_does 210 = .ok (.bipush 108, 2) := dk_16 108 (dk_at dksX3_does_8 22 rfl rfl)
theorem dX3_does_212 : decode cX3_does 212 = .ok (.if_icmp .ne 11, 3) := dk_160 0 11 (dk_at dksX3_does_9 0 rfl rfl)
theorem dX3_does_215 : decode cX3_does 215 = .ok (.aload_n 0, 1) := dk_42 (dk_at dksX3_does_9 3 rfl rfl)
theorem dX3_does_216 : decode cX3_does 216 = .ok (.iload_n 2, 1) := dk_28 (dk_at dksX3_does_9 4 rfl rfl)
theorem dX3_does_217 : decode cX3_does 217 = .ok (.invokevirtual 178, 3) := dk_182 0 178 (dk_at dksX3_does_9 5 rfl rfl)
theorem dX3_does_220 : decode cX3_does 220 = .ok (.goto 23, 3) := dk_167 0 23 (dk_at dksX3_does_9 8 rfl rfl)
theorem dX3_does_223 : decode cX3_does 223 = .ok (.iload_n 1, 1) := dk_27 (dk_at dksX3_does_9 11 rfl rfl)
theorem dX3_does_224 : decode cX3_does 224 = .ok (.bipush 99, 2) := dk_16 99 (dk_at dksX3_does_9 12 rfl rfl)
theorem dX3_does_226 : decode cX3_does 226 = .ok (.if_icmp .ne 12, 3) := dk_160 0 12 (dk_at dksX3_does_9 14 rfl rfl)
theorem dX3_does_229 : decode cX3_does 229 = .ok (.aload_n 0, 1) := dk_42 (dk_at dksX3_does_9 17 rfl rfl)
theorem dX3_does_230 : decode cX3_does 230 = .ok (.iload_n 2, 1) := dk_28 (dk_at dksX3_does_9 18 rfl rfl)
theorem dX3_does_231 : decode cX3_does 231 = .ok (.iload_n 3, 1) := dk_29 (dk_at dksX3_does_9 19 rfl rfl)
theorem dX3_does_232 : decode cX3_does 232 = .ok (.invokevirtual 188, 3) := dk_182 0 188 (dk_at dksX3_does_9 20 rfl rfl)
theorem dX3_does_235 : decode cX3_does 235 = .ok (.goto 8, 3) := dk_167 0 8 (dk_at dksX3_does_10 0 rfl rfl)
theorem dX3_does_238 : decode cX3_does 238 = .ok (.aload_n 0, 1) := dk_42 (dk_at dksX3_does_10 3 rfl rfl)
theorem dX3_does_239 : decode cX3_does 239 = .ok (.iload_n 2, 1) := dk_28 (dk_at dksX3_does_10 4 rfl rfl)
theorem dX3_does_240 : decode cX3_does 240 = .ok (.invokevirtual 194, 3) := dk_182 0 194 (dk_at dksX3_does_10 5 rfl rfl)
theorem dX3_does_243 : decode cX3_does 243 = .ok (.istore 6, 2) := dk_54 6 (dk_at dksX3_does_10 8 rfl rfl)
theorem dX3_does_245 : decode cX3_does 245 = .ok (.iload 4, 2) := dk_21 4 (dk_at dksX3_does_10 10 rfl rfl)
theorem dX3_does_247 : decode cX3_does 247 = .ok (.ireturn, 1) := dk_172 (dk_at dksX3_does_10 12 rfl rfl)
abbrev cX3_runText : ByteArray := prog_22_method_119_code
def yX3_runText : MethodName := ⟨RX3, "runText", "()I"⟩
def dkwX3_runText_1 : List UInt8 := [42, 182, 0, 158, 42, 4, 182, 0, 253, 172]
abbrev dktX3_runText_1 : List UInt8 := dkwX3_runText_1 ++ []
def dkwX3_runText_0 : List UInt8 := [42, 3, 181, 0, 54, 42, 3, 182, 0, 253, 60, 42, 180, 0, 236, 153, 0, 9, 42, 4, 182, 0, 155, 172]
abbrev dktX3_runText_0 : List UInt8 := dkwX3_runText_0 ++ dktX3_runText_1
theorem dksX3_runText_0 : cX3_runText.data.toList.drop 0 = dktX3_runText_0 := by decide +kernel
theorem dksX3_runText_1 : cX3_runText.data.toList.drop 24 = dktX3_runText_1 := dk_seg dksX3_runText_0 24 rfl rfl
theorem dX3_runText_0 : decode cX3_runText 0 = .ok (.aload_n 0, 1) := dk_42 (dk_at dksX3_runText_0 0 rfl rfl)
theorem dX3_runText_1 : decode cX3_runText 1 = .ok (.iconst 0, 1) := dk_3 (dk_at dksX3_runText_0 1 rfl rfl)
theorem dX3_runText_2 : decode cX3_runText 2 = .ok (.putfield 54, 3) := dk_181 0 54 (dk_at dksX3_runText_0 2 rfl rfl)
theorem dX3_runText_5 : decode cX3_runText 5 = .ok (.aload_n 0, 1) := dk_42 (dk_at dksX3_runText_0 5 rfl rfl)
theorem dX3_runText_6 : decode cX3_runText 6 = .ok (.iconst 0, 1) := dk_3 (dk_at dksX3_runText_0 6 rfl rfl)
theorem dX3_runText_7 : decode cX3_runText 7 = .ok (.invokevirtual 253, 3) := dk_182 0 253 (dk_at dksX3_runText_0 7 rfl rfl)
theorem dX3_runText_10 : decode cX3_runText 10 = .ok (.istore_n 1, 1) := dk_60 (dk_at dksX3_runText_0 10 rfl rfl)
theorem dX3_runText_11 : decode cX3_runText 11 = .ok (.aload_n 0, 1) := dk_42 (dk_at dksX3_runText_0 11 rfl rfl)
theorem dX3_runText_12 : decode cX3_runText 12 = .ok (.getfield 236, 3) := dk_180 0 236 (dk_at dksX3_runText_0 12 rfl rfl)
theorem dX3_runText_15 : decode cX3_runText 15 = .ok (.ifCond .eq 9, 3) := dk_153 0 9 (dk_at dksX3_runText_0 15 rfl rfl)
theorem dX3_runText_18 : decode cX3_runText 18 = .ok (.aload_n 0, 1) := dk_42 (dk_at dksX3_runText_0 18 rfl rfl)
theorem dX3_runText_19 : decode cX3_runText 19 = .ok (.iconst 1, 1) := dk_4 (dk_at dksX3_runText_0 19 rfl rfl)
theorem dX3_runText_20 : decode cX3_runText 20 = .ok (.invokevirtual 155, 3) := dk_182 0 155 (dk_at dksX3_runText_0 20 rfl rfl)
theorem dX3_runText_23 : decode cX3_runText 23 = .ok (.ireturn, 1) := dk_172 (dk_at dksX3_runText_0 23 rfl rfl)
theorem dX3_runText_24 : decode cX3_runText 24 = .ok (.aload_n 0, 1) := dk_42 (dk_at dksX3_runText_1 0 rfl rfl)
theorem dX3_runText_25 : decode cX3_runText 25 = .ok (.invokevirtual 158, 3) := dk_182 0 158 (dk_at dksX3_runText_1 1 rfl rfl)
theorem dX3_runText_28 : decode cX3_runText 28 = .ok (.aload_n 0, 1) := dk_42 (dk_at dksX3_runText_1 4 rfl rfl)
theorem dX3_runText_29 : decode cX3_runText 29 = .ok (.iconst 1, 1) := dk_4 (dk_at dksX3_runText_1 5 rfl rfl)
theorem dX3_runText_30 : decode cX3_runText 30 = .ok (.invokevirtual 253, 3) := dk_182 0 253 (dk_at dksX3_runText_1 6 rfl rfl)
theorem dX3_runText_33 : decode cX3_runText 33 = .ok (.ireturn, 1) := dk_172 (dk_at dksX3_runText_1 9 rfl rfl)
abbrev cX3_undo : ByteArray := prog_22_method_120_code
def yX3_undo : MethodName := ⟨RX3, "undo", "()I"⟩
def dkwX3_undo_4 : List UInt8 := [132, 1, 1, 167, 255, 227, 42, 180, 0, 66, 172]
abbrev dktX3_undo_4 : List UInt8 := dkwX3_undo_4 ++ []
def dkwX3_undo_3 : List UInt8 := [162, 0, 29, 42, 180, 0, 13, 27, 42, 180, 0, 20, 16, 24, 42, 180, 0, 66, 104, 27, 96, 48, 81]
abbrev dktX3_undo_3 : List UInt8 := dkwX3_undo_3 ++ dktX3_undo_4
def dkwX3_undo_2 : List UInt8 := [17, 2, 66, 42, 180, 0, 66, 104, 27, 96, 46, 79, 132, 1, 1, 167, 255, 225, 3, 60, 27, 16, 24]
abbrev dktX3_undo_2 : List UInt8 := dkwX3_undo_2 ++ dktX3_undo_3
def dkwX3_undo_1 : List UInt8 := [100, 181, 0, 66, 3, 60, 27, 17, 2, 66, 162, 0, 30, 42, 180, 0, 7, 27, 42, 180, 0, 17]
abbrev dktX3_undo_1 : List UInt8 := dkwX3_undo_1 ++ dktX3_undo_2
def dkwX3_undo_0 : List UInt8 := [42, 3, 181, 0, 54, 42, 180, 0, 66, 154, 0, 9, 42, 4, 182, 0, 155, 172, 42, 89, 180, 0, 66, 4]
abbrev dktX3_undo_0 : List UInt8 := dkwX3_undo_0 ++ dktX3_undo_1
theorem dksX3_undo_0 : cX3_undo.data.toList.drop 0 = dktX3_undo_0 := by decide +kernel
theorem dksX3_undo_1 : cX3_undo.data.toList.drop 24 = dktX3_undo_1 := dk_seg dksX3_undo_0 24 rfl rfl
theorem dksX3_undo_2 : cX3_undo.data.toList.drop 46 = dktX3_undo_2 := dk_seg dksX3_undo_1 22 rfl rfl
theorem dksX3_undo_3 : cX3_undo.data.toList.drop 69 = dktX3_undo_3 := dk_seg dksX3_undo_2 23 rfl rfl
theorem dksX3_undo_4 : cX3_undo.data.toList.drop 92 = dktX3_undo_4 := dk_seg dksX3_undo_3 23 rfl rfl
theorem dX3_undo_0 : decode cX3_undo 0 = .ok (.aload_n 0, 1) := dk_42 (dk_at dksX3_undo_0 0 rfl rfl)
theorem dX3_undo_1 : decode cX3_undo 1 = .ok (.iconst 0, 1) := dk_3 (dk_at dksX3_undo_0 1 rfl rfl)
theorem dX3_undo_2 : decode cX3_undo 2 = .ok (.putfield 54, 3) := dk_181 0 54 (dk_at dksX3_undo_0 2 rfl rfl)
theorem dX3_undo_5 : decode cX3_undo 5 = .ok (.aload_n 0, 1) := dk_42 (dk_at dksX3_undo_0 5 rfl rfl)
theorem dX3_undo_6 : decode cX3_undo 6 = .ok (.getfield 66, 3) := dk_180 0 66 (dk_at dksX3_undo_0 6 rfl rfl)
theorem dX3_undo_9 : decode cX3_undo 9 = .ok (.ifCond .ne 9, 3) := dk_154 0 9 (dk_at dksX3_undo_0 9 rfl rfl)
theorem dX3_undo_12 : decode cX3_undo 12 = .ok (.aload_n 0, 1) := dk_42 (dk_at dksX3_undo_0 12 rfl rfl)
theorem dX3_undo_13 : decode cX3_undo 13 = .ok (.iconst 1, 1) := dk_4 (dk_at dksX3_undo_0 13 rfl rfl)
theorem dX3_undo_14 : decode cX3_undo 14 = .ok (.invokevirtual 155, 3) := dk_182 0 155 (dk_at dksX3_undo_0 14 rfl rfl)
theorem dX3_undo_17 : decode cX3_undo 17 = .ok (.ireturn, 1) := dk_172 (dk_at dksX3_undo_0 17 rfl rfl)
theorem dX3_undo_18 : decode cX3_undo 18 = .ok (.aload_n 0, 1) := dk_42 (dk_at dksX3_undo_0 18 rfl rfl)
theorem dX3_undo_19 : decode cX3_undo 19 = .ok (.dup, 1) := dk_89 (dk_at dksX3_undo_0 19 rfl rfl)
theorem dX3_undo_20 : decode cX3_undo 20 = .ok (.getfield 66, 3) := dk_180 0 66 (dk_at dksX3_undo_0 20 rfl rfl)
theorem dX3_undo_23 : decode cX3_undo 23 = .ok (.iconst 1, 1) := dk_4 (dk_at dksX3_undo_0 23 rfl rfl)
theorem dX3_undo_24 : decode cX3_undo 24 = .ok (.isub, 1) := dk_100 (dk_at dksX3_undo_1 0 rfl rfl)
theorem dX3_undo_25 : decode cX3_undo 25 = .ok (.putfield 66, 3) := dk_181 0 66 (dk_at dksX3_undo_1 1 rfl rfl)
theorem dX3_undo_28 : decode cX3_undo 28 = .ok (.iconst 0, 1) := dk_3 (dk_at dksX3_undo_1 4 rfl rfl)
theorem dX3_undo_29 : decode cX3_undo 29 = .ok (.istore_n 1, 1) := dk_60 (dk_at dksX3_undo_1 5 rfl rfl)
theorem dX3_undo_30 : decode cX3_undo 30 = .ok (.iload_n 1, 1) := dk_27 (dk_at dksX3_undo_1 6 rfl rfl)
theorem dX3_undo_31 : decode cX3_undo 31 = .ok (.sipush 578, 3) := dk_17 2 66 (dk_at dksX3_undo_1 7 rfl rfl)
theorem dX3_undo_34 : decode cX3_undo 34 = .ok (.if_icmp .ge 30, 3) := dk_162 0 30 (dk_at dksX3_undo_1 10 rfl rfl)
theorem dX3_undo_37 : decode cX3_undo 37 = .ok (.aload_n 0, 1) := dk_42 (dk_at dksX3_undo_1 13 rfl rfl)
theorem dX3_undo_38 : decode cX3_undo 38 = .ok (.getfield 7, 3) := dk_180 0 7 (dk_at dksX3_undo_1 14 rfl rfl)
theorem dX3_undo_41 : decode cX3_undo 41 = .ok (.iload_n 1, 1) := dk_27 (dk_at dksX3_undo_1 17 rfl rfl)
theorem dX3_undo_42 : decode cX3_undo 42 = .ok (.aload_n 0, 1) := dk_42 (dk_at dksX3_undo_1 18 rfl rfl)
theorem dX3_undo_43 : decode cX3_undo 43 = .ok (.getfield 17, 3) := dk_180 0 17 (dk_at dksX3_undo_1 19 rfl rfl)
theorem dX3_undo_46 : decode cX3_undo 46 = .ok (.sipush 578, 3) := dk_17 2 66 (dk_at dksX3_undo_2 0 rfl rfl)
theorem dX3_undo_49 : decode cX3_undo 49 = .ok (.aload_n 0, 1) := dk_42 (dk_at dksX3_undo_2 3 rfl rfl)
theorem dX3_undo_50 : decode cX3_undo 50 = .ok (.getfield 66, 3) := dk_180 0 66 (dk_at dksX3_undo_2 4 rfl rfl)
theorem dX3_undo_53 : decode cX3_undo 53 = .ok (.imul, 1) := dk_104 (dk_at dksX3_undo_2 7 rfl rfl)
theorem dX3_undo_54 : decode cX3_undo 54 = .ok (.iload_n 1, 1) := dk_27 (dk_at dksX3_undo_2 8 rfl rfl)
theorem dX3_undo_55 : decode cX3_undo 55 = .ok (.iadd, 1) := dk_96 (dk_at dksX3_undo_2 9 rfl rfl)
theorem dX3_undo_56 : decode cX3_undo 56 = .ok (.iaload, 1) := dk_46 (dk_at dksX3_undo_2 10 rfl rfl)
theorem dX3_undo_57 : decode cX3_undo 57 = .ok (.iastore, 1) := dk_79 (dk_at dksX3_undo_2 11 rfl rfl)
theorem dX3_undo_58 : decode cX3_undo 58 = .ok (.iinc 1 1, 3) := dk_132 1 1 (dk_at dksX3_undo_2 12 rfl rfl)
theorem dX3_undo_61 : decode cX3_undo 61 = .ok (.goto (-31), 3) := dk_167 255 225 (dk_at dksX3_undo_2 15 rfl rfl)
theorem dX3_undo_64 : decode cX3_undo 64 = .ok (.iconst 0, 1) := dk_3 (dk_at dksX3_undo_2 18 rfl rfl)
theorem dX3_undo_65 : decode cX3_undo 65 = .ok (.istore_n 1, 1) := dk_60 (dk_at dksX3_undo_2 19 rfl rfl)
theorem dX3_undo_66 : decode cX3_undo 66 = .ok (.iload_n 1, 1) := dk_27 (dk_at dksX3_undo_2 20 rfl rfl)
theorem dX3_undo_67 : decode cX3_undo 67 = .ok (.bipush 24, 2) := dk_16 24 (dk_at dksX3_undo_2 21 rfl rfl)
theorem dX3_undo_69 : decode cX3_undo 69 = .ok (.if_icmp .ge 29, 3) := dk_162 0 29 (dk_at dksX3_undo_3 0 rfl rfl)
theorem dX3_undo_72 : decode cX3_undo 72 = .ok (.aload_n 0, 1) := dk_42 (dk_at dksX3_undo_3 3 rfl rfl)
theorem dX3_undo_73 : decode cX3_undo 73 = .ok (.getfield 13, 3) := dk_180 0 13 (dk_at dksX3_undo_3 4 rfl rfl)
theorem dX3_undo_76 : decode cX3_undo 76 = .ok (.iload_n 1, 1) := dk_27 (dk_at dksX3_undo_3 7 rfl rfl)
theorem dX3_undo_77 : decode cX3_undo 77 = .ok (.aload_n 0, 1) := dk_42 (dk_at dksX3_undo_3 8 rfl rfl)
theorem dX3_undo_78 : decode cX3_undo 78 = .ok (.getfield 20, 3) := dk_180 0 20 (dk_at dksX3_undo_3 9 rfl rfl)
theorem dX3_undo_81 : decode cX3_undo 81 = .ok (.bipush 24, 2) := dk_16 24 (dk_at dksX3_undo_3 12 rfl rfl)
theorem dX3_undo_83 : decode cX3_undo 83 = .ok (.aload_n 0, 1) := dk_42 (dk_at dksX3_undo_3 14 rfl rfl)
theorem dX3_undo_84 : decode cX3_undo 84 = .ok (.getfield 66, 3) := dk_180 0 66 (dk_at dksX3_undo_3 15 rfl rfl)
theorem dX3_undo_87 : decode cX3_undo 87 = .ok (.imul, 1) := dk_104 (dk_at dksX3_undo_3 18 rfl rfl)
theorem dX3_undo_88 : decode cX3_undo 88 = .ok (.iload_n 1, 1) := dk_27 (dk_at dksX3_undo_3 19 rfl rfl)
theorem dX3_undo_89 : decode cX3_undo 89 = .ok (.iadd, 1) := dk_96 (dk_at dksX3_undo_3 20 rfl rfl)
theorem dX3_undo_90 : decode cX3_undo 90 = .ok (.faload, 1) := dk_48 (dk_at dksX3_undo_3 21 rfl rfl)
theorem dX3_undo_91 : decode cX3_undo 91 = .ok (.fastore, 1) := dk_81 (dk_at dksX3_undo_3 22 rfl rfl)
theorem dX3_undo_92 : decode cX3_undo 92 = .ok (.iinc 1 1, 3) := dk_132 1 1 (dk_at dksX3_undo_4 0 rfl rfl)
theorem dX3_undo_95 : decode cX3_undo 95 = .ok (.goto (-29), 3) := dk_167 255 227 (dk_at dksX3_undo_4 3 rfl rfl)
theorem dX3_undo_98 : decode cX3_undo 98 = .ok (.aload_n 0, 1) := dk_42 (dk_at dksX3_undo_4 6 rfl rfl)
theorem dX3_undo_99 : decode cX3_undo 99 = .ok (.getfield 66, 3) := dk_180 0 66 (dk_at dksX3_undo_4 7 rfl rfl)
theorem dX3_undo_102 : decode cX3_undo 102 = .ok (.ireturn, 1) := dk_172 (dk_at dksX3_undo_4 10 rfl rfl)
abbrev cX3_savedStates : ByteArray := prog_22_method_121_code
def yX3_savedStates : MethodName := ⟨RX3, "savedStates", "()I"⟩
def dkwX3_savedStates_0 : List UInt8 := [42, 3, 181, 0, 54, 42, 180, 0, 66, 172]
abbrev dktX3_savedStates_0 : List UInt8 := dkwX3_savedStates_0 ++ []
theorem dksX3_savedStates_0 : cX3_savedStates.data.toList.drop 0 = dktX3_savedStates_0 := by decide +kernel
theorem dX3_savedStates_0 : decode cX3_savedStates 0 = .ok (.aload_n 0, 1) := dk_42 (dk_at dksX3_savedStates_0 0 rfl rfl)
theorem dX3_savedStates_1 : decode cX3_savedStates 1 = .ok (.iconst 0, 1) := dk_3 (dk_at dksX3_savedStates_0 1 rfl rfl)
theorem dX3_savedStates_2 : decode cX3_savedStates 2 = .ok (.putfield 54, 3) := dk_181 0 54 (dk_at dksX3_savedStates_0 2 rfl rfl)
theorem dX3_savedStates_5 : decode cX3_savedStates 5 = .ok (.aload_n 0, 1) := dk_42 (dk_at dksX3_savedStates_0 5 rfl rfl)
theorem dX3_savedStates_6 : decode cX3_savedStates 6 = .ok (.getfield 66, 3) := dk_180 0 66 (dk_at dksX3_savedStates_0 6 rfl rfl)
theorem dX3_savedStates_9 : decode cX3_savedStates 9 = .ok (.ireturn, 1) := dk_172 (dk_at dksX3_savedStates_0 9 rfl rfl)
abbrev cX3_takeSnapshot : ByteArray := prog_22_method_122_code
def yX3_takeSnapshot : MethodName := ⟨RX3, "takeSnapshot", "()I"⟩
def dkwX3_takeSnapshot_2 : List UInt8 := [180, 0, 13, 27, 48, 81, 132, 1, 1, 167, 255, 235, 42, 4, 181, 1, 1, 42, 180, 0, 7, 3, 46, 172]
abbrev dktX3_takeSnapshot_2 : List UInt8 := dkwX3_takeSnapshot_2 ++ []
def dkwX3_takeSnapshot_1 : List UInt8 := [46, 79, 132, 1, 1, 167, 255, 234, 3, 60, 27, 16, 24, 162, 0, 21, 42, 180, 0, 26, 27, 42]
abbrev dktX3_takeSnapshot_1 : List UInt8 := dkwX3_takeSnapshot_1 ++ dktX3_takeSnapshot_2
def dkwX3_takeSnapshot_0 : List UInt8 := [42, 3, 181, 0, 54, 3, 60, 27, 17, 2, 66, 162, 0, 21, 42, 180, 0, 23, 27, 42, 180, 0, 7, 27]
abbrev dktX3_takeSnapshot_0 : List UInt8 := dkwX3_takeSnapshot_0 ++ dktX3_takeSnapshot_1
theorem dksX3_takeSnapshot_0 : cX3_takeSnapshot.data.toList.drop 0 = dktX3_takeSnapshot_0 := by decide +kernel
theorem dksX3_takeSnapshot_1 : cX3_takeSnapshot.data.toList.drop 24 = dktX3_takeSnapshot_1 := dk_seg dksX3_takeSnapshot_0 24 rfl rfl
theorem dksX3_takeSnapshot_2 : cX3_takeSnapshot.data.toList.drop 46 = dktX3_takeSnapshot_2 := dk_seg dksX3_takeSnapshot_1 22 rfl rfl
theorem dX3_takeSnapshot_0 : decode cX3_takeSnapshot 0 = .ok (.aload_n 0, 1) := dk_42 (dk_at dksX3_takeSnapshot_0 0 rfl rfl)
theorem dX3_takeSnapshot_1 : decode cX3_takeSnapshot 1 = .ok (.iconst 0, 1) := dk_3 (dk_at dksX3_takeSnapshot_0 1 rfl rfl)
theorem dX3_takeSnapshot_2 : decode cX3_takeSnapshot 2 = .ok (.putfield 54, 3) := dk_181 0 54 (dk_at dksX3_takeSnapshot_0 2 rfl rfl)
theorem dX3_takeSnapshot_5 : decode cX3_takeSnapshot 5 = .ok (.iconst 0, 1) := dk_3 (dk_at dksX3_takeSnapshot_0 5 rfl rfl)
theorem dX3_takeSnapshot_6 : decode cX3_takeSnapshot 6 = .ok (.istore_n 1, 1) := dk_60 (dk_at dksX3_takeSnapshot_0 6 rfl rfl)
theorem dX3_takeSnapshot_7 : decode cX3_takeSnapshot 7 = .ok (.iload_n 1, 1) := dk_27 (dk_at dksX3_takeSnapshot_0 7 rfl rfl)
theorem dX3_takeSnapshot_8 : decode cX3_takeSnapshot 8 = .ok (.sipush 578, 3) := dk_17 2 66 (dk_at dksX3_takeSnapshot_0 8 rfl rfl)
theorem dX3_takeSnapshot_11 : decode cX3_takeSnapshot 11 = .ok (.if_icmp .ge 21, 3) := dk_162 0 21 (dk_at dksX3_takeSnapshot_0 11 rfl rfl)
theorem dX3_takeSnapshot_14 : decode cX3_takeSnapshot 14 = .ok (.aload_n 0, 1) := dk_42 (dk_at dksX3_takeSnapshot_0 14 rfl rfl)
theorem dX3_takeSnapshot_15 : decode cX3_takeSnapshot 15 = .ok (.getfield 23, 3) := dk_180 0 23 (dk_at dksX3_takeSnapshot_0 15 rfl rfl)
theorem dX3_takeSnapshot_18 : decode cX3_takeSnapshot 18 = .ok (.iload_n 1, 1) := dk_27 (dk_at dksX3_takeSnapshot_0 18 rfl rfl)
theorem dX3_takeSnapshot_19 : decode cX3_takeSnapshot 19 = .ok (.aload_n 0, 1) := dk_42 (dk_at dksX3_takeSnapshot_0 19 rfl rfl)
theorem dX3_takeSnapshot_20 : decode cX3_takeSnapshot 20 = .ok (.getfield 7, 3) := dk_180 0 7 (dk_at dksX3_takeSnapshot_0 20 rfl rfl)
theorem dX3_takeSnapshot_23 : decode cX3_takeSnapshot 23 = .ok (.iload_n 1, 1) := dk_27 (dk_at dksX3_takeSnapshot_0 23 rfl rfl)
theorem dX3_takeSnapshot_24 : decode cX3_takeSnapshot 24 = .ok (.iaload, 1) := dk_46 (dk_at dksX3_takeSnapshot_1 0 rfl rfl)
theorem dX3_takeSnapshot_25 : decode cX3_takeSnapshot 25 = .ok (.iastore, 1) := dk_79 (dk_at dksX3_takeSnapshot_1 1 rfl rfl)
theorem dX3_takeSnapshot_26 : decode cX3_takeSnapshot 26 = .ok (.iinc 1 1, 3) := dk_132 1 1 (dk_at dksX3_takeSnapshot_1 2 rfl rfl)
theorem dX3_takeSnapshot_29 : decode cX3_takeSnapshot 29 = .ok (.goto (-22), 3) := dk_167 255 234 (dk_at dksX3_takeSnapshot_1 5 rfl rfl)
theorem dX3_takeSnapshot_32 : decode cX3_takeSnapshot 32 = .ok (.iconst 0, 1) := dk_3 (dk_at dksX3_takeSnapshot_1 8 rfl rfl)
theorem dX3_takeSnapshot_33 : decode cX3_takeSnapshot 33 = .ok (.istore_n 1, 1) := dk_60 (dk_at dksX3_takeSnapshot_1 9 rfl rfl)
theorem dX3_takeSnapshot_34 : decode cX3_takeSnapshot 34 = .ok (.iload_n 1, 1) := dk_27 (dk_at dksX3_takeSnapshot_1 10 rfl rfl)
theorem dX3_takeSnapshot_35 : decode cX3_takeSnapshot 35 = .ok (.bipush 24, 2) := dk_16 24 (dk_at dksX3_takeSnapshot_1 11 rfl rfl)
theorem dX3_takeSnapshot_37 : decode cX3_takeSnapshot 37 = .ok (.if_icmp .ge 21, 3) := dk_162 0 21 (dk_at dksX3_takeSnapshot_1 13 rfl rfl)
theorem dX3_takeSnapshot_40 : decode cX3_takeSnapshot 40 = .ok (.aload_n 0, 1) := dk_42 (dk_at dksX3_takeSnapshot_1 16 rfl rfl)
theorem dX3_takeSnapshot_41 : decode cX3_takeSnapshot 41 = .ok (.getfield 26, 3) := dk_180 0 26 (dk_at dksX3_takeSnapshot_1 17 rfl rfl)
theorem dX3_takeSnapshot_44 : decode cX3_takeSnapshot 44 = .ok (.iload_n 1, 1) := dk_27 (dk_at dksX3_takeSnapshot_1 20 rfl rfl)
theorem dX3_takeSnapshot_45 : decode cX3_takeSnapshot 45 = .ok (.aload_n 0, 1) := dk_42 (dk_at dksX3_takeSnapshot_1 21 rfl rfl)
theorem dX3_takeSnapshot_46 : decode cX3_takeSnapshot 46 = .ok (.getfield 13, 3) := dk_180 0 13 (dk_at dksX3_takeSnapshot_2 0 rfl rfl)
theorem dX3_takeSnapshot_49 : decode cX3_takeSnapshot 49 = .ok (.iload_n 1, 1) := dk_27 (dk_at dksX3_takeSnapshot_2 3 rfl rfl)
theorem dX3_takeSnapshot_50 : decode cX3_takeSnapshot 50 = .ok (.faload, 1) := dk_48 (dk_at dksX3_takeSnapshot_2 4 rfl rfl)
theorem dX3_takeSnapshot_51 : decode cX3_takeSnapshot 51 = .ok (.fastore, 1) := dk_81 (dk_at dksX3_takeSnapshot_2 5 rfl rfl)
theorem dX3_takeSnapshot_52 : decode cX3_takeSnapshot 52 = .ok (.iinc 1 1, 3) := dk_132 1 1 (dk_at dksX3_takeSnapshot_2 6 rfl rfl)
theorem dX3_takeSnapshot_55 : decode cX3_takeSnapshot 55 = .ok (.goto (-21), 3) := dk_167 255 235 (dk_at dksX3_takeSnapshot_2 9 rfl rfl)
theorem dX3_takeSnapshot_58 : decode cX3_takeSnapshot 58 = .ok (.aload_n 0, 1) := dk_42 (dk_at dksX3_takeSnapshot_2 12 rfl rfl)
theorem dX3_takeSnapshot_59 : decode cX3_takeSnapshot 59 = .ok (.iconst 1, 1) := dk_4 (dk_at dksX3_takeSnapshot_2 13 rfl rfl)
theorem dX3_takeSnapshot_60 : decode cX3_takeSnapshot 60 = .ok (.putfield 257, 3) := dk_181 1 1 (dk_at dksX3_takeSnapshot_2 14 rfl rfl)
theorem dX3_takeSnapshot_63 : decode cX3_takeSnapshot 63 = .ok (.aload_n 0, 1) := dk_42 (dk_at dksX3_takeSnapshot_2 17 rfl rfl)
theorem dX3_takeSnapshot_64 : decode cX3_takeSnapshot 64 = .ok (.getfield 7, 3) := dk_180 0 7 (dk_at dksX3_takeSnapshot_2 18 rfl rfl)
theorem dX3_takeSnapshot_67 : decode cX3_takeSnapshot 67 = .ok (.iconst 0, 1) := dk_3 (dk_at dksX3_takeSnapshot_2 21 rfl rfl)
theorem dX3_takeSnapshot_68 : decode cX3_takeSnapshot 68 = .ok (.iaload, 1) := dk_46 (dk_at dksX3_takeSnapshot_2 22 rfl rfl)
theorem dX3_takeSnapshot_69 : decode cX3_takeSnapshot 69 = .ok (.ireturn, 1) := dk_172 (dk_at dksX3_takeSnapshot_2 23 rfl rfl)
abbrev cX3_restoreSnapshot : ByteArray := prog_22_method_123_code
def yX3_restoreSnapshot : MethodName := ⟨RX3, "restoreSnapshot", "()I"⟩
def dkwX3_restoreSnapshot_3 : List UInt8 := [132, 1, 1, 167, 255, 235, 42, 180, 0, 7, 3, 46, 172]
abbrev dktX3_restoreSnapshot_3 : List UInt8 := dkwX3_restoreSnapshot_3 ++ []
def dkwX3_restoreSnapshot_2 : List UInt8 := [167, 255, 234, 3, 60, 27, 16, 24, 162, 0, 21, 42, 180, 0, 13, 27, 42, 180, 0, 26, 27, 48, 81]
abbrev dktX3_restoreSnapshot_2 : List UInt8 := dkwX3_restoreSnapshot_2 ++ dktX3_restoreSnapshot_3
def dkwX3_restoreSnapshot_1 : List UInt8 := [27, 17, 2, 66, 162, 0, 21, 42, 180, 0, 7, 27, 42, 180, 0, 23, 27, 46, 79, 132, 1, 1]
abbrev dktX3_restoreSnapshot_1 : List UInt8 := dkwX3_restoreSnapshot_1 ++ dktX3_restoreSnapshot_2
def dkwX3_restoreSnapshot_0 : List UInt8 := [42, 3, 181, 0, 54, 42, 180, 1, 1, 154, 0, 9, 42, 4, 182, 0, 155, 172, 42, 182, 0, 158, 3, 60]
abbrev dktX3_restoreSnapshot_0 : List UInt8 := dkwX3_restoreSnapshot_0 ++ dktX3_restoreSnapshot_1
theorem dksX3_restoreSnapshot_0 : cX3_restoreSnapshot.data.toList.drop 0 = dktX3_restoreSnapshot_0 := by decide +kernel
theorem dksX3_restoreSnapshot_1 : cX3_restoreSnapshot.data.toList.drop 24 = dktX3_restoreSnapshot_1 := dk_seg dksX3_restoreSnapshot_0 24 rfl rfl
theorem dksX3_restoreSnapshot_2 : cX3_restoreSnapshot.data.toList.drop 46 = dktX3_restoreSnapshot_2 := dk_seg dksX3_restoreSnapshot_1 22 rfl rfl
theorem dksX3_restoreSnapshot_3 : cX3_restoreSnapshot.data.toList.drop 69 = dktX3_restoreSnapshot_3 := dk_seg dksX3_restoreSnapshot_2 23 rfl rfl
theorem dX3_restoreSnapshot_0 : decode cX3_restoreSnapshot 0 = .ok (.aload_n 0, 1) := dk_42 (dk_at dksX3_restoreSnapshot_0 0 rfl rfl)
theorem dX3_restoreSnapshot_1 : decode cX3_restoreSnapshot 1 = .ok (.iconst 0, 1) := dk_3 (dk_at dksX3_restoreSnapshot_0 1 rfl rfl)
theorem dX3_restoreSnapshot_2 : decode cX3_restoreSnapshot 2 = .ok (.putfield 54, 3) := dk_181 0 54 (dk_at dksX3_restoreSnapshot_0 2 rfl rfl)
theorem dX3_restoreSnapshot_5 : decode cX3_restoreSnapshot 5 = .ok (.aload_n 0, 1) := dk_42 (dk_at dksX3_restoreSnapshot_0 5 rfl rfl)
theorem dX3_restoreSnapshot_6 : decode cX3_restoreSnapshot 6 = .ok (.getfield 257, 3) := dk_180 1 1 (dk_at dksX3_restoreSnapshot_0 6 rfl rfl)
theorem dX3_restoreSnapshot_9 : decode cX3_restoreSnapshot 9 = .ok (.ifCond .ne 9, 3) := dk_154 0 9 (dk_at dksX3_restoreSnapshot_0 9 rfl rfl)
theorem dX3_restoreSnapshot_12 : decode cX3_restoreSnapshot 12 = .ok (.aload_n 0, 1) := dk_42 (dk_at dksX3_restoreSnapshot_0 12 rfl rfl)
theorem dX3_restoreSnapshot_13 : decode cX3_restoreSnapshot 13 = .ok (.iconst 1, 1) := dk_4 (dk_at dksX3_restoreSnapshot_0 13 rfl rfl)
theorem dX3_restoreSnapshot_14 : decode cX3_restoreSnapshot 14 = .ok (.invokevirtual 155, 3) := dk_182 0 155 (dk_at dksX3_restoreSnapshot_0 14 rfl rfl)
theorem dX3_restoreSnapshot_17 : decode cX3_restoreSnapshot 17 = .ok (.ireturn, 1) := dk_172 (dk_at dksX3_restoreSnapshot_0 17 rfl rfl)
theorem dX3_restoreSnapshot_18 : decode cX3_restoreSnapshot 18 = .ok (.aload_n 0, 1) := dk_42 (dk_at dksX3_restoreSnapshot_0 18 rfl rfl)
theorem dX3_restoreSnapshot_19 : decode cX3_restoreSnapshot 19 = .ok (.invokevirtual 158, 3) := dk_182 0 158 (dk_at dksX3_restoreSnapshot_0 19 rfl rfl)
theorem dX3_restoreSnapshot_22 : decode cX3_restoreSnapshot 22 = .ok (.iconst 0, 1) := dk_3 (dk_at dksX3_restoreSnapshot_0 22 rfl rfl)
theorem dX3_restoreSnapshot_23 : decode cX3_restoreSnapshot 23 = .ok (.istore_n 1, 1) := dk_60 (dk_at dksX3_restoreSnapshot_0 23 rfl rfl)
theorem dX3_restoreSnapshot_24 : decode cX3_restoreSnapshot 24 = .ok (.iload_n 1, 1) := dk_27 (dk_at dksX3_restoreSnapshot_1 0 rfl rfl)
theorem dX3_restoreSnapshot_25 : decode cX3_restoreSnapshot 25 = .ok (.sipush 578, 3) := dk_17 2 66 (dk_at dksX3_restoreSnapshot_1 1 rfl rfl)
theorem dX3_restoreSnapshot_28 : decode cX3_restoreSnapshot 28 = .ok (.if_icmp .ge 21, 3) := dk_162 0 21 (dk_at dksX3_restoreSnapshot_1 4 rfl rfl)
theorem dX3_restoreSnapshot_31 : decode cX3_restoreSnapshot 31 = .ok (.aload_n 0, 1) := dk_42 (dk_at dksX3_restoreSnapshot_1 7 rfl rfl)
theorem dX3_restoreSnapshot_32 : decode cX3_restoreSnapshot 32 = .ok (.getfield 7, 3) := dk_180 0 7 (dk_at dksX3_restoreSnapshot_1 8 rfl rfl)
theorem dX3_restoreSnapshot_35 : decode cX3_restoreSnapshot 35 = .ok (.iload_n 1, 1) := dk_27 (dk_at dksX3_restoreSnapshot_1 11 rfl rfl)
theorem dX3_restoreSnapshot_36 : decode cX3_restoreSnapshot 36 = .ok (.aload_n 0, 1) := dk_42 (dk_at dksX3_restoreSnapshot_1 12 rfl rfl)
theorem dX3_restoreSnapshot_37 : decode cX3_restoreSnapshot 37 = .ok (.getfield 23, 3) := dk_180 0 23 (dk_at dksX3_restoreSnapshot_1 13 rfl rfl)
theorem dX3_restoreSnapshot_40 : decode cX3_restoreSnapshot 40 = .ok (.iload_n 1, 1) := dk_27 (dk_at dksX3_restoreSnapshot_1 16 rfl rfl)
theorem dX3_restoreSnapshot_41 : decode cX3_restoreSnapshot 41 = .ok (.iaload, 1) := dk_46 (dk_at dksX3_restoreSnapshot_1 17 rfl rfl)
theorem dX3_restoreSnapshot_42 : decode cX3_restoreSnapshot 42 = .ok (.iastore, 1) := dk_79 (dk_at dksX3_restoreSnapshot_1 18 rfl rfl)
theorem dX3_restoreSnapshot_43 : decode cX3_restoreSnapshot 43 = .ok (.iinc 1 1, 3) := dk_132 1 1 (dk_at dksX3_restoreSnapshot_1 19 rfl rfl)
theorem dX3_restoreSnapshot_46 : decode cX3_restoreSnapshot 46 = .ok (.goto (-22), 3) := dk_167 255 234 (dk_at dksX3_restoreSnapshot_2 0 rfl rfl)
theorem dX3_restoreSnapshot_49 : decode cX3_restoreSnapshot 49 = .ok (.iconst 0, 1) := dk_3 (dk_at dksX3_restoreSnapshot_2 3 rfl rfl)
theorem dX3_restoreSnapshot_50 : decode cX3_restoreSnapshot 50 = .ok (.istore_n 1, 1) := dk_60 (dk_at dksX3_restoreSnapshot_2 4 rfl rfl)
theorem dX3_restoreSnapshot_51 : decode cX3_restoreSnapshot 51 = .ok (.iload_n 1, 1) := dk_27 (dk_at dksX3_restoreSnapshot_2 5 rfl rfl)
theorem dX3_restoreSnapshot_52 : decode cX3_restoreSnapshot 52 = .ok (.bipush 24, 2) := dk_16 24 (dk_at dksX3_restoreSnapshot_2 6 rfl rfl)
theorem dX3_restoreSnapshot_54 : decode cX3_restoreSnapshot 54 = .ok (.if_icmp .ge 21, 3) := dk_162 0 21 (dk_at dksX3_restoreSnapshot_2 8 rfl rfl)
theorem dX3_restoreSnapshot_57 : decode cX3_restoreSnapshot 57 = .ok (.aload_n 0, 1) := dk_42 (dk_at dksX3_restoreSnapshot_2 11 rfl rfl)
theorem dX3_restoreSnapshot_58 : decode cX3_restoreSnapshot 58 = .ok (.getfield 13, 3) := dk_180 0 13 (dk_at dksX3_restoreSnapshot_2 12 rfl rfl)
theorem dX3_restoreSnapshot_61 : decode cX3_restoreSnapshot 61 = .ok (.iload_n 1, 1) := dk_27 (dk_at dksX3_restoreSnapshot_2 15 rfl rfl)
theorem dX3_restoreSnapshot_62 : decode cX3_restoreSnapshot 62 = .ok (.aload_n 0, 1) := dk_42 (dk_at dksX3_restoreSnapshot_2 16 rfl rfl)
theorem dX3_restoreSnapshot_63 : decode cX3_restoreSnapshot 63 = .ok (.getfield 26, 3) := dk_180 0 26 (dk_at dksX3_restoreSnapshot_2 17 rfl rfl)
theorem dX3_restoreSnapshot_66 : decode cX3_restoreSnapshot 66 = .ok (.iload_n 1, 1) := dk_27 (dk_at dksX3_restoreSnapshot_2 20 rfl rfl)
theorem dX3_restoreSnapshot_67 : decode cX3_restoreSnapshot 67 = .ok (.faload, 1) := dk_48 (dk_at dksX3_restoreSnapshot_2 21 rfl rfl)
theorem dX3_restoreSnapshot_68 : decode cX3_restoreSnapshot 68 = .ok (.fastore, 1) := dk_81 (dk_at dksX3_restoreSnapshot_2 22 rfl rfl)
theorem dX3_restoreSnapshot_69 : decode cX3_restoreSnapshot 69 = .ok (.iinc 1 1, 3) := dk_132 1 1 (dk_at dksX3_restoreSnapshot_3 0 rfl rfl)
theorem dX3_restoreSnapshot_72 : decode cX3_restoreSnapshot 72 = .ok (.goto (-21), 3) := dk_167 255 235 (dk_at dksX3_restoreSnapshot_3 3 rfl rfl)
theorem dX3_restoreSnapshot_75 : decode cX3_restoreSnapshot 75 = .ok (.aload_n 0, 1) := dk_42 (dk_at dksX3_restoreSnapshot_3 6 rfl rfl)
theorem dX3_restoreSnapshot_76 : decode cX3_restoreSnapshot 76 = .ok (.getfield 7, 3) := dk_180 0 7 (dk_at dksX3_restoreSnapshot_3 7 rfl rfl)
theorem dX3_restoreSnapshot_79 : decode cX3_restoreSnapshot 79 = .ok (.iconst 0, 1) := dk_3 (dk_at dksX3_restoreSnapshot_3 10 rfl rfl)
theorem dX3_restoreSnapshot_80 : decode cX3_restoreSnapshot 80 = .ok (.iaload, 1) := dk_46 (dk_at dksX3_restoreSnapshot_3 11 rfl rfl)
theorem dX3_restoreSnapshot_81 : decode cX3_restoreSnapshot 81 = .ok (.ireturn, 1) := dk_172 (dk_at dksX3_restoreSnapshot_3 12 rfl rfl)
theorem q138 : (Jvm.Cond.initialized "AnnealingLehrModel") ∈ lw_all := lw_g (lw_at lw_m1 36 rfl) rfl
theorem q980 : (Jvm.Cond.selects "AnnealingLehrModel" ({ cls := "java/lang/Object", name := "toString", desc := "()Ljava/lang/String;" } : Jvm.MethodName) ({ cls := "java/lang/Object", name := "toString", desc := "()Ljava/lang/String;" } : Jvm.MethodName)) ∈ lw_all := lw_g (lw_at lw_m4 158 rfl) rfl
theorem q1002 : (Jvm.Cond.selects "AnnealingLehrModel" ({ cls := "java/lang/Object", name := "getClass", desc := "()Ljava/lang/Class;" } : Jvm.MethodName) ({ cls := "java/lang/Object", name := "getClass", desc := "()Ljava/lang/Class;" } : Jvm.MethodName)) ∈ lw_all := lw_g (lw_at lw_m4 180 rfl) rfl
theorem q1734 : (Jvm.Cond.selects "AnnealingLehrModel" ({ cls := "java/lang/Object", name := "hashCode", desc := "()I" } : Jvm.MethodName) ({ cls := "java/lang/Object", name := "hashCode", desc := "()I" } : Jvm.MethodName)) ∈ lw_all := lw_g (lw_at lw_m7 192 rfl) rfl
theorem q2187 : (Jvm.Cond.selects "AnnealingLehrModel" ({ cls := "java/lang/Object", name := "equals", desc := "(Ljava/lang/Object;)Z" } : Jvm.MethodName) ({ cls := "java/lang/Object", name := "equals", desc := "(Ljava/lang/Object;)Z" } : Jvm.MethodName)) ∈ lw_all := lw_g (lw_at lw_m9 165 rfl) rfl
theorem q3817 : (Jvm.Cond.instantiable "AnnealingLehrModel" (19 : Nat)) ∈ lw_all := lw_g (lw_at lw_m16 115 rfl) rfl
theorem q3819 : (Jvm.Cond.instanceMethod ({ cls := "AnnealingLehrModel", name := "<init>", desc := "()V" } : Jvm.MethodName)) ∈ lw_all := lw_g (lw_at lw_m16 117 rfl) rfl
theorem q3820 : (Jvm.Cond.code ({ cls := "AnnealingLehrModel", name := "<init>", desc := "()V" } : Jvm.MethodName) prog_22_method_1_code (2 : Nat) (Option.none : Option Jvm.ClassFile.FieldType)) ∈ lw_all := lw_g (lw_at lw_m16 118 rfl) rfl
theorem q3821 : (Jvm.Cond.methodLink "AnnealingLehrModel" (1 : Nat) ({ cls := "java/lang/Object", name := "<init>", desc := "()V" } : Jvm.MethodName)) ∈ lw_all := lw_g (lw_at lw_m16 119 rfl) rfl
theorem q3822 : (Jvm.Cond.methodLink "AnnealingLehrModel" (47 : Nat) ({ cls := "AnnealingLehrModel", name := "putZone", desc := "(III)V" } : Jvm.MethodName)) ∈ lw_all := lw_g (lw_at lw_m16 120 rfl) rfl
theorem q3823 : (Jvm.Cond.privateMethod ({ cls := "AnnealingLehrModel", name := "putZone", desc := "(III)V" } : Jvm.MethodName)) ∈ lw_tbl := lw_at lw_m16 121 rfl
theorem q3824 : (Jvm.Cond.instanceMethod ({ cls := "AnnealingLehrModel", name := "putZone", desc := "(III)V" } : Jvm.MethodName)) ∈ lw_all := lw_g (lw_at lw_m16 122 rfl) rfl
theorem q3825 : (Jvm.Cond.code ({ cls := "AnnealingLehrModel", name := "putZone", desc := "(III)V" } : Jvm.MethodName) prog_22_method_6_code (4 : Nat) (Option.none : Option Jvm.ClassFile.FieldType)) ∈ lw_all := lw_g (lw_at lw_m16 123 rfl) rfl
theorem q3826 : (Jvm.Cond.methodLink "AnnealingLehrModel" (51 : Nat) ({ cls := "AnnealingLehrModel", name := "putPlace", desc := "(III)V" } : Jvm.MethodName)) ∈ lw_all := lw_g (lw_at lw_m16 124 rfl) rfl
theorem q3827 : (Jvm.Cond.privateMethod ({ cls := "AnnealingLehrModel", name := "putPlace", desc := "(III)V" } : Jvm.MethodName)) ∈ lw_tbl := lw_at lw_m16 125 rfl
theorem q3828 : (Jvm.Cond.instanceMethod ({ cls := "AnnealingLehrModel", name := "putPlace", desc := "(III)V" } : Jvm.MethodName)) ∈ lw_all := lw_g (lw_at lw_m16 126 rfl) rfl
theorem q3829 : (Jvm.Cond.code ({ cls := "AnnealingLehrModel", name := "putPlace", desc := "(III)V" } : Jvm.MethodName) prog_22_method_8_code (4 : Nat) (Option.none : Option Jvm.ClassFile.FieldType)) ∈ lw_all := lw_g (lw_at lw_m16 127 rfl) rfl
theorem q3830 : (Jvm.Cond.fieldLink "AnnealingLehrModel" (7 : Nat) "AnnealingLehrModel" "s" "[I") ∈ lw_all := lw_g (lw_at lw_m16 128 rfl) rfl
theorem q3831 : (Jvm.Cond.fieldLink "AnnealingLehrModel" (13 : Nat) "AnnealingLehrModel" "stress" "[F") ∈ lw_all := lw_g (lw_at lw_m16 129 rfl) rfl
theorem q3832 : (Jvm.Cond.fieldLink "AnnealingLehrModel" (17 : Nat) "AnnealingLehrModel" "before" "[I") ∈ lw_all := lw_g (lw_at lw_m16 130 rfl) rfl
theorem q3833 : (Jvm.Cond.fieldLink "AnnealingLehrModel" (20 : Nat) "AnnealingLehrModel" "stressBefore" "[F") ∈ lw_all := lw_g (lw_at lw_m16 131 rfl) rfl
theorem q3834 : (Jvm.Cond.fieldLink "AnnealingLehrModel" (66 : Nat) "AnnealingLehrModel" "known" "I") ∈ lw_all := lw_g (lw_at lw_m16 132 rfl) rfl
theorem q3835 : (Jvm.Cond.fieldLink "AnnealingLehrModel" (23 : Nat) "AnnealingLehrModel" "kept" "[I") ∈ lw_all := lw_g (lw_at lw_m16 133 rfl) rfl
theorem q3836 : (Jvm.Cond.fieldLink "AnnealingLehrModel" (26 : Nat) "AnnealingLehrModel" "stressKept" "[F") ∈ lw_all := lw_g (lw_at lw_m16 134 rfl) rfl
theorem q3837 : (Jvm.Cond.fieldLink "AnnealingLehrModel" (257 : Nat) "AnnealingLehrModel" "isKept" "Z") ∈ lw_all := lw_g (lw_at lw_m16 135 rfl) rfl
theorem q3838 : (Jvm.Cond.fieldLink "AnnealingLehrModel" (29 : Nat) "AnnealingLehrModel" "aside" "[I") ∈ lw_all := lw_g (lw_at lw_m16 136 rfl) rfl
theorem q3839 : (Jvm.Cond.fieldLink "AnnealingLehrModel" (32 : Nat) "AnnealingLehrModel" "stressAside" "[F") ∈ lw_all := lw_g (lw_at lw_m16 137 rfl) rfl
theorem q3840 : (Jvm.Cond.fieldLink "AnnealingLehrModel" (35 : Nat) "AnnealingLehrModel" "buffer" "[I") ∈ lw_all := lw_g (lw_at lw_m16 138 rfl) rfl
theorem q3841 : (Jvm.Cond.fieldLink "AnnealingLehrModel" (230 : Nat) "AnnealingLehrModel" "length" "I") ∈ lw_all := lw_g (lw_at lw_m16 139 rfl) rfl
theorem q3842 : (Jvm.Cond.fieldLink "AnnealingLehrModel" (54 : Nat) "AnnealingLehrModel" "thrown" "I") ∈ lw_all := lw_g (lw_at lw_m16 140 rfl) rfl
theorem q3843 : (Jvm.Cond.fieldLink "AnnealingLehrModel" (38 : Nat) "AnnealingLehrModel" "burning" "[I") ∈ lw_all := lw_g (lw_at lw_m16 141 rfl) rfl
theorem q3844 : (Jvm.Cond.fieldLink "AnnealingLehrModel" (41 : Nat) "AnnealingLehrModel" "warm" "[I") ∈ lw_all := lw_g (lw_at lw_m16 142 rfl) rfl
theorem q3845 : (Jvm.Cond.fieldLink "AnnealingLehrModel" (136 : Nat) "AnnealingLehrModel" "broken" "I") ∈ lw_all := lw_g (lw_at lw_m16 143 rfl) rfl
theorem q3846 : (Jvm.Cond.fieldLink "AnnealingLehrModel" (44 : Nat) "AnnealingLehrModel" "why" "[I") ∈ lw_all := lw_g (lw_at lw_m16 144 rfl) rfl
theorem q3847 : (Jvm.Cond.fieldLink "AnnealingLehrModel" (233 : Nat) "AnnealingLehrModel" "spot" "I") ∈ lw_all := lw_g (lw_at lw_m16 145 rfl) rfl
theorem q3848 : (Jvm.Cond.fieldLink "AnnealingLehrModel" (236 : Nat) "AnnealingLehrModel" "isWrong" "Z") ∈ lw_all := lw_g (lw_at lw_m16 146 rfl) rfl
theorem q3849 : (Jvm.Cond.laysFinal "AnnealingLehrModel" "AnnealingLehrModel" "s" "[I") ∈ lw_all := lw_g (lw_at lw_m16 147 rfl) rfl
theorem q3850 : (Jvm.Cond.soleField "AnnealingLehrModel" "s") ∈ lw_all := lw_g (lw_at lw_m16 148 rfl) rfl
theorem q3851 : (Jvm.Cond.laysFinal "AnnealingLehrModel" "AnnealingLehrModel" "stress" "[F") ∈ lw_all := lw_g (lw_at lw_m16 149 rfl) rfl
theorem q3852 : (Jvm.Cond.soleField "AnnealingLehrModel" "stress") ∈ lw_all := lw_g (lw_at lw_m16 150 rfl) rfl
theorem q3853 : (Jvm.Cond.laysFinal "AnnealingLehrModel" "AnnealingLehrModel" "before" "[I") ∈ lw_all := lw_g (lw_at lw_m16 151 rfl) rfl
theorem q3854 : (Jvm.Cond.soleField "AnnealingLehrModel" "before") ∈ lw_all := lw_g (lw_at lw_m16 152 rfl) rfl
theorem q3855 : (Jvm.Cond.laysFinal "AnnealingLehrModel" "AnnealingLehrModel" "stressBefore" "[F") ∈ lw_all := lw_g (lw_at lw_m16 153 rfl) rfl
theorem q3856 : (Jvm.Cond.soleField "AnnealingLehrModel" "stressBefore") ∈ lw_all := lw_g (lw_at lw_m16 154 rfl) rfl
theorem q3857 : (Jvm.Cond.lays "AnnealingLehrModel" "AnnealingLehrModel" "known" "I") ∈ lw_all := lw_g (lw_at lw_m16 155 rfl) rfl
theorem q3858 : (Jvm.Cond.soleField "AnnealingLehrModel" "known") ∈ lw_all := lw_g (lw_at lw_m16 156 rfl) rfl
theorem q3859 : (Jvm.Cond.laysFinal "AnnealingLehrModel" "AnnealingLehrModel" "kept" "[I") ∈ lw_all := lw_g (lw_at lw_m16 157 rfl) rfl
theorem q3860 : (Jvm.Cond.soleField "AnnealingLehrModel" "kept") ∈ lw_all := lw_g (lw_at lw_m16 158 rfl) rfl
theorem q3861 : (Jvm.Cond.laysFinal "AnnealingLehrModel" "AnnealingLehrModel" "stressKept" "[F") ∈ lw_all := lw_g (lw_at lw_m16 159 rfl) rfl
theorem q3862 : (Jvm.Cond.soleField "AnnealingLehrModel" "stressKept") ∈ lw_all := lw_g (lw_at lw_m16 160 rfl) rfl
theorem q3863 : (Jvm.Cond.lays "AnnealingLehrModel" "AnnealingLehrModel" "isKept" "Z") ∈ lw_all := lw_g (lw_at lw_m16 161 rfl) rfl
theorem q3864 : (Jvm.Cond.soleField "AnnealingLehrModel" "isKept") ∈ lw_all := lw_g (lw_at lw_m16 162 rfl) rfl
theorem q3865 : (Jvm.Cond.laysFinal "AnnealingLehrModel" "AnnealingLehrModel" "aside" "[I") ∈ lw_all := lw_g (lw_at lw_m16 163 rfl) rfl
theorem q3866 : (Jvm.Cond.soleField "AnnealingLehrModel" "aside") ∈ lw_all := lw_g (lw_at lw_m16 164 rfl) rfl
theorem q3867 : (Jvm.Cond.laysFinal "AnnealingLehrModel" "AnnealingLehrModel" "stressAside" "[F") ∈ lw_all := lw_g (lw_at lw_m16 165 rfl) rfl
theorem q3868 : (Jvm.Cond.soleField "AnnealingLehrModel" "stressAside") ∈ lw_all := lw_g (lw_at lw_m16 166 rfl) rfl
theorem q3869 : (Jvm.Cond.laysFinal "AnnealingLehrModel" "AnnealingLehrModel" "buffer" "[I") ∈ lw_all := lw_g (lw_at lw_m16 167 rfl) rfl
theorem q3870 : (Jvm.Cond.soleField "AnnealingLehrModel" "buffer") ∈ lw_all := lw_g (lw_at lw_m16 168 rfl) rfl
theorem q3871 : (Jvm.Cond.lays "AnnealingLehrModel" "AnnealingLehrModel" "length" "I") ∈ lw_all := lw_g (lw_at lw_m16 169 rfl) rfl
theorem q3872 : (Jvm.Cond.soleField "AnnealingLehrModel" "length") ∈ lw_all := lw_g (lw_at lw_m16 170 rfl) rfl
theorem q3873 : (Jvm.Cond.lays "AnnealingLehrModel" "AnnealingLehrModel" "thrown" "I") ∈ lw_all := lw_g (lw_at lw_m16 171 rfl) rfl
theorem q3874 : (Jvm.Cond.soleField "AnnealingLehrModel" "thrown") ∈ lw_all := lw_g (lw_at lw_m16 172 rfl) rfl
theorem q3875 : (Jvm.Cond.laysFinal "AnnealingLehrModel" "AnnealingLehrModel" "burning" "[I") ∈ lw_all := lw_g (lw_at lw_m16 173 rfl) rfl
theorem q3876 : (Jvm.Cond.soleField "AnnealingLehrModel" "burning") ∈ lw_all := lw_g (lw_at lw_m16 174 rfl) rfl
theorem q3877 : (Jvm.Cond.laysFinal "AnnealingLehrModel" "AnnealingLehrModel" "warm" "[I") ∈ lw_all := lw_g (lw_at lw_m16 175 rfl) rfl
theorem q3878 : (Jvm.Cond.soleField "AnnealingLehrModel" "warm") ∈ lw_all := lw_g (lw_at lw_m16 176 rfl) rfl
theorem q3879 : (Jvm.Cond.lays "AnnealingLehrModel" "AnnealingLehrModel" "broken" "I") ∈ lw_all := lw_g (lw_at lw_m16 177 rfl) rfl
theorem q3880 : (Jvm.Cond.soleField "AnnealingLehrModel" "broken") ∈ lw_all := lw_g (lw_at lw_m16 178 rfl) rfl
theorem q3881 : (Jvm.Cond.laysFinal "AnnealingLehrModel" "AnnealingLehrModel" "why" "[I") ∈ lw_all := lw_g (lw_at lw_m16 179 rfl) rfl
theorem q3882 : (Jvm.Cond.soleField "AnnealingLehrModel" "why") ∈ lw_all := lw_g (lw_at lw_m16 180 rfl) rfl
theorem q3883 : (Jvm.Cond.lays "AnnealingLehrModel" "AnnealingLehrModel" "spot" "I") ∈ lw_all := lw_g (lw_at lw_m16 181 rfl) rfl
theorem q3884 : (Jvm.Cond.soleField "AnnealingLehrModel" "spot") ∈ lw_all := lw_g (lw_at lw_m16 182 rfl) rfl
theorem q3885 : (Jvm.Cond.lays "AnnealingLehrModel" "AnnealingLehrModel" "isWrong" "Z") ∈ lw_all := lw_g (lw_at lw_m16 183 rfl) rfl
theorem q3886 : (Jvm.Cond.soleField "AnnealingLehrModel" "isWrong") ∈ lw_all := lw_g (lw_at lw_m16 184 rfl) rfl
theorem q3887 : (Jvm.Cond.superclass "AnnealingLehrModel" "java/lang/Object") ∈ lw_all := lw_g (lw_at lw_m16 185 rfl) rfl
theorem q3890 : (Jvm.Cond.instanceMethod ({ cls := "AnnealingLehrModel", name := "thrown", desc := "()I" } : Jvm.MethodName)) ∈ lw_all := lw_g (lw_at lw_m16 188 rfl) rfl
theorem q3891 : (Jvm.Cond.selects "AnnealingLehrModel" ({ cls := "AnnealingLehrModel", name := "thrown", desc := "()I" } : Jvm.MethodName) ({ cls := "AnnealingLehrModel", name := "thrown", desc := "()I" } : Jvm.MethodName)) ∈ lw_all := lw_g (lw_at lw_m16 189 rfl) rfl
theorem q3892 : (Jvm.Cond.code ({ cls := "AnnealingLehrModel", name := "thrown", desc := "()I" } : Jvm.MethodName) prog_22_method_2_code (1 : Nat) (Option.some Jvm.ClassFile.FieldType.int)) ∈ lw_all := lw_g (lw_at lw_m16 190 rfl) rfl
theorem q3894 : (Jvm.Cond.instanceMethod ({ cls := "AnnealingLehrModel", name := "setBurner", desc := "(II)I" } : Jvm.MethodName)) ∈ lw_all := lw_g (lw_at lw_m16 192 rfl) rfl
theorem q3895 : (Jvm.Cond.selects "AnnealingLehrModel" ({ cls := "AnnealingLehrModel", name := "setBurner", desc := "(II)I" } : Jvm.MethodName) ({ cls := "AnnealingLehrModel", name := "setBurner", desc := "(II)I" } : Jvm.MethodName)) ∈ lw_all := lw_g (lw_at lw_m16 193 rfl) rfl
theorem q3896 : (Jvm.Cond.code ({ cls := "AnnealingLehrModel", name := "setBurner", desc := "(II)I" } : Jvm.MethodName) prog_22_method_40_code (3 : Nat) (Option.some Jvm.ClassFile.FieldType.int)) ∈ lw_all := lw_g (lw_at lw_m16 194 rfl) rfl
theorem q3897 : (Jvm.Cond.methodLink "AnnealingLehrModel" (165 : Nat) ({ cls := "AnnealingLehrModel", name := "sets", desc := "(IIII)I" } : Jvm.MethodName)) ∈ lw_all := lw_g (lw_at lw_m16 195 rfl) rfl
theorem q3898 : (Jvm.Cond.privateMethod ({ cls := "AnnealingLehrModel", name := "sets", desc := "(IIII)I" } : Jvm.MethodName)) ∈ lw_tbl := lw_at lw_m16 196 rfl
theorem q3899 : (Jvm.Cond.instanceMethod ({ cls := "AnnealingLehrModel", name := "sets", desc := "(IIII)I" } : Jvm.MethodName)) ∈ lw_all := lw_g (lw_at lw_m16 197 rfl) rfl
theorem q3900 : (Jvm.Cond.code ({ cls := "AnnealingLehrModel", name := "sets", desc := "(IIII)I" } : Jvm.MethodName) prog_22_method_38_code (5 : Nat) (Option.some Jvm.ClassFile.FieldType.int)) ∈ lw_all := lw_g (lw_at lw_m16 198 rfl) rfl
theorem q3901 : (Jvm.Cond.methodLink "AnnealingLehrModel" (152 : Nat) ({ cls := "AnnealingLehrModel", name := "isZone", desc := "(I)Z" } : Jvm.MethodName)) ∈ lw_all := lw_g (lw_at lw_m16 199 rfl) rfl
theorem q3902 : (Jvm.Cond.privateMethod ({ cls := "AnnealingLehrModel", name := "isZone", desc := "(I)Z" } : Jvm.MethodName)) ∈ lw_tbl := lw_at lw_m16 200 rfl
theorem q3903 : (Jvm.Cond.instanceMethod ({ cls := "AnnealingLehrModel", name := "isZone", desc := "(I)Z" } : Jvm.MethodName)) ∈ lw_all := lw_g (lw_at lw_m16 201 rfl) rfl
theorem q3904 : (Jvm.Cond.code ({ cls := "AnnealingLehrModel", name := "isZone", desc := "(I)Z" } : Jvm.MethodName) prog_22_method_37_code (2 : Nat) (Option.some Jvm.ClassFile.FieldType.boolean)) ∈ lw_all := lw_g (lw_at lw_m16 202 rfl) rfl
theorem q3905 : (Jvm.Cond.methodLink "AnnealingLehrModel" (148 : Nat) ({ cls := "AnnealingLehrModel", name := "in", desc := "(III)Z" } : Jvm.MethodName)) ∈ lw_all := lw_g (lw_at lw_m16 203 rfl) rfl
theorem q3906 : (Jvm.Cond.static ({ cls := "AnnealingLehrModel", name := "in", desc := "(III)Z" } : Jvm.MethodName)) ∈ lw_all := lw_g (lw_at lw_m16 204 rfl) rfl
theorem q3907 : (Jvm.Cond.code ({ cls := "AnnealingLehrModel", name := "in", desc := "(III)Z" } : Jvm.MethodName) prog_22_method_4_code (3 : Nat) (Option.some Jvm.ClassFile.FieldType.boolean)) ∈ lw_all := lw_g (lw_at lw_m16 205 rfl) rfl
theorem q3908 : (Jvm.Cond.methodLink "AnnealingLehrModel" (155 : Nat) ({ cls := "AnnealingLehrModel", name := "throwing", desc := "(I)I" } : Jvm.MethodName)) ∈ lw_all := lw_g (lw_at lw_m16 206 rfl) rfl
theorem q3909 : (Jvm.Cond.privateMethod ({ cls := "AnnealingLehrModel", name := "throwing", desc := "(I)I" } : Jvm.MethodName)) ∈ lw_tbl := lw_at lw_m16 207 rfl
theorem q3910 : (Jvm.Cond.instanceMethod ({ cls := "AnnealingLehrModel", name := "throwing", desc := "(I)I" } : Jvm.MethodName)) ∈ lw_all := lw_g (lw_at lw_m16 208 rfl) rfl
theorem q3911 : (Jvm.Cond.code ({ cls := "AnnealingLehrModel", name := "throwing", desc := "(I)I" } : Jvm.MethodName) prog_22_method_3_code (2 : Nat) (Option.some Jvm.ClassFile.FieldType.int)) ∈ lw_all := lw_g (lw_at lw_m16 209 rfl) rfl
theorem q3912 : (Jvm.Cond.methodLink "AnnealingLehrModel" (158 : Nat) ({ cls := "AnnealingLehrModel", name := "save", desc := "()V" } : Jvm.MethodName)) ∈ lw_all := lw_g (lw_at lw_m16 210 rfl) rfl
theorem q3913 : (Jvm.Cond.privateMethod ({ cls := "AnnealingLehrModel", name := "save", desc := "()V" } : Jvm.MethodName)) ∈ lw_tbl := lw_at lw_m16 211 rfl
theorem q3914 : (Jvm.Cond.instanceMethod ({ cls := "AnnealingLehrModel", name := "save", desc := "()V" } : Jvm.MethodName)) ∈ lw_all := lw_g (lw_at lw_m16 212 rfl) rfl
theorem q3915 : (Jvm.Cond.code ({ cls := "AnnealingLehrModel", name := "save", desc := "()V" } : Jvm.MethodName) prog_22_method_14_code (2 : Nat) (Option.none : Option Jvm.ClassFile.FieldType)) ∈ lw_all := lw_g (lw_at lw_m16 213 rfl) rfl
theorem q3916 : (Jvm.Cond.methodLink "AnnealingLehrModel" (161 : Nat) ({ cls := "AnnealingLehrModel", name := "changes", desc := "(III)I" } : Jvm.MethodName)) ∈ lw_all := lw_g (lw_at lw_m16 214 rfl) rfl
theorem q3917 : (Jvm.Cond.privateMethod ({ cls := "AnnealingLehrModel", name := "changes", desc := "(III)I" } : Jvm.MethodName)) ∈ lw_tbl := lw_at lw_m16 215 rfl
theorem q3918 : (Jvm.Cond.instanceMethod ({ cls := "AnnealingLehrModel", name := "changes", desc := "(III)I" } : Jvm.MethodName)) ∈ lw_all := lw_g (lw_at lw_m16 216 rfl) rfl
theorem q3919 : (Jvm.Cond.code ({ cls := "AnnealingLehrModel", name := "changes", desc := "(III)I" } : Jvm.MethodName) prog_22_method_39_code (5 : Nat) (Option.some Jvm.ClassFile.FieldType.int)) ∈ lw_all := lw_g (lw_at lw_m16 217 rfl) rfl
theorem q3920 : (Jvm.Cond.methodLink "AnnealingLehrModel" (72 : Nat) ({ cls := "AnnealingLehrModel", name := "zone", desc := "(II)I" } : Jvm.MethodName)) ∈ lw_all := lw_g (lw_at lw_m16 218 rfl) rfl
theorem q3921 : (Jvm.Cond.privateMethod ({ cls := "AnnealingLehrModel", name := "zone", desc := "(II)I" } : Jvm.MethodName)) ∈ lw_tbl := lw_at lw_m16 219 rfl
theorem q3922 : (Jvm.Cond.instanceMethod ({ cls := "AnnealingLehrModel", name := "zone", desc := "(II)I" } : Jvm.MethodName)) ∈ lw_all := lw_g (lw_at lw_m16 220 rfl) rfl
theorem q3923 : (Jvm.Cond.code ({ cls := "AnnealingLehrModel", name := "zone", desc := "(II)I" } : Jvm.MethodName) prog_22_method_5_code (3 : Nat) (Option.some Jvm.ClassFile.FieldType.int)) ∈ lw_all := lw_g (lw_at lw_m16 221 rfl) rfl
theorem q3925 : (Jvm.Cond.instanceMethod ({ cls := "AnnealingLehrModel", name := "setFan", desc := "(II)I" } : Jvm.MethodName)) ∈ lw_all := lw_g (lw_at lw_m16 223 rfl) rfl
theorem q3926 : (Jvm.Cond.selects "AnnealingLehrModel" ({ cls := "AnnealingLehrModel", name := "setFan", desc := "(II)I" } : Jvm.MethodName) ({ cls := "AnnealingLehrModel", name := "setFan", desc := "(II)I" } : Jvm.MethodName)) ∈ lw_all := lw_g (lw_at lw_m16 224 rfl) rfl
theorem q3927 : (Jvm.Cond.code ({ cls := "AnnealingLehrModel", name := "setFan", desc := "(II)I" } : Jvm.MethodName) prog_22_method_41_code (3 : Nat) (Option.some Jvm.ClassFile.FieldType.int)) ∈ lw_all := lw_g (lw_at lw_m16 225 rfl) rfl
theorem q3929 : (Jvm.Cond.instanceMethod ({ cls := "AnnealingLehrModel", name := "setRollers", desc := "(II)I" } : Jvm.MethodName)) ∈ lw_all := lw_g (lw_at lw_m16 227 rfl) rfl
theorem q3930 : (Jvm.Cond.selects "AnnealingLehrModel" ({ cls := "AnnealingLehrModel", name := "setRollers", desc := "(II)I" } : Jvm.MethodName) ({ cls := "AnnealingLehrModel", name := "setRollers", desc := "(II)I" } : Jvm.MethodName)) ∈ lw_all := lw_g (lw_at lw_m16 228 rfl) rfl
theorem q3931 : (Jvm.Cond.code ({ cls := "AnnealingLehrModel", name := "setRollers", desc := "(II)I" } : Jvm.MethodName) prog_22_method_42_code (3 : Nat) (Option.some Jvm.ClassFile.FieldType.int)) ∈ lw_all := lw_g (lw_at lw_m16 229 rfl) rfl
theorem q3933 : (Jvm.Cond.instanceMethod ({ cls := "AnnealingLehrModel", name := "setSupply", desc := "(I)I" } : Jvm.MethodName)) ∈ lw_all := lw_g (lw_at lw_m16 231 rfl) rfl
theorem q3934 : (Jvm.Cond.selects "AnnealingLehrModel" ({ cls := "AnnealingLehrModel", name := "setSupply", desc := "(I)I" } : Jvm.MethodName) ({ cls := "AnnealingLehrModel", name := "setSupply", desc := "(I)I" } : Jvm.MethodName)) ∈ lw_all := lw_g (lw_at lw_m16 232 rfl) rfl
theorem q3935 : (Jvm.Cond.code ({ cls := "AnnealingLehrModel", name := "setSupply", desc := "(I)I" } : Jvm.MethodName) prog_22_method_43_code (3 : Nat) (Option.some Jvm.ClassFile.FieldType.int)) ∈ lw_all := lw_g (lw_at lw_m16 233 rfl) rfl
theorem q3937 : (Jvm.Cond.instanceMethod ({ cls := "AnnealingLehrModel", name := "openLot", desc := "(II)I" } : Jvm.MethodName)) ∈ lw_all := lw_g (lw_at lw_m16 235 rfl) rfl
theorem q3938 : (Jvm.Cond.selects "AnnealingLehrModel" ({ cls := "AnnealingLehrModel", name := "openLot", desc := "(II)I" } : Jvm.MethodName) ({ cls := "AnnealingLehrModel", name := "openLot", desc := "(II)I" } : Jvm.MethodName)) ∈ lw_all := lw_g (lw_at lw_m16 236 rfl) rfl
theorem q3939 : (Jvm.Cond.code ({ cls := "AnnealingLehrModel", name := "openLot", desc := "(II)I" } : Jvm.MethodName) prog_22_method_45_code (3 : Nat) (Option.some Jvm.ClassFile.FieldType.int)) ∈ lw_all := lw_g (lw_at lw_m16 237 rfl) rfl
theorem q3940 : (Jvm.Cond.methodLink "AnnealingLehrModel" (169 : Nat) ({ cls := "AnnealingLehrModel", name := "opens", desc := "(II)I" } : Jvm.MethodName)) ∈ lw_all := lw_g (lw_at lw_m16 238 rfl) rfl
theorem q3941 : (Jvm.Cond.privateMethod ({ cls := "AnnealingLehrModel", name := "opens", desc := "(II)I" } : Jvm.MethodName)) ∈ lw_tbl := lw_at lw_m16 239 rfl
theorem q3942 : (Jvm.Cond.instanceMethod ({ cls := "AnnealingLehrModel", name := "opens", desc := "(II)I" } : Jvm.MethodName)) ∈ lw_all := lw_g (lw_at lw_m17 0 rfl) rfl
theorem q3943 : (Jvm.Cond.code ({ cls := "AnnealingLehrModel", name := "opens", desc := "(II)I" } : Jvm.MethodName) prog_22_method_44_code (5 : Nat) (Option.some Jvm.ClassFile.FieldType.int)) ∈ lw_all := lw_g (lw_at lw_m17 1 rfl) rfl
theorem q3945 : (Jvm.Cond.instanceMethod ({ cls := "AnnealingLehrModel", name := "load", desc := "(I)I" } : Jvm.MethodName)) ∈ lw_all := lw_g (lw_at lw_m17 3 rfl) rfl
theorem q3946 : (Jvm.Cond.selects "AnnealingLehrModel" ({ cls := "AnnealingLehrModel", name := "load", desc := "(I)I" } : Jvm.MethodName) ({ cls := "AnnealingLehrModel", name := "load", desc := "(I)I" } : Jvm.MethodName)) ∈ lw_all := lw_g (lw_at lw_m17 4 rfl) rfl
theorem q3947 : (Jvm.Cond.code ({ cls := "AnnealingLehrModel", name := "load", desc := "(I)I" } : Jvm.MethodName) prog_22_method_49_code (2 : Nat) (Option.some Jvm.ClassFile.FieldType.int)) ∈ lw_all := lw_g (lw_at lw_m17 5 rfl) rfl
theorem q3948 : (Jvm.Cond.methodLink "AnnealingLehrModel" (172 : Nat) ({ cls := "AnnealingLehrModel", name := "isLot", desc := "(I)Z" } : Jvm.MethodName)) ∈ lw_all := lw_g (lw_at lw_m17 6 rfl) rfl
theorem q3949 : (Jvm.Cond.privateMethod ({ cls := "AnnealingLehrModel", name := "isLot", desc := "(I)Z" } : Jvm.MethodName)) ∈ lw_tbl := lw_at lw_m17 7 rfl
theorem q3950 : (Jvm.Cond.instanceMethod ({ cls := "AnnealingLehrModel", name := "isLot", desc := "(I)Z" } : Jvm.MethodName)) ∈ lw_all := lw_g (lw_at lw_m17 8 rfl) rfl
theorem q3951 : (Jvm.Cond.code ({ cls := "AnnealingLehrModel", name := "isLot", desc := "(I)Z" } : Jvm.MethodName) prog_22_method_46_code (2 : Nat) (Option.some Jvm.ClassFile.FieldType.boolean)) ∈ lw_all := lw_g (lw_at lw_m17 9 rfl) rfl
theorem q3952 : (Jvm.Cond.methodLink "AnnealingLehrModel" (175 : Nat) ({ cls := "AnnealingLehrModel", name := "noLoading", desc := "(I)I" } : Jvm.MethodName)) ∈ lw_all := lw_g (lw_at lw_m17 10 rfl) rfl
theorem q3953 : (Jvm.Cond.privateMethod ({ cls := "AnnealingLehrModel", name := "noLoading", desc := "(I)I" } : Jvm.MethodName)) ∈ lw_tbl := lw_at lw_m17 11 rfl
theorem q3954 : (Jvm.Cond.instanceMethod ({ cls := "AnnealingLehrModel", name := "noLoading", desc := "(I)I" } : Jvm.MethodName)) ∈ lw_all := lw_g (lw_at lw_m17 12 rfl) rfl
theorem q3955 : (Jvm.Cond.code ({ cls := "AnnealingLehrModel", name := "noLoading", desc := "(I)I" } : Jvm.MethodName) prog_22_method_47_code (2 : Nat) (Option.some Jvm.ClassFile.FieldType.int)) ∈ lw_all := lw_g (lw_at lw_m17 13 rfl) rfl
theorem q3956 : (Jvm.Cond.methodLink "AnnealingLehrModel" (69 : Nat) ({ cls := "AnnealingLehrModel", name := "lot", desc := "(II)I" } : Jvm.MethodName)) ∈ lw_all := lw_g (lw_at lw_m17 14 rfl) rfl
theorem q3957 : (Jvm.Cond.privateMethod ({ cls := "AnnealingLehrModel", name := "lot", desc := "(II)I" } : Jvm.MethodName)) ∈ lw_tbl := lw_at lw_m17 15 rfl
theorem q3958 : (Jvm.Cond.instanceMethod ({ cls := "AnnealingLehrModel", name := "lot", desc := "(II)I" } : Jvm.MethodName)) ∈ lw_all := lw_g (lw_at lw_m17 16 rfl) rfl
theorem q3959 : (Jvm.Cond.code ({ cls := "AnnealingLehrModel", name := "lot", desc := "(II)I" } : Jvm.MethodName) prog_22_method_9_code (3 : Nat) (Option.some Jvm.ClassFile.FieldType.int)) ∈ lw_all := lw_g (lw_at lw_m17 17 rfl) rfl
theorem q3960 : (Jvm.Cond.methodLink "AnnealingLehrModel" (62 : Nat) ({ cls := "AnnealingLehrModel", name := "isPiece", desc := "(I)Z" } : Jvm.MethodName)) ∈ lw_all := lw_g (lw_at lw_m17 18 rfl) rfl
theorem q3961 : (Jvm.Cond.privateMethod ({ cls := "AnnealingLehrModel", name := "isPiece", desc := "(I)Z" } : Jvm.MethodName)) ∈ lw_tbl := lw_at lw_m17 19 rfl
theorem q3962 : (Jvm.Cond.instanceMethod ({ cls := "AnnealingLehrModel", name := "isPiece", desc := "(I)Z" } : Jvm.MethodName)) ∈ lw_all := lw_g (lw_at lw_m17 20 rfl) rfl
theorem q3963 : (Jvm.Cond.code ({ cls := "AnnealingLehrModel", name := "isPiece", desc := "(I)Z" } : Jvm.MethodName) prog_22_method_12_code (2 : Nat) (Option.some Jvm.ClassFile.FieldType.boolean)) ∈ lw_all := lw_g (lw_at lw_m17 21 rfl) rfl
theorem q3964 : (Jvm.Cond.methodLink "AnnealingLehrModel" (58 : Nat) ({ cls := "AnnealingLehrModel", name := "at", desc := "(II)I" } : Jvm.MethodName)) ∈ lw_all := lw_g (lw_at lw_m17 22 rfl) rfl
theorem q3965 : (Jvm.Cond.privateMethod ({ cls := "AnnealingLehrModel", name := "at", desc := "(II)I" } : Jvm.MethodName)) ∈ lw_tbl := lw_at lw_m17 23 rfl
theorem q3966 : (Jvm.Cond.instanceMethod ({ cls := "AnnealingLehrModel", name := "at", desc := "(II)I" } : Jvm.MethodName)) ∈ lw_all := lw_g (lw_at lw_m17 24 rfl) rfl
theorem q3967 : (Jvm.Cond.code ({ cls := "AnnealingLehrModel", name := "at", desc := "(II)I" } : Jvm.MethodName) prog_22_method_7_code (3 : Nat) (Option.some Jvm.ClassFile.FieldType.int)) ∈ lw_all := lw_g (lw_at lw_m17 25 rfl) rfl
theorem q3968 : (Jvm.Cond.methodLink "AnnealingLehrModel" (178 : Nat) ({ cls := "AnnealingLehrModel", name := "loads", desc := "(I)I" } : Jvm.MethodName)) ∈ lw_all := lw_g (lw_at lw_m17 26 rfl) rfl
theorem q3969 : (Jvm.Cond.privateMethod ({ cls := "AnnealingLehrModel", name := "loads", desc := "(I)I" } : Jvm.MethodName)) ∈ lw_tbl := lw_at lw_m17 27 rfl
theorem q3970 : (Jvm.Cond.instanceMethod ({ cls := "AnnealingLehrModel", name := "loads", desc := "(I)I" } : Jvm.MethodName)) ∈ lw_all := lw_g (lw_at lw_m17 28 rfl) rfl
theorem q3971 : (Jvm.Cond.code ({ cls := "AnnealingLehrModel", name := "loads", desc := "(I)I" } : Jvm.MethodName) prog_22_method_48_code (3 : Nat) (Option.some Jvm.ClassFile.FieldType.int)) ∈ lw_all := lw_g (lw_at lw_m17 29 rfl) rfl
theorem q3972 : (Jvm.Cond.methodLink "AnnealingLehrModel" (107 : Nat) ({ cls := "AnnealingLehrModel", name := "growLot", desc := "(III)V" } : Jvm.MethodName)) ∈ lw_all := lw_g (lw_at lw_m17 30 rfl) rfl
theorem q3973 : (Jvm.Cond.privateMethod ({ cls := "AnnealingLehrModel", name := "growLot", desc := "(III)V" } : Jvm.MethodName)) ∈ lw_tbl := lw_at lw_m17 31 rfl
theorem q3974 : (Jvm.Cond.instanceMethod ({ cls := "AnnealingLehrModel", name := "growLot", desc := "(III)V" } : Jvm.MethodName)) ∈ lw_all := lw_g (lw_at lw_m17 32 rfl) rfl
theorem q3975 : (Jvm.Cond.code ({ cls := "AnnealingLehrModel", name := "growLot", desc := "(III)V" } : Jvm.MethodName) prog_22_method_10_code (4 : Nat) (Option.none : Option Jvm.ClassFile.FieldType)) ∈ lw_all := lw_g (lw_at lw_m17 33 rfl) rfl
theorem q3977 : (Jvm.Cond.instanceMethod ({ cls := "AnnealingLehrModel", name := "sendCleaner", desc := "(II)I" } : Jvm.MethodName)) ∈ lw_all := lw_g (lw_at lw_m17 35 rfl) rfl
theorem q3978 : (Jvm.Cond.selects "AnnealingLehrModel" ({ cls := "AnnealingLehrModel", name := "sendCleaner", desc := "(II)I" } : Jvm.MethodName) ({ cls := "AnnealingLehrModel", name := "sendCleaner", desc := "(II)I" } : Jvm.MethodName)) ∈ lw_all := lw_g (lw_at lw_m17 36 rfl) rfl
theorem q3979 : (Jvm.Cond.code ({ cls := "AnnealingLehrModel", name := "sendCleaner", desc := "(II)I" } : Jvm.MethodName) prog_22_method_53_code (3 : Nat) (Option.some Jvm.ClassFile.FieldType.int)) ∈ lw_all := lw_g (lw_at lw_m17 37 rfl) rfl
theorem q3980 : (Jvm.Cond.methodLink "AnnealingLehrModel" (181 : Nat) ({ cls := "AnnealingLehrModel", name := "isCleaner", desc := "(II)Z" } : Jvm.MethodName)) ∈ lw_all := lw_g (lw_at lw_m17 38 rfl) rfl
theorem q3981 : (Jvm.Cond.privateMethod ({ cls := "AnnealingLehrModel", name := "isCleaner", desc := "(II)Z" } : Jvm.MethodName)) ∈ lw_tbl := lw_at lw_m17 39 rfl
theorem q3982 : (Jvm.Cond.instanceMethod ({ cls := "AnnealingLehrModel", name := "isCleaner", desc := "(II)Z" } : Jvm.MethodName)) ∈ lw_all := lw_g (lw_at lw_m17 40 rfl) rfl
theorem q3983 : (Jvm.Cond.code ({ cls := "AnnealingLehrModel", name := "isCleaner", desc := "(II)Z" } : Jvm.MethodName) prog_22_method_50_code (3 : Nat) (Option.some Jvm.ClassFile.FieldType.boolean)) ∈ lw_all := lw_g (lw_at lw_m17 41 rfl) rfl
theorem q3984 : (Jvm.Cond.methodLink "AnnealingLehrModel" (185 : Nat) ({ cls := "AnnealingLehrModel", name := "noCleaning", desc := "(II)I" } : Jvm.MethodName)) ∈ lw_all := lw_g (lw_at lw_m17 42 rfl) rfl
theorem q3985 : (Jvm.Cond.privateMethod ({ cls := "AnnealingLehrModel", name := "noCleaning", desc := "(II)I" } : Jvm.MethodName)) ∈ lw_tbl := lw_at lw_m17 43 rfl
theorem q3986 : (Jvm.Cond.instanceMethod ({ cls := "AnnealingLehrModel", name := "noCleaning", desc := "(II)I" } : Jvm.MethodName)) ∈ lw_all := lw_g (lw_at lw_m17 44 rfl) rfl
theorem q3987 : (Jvm.Cond.code ({ cls := "AnnealingLehrModel", name := "noCleaning", desc := "(II)I" } : Jvm.MethodName) prog_22_method_51_code (4 : Nat) (Option.some Jvm.ClassFile.FieldType.int)) ∈ lw_all := lw_g (lw_at lw_m17 45 rfl) rfl
theorem q3988 : (Jvm.Cond.methodLink "AnnealingLehrModel" (188 : Nat) ({ cls := "AnnealingLehrModel", name := "sends", desc := "(II)I" } : Jvm.MethodName)) ∈ lw_all := lw_g (lw_at lw_m17 46 rfl) rfl
theorem q3989 : (Jvm.Cond.privateMethod ({ cls := "AnnealingLehrModel", name := "sends", desc := "(II)I" } : Jvm.MethodName)) ∈ lw_tbl := lw_at lw_m17 47 rfl
theorem q3990 : (Jvm.Cond.instanceMethod ({ cls := "AnnealingLehrModel", name := "sends", desc := "(II)I" } : Jvm.MethodName)) ∈ lw_all := lw_g (lw_at lw_m17 48 rfl) rfl
theorem q3991 : (Jvm.Cond.code ({ cls := "AnnealingLehrModel", name := "sends", desc := "(II)I" } : Jvm.MethodName) prog_22_method_52_code (5 : Nat) (Option.some Jvm.ClassFile.FieldType.int)) ∈ lw_all := lw_g (lw_at lw_m17 49 rfl) rfl
theorem q3993 : (Jvm.Cond.instanceMethod ({ cls := "AnnealingLehrModel", name := "takeOrder", desc := "(IIIII)I" } : Jvm.MethodName)) ∈ lw_all := lw_g (lw_at lw_m17 51 rfl) rfl
theorem q3994 : (Jvm.Cond.selects "AnnealingLehrModel" ({ cls := "AnnealingLehrModel", name := "takeOrder", desc := "(IIIII)I" } : Jvm.MethodName) ({ cls := "AnnealingLehrModel", name := "takeOrder", desc := "(IIIII)I" } : Jvm.MethodName)) ∈ lw_all := lw_g (lw_at lw_m17 52 rfl) rfl
theorem q3995 : (Jvm.Cond.code ({ cls := "AnnealingLehrModel", name := "takeOrder", desc := "(IIIII)I" } : Jvm.MethodName) prog_22_method_54_code (9 : Nat) (Option.some Jvm.ClassFile.FieldType.int)) ∈ lw_all := lw_g (lw_at lw_m17 53 rfl) rfl
theorem q3996 : (Jvm.Cond.methodLink "AnnealingLehrModel" (104 : Nat) ({ cls := "AnnealingLehrModel", name := "order", desc := "(II)I" } : Jvm.MethodName)) ∈ lw_all := lw_g (lw_at lw_m17 54 rfl) rfl
theorem q3997 : (Jvm.Cond.privateMethod ({ cls := "AnnealingLehrModel", name := "order", desc := "(II)I" } : Jvm.MethodName)) ∈ lw_tbl := lw_at lw_m17 55 rfl
theorem q3998 : (Jvm.Cond.instanceMethod ({ cls := "AnnealingLehrModel", name := "order", desc := "(II)I" } : Jvm.MethodName)) ∈ lw_all := lw_g (lw_at lw_m17 56 rfl) rfl
theorem q3999 : (Jvm.Cond.code ({ cls := "AnnealingLehrModel", name := "order", desc := "(II)I" } : Jvm.MethodName) prog_22_method_11_code (3 : Nat) (Option.some Jvm.ClassFile.FieldType.int)) ∈ lw_all := lw_g (lw_at lw_m17 57 rfl) rfl
theorem q4000 : (Jvm.Cond.methodLink "AnnealingLehrModel" (110 : Nat) ({ cls := "AnnealingLehrModel", name := "delivers", desc := "(II)V" } : Jvm.MethodName)) ∈ lw_all := lw_g (lw_at lw_m17 58 rfl) rfl
theorem q4001 : (Jvm.Cond.privateMethod ({ cls := "AnnealingLehrModel", name := "delivers", desc := "(II)V" } : Jvm.MethodName)) ∈ lw_tbl := lw_at lw_m17 59 rfl
theorem q4002 : (Jvm.Cond.instanceMethod ({ cls := "AnnealingLehrModel", name := "delivers", desc := "(II)V" } : Jvm.MethodName)) ∈ lw_all := lw_g (lw_at lw_m17 60 rfl) rfl
theorem q4003 : (Jvm.Cond.code ({ cls := "AnnealingLehrModel", name := "delivers", desc := "(II)V" } : Jvm.MethodName) prog_22_method_30_code (5 : Nat) (Option.none : Option Jvm.ClassFile.FieldType)) ∈ lw_all := lw_g (lw_at lw_m17 61 rfl) rfl
theorem q4005 : (Jvm.Cond.instanceMethod ({ cls := "AnnealingLehrModel", name := "plan", desc := "(III)I" } : Jvm.MethodName)) ∈ lw_all := lw_g (lw_at lw_m17 63 rfl) rfl
theorem q4006 : (Jvm.Cond.selects "AnnealingLehrModel" ({ cls := "AnnealingLehrModel", name := "plan", desc := "(III)I" } : Jvm.MethodName) ({ cls := "AnnealingLehrModel", name := "plan", desc := "(III)I" } : Jvm.MethodName)) ∈ lw_all := lw_g (lw_at lw_m17 64 rfl) rfl
theorem q4007 : (Jvm.Cond.code ({ cls := "AnnealingLehrModel", name := "plan", desc := "(III)I" } : Jvm.MethodName) prog_22_method_56_code (7 : Nat) (Option.some Jvm.ClassFile.FieldType.int)) ∈ lw_all := lw_g (lw_at lw_m17 65 rfl) rfl
theorem q4008 : (Jvm.Cond.methodLink "AnnealingLehrModel" (191 : Nat) ({ cls := "AnnealingLehrModel", name := "planOf", desc := "(II)I" } : Jvm.MethodName)) ∈ lw_all := lw_g (lw_at lw_m17 66 rfl) rfl
theorem q4009 : (Jvm.Cond.privateMethod ({ cls := "AnnealingLehrModel", name := "planOf", desc := "(II)I" } : Jvm.MethodName)) ∈ lw_tbl := lw_at lw_m17 67 rfl
theorem q4010 : (Jvm.Cond.instanceMethod ({ cls := "AnnealingLehrModel", name := "planOf", desc := "(II)I" } : Jvm.MethodName)) ∈ lw_all := lw_g (lw_at lw_m17 68 rfl) rfl
theorem q4011 : (Jvm.Cond.code ({ cls := "AnnealingLehrModel", name := "planOf", desc := "(II)I" } : Jvm.MethodName) prog_22_method_55_code (4 : Nat) (Option.some Jvm.ClassFile.FieldType.int)) ∈ lw_all := lw_g (lw_at lw_m17 69 rfl) rfl
theorem q4013 : (Jvm.Cond.instanceMethod ({ cls := "AnnealingLehrModel", name := "pass", desc := "(I)I" } : Jvm.MethodName)) ∈ lw_all := lw_g (lw_at lw_m17 71 rfl) rfl
theorem q4014 : (Jvm.Cond.selects "AnnealingLehrModel" ({ cls := "AnnealingLehrModel", name := "pass", desc := "(I)I" } : Jvm.MethodName) ({ cls := "AnnealingLehrModel", name := "pass", desc := "(I)I" } : Jvm.MethodName)) ∈ lw_all := lw_g (lw_at lw_m17 72 rfl) rfl
theorem q4015 : (Jvm.Cond.code ({ cls := "AnnealingLehrModel", name := "pass", desc := "(I)I" } : Jvm.MethodName) prog_22_method_57_code (2 : Nat) (Option.some Jvm.ClassFile.FieldType.int)) ∈ lw_all := lw_g (lw_at lw_m17 73 rfl) rfl
theorem q4016 : (Jvm.Cond.methodLink "AnnealingLehrModel" (194 : Nat) ({ cls := "AnnealingLehrModel", name := "passes", desc := "(I)I" } : Jvm.MethodName)) ∈ lw_all := lw_g (lw_at lw_m17 74 rfl) rfl
theorem q4017 : (Jvm.Cond.privateMethod ({ cls := "AnnealingLehrModel", name := "passes", desc := "(I)I" } : Jvm.MethodName)) ∈ lw_tbl := lw_at lw_m17 75 rfl
theorem q4018 : (Jvm.Cond.instanceMethod ({ cls := "AnnealingLehrModel", name := "passes", desc := "(I)I" } : Jvm.MethodName)) ∈ lw_all := lw_g (lw_at lw_m17 76 rfl) rfl
theorem q4019 : (Jvm.Cond.code ({ cls := "AnnealingLehrModel", name := "passes", desc := "(I)I" } : Jvm.MethodName) prog_22_method_36_code (4 : Nat) (Option.some Jvm.ClassFile.FieldType.int)) ∈ lw_all := lw_g (lw_at lw_m17 77 rfl) rfl
theorem q4020 : (Jvm.Cond.methodLink "AnnealingLehrModel" (145 : Nat) ({ cls := "AnnealingLehrModel", name := "minute", desc := "()I" } : Jvm.MethodName)) ∈ lw_all := lw_g (lw_at lw_m17 78 rfl) rfl
theorem q4021 : (Jvm.Cond.privateMethod ({ cls := "AnnealingLehrModel", name := "minute", desc := "()I" } : Jvm.MethodName)) ∈ lw_tbl := lw_at lw_m17 79 rfl
theorem q4022 : (Jvm.Cond.instanceMethod ({ cls := "AnnealingLehrModel", name := "minute", desc := "()I" } : Jvm.MethodName)) ∈ lw_all := lw_g (lw_at lw_m17 80 rfl) rfl
theorem q4023 : (Jvm.Cond.code ({ cls := "AnnealingLehrModel", name := "minute", desc := "()I" } : Jvm.MethodName) prog_22_method_35_code (2 : Nat) (Option.some Jvm.ClassFile.FieldType.int)) ∈ lw_all := lw_g (lw_at lw_m17 81 rfl) rfl
theorem q4024 : (Jvm.Cond.methodLink "AnnealingLehrModel" (123 : Nat) ({ cls := "AnnealingLehrModel", name := "carriesOut", desc := "()V" } : Jvm.MethodName)) ∈ lw_all := lw_g (lw_at lw_m17 82 rfl) rfl
theorem q4025 : (Jvm.Cond.privateMethod ({ cls := "AnnealingLehrModel", name := "carriesOut", desc := "()V" } : Jvm.MethodName)) ∈ lw_tbl := lw_at lw_m17 83 rfl
theorem q4026 : (Jvm.Cond.instanceMethod ({ cls := "AnnealingLehrModel", name := "carriesOut", desc := "()V" } : Jvm.MethodName)) ∈ lw_all := lw_g (lw_at lw_m17 84 rfl) rfl
theorem q4027 : (Jvm.Cond.code ({ cls := "AnnealingLehrModel", name := "carriesOut", desc := "()V" } : Jvm.MethodName) prog_22_method_25_code (5 : Nat) (Option.none : Option Jvm.ClassFile.FieldType)) ∈ lw_all := lw_g (lw_at lw_m17 85 rfl) rfl
theorem q4028 : (Jvm.Cond.methodLink "AnnealingLehrModel" (126 : Nat) ({ cls := "AnnealingLehrModel", name := "heats", desc := "()V" } : Jvm.MethodName)) ∈ lw_all := lw_g (lw_at lw_m17 86 rfl) rfl
theorem q4029 : (Jvm.Cond.privateMethod ({ cls := "AnnealingLehrModel", name := "heats", desc := "()V" } : Jvm.MethodName)) ∈ lw_tbl := lw_at lw_m17 87 rfl
theorem q4030 : (Jvm.Cond.instanceMethod ({ cls := "AnnealingLehrModel", name := "heats", desc := "()V" } : Jvm.MethodName)) ∈ lw_all := lw_g (lw_at lw_m17 88 rfl) rfl
theorem q4031 : (Jvm.Cond.code ({ cls := "AnnealingLehrModel", name := "heats", desc := "()V" } : Jvm.MethodName) prog_22_method_26_code (4 : Nat) (Option.none : Option Jvm.ClassFile.FieldType)) ∈ lw_all := lw_g (lw_at lw_m17 89 rfl) rfl
theorem q4032 : (Jvm.Cond.methodLink "AnnealingLehrModel" (75 : Nat) ({ cls := "AnnealingLehrModel", name := "burns", desc := "()V" } : Jvm.MethodName)) ∈ lw_all := lw_g (lw_at lw_m17 90 rfl) rfl
theorem q4033 : (Jvm.Cond.privateMethod ({ cls := "AnnealingLehrModel", name := "burns", desc := "()V" } : Jvm.MethodName)) ∈ lw_tbl := lw_at lw_m17 91 rfl
theorem q4034 : (Jvm.Cond.instanceMethod ({ cls := "AnnealingLehrModel", name := "burns", desc := "()V" } : Jvm.MethodName)) ∈ lw_all := lw_g (lw_at lw_m17 92 rfl) rfl
theorem q4035 : (Jvm.Cond.code ({ cls := "AnnealingLehrModel", name := "burns", desc := "()V" } : Jvm.MethodName) prog_22_method_24_code (3 : Nat) (Option.none : Option Jvm.ClassFile.FieldType)) ∈ lw_all := lw_g (lw_at lw_m17 93 rfl) rfl
theorem q4036 : (Jvm.Cond.methodLink "AnnealingLehrModel" (78 : Nat) ({ cls := "AnnealingLehrModel", name := "target", desc := "(I)I" } : Jvm.MethodName)) ∈ lw_all := lw_g (lw_at lw_m17 94 rfl) rfl
theorem q4037 : (Jvm.Cond.static ({ cls := "AnnealingLehrModel", name := "target", desc := "(I)I" } : Jvm.MethodName)) ∈ lw_all := lw_g (lw_at lw_m17 95 rfl) rfl
theorem q4038 : (Jvm.Cond.code ({ cls := "AnnealingLehrModel", name := "target", desc := "(I)I" } : Jvm.MethodName) prog_22_method_22_code (1 : Nat) (Option.some Jvm.ClassFile.FieldType.int)) ∈ lw_all := lw_g (lw_at lw_m17 96 rfl) rfl
theorem q4039 : (Jvm.Cond.methodLink "AnnealingLehrModel" (82 : Nat) ({ cls := "AnnealingLehrModel", name := "step", desc := "(II)I" } : Jvm.MethodName)) ∈ lw_all := lw_g (lw_at lw_m17 97 rfl) rfl
theorem q4040 : (Jvm.Cond.static ({ cls := "AnnealingLehrModel", name := "step", desc := "(II)I" } : Jvm.MethodName)) ∈ lw_all := lw_g (lw_at lw_m17 98 rfl) rfl
theorem q4041 : (Jvm.Cond.code ({ cls := "AnnealingLehrModel", name := "step", desc := "(II)I" } : Jvm.MethodName) prog_22_method_23_code (3 : Nat) (Option.some Jvm.ClassFile.FieldType.int)) ∈ lw_all := lw_g (lw_at lw_m17 99 rfl) rfl
theorem q4042 : (Jvm.Cond.methodLink "AnnealingLehrModel" (129 : Nat) ({ cls := "AnnealingLehrModel", name := "cools", desc := "()V" } : Jvm.MethodName)) ∈ lw_all := lw_g (lw_at lw_m17 100 rfl) rfl
theorem q4043 : (Jvm.Cond.privateMethod ({ cls := "AnnealingLehrModel", name := "cools", desc := "()V" } : Jvm.MethodName)) ∈ lw_tbl := lw_at lw_m17 101 rfl
theorem q4044 : (Jvm.Cond.instanceMethod ({ cls := "AnnealingLehrModel", name := "cools", desc := "()V" } : Jvm.MethodName)) ∈ lw_all := lw_g (lw_at lw_m17 102 rfl) rfl
theorem q4045 : (Jvm.Cond.code ({ cls := "AnnealingLehrModel", name := "cools", desc := "()V" } : Jvm.MethodName) prog_22_method_27_code (6 : Nat) (Option.none : Option Jvm.ClassFile.FieldType)) ∈ lw_all := lw_g (lw_at lw_m17 103 rfl) rfl
theorem q4046 : (Jvm.Cond.methodLink "AnnealingLehrModel" (85 : Nat) ({ cls := "AnnealingLehrModel", name := "kindAt", desc := "(I)I" } : Jvm.MethodName)) ∈ lw_all := lw_g (lw_at lw_m17 104 rfl) rfl
theorem q4047 : (Jvm.Cond.privateMethod ({ cls := "AnnealingLehrModel", name := "kindAt", desc := "(I)I" } : Jvm.MethodName)) ∈ lw_tbl := lw_at lw_m17 105 rfl
theorem q4048 : (Jvm.Cond.instanceMethod ({ cls := "AnnealingLehrModel", name := "kindAt", desc := "(I)I" } : Jvm.MethodName)) ∈ lw_all := lw_g (lw_at lw_m17 106 rfl) rfl
theorem q4049 : (Jvm.Cond.code ({ cls := "AnnealingLehrModel", name := "kindAt", desc := "(I)I" } : Jvm.MethodName) prog_22_method_21_code (2 : Nat) (Option.some Jvm.ClassFile.FieldType.int)) ∈ lw_all := lw_g (lw_at lw_m17 107 rfl) rfl
theorem q4050 : (Jvm.Cond.methodLink "AnnealingLehrModel" (88 : Nat) ({ cls := "AnnealingLehrModel", name := "high", desc := "(I)I" } : Jvm.MethodName)) ∈ lw_all := lw_g (lw_at lw_m17 108 rfl) rfl
theorem q4051 : (Jvm.Cond.static ({ cls := "AnnealingLehrModel", name := "high", desc := "(I)I" } : Jvm.MethodName)) ∈ lw_all := lw_g (lw_at lw_m17 109 rfl) rfl
theorem q4052 : (Jvm.Cond.code ({ cls := "AnnealingLehrModel", name := "high", desc := "(I)I" } : Jvm.MethodName) prog_22_method_18_code (1 : Nat) (Option.some Jvm.ClassFile.FieldType.int)) ∈ lw_all := lw_g (lw_at lw_m17 110 rfl) rfl
theorem q4053 : (Jvm.Cond.methodLink "AnnealingLehrModel" (91 : Nat) ({ cls := "AnnealingLehrModel", name := "low", desc := "(I)I" } : Jvm.MethodName)) ∈ lw_all := lw_g (lw_at lw_m17 111 rfl) rfl
theorem q4054 : (Jvm.Cond.static ({ cls := "AnnealingLehrModel", name := "low", desc := "(I)I" } : Jvm.MethodName)) ∈ lw_all := lw_g (lw_at lw_m17 112 rfl) rfl
theorem q4055 : (Jvm.Cond.code ({ cls := "AnnealingLehrModel", name := "low", desc := "(I)I" } : Jvm.MethodName) prog_22_method_17_code (1 : Nat) (Option.some Jvm.ClassFile.FieldType.int)) ∈ lw_all := lw_g (lw_at lw_m17 113 rfl) rfl
theorem q4056 : (Jvm.Cond.methodLink "AnnealingLehrModel" (94 : Nat) ({ cls := "AnnealingLehrModel", name := "soft", desc := "(I)I" } : Jvm.MethodName)) ∈ lw_all := lw_g (lw_at lw_m17 114 rfl) rfl
theorem q4057 : (Jvm.Cond.static ({ cls := "AnnealingLehrModel", name := "soft", desc := "(I)I" } : Jvm.MethodName)) ∈ lw_all := lw_g (lw_at lw_m17 115 rfl) rfl
theorem q4058 : (Jvm.Cond.code ({ cls := "AnnealingLehrModel", name := "soft", desc := "(I)I" } : Jvm.MethodName) prog_22_method_19_code (1 : Nat) (Option.some Jvm.ClassFile.FieldType.int)) ∈ lw_all := lw_g (lw_at lw_m17 116 rfl) rfl
theorem q4059 : (Jvm.Cond.methodLink "AnnealingLehrModel" (132 : Nat) ({ cls := "AnnealingLehrModel", name := "breaks", desc := "()I" } : Jvm.MethodName)) ∈ lw_all := lw_g (lw_at lw_m17 117 rfl) rfl
theorem q4060 : (Jvm.Cond.privateMethod ({ cls := "AnnealingLehrModel", name := "breaks", desc := "()I" } : Jvm.MethodName)) ∈ lw_tbl := lw_at lw_m17 118 rfl
theorem q4061 : (Jvm.Cond.instanceMethod ({ cls := "AnnealingLehrModel", name := "breaks", desc := "()I" } : Jvm.MethodName)) ∈ lw_all := lw_g (lw_at lw_m17 119 rfl) rfl
theorem q4062 : (Jvm.Cond.code ({ cls := "AnnealingLehrModel", name := "breaks", desc := "()I" } : Jvm.MethodName) prog_22_method_29_code (3 : Nat) (Option.some Jvm.ClassFile.FieldType.int)) ∈ lw_all := lw_g (lw_at lw_m17 120 rfl) rfl
theorem q4063 : (Jvm.Cond.methodLink "AnnealingLehrModel" (97 : Nat) ({ cls := "AnnealingLehrModel", name := "limit", desc := "(I)I" } : Jvm.MethodName)) ∈ lw_all := lw_g (lw_at lw_m17 121 rfl) rfl
theorem q4064 : (Jvm.Cond.static ({ cls := "AnnealingLehrModel", name := "limit", desc := "(I)I" } : Jvm.MethodName)) ∈ lw_all := lw_g (lw_at lw_m17 122 rfl) rfl
theorem q4065 : (Jvm.Cond.code ({ cls := "AnnealingLehrModel", name := "limit", desc := "(I)I" } : Jvm.MethodName) prog_22_method_20_code (1 : Nat) (Option.some Jvm.ClassFile.FieldType.int)) ∈ lw_all := lw_g (lw_at lw_m17 123 rfl) rfl
theorem q4066 : (Jvm.Cond.methodLink "AnnealingLehrModel" (100 : Nat) ({ cls := "AnnealingLehrModel", name := "ends", desc := "(II)V" } : Jvm.MethodName)) ∈ lw_all := lw_g (lw_at lw_m17 124 rfl) rfl
theorem q4067 : (Jvm.Cond.privateMethod ({ cls := "AnnealingLehrModel", name := "ends", desc := "(II)V" } : Jvm.MethodName)) ∈ lw_tbl := lw_at lw_m17 125 rfl
theorem q4068 : (Jvm.Cond.instanceMethod ({ cls := "AnnealingLehrModel", name := "ends", desc := "(II)V" } : Jvm.MethodName)) ∈ lw_all := lw_g (lw_at lw_m17 126 rfl) rfl
theorem q4069 : (Jvm.Cond.code ({ cls := "AnnealingLehrModel", name := "ends", desc := "(II)V" } : Jvm.MethodName) prog_22_method_28_code (4 : Nat) (Option.none : Option Jvm.ClassFile.FieldType)) ∈ lw_all := lw_g (lw_at lw_m17 127 rfl) rfl
theorem q4070 : (Jvm.Cond.methodLink "AnnealingLehrModel" (139 : Nat) ({ cls := "AnnealingLehrModel", name := "moves", desc := "()I" } : Jvm.MethodName)) ∈ lw_all := lw_g (lw_at lw_m17 128 rfl) rfl
theorem q4071 : (Jvm.Cond.privateMethod ({ cls := "AnnealingLehrModel", name := "moves", desc := "()I" } : Jvm.MethodName)) ∈ lw_tbl := lw_at lw_m17 129 rfl
theorem q4072 : (Jvm.Cond.instanceMethod ({ cls := "AnnealingLehrModel", name := "moves", desc := "()I" } : Jvm.MethodName)) ∈ lw_all := lw_g (lw_at lw_m17 130 rfl) rfl
theorem q4073 : (Jvm.Cond.code ({ cls := "AnnealingLehrModel", name := "moves", desc := "()I" } : Jvm.MethodName) prog_22_method_33_code (6 : Nat) (Option.some Jvm.ClassFile.FieldType.int)) ∈ lw_all := lw_g (lw_at lw_m17 131 rfl) rfl
theorem q4074 : (Jvm.Cond.methodLink "AnnealingLehrModel" (117 : Nat) ({ cls := "AnnealingLehrModel", name := "comesOut", desc := "()V" } : Jvm.MethodName)) ∈ lw_all := lw_g (lw_at lw_m17 132 rfl) rfl
theorem q4075 : (Jvm.Cond.privateMethod ({ cls := "AnnealingLehrModel", name := "comesOut", desc := "()V" } : Jvm.MethodName)) ∈ lw_tbl := lw_at lw_m17 133 rfl
theorem q4076 : (Jvm.Cond.instanceMethod ({ cls := "AnnealingLehrModel", name := "comesOut", desc := "()V" } : Jvm.MethodName)) ∈ lw_all := lw_g (lw_at lw_m17 134 rfl) rfl
theorem q4077 : (Jvm.Cond.code ({ cls := "AnnealingLehrModel", name := "comesOut", desc := "()V" } : Jvm.MethodName) prog_22_method_32_code (4 : Nat) (Option.none : Option Jvm.ClassFile.FieldType)) ∈ lw_all := lw_g (lw_at lw_m17 135 rfl) rfl
theorem q4078 : (Jvm.Cond.methodLink "AnnealingLehrModel" (113 : Nat) ({ cls := "AnnealingLehrModel", name := "good", desc := "(I)V" } : Jvm.MethodName)) ∈ lw_all := lw_g (lw_at lw_m17 136 rfl) rfl
theorem q4079 : (Jvm.Cond.privateMethod ({ cls := "AnnealingLehrModel", name := "good", desc := "(I)V" } : Jvm.MethodName)) ∈ lw_tbl := lw_at lw_m17 137 rfl
theorem q4080 : (Jvm.Cond.instanceMethod ({ cls := "AnnealingLehrModel", name := "good", desc := "(I)V" } : Jvm.MethodName)) ∈ lw_all := lw_g (lw_at lw_m17 138 rfl) rfl
theorem q4081 : (Jvm.Cond.code ({ cls := "AnnealingLehrModel", name := "good", desc := "(I)V" } : Jvm.MethodName) prog_22_method_31_code (5 : Nat) (Option.none : Option Jvm.ClassFile.FieldType)) ∈ lw_all := lw_g (lw_at lw_m17 139 rfl) rfl
theorem q4082 : (Jvm.Cond.methodLink "AnnealingLehrModel" (120 : Nat) ({ cls := "AnnealingLehrModel", name := "isFree", desc := "(I)Z" } : Jvm.MethodName)) ∈ lw_all := lw_g (lw_at lw_m17 140 rfl) rfl
theorem q4083 : (Jvm.Cond.privateMethod ({ cls := "AnnealingLehrModel", name := "isFree", desc := "(I)Z" } : Jvm.MethodName)) ∈ lw_tbl := lw_at lw_m17 141 rfl
theorem q4084 : (Jvm.Cond.instanceMethod ({ cls := "AnnealingLehrModel", name := "isFree", desc := "(I)Z" } : Jvm.MethodName)) ∈ lw_all := lw_g (lw_at lw_m17 142 rfl) rfl
theorem q4085 : (Jvm.Cond.code ({ cls := "AnnealingLehrModel", name := "isFree", desc := "(I)Z" } : Jvm.MethodName) prog_22_method_13_code (2 : Nat) (Option.some Jvm.ClassFile.FieldType.boolean)) ∈ lw_all := lw_g (lw_at lw_m17 143 rfl) rfl
theorem q4086 : (Jvm.Cond.methodLink "AnnealingLehrModel" (142 : Nat) ({ cls := "AnnealingLehrModel", name := "cleans", desc := "()V" } : Jvm.MethodName)) ∈ lw_all := lw_g (lw_at lw_m17 144 rfl) rfl
theorem q4087 : (Jvm.Cond.privateMethod ({ cls := "AnnealingLehrModel", name := "cleans", desc := "()V" } : Jvm.MethodName)) ∈ lw_tbl := lw_at lw_m17 145 rfl
theorem q4088 : (Jvm.Cond.instanceMethod ({ cls := "AnnealingLehrModel", name := "cleans", desc := "()V" } : Jvm.MethodName)) ∈ lw_all := lw_g (lw_at lw_m17 146 rfl) rfl
theorem q4089 : (Jvm.Cond.code ({ cls := "AnnealingLehrModel", name := "cleans", desc := "()V" } : Jvm.MethodName) prog_22_method_34_code (3 : Nat) (Option.none : Option Jvm.ClassFile.FieldType)) ∈ lw_all := lw_g (lw_at lw_m17 147 rfl) rfl
theorem q4091 : (Jvm.Cond.instanceMethod ({ cls := "AnnealingLehrModel", name := "time", desc := "()I" } : Jvm.MethodName)) ∈ lw_all := lw_g (lw_at lw_m17 149 rfl) rfl
theorem q4092 : (Jvm.Cond.selects "AnnealingLehrModel" ({ cls := "AnnealingLehrModel", name := "time", desc := "()I" } : Jvm.MethodName) ({ cls := "AnnealingLehrModel", name := "time", desc := "()I" } : Jvm.MethodName)) ∈ lw_all := lw_g (lw_at lw_m17 150 rfl) rfl
theorem q4093 : (Jvm.Cond.code ({ cls := "AnnealingLehrModel", name := "time", desc := "()I" } : Jvm.MethodName) prog_22_method_58_code (1 : Nat) (Option.some Jvm.ClassFile.FieldType.int)) ∈ lw_all := lw_g (lw_at lw_m17 151 rfl) rfl
theorem q4095 : (Jvm.Cond.instanceMethod ({ cls := "AnnealingLehrModel", name := "burnerOf", desc := "(I)I" } : Jvm.MethodName)) ∈ lw_all := lw_g (lw_at lw_m17 153 rfl) rfl
theorem q4096 : (Jvm.Cond.selects "AnnealingLehrModel" ({ cls := "AnnealingLehrModel", name := "burnerOf", desc := "(I)I" } : Jvm.MethodName) ({ cls := "AnnealingLehrModel", name := "burnerOf", desc := "(I)I" } : Jvm.MethodName)) ∈ lw_all := lw_g (lw_at lw_m17 154 rfl) rfl
theorem q4097 : (Jvm.Cond.code ({ cls := "AnnealingLehrModel", name := "burnerOf", desc := "(I)I" } : Jvm.MethodName) prog_22_method_59_code (2 : Nat) (Option.some Jvm.ClassFile.FieldType.int)) ∈ lw_all := lw_g (lw_at lw_m17 155 rfl) rfl
theorem q4099 : (Jvm.Cond.instanceMethod ({ cls := "AnnealingLehrModel", name := "burningOf", desc := "(I)I" } : Jvm.MethodName)) ∈ lw_all := lw_g (lw_at lw_m17 157 rfl) rfl
theorem q4100 : (Jvm.Cond.selects "AnnealingLehrModel" ({ cls := "AnnealingLehrModel", name := "burningOf", desc := "(I)I" } : Jvm.MethodName) ({ cls := "AnnealingLehrModel", name := "burningOf", desc := "(I)I" } : Jvm.MethodName)) ∈ lw_all := lw_g (lw_at lw_m17 158 rfl) rfl
theorem q4101 : (Jvm.Cond.code ({ cls := "AnnealingLehrModel", name := "burningOf", desc := "(I)I" } : Jvm.MethodName) prog_22_method_60_code (2 : Nat) (Option.some Jvm.ClassFile.FieldType.int)) ∈ lw_all := lw_g (lw_at lw_m17 159 rfl) rfl
theorem q4103 : (Jvm.Cond.instanceMethod ({ cls := "AnnealingLehrModel", name := "fanOf", desc := "(I)I" } : Jvm.MethodName)) ∈ lw_all := lw_g (lw_at lw_m17 161 rfl) rfl
theorem q4104 : (Jvm.Cond.selects "AnnealingLehrModel" ({ cls := "AnnealingLehrModel", name := "fanOf", desc := "(I)I" } : Jvm.MethodName) ({ cls := "AnnealingLehrModel", name := "fanOf", desc := "(I)I" } : Jvm.MethodName)) ∈ lw_all := lw_g (lw_at lw_m17 162 rfl) rfl
theorem q4105 : (Jvm.Cond.code ({ cls := "AnnealingLehrModel", name := "fanOf", desc := "(I)I" } : Jvm.MethodName) prog_22_method_61_code (2 : Nat) (Option.some Jvm.ClassFile.FieldType.int)) ∈ lw_all := lw_g (lw_at lw_m17 163 rfl) rfl
theorem q4107 : (Jvm.Cond.instanceMethod ({ cls := "AnnealingLehrModel", name := "rollersOf", desc := "(I)I" } : Jvm.MethodName)) ∈ lw_all := lw_g (lw_at lw_m17 165 rfl) rfl
theorem q4108 : (Jvm.Cond.selects "AnnealingLehrModel" ({ cls := "AnnealingLehrModel", name := "rollersOf", desc := "(I)I" } : Jvm.MethodName) ({ cls := "AnnealingLehrModel", name := "rollersOf", desc := "(I)I" } : Jvm.MethodName)) ∈ lw_all := lw_g (lw_at lw_m17 166 rfl) rfl
theorem q4109 : (Jvm.Cond.code ({ cls := "AnnealingLehrModel", name := "rollersOf", desc := "(I)I" } : Jvm.MethodName) prog_22_method_62_code (2 : Nat) (Option.some Jvm.ClassFile.FieldType.int)) ∈ lw_all := lw_g (lw_at lw_m17 167 rfl) rfl
theorem q4111 : (Jvm.Cond.instanceMethod ({ cls := "AnnealingLehrModel", name := "temperatureOf", desc := "(I)I" } : Jvm.MethodName)) ∈ lw_all := lw_g (lw_at lw_m17 169 rfl) rfl
theorem q4112 : (Jvm.Cond.selects "AnnealingLehrModel" ({ cls := "AnnealingLehrModel", name := "temperatureOf", desc := "(I)I" } : Jvm.MethodName) ({ cls := "AnnealingLehrModel", name := "temperatureOf", desc := "(I)I" } : Jvm.MethodName)) ∈ lw_all := lw_g (lw_at lw_m17 170 rfl) rfl
theorem q4113 : (Jvm.Cond.code ({ cls := "AnnealingLehrModel", name := "temperatureOf", desc := "(I)I" } : Jvm.MethodName) prog_22_method_63_code (2 : Nat) (Option.some Jvm.ClassFile.FieldType.int)) ∈ lw_all := lw_g (lw_at lw_m17 171 rfl) rfl
theorem q4115 : (Jvm.Cond.instanceMethod ({ cls := "AnnealingLehrModel", name := "gasByZones", desc := "()I" } : Jvm.MethodName)) ∈ lw_all := lw_g (lw_at lw_m17 173 rfl) rfl
theorem q4116 : (Jvm.Cond.selects "AnnealingLehrModel" ({ cls := "AnnealingLehrModel", name := "gasByZones", desc := "()I" } : Jvm.MethodName) ({ cls := "AnnealingLehrModel", name := "gasByZones", desc := "()I" } : Jvm.MethodName)) ∈ lw_all := lw_g (lw_at lw_m17 174 rfl) rfl
theorem q4117 : (Jvm.Cond.code ({ cls := "AnnealingLehrModel", name := "gasByZones", desc := "()I" } : Jvm.MethodName) prog_22_method_64_code (3 : Nat) (Option.some Jvm.ClassFile.FieldType.int)) ∈ lw_all := lw_g (lw_at lw_m17 175 rfl) rfl
theorem q4119 : (Jvm.Cond.instanceMethod ({ cls := "AnnealingLehrModel", name := "gasByMinutes", desc := "()I" } : Jvm.MethodName)) ∈ lw_all := lw_g (lw_at lw_m17 177 rfl) rfl
theorem q4120 : (Jvm.Cond.selects "AnnealingLehrModel" ({ cls := "AnnealingLehrModel", name := "gasByMinutes", desc := "()I" } : Jvm.MethodName) ({ cls := "AnnealingLehrModel", name := "gasByMinutes", desc := "()I" } : Jvm.MethodName)) ∈ lw_all := lw_g (lw_at lw_m17 178 rfl) rfl
theorem q4121 : (Jvm.Cond.code ({ cls := "AnnealingLehrModel", name := "gasByMinutes", desc := "()I" } : Jvm.MethodName) prog_22_method_65_code (1 : Nat) (Option.some Jvm.ClassFile.FieldType.int)) ∈ lw_all := lw_g (lw_at lw_m17 179 rfl) rfl
theorem q4123 : (Jvm.Cond.instanceMethod ({ cls := "AnnealingLehrModel", name := "plans", desc := "()I" } : Jvm.MethodName)) ∈ lw_all := lw_g (lw_at lw_m17 181 rfl) rfl
theorem q4124 : (Jvm.Cond.selects "AnnealingLehrModel" ({ cls := "AnnealingLehrModel", name := "plans", desc := "()I" } : Jvm.MethodName) ({ cls := "AnnealingLehrModel", name := "plans", desc := "()I" } : Jvm.MethodName)) ∈ lw_all := lw_g (lw_at lw_m17 182 rfl) rfl
theorem q4125 : (Jvm.Cond.code ({ cls := "AnnealingLehrModel", name := "plans", desc := "()I" } : Jvm.MethodName) prog_22_method_66_code (1 : Nat) (Option.some Jvm.ClassFile.FieldType.int)) ∈ lw_all := lw_g (lw_at lw_m17 183 rfl) rfl
theorem q4127 : (Jvm.Cond.instanceMethod ({ cls := "AnnealingLehrModel", name := "plannedFor", desc := "(II)I" } : Jvm.MethodName)) ∈ lw_all := lw_g (lw_at lw_m17 185 rfl) rfl
theorem q4128 : (Jvm.Cond.selects "AnnealingLehrModel" ({ cls := "AnnealingLehrModel", name := "plannedFor", desc := "(II)I" } : Jvm.MethodName) ({ cls := "AnnealingLehrModel", name := "plannedFor", desc := "(II)I" } : Jvm.MethodName)) ∈ lw_all := lw_g (lw_at lw_m17 186 rfl) rfl
theorem q4129 : (Jvm.Cond.code ({ cls := "AnnealingLehrModel", name := "plannedFor", desc := "(II)I" } : Jvm.MethodName) prog_22_method_67_code (4 : Nat) (Option.some Jvm.ClassFile.FieldType.int)) ∈ lw_all := lw_g (lw_at lw_m17 187 rfl) rfl
theorem q4131 : (Jvm.Cond.instanceMethod ({ cls := "AnnealingLehrModel", name := "lotAt", desc := "(I)I" } : Jvm.MethodName)) ∈ lw_all := lw_g (lw_at lw_m17 189 rfl) rfl
theorem q4132 : (Jvm.Cond.selects "AnnealingLehrModel" ({ cls := "AnnealingLehrModel", name := "lotAt", desc := "(I)I" } : Jvm.MethodName) ({ cls := "AnnealingLehrModel", name := "lotAt", desc := "(I)I" } : Jvm.MethodName)) ∈ lw_all := lw_g (lw_at lw_m17 190 rfl) rfl
theorem q4133 : (Jvm.Cond.code ({ cls := "AnnealingLehrModel", name := "lotAt", desc := "(I)I" } : Jvm.MethodName) prog_22_method_70_code (2 : Nat) (Option.some Jvm.ClassFile.FieldType.int)) ∈ lw_all := lw_g (lw_at lw_m17 191 rfl) rfl
theorem q4134 : (Jvm.Cond.methodLink "AnnealingLehrModel" (197 : Nat) ({ cls := "AnnealingLehrModel", name := "isPlace", desc := "(I)Z" } : Jvm.MethodName)) ∈ lw_all := lw_g (lw_at lw_m17 192 rfl) rfl
theorem q4135 : (Jvm.Cond.privateMethod ({ cls := "AnnealingLehrModel", name := "isPlace", desc := "(I)Z" } : Jvm.MethodName)) ∈ lw_tbl := lw_at lw_m17 193 rfl
theorem q4136 : (Jvm.Cond.instanceMethod ({ cls := "AnnealingLehrModel", name := "isPlace", desc := "(I)Z" } : Jvm.MethodName)) ∈ lw_all := lw_g (lw_at lw_m17 194 rfl) rfl
theorem q4137 : (Jvm.Cond.code ({ cls := "AnnealingLehrModel", name := "isPlace", desc := "(I)Z" } : Jvm.MethodName) prog_22_method_68_code (2 : Nat) (Option.some Jvm.ClassFile.FieldType.boolean)) ∈ lw_all := lw_g (lw_at lw_m17 195 rfl) rfl
theorem q4139 : (Jvm.Cond.instanceMethod ({ cls := "AnnealingLehrModel", name := "numberAt", desc := "(I)I" } : Jvm.MethodName)) ∈ lw_all := lw_g (lw_at lw_m17 197 rfl) rfl
theorem q4140 : (Jvm.Cond.selects "AnnealingLehrModel" ({ cls := "AnnealingLehrModel", name := "numberAt", desc := "(I)I" } : Jvm.MethodName) ({ cls := "AnnealingLehrModel", name := "numberAt", desc := "(I)I" } : Jvm.MethodName)) ∈ lw_all := lw_g (lw_at lw_m17 198 rfl) rfl
theorem q4141 : (Jvm.Cond.code ({ cls := "AnnealingLehrModel", name := "numberAt", desc := "(I)I" } : Jvm.MethodName) prog_22_method_71_code (2 : Nat) (Option.some Jvm.ClassFile.FieldType.int)) ∈ lw_all := lw_g (lw_at lw_m17 199 rfl) rfl
theorem q4143 : (Jvm.Cond.instanceMethod ({ cls := "AnnealingLehrModel", name := "warmthAt", desc := "(I)I" } : Jvm.MethodName)) ∈ lw_all := lw_g (lw_at lw_m17 201 rfl) rfl
theorem q4144 : (Jvm.Cond.selects "AnnealingLehrModel" ({ cls := "AnnealingLehrModel", name := "warmthAt", desc := "(I)I" } : Jvm.MethodName) ({ cls := "AnnealingLehrModel", name := "warmthAt", desc := "(I)I" } : Jvm.MethodName)) ∈ lw_all := lw_g (lw_at lw_m17 202 rfl) rfl
theorem q4145 : (Jvm.Cond.code ({ cls := "AnnealingLehrModel", name := "warmthAt", desc := "(I)I" } : Jvm.MethodName) prog_22_method_72_code (2 : Nat) (Option.some Jvm.ClassFile.FieldType.int)) ∈ lw_all := lw_g (lw_at lw_m17 203 rfl) rfl
theorem q4146 : (Jvm.Cond.methodLink "AnnealingLehrModel" (200 : Nat) ({ cls := "AnnealingLehrModel", name := "hasPiece", desc := "(I)Z" } : Jvm.MethodName)) ∈ lw_all := lw_g (lw_at lw_m17 204 rfl) rfl
theorem q4147 : (Jvm.Cond.privateMethod ({ cls := "AnnealingLehrModel", name := "hasPiece", desc := "(I)Z" } : Jvm.MethodName)) ∈ lw_tbl := lw_at lw_m17 205 rfl
theorem q4148 : (Jvm.Cond.instanceMethod ({ cls := "AnnealingLehrModel", name := "hasPiece", desc := "(I)Z" } : Jvm.MethodName)) ∈ lw_all := lw_g (lw_at lw_m17 206 rfl) rfl
theorem q4149 : (Jvm.Cond.code ({ cls := "AnnealingLehrModel", name := "hasPiece", desc := "(I)Z" } : Jvm.MethodName) prog_22_method_69_code (2 : Nat) (Option.some Jvm.ClassFile.FieldType.boolean)) ∈ lw_all := lw_g (lw_at lw_m17 207 rfl) rfl
theorem q4151 : (Jvm.Cond.instanceMethod ({ cls := "AnnealingLehrModel", name := "stressAt", desc := "(I)F" } : Jvm.MethodName)) ∈ lw_all := lw_g (lw_at lw_m17 209 rfl) rfl
theorem q4152 : (Jvm.Cond.selects "AnnealingLehrModel" ({ cls := "AnnealingLehrModel", name := "stressAt", desc := "(I)F" } : Jvm.MethodName) ({ cls := "AnnealingLehrModel", name := "stressAt", desc := "(I)F" } : Jvm.MethodName)) ∈ lw_all := lw_g (lw_at lw_m17 210 rfl) rfl
theorem q4153 : (Jvm.Cond.code ({ cls := "AnnealingLehrModel", name := "stressAt", desc := "(I)F" } : Jvm.MethodName) prog_22_method_73_code (2 : Nat) (Option.some Jvm.ClassFile.FieldType.float)) ∈ lw_all := lw_g (lw_at lw_m17 211 rfl) rfl
theorem q4155 : (Jvm.Cond.instanceMethod ({ cls := "AnnealingLehrModel", name := "stressBitsAt", desc := "(I)I" } : Jvm.MethodName)) ∈ lw_all := lw_g (lw_at lw_m17 213 rfl) rfl
theorem q4156 : (Jvm.Cond.selects "AnnealingLehrModel" ({ cls := "AnnealingLehrModel", name := "stressBitsAt", desc := "(I)I" } : Jvm.MethodName) ({ cls := "AnnealingLehrModel", name := "stressBitsAt", desc := "(I)I" } : Jvm.MethodName)) ∈ lw_all := lw_g (lw_at lw_m17 214 rfl) rfl
theorem q4157 : (Jvm.Cond.code ({ cls := "AnnealingLehrModel", name := "stressBitsAt", desc := "(I)I" } : Jvm.MethodName) prog_22_method_74_code (2 : Nat) (Option.some Jvm.ClassFile.FieldType.int)) ∈ lw_all := lw_g (lw_at lw_m17 215 rfl) rfl
theorem q4158 : (Jvm.Cond.methodLink "AnnealingLehrModel" (203 : Nat) ({ cls := "AnnealingLehrModel", name := "bitsOf", desc := "(F)I" } : Jvm.MethodName)) ∈ lw_all := lw_g (lw_at lw_m17 216 rfl) rfl
theorem q4159 : (Jvm.Cond.static ({ cls := "AnnealingLehrModel", name := "bitsOf", desc := "(F)I" } : Jvm.MethodName)) ∈ lw_all := lw_g (lw_at lw_m17 217 rfl) rfl
theorem q4160 : (Jvm.Cond.code ({ cls := "AnnealingLehrModel", name := "bitsOf", desc := "(F)I" } : Jvm.MethodName) prog_22_method_77_code (10 : Nat) (Option.some Jvm.ClassFile.FieldType.int)) ∈ lw_all := lw_g (lw_at lw_m17 218 rfl) rfl
theorem q4161 : (Jvm.Cond.constantDouble "AnnealingLehrModel" (207 : Nat) (4611686018427387904 : UInt64)) ∈ lw_all := lw_g (lw_at lw_m17 219 rfl) rfl
theorem q4163 : (Jvm.Cond.instanceMethod ({ cls := "AnnealingLehrModel", name := "minutesAt", desc := "(I)I" } : Jvm.MethodName)) ∈ lw_all := lw_g (lw_at lw_m17 221 rfl) rfl
theorem q4164 : (Jvm.Cond.selects "AnnealingLehrModel" ({ cls := "AnnealingLehrModel", name := "minutesAt", desc := "(I)I" } : Jvm.MethodName) ({ cls := "AnnealingLehrModel", name := "minutesAt", desc := "(I)I" } : Jvm.MethodName)) ∈ lw_all := lw_g (lw_at lw_m17 222 rfl) rfl
theorem q4165 : (Jvm.Cond.code ({ cls := "AnnealingLehrModel", name := "minutesAt", desc := "(I)I" } : Jvm.MethodName) prog_22_method_75_code (2 : Nat) (Option.some Jvm.ClassFile.FieldType.int)) ∈ lw_all := lw_g (lw_at lw_m17 223 rfl) rfl
theorem q4167 : (Jvm.Cond.instanceMethod ({ cls := "AnnealingLehrModel", name := "hasShards", desc := "(I)Z" } : Jvm.MethodName)) ∈ lw_all := lw_g (lw_at lw_m17 225 rfl) rfl
theorem q4168 : (Jvm.Cond.selects "AnnealingLehrModel" ({ cls := "AnnealingLehrModel", name := "hasShards", desc := "(I)Z" } : Jvm.MethodName) ({ cls := "AnnealingLehrModel", name := "hasShards", desc := "(I)Z" } : Jvm.MethodName)) ∈ lw_all := lw_g (lw_at lw_m17 226 rfl) rfl
theorem q4169 : (Jvm.Cond.code ({ cls := "AnnealingLehrModel", name := "hasShards", desc := "(I)Z" } : Jvm.MethodName) prog_22_method_76_code (2 : Nat) (Option.some Jvm.ClassFile.FieldType.boolean)) ∈ lw_all := lw_g (lw_at lw_m17 227 rfl) rfl
theorem q4171 : (Jvm.Cond.instanceMethod ({ cls := "AnnealingLehrModel", name := "whyNotMoving", desc := "(I)I" } : Jvm.MethodName)) ∈ lw_all := lw_g (lw_at lw_m17 229 rfl) rfl
theorem q4172 : (Jvm.Cond.selects "AnnealingLehrModel" ({ cls := "AnnealingLehrModel", name := "whyNotMoving", desc := "(I)I" } : Jvm.MethodName) ({ cls := "AnnealingLehrModel", name := "whyNotMoving", desc := "(I)I" } : Jvm.MethodName)) ∈ lw_all := lw_g (lw_at lw_m17 230 rfl) rfl
theorem q4173 : (Jvm.Cond.code ({ cls := "AnnealingLehrModel", name := "whyNotMoving", desc := "(I)I" } : Jvm.MethodName) prog_22_method_79_code (2 : Nat) (Option.some Jvm.ClassFile.FieldType.int)) ∈ lw_all := lw_g (lw_at lw_m17 231 rfl) rfl
theorem q4174 : (Jvm.Cond.methodLink "AnnealingLehrModel" (209 : Nat) ({ cls := "AnnealingLehrModel", name := "asksWhy", desc := "()V" } : Jvm.MethodName)) ∈ lw_all := lw_g (lw_at lw_m17 232 rfl) rfl
theorem q4175 : (Jvm.Cond.privateMethod ({ cls := "AnnealingLehrModel", name := "asksWhy", desc := "()V" } : Jvm.MethodName)) ∈ lw_tbl := lw_at lw_m17 233 rfl
theorem q4176 : (Jvm.Cond.instanceMethod ({ cls := "AnnealingLehrModel", name := "asksWhy", desc := "()V" } : Jvm.MethodName)) ∈ lw_all := lw_g (lw_at lw_m17 234 rfl) rfl
theorem q4177 : (Jvm.Cond.code ({ cls := "AnnealingLehrModel", name := "asksWhy", desc := "()V" } : Jvm.MethodName) prog_22_method_78_code (5 : Nat) (Option.none : Option Jvm.ClassFile.FieldType)) ∈ lw_all := lw_g (lw_at lw_m17 235 rfl) rfl
theorem q4179 : (Jvm.Cond.instanceMethod ({ cls := "AnnealingLehrModel", name := "heldUpBy", desc := "(I)I" } : Jvm.MethodName)) ∈ lw_all := lw_g (lw_at lw_m17 237 rfl) rfl
theorem q4180 : (Jvm.Cond.selects "AnnealingLehrModel" ({ cls := "AnnealingLehrModel", name := "heldUpBy", desc := "(I)I" } : Jvm.MethodName) ({ cls := "AnnealingLehrModel", name := "heldUpBy", desc := "(I)I" } : Jvm.MethodName)) ∈ lw_all := lw_g (lw_at lw_m17 238 rfl) rfl
theorem q4181 : (Jvm.Cond.code ({ cls := "AnnealingLehrModel", name := "heldUpBy", desc := "(I)I" } : Jvm.MethodName) prog_22_method_80_code (3 : Nat) (Option.some Jvm.ClassFile.FieldType.int)) ∈ lw_all := lw_g (lw_at lw_m17 239 rfl) rfl
theorem q4183 : (Jvm.Cond.instanceMethod ({ cls := "AnnealingLehrModel", name := "cleanerAt", desc := "(I)I" } : Jvm.MethodName)) ∈ lw_all := lw_g (lw_at lw_m18 1 rfl) rfl
theorem q4184 : (Jvm.Cond.selects "AnnealingLehrModel" ({ cls := "AnnealingLehrModel", name := "cleanerAt", desc := "(I)I" } : Jvm.MethodName) ({ cls := "AnnealingLehrModel", name := "cleanerAt", desc := "(I)I" } : Jvm.MethodName)) ∈ lw_all := lw_g (lw_at lw_m18 2 rfl) rfl
theorem q4185 : (Jvm.Cond.code ({ cls := "AnnealingLehrModel", name := "cleanerAt", desc := "(I)I" } : Jvm.MethodName) prog_22_method_81_code (2 : Nat) (Option.some Jvm.ClassFile.FieldType.int)) ∈ lw_all := lw_g (lw_at lw_m18 3 rfl) rfl
theorem q4187 : (Jvm.Cond.instanceMethod ({ cls := "AnnealingLehrModel", name := "busyFor", desc := "(I)I" } : Jvm.MethodName)) ∈ lw_all := lw_g (lw_at lw_m18 5 rfl) rfl
theorem q4188 : (Jvm.Cond.selects "AnnealingLehrModel" ({ cls := "AnnealingLehrModel", name := "busyFor", desc := "(I)I" } : Jvm.MethodName) ({ cls := "AnnealingLehrModel", name := "busyFor", desc := "(I)I" } : Jvm.MethodName)) ∈ lw_all := lw_g (lw_at lw_m18 6 rfl) rfl
theorem q4189 : (Jvm.Cond.code ({ cls := "AnnealingLehrModel", name := "busyFor", desc := "(I)I" } : Jvm.MethodName) prog_22_method_82_code (2 : Nat) (Option.some Jvm.ClassFile.FieldType.int)) ∈ lw_all := lw_g (lw_at lw_m18 7 rfl) rfl
theorem q4191 : (Jvm.Cond.instanceMethod ({ cls := "AnnealingLehrModel", name := "whyNotCleaning", desc := "(II)I" } : Jvm.MethodName)) ∈ lw_all := lw_g (lw_at lw_m18 9 rfl) rfl
theorem q4192 : (Jvm.Cond.selects "AnnealingLehrModel" ({ cls := "AnnealingLehrModel", name := "whyNotCleaning", desc := "(II)I" } : Jvm.MethodName) ({ cls := "AnnealingLehrModel", name := "whyNotCleaning", desc := "(II)I" } : Jvm.MethodName)) ∈ lw_all := lw_g (lw_at lw_m18 10 rfl) rfl
theorem q4193 : (Jvm.Cond.code ({ cls := "AnnealingLehrModel", name := "whyNotCleaning", desc := "(II)I" } : Jvm.MethodName) prog_22_method_83_code (3 : Nat) (Option.some Jvm.ClassFile.FieldType.int)) ∈ lw_all := lw_g (lw_at lw_m18 11 rfl) rfl
theorem q4195 : (Jvm.Cond.instanceMethod ({ cls := "AnnealingLehrModel", name := "lots", desc := "()I" } : Jvm.MethodName)) ∈ lw_all := lw_g (lw_at lw_m18 13 rfl) rfl
theorem q4196 : (Jvm.Cond.selects "AnnealingLehrModel" ({ cls := "AnnealingLehrModel", name := "lots", desc := "()I" } : Jvm.MethodName) ({ cls := "AnnealingLehrModel", name := "lots", desc := "()I" } : Jvm.MethodName)) ∈ lw_all := lw_g (lw_at lw_m18 14 rfl) rfl
theorem q4197 : (Jvm.Cond.code ({ cls := "AnnealingLehrModel", name := "lots", desc := "()I" } : Jvm.MethodName) prog_22_method_84_code (1 : Nat) (Option.some Jvm.ClassFile.FieldType.int)) ∈ lw_all := lw_g (lw_at lw_m18 15 rfl) rfl
theorem q4199 : (Jvm.Cond.instanceMethod ({ cls := "AnnealingLehrModel", name := "kindOf", desc := "(I)I" } : Jvm.MethodName)) ∈ lw_all := lw_g (lw_at lw_m18 17 rfl) rfl
theorem q4200 : (Jvm.Cond.selects "AnnealingLehrModel" ({ cls := "AnnealingLehrModel", name := "kindOf", desc := "(I)I" } : Jvm.MethodName) ({ cls := "AnnealingLehrModel", name := "kindOf", desc := "(I)I" } : Jvm.MethodName)) ∈ lw_all := lw_g (lw_at lw_m18 18 rfl) rfl
theorem q4201 : (Jvm.Cond.code ({ cls := "AnnealingLehrModel", name := "kindOf", desc := "(I)I" } : Jvm.MethodName) prog_22_method_85_code (2 : Nat) (Option.some Jvm.ClassFile.FieldType.int)) ∈ lw_all := lw_g (lw_at lw_m18 19 rfl) rfl
theorem q4203 : (Jvm.Cond.instanceMethod ({ cls := "AnnealingLehrModel", name := "wallOf", desc := "(I)I" } : Jvm.MethodName)) ∈ lw_all := lw_g (lw_at lw_m18 21 rfl) rfl
theorem q4204 : (Jvm.Cond.selects "AnnealingLehrModel" ({ cls := "AnnealingLehrModel", name := "wallOf", desc := "(I)I" } : Jvm.MethodName) ({ cls := "AnnealingLehrModel", name := "wallOf", desc := "(I)I" } : Jvm.MethodName)) ∈ lw_all := lw_g (lw_at lw_m18 22 rfl) rfl
theorem q4205 : (Jvm.Cond.code ({ cls := "AnnealingLehrModel", name := "wallOf", desc := "(I)I" } : Jvm.MethodName) prog_22_method_86_code (2 : Nat) (Option.some Jvm.ClassFile.FieldType.int)) ∈ lw_all := lw_g (lw_at lw_m18 23 rfl) rfl
theorem q4207 : (Jvm.Cond.instanceMethod ({ cls := "AnnealingLehrModel", name := "piecesOf", desc := "(II)I" } : Jvm.MethodName)) ∈ lw_all := lw_g (lw_at lw_m18 25 rfl) rfl
theorem q4208 : (Jvm.Cond.selects "AnnealingLehrModel" ({ cls := "AnnealingLehrModel", name := "piecesOf", desc := "(II)I" } : Jvm.MethodName) ({ cls := "AnnealingLehrModel", name := "piecesOf", desc := "(II)I" } : Jvm.MethodName)) ∈ lw_all := lw_g (lw_at lw_m18 26 rfl) rfl
theorem q4209 : (Jvm.Cond.code ({ cls := "AnnealingLehrModel", name := "piecesOf", desc := "(II)I" } : Jvm.MethodName) prog_22_method_88_code (3 : Nat) (Option.some Jvm.ClassFile.FieldType.int)) ∈ lw_all := lw_g (lw_at lw_m18 27 rfl) rfl
theorem q4210 : (Jvm.Cond.methodLink "AnnealingLehrModel" (212 : Nat) ({ cls := "AnnealingLehrModel", name := "fated", desc := "(II)I" } : Jvm.MethodName)) ∈ lw_all := lw_g (lw_at lw_m18 28 rfl) rfl
theorem q4211 : (Jvm.Cond.privateMethod ({ cls := "AnnealingLehrModel", name := "fated", desc := "(II)I" } : Jvm.MethodName)) ∈ lw_tbl := lw_at lw_m18 29 rfl
theorem q4212 : (Jvm.Cond.instanceMethod ({ cls := "AnnealingLehrModel", name := "fated", desc := "(II)I" } : Jvm.MethodName)) ∈ lw_all := lw_g (lw_at lw_m18 30 rfl) rfl
theorem q4213 : (Jvm.Cond.code ({ cls := "AnnealingLehrModel", name := "fated", desc := "(II)I" } : Jvm.MethodName) prog_22_method_87_code (5 : Nat) (Option.some Jvm.ClassFile.FieldType.int)) ∈ lw_all := lw_g (lw_at lw_m18 31 rfl) rfl
theorem q4215 : (Jvm.Cond.instanceMethod ({ cls := "AnnealingLehrModel", name := "fateOf", desc := "(II)I" } : Jvm.MethodName)) ∈ lw_all := lw_g (lw_at lw_m18 33 rfl) rfl
theorem q4216 : (Jvm.Cond.selects "AnnealingLehrModel" ({ cls := "AnnealingLehrModel", name := "fateOf", desc := "(II)I" } : Jvm.MethodName) ({ cls := "AnnealingLehrModel", name := "fateOf", desc := "(II)I" } : Jvm.MethodName)) ∈ lw_all := lw_g (lw_at lw_m18 34 rfl) rfl
theorem q4217 : (Jvm.Cond.code ({ cls := "AnnealingLehrModel", name := "fateOf", desc := "(II)I" } : Jvm.MethodName) prog_22_method_91_code (3 : Nat) (Option.some Jvm.ClassFile.FieldType.int)) ∈ lw_all := lw_g (lw_at lw_m18 35 rfl) rfl
theorem q4218 : (Jvm.Cond.methodLink "AnnealingLehrModel" (215 : Nat) ({ cls := "AnnealingLehrModel", name := "isThere", desc := "(II)Z" } : Jvm.MethodName)) ∈ lw_all := lw_g (lw_at lw_m18 36 rfl) rfl
theorem q4219 : (Jvm.Cond.privateMethod ({ cls := "AnnealingLehrModel", name := "isThere", desc := "(II)Z" } : Jvm.MethodName)) ∈ lw_tbl := lw_at lw_m18 37 rfl
theorem q4220 : (Jvm.Cond.instanceMethod ({ cls := "AnnealingLehrModel", name := "isThere", desc := "(II)Z" } : Jvm.MethodName)) ∈ lw_all := lw_g (lw_at lw_m18 38 rfl) rfl
theorem q4221 : (Jvm.Cond.code ({ cls := "AnnealingLehrModel", name := "isThere", desc := "(II)Z" } : Jvm.MethodName) prog_22_method_89_code (3 : Nat) (Option.some Jvm.ClassFile.FieldType.boolean)) ∈ lw_all := lw_g (lw_at lw_m18 39 rfl) rfl
theorem q4223 : (Jvm.Cond.instanceMethod ({ cls := "AnnealingLehrModel", name := "placeOf", desc := "(II)I" } : Jvm.MethodName)) ∈ lw_all := lw_g (lw_at lw_m18 41 rfl) rfl
theorem q4224 : (Jvm.Cond.selects "AnnealingLehrModel" ({ cls := "AnnealingLehrModel", name := "placeOf", desc := "(II)I" } : Jvm.MethodName) ({ cls := "AnnealingLehrModel", name := "placeOf", desc := "(II)I" } : Jvm.MethodName)) ∈ lw_all := lw_g (lw_at lw_m18 42 rfl) rfl
theorem q4225 : (Jvm.Cond.code ({ cls := "AnnealingLehrModel", name := "placeOf", desc := "(II)I" } : Jvm.MethodName) prog_22_method_92_code (3 : Nat) (Option.some Jvm.ClassFile.FieldType.int)) ∈ lw_all := lw_g (lw_at lw_m18 43 rfl) rfl
theorem q4226 : (Jvm.Cond.methodLink "AnnealingLehrModel" (218 : Nat) ({ cls := "AnnealingLehrModel", name := "placed", desc := "(II)I" } : Jvm.MethodName)) ∈ lw_all := lw_g (lw_at lw_m18 44 rfl) rfl
theorem q4227 : (Jvm.Cond.privateMethod ({ cls := "AnnealingLehrModel", name := "placed", desc := "(II)I" } : Jvm.MethodName)) ∈ lw_tbl := lw_at lw_m18 45 rfl
theorem q4228 : (Jvm.Cond.instanceMethod ({ cls := "AnnealingLehrModel", name := "placed", desc := "(II)I" } : Jvm.MethodName)) ∈ lw_all := lw_g (lw_at lw_m18 46 rfl) rfl
theorem q4229 : (Jvm.Cond.code ({ cls := "AnnealingLehrModel", name := "placed", desc := "(II)I" } : Jvm.MethodName) prog_22_method_90_code (4 : Nat) (Option.some Jvm.ClassFile.FieldType.int)) ∈ lw_all := lw_g (lw_at lw_m18 47 rfl) rfl
theorem q4231 : (Jvm.Cond.instanceMethod ({ cls := "AnnealingLehrModel", name := "whyNotLoading", desc := "(I)I" } : Jvm.MethodName)) ∈ lw_all := lw_g (lw_at lw_m18 49 rfl) rfl
theorem q4232 : (Jvm.Cond.selects "AnnealingLehrModel" ({ cls := "AnnealingLehrModel", name := "whyNotLoading", desc := "(I)I" } : Jvm.MethodName) ({ cls := "AnnealingLehrModel", name := "whyNotLoading", desc := "(I)I" } : Jvm.MethodName)) ∈ lw_all := lw_g (lw_at lw_m18 50 rfl) rfl
theorem q4233 : (Jvm.Cond.code ({ cls := "AnnealingLehrModel", name := "whyNotLoading", desc := "(I)I" } : Jvm.MethodName) prog_22_method_93_code (2 : Nat) (Option.some Jvm.ClassFile.FieldType.int)) ∈ lw_all := lw_g (lw_at lw_m18 51 rfl) rfl
theorem q4235 : (Jvm.Cond.instanceMethod ({ cls := "AnnealingLehrModel", name := "stockOf", desc := "(I)I" } : Jvm.MethodName)) ∈ lw_all := lw_g (lw_at lw_m18 53 rfl) rfl
theorem q4236 : (Jvm.Cond.selects "AnnealingLehrModel" ({ cls := "AnnealingLehrModel", name := "stockOf", desc := "(I)I" } : Jvm.MethodName) ({ cls := "AnnealingLehrModel", name := "stockOf", desc := "(I)I" } : Jvm.MethodName)) ∈ lw_all := lw_g (lw_at lw_m18 54 rfl) rfl
theorem q4237 : (Jvm.Cond.code ({ cls := "AnnealingLehrModel", name := "stockOf", desc := "(I)I" } : Jvm.MethodName) prog_22_method_94_code (2 : Nat) (Option.some Jvm.ClassFile.FieldType.int)) ∈ lw_all := lw_g (lw_at lw_m18 55 rfl) rfl
theorem q4239 : (Jvm.Cond.instanceMethod ({ cls := "AnnealingLehrModel", name := "orders", desc := "()I" } : Jvm.MethodName)) ∈ lw_all := lw_g (lw_at lw_m18 57 rfl) rfl
theorem q4240 : (Jvm.Cond.selects "AnnealingLehrModel" ({ cls := "AnnealingLehrModel", name := "orders", desc := "()I" } : Jvm.MethodName) ({ cls := "AnnealingLehrModel", name := "orders", desc := "()I" } : Jvm.MethodName)) ∈ lw_all := lw_g (lw_at lw_m18 58 rfl) rfl
theorem q4241 : (Jvm.Cond.code ({ cls := "AnnealingLehrModel", name := "orders", desc := "()I" } : Jvm.MethodName) prog_22_method_95_code (1 : Nat) (Option.some Jvm.ClassFile.FieldType.int)) ∈ lw_all := lw_g (lw_at lw_m18 59 rfl) rfl
theorem q4243 : (Jvm.Cond.instanceMethod ({ cls := "AnnealingLehrModel", name := "wantedBy", desc := "(I)I" } : Jvm.MethodName)) ∈ lw_all := lw_g (lw_at lw_m18 61 rfl) rfl
theorem q4244 : (Jvm.Cond.selects "AnnealingLehrModel" ({ cls := "AnnealingLehrModel", name := "wantedBy", desc := "(I)I" } : Jvm.MethodName) ({ cls := "AnnealingLehrModel", name := "wantedBy", desc := "(I)I" } : Jvm.MethodName)) ∈ lw_all := lw_g (lw_at lw_m18 62 rfl) rfl
theorem q4245 : (Jvm.Cond.code ({ cls := "AnnealingLehrModel", name := "wantedBy", desc := "(I)I" } : Jvm.MethodName) prog_22_method_96_code (2 : Nat) (Option.some Jvm.ClassFile.FieldType.int)) ∈ lw_all := lw_g (lw_at lw_m18 63 rfl) rfl
theorem q4247 : (Jvm.Cond.instanceMethod ({ cls := "AnnealingLehrModel", name := "incomeOf", desc := "(I)I" } : Jvm.MethodName)) ∈ lw_all := lw_g (lw_at lw_m18 65 rfl) rfl
theorem q4248 : (Jvm.Cond.selects "AnnealingLehrModel" ({ cls := "AnnealingLehrModel", name := "incomeOf", desc := "(I)I" } : Jvm.MethodName) ({ cls := "AnnealingLehrModel", name := "incomeOf", desc := "(I)I" } : Jvm.MethodName)) ∈ lw_all := lw_g (lw_at lw_m18 66 rfl) rfl
theorem q4249 : (Jvm.Cond.code ({ cls := "AnnealingLehrModel", name := "incomeOf", desc := "(I)I" } : Jvm.MethodName) prog_22_method_97_code (2 : Nat) (Option.some Jvm.ClassFile.FieldType.int)) ∈ lw_all := lw_g (lw_at lw_m18 67 rfl) rfl
theorem q4251 : (Jvm.Cond.instanceMethod ({ cls := "AnnealingLehrModel", name := "incomeByOrders", desc := "()I" } : Jvm.MethodName)) ∈ lw_all := lw_g (lw_at lw_m18 69 rfl) rfl
theorem q4252 : (Jvm.Cond.selects "AnnealingLehrModel" ({ cls := "AnnealingLehrModel", name := "incomeByOrders", desc := "()I" } : Jvm.MethodName) ({ cls := "AnnealingLehrModel", name := "incomeByOrders", desc := "()I" } : Jvm.MethodName)) ∈ lw_all := lw_g (lw_at lw_m18 70 rfl) rfl
theorem q4253 : (Jvm.Cond.code ({ cls := "AnnealingLehrModel", name := "incomeByOrders", desc := "()I" } : Jvm.MethodName) prog_22_method_98_code (3 : Nat) (Option.some Jvm.ClassFile.FieldType.int)) ∈ lw_all := lw_g (lw_at lw_m18 71 rfl) rfl
theorem q4255 : (Jvm.Cond.instanceMethod ({ cls := "AnnealingLehrModel", name := "incomeByLots", desc := "()I" } : Jvm.MethodName)) ∈ lw_all := lw_g (lw_at lw_m18 73 rfl) rfl
theorem q4256 : (Jvm.Cond.selects "AnnealingLehrModel" ({ cls := "AnnealingLehrModel", name := "incomeByLots", desc := "()I" } : Jvm.MethodName) ({ cls := "AnnealingLehrModel", name := "incomeByLots", desc := "()I" } : Jvm.MethodName)) ∈ lw_all := lw_g (lw_at lw_m18 74 rfl) rfl
theorem q4257 : (Jvm.Cond.code ({ cls := "AnnealingLehrModel", name := "incomeByLots", desc := "()I" } : Jvm.MethodName) prog_22_method_100_code (1 : Nat) (Option.some Jvm.ClassFile.FieldType.int)) ∈ lw_all := lw_g (lw_at lw_m18 75 rfl) rfl
theorem q4258 : (Jvm.Cond.methodLink "AnnealingLehrModel" (221 : Nat) ({ cls := "AnnealingLehrModel", name := "allIncome", desc := "()I" } : Jvm.MethodName)) ∈ lw_all := lw_g (lw_at lw_m18 76 rfl) rfl
theorem q4259 : (Jvm.Cond.privateMethod ({ cls := "AnnealingLehrModel", name := "allIncome", desc := "()I" } : Jvm.MethodName)) ∈ lw_tbl := lw_at lw_m18 77 rfl
theorem q4260 : (Jvm.Cond.instanceMethod ({ cls := "AnnealingLehrModel", name := "allIncome", desc := "()I" } : Jvm.MethodName)) ∈ lw_all := lw_g (lw_at lw_m18 78 rfl) rfl
theorem q4261 : (Jvm.Cond.code ({ cls := "AnnealingLehrModel", name := "allIncome", desc := "()I" } : Jvm.MethodName) prog_22_method_99_code (3 : Nat) (Option.some Jvm.ClassFile.FieldType.int)) ∈ lw_all := lw_g (lw_at lw_m18 79 rfl) rfl
theorem q4263 : (Jvm.Cond.instanceMethod ({ cls := "AnnealingLehrModel", name := "piecesByPlaces", desc := "()I" } : Jvm.MethodName)) ∈ lw_all := lw_g (lw_at lw_m18 81 rfl) rfl
theorem q4264 : (Jvm.Cond.selects "AnnealingLehrModel" ({ cls := "AnnealingLehrModel", name := "piecesByPlaces", desc := "()I" } : Jvm.MethodName) ({ cls := "AnnealingLehrModel", name := "piecesByPlaces", desc := "()I" } : Jvm.MethodName)) ∈ lw_all := lw_g (lw_at lw_m18 82 rfl) rfl
theorem q4265 : (Jvm.Cond.code ({ cls := "AnnealingLehrModel", name := "piecesByPlaces", desc := "()I" } : Jvm.MethodName) prog_22_method_101_code (3 : Nat) (Option.some Jvm.ClassFile.FieldType.int)) ∈ lw_all := lw_g (lw_at lw_m18 83 rfl) rfl
theorem q4267 : (Jvm.Cond.instanceMethod ({ cls := "AnnealingLehrModel", name := "piecesByLots", desc := "()I" } : Jvm.MethodName)) ∈ lw_all := lw_g (lw_at lw_m18 85 rfl) rfl
theorem q4268 : (Jvm.Cond.selects "AnnealingLehrModel" ({ cls := "AnnealingLehrModel", name := "piecesByLots", desc := "()I" } : Jvm.MethodName) ({ cls := "AnnealingLehrModel", name := "piecesByLots", desc := "()I" } : Jvm.MethodName)) ∈ lw_all := lw_g (lw_at lw_m18 86 rfl) rfl
theorem q4269 : (Jvm.Cond.code ({ cls := "AnnealingLehrModel", name := "piecesByLots", desc := "()I" } : Jvm.MethodName) prog_22_method_102_code (3 : Nat) (Option.some Jvm.ClassFile.FieldType.int)) ∈ lw_all := lw_g (lw_at lw_m18 87 rfl) rfl
theorem q4271 : (Jvm.Cond.instanceMethod ({ cls := "AnnealingLehrModel", name := "piecesOfKind", desc := "(II)I" } : Jvm.MethodName)) ∈ lw_all := lw_g (lw_at lw_m18 89 rfl) rfl
theorem q4272 : (Jvm.Cond.selects "AnnealingLehrModel" ({ cls := "AnnealingLehrModel", name := "piecesOfKind", desc := "(II)I" } : Jvm.MethodName) ({ cls := "AnnealingLehrModel", name := "piecesOfKind", desc := "(II)I" } : Jvm.MethodName)) ∈ lw_all := lw_g (lw_at lw_m18 90 rfl) rfl
theorem q4273 : (Jvm.Cond.code ({ cls := "AnnealingLehrModel", name := "piecesOfKind", desc := "(II)I" } : Jvm.MethodName) prog_22_method_103_code (5 : Nat) (Option.some Jvm.ClassFile.FieldType.int)) ∈ lw_all := lw_g (lw_at lw_m18 91 rfl) rfl
theorem q4275 : (Jvm.Cond.instanceMethod ({ cls := "AnnealingLehrModel", name := "greatestStress", desc := "()F" } : Jvm.MethodName)) ∈ lw_all := lw_g (lw_at lw_m18 93 rfl) rfl
theorem q4276 : (Jvm.Cond.selects "AnnealingLehrModel" ({ cls := "AnnealingLehrModel", name := "greatestStress", desc := "()F" } : Jvm.MethodName) ({ cls := "AnnealingLehrModel", name := "greatestStress", desc := "()F" } : Jvm.MethodName)) ∈ lw_all := lw_g (lw_at lw_m18 94 rfl) rfl
theorem q4277 : (Jvm.Cond.code ({ cls := "AnnealingLehrModel", name := "greatestStress", desc := "()F" } : Jvm.MethodName) prog_22_method_104_code (3 : Nat) (Option.some Jvm.ClassFile.FieldType.float)) ∈ lw_all := lw_g (lw_at lw_m18 95 rfl) rfl
theorem q4279 : (Jvm.Cond.instanceMethod ({ cls := "AnnealingLehrModel", name := "meanStress", desc := "()D" } : Jvm.MethodName)) ∈ lw_all := lw_g (lw_at lw_m18 97 rfl) rfl
theorem q4280 : (Jvm.Cond.selects "AnnealingLehrModel" ({ cls := "AnnealingLehrModel", name := "meanStress", desc := "()D" } : Jvm.MethodName) ({ cls := "AnnealingLehrModel", name := "meanStress", desc := "()D" } : Jvm.MethodName)) ∈ lw_all := lw_g (lw_at lw_m18 98 rfl) rfl
theorem q4281 : (Jvm.Cond.code ({ cls := "AnnealingLehrModel", name := "meanStress", desc := "()D" } : Jvm.MethodName) prog_22_method_105_code (5 : Nat) (Option.some Jvm.ClassFile.FieldType.double)) ∈ lw_all := lw_g (lw_at lw_m18 99 rfl) rfl
theorem q4283 : (Jvm.Cond.instanceMethod ({ cls := "AnnealingLehrModel", name := "brokenIn", desc := "(I)I" } : Jvm.MethodName)) ∈ lw_all := lw_g (lw_at lw_m18 101 rfl) rfl
theorem q4284 : (Jvm.Cond.selects "AnnealingLehrModel" ({ cls := "AnnealingLehrModel", name := "brokenIn", desc := "(I)I" } : Jvm.MethodName) ({ cls := "AnnealingLehrModel", name := "brokenIn", desc := "(I)I" } : Jvm.MethodName)) ∈ lw_all := lw_g (lw_at lw_m18 102 rfl) rfl
theorem q4285 : (Jvm.Cond.code ({ cls := "AnnealingLehrModel", name := "brokenIn", desc := "(I)I" } : Jvm.MethodName) prog_22_method_106_code (3 : Nat) (Option.some Jvm.ClassFile.FieldType.int)) ∈ lw_all := lw_g (lw_at lw_m18 103 rfl) rfl
theorem q4286 : (Jvm.Cond.methodLink "AnnealingLehrModel" (224 : Nat) ({ cls := "AnnealingLehrModel", name := "keepsAside", desc := "()V" } : Jvm.MethodName)) ∈ lw_all := lw_g (lw_at lw_m18 104 rfl) rfl
theorem q4287 : (Jvm.Cond.privateMethod ({ cls := "AnnealingLehrModel", name := "keepsAside", desc := "()V" } : Jvm.MethodName)) ∈ lw_tbl := lw_at lw_m18 105 rfl
theorem q4288 : (Jvm.Cond.instanceMethod ({ cls := "AnnealingLehrModel", name := "keepsAside", desc := "()V" } : Jvm.MethodName)) ∈ lw_all := lw_g (lw_at lw_m18 106 rfl) rfl
theorem q4289 : (Jvm.Cond.code ({ cls := "AnnealingLehrModel", name := "keepsAside", desc := "()V" } : Jvm.MethodName) prog_22_method_15_code (2 : Nat) (Option.none : Option Jvm.ClassFile.FieldType)) ∈ lw_all := lw_g (lw_at lw_m18 107 rfl) rfl
theorem q4290 : (Jvm.Cond.methodLink "AnnealingLehrModel" (227 : Nat) ({ cls := "AnnealingLehrModel", name := "putsBack", desc := "()V" } : Jvm.MethodName)) ∈ lw_all := lw_g (lw_at lw_m18 108 rfl) rfl
theorem q4291 : (Jvm.Cond.privateMethod ({ cls := "AnnealingLehrModel", name := "putsBack", desc := "()V" } : Jvm.MethodName)) ∈ lw_tbl := lw_at lw_m18 109 rfl
theorem q4292 : (Jvm.Cond.instanceMethod ({ cls := "AnnealingLehrModel", name := "putsBack", desc := "()V" } : Jvm.MethodName)) ∈ lw_all := lw_g (lw_at lw_m18 110 rfl) rfl
theorem q4293 : (Jvm.Cond.code ({ cls := "AnnealingLehrModel", name := "putsBack", desc := "()V" } : Jvm.MethodName) prog_22_method_16_code (2 : Nat) (Option.none : Option Jvm.ClassFile.FieldType)) ∈ lw_all := lw_g (lw_at lw_m18 111 rfl) rfl
theorem q4295 : (Jvm.Cond.instanceMethod ({ cls := "AnnealingLehrModel", name := "incomeIn", desc := "(I)I" } : Jvm.MethodName)) ∈ lw_all := lw_g (lw_at lw_m18 113 rfl) rfl
theorem q4296 : (Jvm.Cond.selects "AnnealingLehrModel" ({ cls := "AnnealingLehrModel", name := "incomeIn", desc := "(I)I" } : Jvm.MethodName) ({ cls := "AnnealingLehrModel", name := "incomeIn", desc := "(I)I" } : Jvm.MethodName)) ∈ lw_all := lw_g (lw_at lw_m18 114 rfl) rfl
theorem q4297 : (Jvm.Cond.code ({ cls := "AnnealingLehrModel", name := "incomeIn", desc := "(I)I" } : Jvm.MethodName) prog_22_method_107_code (5 : Nat) (Option.some Jvm.ClassFile.FieldType.int)) ∈ lw_all := lw_g (lw_at lw_m18 115 rfl) rfl
theorem q4299 : (Jvm.Cond.instanceMethod ({ cls := "AnnealingLehrModel", name := "minutesOnTheWay", desc := "(II)I" } : Jvm.MethodName)) ∈ lw_all := lw_g (lw_at lw_m18 117 rfl) rfl
theorem q4300 : (Jvm.Cond.selects "AnnealingLehrModel" ({ cls := "AnnealingLehrModel", name := "minutesOnTheWay", desc := "(II)I" } : Jvm.MethodName) ({ cls := "AnnealingLehrModel", name := "minutesOnTheWay", desc := "(II)I" } : Jvm.MethodName)) ∈ lw_all := lw_g (lw_at lw_m18 118 rfl) rfl
theorem q4301 : (Jvm.Cond.code ({ cls := "AnnealingLehrModel", name := "minutesOnTheWay", desc := "(II)I" } : Jvm.MethodName) prog_22_method_108_code (5 : Nat) (Option.some Jvm.ClassFile.FieldType.int)) ∈ lw_all := lw_g (lw_at lw_m18 119 rfl) rfl
theorem q4303 : (Jvm.Cond.instanceMethod ({ cls := "AnnealingLehrModel", name := "minutesToGo", desc := "(II)I" } : Jvm.MethodName)) ∈ lw_all := lw_g (lw_at lw_m18 121 rfl) rfl
theorem q4304 : (Jvm.Cond.selects "AnnealingLehrModel" ({ cls := "AnnealingLehrModel", name := "minutesToGo", desc := "(II)I" } : Jvm.MethodName) ({ cls := "AnnealingLehrModel", name := "minutesToGo", desc := "(II)I" } : Jvm.MethodName)) ∈ lw_all := lw_g (lw_at lw_m18 122 rfl) rfl
theorem q4305 : (Jvm.Cond.code ({ cls := "AnnealingLehrModel", name := "minutesToGo", desc := "(II)I" } : Jvm.MethodName) prog_22_method_109_code (8 : Nat) (Option.some Jvm.ClassFile.FieldType.int)) ∈ lw_all := lw_g (lw_at lw_m18 123 rfl) rfl
theorem q4307 : (Jvm.Cond.instanceMethod ({ cls := "AnnealingLehrModel", name := "lowestSafeBurner", desc := "(I)I" } : Jvm.MethodName)) ∈ lw_all := lw_g (lw_at lw_m18 125 rfl) rfl
theorem q4308 : (Jvm.Cond.selects "AnnealingLehrModel" ({ cls := "AnnealingLehrModel", name := "lowestSafeBurner", desc := "(I)I" } : Jvm.MethodName) ({ cls := "AnnealingLehrModel", name := "lowestSafeBurner", desc := "(I)I" } : Jvm.MethodName)) ∈ lw_all := lw_g (lw_at lw_m18 126 rfl) rfl
theorem q4309 : (Jvm.Cond.code ({ cls := "AnnealingLehrModel", name := "lowestSafeBurner", desc := "(I)I" } : Jvm.MethodName) prog_22_method_110_code (4 : Nat) (Option.some Jvm.ClassFile.FieldType.int)) ∈ lw_all := lw_g (lw_at lw_m18 127 rfl) rfl
theorem q4311 : (Jvm.Cond.instanceMethod ({ cls := "AnnealingLehrModel", name := "append", desc := "(I)I" } : Jvm.MethodName)) ∈ lw_all := lw_g (lw_at lw_m18 129 rfl) rfl
theorem q4312 : (Jvm.Cond.selects "AnnealingLehrModel" ({ cls := "AnnealingLehrModel", name := "append", desc := "(I)I" } : Jvm.MethodName) ({ cls := "AnnealingLehrModel", name := "append", desc := "(I)I" } : Jvm.MethodName)) ∈ lw_all := lw_g (lw_at lw_m18 130 rfl) rfl
theorem q4313 : (Jvm.Cond.code ({ cls := "AnnealingLehrModel", name := "append", desc := "(I)I" } : Jvm.MethodName) prog_22_method_111_code (2 : Nat) (Option.some Jvm.ClassFile.FieldType.int)) ∈ lw_all := lw_g (lw_at lw_m18 131 rfl) rfl
theorem q4315 : (Jvm.Cond.instanceMethod ({ cls := "AnnealingLehrModel", name := "clearText", desc := "()I" } : Jvm.MethodName)) ∈ lw_all := lw_g (lw_at lw_m18 133 rfl) rfl
theorem q4316 : (Jvm.Cond.selects "AnnealingLehrModel" ({ cls := "AnnealingLehrModel", name := "clearText", desc := "()I" } : Jvm.MethodName) ({ cls := "AnnealingLehrModel", name := "clearText", desc := "()I" } : Jvm.MethodName)) ∈ lw_all := lw_g (lw_at lw_m18 134 rfl) rfl
theorem q4317 : (Jvm.Cond.code ({ cls := "AnnealingLehrModel", name := "clearText", desc := "()I" } : Jvm.MethodName) prog_22_method_112_code (2 : Nat) (Option.some Jvm.ClassFile.FieldType.int)) ∈ lw_all := lw_g (lw_at lw_m18 135 rfl) rfl
theorem q4319 : (Jvm.Cond.instanceMethod ({ cls := "AnnealingLehrModel", name := "errorPosition", desc := "()I" } : Jvm.MethodName)) ∈ lw_all := lw_g (lw_at lw_m18 137 rfl) rfl
theorem q4320 : (Jvm.Cond.selects "AnnealingLehrModel" ({ cls := "AnnealingLehrModel", name := "errorPosition", desc := "()I" } : Jvm.MethodName) ({ cls := "AnnealingLehrModel", name := "errorPosition", desc := "()I" } : Jvm.MethodName)) ∈ lw_all := lw_g (lw_at lw_m18 138 rfl) rfl
theorem q4321 : (Jvm.Cond.code ({ cls := "AnnealingLehrModel", name := "errorPosition", desc := "()I" } : Jvm.MethodName) prog_22_method_118_code (2 : Nat) (Option.some Jvm.ClassFile.FieldType.int)) ∈ lw_all := lw_g (lw_at lw_m18 139 rfl) rfl
theorem q4322 : (Jvm.Cond.methodLink "AnnealingLehrModel" (253 : Nat) ({ cls := "AnnealingLehrModel", name := "go", desc := "(Z)I" } : Jvm.MethodName)) ∈ lw_all := lw_g (lw_at lw_m18 140 rfl) rfl
theorem q4323 : (Jvm.Cond.privateMethod ({ cls := "AnnealingLehrModel", name := "go", desc := "(Z)I" } : Jvm.MethodName)) ∈ lw_tbl := lw_at lw_m18 141 rfl
theorem q4324 : (Jvm.Cond.instanceMethod ({ cls := "AnnealingLehrModel", name := "go", desc := "(Z)I" } : Jvm.MethodName)) ∈ lw_all := lw_g (lw_at lw_m18 142 rfl) rfl
theorem q4325 : (Jvm.Cond.code ({ cls := "AnnealingLehrModel", name := "go", desc := "(Z)I" } : Jvm.MethodName) prog_22_method_117_code (5 : Nat) (Option.some Jvm.ClassFile.FieldType.int)) ∈ lw_all := lw_g (lw_at lw_m18 143 rfl) rfl
theorem q4326 : (Jvm.Cond.methodLink "AnnealingLehrModel" (249 : Nat) ({ cls := "AnnealingLehrModel", name := "part", desc := "(Z)Z" } : Jvm.MethodName)) ∈ lw_all := lw_g (lw_at lw_m18 144 rfl) rfl
theorem q4327 : (Jvm.Cond.privateMethod ({ cls := "AnnealingLehrModel", name := "part", desc := "(Z)Z" } : Jvm.MethodName)) ∈ lw_tbl := lw_at lw_m18 145 rfl
theorem q4328 : (Jvm.Cond.instanceMethod ({ cls := "AnnealingLehrModel", name := "part", desc := "(Z)Z" } : Jvm.MethodName)) ∈ lw_all := lw_g (lw_at lw_m18 146 rfl) rfl
theorem q4329 : (Jvm.Cond.code ({ cls := "AnnealingLehrModel", name := "part", desc := "(Z)Z" } : Jvm.MethodName) prog_22_method_115_code (7 : Nat) (Option.some Jvm.ClassFile.FieldType.boolean)) ∈ lw_all := lw_g (lw_at lw_m18 147 rfl) rfl
theorem q4330 : (Jvm.Cond.methodLink "AnnealingLehrModel" (240 : Nat) ({ cls := "AnnealingLehrModel", name := "sign", desc := "(II)I" } : Jvm.MethodName)) ∈ lw_all := lw_g (lw_at lw_m18 148 rfl) rfl
theorem q4331 : (Jvm.Cond.privateMethod ({ cls := "AnnealingLehrModel", name := "sign", desc := "(II)I" } : Jvm.MethodName)) ∈ lw_tbl := lw_at lw_m18 149 rfl
theorem q4332 : (Jvm.Cond.instanceMethod ({ cls := "AnnealingLehrModel", name := "sign", desc := "(II)I" } : Jvm.MethodName)) ∈ lw_all := lw_g (lw_at lw_m18 150 rfl) rfl
theorem q4333 : (Jvm.Cond.code ({ cls := "AnnealingLehrModel", name := "sign", desc := "(II)I" } : Jvm.MethodName) prog_22_method_113_code (4 : Nat) (Option.some Jvm.ClassFile.FieldType.int)) ∈ lw_all := lw_g (lw_at lw_m18 151 rfl) rfl
theorem q4334 : (Jvm.Cond.methodLink "AnnealingLehrModel" (243 : Nat) ({ cls := "AnnealingLehrModel", name := "number", desc := "(II)I" } : Jvm.MethodName)) ∈ lw_all := lw_g (lw_at lw_m18 152 rfl) rfl
theorem q4335 : (Jvm.Cond.privateMethod ({ cls := "AnnealingLehrModel", name := "number", desc := "(II)I" } : Jvm.MethodName)) ∈ lw_tbl := lw_at lw_m18 153 rfl
theorem q4336 : (Jvm.Cond.instanceMethod ({ cls := "AnnealingLehrModel", name := "number", desc := "(II)I" } : Jvm.MethodName)) ∈ lw_all := lw_g (lw_at lw_m18 154 rfl) rfl
theorem q4337 : (Jvm.Cond.code ({ cls := "AnnealingLehrModel", name := "number", desc := "(II)I" } : Jvm.MethodName) prog_22_method_114_code (4 : Nat) (Option.some Jvm.ClassFile.FieldType.int)) ∈ lw_all := lw_g (lw_at lw_m18 155 rfl) rfl
theorem q4338 : (Jvm.Cond.methodLink "AnnealingLehrModel" (246 : Nat) ({ cls := "AnnealingLehrModel", name := "does", desc := "(III)Z" } : Jvm.MethodName)) ∈ lw_all := lw_g (lw_at lw_m18 156 rfl) rfl
theorem q4339 : (Jvm.Cond.privateMethod ({ cls := "AnnealingLehrModel", name := "does", desc := "(III)Z" } : Jvm.MethodName)) ∈ lw_tbl := lw_at lw_m18 157 rfl
theorem q4340 : (Jvm.Cond.instanceMethod ({ cls := "AnnealingLehrModel", name := "does", desc := "(III)Z" } : Jvm.MethodName)) ∈ lw_all := lw_g (lw_at lw_m18 158 rfl) rfl
theorem q4341 : (Jvm.Cond.code ({ cls := "AnnealingLehrModel", name := "does", desc := "(III)Z" } : Jvm.MethodName) prog_22_method_116_code (7 : Nat) (Option.some Jvm.ClassFile.FieldType.boolean)) ∈ lw_all := lw_g (lw_at lw_m18 159 rfl) rfl
theorem q4343 : (Jvm.Cond.instanceMethod ({ cls := "AnnealingLehrModel", name := "runText", desc := "()I" } : Jvm.MethodName)) ∈ lw_all := lw_g (lw_at lw_m18 161 rfl) rfl
theorem q4344 : (Jvm.Cond.selects "AnnealingLehrModel" ({ cls := "AnnealingLehrModel", name := "runText", desc := "()I" } : Jvm.MethodName) ({ cls := "AnnealingLehrModel", name := "runText", desc := "()I" } : Jvm.MethodName)) ∈ lw_all := lw_g (lw_at lw_m18 162 rfl) rfl
theorem q4345 : (Jvm.Cond.code ({ cls := "AnnealingLehrModel", name := "runText", desc := "()I" } : Jvm.MethodName) prog_22_method_119_code (2 : Nat) (Option.some Jvm.ClassFile.FieldType.int)) ∈ lw_all := lw_g (lw_at lw_m18 163 rfl) rfl
theorem q4347 : (Jvm.Cond.instanceMethod ({ cls := "AnnealingLehrModel", name := "undo", desc := "()I" } : Jvm.MethodName)) ∈ lw_all := lw_g (lw_at lw_m18 165 rfl) rfl
theorem q4348 : (Jvm.Cond.selects "AnnealingLehrModel" ({ cls := "AnnealingLehrModel", name := "undo", desc := "()I" } : Jvm.MethodName) ({ cls := "AnnealingLehrModel", name := "undo", desc := "()I" } : Jvm.MethodName)) ∈ lw_all := lw_g (lw_at lw_m18 166 rfl) rfl
theorem q4349 : (Jvm.Cond.code ({ cls := "AnnealingLehrModel", name := "undo", desc := "()I" } : Jvm.MethodName) prog_22_method_120_code (2 : Nat) (Option.some Jvm.ClassFile.FieldType.int)) ∈ lw_all := lw_g (lw_at lw_m18 167 rfl) rfl
theorem q4351 : (Jvm.Cond.instanceMethod ({ cls := "AnnealingLehrModel", name := "savedStates", desc := "()I" } : Jvm.MethodName)) ∈ lw_all := lw_g (lw_at lw_m18 169 rfl) rfl
theorem q4352 : (Jvm.Cond.selects "AnnealingLehrModel" ({ cls := "AnnealingLehrModel", name := "savedStates", desc := "()I" } : Jvm.MethodName) ({ cls := "AnnealingLehrModel", name := "savedStates", desc := "()I" } : Jvm.MethodName)) ∈ lw_all := lw_g (lw_at lw_m18 170 rfl) rfl
theorem q4353 : (Jvm.Cond.code ({ cls := "AnnealingLehrModel", name := "savedStates", desc := "()I" } : Jvm.MethodName) prog_22_method_121_code (1 : Nat) (Option.some Jvm.ClassFile.FieldType.int)) ∈ lw_all := lw_g (lw_at lw_m18 171 rfl) rfl
theorem q4355 : (Jvm.Cond.instanceMethod ({ cls := "AnnealingLehrModel", name := "takeSnapshot", desc := "()I" } : Jvm.MethodName)) ∈ lw_all := lw_g (lw_at lw_m18 173 rfl) rfl
theorem q4356 : (Jvm.Cond.selects "AnnealingLehrModel" ({ cls := "AnnealingLehrModel", name := "takeSnapshot", desc := "()I" } : Jvm.MethodName) ({ cls := "AnnealingLehrModel", name := "takeSnapshot", desc := "()I" } : Jvm.MethodName)) ∈ lw_all := lw_g (lw_at lw_m18 174 rfl) rfl
theorem q4357 : (Jvm.Cond.code ({ cls := "AnnealingLehrModel", name := "takeSnapshot", desc := "()I" } : Jvm.MethodName) prog_22_method_122_code (2 : Nat) (Option.some Jvm.ClassFile.FieldType.int)) ∈ lw_all := lw_g (lw_at lw_m18 175 rfl) rfl
theorem q4359 : (Jvm.Cond.instanceMethod ({ cls := "AnnealingLehrModel", name := "restoreSnapshot", desc := "()I" } : Jvm.MethodName)) ∈ lw_all := lw_g (lw_at lw_m18 177 rfl) rfl
theorem q4360 : (Jvm.Cond.selects "AnnealingLehrModel" ({ cls := "AnnealingLehrModel", name := "restoreSnapshot", desc := "()I" } : Jvm.MethodName) ({ cls := "AnnealingLehrModel", name := "restoreSnapshot", desc := "()I" } : Jvm.MethodName)) ∈ lw_all := lw_g (lw_at lw_m18 178 rfl) rfl
theorem q4361 : (Jvm.Cond.code ({ cls := "AnnealingLehrModel", name := "restoreSnapshot", desc := "()I" } : Jvm.MethodName) prog_22_method_123_code (2 : Nat) (Option.some Jvm.ClassFile.FieldType.int)) ∈ lw_all := lw_g (lw_at lw_m18 179 rfl) rfl
theorem q4442 : (Jvm.Cond.castable "AnnealingLehrModel" "java/lang/Object") ∈ lw_tbl := lw_at lw_m19 20 rfl

theorem q194 : (Jvm.Cond.arrayOver (Jvm.ClassFile.FieldType.object "AnnealingLehr$Piece")) ∈ lw_tbl := lw_at lw_m1 92 rfl
set_option maxRecDepth 100000
theorem q388 : (Jvm.Cond.arrayClass Jvm.ClassFile.FieldType.int) ∈ lw_all := lw_g (lw_at lw_m2 46 rfl) rfl
theorem q389 : (Jvm.Cond.arrayClass Jvm.ClassFile.FieldType.boolean) ∈ lw_all := lw_g (lw_at lw_m2 47 rfl) rfl
theorem q390 : (Jvm.Cond.arrayClass Jvm.ClassFile.FieldType.byte) ∈ lw_all := lw_g (lw_at lw_m2 48 rfl) rfl
theorem q1093 : (Jvm.Cond.arrayClass Jvm.ClassFile.FieldType.char) ∈ lw_all := lw_g (lw_at lw_m5 31 rfl) rfl
theorem q1175 : (Jvm.Cond.arrayOver (Jvm.ClassFile.FieldType.object "java/lang/Object")) ∈ lw_tbl := lw_at lw_m5 113 rfl
theorem q1471 : (Jvm.Cond.arrayOver (Jvm.ClassFile.FieldType.object "AnnealingLehr$Work")) ∈ lw_tbl := lw_at lw_m6 169 rfl
theorem q1629 : (Jvm.Cond.arrayOver (Jvm.ClassFile.FieldType.object "AnnealingLehr$Reason")) ∈ lw_tbl := lw_at lw_m7 87 rfl
theorem q1821 : (Jvm.Cond.arrayOver (Jvm.ClassFile.FieldType.object "java/util/HashMap$Node")) ∈ lw_tbl := lw_at lw_m8 39 rfl
theorem q3888 : (Jvm.Cond.arrayClass Jvm.ClassFile.FieldType.float) ∈ lw_all := lw_g (lw_at lw_m16 186 rfl) rfl
theorem q4362 : (Jvm.Cond.arrayClass Jvm.ClassFile.FieldType.long) ∈ lw_all := lw_g (lw_at lw_m18 180 rfl) rfl
theorem q4490 : (Jvm.Cond.arrayClass Jvm.ClassFile.FieldType.short) ∈ lw_all := lw_g (lw_at lw_m19 68 rfl) rfl
