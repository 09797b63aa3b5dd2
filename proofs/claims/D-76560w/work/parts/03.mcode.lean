set_option maxRecDepth 100000
def dkwX2_init_9 : List UInt8 := [16, 6, 162, 0, 16, 42, 180, 0, 75, 27, 2, 79, 132, 1, 1, 167, 255, 240, 177]
abbrev dktX2_init_9 : List UInt8 := dkwX2_init_9 ++ []
def dkwX2_init_8 : List UInt8 := [181, 0, 78, 42, 17, 1, 104, 188, 11, 181, 0, 81, 42, 16, 15, 188, 10, 181, 0, 85, 3, 60, 27]
abbrev dktX2_init_8 : List UInt8 := dkwX2_init_8 ++ dktX2_init_9
def dkwX2_init_7 : List UInt8 := [181, 0, 69, 42, 16, 24, 188, 10, 181, 0, 72, 42, 16, 6, 188, 10, 181, 0, 75, 42, 16, 6, 188, 10]
abbrev dktX2_init_7 : List UInt8 := dkwX2_init_7 ++ dktX2_init_8
def dkwX2_init_6 : List UInt8 := [181, 0, 60, 42, 8, 188, 10, 181, 0, 63, 42, 17, 0, 160, 188, 10, 181, 0, 66, 42, 16, 50, 188, 10]
abbrev dktX2_init_6 : List UInt8 := dkwX2_init_6 ++ dktX2_init_7
def dkwX2_init_5 : List UInt8 := [181, 0, 51, 42, 16, 6, 188, 10, 181, 0, 54, 42, 8, 188, 10, 181, 0, 57, 42, 16, 23, 188, 10]
abbrev dktX2_init_5 : List UInt8 := dkwX2_init_5 ++ dktX2_init_6
def dkwX2_init_4 : List UInt8 := [42, 16, 61, 188, 10, 181, 0, 45, 42, 17, 0, 200, 188, 10, 181, 0, 48, 42, 17, 0, 200, 188, 10]
abbrev dktX2_init_4 : List UInt8 := dkwX2_init_4 ++ dktX2_init_5
def dkwX2_init_3 : List UInt8 := [17, 0, 200, 188, 10, 181, 0, 36, 42, 16, 61, 188, 10, 181, 0, 39, 42, 16, 61, 188, 10, 181, 0, 42]
abbrev dktX2_init_3 : List UInt8 := dkwX2_init_3 ++ dktX2_init_4
def dkwX2_init_2 : List UInt8 := [188, 10, 181, 0, 27, 42, 16, 60, 188, 10, 181, 0, 30, 42, 16, 60, 188, 10, 181, 0, 33, 42]
abbrev dktX2_init_2 : List UInt8 := dkwX2_init_2 ++ dktX2_init_3
def dkwX2_init_1 : List UInt8 := [188, 10, 181, 0, 18, 42, 16, 15, 188, 10, 181, 0, 21, 42, 16, 120, 188, 10, 181, 0, 24, 42, 16, 60]
abbrev dktX2_init_1 : List UInt8 := dkwX2_init_1 ++ dktX2_init_2
def dkwX2_init_0 : List UInt8 := [42, 183, 0, 3, 42, 16, 8, 188, 10, 181, 0, 9, 42, 16, 75, 188, 10, 181, 0, 15, 42, 16, 15]
abbrev dktX2_init_0 : List UInt8 := dkwX2_init_0 ++ dktX2_init_1
theorem dksX2_init_0 : cX2_init.data.toList.drop 0 = dktX2_init_0 := by decide +kernel
theorem dksX2_init_1 : cX2_init.data.toList.drop 23 = dktX2_init_1 := dk_seg dksX2_init_0 23 rfl rfl
theorem dksX2_init_2 : cX2_init.data.toList.drop 47 = dktX2_init_2 := dk_seg dksX2_init_1 24 rfl rfl
theorem dksX2_init_3 : cX2_init.data.toList.drop 69 = dktX2_init_3 := dk_seg dksX2_init_2 22 rfl rfl
theorem dksX2_init_4 : cX2_init.data.toList.drop 93 = dktX2_init_4 := dk_seg dksX2_init_3 24 rfl rfl
theorem dksX2_init_5 : cX2_init.data.toList.drop 116 = dktX2_init_5 := dk_seg dksX2_init_4 23 rfl rfl
theorem dksX2_init_6 : cX2_init.data.toList.drop 139 = dktX2_init_6 := dk_seg dksX2_init_5 23 rfl rfl
theorem dksX2_init_7 : cX2_init.data.toList.drop 163 = dktX2_init_7 := dk_seg dksX2_init_6 24 rfl rfl
theorem dksX2_init_8 : cX2_init.data.toList.drop 187 = dktX2_init_8 := dk_seg dksX2_init_7 24 rfl rfl
theorem dksX2_init_9 : cX2_init.data.toList.drop 210 = dktX2_init_9 := dk_seg dksX2_init_8 23 rfl rfl
theorem dX2_init_0 : decode cX2_init 0 = .ok (.aload_n 0, 1) := dk_42 (dk_at dksX2_init_0 0 rfl rfl)
theorem dX2_init_1 : decode cX2_init 1 = .ok (.invokespecial 3, 3) := dk_183 0 3 (dk_at dksX2_init_0 1 rfl rfl)
theorem dX2_init_4 : decode cX2_init 4 = .ok (.aload_n 0, 1) := dk_42 (dk_at dksX2_init_0 4 rfl rfl)
theorem dX2_init_5 : decode cX2_init 5 = .ok (.bipush 8, 2) := dk_16 8 (dk_at dksX2_init_0 5 rfl rfl)
theorem dX2_init_7 : decode cX2_init 7 = .ok (.newarray .int, 2) := dk_188_10 (dk_at dksX2_init_0 7 rfl rfl)
theorem dX2_init_9 : decode cX2_init 9 = .ok (.putfield 9, 3) := dk_181 0 9 (dk_at dksX2_init_0 9 rfl rfl)
theorem dX2_init_12 : decode cX2_init 12 = .ok (.aload_n 0, 1) := dk_42 (dk_at dksX2_init_0 12 rfl rfl)
theorem dX2_init_13 : decode cX2_init 13 = .ok (.bipush 75, 2) := dk_16 75 (dk_at dksX2_init_0 13 rfl rfl)
theorem dX2_init_15 : decode cX2_init 15 = .ok (.newarray .int, 2) := dk_188_10 (dk_at dksX2_init_0 15 rfl rfl)
theorem dX2_init_17 : decode cX2_init 17 = .ok (.putfield 15, 3) := dk_181 0 15 (dk_at dksX2_init_0 17 rfl rfl)
theorem dX2_init_20 : decode cX2_init 20 = .ok (.aload_n 0, 1) := dk_42 (dk_at dksX2_init_0 20 rfl rfl)
theorem dX2_init_21 : decode cX2_init 21 = .ok (.bipush 15, 2) := dk_16 15 (dk_at dksX2_init_0 21 rfl rfl)
theorem dX2_init_23 : decode cX2_init 23 = .ok (.newarray .int, 2) := dk_188_10 (dk_at dksX2_init_1 0 rfl rfl)
theorem dX2_init_25 : decode cX2_init 25 = .ok (.putfield 18, 3) := dk_181 0 18 (dk_at dksX2_init_1 2 rfl rfl)
theorem dX2_init_28 : decode cX2_init 28 = .ok (.aload_n 0, 1) := dk_42 (dk_at dksX2_init_1 5 rfl rfl)
theorem dX2_init_29 : decode cX2_init 29 = .ok (.bipush 15, 2) := dk_16 15 (dk_at dksX2_init_1 6 rfl rfl)
theorem dX2_init_31 : decode cX2_init 31 = .ok (.newarray .int, 2) := dk_188_10 (dk_at dksX2_init_1 8 rfl rfl)
theorem dX2_init_33 : decode cX2_init 33 = .ok (.putfield 21, 3) := dk_181 0 21 (dk_at dksX2_init_1 10 rfl rfl)
theorem dX2_init_36 : decode cX2_init 36 = .ok (.aload_n 0, 1) := dk_42 (dk_at dksX2_init_1 13 rfl rfl)
theorem dX2_init_37 : decode cX2_init 37 = .ok (.bipush 120, 2) := dk_16 120 (dk_at dksX2_init_1 14 rfl rfl)
theorem dX2_init_39 : decode cX2_init 39 = .ok (.newarray .int, 2) := dk_188_10 (dk_at dksX2_init_1 16 rfl rfl)
theorem dX2_init_41 : decode cX2_init 41 = .ok (.putfield 24, 3) := dk_181 0 24 (dk_at dksX2_init_1 18 rfl rfl)
theorem dX2_init_44 : decode cX2_init 44 = .ok (.aload_n 0, 1) := dk_42 (dk_at dksX2_init_1 21 rfl rfl)
theorem dX2_init_45 : decode cX2_init 45 = .ok (.bipush 60, 2) := dk_16 60 (dk_at dksX2_init_1 22 rfl rfl)
theorem dX2_init_47 : decode cX2_init 47 = .ok (.newarray .int, 2) := dk_188_10 (dk_at dksX2_init_2 0 rfl rfl)
theorem dX2_init_49 : decode cX2_init 49 = .ok (.putfield 27, 3) := dk_181 0 27 (dk_at dksX2_init_2 2 rfl rfl)
theorem dX2_init_52 : decode cX2_init 52 = .ok (.aload_n 0, 1) := dk_42 (dk_at dksX2_init_2 5 rfl rfl)
theorem dX2_init_53 : decode cX2_init 53 = .ok (.bipush 60, 2) := dk_16 60 (dk_at dksX2_init_2 6 rfl rfl)
theorem dX2_init_55 : decode cX2_init 55 = .ok (.newarray .int, 2) := dk_188_10 (dk_at dksX2_init_2 8 rfl rfl)
theorem dX2_init_57 : decode cX2_init 57 = .ok (.putfield 30, 3) := dk_181 0 30 (dk_at dksX2_init_2 10 rfl rfl)
theorem dX2_init_60 : decode cX2_init 60 = .ok (.aload_n 0, 1) := dk_42 (dk_at dksX2_init_2 13 rfl rfl)
theorem dX2_init_61 : decode cX2_init 61 = .ok (.bipush 60, 2) := dk_16 60 (dk_at dksX2_init_2 14 rfl rfl)
theorem dX2_init_63 : decode cX2_init 63 = .ok (.newarray .int, 2) := dk_188_10 (dk_at dksX2_init_2 16 rfl rfl)
theorem dX2_init_65 : decode cX2_init 65 = .ok (.putfield 33, 3) := dk_181 0 33 (dk_at dksX2_init_2 18 rfl rfl)
theorem dX2_init_68 : decode cX2_init 68 = .ok (.aload_n 0, 1) := dk_42 (dk_at dksX2_init_2 21 rfl rfl)
theorem dX2_init_69 : decode cX2_init 69 = .ok (.sipush 200, 3) := dk_17 0 200 (dk_at dksX2_init_3 0 rfl rfl)
theorem dX2_init_72 : decode cX2_init 72 = .ok (.newarray .int, 2) := dk_188_10 (dk_at dksX2_init_3 3 rfl rfl)
theorem dX2_init_74 : decode cX2_init 74 = .ok (.putfield 36, 3) := dk_181 0 36 (dk_at dksX2_init_3 5 rfl rfl)
theorem dX2_init_77 : decode cX2_init 77 = .ok (.aload_n 0, 1) := dk_42 (dk_at dksX2_init_3 8 rfl rfl)
theorem dX2_init_78 : decode cX2_init 78 = .ok (.bipush 61, 2) := dk_16 61 (dk_at dksX2_init_3 9 rfl rfl)
theorem dX2_init_80 : decode cX2_init 80 = .ok (.newarray .int, 2) := dk_188_10 (dk_at dksX2_init_3 11 rfl rfl)
theorem dX2_init_82 : decode cX2_init 82 = .ok (.putfield 39, 3) := dk_181 0 39 (dk_at dksX2_init_3 13 rfl rfl)
theorem dX2_init_85 : decode cX2_init 85 = .ok (.aload_n 0, 1) := dk_42 (dk_at dksX2_init_3 16 rfl rfl)
theorem dX2_init_86 : decode cX2_init 86 = .ok (.bipush 61, 2) := dk_16 61 (dk_at dksX2_init_3 17 rfl rfl)
theorem dX2_init_88 : decode cX2_init 88 = .ok (.newarray .int, 2) := dk_188_10 (dk_at dksX2_init_3 19 rfl rfl)
theorem dX2_init_90 : decode cX2_init 90 = .ok (.putfield 42, 3) := dk_181 0 42 (dk_at dksX2_init_3 21 rfl rfl)
theorem dX2_init_93 : decode cX2_init 93 = .ok (.aload_n 0, 1) := dk_42 (dk_at dksX2_init_4 0 rfl rfl)
theorem dX2_init_94 : decode cX2_init 94 = .ok (.bipush 61, 2) := dk_16 61 (dk_at dksX2_init_4 1 rfl rfl)
theorem dX2_init_96 : decode cX2_init 96 = .ok (.newarray .int, 2) := dk_188_10 (dk_at dksX2_init_4 3 rfl rfl)
theorem dX2_init_98 : decode cX2_init 98 = .ok (.putfield 45, 3) := dk_181 0 45 (dk_at dksX2_init_4 5 rfl rfl)
theorem dX2_init_101 : decode cX2_init 101 = .ok (.aload_n 0, 1) := dk_42 (dk_at dksX2_init_4 8 rfl rfl)
theorem dX2_init_102 : decode cX2_init 102 = .ok (.sipush 200, 3) := dk_17 0 200 (dk_at dksX2_init_4 9 rfl rfl)
theorem dX2_init_105 : decode cX2_init 105 = .ok (.newarray .int, 2) := dk_188_10 (dk_at dksX2_init_4 12 rfl rfl)
theorem dX2_init_107 : decode cX2_init 107 = .ok (.putfield 48, 3) := dk_181 0 48 (dk_at dksX2_init_4 14 rfl rfl)
theorem dX2_init_110 : decode cX2_init 110 = .ok (.aload_n 0, 1) := dk_42 (dk_at dksX2_init_4 17 rfl rfl)
theorem dX2_init_111 : decode cX2_init 111 = .ok (.sipush 200, 3) := dk_17 0 200 (dk_at dksX2_init_4 18 rfl rfl)
theorem dX2_init_114 : decode cX2_init 114 = .ok (.newarray .int, 2) := dk_188_10 (dk_at dksX2_init_4 21 rfl rfl)
theorem dX2_init_116 : decode cX2_init 116 = .ok (.putfield 51, 3) := dk_181 0 51 (dk_at dksX2_init_5 0 rfl rfl)
theorem dX2_init_119 : decode cX2_init 119 = .ok (.aload_n 0, 1) := dk_42 (dk_at dksX2_init_5 3 rfl rfl)
theorem dX2_init_120 : decode cX2_init 120 = .ok (.bipush 6, 2) := dk_16 6 (dk_at dksX2_init_5 4 rfl rfl)
theorem dX2_init_122 : decode cX2_init 122 = .ok (.newarray .int, 2) := dk_188_10 (dk_at dksX2_init_5 6 rfl rfl)
theorem dX2_init_124 : decode cX2_init 124 = .ok (.putfield 54, 3) := dk_181 0 54 (dk_at dksX2_init_5 8 rfl rfl)
theorem dX2_init_127 : decode cX2_init 127 = .ok (.aload_n 0, 1) := dk_42 (dk_at dksX2_init_5 11 rfl rfl)
theorem dX2_init_128 : decode cX2_init 128 = .ok (.iconst 5, 1) := dk_8 (dk_at dksX2_init_5 12 rfl rfl)
theorem dX2_init_129 : decode cX2_init 129 = .ok (.newarray .int, 2) := dk_188_10 (dk_at dksX2_init_5 13 rfl rfl)
theorem dX2_init_131 : decode cX2_init 131 = .ok (.putfield 57, 3) := dk_181 0 57 (dk_at dksX2_init_5 15 rfl rfl)
theorem dX2_init_134 : decode cX2_init 134 = .ok (.aload_n 0, 1) := dk_42 (dk_at dksX2_init_5 18 rfl rfl)
theorem dX2_init_135 : decode cX2_init 135 = .ok (.bipush 23, 2) := dk_16 23 (dk_at dksX2_init_5 19 rfl rfl)
theorem dX2_init_137 : decode cX2_init 137 = .ok (.newarray .int, 2) := dk_188_10 (dk_at dksX2_init_5 21 rfl rfl)
theorem dX2_init_139 : decode cX2_init 139 = .ok (.putfield 60, 3) := dk_181 0 60 (dk_at dksX2_init_6 0 rfl rfl)
theorem dX2_init_142 : decode cX2_init 142 = .ok (.aload_n 0, 1) := dk_42 (dk_at dksX2_init_6 3 rfl rfl)
theorem dX2_init_143 : decode cX2_init 143 = .ok (.iconst 5, 1) := dk_8 (dk_at dksX2_init_6 4 rfl rfl)
theorem dX2_init_144 : decode cX2_init 144 = .ok (.newarray .int, 2) := dk_188_10 (dk_at dksX2_init_6 5 rfl rfl)
theorem dX2_init_146 : decode cX2_init 146 = .ok (.putfield 63, 3) := dk_181 0 63 (dk_at dksX2_init_6 7 rfl rfl)
theorem dX2_init_149 : decode cX2_init 149 = .ok (.aload_n 0, 1) := dk_42 (dk_at dksX2_init_6 10 rfl rfl)
theorem dX2_init_150 : decode cX2_init 150 = .ok (.sipush 160, 3) := dk_17 0 160 (dk_at dksX2_init_6 11 rfl rfl)
theorem dX2_init_153 : decode cX2_init 153 = .ok (.newarray .int, 2) := dk_188_10 (dk_at dksX2_init_6 14 rfl rfl)
theorem dX2_init_155 : decode cX2_init 155 = .ok (.putfield 66, 3) := dk_181 0 66 (dk_at dksX2_init_6 16 rfl rfl)
theorem dX2_init_158 : decode cX2_init 158 = .ok (.aload_n 0, 1) := dk_42 (dk_at dksX2_init_6 19 rfl rfl)
theorem dX2_init_159 : decode cX2_init 159 = .ok (.bipush 50, 2) := dk_16 50 (dk_at dksX2_init_6 20 rfl rfl)
theorem dX2_init_161 : decode cX2_init 161 = .ok (.newarray .int, 2) := dk_188_10 (dk_at dksX2_init_6 22 rfl rfl)
theorem dX2_init_163 : decode cX2_init 163 = .ok (.putfield 69, 3) := dk_181 0 69 (dk_at dksX2_init_7 0 rfl rfl)
theorem dX2_init_166 : decode cX2_init 166 = .ok (.aload_n 0, 1) := dk_42 (dk_at dksX2_init_7 3 rfl rfl)
theorem dX2_init_167 : decode cX2_init 167 = .ok (.bipush 24, 2) := dk_16 24 (dk_at dksX2_init_7 4 rfl rfl)
theorem dX2_init_169 : decode cX2_init 169 = .ok (.newarray .int, 2) := dk_188_10 (dk_at dksX2_init_7 6 rfl rfl)
theorem dX2_init_171 : decode cX2_init 171 = .ok (.putfield 72, 3) := dk_181 0 72 (dk_at dksX2_init_7 8 rfl rfl)
theorem dX2_init_174 : decode cX2_init 174 = .ok (.aload_n 0, 1) := dk_42 (dk_at dksX2_init_7 11 rfl rfl)
theorem dX2_init_175 : decode cX2_init 175 = .ok (.bipush 6, 2) := dk_16 6 (dk_at dksX2_init_7 12 rfl rfl)
theorem dX2_init_177 : decode cX2_init 177 = .ok (.newarray .int, 2) := dk_188_10 (dk_at dksX2_init_7 14 rfl rfl)
theorem dX2_init_179 : decode cX2_init 179 = .ok (.putfield 75, 3) := dk_181 0 75 (dk_at dksX2_init_7 16 rfl rfl)
theorem dX2_init_182 : decode cX2_init 182 = .ok (.aload_n 0, 1) := dk_42 (dk_at dksX2_init_7 19 rfl rfl)
theorem dX2_init_183 : decode cX2_init 183 = .ok (.bipush 6, 2) := dk_16 6 (dk_at dksX2_init_7 20 rfl rfl)
theorem dX2_init_185 : decode cX2_init 185 = .ok (.newarray .int, 2) := dk_188_10 (dk_at dksX2_init_7 22 rfl rfl)
theorem dX2_init_187 : decode cX2_init 187 = .ok (.putfield 78, 3) := dk_181 0 78 (dk_at dksX2_init_8 0 rfl rfl)
theorem dX2_init_190 : decode cX2_init 190 = .ok (.aload_n 0, 1) := dk_42 (dk_at dksX2_init_8 3 rfl rfl)
theorem dX2_init_191 : decode cX2_init 191 = .ok (.sipush 360, 3) := dk_17 1 104 (dk_at dksX2_init_8 4 rfl rfl)
theorem dX2_init_194 : decode cX2_init 194 = .ok (.newarray .long, 2) := dk_188_11 (dk_at dksX2_init_8 7 rfl rfl)
theorem dX2_init_196 : decode cX2_init 196 = .ok (.putfield 81, 3) := dk_181 0 81 (dk_at dksX2_init_8 9 rfl rfl)
theorem dX2_init_199 : decode cX2_init 199 = .ok (.aload_n 0, 1) := dk_42 (dk_at dksX2_init_8 12 rfl rfl)
theorem dX2_init_200 : decode cX2_init 200 = .ok (.bipush 15, 2) := dk_16 15 (dk_at dksX2_init_8 13 rfl rfl)
theorem dX2_init_202 : decode cX2_init 202 = .ok (.newarray .int, 2) := dk_188_10 (dk_at dksX2_init_8 15 rfl rfl)
theorem dX2_init_204 : decode cX2_init 204 = .ok (.putfield 85, 3) := dk_181 0 85 (dk_at dksX2_init_8 17 rfl rfl)
theorem dX2_init_207 : decode cX2_init 207 = .ok (.iconst 0, 1) := dk_3 (dk_at dksX2_init_8 20 rfl rfl)
theorem dX2_init_208 : decode cX2_init 208 = .ok (.istore_n 1, 1) := dk_60 (dk_at dksX2_init_8 21 rfl rfl)
theorem dX2_init_209 : decode cX2_init 209 = .ok (.iload_n 1, 1) := dk_27 (dk_at dksX2_init_8 22 rfl rfl)
theorem dX2_init_210 : decode cX2_init 210 = .ok (.bipush 6, 2) := dk_16 6 (dk_at dksX2_init_9 0 rfl rfl)
theorem dX2_init_212 : decode cX2_init 212 = .ok (.if_icmp .ge 16, 3) := dk_162 0 16 (dk_at dksX2_init_9 2 rfl rfl)
theorem dX2_init_215 : decode cX2_init 215 = .ok (.aload_n 0, 1) := dk_42 (dk_at dksX2_init_9 5 rfl rfl)
theorem dX2_init_216 : decode cX2_init 216 = .ok (.getfield 75, 3) := dk_180 0 75 (dk_at dksX2_init_9 6 rfl rfl)
theorem dX2_init_219 : decode cX2_init 219 = .ok (.iload_n 1, 1) := dk_27 (dk_at dksX2_init_9 9 rfl rfl)
theorem dX2_init_220 : decode cX2_init 220 = .ok (.iconst (-1), 1) := dk_2 (dk_at dksX2_init_9 10 rfl rfl)
theorem dX2_init_221 : decode cX2_init 221 = .ok (.iastore, 1) := dk_79 (dk_at dksX2_init_9 11 rfl rfl)
theorem dX2_init_222 : decode cX2_init 222 = .ok (.iinc 1 1, 3) := dk_132 1 1 (dk_at dksX2_init_9 12 rfl rfl)
theorem dX2_init_225 : decode cX2_init 225 = .ok (.goto (-16), 3) := dk_167 255 240 (dk_at dksX2_init_9 15 rfl rfl)
theorem dX2_init_228 : decode cX2_init 228 = .ok (.return_, 1) := dk_177 (dk_at dksX2_init_9 18 rfl rfl)
def dkwX2_owner_1 : List UInt8 := [172, 42, 180, 0, 9, 42, 180, 0, 88, 27, 79, 42, 89, 180, 0, 88, 90, 4, 96, 181, 0, 88, 172]
abbrev dktX2_owner_1 : List UInt8 := dkwX2_owner_1 ++ []
def dkwX2_owner_0 : List UInt8 := [27, 3, 17, 3, 231, 184, 0, 92, 154, 0, 5, 2, 172, 42, 180, 0, 88, 16, 8, 160, 0, 6, 16, 253]
abbrev dktX2_owner_0 : List UInt8 := dkwX2_owner_0 ++ dktX2_owner_1
theorem dksX2_owner_0 : cX2_owner.data.toList.drop 0 = dktX2_owner_0 := by decide +kernel
theorem dksX2_owner_1 : cX2_owner.data.toList.drop 24 = dktX2_owner_1 := dk_seg dksX2_owner_0 24 rfl rfl
theorem dX2_owner_0 : decode cX2_owner 0 = .ok (.iload_n 1, 1) := dk_27 (dk_at dksX2_owner_0 0 rfl rfl)
theorem dX2_owner_1 : decode cX2_owner 1 = .ok (.iconst 0, 1) := dk_3 (dk_at dksX2_owner_0 1 rfl rfl)
theorem dX2_owner_2 : decode cX2_owner 2 = .ok (.sipush 999, 3) := dk_17 3 231 (dk_at dksX2_owner_0 2 rfl rfl)
theorem dX2_owner_5 : decode cX2_owner 5 = .ok (.invokestatic 92, 3) := dk_184 0 92 (dk_at dksX2_owner_0 5 rfl rfl)
theorem dX2_owner_8 : decode cX2_owner 8 = .ok (.ifCond .ne 5, 3) := dk_154 0 5 (dk_at dksX2_owner_0 8 rfl rfl)
theorem dX2_owner_11 : decode cX2_owner 11 = .ok (.iconst (-1), 1) := dk_2 (dk_at dksX2_owner_0 11 rfl rfl)
theorem dX2_owner_12 : decode cX2_owner 12 = .ok (.ireturn, 1) := dk_172 (dk_at dksX2_owner_0 12 rfl rfl)
theorem dX2_owner_13 : decode cX2_owner 13 = .ok (.aload_n 0, 1) := dk_42 (dk_at dksX2_owner_0 13 rfl rfl)
theorem dX2_owner_14 : decode cX2_owner 14 = .ok (.getfield 88, 3) := dk_180 0 88 (dk_at dksX2_owner_0 14 rfl rfl)
theorem dX2_owner_17 : decode cX2_owner 17 = .ok (.bipush 8, 2) := dk_16 8 (dk_at dksX2_owner_0 17 rfl rfl)
theorem dX2_owner_19 : decode cX2_owner 19 = .ok (.if_icmp .ne 6, 3) := dk_160 0 6 (dk_at dksX2_owner_0 19 rfl rfl)
theorem dX2_owner_22 : decode cX2_owner 22 = .ok (.bipush (-3), 2) := dk_16 253 (dk_at dksX2_owner_0 22 rfl rfl)
theorem dX2_owner_24 : decode cX2_owner 24 = .ok (.ireturn, 1) := dk_172 (dk_at dksX2_owner_1 0 rfl rfl)
theorem dX2_owner_25 : decode cX2_owner 25 = .ok (.aload_n 0, 1) := dk_42 (dk_at dksX2_owner_1 1 rfl rfl)
theorem dX2_owner_26 : decode cX2_owner 26 = .ok (.getfield 9, 3) := dk_180 0 9 (dk_at dksX2_owner_1 2 rfl rfl)
theorem dX2_owner_29 : decode cX2_owner 29 = .ok (.aload_n 0, 1) := dk_42 (dk_at dksX2_owner_1 5 rfl rfl)
theorem dX2_owner_30 : decode cX2_owner 30 = .ok (.getfield 88, 3) := dk_180 0 88 (dk_at dksX2_owner_1 6 rfl rfl)
theorem dX2_owner_33 : decode cX2_owner 33 = .ok (.iload_n 1, 1) := dk_27 (dk_at dksX2_owner_1 9 rfl rfl)
theorem dX2_owner_34 : decode cX2_owner 34 = .ok (.iastore, 1) := dk_79 (dk_at dksX2_owner_1 10 rfl rfl)
theorem dX2_owner_35 : decode cX2_owner 35 = .ok (.aload_n 0, 1) := dk_42 (dk_at dksX2_owner_1 11 rfl rfl)
theorem dX2_owner_36 : decode cX2_owner 36 = .ok (.dup, 1) := dk_89 (dk_at dksX2_owner_1 12 rfl rfl)
theorem dX2_owner_37 : decode cX2_owner 37 = .ok (.getfield 88, 3) := dk_180 0 88 (dk_at dksX2_owner_1 13 rfl rfl)
theorem dX2_owner_40 : decode cX2_owner 40 = .ok (.dup_x1, 1) := dk_90 (dk_at dksX2_owner_1 16 rfl rfl)
theorem dX2_owner_41 : decode cX2_owner 41 = .ok (.iconst 1, 1) := dk_4 (dk_at dksX2_owner_1 17 rfl rfl)
theorem dX2_owner_42 : decode cX2_owner 42 = .ok (.iadd, 1) := dk_96 (dk_at dksX2_owner_1 18 rfl rfl)
theorem dX2_owner_43 : decode cX2_owner 43 = .ok (.putfield 88, 3) := dk_181 0 88 (dk_at dksX2_owner_1 19 rfl rfl)
theorem dX2_owner_46 : decode cX2_owner 46 = .ok (.ireturn, 1) := dk_172 (dk_at dksX2_owner_1 22 rfl rfl)
def dkwX2_within_0 : List UInt8 := [26, 27, 161, 0, 12, 26, 28, 163, 0, 7, 4, 167, 0, 4, 3, 172]
abbrev dktX2_within_0 : List UInt8 := dkwX2_within_0 ++ []
theorem dksX2_within_0 : cX2_within.data.toList.drop 0 = dktX2_within_0 := by decide +kernel
theorem dX2_within_0 : decode cX2_within 0 = .ok (.iload_n 0, 1) := dk_26 (dk_at dksX2_within_0 0 rfl rfl)
theorem dX2_within_1 : decode cX2_within 1 = .ok (.iload_n 1, 1) := dk_27 (dk_at dksX2_within_0 1 rfl rfl)
theorem dX2_within_2 : decode cX2_within 2 = .ok (.if_icmp .lt 12, 3) := dk_161 0 12 (dk_at dksX2_within_0 2 rfl rfl)
theorem dX2_within_5 : decode cX2_within 5 = .ok (.iload_n 0, 1) := dk_26 (dk_at dksX2_within_0 5 rfl rfl)
theorem dX2_within_6 : decode cX2_within 6 = .ok (.iload_n 2, 1) := dk_28 (dk_at dksX2_within_0 6 rfl rfl)
theorem dX2_within_7 : decode cX2_within 7 = .ok (.if_icmp .gt 7, 3) := dk_163 0 7 (dk_at dksX2_within_0 7 rfl rfl)
theorem dX2_within_10 : decode cX2_within 10 = .ok (.iconst 1, 1) := dk_4 (dk_at dksX2_within_0 10 rfl rfl)
theorem dX2_within_11 : decode cX2_within 11 = .ok (.goto 4, 3) := dk_167 0 4 (dk_at dksX2_within_0 11 rfl rfl)
theorem dX2_within_14 : decode cX2_within 14 = .ok (.iconst 0, 1) := dk_3 (dk_at dksX2_within_0 14 rfl rfl)
theorem dX2_within_15 : decode cX2_within 15 = .ok (.ireturn, 1) := dk_172 (dk_at dksX2_within_0 15 rfl rfl)
def dkwX2_promise_2 : List UInt8 := [182, 0, 114, 172]
abbrev dktX2_promise_2 : List UInt8 := dkwX2_promise_2 ++ []
def dkwX2_promise_1 : List UInt8 := [180, 0, 96, 16, 14, 160, 0, 8, 16, 253, 167, 0, 17, 42, 27, 28, 29, 16, 10, 108, 29, 16, 10, 112]
abbrev dktX2_promise_1 : List UInt8 := dkwX2_promise_1 ++ dktX2_promise_2
def dkwX2_promise_0 : List UInt8 := [29, 155, 0, 20, 42, 27, 28, 29, 16, 10, 108, 29, 16, 10, 112, 182, 0, 110, 154, 0, 5, 2, 172, 42]
abbrev dktX2_promise_0 : List UInt8 := dkwX2_promise_0 ++ dktX2_promise_1
theorem dksX2_promise_0 : cX2_promise.data.toList.drop 0 = dktX2_promise_0 := by decide +kernel
theorem dksX2_promise_1 : cX2_promise.data.toList.drop 24 = dktX2_promise_1 := dk_seg dksX2_promise_0 24 rfl rfl
theorem dksX2_promise_2 : cX2_promise.data.toList.drop 48 = dktX2_promise_2 := dk_seg dksX2_promise_1 24 rfl rfl
theorem dX2_promise_0 : decode cX2_promise 0 = .ok (.iload_n 3, 1) := dk_29 (dk_at dksX2_promise_0 0 rfl rfl)
theorem dX2_promise_1 : decode cX2_promise 1 = .ok (.ifCond .lt 20, 3) := dk_155 0 20 (dk_at dksX2_promise_0 1 rfl rfl)
theorem dX2_promise_4 : decode cX2_promise 4 = .ok (.aload_n 0, 1) := dk_42 (dk_at dksX2_promise_0 4 rfl rfl)
theorem dX2_promise_5 : decode cX2_promise 5 = .ok (.iload_n 1, 1) := dk_27 (dk_at dksX2_promise_0 5 rfl rfl)
theorem dX2_promise_6 : decode cX2_promise 6 = .ok (.iload_n 2, 1) := dk_28 (dk_at dksX2_promise_0 6 rfl rfl)
theorem dX2_promise_7 : decode cX2_promise 7 = .ok (.iload_n 3, 1) := dk_29 (dk_at dksX2_promise_0 7 rfl rfl)
theorem dX2_promise_8 : decode cX2_promise 8 = .ok (.bipush 10, 2) := dk_16 10 (dk_at dksX2_promise_0 8 rfl rfl)
theorem dX2_promise_10 : decode cX2_promise 10 = .ok (.idiv, 1) := dk_108 (dk_at dksX2_promise_0 10 rfl rfl)
theorem dX2_promise_11 : decode cX2_promise 11 = .ok (.iload_n 3, 1) := dk_29 (dk_at dksX2_promise_0 11 rfl rfl)
theorem dX2_promise_12 : decode cX2_promise 12 = .ok (.bipush 10, 2) := dk_16 10 (dk_at dksX2_promise_0 12 rfl rfl)
theorem dX2_promise_14 : decode cX2_promise 14 = .ok (.irem, 1) := dk_112 (dk_at dksX2_promise_0 14 rfl rfl)
theorem dX2_promise_15 : decode cX2_promise 15 = .ok (.invokevirtual 110, 3) := dk_182 0 110 (dk_at dksX2_promise_0 15 rfl rfl)
theorem dX2_promise_18 : decode cX2_promise 18 = .ok (.ifCond .ne 5, 3) := dk_154 0 5 (dk_at dksX2_promise_0 18 rfl rfl)
theorem dX2_promise_21 : decode cX2_promise 21 = .ok (.iconst (-1), 1) := dk_2 (dk_at dksX2_promise_0 21 rfl rfl)
theorem dX2_promise_22 : decode cX2_promise 22 = .ok (.ireturn, 1) := dk_172 (dk_at dksX2_promise_0 22 rfl rfl)
theorem dX2_promise_23 : decode cX2_promise 23 = .ok (.aload_n 0, 1) := dk_42 (dk_at dksX2_promise_0 23 rfl rfl)
theorem dX2_promise_24 : decode cX2_promise 24 = .ok (.getfield 96, 3) := dk_180 0 96 (dk_at dksX2_promise_1 0 rfl rfl)
theorem dX2_promise_27 : decode cX2_promise 27 = .ok (.bipush 14, 2) := dk_16 14 (dk_at dksX2_promise_1 3 rfl rfl)
theorem dX2_promise_29 : decode cX2_promise 29 = .ok (.if_icmp .ne 8, 3) := dk_160 0 8 (dk_at dksX2_promise_1 5 rfl rfl)
theorem dX2_promise_32 : decode cX2_promise 32 = .ok (.bipush (-3), 2) := dk_16 253 (dk_at dksX2_promise_1 8 rfl rfl)
theorem dX2_promise_34 : decode cX2_promise 34 = .ok (.goto 17, 3) := dk_167 0 17 (dk_at dksX2_promise_1 10 rfl rfl)
theorem dX2_promise_37 : decode cX2_promise 37 = .ok (.aload_n 0, 1) := dk_42 (dk_at dksX2_promise_1 13 rfl rfl)
theorem dX2_promise_38 : decode cX2_promise 38 = .ok (.iload_n 1, 1) := dk_27 (dk_at dksX2_promise_1 14 rfl rfl)
theorem dX2_promise_39 : decode cX2_promise 39 = .ok (.iload_n 2, 1) := dk_28 (dk_at dksX2_promise_1 15 rfl rfl)
theorem dX2_promise_40 : decode cX2_promise 40 = .ok (.iload_n 3, 1) := dk_29 (dk_at dksX2_promise_1 16 rfl rfl)
theorem dX2_promise_41 : decode cX2_promise 41 = .ok (.bipush 10, 2) := dk_16 10 (dk_at dksX2_promise_1 17 rfl rfl)
theorem dX2_promise_43 : decode cX2_promise 43 = .ok (.idiv, 1) := dk_108 (dk_at dksX2_promise_1 19 rfl rfl)
theorem dX2_promise_44 : decode cX2_promise 44 = .ok (.iload_n 3, 1) := dk_29 (dk_at dksX2_promise_1 20 rfl rfl)
theorem dX2_promise_45 : decode cX2_promise 45 = .ok (.bipush 10, 2) := dk_16 10 (dk_at dksX2_promise_1 21 rfl rfl)
theorem dX2_promise_47 : decode cX2_promise 47 = .ok (.irem, 1) := dk_112 (dk_at dksX2_promise_1 23 rfl rfl)
theorem dX2_promise_48 : decode cX2_promise 48 = .ok (.invokevirtual 114, 3) := dk_182 0 114 (dk_at dksX2_promise_2 0 rfl rfl)
theorem dX2_promise_51 : decode cX2_promise 51 = .ok (.ireturn, 1) := dk_172 (dk_at dksX2_promise_2 3 rfl rfl)
def dkwX2_isSuch_2 : List UInt8 := [167, 0, 4, 3, 172]
abbrev dktX2_isSuch_2 : List UInt8 := dkwX2_isSuch_2 ++ []
def dkwX2_isSuch_1 : List UInt8 := [159, 0, 27, 29, 3, 16, 99, 184, 0, 92, 153, 0, 17, 21, 4, 3, 5, 184, 0, 92, 153, 0, 7, 4]
abbrev dktX2_isSuch_1 : List UInt8 := dkwX2_isSuch_1 ++ dktX2_isSuch_2
def dkwX2_isSuch_0 : List UInt8 := [42, 27, 182, 0, 99, 153, 0, 45, 28, 2, 159, 0, 16, 42, 28, 182, 0, 99, 153, 0, 32, 28, 27]
abbrev dktX2_isSuch_0 : List UInt8 := dkwX2_isSuch_0 ++ dktX2_isSuch_1
theorem dksX2_isSuch_0 : cX2_isSuch.data.toList.drop 0 = dktX2_isSuch_0 := by decide +kernel
theorem dksX2_isSuch_1 : cX2_isSuch.data.toList.drop 23 = dktX2_isSuch_1 := dk_seg dksX2_isSuch_0 23 rfl rfl
theorem dksX2_isSuch_2 : cX2_isSuch.data.toList.drop 47 = dktX2_isSuch_2 := dk_seg dksX2_isSuch_1 24 rfl rfl
theorem dX2_isSuch_0 : decode cX2_isSuch 0 = .ok (.aload_n 0, 1) := dk_42 (dk_at dksX2_isSuch_0 0 rfl rfl)
theorem dX2_isSuch_1 : decode cX2_isSuch 1 = .ok (.iload_n 1, 1) := dk_27 (dk_at dksX2_isSuch_0 1 rfl rfl)
theorem dX2_isSuch_2 : decode cX2_isSuch 2 = .ok (.invokevirtual 99, 3) := dk_182 0 99 (dk_at dksX2_isSuch_0 2 rfl rfl)
theorem dX2_isSuch_5 : decode cX2_isSuch 5 = .ok (.ifCond .eq 45, 3) := dk_153 0 45 (dk_at dksX2_isSuch_0 5 rfl rfl)
theorem dX2_isSuch_8 : decode cX2_isSuch 8 = .ok (.iload_n 2, 1) := dk_28 (dk_at dksX2_isSuch_0 8 rfl rfl)
theorem dX2_isSuch_9 : decode cX2_isSuch 9 = .ok (.iconst (-1), 1) := dk_2 (dk_at dksX2_isSuch_0 9 rfl rfl)
theorem dX2_isSuch_10 : decode cX2_isSuch 10 = .ok (.if_icmp .eq 16, 3) := dk_159 0 16 (dk_at dksX2_isSuch_0 10 rfl rfl)
theorem dX2_isSuch_13 : decode cX2_isSuch 13 = .ok (.aload_n 0, 1) := dk_42 (dk_at dksX2_isSuch_0 13 rfl rfl)
theorem dX2_isSuch_14 : decode cX2_isSuch 14 = .ok (.iload_n 2, 1) := dk_28 (dk_at dksX2_isSuch_0 14 rfl rfl)
theorem dX2_isSuch_15 : decode cX2_isSuch 15 = .ok (.invokevirtual 99, 3) := dk_182 0 99 (dk_at dksX2_isSuch_0 15 rfl rfl)
theorem dX2_isSuch_18 : decode cX2_isSuch 18 = .ok (.ifCond .eq 32, 3) := dk_153 0 32 (dk_at dksX2_isSuch_0 18 rfl rfl)
theorem dX2_isSuch_21 : decode cX2_isSuch 21 = .ok (.iload_n 2, 1) := dk_28 (dk_at dksX2_isSuch_0 21 rfl rfl)
theorem dX2_isSuch_22 : decode cX2_isSuch 22 = .ok (.iload_n 1, 1) := dk_27 (dk_at dksX2_isSuch_0 22 rfl rfl)
theorem dX2_isSuch_23 : decode cX2_isSuch 23 = .ok (.if_icmp .eq 27, 3) := dk_159 0 27 (dk_at dksX2_isSuch_1 0 rfl rfl)
theorem dX2_isSuch_26 : decode cX2_isSuch 26 = .ok (.iload_n 3, 1) := dk_29 (dk_at dksX2_isSuch_1 3 rfl rfl)
theorem dX2_isSuch_27 : decode cX2_isSuch 27 = .ok (.iconst 0, 1) := dk_3 (dk_at dksX2_isSuch_1 4 rfl rfl)
theorem dX2_isSuch_28 : decode cX2_isSuch 28 = .ok (.bipush 99, 2) := dk_16 99 (dk_at dksX2_isSuch_1 5 rfl rfl)
theorem dX2_isSuch_30 : decode cX2_isSuch 30 = .ok (.invokestatic 92, 3) := dk_184 0 92 (dk_at dksX2_isSuch_1 7 rfl rfl)
theorem dX2_isSuch_33 : decode cX2_isSuch 33 = .ok (.ifCond .eq 17, 3) := dk_153 0 17 (dk_at dksX2_isSuch_1 10 rfl rfl)
theorem dX2_isSuch_36 : decode cX2_isSuch 36 = .ok (.iload 4, 2) := dk_21 4 (dk_at dksX2_isSuch_1 13 rfl rfl)
theorem dX2_isSuch_38 : decode cX2_isSuch 38 = .ok (.iconst 0, 1) := dk_3 (dk_at dksX2_isSuch_1 15 rfl rfl)
theorem dX2_isSuch_39 : decode cX2_isSuch 39 = .ok (.iconst 2, 1) := dk_5 (dk_at dksX2_isSuch_1 16 rfl rfl)
theorem dX2_isSuch_40 : decode cX2_isSuch 40 = .ok (.invokestatic 92, 3) := dk_184 0 92 (dk_at dksX2_isSuch_1 17 rfl rfl)
theorem dX2_isSuch_43 : decode cX2_isSuch 43 = .ok (.ifCond .eq 7, 3) := dk_153 0 7 (dk_at dksX2_isSuch_1 20 rfl rfl)
theorem dX2_isSuch_46 : decode cX2_isSuch 46 = .ok (.iconst 1, 1) := dk_4 (dk_at dksX2_isSuch_1 23 rfl rfl)
theorem dX2_isSuch_47 : decode cX2_isSuch 47 = .ok (.goto 4, 3) := dk_167 0 4 (dk_at dksX2_isSuch_2 0 rfl rfl)
theorem dX2_isSuch_50 : decode cX2_isSuch 50 = .ok (.iconst 0, 1) := dk_3 (dk_at dksX2_isSuch_2 3 rfl rfl)
theorem dX2_isSuch_51 : decode cX2_isSuch 51 = .ok (.ireturn, 1) := dk_172 (dk_at dksX2_isSuch_2 4 rfl rfl)
def dkwX2_isOwner_0 : List UInt8 := [27, 3, 42, 180, 0, 88, 4, 100, 184, 0, 92, 172]
abbrev dktX2_isOwner_0 : List UInt8 := dkwX2_isOwner_0 ++ []
theorem dksX2_isOwner_0 : cX2_isOwner.data.toList.drop 0 = dktX2_isOwner_0 := by decide +kernel
theorem dX2_isOwner_0 : decode cX2_isOwner 0 = .ok (.iload_n 1, 1) := dk_27 (dk_at dksX2_isOwner_0 0 rfl rfl)
theorem dX2_isOwner_1 : decode cX2_isOwner 1 = .ok (.iconst 0, 1) := dk_3 (dk_at dksX2_isOwner_0 1 rfl rfl)
theorem dX2_isOwner_2 : decode cX2_isOwner 2 = .ok (.aload_n 0, 1) := dk_42 (dk_at dksX2_isOwner_0 2 rfl rfl)
theorem dX2_isOwner_3 : decode cX2_isOwner 3 = .ok (.getfield 88, 3) := dk_180 0 88 (dk_at dksX2_isOwner_0 3 rfl rfl)
theorem dX2_isOwner_6 : decode cX2_isOwner 6 = .ok (.iconst 1, 1) := dk_4 (dk_at dksX2_isOwner_0 6 rfl rfl)
theorem dX2_isOwner_7 : decode cX2_isOwner 7 = .ok (.isub, 1) := dk_100 (dk_at dksX2_isOwner_0 7 rfl rfl)
theorem dX2_isOwner_8 : decode cX2_isOwner 8 = .ok (.invokestatic 92, 3) := dk_184 0 92 (dk_at dksX2_isOwner_0 8 rfl rfl)
theorem dX2_isOwner_11 : decode cX2_isOwner 11 = .ok (.ireturn, 1) := dk_172 (dk_at dksX2_isOwner_0 11 rfl rfl)
def dkwX2_newOne_1 : List UInt8 := [79, 42, 89, 180, 0, 96, 90, 4, 96, 181, 0, 96, 172]
abbrev dktX2_newOne_1 : List UInt8 := dkwX2_newOne_1 ++ []
def dkwX2_newOne_0 : List UInt8 := [42, 42, 180, 0, 96, 27, 28, 29, 21, 4, 16, 30, 182, 0, 106, 42, 180, 0, 57, 3, 92, 46, 4, 96]
abbrev dktX2_newOne_0 : List UInt8 := dkwX2_newOne_0 ++ dktX2_newOne_1
theorem dksX2_newOne_0 : cX2_newOne.data.toList.drop 0 = dktX2_newOne_0 := by decide +kernel
theorem dksX2_newOne_1 : cX2_newOne.data.toList.drop 24 = dktX2_newOne_1 := dk_seg dksX2_newOne_0 24 rfl rfl
theorem dX2_newOne_0 : decode cX2_newOne 0 = .ok (.aload_n 0, 1) := dk_42 (dk_at dksX2_newOne_0 0 rfl rfl)
theorem dX2_newOne_1 : decode cX2_newOne 1 = .ok (.aload_n 0, 1) := dk_42 (dk_at dksX2_newOne_0 1 rfl rfl)
theorem dX2_newOne_2 : decode cX2_newOne 2 = .ok (.getfield 96, 3) := dk_180 0 96 (dk_at dksX2_newOne_0 2 rfl rfl)
theorem dX2_newOne_5 : decode cX2_newOne 5 = .ok (.iload_n 1, 1) := dk_27 (dk_at dksX2_newOne_0 5 rfl rfl)
theorem dX2_newOne_6 : decode cX2_newOne 6 = .ok (.iload_n 2, 1) := dk_28 (dk_at dksX2_newOne_0 6 rfl rfl)
theorem dX2_newOne_7 : decode cX2_newOne 7 = .ok (.iload_n 3, 1) := dk_29 (dk_at dksX2_newOne_0 7 rfl rfl)
theorem dX2_newOne_8 : decode cX2_newOne 8 = .ok (.iload 4, 2) := dk_21 4 (dk_at dksX2_newOne_0 8 rfl rfl)
theorem dX2_newOne_10 : decode cX2_newOne 10 = .ok (.bipush 30, 2) := dk_16 30 (dk_at dksX2_newOne_0 10 rfl rfl)
theorem dX2_newOne_12 : decode cX2_newOne 12 = .ok (.invokevirtual 106, 3) := dk_182 0 106 (dk_at dksX2_newOne_0 12 rfl rfl)
theorem dX2_newOne_15 : decode cX2_newOne 15 = .ok (.aload_n 0, 1) := dk_42 (dk_at dksX2_newOne_0 15 rfl rfl)
theorem dX2_newOne_16 : decode cX2_newOne 16 = .ok (.getfield 57, 3) := dk_180 0 57 (dk_at dksX2_newOne_0 16 rfl rfl)
theorem dX2_newOne_19 : decode cX2_newOne 19 = .ok (.iconst 0, 1) := dk_3 (dk_at dksX2_newOne_0 19 rfl rfl)
theorem dX2_newOne_20 : decode cX2_newOne 20 = .ok (.dup2, 1) := dk_92 (dk_at dksX2_newOne_0 20 rfl rfl)
theorem dX2_newOne_21 : decode cX2_newOne 21 = .ok (.iaload, 1) := dk_46 (dk_at dksX2_newOne_0 21 rfl rfl)
theorem dX2_newOne_22 : decode cX2_newOne 22 = .ok (.iconst 1, 1) := dk_4 (dk_at dksX2_newOne_0 22 rfl rfl)
theorem dX2_newOne_23 : decode cX2_newOne 23 = .ok (.iadd, 1) := dk_96 (dk_at dksX2_newOne_0 23 rfl rfl)
theorem dX2_newOne_24 : decode cX2_newOne 24 = .ok (.iastore, 1) := dk_79 (dk_at dksX2_newOne_1 0 rfl rfl)
theorem dX2_newOne_25 : decode cX2_newOne 25 = .ok (.aload_n 0, 1) := dk_42 (dk_at dksX2_newOne_1 1 rfl rfl)
theorem dX2_newOne_26 : decode cX2_newOne 26 = .ok (.dup, 1) := dk_89 (dk_at dksX2_newOne_1 2 rfl rfl)
theorem dX2_newOne_27 : decode cX2_newOne 27 = .ok (.getfield 96, 3) := dk_180 0 96 (dk_at dksX2_newOne_1 3 rfl rfl)
theorem dX2_newOne_30 : decode cX2_newOne 30 = .ok (.dup_x1, 1) := dk_90 (dk_at dksX2_newOne_1 6 rfl rfl)
theorem dX2_newOne_31 : decode cX2_newOne 31 = .ok (.iconst 1, 1) := dk_4 (dk_at dksX2_newOne_1 7 rfl rfl)
theorem dX2_newOne_32 : decode cX2_newOne 32 = .ok (.iadd, 1) := dk_96 (dk_at dksX2_newOne_1 8 rfl rfl)
theorem dX2_newOne_33 : decode cX2_newOne 33 = .ok (.putfield 96, 3) := dk_181 0 96 (dk_at dksX2_newOne_1 9 rfl rfl)
theorem dX2_newOne_36 : decode cX2_newOne 36 = .ok (.ireturn, 1) := dk_172 (dk_at dksX2_newOne_1 12 rfl rfl)
def dkwX2_becomesOne_2 : List UInt8 := [180, 0, 15, 16, 45, 27, 96, 42, 180, 0, 103, 79, 42, 180, 0, 15, 16, 60, 27, 96, 3, 79, 177]
abbrev dktX2_becomesOne_2 : List UInt8 := dkwX2_becomesOne_2 ++ []
def dkwX2_becomesOne_1 : List UInt8 := [180, 0, 15, 16, 15, 27, 96, 21, 5, 79, 42, 180, 0, 15, 16, 30, 27, 96, 21, 6, 79, 42]
abbrev dktX2_becomesOne_1 : List UInt8 := dkwX2_becomesOne_1 ++ dktX2_becomesOne_2
def dkwX2_becomesOne_0 : List UInt8 := [42, 180, 0, 18, 27, 28, 79, 42, 180, 0, 21, 27, 29, 79, 42, 180, 0, 15, 27, 21, 4, 79, 42]
abbrev dktX2_becomesOne_0 : List UInt8 := dkwX2_becomesOne_0 ++ dktX2_becomesOne_1
theorem dksX2_becomesOne_0 : cX2_becomesOne.data.toList.drop 0 = dktX2_becomesOne_0 := by decide +kernel
theorem dksX2_becomesOne_1 : cX2_becomesOne.data.toList.drop 23 = dktX2_becomesOne_1 := dk_seg dksX2_becomesOne_0 23 rfl rfl
theorem dksX2_becomesOne_2 : cX2_becomesOne.data.toList.drop 45 = dktX2_becomesOne_2 := dk_seg dksX2_becomesOne_1 22 rfl rfl
theorem dX2_becomesOne_0 : decode cX2_becomesOne 0 = .ok (.aload_n 0, 1) := dk_42 (dk_at dksX2_becomesOne_0 0 rfl rfl)
theorem dX2_becomesOne_1 : decode cX2_becomesOne 1 = .ok (.getfield 18, 3) := dk_180 0 18 (dk_at dksX2_becomesOne_0 1 rfl rfl)
theorem dX2_becomesOne_4 : decode cX2_becomesOne 4 = .ok (.iload_n 1, 1) := dk_27 (dk_at dksX2_becomesOne_0 4 rfl rfl)
theorem dX2_becomesOne_5 : decode cX2_becomesOne 5 = .ok (.iload_n 2, 1) := dk_28 (dk_at dksX2_becomesOne_0 5 rfl rfl)
theorem dX2_becomesOne_6 : decode cX2_becomesOne 6 = .ok (.iastore, 1) := dk_79 (dk_at dksX2_becomesOne_0 6 rfl rfl)
theorem dX2_becomesOne_7 : decode cX2_becomesOne 7 = .ok (.aload_n 0, 1) := dk_42 (dk_at dksX2_becomesOne_0 7 rfl rfl)
theorem dX2_becomesOne_8 : decode cX2_becomesOne 8 = .ok (.getfield 21, 3) := dk_180 0 21 (dk_at dksX2_becomesOne_0 8 rfl rfl)
theorem dX2_becomesOne_11 : decode cX2_becomesOne 11 = .ok (.iload_n 1, 1) := dk_27 (dk_at dksX2_becomesOne_0 11 rfl rfl)
theorem dX2_becomesOne_12 : decode cX2_becomesOne 12 = .ok (.iload_n 3, 1) := dk_29 (dk_at dksX2_becomesOne_0 12 rfl rfl)
theorem dX2_becomesOne_13 : decode cX2_becomesOne 13 = .ok (.iastore, 1) := dk_79 (dk_at dksX2_becomesOne_0 13 rfl rfl)
theorem dX2_becomesOne_14 : decode cX2_becomesOne 14 = .ok (.aload_n 0, 1) := dk_42 (dk_at dksX2_becomesOne_0 14 rfl rfl)
theorem dX2_becomesOne_15 : decode cX2_becomesOne 15 = .ok (.getfield 15, 3) := dk_180 0 15 (dk_at dksX2_becomesOne_0 15 rfl rfl)
theorem dX2_becomesOne_18 : decode cX2_becomesOne 18 = .ok (.iload_n 1, 1) := dk_27 (dk_at dksX2_becomesOne_0 18 rfl rfl)
theorem dX2_becomesOne_19 : decode cX2_becomesOne 19 = .ok (.iload 4, 2) := dk_21 4 (dk_at dksX2_becomesOne_0 19 rfl rfl)
theorem dX2_becomesOne_21 : decode cX2_becomesOne 21 = .ok (.iastore, 1) := dk_79 (dk_at dksX2_becomesOne_0 21 rfl rfl)
theorem dX2_becomesOne_22 : decode cX2_becomesOne 22 = .ok (.aload_n 0, 1) := dk_42 (dk_at dksX2_becomesOne_0 22 rfl rfl)
theorem dX2_becomesOne_23 : decode cX2_becomesOne 23 = .ok (.getfield 15, 3) := dk_180 0 15 (dk_at dksX2_becomesOne_1 0 rfl rfl)
theorem dX2_becomesOne_26 : decode cX2_becomesOne 26 = .ok (.bipush 15, 2) := dk_16 15 (dk_at dksX2_becomesOne_1 3 rfl rfl)
theorem dX2_becomesOne_28 : decode cX2_becomesOne 28 = .ok (.iload_n 1, 1) := dk_27 (dk_at dksX2_becomesOne_1 5 rfl rfl)
theorem dX2_becomesOne_29 : decode cX2_becomesOne 29 = .ok (.iadd, 1) := dk_96 (dk_at dksX2_becomesOne_1 6 rfl rfl)
theorem dX2_becomesOne_30 : decode cX2_becomesOne 30 = .ok (.iload 5, 2) := dk_21 5 (dk_at dksX2_becomesOne_1 7 rfl rfl)
theorem dX2_becomesOne_32 : decode cX2_becomesOne 32 = .ok (.iastore, 1) := dk_79 (dk_at dksX2_becomesOne_1 9 rfl rfl)
theorem dX2_becomesOne_33 : decode cX2_becomesOne 33 = .ok (.aload_n 0, 1) := dk_42 (dk_at dksX2_becomesOne_1 10 rfl rfl)
theorem dX2_becomesOne_34 : decode cX2_becomesOne 34 = .ok (.getfield 15, 3) := dk_180 0 15 (dk_at dksX2_becomesOne_1 11 rfl rfl)
theorem dX2_becomesOne_37 : decode cX2_becomesOne 37 = .ok (.bipush 30, 2) := dk_16 30 (dk_at dksX2_becomesOne_1 14 rfl rfl)
theorem dX2_becomesOne_39 : decode cX2_becomesOne 39 = .ok (.iload_n 1, 1) := dk_27 (dk_at dksX2_becomesOne_1 16 rfl rfl)
theorem dX2_becomesOne_40 : decode cX2_becomesOne 40 = .ok (.iadd, 1) := dk_96 (dk_at dksX2_becomesOne_1 17 rfl rfl)
theorem dX2_becomesOne_41 : decode cX2_becomesOne 41 = .ok (.iload 6, 2) := dk_21 6 (dk_at dksX2_becomesOne_1 18 rfl rfl)
theorem dX2_becomesOne_43 : decode cX2_becomesOne 43 = .ok (.iastore, 1) := dk_79 (dk_at dksX2_becomesOne_1 20 rfl rfl)
theorem dX2_becomesOne_44 : decode cX2_becomesOne 44 = .ok (.aload_n 0, 1) := dk_42 (dk_at dksX2_becomesOne_1 21 rfl rfl)
theorem dX2_becomesOne_45 : decode cX2_becomesOne 45 = .ok (.getfield 15, 3) := dk_180 0 15 (dk_at dksX2_becomesOne_2 0 rfl rfl)
theorem dX2_becomesOne_48 : decode cX2_becomesOne 48 = .ok (.bipush 45, 2) := dk_16 45 (dk_at dksX2_becomesOne_2 3 rfl rfl)
theorem dX2_becomesOne_50 : decode cX2_becomesOne 50 = .ok (.iload_n 1, 1) := dk_27 (dk_at dksX2_becomesOne_2 5 rfl rfl)
theorem dX2_becomesOne_51 : decode cX2_becomesOne 51 = .ok (.iadd, 1) := dk_96 (dk_at dksX2_becomesOne_2 6 rfl rfl)
theorem dX2_becomesOne_52 : decode cX2_becomesOne 52 = .ok (.aload_n 0, 1) := dk_42 (dk_at dksX2_becomesOne_2 7 rfl rfl)
theorem dX2_becomesOne_53 : decode cX2_becomesOne 53 = .ok (.getfield 103, 3) := dk_180 0 103 (dk_at dksX2_becomesOne_2 8 rfl rfl)
theorem dX2_becomesOne_56 : decode cX2_becomesOne 56 = .ok (.iastore, 1) := dk_79 (dk_at dksX2_becomesOne_2 11 rfl rfl)
theorem dX2_becomesOne_57 : decode cX2_becomesOne 57 = .ok (.aload_n 0, 1) := dk_42 (dk_at dksX2_becomesOne_2 12 rfl rfl)
theorem dX2_becomesOne_58 : decode cX2_becomesOne 58 = .ok (.getfield 15, 3) := dk_180 0 15 (dk_at dksX2_becomesOne_2 13 rfl rfl)
theorem dX2_becomesOne_61 : decode cX2_becomesOne 61 = .ok (.bipush 60, 2) := dk_16 60 (dk_at dksX2_becomesOne_2 16 rfl rfl)
theorem dX2_becomesOne_63 : decode cX2_becomesOne 63 = .ok (.iload_n 1, 1) := dk_27 (dk_at dksX2_becomesOne_2 18 rfl rfl)
theorem dX2_becomesOne_64 : decode cX2_becomesOne 64 = .ok (.iadd, 1) := dk_96 (dk_at dksX2_becomesOne_2 19 rfl rfl)
theorem dX2_becomesOne_65 : decode cX2_becomesOne 65 = .ok (.iconst 0, 1) := dk_3 (dk_at dksX2_becomesOne_2 20 rfl rfl)
theorem dX2_becomesOne_66 : decode cX2_becomesOne 66 = .ok (.iastore, 1) := dk_79 (dk_at dksX2_becomesOne_2 21 rfl rfl)
theorem dX2_becomesOne_67 : decode cX2_becomesOne 67 = .ok (.return_, 1) := dk_177 (dk_at dksX2_becomesOne_2 22 rfl rfl)
def dkwX2_promises_8 : List UInt8 := [182, 0, 114, 87, 132, 4, 1, 132, 5, 1, 167, 255, 108, 21, 4, 172]
abbrev dktX2_promises_8 : List UInt8 := dkwX2_promises_8 ++ []
def dkwX2_promises_7 : List UInt8 := [4, 96, 182, 0, 123, 42, 27, 21, 8, 5, 96, 182, 0, 123, 42, 27, 21, 8, 6, 96, 182, 0, 123]
abbrev dktX2_promises_7 : List UInt8 := dkwX2_promises_7 ++ dktX2_promises_8
def dkwX2_promises_6 : List UInt8 := [182, 0, 123, 182, 0, 110, 154, 0, 6, 21, 4, 172, 42, 42, 27, 21, 8, 182, 0, 123, 42, 27, 21, 8]
abbrev dktX2_promises_6 : List UInt8 := dkwX2_promises_6 ++ dktX2_promises_7
def dkwX2_promises_5 : List UInt8 := [21, 8, 4, 96, 182, 0, 123, 42, 27, 21, 8, 5, 96, 182, 0, 123, 42, 27, 21, 8, 6, 96]
abbrev dktX2_promises_5 : List UInt8 := dkwX2_promises_5 ++ dktX2_promises_6
def dkwX2_promises_4 : List UInt8 := [16, 14, 160, 0, 6, 21, 4, 172, 22, 6, 136, 54, 8, 42, 42, 27, 21, 8, 182, 0, 123, 42, 27]
abbrev dktX2_promises_4 : List UInt8 := dkwX2_promises_4 ++ dktX2_promises_5
def dkwX2_promises_3 : List UInt8 := [155, 0, 29, 22, 6, 20, 0, 121, 97, 42, 180, 0, 78, 27, 46, 133, 148, 157, 0, 12, 42, 180, 0, 96]
abbrev dktX2_promises_3 : List UInt8 := dkwX2_promises_3 ++ dktX2_promises_4
def dkwX2_promises_2 : List UInt8 := [54, 5, 21, 5, 29, 162, 0, 148, 28, 133, 20, 0, 121, 21, 5, 133, 105, 97, 55, 6, 22, 6, 9, 148]
abbrev dktX2_promises_2 : List UInt8 := dkwX2_promises_2 ++ dktX2_promises_3
def dkwX2_promises_1 : List UInt8 := [46, 2, 160, 0, 5, 3, 172, 42, 180, 0, 75, 27, 46, 153, 0, 6, 16, 244, 172, 3, 54, 4, 3]
abbrev dktX2_promises_1 : List UInt8 := dkwX2_promises_1 ++ dktX2_promises_2
def dkwX2_promises_0 : List UInt8 := [27, 184, 0, 118, 153, 0, 13, 29, 4, 16, 14, 184, 0, 92, 154, 0, 5, 2, 172, 42, 180, 0, 75, 27]
abbrev dktX2_promises_0 : List UInt8 := dkwX2_promises_0 ++ dktX2_promises_1
theorem dksX2_promises_0 : cX2_promises.data.toList.drop 0 = dktX2_promises_0 := by decide +kernel
theorem dksX2_promises_1 : cX2_promises.data.toList.drop 24 = dktX2_promises_1 := dk_seg dksX2_promises_0 24 rfl rfl
theorem dksX2_promises_2 : cX2_promises.data.toList.drop 47 = dktX2_promises_2 := dk_seg dksX2_promises_1 23 rfl rfl
theorem dksX2_promises_3 : cX2_promises.data.toList.drop 71 = dktX2_promises_3 := dk_seg dksX2_promises_2 24 rfl rfl
theorem dksX2_promises_4 : cX2_promises.data.toList.drop 95 = dktX2_promises_4 := dk_seg dksX2_promises_3 24 rfl rfl
theorem dksX2_promises_5 : cX2_promises.data.toList.drop 118 = dktX2_promises_5 := dk_seg dksX2_promises_4 23 rfl rfl
theorem dksX2_promises_6 : cX2_promises.data.toList.drop 140 = dktX2_promises_6 := dk_seg dksX2_promises_5 22 rfl rfl
theorem dksX2_promises_7 : cX2_promises.data.toList.drop 164 = dktX2_promises_7 := dk_seg dksX2_promises_6 24 rfl rfl
theorem dksX2_promises_8 : cX2_promises.data.toList.drop 187 = dktX2_promises_8 := dk_seg dksX2_promises_7 23 rfl rfl
theorem dX2_promises_0 : decode cX2_promises 0 = .ok (.iload_n 1, 1) := dk_27 (dk_at dksX2_promises_0 0 rfl rfl)
theorem dX2_promises_1 : decode cX2_promises 1 = .ok (.invokestatic 118, 3) := dk_184 0 118 (dk_at dksX2_promises_0 1 rfl rfl)
theorem dX2_promises_4 : decode cX2_promises 4 = .ok (.ifCond .eq 13, 3) := dk_153 0 13 (dk_at dksX2_promises_0 4 rfl rfl)
theorem dX2_promises_7 : decode cX2_promises 7 = .ok (.iload_n 3, 1) := dk_29 (dk_at dksX2_promises_0 7 rfl rfl)
theorem dX2_promises_8 : decode cX2_promises 8 = .ok (.iconst 1, 1) := dk_4 (dk_at dksX2_promises_0 8 rfl rfl)
theorem dX2_promises_9 : decode cX2_promises 9 = .ok (.bipush 14, 2) := dk_16 14 (dk_at dksX2_promises_0 9 rfl rfl)
theorem dX2_promises_11 : decode cX2_promises 11 = .ok (.invokestatic 92, 3) := dk_184 0 92 (dk_at dksX2_promises_0 11 rfl rfl)
theorem dX2_promises_14 : decode cX2_promises 14 = .ok (.ifCond .ne 5, 3) := dk_154 0 5 (dk_at dksX2_promises_0 14 rfl rfl)
theorem dX2_promises_17 : decode cX2_promises 17 = .ok (.iconst (-1), 1) := dk_2 (dk_at dksX2_promises_0 17 rfl rfl)
theorem dX2_promises_18 : decode cX2_promises 18 = .ok (.ireturn, 1) := dk_172 (dk_at dksX2_promises_0 18 rfl rfl)
theorem dX2_promises_19 : decode cX2_promises 19 = .ok (.aload_n 0, 1) := dk_42 (dk_at dksX2_promises_0 19 rfl rfl)
theorem dX2_promises_20 : decode cX2_promises 20 = .ok (.getfield 75, 3) := dk_180 0 75 (dk_at dksX2_promises_0 20 rfl rfl)
theorem dX2_promises_23 : decode cX2_promises 23 = .ok (.iload_n 1, 1) := dk_27 (dk_at dksX2_promises_0 23 rfl rfl)
theorem dX2_promises_24 : decode cX2_promises 24 = .ok (.iaload, 1) := dk_46 (dk_at dksX2_promises_1 0 rfl rfl)
theorem dX2_promises_25 : decode cX2_promises 25 = .ok (.iconst (-1), 1) := dk_2 (dk_at dksX2_promises_1 1 rfl rfl)
theorem dX2_promises_26 : decode cX2_promises 26 = .ok (.if_icmp .ne 5, 3) := dk_160 0 5 (dk_at dksX2_promises_1 2 rfl rfl)
theorem dX2_promises_29 : decode cX2_promises 29 = .ok (.iconst 0, 1) := dk_3 (dk_at dksX2_promises_1 5 rfl rfl)
theorem dX2_promises_30 : decode cX2_promises 30 = .ok (.ireturn, 1) := dk_172 (dk_at dksX2_promises_1 6 rfl rfl)
theorem dX2_promises_31 : decode cX2_promises 31 = .ok (.aload_n 0, 1) := dk_42 (dk_at dksX2_promises_1 7 rfl rfl)
theorem dX2_promises_32 : decode cX2_promises 32 = .ok (.getfield 75, 3) := dk_180 0 75 (dk_at dksX2_promises_1 8 rfl rfl)
theorem dX2_promises_35 : decode cX2_promises 35 = .ok (.iload_n 1, 1) := dk_27 (dk_at dksX2_promises_1 11 rfl rfl)
theorem dX2_promises_36 : decode cX2_promises 36 = .ok (.iaload, 1) := dk_46 (dk_at dksX2_promises_1 12 rfl rfl)
theorem dX2_promises_37 : decode cX2_promises 37 = .ok (.ifCond .eq 6, 3) := dk_153 0 6 (dk_at dksX2_promises_1 13 rfl rfl)
theorem dX2_promises_40 : decode cX2_promises 40 = .ok (.bipush (-12), 2) := dk_16 244 (dk_at dksX2_promises_1 16 rfl rfl)
theorem dX2_promises_42 : decode cX2_promises 42 = .ok (.ireturn, 1) := dk_172 (dk_at dksX2_promises_1 18 rfl rfl)
theorem dX2_promises_43 : decode cX2_promises 43 = .ok (.iconst 0, 1) := dk_3 (dk_at dksX2_promises_1 19 rfl rfl)
theorem dX2_promises_44 : decode cX2_promises 44 = .ok (.istore 4, 2) := dk_54 4 (dk_at dksX2_promises_1 20 rfl rfl)
theorem dX2_promises_46 : decode cX2_promises 46 = .ok (.iconst 0, 1) := dk_3 (dk_at dksX2_promises_1 22 rfl rfl)
theorem dX2_promises_47 : decode cX2_promises 47 = .ok (.istore 5, 2) := dk_54 5 (dk_at dksX2_promises_2 0 rfl rfl)
theorem dX2_promises_49 : decode cX2_promises 49 = .ok (.iload 5, 2) := dk_21 5 (dk_at dksX2_promises_2 2 rfl rfl)
theorem dX2_promises_51 : decode cX2_promises 51 = .ok (.iload_n 3, 1) := dk_29 (dk_at dksX2_promises_2 4 rfl rfl)
theorem dX2_promises_52 : decode cX2_promises 52 = .ok (.if_icmp .ge 148, 3) := dk_162 0 148 (dk_at dksX2_promises_2 5 rfl rfl)
theorem dX2_promises_55 : decode cX2_promises 55 = .ok (.iload_n 2, 1) := dk_28 (dk_at dksX2_promises_2 8 rfl rfl)
theorem dX2_promises_56 : decode cX2_promises 56 = .ok (.i2l, 1) := dk_133 (dk_at dksX2_promises_2 9 rfl rfl)
theorem dX2_promises_57 : decode cX2_promises 57 = .ok (.ldc2_w 121, 3) := dk_20 0 121 (dk_at dksX2_promises_2 10 rfl rfl)
theorem dX2_promises_60 : decode cX2_promises 60 = .ok (.iload 5, 2) := dk_21 5 (dk_at dksX2_promises_2 13 rfl rfl)
theorem dX2_promises_62 : decode cX2_promises 62 = .ok (.i2l, 1) := dk_133 (dk_at dksX2_promises_2 15 rfl rfl)
theorem dX2_promises_63 : decode cX2_promises 63 = .ok (.lmul, 1) := dk_105 (dk_at dksX2_promises_2 16 rfl rfl)
theorem dX2_promises_64 : decode cX2_promises 64 = .ok (.ladd, 1) := dk_97 (dk_at dksX2_promises_2 17 rfl rfl)
theorem dX2_promises_65 : decode cX2_promises 65 = .ok (.lstore 6, 2) := dk_55 6 (dk_at dksX2_promises_2 18 rfl rfl)
theorem dX2_promises_67 : decode cX2_promises 67 = .ok (.lload 6, 2) := dk_22 6 (dk_at dksX2_promises_2 20 rfl rfl)
theorem dX2_promises_69 : decode cX2_promises 69 = .ok (.lconst 0, 1) := dk_9 (dk_at dksX2_promises_2 22 rfl rfl)
theorem dX2_promises_70 : decode cX2_promises 70 = .ok (.lcmp, 1) := dk_148 (dk_at dksX2_promises_2 23 rfl rfl)
theorem dX2_promises_71 : decode cX2_promises 71 = .ok (.ifCond .lt 29, 3) := dk_155 0 29 (dk_at dksX2_promises_3 0 rfl rfl)
theorem dX2_promises_74 : decode cX2_promises 74 = .ok (.lload 6, 2) := dk_22 6 (dk_at dksX2_promises_3 3 rfl rfl)
theorem dX2_promises_76 : decode cX2_promises 76 = .ok (.ldc2_w 121, 3) := dk_20 0 121 (dk_at dksX2_promises_3 5 rfl rfl)
theorem dX2_promises_79 : decode cX2_promises 79 = .ok (.ladd, 1) := dk_97 (dk_at dksX2_promises_3 8 rfl rfl)
theorem dX2_promises_80 : decode cX2_promises 80 = .ok (.aload_n 0, 1) := dk_42 (dk_at dksX2_promises_3 9 rfl rfl)
theorem dX2_promises_81 : decode cX2_promises 81 = .ok (.getfield 78, 3) := dk_180 0 78 (dk_at dksX2_promises_3 10 rfl rfl)
theorem dX2_promises_84 : decode cX2_promises 84 = .ok (.iload_n 1, 1) := dk_27 (dk_at dksX2_promises_3 13 rfl rfl)
theorem dX2_promises_85 : decode cX2_promises 85 = .ok (.iaload, 1) := dk_46 (dk_at dksX2_promises_3 14 rfl rfl)
theorem dX2_promises_86 : decode cX2_promises 86 = .ok (.i2l, 1) := dk_133 (dk_at dksX2_promises_3 15 rfl rfl)
theorem dX2_promises_87 : decode cX2_promises 87 = .ok (.lcmp, 1) := dk_148 (dk_at dksX2_promises_3 16 rfl rfl)
theorem dX2_promises_88 : decode cX2_promises 88 = .ok (.ifCond .gt 12, 3) := dk_157 0 12 (dk_at dksX2_promises_3 17 rfl rfl)
theorem dX2_promises_91 : decode cX2_promises 91 = .ok (.aload_n 0, 1) := dk_42 (dk_at dksX2_promises_3 20 rfl rfl)
theorem dX2_promises_92 : decode cX2_promises 92 = .ok (.getfield 96, 3) := dk_180 0 96 (dk_at dksX2_promises_3 21 rfl rfl)
theorem dX2_promises_95 : decode cX2_promises 95 = .ok (.bipush 14, 2) := dk_16 14 (dk_at dksX2_promises_4 0 rfl rfl)
theorem dX2_promises_97 : decode cX2_promises 97 = .ok (.if_icmp .ne 6, 3) := dk_160 0 6 (dk_at dksX2_promises_4 2 rfl rfl)
theorem dX2_promises_100 : decode cX2_promises 100 = .ok (.iload 4, 2) := dk_21 4 (dk_at dksX2_promises_4 5 rfl rfl)
theorem dX2_promises_102 : decode cX2_promises 102 = .ok (.ireturn, 1) := dk_172 (dk_at dksX2_promises_4 7 rfl rfl)
theorem dX2_promises_103 : decode cX2_promises 103 = .ok (.lload 6, 2) := dk_22 6 (dk_at dksX2_promises_4 8 rfl rfl)
theorem dX2_promises_105 : decode cX2_promises 105 = .ok (.l2i, 1) := dk_136 (dk_at dksX2_promises_4 10 rfl rfl)
theorem dX2_promises_106 : decode cX2_promises 106 = .ok (.istore 8, 2) := dk_54 8 (dk_at dksX2_promises_4 11 rfl rfl)
theorem dX2_promises_108 : decode cX2_promises 108 = .ok (.aload_n 0, 1) := dk_42 (dk_at dksX2_promises_4 13 rfl rfl)
theorem dX2_promises_109 : decode cX2_promises 109 = .ok (.aload_n 0, 1) := dk_42 (dk_at dksX2_promises_4 14 rfl rfl)
theorem dX2_promises_110 : decode cX2_promises 110 = .ok (.iload_n 1, 1) := dk_27 (dk_at dksX2_promises_4 15 rfl rfl)
theorem dX2_promises_111 : decode cX2_promises 111 = .ok (.iload 8, 2) := dk_21 8 (dk_at dksX2_promises_4 16 rfl rfl)
theorem dX2_promises_113 : decode cX2_promises 113 = .ok (.invokevirtual 123, 3) := dk_182 0 123 (dk_at dksX2_promises_4 18 rfl rfl)
theorem dX2_promises_116 : decode cX2_promises 116 = .ok (.aload_n 0, 1) := dk_42 (dk_at dksX2_promises_4 21 rfl rfl)
theorem dX2_promises_117 : decode cX2_promises 117 = .ok (.iload_n 1, 1) := dk_27 (dk_at dksX2_promises_4 22 rfl rfl)
theorem dX2_promises_118 : decode cX2_promises 118 = .ok (.iload 8, 2) := dk_21 8 (dk_at dksX2_promises_5 0 rfl rfl)
theorem dX2_promises_120 : decode cX2_promises 120 = .ok (.iconst 1, 1) := dk_4 (dk_at dksX2_promises_5 2 rfl rfl)
theorem dX2_promises_121 : decode cX2_promises 121 = .ok (.iadd, 1) := dk_96 (dk_at dksX2_promises_5 3 rfl rfl)
theorem dX2_promises_122 : decode cX2_promises 122 = .ok (.invokevirtual 123, 3) := dk_182 0 123 (dk_at dksX2_promises_5 4 rfl rfl)
theorem dX2_promises_125 : decode cX2_promises 125 = .ok (.aload_n 0, 1) := dk_42 (dk_at dksX2_promises_5 7 rfl rfl)
theorem dX2_promises_126 : decode cX2_promises 126 = .ok (.iload_n 1, 1) := dk_27 (dk_at dksX2_promises_5 8 rfl rfl)
theorem dX2_promises_127 : decode cX2_promises 127 = .ok (.iload 8, 2) := dk_21 8 (dk_at dksX2_promises_5 9 rfl rfl)
theorem dX2_promises_129 : decode cX2_promises 129 = .ok (.iconst 2, 1) := dk_5 (dk_at dksX2_promises_5 11 rfl rfl)
theorem dX2_promises_130 : decode cX2_promises 130 = .ok (.iadd, 1) := dk_96 (dk_at dksX2_promises_5 12 rfl rfl)
theorem dX2_promises_131 : decode cX2_promises 131 = .ok (.invokevirtual 123, 3) := dk_182 0 123 (dk_at dksX2_promises_5 13 rfl rfl)
theorem dX2_promises_134 : decode cX2_promises 134 = .ok (.aload_n 0, 1) := dk_42 (dk_at dksX2_promises_5 16 rfl rfl)
theorem dX2_promises_135 : decode cX2_promises 135 = .ok (.iload_n 1, 1) := dk_27 (dk_at dksX2_promises_5 17 rfl rfl)
theorem dX2_promises_136 : decode cX2_promises 136 = .ok (.iload 8, 2) := dk_21 8 (dk_at dksX2_promises_5 18 rfl rfl)
theorem dX2_promises_138 : decode cX2_promises 138 = .ok (.iconst 3, 1) := dk_6 (dk_at dksX2_promises_5 20 rfl rfl)
theorem dX2_promises_139 : decode cX2_promises 139 = .ok (.iadd, 1) := dk_96 (dk_at dksX2_promises_5 21 rfl rfl)
theorem dX2_promises_140 : decode cX2_promises 140 = .ok (.invokevirtual 123, 3) := dk_182 0 123 (dk_at dksX2_promises_6 0 rfl rfl)
theorem dX2_promises_143 : decode cX2_promises 143 = .ok (.invokevirtual 110, 3) := dk_182 0 110 (dk_at dksX2_promises_6 3 rfl rfl)
theorem dX2_promises_146 : decode cX2_promises 146 = .ok (.ifCond .ne 6, 3) := dk_154 0 6 (dk_at dksX2_promises_6 6 rfl rfl)
theorem dX2_promises_149 : decode cX2_promises 149 = .ok (.iload 4, 2) := dk_21 4 (dk_at dksX2_promises_6 9 rfl rfl)
theorem dX2_promises_151 : decode cX2_promises 151 = .ok (.ireturn, 1) := dk_172 (dk_at dksX2_promises_6 11 rfl rfl)
theorem dX2_promises_152 : decode cX2_promises 152 = .ok (.aload_n 0, 1) := dk_42 (dk_at dksX2_promises_6 12 rfl rfl)
theorem dX2_promises_153 : decode cX2_promises 153 = .ok (.aload_n 0, 1) := dk_42 (dk_at dksX2_promises_6 13 rfl rfl)
theorem dX2_promises_154 : decode cX2_promises 154 = .ok (.iload_n 1, 1) := dk_27 (dk_at dksX2_promises_6 14 rfl rfl)
theorem dX2_promises_155 : decode cX2_promises 155 = .ok (.iload 8, 2) := dk_21 8 (dk_at dksX2_promises_6 15 rfl rfl)
theorem dX2_promises_157 : decode cX2_promises 157 = .ok (.invokevirtual 123, 3) := dk_182 0 123 (dk_at dksX2_promises_6 17 rfl rfl)
theorem dX2_promises_160 : decode cX2_promises 160 = .ok (.aload_n 0, 1) := dk_42 (dk_at dksX2_promises_6 20 rfl rfl)
theorem dX2_promises_161 : decode cX2_promises 161 = .ok (.iload_n 1, 1) := dk_27 (dk_at dksX2_promises_6 21 rfl rfl)
theorem dX2_promises_162 : decode cX2_promises 162 = .ok (.iload 8, 2) := dk_21 8 (dk_at dksX2_promises_6 22 rfl rfl)
theorem dX2_promises_164 : decode cX2_promises 164 = .ok (.iconst 1, 1) := dk_4 (dk_at dksX2_promises_7 0 rfl rfl)
theorem dX2_promises_165 : decode cX2_promises 165 = .ok (.iadd, 1) := dk_96 (dk_at dksX2_promises_7 1 rfl rfl)
theorem dX2_promises_166 : decode cX2_promises 166 = .ok (.invokevirtual 123, 3) := dk_182 0 123 (dk_at dksX2_promises_7 2 rfl rfl)
theorem dX2_promises_169 : decode cX2_promises 169 = .ok (.aload_n 0, 1) := dk_42 (dk_at dksX2_promises_7 5 rfl rfl)
theorem dX2_promises_170 : decode cX2_promises 170 = .ok (.iload_n 1, 1) := dk_27 (dk_at dksX2_promises_7 6 rfl rfl)
theorem dX2_promises_171 : decode cX2_promises 171 = .ok (.iload 8, 2) := dk_21 8 (dk_at dksX2_promises_7 7 rfl rfl)
theorem dX2_promises_173 : decode cX2_promises 173 = .ok (.iconst 2, 1) := dk_5 (dk_at dksX2_promises_7 9 rfl rfl)
theorem dX2_promises_174 : decode cX2_promises 174 = .ok (.iadd, 1) := dk_96 (dk_at dksX2_promises_7 10 rfl rfl)
theorem dX2_promises_175 : decode cX2_promises 175 = .ok (.invokevirtual 123, 3) := dk_182 0 123 (dk_at dksX2_promises_7 11 rfl rfl)
theorem dX2_promises_178 : decode cX2_promises 178 = .ok (.aload_n 0, 1) := dk_42 (dk_at dksX2_promises_7 14 rfl rfl)
theorem dX2_promises_179 : decode cX2_promises 179 = .ok (.iload_n 1, 1) := dk_27 (dk_at dksX2_promises_7 15 rfl rfl)
theorem dX2_promises_180 : decode cX2_promises 180 = .ok (.iload 8, 2) := dk_21 8 (dk_at dksX2_promises_7 16 rfl rfl)
theorem dX2_promises_182 : decode cX2_promises 182 = .ok (.iconst 3, 1) := dk_6 (dk_at dksX2_promises_7 18 rfl rfl)
theorem dX2_promises_183 : decode cX2_promises 183 = .ok (.iadd, 1) := dk_96 (dk_at dksX2_promises_7 19 rfl rfl)
theorem dX2_promises_184 : decode cX2_promises 184 = .ok (.invokevirtual 123, 3) := dk_182 0 123 (dk_at dksX2_promises_7 20 rfl rfl)
theorem dX2_promises_187 : decode cX2_promises 187 = .ok (.invokevirtual 114, 3) := dk_182 0 114 (dk_at dksX2_promises_8 0 rfl rfl)
theorem dX2_promises_190 : decode cX2_promises 190 = .ok (.pop, 1) := dk_87 (dk_at dksX2_promises_8 3 rfl rfl)
theorem dX2_promises_191 : decode cX2_promises 191 = .ok (.iinc 4 1, 3) := dk_132 4 1 (dk_at dksX2_promises_8 4 rfl rfl)
theorem dX2_promises_194 : decode cX2_promises 194 = .ok (.iinc 5 1, 3) := dk_132 5 1 (dk_at dksX2_promises_8 7 rfl rfl)
theorem dX2_promises_197 : decode cX2_promises 197 = .ok (.goto (-148), 3) := dk_167 255 108 (dk_at dksX2_promises_8 10 rfl rfl)
theorem dX2_promises_200 : decode cX2_promises 200 = .ok (.iload 4, 2) := dk_21 4 (dk_at dksX2_promises_8 13 rfl rfl)
theorem dX2_promises_202 : decode cX2_promises 202 = .ok (.ireturn, 1) := dk_172 (dk_at dksX2_promises_8 15 rfl rfl)
def dkwX2_isShelf_0 : List UInt8 := [26, 3, 8, 184, 0, 92, 172]
abbrev dktX2_isShelf_0 : List UInt8 := dkwX2_isShelf_0 ++ []
theorem dksX2_isShelf_0 : cX2_isShelf.data.toList.drop 0 = dktX2_isShelf_0 := by decide +kernel
theorem dX2_isShelf_0 : decode cX2_isShelf 0 = .ok (.iload_n 0, 1) := dk_26 (dk_at dksX2_isShelf_0 0 rfl rfl)
theorem dX2_isShelf_1 : decode cX2_isShelf 1 = .ok (.iconst 0, 1) := dk_3 (dk_at dksX2_isShelf_0 1 rfl rfl)
theorem dX2_isShelf_2 : decode cX2_isShelf 2 = .ok (.iconst 5, 1) := dk_8 (dk_at dksX2_isShelf_0 2 rfl rfl)
theorem dX2_isShelf_3 : decode cX2_isShelf 3 = .ok (.invokestatic 92, 3) := dk_184 0 92 (dk_at dksX2_isShelf_0 3 rfl rfl)
theorem dX2_isShelf_6 : decode cX2_isShelf 6 = .ok (.ireturn, 1) := dk_172 (dk_at dksX2_isShelf_0 6 rfl rfl)
def dkwX2_toldAt_0 : List UInt8 := [42, 180, 0, 81, 16, 60, 27, 104, 28, 96, 47, 136, 172]
abbrev dktX2_toldAt_0 : List UInt8 := dkwX2_toldAt_0 ++ []
theorem dksX2_toldAt_0 : cX2_toldAt.data.toList.drop 0 = dktX2_toldAt_0 := by decide +kernel
theorem dX2_toldAt_0 : decode cX2_toldAt 0 = .ok (.aload_n 0, 1) := dk_42 (dk_at dksX2_toldAt_0 0 rfl rfl)
theorem dX2_toldAt_1 : decode cX2_toldAt 1 = .ok (.getfield 81, 3) := dk_180 0 81 (dk_at dksX2_toldAt_0 1 rfl rfl)
theorem dX2_toldAt_4 : decode cX2_toldAt 4 = .ok (.bipush 60, 2) := dk_16 60 (dk_at dksX2_toldAt_0 4 rfl rfl)
theorem dX2_toldAt_6 : decode cX2_toldAt 6 = .ok (.iload_n 1, 1) := dk_27 (dk_at dksX2_toldAt_0 6 rfl rfl)
theorem dX2_toldAt_7 : decode cX2_toldAt 7 = .ok (.imul, 1) := dk_104 (dk_at dksX2_toldAt_0 7 rfl rfl)
theorem dX2_toldAt_8 : decode cX2_toldAt 8 = .ok (.iload_n 2, 1) := dk_28 (dk_at dksX2_toldAt_0 8 rfl rfl)
theorem dX2_toldAt_9 : decode cX2_toldAt 9 = .ok (.iadd, 1) := dk_96 (dk_at dksX2_toldAt_0 9 rfl rfl)
theorem dX2_toldAt_10 : decode cX2_toldAt 10 = .ok (.laload, 1) := dk_47 (dk_at dksX2_toldAt_0 10 rfl rfl)
theorem dX2_toldAt_11 : decode cX2_toldAt 11 = .ok (.l2i, 1) := dk_136 (dk_at dksX2_toldAt_0 11 rfl rfl)
theorem dX2_toldAt_12 : decode cX2_toldAt 12 = .ok (.ireturn, 1) := dk_172 (dk_at dksX2_toldAt_0 12 rfl rfl)
def dkwX2_mend_7 : List UInt8 := [42, 180, 0, 145, 181, 0, 148, 21, 4, 172]
abbrev dktX2_mend_7 : List UInt8 := dkwX2_mend_7 ++ []
def dkwX2_mend_6 : List UInt8 := [180, 0, 66, 7, 42, 180, 0, 145, 104, 6, 96, 29, 79, 42, 89, 180, 0, 145, 4, 96, 181, 0, 145, 42]
abbrev dktX2_mend_6 : List UInt8 := dkwX2_mend_6 ++ dktX2_mend_7
def dkwX2_mend_5 : List UInt8 := [180, 0, 145, 104, 4, 96, 28, 79, 42, 180, 0, 66, 7, 42, 180, 0, 145, 104, 5, 96, 21, 4, 79, 42]
abbrev dktX2_mend_5 : List UInt8 := dkwX2_mend_5 ++ dktX2_mend_6
def dkwX2_mend_4 : List UInt8 := [100, 181, 0, 145, 42, 180, 0, 66, 7, 42, 180, 0, 145, 104, 27, 79, 42, 180, 0, 66, 7, 42]
abbrev dktX2_mend_4 : List UInt8 := dkwX2_mend_4 ++ dktX2_mend_5
def dkwX2_mend_3 : List UInt8 := [21, 5, 42, 180, 0, 66, 21, 5, 7, 96, 46, 79, 132, 5, 1, 167, 255, 229, 42, 89, 180, 0, 145, 4]
abbrev dktX2_mend_3 : List UInt8 := dkwX2_mend_3 ++ dktX2_mend_4
def dkwX2_mend_2 : List UInt8 := [180, 0, 145, 16, 40, 160, 0, 46, 3, 54, 5, 21, 5, 17, 0, 156, 162, 0, 25, 42, 180, 0, 66]
abbrev dktX2_mend_2 : List UInt8 := dkwX2_mend_2 ++ dktX2_mend_3
def dkwX2_mend_1 : List UInt8 := [182, 0, 138, 54, 4, 21, 4, 29, 160, 0, 6, 21, 4, 172, 42, 27, 28, 29, 182, 0, 141, 42]
abbrev dktX2_mend_1 : List UInt8 := dkwX2_mend_1 ++ dktX2_mend_2
def dkwX2_mend_0 : List UInt8 := [42, 27, 28, 182, 0, 130, 153, 0, 11, 28, 29, 184, 0, 134, 154, 0, 6, 18, 137, 172, 42, 27, 28]
abbrev dktX2_mend_0 : List UInt8 := dkwX2_mend_0 ++ dktX2_mend_1
theorem dksX2_mend_0 : cX2_mend.data.toList.drop 0 = dktX2_mend_0 := by decide +kernel
theorem dksX2_mend_1 : cX2_mend.data.toList.drop 23 = dktX2_mend_1 := dk_seg dksX2_mend_0 23 rfl rfl
theorem dksX2_mend_2 : cX2_mend.data.toList.drop 45 = dktX2_mend_2 := dk_seg dksX2_mend_1 22 rfl rfl
theorem dksX2_mend_3 : cX2_mend.data.toList.drop 68 = dktX2_mend_3 := dk_seg dksX2_mend_2 23 rfl rfl
theorem dksX2_mend_4 : cX2_mend.data.toList.drop 92 = dktX2_mend_4 := dk_seg dksX2_mend_3 24 rfl rfl
theorem dksX2_mend_5 : cX2_mend.data.toList.drop 114 = dktX2_mend_5 := dk_seg dksX2_mend_4 22 rfl rfl
theorem dksX2_mend_6 : cX2_mend.data.toList.drop 138 = dktX2_mend_6 := dk_seg dksX2_mend_5 24 rfl rfl
theorem dksX2_mend_7 : cX2_mend.data.toList.drop 162 = dktX2_mend_7 := dk_seg dksX2_mend_6 24 rfl rfl
theorem dX2_mend_0 : decode cX2_mend 0 = .ok (.aload_n 0, 1) := dk_42 (dk_at dksX2_mend_0 0 rfl rfl)
theorem dX2_mend_1 : decode cX2_mend 1 = .ok (.iload_n 1, 1) := dk_27 (dk_at dksX2_mend_0 1 rfl rfl)
theorem dX2_mend_2 : decode cX2_mend 2 = .ok (.iload_n 2, 1) := dk_28 (dk_at dksX2_mend_0 2 rfl rfl)
theorem dX2_mend_3 : decode cX2_mend 3 = .ok (.invokevirtual 130, 3) := dk_182 0 130 (dk_at dksX2_mend_0 3 rfl rfl)
theorem dX2_mend_6 : decode cX2_mend 6 = .ok (.ifCond .eq 11, 3) := dk_153 0 11 (dk_at dksX2_mend_0 6 rfl rfl)
theorem dX2_mend_9 : decode cX2_mend 9 = .ok (.iload_n 2, 1) := dk_28 (dk_at dksX2_mend_0 9 rfl rfl)
theorem dX2_mend_10 : decode cX2_mend 10 = .ok (.iload_n 3, 1) := dk_29 (dk_at dksX2_mend_0 10 rfl rfl)
theorem dX2_mend_11 : decode cX2_mend 11 = .ok (.invokestatic 134, 3) := dk_184 0 134 (dk_at dksX2_mend_0 11 rfl rfl)
theorem dX2_mend_14 : decode cX2_mend 14 = .ok (.ifCond .ne 6, 3) := dk_154 0 6 (dk_at dksX2_mend_0 14 rfl rfl)
theorem dX2_mend_17 : decode cX2_mend 17 = .ok (.ldc 137, 2) := dk_18 137 (dk_at dksX2_mend_0 17 rfl rfl)
theorem dX2_mend_19 : decode cX2_mend 19 = .ok (.ireturn, 1) := dk_172 (dk_at dksX2_mend_0 19 rfl rfl)
theorem dX2_mend_20 : decode cX2_mend 20 = .ok (.aload_n 0, 1) := dk_42 (dk_at dksX2_mend_0 20 rfl rfl)
theorem dX2_mend_21 : decode cX2_mend 21 = .ok (.iload_n 1, 1) := dk_27 (dk_at dksX2_mend_0 21 rfl rfl)
theorem dX2_mend_22 : decode cX2_mend 22 = .ok (.iload_n 2, 1) := dk_28 (dk_at dksX2_mend_0 22 rfl rfl)
theorem dX2_mend_23 : decode cX2_mend 23 = .ok (.invokevirtual 138, 3) := dk_182 0 138 (dk_at dksX2_mend_1 0 rfl rfl)
theorem dX2_mend_26 : decode cX2_mend 26 = .ok (.istore 4, 2) := dk_54 4 (dk_at dksX2_mend_1 3 rfl rfl)
theorem dX2_mend_28 : decode cX2_mend 28 = .ok (.iload 4, 2) := dk_21 4 (dk_at dksX2_mend_1 5 rfl rfl)
theorem dX2_mend_30 : decode cX2_mend 30 = .ok (.iload_n 3, 1) := dk_29 (dk_at dksX2_mend_1 7 rfl rfl)
theorem dX2_mend_31 : decode cX2_mend 31 = .ok (.if_icmp .ne 6, 3) := dk_160 0 6 (dk_at dksX2_mend_1 8 rfl rfl)
theorem dX2_mend_34 : decode cX2_mend 34 = .ok (.iload 4, 2) := dk_21 4 (dk_at dksX2_mend_1 11 rfl rfl)
theorem dX2_mend_36 : decode cX2_mend 36 = .ok (.ireturn, 1) := dk_172 (dk_at dksX2_mend_1 13 rfl rfl)
theorem dX2_mend_37 : decode cX2_mend 37 = .ok (.aload_n 0, 1) := dk_42 (dk_at dksX2_mend_1 14 rfl rfl)
theorem dX2_mend_38 : decode cX2_mend 38 = .ok (.iload_n 1, 1) := dk_27 (dk_at dksX2_mend_1 15 rfl rfl)
theorem dX2_mend_39 : decode cX2_mend 39 = .ok (.iload_n 2, 1) := dk_28 (dk_at dksX2_mend_1 16 rfl rfl)
theorem dX2_mend_40 : decode cX2_mend 40 = .ok (.iload_n 3, 1) := dk_29 (dk_at dksX2_mend_1 17 rfl rfl)
theorem dX2_mend_41 : decode cX2_mend 41 = .ok (.invokevirtual 141, 3) := dk_182 0 141 (dk_at dksX2_mend_1 18 rfl rfl)
theorem dX2_mend_44 : decode cX2_mend 44 = .ok (.aload_n 0, 1) := dk_42 (dk_at dksX2_mend_1 21 rfl rfl)
theorem dX2_mend_45 : decode cX2_mend 45 = .ok (.getfield 145, 3) := dk_180 0 145 (dk_at dksX2_mend_2 0 rfl rfl)
theorem dX2_mend_48 : decode cX2_mend 48 = .ok (.bipush 40, 2) := dk_16 40 (dk_at dksX2_mend_2 3 rfl rfl)
theorem dX2_mend_50 : decode cX2_mend 50 = .ok (.if_icmp .ne 46, 3) := dk_160 0 46 (dk_at dksX2_mend_2 5 rfl rfl)
theorem dX2_mend_53 : decode cX2_mend 53 = .ok (.iconst 0, 1) := dk_3 (dk_at dksX2_mend_2 8 rfl rfl)
theorem dX2_mend_54 : decode cX2_mend 54 = .ok (.istore 5, 2) := dk_54 5 (dk_at dksX2_mend_2 9 rfl rfl)
theorem dX2_mend_56 : decode cX2_mend 56 = .ok (.iload 5, 2) := dk_21 5 (dk_at dksX2_mend_2 11 rfl rfl)
theorem dX2_mend_58 : decode cX2_mend 58 = .ok (.sipush 156, 3) := dk_17 0 156 (dk_at dksX2_mend_2 13 rfl rfl)
theorem dX2_mend_61 : decode cX2_mend 61 = .ok (.if_icmp .ge 25, 3) := dk_162 0 25 (dk_at dksX2_mend_2 16 rfl rfl)
theorem dX2_mend_64 : decode cX2_mend 64 = .ok (.aload_n 0, 1) := dk_42 (dk_at dksX2_mend_2 19 rfl rfl)
theorem dX2_mend_65 : decode cX2_mend 65 = .ok (.getfield 66, 3) := dk_180 0 66 (dk_at dksX2_mend_2 20 rfl rfl)
theorem dX2_mend_68 : decode cX2_mend 68 = .ok (.iload 5, 2) := dk_21 5 (dk_at dksX2_mend_3 0 rfl rfl)
theorem dX2_mend_70 : decode cX2_mend 70 = .ok (.aload_n 0, 1) := dk_42 (dk_at dksX2_mend_3 2 rfl rfl)
theorem dX2_mend_71 : decode cX2_mend 71 = .ok (.getfield 66, 3) := dk_180 0 66 (dk_at dksX2_mend_3 3 rfl rfl)
theorem dX2_mend_74 : decode cX2_mend 74 = .ok (.iload 5, 2) := dk_21 5 (dk_at dksX2_mend_3 6 rfl rfl)
theorem dX2_mend_76 : decode cX2_mend 76 = .ok (.iconst 4, 1) := dk_7 (dk_at dksX2_mend_3 8 rfl rfl)
theorem dX2_mend_77 : decode cX2_mend 77 = .ok (.iadd, 1) := dk_96 (dk_at dksX2_mend_3 9 rfl rfl)
theorem dX2_mend_78 : decode cX2_mend 78 = .ok (.iaload, 1) := dk_46 (dk_at dksX2_mend_3 10 rfl rfl)
theorem dX2_mend_79 : decode cX2_mend 79 = .ok (.iastore, 1) := dk_79 (dk_at dksX2_mend_3 11 rfl rfl)
theorem dX2_mend_80 : decode cX2_mend 80 = .ok (.iinc 5 1, 3) := dk_132 5 1 (dk_at dksX2_mend_3 12 rfl rfl)
theorem dX2_mend_83 : decode cX2_mend 83 = .ok (.goto (-27), 3) := dk_167 255 229 (dk_at dksX2_mend_3 15 rfl rfl)
theorem dX2_mend_86 : decode cX2_mend 86 = .ok (.aload_n 0, 1) := dk_42 (dk_at dksX2_mend_3 18 rfl rfl)
theorem dX2_mend_87 : decode cX2_mend 87 = .ok (.dup, 1) := dk_89 (dk_at dksX2_mend_3 19 rfl rfl)
theorem dX2_mend_88 : decode cX2_mend 88 = .ok (.getfield 145, 3) := dk_180 0 145 (dk_at dksX2_mend_3 20 rfl rfl)
theorem dX2_mend_91 : decode cX2_mend 91 = .ok (.iconst 1, 1) := dk_4 (dk_at dksX2_mend_3 23 rfl rfl)
theorem dX2_mend_92 : decode cX2_mend 92 = .ok (.isub, 1) := dk_100 (dk_at dksX2_mend_4 0 rfl rfl)
theorem dX2_mend_93 : decode cX2_mend 93 = .ok (.putfield 145, 3) := dk_181 0 145 (dk_at dksX2_mend_4 1 rfl rfl)
theorem dX2_mend_96 : decode cX2_mend 96 = .ok (.aload_n 0, 1) := dk_42 (dk_at dksX2_mend_4 4 rfl rfl)
theorem dX2_mend_97 : decode cX2_mend 97 = .ok (.getfield 66, 3) := dk_180 0 66 (dk_at dksX2_mend_4 5 rfl rfl)
theorem dX2_mend_100 : decode cX2_mend 100 = .ok (.iconst 4, 1) := dk_7 (dk_at dksX2_mend_4 8 rfl rfl)
theorem dX2_mend_101 : decode cX2_mend 101 = .ok (.aload_n 0, 1) := dk_42 (dk_at dksX2_mend_4 9 rfl rfl)
theorem dX2_mend_102 : decode cX2_mend 102 = .ok (.getfield 145, 3) := dk_180 0 145 (dk_at dksX2_mend_4 10 rfl rfl)
theorem dX2_mend_105 : decode cX2_mend 105 = .ok (.imul, 1) := dk_104 (dk_at dksX2_mend_4 13 rfl rfl)
theorem dX2_mend_106 : decode cX2_mend 106 = .ok (.iload_n 1, 1) := dk_27 (dk_at dksX2_mend_4 14 rfl rfl)
theorem dX2_mend_107 : decode cX2_mend 107 = .ok (.iastore, 1) := dk_79 (dk_at dksX2_mend_4 15 rfl rfl)
theorem dX2_mend_108 : decode cX2_mend 108 = .ok (.aload_n 0, 1) := dk_42 (dk_at dksX2_mend_4 16 rfl rfl)
theorem dX2_mend_109 : decode cX2_mend 109 = .ok (.getfield 66, 3) := dk_180 0 66 (dk_at dksX2_mend_4 17 rfl rfl)
theorem dX2_mend_112 : decode cX2_mend 112 = .ok (.iconst 4, 1) := dk_7 (dk_at dksX2_mend_4 20 rfl rfl)
theorem dX2_mend_113 : decode cX2_mend 113 = .ok (.aload_n 0, 1) := dk_42 (dk_at dksX2_mend_4 21 rfl rfl)
theorem dX2_mend_114 : decode cX2_mend 114 = .ok (.getfield 145, 3) := dk_180 0 145 (dk_at dksX2_mend_5 0 rfl rfl)
theorem dX2_mend_117 : decode cX2_mend 117 = .ok (.imul, 1) := dk_104 (dk_at dksX2_mend_5 3 rfl rfl)
theorem dX2_mend_118 : decode cX2_mend 118 = .ok (.iconst 1, 1) := dk_4 (dk_at dksX2_mend_5 4 rfl rfl)
theorem dX2_mend_119 : decode cX2_mend 119 = .ok (.iadd, 1) := dk_96 (dk_at dksX2_mend_5 5 rfl rfl)
theorem dX2_mend_120 : decode cX2_mend 120 = .ok (.iload_n 2, 1) := dk_28 (dk_at dksX2_mend_5 6 rfl rfl)
theorem dX2_mend_121 : decode cX2_mend 121 = .ok (.iastore, 1) := dk_79 (dk_at dksX2_mend_5 7 rfl rfl)
theorem dX2_mend_122 : decode cX2_mend 122 = .ok (.aload_n 0, 1) := dk_42 (dk_at dksX2_mend_5 8 rfl rfl)
theorem dX2_mend_123 : decode cX2_mend 123 = .ok (.getfield 66, 3) := dk_180 0 66 (dk_at dksX2_mend_5 9 rfl rfl)
theorem dX2_mend_126 : decode cX2_mend 126 = .ok (.iconst 4, 1) := dk_7 (dk_at dksX2_mend_5 12 rfl rfl)
theorem dX2_mend_127 : decode cX2_mend 127 = .ok (.aload_n 0, 1) := dk_42 (dk_at dksX2_mend_5 13 rfl rfl)
theorem dX2_mend_128 : decode cX2_mend 128 = .ok (.getfield 145, 3) := dk_180 0 145 (dk_at dksX2_mend_5 14 rfl rfl)
theorem dX2_mend_131 : decode cX2_mend 131 = .ok (.imul, 1) := dk_104 (dk_at dksX2_mend_5 17 rfl rfl)
theorem dX2_mend_132 : decode cX2_mend 132 = .ok (.iconst 2, 1) := dk_5 (dk_at dksX2_mend_5 18 rfl rfl)
theorem dX2_mend_133 : decode cX2_mend 133 = .ok (.iadd, 1) := dk_96 (dk_at dksX2_mend_5 19 rfl rfl)
theorem dX2_mend_134 : decode cX2_mend 134 = .ok (.iload 4, 2) := dk_21 4 (dk_at dksX2_mend_5 20 rfl rfl)
theorem dX2_mend_136 : decode cX2_mend 136 = .ok (.iastore, 1) := dk_79 (dk_at dksX2_mend_5 22 rfl rfl)
theorem dX2_mend_137 : decode cX2_mend 137 = .ok (.aload_n 0, 1) := dk_42 (dk_at dksX2_mend_5 23 rfl rfl)
theorem dX2_mend_138 : decode cX2_mend 138 = .ok (.getfield 66, 3) := dk_180 0 66 (dk_at dksX2_mend_6 0 rfl rfl)
theorem dX2_mend_141 : decode cX2_mend 141 = .ok (.iconst 4, 1) := dk_7 (dk_at dksX2_mend_6 3 rfl rfl)
theorem dX2_mend_142 : decode cX2_mend 142 = .ok (.aload_n 0, 1) := dk_42 (dk_at dksX2_mend_6 4 rfl rfl)
theorem dX2_mend_143 : decode cX2_mend 143 = .ok (.getfield 145, 3) := dk_180 0 145 (dk_at dksX2_mend_6 5 rfl rfl)
theorem dX2_mend_146 : decode cX2_mend 146 = .ok (.imul, 1) := dk_104 (dk_at dksX2_mend_6 8 rfl rfl)
theorem dX2_mend_147 : decode cX2_mend 147 = .ok (.iconst 3, 1) := dk_6 (dk_at dksX2_mend_6 9 rfl rfl)
theorem dX2_mend_148 : decode cX2_mend 148 = .ok (.iadd, 1) := dk_96 (dk_at dksX2_mend_6 10 rfl rfl)
theorem dX2_mend_149 : decode cX2_mend 149 = .ok (.iload_n 3, 1) := dk_29 (dk_at dksX2_mend_6 11 rfl rfl)
theorem dX2_mend_150 : decode cX2_mend 150 = .ok (.iastore, 1) := dk_79 (dk_at dksX2_mend_6 12 rfl rfl)
theorem dX2_mend_151 : decode cX2_mend 151 = .ok (.aload_n 0, 1) := dk_42 (dk_at dksX2_mend_6 13 rfl rfl)
theorem dX2_mend_152 : decode cX2_mend 152 = .ok (.dup, 1) := dk_89 (dk_at dksX2_mend_6 14 rfl rfl)
theorem dX2_mend_153 : decode cX2_mend 153 = .ok (.getfield 145, 3) := dk_180 0 145 (dk_at dksX2_mend_6 15 rfl rfl)
theorem dX2_mend_156 : decode cX2_mend 156 = .ok (.iconst 1, 1) := dk_4 (dk_at dksX2_mend_6 18 rfl rfl)
theorem dX2_mend_157 : decode cX2_mend 157 = .ok (.iadd, 1) := dk_96 (dk_at dksX2_mend_6 19 rfl rfl)
theorem dX2_mend_158 : decode cX2_mend 158 = .ok (.putfield 145, 3) := dk_181 0 145 (dk_at dksX2_mend_6 20 rfl rfl)
theorem dX2_mend_161 : decode cX2_mend 161 = .ok (.aload_n 0, 1) := dk_42 (dk_at dksX2_mend_6 23 rfl rfl)
theorem dX2_mend_162 : decode cX2_mend 162 = .ok (.aload_n 0, 1) := dk_42 (dk_at dksX2_mend_7 0 rfl rfl)
theorem dX2_mend_163 : decode cX2_mend 163 = .ok (.getfield 145, 3) := dk_180 0 145 (dk_at dksX2_mend_7 1 rfl rfl)
theorem dX2_mend_166 : decode cX2_mend 166 = .ok (.putfield 148, 3) := dk_181 0 148 (dk_at dksX2_mend_7 4 rfl rfl)
theorem dX2_mend_169 : decode cX2_mend 169 = .ok (.iload 4, 2) := dk_21 4 (dk_at dksX2_mend_7 7 rfl rfl)
theorem dX2_mend_171 : decode cX2_mend 171 = .ok (.ireturn, 1) := dk_172 (dk_at dksX2_mend_7 9 rfl rfl)
def dkwX2_isOf_1 : List UInt8 := [182, 0, 127, 167, 0, 18, 28, 16, 6, 160, 0, 11, 27, 154, 0, 7, 4, 167, 0, 4, 3, 172]
abbrev dktX2_isOf_1 : List UInt8 := dkwX2_isOf_1 ++ []
def dkwX2_isOf_0 : List UInt8 := [28, 154, 0, 11, 42, 27, 182, 0, 99, 167, 0, 35, 28, 4, 8, 184, 0, 92, 153, 0, 11, 42, 27]
abbrev dktX2_isOf_0 : List UInt8 := dkwX2_isOf_0 ++ dktX2_isOf_1
theorem dksX2_isOf_0 : cX2_isOf.data.toList.drop 0 = dktX2_isOf_0 := by decide +kernel
theorem dksX2_isOf_1 : cX2_isOf.data.toList.drop 23 = dktX2_isOf_1 := dk_seg dksX2_isOf_0 23 rfl rfl
theorem dX2_isOf_0 : decode cX2_isOf 0 = .ok (.iload_n 2, 1) := dk_28 (dk_at dksX2_isOf_0 0 rfl rfl)
theorem dX2_isOf_1 : decode cX2_isOf 1 = .ok (.ifCond .ne 11, 3) := dk_154 0 11 (dk_at dksX2_isOf_0 1 rfl rfl)
theorem dX2_isOf_4 : decode cX2_isOf 4 = .ok (.aload_n 0, 1) := dk_42 (dk_at dksX2_isOf_0 4 rfl rfl)
theorem dX2_isOf_5 : decode cX2_isOf 5 = .ok (.iload_n 1, 1) := dk_27 (dk_at dksX2_isOf_0 5 rfl rfl)
theorem dX2_isOf_6 : decode cX2_isOf 6 = .ok (.invokevirtual 99, 3) := dk_182 0 99 (dk_at dksX2_isOf_0 6 rfl rfl)
theorem dX2_isOf_9 : decode cX2_isOf 9 = .ok (.goto 35, 3) := dk_167 0 35 (dk_at dksX2_isOf_0 9 rfl rfl)
theorem dX2_isOf_12 : decode cX2_isOf 12 = .ok (.iload_n 2, 1) := dk_28 (dk_at dksX2_isOf_0 12 rfl rfl)
theorem dX2_isOf_13 : decode cX2_isOf 13 = .ok (.iconst 1, 1) := dk_4 (dk_at dksX2_isOf_0 13 rfl rfl)
theorem dX2_isOf_14 : decode cX2_isOf 14 = .ok (.iconst 5, 1) := dk_8 (dk_at dksX2_isOf_0 14 rfl rfl)
theorem dX2_isOf_15 : decode cX2_isOf 15 = .ok (.invokestatic 92, 3) := dk_184 0 92 (dk_at dksX2_isOf_0 15 rfl rfl)
theorem dX2_isOf_18 : decode cX2_isOf 18 = .ok (.ifCond .eq 11, 3) := dk_153 0 11 (dk_at dksX2_isOf_0 18 rfl rfl)
theorem dX2_isOf_21 : decode cX2_isOf 21 = .ok (.aload_n 0, 1) := dk_42 (dk_at dksX2_isOf_0 21 rfl rfl)
theorem dX2_isOf_22 : decode cX2_isOf 22 = .ok (.iload_n 1, 1) := dk_27 (dk_at dksX2_isOf_0 22 rfl rfl)
theorem dX2_isOf_23 : decode cX2_isOf 23 = .ok (.invokevirtual 127, 3) := dk_182 0 127 (dk_at dksX2_isOf_1 0 rfl rfl)
theorem dX2_isOf_26 : decode cX2_isOf 26 = .ok (.goto 18, 3) := dk_167 0 18 (dk_at dksX2_isOf_1 3 rfl rfl)
theorem dX2_isOf_29 : decode cX2_isOf 29 = .ok (.iload_n 2, 1) := dk_28 (dk_at dksX2_isOf_1 6 rfl rfl)
theorem dX2_isOf_30 : decode cX2_isOf 30 = .ok (.bipush 6, 2) := dk_16 6 (dk_at dksX2_isOf_1 7 rfl rfl)
theorem dX2_isOf_32 : decode cX2_isOf 32 = .ok (.if_icmp .ne 11, 3) := dk_160 0 11 (dk_at dksX2_isOf_1 9 rfl rfl)
theorem dX2_isOf_35 : decode cX2_isOf 35 = .ok (.iload_n 1, 1) := dk_27 (dk_at dksX2_isOf_1 12 rfl rfl)
theorem dX2_isOf_36 : decode cX2_isOf 36 = .ok (.ifCond .ne 7, 3) := dk_154 0 7 (dk_at dksX2_isOf_1 13 rfl rfl)
theorem dX2_isOf_39 : decode cX2_isOf 39 = .ok (.iconst 1, 1) := dk_4 (dk_at dksX2_isOf_1 16 rfl rfl)
theorem dX2_isOf_40 : decode cX2_isOf 40 = .ok (.goto 4, 3) := dk_167 0 4 (dk_at dksX2_isOf_1 17 rfl rfl)
theorem dX2_isOf_43 : decode cX2_isOf 43 = .ok (.iconst 0, 1) := dk_3 (dk_at dksX2_isOf_1 20 rfl rfl)
theorem dX2_isOf_44 : decode cX2_isOf 44 = .ok (.ireturn, 1) := dk_172 (dk_at dksX2_isOf_1 21 rfl rfl)
def dkwX2_isOne_0 : List UInt8 := [27, 3, 42, 180, 0, 96, 4, 100, 184, 0, 92, 172]
abbrev dktX2_isOne_0 : List UInt8 := dkwX2_isOne_0 ++ []
theorem dksX2_isOne_0 : cX2_isOne.data.toList.drop 0 = dktX2_isOne_0 := by decide +kernel
theorem dX2_isOne_0 : decode cX2_isOne 0 = .ok (.iload_n 1, 1) := dk_27 (dk_at dksX2_isOne_0 0 rfl rfl)
theorem dX2_isOne_1 : decode cX2_isOne 1 = .ok (.iconst 0, 1) := dk_3 (dk_at dksX2_isOne_0 1 rfl rfl)
theorem dX2_isOne_2 : decode cX2_isOne 2 = .ok (.aload_n 0, 1) := dk_42 (dk_at dksX2_isOne_0 2 rfl rfl)
theorem dX2_isOne_3 : decode cX2_isOne 3 = .ok (.getfield 96, 3) := dk_180 0 96 (dk_at dksX2_isOne_0 3 rfl rfl)
theorem dX2_isOne_6 : decode cX2_isOne 6 = .ok (.iconst 1, 1) := dk_4 (dk_at dksX2_isOne_0 6 rfl rfl)
theorem dX2_isOne_7 : decode cX2_isOne 7 = .ok (.isub, 1) := dk_100 (dk_at dksX2_isOne_0 7 rfl rfl)
theorem dX2_isOne_8 : decode cX2_isOne 8 = .ok (.invokestatic 92, 3) := dk_184 0 92 (dk_at dksX2_isOne_0 8 rfl rfl)
theorem dX2_isOne_11 : decode cX2_isOne 11 = .ok (.ireturn, 1) := dk_172 (dk_at dksX2_isOne_0 11 rfl rfl)
def dkwX2_isFit_3 : List UInt8 := [27, 3, 4, 184, 0, 92, 172, 27, 3, 16, 99, 184, 0, 92, 172]
abbrev dktX2_isFit_3 : List UInt8 := dkwX2_isFit_3 ++ []
def dkwX2_isFit_2 : List UInt8 := [27, 3, 17, 3, 231, 184, 0, 92, 172, 27, 3, 5, 184, 0, 92, 172, 27, 4, 16, 99, 184, 0, 92, 172]
abbrev dktX2_isFit_2 : List UInt8 := dkwX2_isFit_2 ++ dktX2_isFit_3
def dkwX2_isFit_1 : List UInt8 := [170, 0, 0, 0, 0, 0, 70, 0, 0, 0, 0, 0, 0, 0, 5, 0, 0, 0, 39, 0, 0, 0, 70, 0, 0, 0, 48, 0, 0, 0, 55, 0, 0, 0, 70, 0, 0, 0, 63]
abbrev dktX2_isFit_1 : List UInt8 := dkwX2_isFit_1 ++ dktX2_isFit_2
def dkwX2_isFit_0 : List UInt8 := [26]
abbrev dktX2_isFit_0 : List UInt8 := dkwX2_isFit_0 ++ dktX2_isFit_1
theorem dksX2_isFit_0 : cX2_isFit.data.toList.drop 0 = dktX2_isFit_0 := by decide +kernel
theorem dksX2_isFit_1 : cX2_isFit.data.toList.drop 1 = dktX2_isFit_1 := dk_seg dksX2_isFit_0 1 rfl rfl
theorem dksX2_isFit_2 : cX2_isFit.data.toList.drop 40 = dktX2_isFit_2 := dk_seg dksX2_isFit_1 39 rfl rfl
theorem dksX2_isFit_3 : cX2_isFit.data.toList.drop 64 = dktX2_isFit_3 := dk_seg dksX2_isFit_2 24 rfl rfl
theorem dX2_isFit_0 : decode cX2_isFit 0 = .ok (.iload_n 0, 1) := dk_26 (dk_at dksX2_isFit_0 0 rfl rfl)
theorem dX2_isFit_1 : decode cX2_isFit 1 = .ok (.tableswitch 70 0 5 #[39, 70, 48, 55, 70, 63], 39) := by decide +kernel
theorem dX2_isFit_40 : decode cX2_isFit 40 = .ok (.iload_n 1, 1) := dk_27 (dk_at dksX2_isFit_2 0 rfl rfl)
theorem dX2_isFit_41 : decode cX2_isFit 41 = .ok (.iconst 0, 1) := dk_3 (dk_at dksX2_isFit_2 1 rfl rfl)
theorem dX2_isFit_42 : decode cX2_isFit 42 = .ok (.sipush 999, 3) := dk_17 3 231 (dk_at dksX2_isFit_2 2 rfl rfl)
theorem dX2_isFit_45 : decode cX2_isFit 45 = .ok (.invokestatic 92, 3) := dk_184 0 92 (dk_at dksX2_isFit_2 5 rfl rfl)
theorem dX2_isFit_48 : decode cX2_isFit 48 = .ok (.ireturn, 1) := dk_172 (dk_at dksX2_isFit_2 8 rfl rfl)
theorem dX2_isFit_49 : decode cX2_isFit 49 = .ok (.iload_n 1, 1) := dk_27 (dk_at dksX2_isFit_2 9 rfl rfl)
theorem dX2_isFit_50 : decode cX2_isFit 50 = .ok (.iconst 0, 1) := dk_3 (dk_at dksX2_isFit_2 10 rfl rfl)
theorem dX2_isFit_51 : decode cX2_isFit 51 = .ok (.iconst 2, 1) := dk_5 (dk_at dksX2_isFit_2 11 rfl rfl)
theorem dX2_isFit_52 : decode cX2_isFit 52 = .ok (.invokestatic 92, 3) := dk_184 0 92 (dk_at dksX2_isFit_2 12 rfl rfl)
theorem dX2_isFit_55 : decode cX2_isFit 55 = .ok (.ireturn, 1) := dk_172 (dk_at dksX2_isFit_2 15 rfl rfl)
theorem dX2_isFit_56 : decode cX2_isFit 56 = .ok (.iload_n 1, 1) := dk_27 (dk_at dksX2_isFit_2 16 rfl rfl)
theorem dX2_isFit_57 : decode cX2_isFit 57 = .ok (.iconst 1, 1) := dk_4 (dk_at dksX2_isFit_2 17 rfl rfl)
theorem dX2_isFit_58 : decode cX2_isFit 58 = .ok (.bipush 99, 2) := dk_16 99 (dk_at dksX2_isFit_2 18 rfl rfl)
theorem dX2_isFit_60 : decode cX2_isFit 60 = .ok (.invokestatic 92, 3) := dk_184 0 92 (dk_at dksX2_isFit_2 20 rfl rfl)
theorem dX2_isFit_63 : decode cX2_isFit 63 = .ok (.ireturn, 1) := dk_172 (dk_at dksX2_isFit_2 23 rfl rfl)
theorem dX2_isFit_64 : decode cX2_isFit 64 = .ok (.iload_n 1, 1) := dk_27 (dk_at dksX2_isFit_3 0 rfl rfl)
theorem dX2_isFit_65 : decode cX2_isFit 65 = .ok (.iconst 0, 1) := dk_3 (dk_at dksX2_isFit_3 1 rfl rfl)
theorem dX2_isFit_66 : decode cX2_isFit 66 = .ok (.iconst 1, 1) := dk_4 (dk_at dksX2_isFit_3 2 rfl rfl)
theorem dX2_isFit_67 : decode cX2_isFit 67 = .ok (.invokestatic 92, 3) := dk_184 0 92 (dk_at dksX2_isFit_3 3 rfl rfl)
theorem dX2_isFit_70 : decode cX2_isFit 70 = .ok (.ireturn, 1) := dk_172 (dk_at dksX2_isFit_3 6 rfl rfl)
theorem dX2_isFit_71 : decode cX2_isFit 71 = .ok (.iload_n 1, 1) := dk_27 (dk_at dksX2_isFit_3 7 rfl rfl)
theorem dX2_isFit_72 : decode cX2_isFit 72 = .ok (.iconst 0, 1) := dk_3 (dk_at dksX2_isFit_3 8 rfl rfl)
theorem dX2_isFit_73 : decode cX2_isFit 73 = .ok (.bipush 99, 2) := dk_16 99 (dk_at dksX2_isFit_3 9 rfl rfl)
theorem dX2_isFit_75 : decode cX2_isFit 75 = .ok (.invokestatic 92, 3) := dk_184 0 92 (dk_at dksX2_isFit_3 11 rfl rfl)
theorem dX2_isFit_78 : decode cX2_isFit 78 = .ok (.ireturn, 1) := dk_172 (dk_at dksX2_isFit_3 14 rfl rfl)
def dkwX2_get_1 : List UInt8 := [167, 0, 16, 42, 180, 0, 15, 16, 15, 28, 4, 100, 104, 27, 96, 46, 172]
abbrev dktX2_get_1 : List UInt8 := dkwX2_get_1 ++ []
def dkwX2_get_0 : List UInt8 := [28, 154, 0, 12, 42, 180, 0, 9, 27, 46, 167, 0, 29, 28, 16, 6, 160, 0, 10, 42, 180, 0, 103]
abbrev dktX2_get_0 : List UInt8 := dkwX2_get_0 ++ dktX2_get_1
theorem dksX2_get_0 : cX2_get.data.toList.drop 0 = dktX2_get_0 := by decide +kernel
theorem dksX2_get_1 : cX2_get.data.toList.drop 23 = dktX2_get_1 := dk_seg dksX2_get_0 23 rfl rfl
theorem dX2_get_0 : decode cX2_get 0 = .ok (.iload_n 2, 1) := dk_28 (dk_at dksX2_get_0 0 rfl rfl)
theorem dX2_get_1 : decode cX2_get 1 = .ok (.ifCond .ne 12, 3) := dk_154 0 12 (dk_at dksX2_get_0 1 rfl rfl)
theorem dX2_get_4 : decode cX2_get 4 = .ok (.aload_n 0, 1) := dk_42 (dk_at dksX2_get_0 4 rfl rfl)
theorem dX2_get_5 : decode cX2_get 5 = .ok (.getfield 9, 3) := dk_180 0 9 (dk_at dksX2_get_0 5 rfl rfl)
theorem dX2_get_8 : decode cX2_get 8 = .ok (.iload_n 1, 1) := dk_27 (dk_at dksX2_get_0 8 rfl rfl)
theorem dX2_get_9 : decode cX2_get 9 = .ok (.iaload, 1) := dk_46 (dk_at dksX2_get_0 9 rfl rfl)
theorem dX2_get_10 : decode cX2_get 10 = .ok (.goto 29, 3) := dk_167 0 29 (dk_at dksX2_get_0 10 rfl rfl)
theorem dX2_get_13 : decode cX2_get 13 = .ok (.iload_n 2, 1) := dk_28 (dk_at dksX2_get_0 13 rfl rfl)
theorem dX2_get_14 : decode cX2_get 14 = .ok (.bipush 6, 2) := dk_16 6 (dk_at dksX2_get_0 14 rfl rfl)
theorem dX2_get_16 : decode cX2_get 16 = .ok (.if_icmp .ne 10, 3) := dk_160 0 10 (dk_at dksX2_get_0 16 rfl rfl)
theorem dX2_get_19 : decode cX2_get 19 = .ok (.aload_n 0, 1) := dk_42 (dk_at dksX2_get_0 19 rfl rfl)
theorem dX2_get_20 : decode cX2_get 20 = .ok (.getfield 103, 3) := dk_180 0 103 (dk_at dksX2_get_0 20 rfl rfl)
theorem dX2_get_23 : decode cX2_get 23 = .ok (.goto 16, 3) := dk_167 0 16 (dk_at dksX2_get_1 0 rfl rfl)
theorem dX2_get_26 : decode cX2_get 26 = .ok (.aload_n 0, 1) := dk_42 (dk_at dksX2_get_1 3 rfl rfl)
theorem dX2_get_27 : decode cX2_get 27 = .ok (.getfield 15, 3) := dk_180 0 15 (dk_at dksX2_get_1 4 rfl rfl)
theorem dX2_get_30 : decode cX2_get 30 = .ok (.bipush 15, 2) := dk_16 15 (dk_at dksX2_get_1 7 rfl rfl)
theorem dX2_get_32 : decode cX2_get 32 = .ok (.iload_n 2, 1) := dk_28 (dk_at dksX2_get_1 9 rfl rfl)
theorem dX2_get_33 : decode cX2_get 33 = .ok (.iconst 1, 1) := dk_4 (dk_at dksX2_get_1 10 rfl rfl)
theorem dX2_get_34 : decode cX2_get 34 = .ok (.isub, 1) := dk_100 (dk_at dksX2_get_1 11 rfl rfl)
theorem dX2_get_35 : decode cX2_get 35 = .ok (.imul, 1) := dk_104 (dk_at dksX2_get_1 12 rfl rfl)
theorem dX2_get_36 : decode cX2_get 36 = .ok (.iload_n 1, 1) := dk_27 (dk_at dksX2_get_1 13 rfl rfl)
theorem dX2_get_37 : decode cX2_get 37 = .ok (.iadd, 1) := dk_96 (dk_at dksX2_get_1 14 rfl rfl)
theorem dX2_get_38 : decode cX2_get 38 = .ok (.iaload, 1) := dk_46 (dk_at dksX2_get_1 15 rfl rfl)
theorem dX2_get_39 : decode cX2_get 39 = .ok (.ireturn, 1) := dk_172 (dk_at dksX2_get_1 16 rfl rfl)
def dkwX2_becomes_1 : List UInt8 := [181, 0, 103, 167, 0, 17, 42, 180, 0, 15, 16, 15, 28, 4, 100, 104, 27, 96, 29, 79, 177]
abbrev dktX2_becomes_1 : List UInt8 := dkwX2_becomes_1 ++ []
def dkwX2_becomes_0 : List UInt8 := [28, 154, 0, 13, 42, 180, 0, 9, 27, 29, 79, 167, 0, 31, 28, 16, 6, 160, 0, 11, 42, 29]
abbrev dktX2_becomes_0 : List UInt8 := dkwX2_becomes_0 ++ dktX2_becomes_1
theorem dksX2_becomes_0 : cX2_becomes.data.toList.drop 0 = dktX2_becomes_0 := by decide +kernel
theorem dksX2_becomes_1 : cX2_becomes.data.toList.drop 22 = dktX2_becomes_1 := dk_seg dksX2_becomes_0 22 rfl rfl
theorem dX2_becomes_0 : decode cX2_becomes 0 = .ok (.iload_n 2, 1) := dk_28 (dk_at dksX2_becomes_0 0 rfl rfl)
theorem dX2_becomes_1 : decode cX2_becomes 1 = .ok (.ifCond .ne 13, 3) := dk_154 0 13 (dk_at dksX2_becomes_0 1 rfl rfl)
theorem dX2_becomes_4 : decode cX2_becomes 4 = .ok (.aload_n 0, 1) := dk_42 (dk_at dksX2_becomes_0 4 rfl rfl)
theorem dX2_becomes_5 : decode cX2_becomes 5 = .ok (.getfield 9, 3) := dk_180 0 9 (dk_at dksX2_becomes_0 5 rfl rfl)
theorem dX2_becomes_8 : decode cX2_becomes 8 = .ok (.iload_n 1, 1) := dk_27 (dk_at dksX2_becomes_0 8 rfl rfl)
theorem dX2_becomes_9 : decode cX2_becomes 9 = .ok (.iload_n 3, 1) := dk_29 (dk_at dksX2_becomes_0 9 rfl rfl)
theorem dX2_becomes_10 : decode cX2_becomes 10 = .ok (.iastore, 1) := dk_79 (dk_at dksX2_becomes_0 10 rfl rfl)
theorem dX2_becomes_11 : decode cX2_becomes 11 = .ok (.goto 31, 3) := dk_167 0 31 (dk_at dksX2_becomes_0 11 rfl rfl)
theorem dX2_becomes_14 : decode cX2_becomes 14 = .ok (.iload_n 2, 1) := dk_28 (dk_at dksX2_becomes_0 14 rfl rfl)
theorem dX2_becomes_15 : decode cX2_becomes 15 = .ok (.bipush 6, 2) := dk_16 6 (dk_at dksX2_becomes_0 15 rfl rfl)
theorem dX2_becomes_17 : decode cX2_becomes 17 = .ok (.if_icmp .ne 11, 3) := dk_160 0 11 (dk_at dksX2_becomes_0 17 rfl rfl)
theorem dX2_becomes_20 : decode cX2_becomes 20 = .ok (.aload_n 0, 1) := dk_42 (dk_at dksX2_becomes_0 20 rfl rfl)
theorem dX2_becomes_21 : decode cX2_becomes 21 = .ok (.iload_n 3, 1) := dk_29 (dk_at dksX2_becomes_0 21 rfl rfl)
theorem dX2_becomes_22 : decode cX2_becomes 22 = .ok (.putfield 103, 3) := dk_181 0 103 (dk_at dksX2_becomes_1 0 rfl rfl)
theorem dX2_becomes_25 : decode cX2_becomes 25 = .ok (.goto 17, 3) := dk_167 0 17 (dk_at dksX2_becomes_1 3 rfl rfl)
theorem dX2_becomes_28 : decode cX2_becomes 28 = .ok (.aload_n 0, 1) := dk_42 (dk_at dksX2_becomes_1 6 rfl rfl)
theorem dX2_becomes_29 : decode cX2_becomes 29 = .ok (.getfield 15, 3) := dk_180 0 15 (dk_at dksX2_becomes_1 7 rfl rfl)
theorem dX2_becomes_32 : decode cX2_becomes 32 = .ok (.bipush 15, 2) := dk_16 15 (dk_at dksX2_becomes_1 10 rfl rfl)
theorem dX2_becomes_34 : decode cX2_becomes 34 = .ok (.iload_n 2, 1) := dk_28 (dk_at dksX2_becomes_1 12 rfl rfl)
theorem dX2_becomes_35 : decode cX2_becomes 35 = .ok (.iconst 1, 1) := dk_4 (dk_at dksX2_becomes_1 13 rfl rfl)
theorem dX2_becomes_36 : decode cX2_becomes 36 = .ok (.isub, 1) := dk_100 (dk_at dksX2_becomes_1 14 rfl rfl)
theorem dX2_becomes_37 : decode cX2_becomes 37 = .ok (.imul, 1) := dk_104 (dk_at dksX2_becomes_1 15 rfl rfl)
theorem dX2_becomes_38 : decode cX2_becomes 38 = .ok (.iload_n 1, 1) := dk_27 (dk_at dksX2_becomes_1 16 rfl rfl)
theorem dX2_becomes_39 : decode cX2_becomes 39 = .ok (.iadd, 1) := dk_96 (dk_at dksX2_becomes_1 17 rfl rfl)
theorem dX2_becomes_40 : decode cX2_becomes 40 = .ok (.iload_n 3, 1) := dk_29 (dk_at dksX2_becomes_1 18 rfl rfl)
theorem dX2_becomes_41 : decode cX2_becomes 41 = .ok (.iastore, 1) := dk_79 (dk_at dksX2_becomes_1 19 rfl rfl)
theorem dX2_becomes_42 : decode cX2_becomes 42 = .ok (.return_, 1) := dk_177 (dk_at dksX2_becomes_1 20 rfl rfl)
def dkwX2_of_2 : List UInt8 := [42, 27, 28, 182, 0, 130, 153, 0, 12, 42, 27, 28, 182, 0, 138, 167, 0, 5, 18, 137, 172]
abbrev dktX2_of_2 : List UInt8 := dkwX2_of_2 ++ []
def dkwX2_of_1 : List UInt8 := [160, 0, 12, 42, 180, 0, 18, 27, 46, 167, 0, 14, 42, 180, 0, 21, 27, 46, 167, 0, 5, 18, 137, 172]
abbrev dktX2_of_1 : List UInt8 := dkwX2_of_1 ++ dktX2_of_2
def dkwX2_of_0 : List UInt8 := [28, 16, 7, 16, 8, 184, 0, 92, 153, 0, 38, 42, 27, 182, 0, 127, 153, 0, 27, 28, 16, 7]
abbrev dktX2_of_0 : List UInt8 := dkwX2_of_0 ++ dktX2_of_1
theorem dksX2_of_0 : cX2_of.data.toList.drop 0 = dktX2_of_0 := by decide +kernel
theorem dksX2_of_1 : cX2_of.data.toList.drop 22 = dktX2_of_1 := dk_seg dksX2_of_0 22 rfl rfl
theorem dksX2_of_2 : cX2_of.data.toList.drop 46 = dktX2_of_2 := dk_seg dksX2_of_1 24 rfl rfl
theorem dX2_of_0 : decode cX2_of 0 = .ok (.iload_n 2, 1) := dk_28 (dk_at dksX2_of_0 0 rfl rfl)
theorem dX2_of_1 : decode cX2_of 1 = .ok (.bipush 7, 2) := dk_16 7 (dk_at dksX2_of_0 1 rfl rfl)
theorem dX2_of_3 : decode cX2_of 3 = .ok (.bipush 8, 2) := dk_16 8 (dk_at dksX2_of_0 3 rfl rfl)
theorem dX2_of_5 : decode cX2_of 5 = .ok (.invokestatic 92, 3) := dk_184 0 92 (dk_at dksX2_of_0 5 rfl rfl)
theorem dX2_of_8 : decode cX2_of 8 = .ok (.ifCond .eq 38, 3) := dk_153 0 38 (dk_at dksX2_of_0 8 rfl rfl)
theorem dX2_of_11 : decode cX2_of 11 = .ok (.aload_n 0, 1) := dk_42 (dk_at dksX2_of_0 11 rfl rfl)
theorem dX2_of_12 : decode cX2_of 12 = .ok (.iload_n 1, 1) := dk_27 (dk_at dksX2_of_0 12 rfl rfl)
theorem dX2_of_13 : decode cX2_of 13 = .ok (.invokevirtual 127, 3) := dk_182 0 127 (dk_at dksX2_of_0 13 rfl rfl)
theorem dX2_of_16 : decode cX2_of 16 = .ok (.ifCond .eq 27, 3) := dk_153 0 27 (dk_at dksX2_of_0 16 rfl rfl)
theorem dX2_of_19 : decode cX2_of 19 = .ok (.iload_n 2, 1) := dk_28 (dk_at dksX2_of_0 19 rfl rfl)
theorem dX2_of_20 : decode cX2_of 20 = .ok (.bipush 7, 2) := dk_16 7 (dk_at dksX2_of_0 20 rfl rfl)
theorem dX2_of_22 : decode cX2_of 22 = .ok (.if_icmp .ne 12, 3) := dk_160 0 12 (dk_at dksX2_of_1 0 rfl rfl)
theorem dX2_of_25 : decode cX2_of 25 = .ok (.aload_n 0, 1) := dk_42 (dk_at dksX2_of_1 3 rfl rfl)
theorem dX2_of_26 : decode cX2_of 26 = .ok (.getfield 18, 3) := dk_180 0 18 (dk_at dksX2_of_1 4 rfl rfl)
theorem dX2_of_29 : decode cX2_of 29 = .ok (.iload_n 1, 1) := dk_27 (dk_at dksX2_of_1 7 rfl rfl)
theorem dX2_of_30 : decode cX2_of 30 = .ok (.iaload, 1) := dk_46 (dk_at dksX2_of_1 8 rfl rfl)
theorem dX2_of_31 : decode cX2_of 31 = .ok (.goto 14, 3) := dk_167 0 14 (dk_at dksX2_of_1 9 rfl rfl)
theorem dX2_of_34 : decode cX2_of 34 = .ok (.aload_n 0, 1) := dk_42 (dk_at dksX2_of_1 12 rfl rfl)
theorem dX2_of_35 : decode cX2_of 35 = .ok (.getfield 21, 3) := dk_180 0 21 (dk_at dksX2_of_1 13 rfl rfl)
theorem dX2_of_38 : decode cX2_of 38 = .ok (.iload_n 1, 1) := dk_27 (dk_at dksX2_of_1 16 rfl rfl)
theorem dX2_of_39 : decode cX2_of 39 = .ok (.iaload, 1) := dk_46 (dk_at dksX2_of_1 17 rfl rfl)
theorem dX2_of_40 : decode cX2_of 40 = .ok (.goto 5, 3) := dk_167 0 5 (dk_at dksX2_of_1 18 rfl rfl)
theorem dX2_of_43 : decode cX2_of 43 = .ok (.ldc 137, 2) := dk_18 137 (dk_at dksX2_of_1 21 rfl rfl)
theorem dX2_of_45 : decode cX2_of 45 = .ok (.ireturn, 1) := dk_172 (dk_at dksX2_of_1 23 rfl rfl)
theorem dX2_of_46 : decode cX2_of 46 = .ok (.aload_n 0, 1) := dk_42 (dk_at dksX2_of_2 0 rfl rfl)
theorem dX2_of_47 : decode cX2_of 47 = .ok (.iload_n 1, 1) := dk_27 (dk_at dksX2_of_2 1 rfl rfl)
theorem dX2_of_48 : decode cX2_of 48 = .ok (.iload_n 2, 1) := dk_28 (dk_at dksX2_of_2 2 rfl rfl)
theorem dX2_of_49 : decode cX2_of 49 = .ok (.invokevirtual 130, 3) := dk_182 0 130 (dk_at dksX2_of_2 3 rfl rfl)
theorem dX2_of_52 : decode cX2_of 52 = .ok (.ifCond .eq 12, 3) := dk_153 0 12 (dk_at dksX2_of_2 6 rfl rfl)
theorem dX2_of_55 : decode cX2_of 55 = .ok (.aload_n 0, 1) := dk_42 (dk_at dksX2_of_2 9 rfl rfl)
theorem dX2_of_56 : decode cX2_of 56 = .ok (.iload_n 1, 1) := dk_27 (dk_at dksX2_of_2 10 rfl rfl)
theorem dX2_of_57 : decode cX2_of 57 = .ok (.iload_n 2, 1) := dk_28 (dk_at dksX2_of_2 11 rfl rfl)
theorem dX2_of_58 : decode cX2_of 58 = .ok (.invokevirtual 138, 3) := dk_182 0 138 (dk_at dksX2_of_2 12 rfl rfl)
theorem dX2_of_61 : decode cX2_of 61 = .ok (.goto 5, 3) := dk_167 0 5 (dk_at dksX2_of_2 15 rfl rfl)
theorem dX2_of_64 : decode cX2_of 64 = .ok (.ldc 137, 2) := dk_18 137 (dk_at dksX2_of_2 18 rfl rfl)
theorem dX2_of_66 : decode cX2_of 66 = .ok (.ireturn, 1) := dk_172 (dk_at dksX2_of_2 20 rfl rfl)
def dkwX2_undo_2 : List UInt8 := [180, 0, 66, 7, 42, 180, 0, 145, 104, 5, 96, 46, 182, 0, 141, 42, 180, 0, 145, 172]
abbrev dktX2_undo_2 : List UInt8 := dkwX2_undo_2 ++ []
def dkwX2_undo_1 : List UInt8 := [180, 0, 66, 7, 42, 180, 0, 145, 104, 46, 42, 180, 0, 66, 7, 42, 180, 0, 145, 104, 4, 96, 46, 42]
abbrev dktX2_undo_1 : List UInt8 := dkwX2_undo_1 ++ dktX2_undo_2
def dkwX2_undo_0 : List UInt8 := [42, 180, 0, 145, 154, 0, 6, 16, 251, 172, 42, 89, 180, 0, 145, 4, 100, 181, 0, 145, 42, 42]
abbrev dktX2_undo_0 : List UInt8 := dkwX2_undo_0 ++ dktX2_undo_1
theorem dksX2_undo_0 : cX2_undo.data.toList.drop 0 = dktX2_undo_0 := by decide +kernel
theorem dksX2_undo_1 : cX2_undo.data.toList.drop 22 = dktX2_undo_1 := dk_seg dksX2_undo_0 22 rfl rfl
theorem dksX2_undo_2 : cX2_undo.data.toList.drop 46 = dktX2_undo_2 := dk_seg dksX2_undo_1 24 rfl rfl
theorem dX2_undo_0 : decode cX2_undo 0 = .ok (.aload_n 0, 1) := dk_42 (dk_at dksX2_undo_0 0 rfl rfl)
theorem dX2_undo_1 : decode cX2_undo 1 = .ok (.getfield 145, 3) := dk_180 0 145 (dk_at dksX2_undo_0 1 rfl rfl)
theorem dX2_undo_4 : decode cX2_undo 4 = .ok (.ifCond .ne 6, 3) := dk_154 0 6 (dk_at dksX2_undo_0 4 rfl rfl)
theorem dX2_undo_7 : decode cX2_undo 7 = .ok (.bipush (-5), 2) := dk_16 251 (dk_at dksX2_undo_0 7 rfl rfl)
theorem dX2_undo_9 : decode cX2_undo 9 = .ok (.ireturn, 1) := dk_172 (dk_at dksX2_undo_0 9 rfl rfl)
theorem dX2_undo_10 : decode cX2_undo 10 = .ok (.aload_n 0, 1) := dk_42 (dk_at dksX2_undo_0 10 rfl rfl)
theorem dX2_undo_11 : decode cX2_undo 11 = .ok (.dup, 1) := dk_89 (dk_at dksX2_undo_0 11 rfl rfl)
theorem dX2_undo_12 : decode cX2_undo 12 = .ok (.getfield 145, 3) := dk_180 0 145 (dk_at dksX2_undo_0 12 rfl rfl)
theorem dX2_undo_15 : decode cX2_undo 15 = .ok (.iconst 1, 1) := dk_4 (dk_at dksX2_undo_0 15 rfl rfl)
theorem dX2_undo_16 : decode cX2_undo 16 = .ok (.isub, 1) := dk_100 (dk_at dksX2_undo_0 16 rfl rfl)
theorem dX2_undo_17 : decode cX2_undo 17 = .ok (.putfield 145, 3) := dk_181 0 145 (dk_at dksX2_undo_0 17 rfl rfl)
theorem dX2_undo_20 : decode cX2_undo 20 = .ok (.aload_n 0, 1) := dk_42 (dk_at dksX2_undo_0 20 rfl rfl)
theorem dX2_undo_21 : decode cX2_undo 21 = .ok (.aload_n 0, 1) := dk_42 (dk_at dksX2_undo_0 21 rfl rfl)
theorem dX2_undo_22 : decode cX2_undo 22 = .ok (.getfield 66, 3) := dk_180 0 66 (dk_at dksX2_undo_1 0 rfl rfl)
theorem dX2_undo_25 : decode cX2_undo 25 = .ok (.iconst 4, 1) := dk_7 (dk_at dksX2_undo_1 3 rfl rfl)
theorem dX2_undo_26 : decode cX2_undo 26 = .ok (.aload_n 0, 1) := dk_42 (dk_at dksX2_undo_1 4 rfl rfl)
theorem dX2_undo_27 : decode cX2_undo 27 = .ok (.getfield 145, 3) := dk_180 0 145 (dk_at dksX2_undo_1 5 rfl rfl)
theorem dX2_undo_30 : decode cX2_undo 30 = .ok (.imul, 1) := dk_104 (dk_at dksX2_undo_1 8 rfl rfl)
theorem dX2_undo_31 : decode cX2_undo 31 = .ok (.iaload, 1) := dk_46 (dk_at dksX2_undo_1 9 rfl rfl)
theorem dX2_undo_32 : decode cX2_undo 32 = .ok (.aload_n 0, 1) := dk_42 (dk_at dksX2_undo_1 10 rfl rfl)
theorem dX2_undo_33 : decode cX2_undo 33 = .ok (.getfield 66, 3) := dk_180 0 66 (dk_at dksX2_undo_1 11 rfl rfl)
theorem dX2_undo_36 : decode cX2_undo 36 = .ok (.iconst 4, 1) := dk_7 (dk_at dksX2_undo_1 14 rfl rfl)
theorem dX2_undo_37 : decode cX2_undo 37 = .ok (.aload_n 0, 1) := dk_42 (dk_at dksX2_undo_1 15 rfl rfl)
theorem dX2_undo_38 : decode cX2_undo 38 = .ok (.getfield 145, 3) := dk_180 0 145 (dk_at dksX2_undo_1 16 rfl rfl)
theorem dX2_undo_41 : decode cX2_undo 41 = .ok (.imul, 1) := dk_104 (dk_at dksX2_undo_1 19 rfl rfl)
theorem dX2_undo_42 : decode cX2_undo 42 = .ok (.iconst 1, 1) := dk_4 (dk_at dksX2_undo_1 20 rfl rfl)
theorem dX2_undo_43 : decode cX2_undo 43 = .ok (.iadd, 1) := dk_96 (dk_at dksX2_undo_1 21 rfl rfl)
theorem dX2_undo_44 : decode cX2_undo 44 = .ok (.iaload, 1) := dk_46 (dk_at dksX2_undo_1 22 rfl rfl)
theorem dX2_undo_45 : decode cX2_undo 45 = .ok (.aload_n 0, 1) := dk_42 (dk_at dksX2_undo_1 23 rfl rfl)
theorem dX2_undo_46 : decode cX2_undo 46 = .ok (.getfield 66, 3) := dk_180 0 66 (dk_at dksX2_undo_2 0 rfl rfl)
theorem dX2_undo_49 : decode cX2_undo 49 = .ok (.iconst 4, 1) := dk_7 (dk_at dksX2_undo_2 3 rfl rfl)
theorem dX2_undo_50 : decode cX2_undo 50 = .ok (.aload_n 0, 1) := dk_42 (dk_at dksX2_undo_2 4 rfl rfl)
theorem dX2_undo_51 : decode cX2_undo 51 = .ok (.getfield 145, 3) := dk_180 0 145 (dk_at dksX2_undo_2 5 rfl rfl)
theorem dX2_undo_54 : decode cX2_undo 54 = .ok (.imul, 1) := dk_104 (dk_at dksX2_undo_2 8 rfl rfl)
theorem dX2_undo_55 : decode cX2_undo 55 = .ok (.iconst 2, 1) := dk_5 (dk_at dksX2_undo_2 9 rfl rfl)
theorem dX2_undo_56 : decode cX2_undo 56 = .ok (.iadd, 1) := dk_96 (dk_at dksX2_undo_2 10 rfl rfl)
theorem dX2_undo_57 : decode cX2_undo 57 = .ok (.iaload, 1) := dk_46 (dk_at dksX2_undo_2 11 rfl rfl)
theorem dX2_undo_58 : decode cX2_undo 58 = .ok (.invokevirtual 141, 3) := dk_182 0 141 (dk_at dksX2_undo_2 12 rfl rfl)
theorem dX2_undo_61 : decode cX2_undo 61 = .ok (.aload_n 0, 1) := dk_42 (dk_at dksX2_undo_2 15 rfl rfl)
theorem dX2_undo_62 : decode cX2_undo 62 = .ok (.getfield 145, 3) := dk_180 0 145 (dk_at dksX2_undo_2 16 rfl rfl)
theorem dX2_undo_65 : decode cX2_undo 65 = .ok (.ireturn, 1) := dk_172 (dk_at dksX2_undo_2 19 rfl rfl)
def dkwX2_redo_3 : List UInt8 := [180, 0, 145, 100, 172]
abbrev dktX2_redo_3 : List UInt8 := dkwX2_redo_3 ++ []
def dkwX2_redo_2 : List UInt8 := [104, 6, 96, 46, 182, 0, 141, 42, 89, 180, 0, 145, 4, 96, 181, 0, 145, 42, 180, 0, 148, 42]
abbrev dktX2_redo_2 : List UInt8 := dkwX2_redo_2 ++ dktX2_redo_3
def dkwX2_redo_1 : List UInt8 := [104, 46, 42, 180, 0, 66, 7, 42, 180, 0, 145, 104, 4, 96, 46, 42, 180, 0, 66, 7, 42, 180, 0, 145]
abbrev dktX2_redo_1 : List UInt8 := dkwX2_redo_1 ++ dktX2_redo_2
def dkwX2_redo_0 : List UInt8 := [42, 180, 0, 145, 42, 180, 0, 148, 160, 0, 6, 16, 251, 172, 42, 42, 180, 0, 66, 7, 42, 180, 0, 145]
abbrev dktX2_redo_0 : List UInt8 := dkwX2_redo_0 ++ dktX2_redo_1
theorem dksX2_redo_0 : cX2_redo.data.toList.drop 0 = dktX2_redo_0 := by decide +kernel
theorem dksX2_redo_1 : cX2_redo.data.toList.drop 24 = dktX2_redo_1 := dk_seg dksX2_redo_0 24 rfl rfl
theorem dksX2_redo_2 : cX2_redo.data.toList.drop 48 = dktX2_redo_2 := dk_seg dksX2_redo_1 24 rfl rfl
theorem dksX2_redo_3 : cX2_redo.data.toList.drop 70 = dktX2_redo_3 := dk_seg dksX2_redo_2 22 rfl rfl
theorem dX2_redo_0 : decode cX2_redo 0 = .ok (.aload_n 0, 1) := dk_42 (dk_at dksX2_redo_0 0 rfl rfl)
theorem dX2_redo_1 : decode cX2_redo 1 = .ok (.getfield 145, 3) := dk_180 0 145 (dk_at dksX2_redo_0 1 rfl rfl)
theorem dX2_redo_4 : decode cX2_redo 4 = .ok (.aload_n 0, 1) := dk_42 (dk_at dksX2_redo_0 4 rfl rfl)
theorem dX2_redo_5 : decode cX2_redo 5 = .ok (.getfield 148, 3) := dk_180 0 148 (dk_at dksX2_redo_0 5 rfl rfl)
theorem dX2_redo_8 : decode cX2_redo 8 = .ok (.if_icmp .ne 6, 3) := dk_160 0 6 (dk_at dksX2_redo_0 8 rfl rfl)
theorem dX2_redo_11 : decode cX2_redo 11 = .ok (.bipush (-5), 2) := dk_16 251 (dk_at dksX2_redo_0 11 rfl rfl)
theorem dX2_redo_13 : decode cX2_redo 13 = .ok (.ireturn, 1) := dk_172 (dk_at dksX2_redo_0 13 rfl rfl)
theorem dX2_redo_14 : decode cX2_redo 14 = .ok (.aload_n 0, 1) := dk_42 (dk_at dksX2_redo_0 14 rfl rfl)
theorem dX2_redo_15 : decode cX2_redo 15 = .ok (.aload_n 0, 1) := dk_42 (dk_at dksX2_redo_0 15 rfl rfl)
theorem dX2_redo_16 : decode cX2_redo 16 = .ok (.getfield 66, 3) := dk_180 0 66 (dk_at dksX2_redo_0 16 rfl rfl)
theorem dX2_redo_19 : decode cX2_redo 19 = .ok (.iconst 4, 1) := dk_7 (dk_at dksX2_redo_0 19 rfl rfl)
theorem dX2_redo_20 : decode cX2_redo 20 = .ok (.aload_n 0, 1) := dk_42 (dk_at dksX2_redo_0 20 rfl rfl)
theorem dX2_redo_21 : decode cX2_redo 21 = .ok (.getfield 145, 3) := dk_180 0 145 (dk_at dksX2_redo_0 21 rfl rfl)
theorem dX2_redo_24 : decode cX2_redo 24 = .ok (.imul, 1) := dk_104 (dk_at dksX2_redo_1 0 rfl rfl)
theorem dX2_redo_25 : decode cX2_redo 25 = .ok (.iaload, 1) := dk_46 (dk_at dksX2_redo_1 1 rfl rfl)
theorem dX2_redo_26 : decode cX2_redo 26 = .ok (.aload_n 0, 1) := dk_42 (dk_at dksX2_redo_1 2 rfl rfl)
theorem dX2_redo_27 : decode cX2_redo 27 = .ok (.getfield 66, 3) := dk_180 0 66 (dk_at dksX2_redo_1 3 rfl rfl)
theorem dX2_redo_30 : decode cX2_redo 30 = .ok (.iconst 4, 1) := dk_7 (dk_at dksX2_redo_1 6 rfl rfl)
theorem dX2_redo_31 : decode cX2_redo 31 = .ok (.aload_n 0, 1) := dk_42 (dk_at dksX2_redo_1 7 rfl rfl)
theorem dX2_redo_32 : decode cX2_redo 32 = .ok (.getfield 145, 3) := dk_180 0 145 (dk_at dksX2_redo_1 8 rfl rfl)
theorem dX2_redo_35 : decode cX2_redo 35 = .ok (.imul, 1) := dk_104 (dk_at dksX2_redo_1 11 rfl rfl)
theorem dX2_redo_36 : decode cX2_redo 36 = .ok (.iconst 1, 1) := dk_4 (dk_at dksX2_redo_1 12 rfl rfl)
theorem dX2_redo_37 : decode cX2_redo 37 = .ok (.iadd, 1) := dk_96 (dk_at dksX2_redo_1 13 rfl rfl)
theorem dX2_redo_38 : decode cX2_redo 38 = .ok (.iaload, 1) := dk_46 (dk_at dksX2_redo_1 14 rfl rfl)
theorem dX2_redo_39 : decode cX2_redo 39 = .ok (.aload_n 0, 1) := dk_42 (dk_at dksX2_redo_1 15 rfl rfl)
theorem dX2_redo_40 : decode cX2_redo 40 = .ok (.getfield 66, 3) := dk_180 0 66 (dk_at dksX2_redo_1 16 rfl rfl)
theorem dX2_redo_43 : decode cX2_redo 43 = .ok (.iconst 4, 1) := dk_7 (dk_at dksX2_redo_1 19 rfl rfl)
theorem dX2_redo_44 : decode cX2_redo 44 = .ok (.aload_n 0, 1) := dk_42 (dk_at dksX2_redo_1 20 rfl rfl)
theorem dX2_redo_45 : decode cX2_redo 45 = .ok (.getfield 145, 3) := dk_180 0 145 (dk_at dksX2_redo_1 21 rfl rfl)
theorem dX2_redo_48 : decode cX2_redo 48 = .ok (.imul, 1) := dk_104 (dk_at dksX2_redo_2 0 rfl rfl)
theorem dX2_redo_49 : decode cX2_redo 49 = .ok (.iconst 3, 1) := dk_6 (dk_at dksX2_redo_2 1 rfl rfl)
theorem dX2_redo_50 : decode cX2_redo 50 = .ok (.iadd, 1) := dk_96 (dk_at dksX2_redo_2 2 rfl rfl)
theorem dX2_redo_51 : decode cX2_redo 51 = .ok (.iaload, 1) := dk_46 (dk_at dksX2_redo_2 3 rfl rfl)
theorem dX2_redo_52 : decode cX2_redo 52 = .ok (.invokevirtual 141, 3) := dk_182 0 141 (dk_at dksX2_redo_2 4 rfl rfl)
theorem dX2_redo_55 : decode cX2_redo 55 = .ok (.aload_n 0, 1) := dk_42 (dk_at dksX2_redo_2 7 rfl rfl)
theorem dX2_redo_56 : decode cX2_redo 56 = .ok (.dup, 1) := dk_89 (dk_at dksX2_redo_2 8 rfl rfl)
theorem dX2_redo_57 : decode cX2_redo 57 = .ok (.getfield 145, 3) := dk_180 0 145 (dk_at dksX2_redo_2 9 rfl rfl)
theorem dX2_redo_60 : decode cX2_redo 60 = .ok (.iconst 1, 1) := dk_4 (dk_at dksX2_redo_2 12 rfl rfl)
theorem dX2_redo_61 : decode cX2_redo 61 = .ok (.iadd, 1) := dk_96 (dk_at dksX2_redo_2 13 rfl rfl)
theorem dX2_redo_62 : decode cX2_redo 62 = .ok (.putfield 145, 3) := dk_181 0 145 (dk_at dksX2_redo_2 14 rfl rfl)
theorem dX2_redo_65 : decode cX2_redo 65 = .ok (.aload_n 0, 1) := dk_42 (dk_at dksX2_redo_2 17 rfl rfl)
theorem dX2_redo_66 : decode cX2_redo 66 = .ok (.getfield 148, 3) := dk_180 0 148 (dk_at dksX2_redo_2 18 rfl rfl)
theorem dX2_redo_69 : decode cX2_redo 69 = .ok (.aload_n 0, 1) := dk_42 (dk_at dksX2_redo_2 21 rfl rfl)
theorem dX2_redo_70 : decode cX2_redo 70 = .ok (.getfield 145, 3) := dk_180 0 145 (dk_at dksX2_redo_3 0 rfl rfl)
theorem dX2_redo_73 : decode cX2_redo 73 = .ok (.isub, 1) := dk_100 (dk_at dksX2_redo_3 3 rfl rfl)
theorem dX2_redo_74 : decode cX2_redo 74 = .ok (.ireturn, 1) := dk_172 (dk_at dksX2_redo_3 4 rfl rfl)
def dkwX2_feed_1 : List UInt8 := [172, 42, 180, 0, 24, 42, 89, 180, 0, 151, 90, 4, 96, 181, 0, 151, 27, 79, 42, 180, 0, 151, 172]
abbrev dktX2_feed_1 : List UInt8 := dkwX2_feed_1 ++ []
def dkwX2_feed_0 : List UInt8 := [27, 3, 17, 0, 255, 184, 0, 92, 154, 0, 5, 2, 172, 42, 180, 0, 151, 16, 120, 160, 0, 6, 16, 253]
abbrev dktX2_feed_0 : List UInt8 := dkwX2_feed_0 ++ dktX2_feed_1
theorem dksX2_feed_0 : cX2_feed.data.toList.drop 0 = dktX2_feed_0 := by decide +kernel
theorem dksX2_feed_1 : cX2_feed.data.toList.drop 24 = dktX2_feed_1 := dk_seg dksX2_feed_0 24 rfl rfl
theorem dX2_feed_0 : decode cX2_feed 0 = .ok (.iload_n 1, 1) := dk_27 (dk_at dksX2_feed_0 0 rfl rfl)
theorem dX2_feed_1 : decode cX2_feed 1 = .ok (.iconst 0, 1) := dk_3 (dk_at dksX2_feed_0 1 rfl rfl)
theorem dX2_feed_2 : decode cX2_feed 2 = .ok (.sipush 255, 3) := dk_17 0 255 (dk_at dksX2_feed_0 2 rfl rfl)
theorem dX2_feed_5 : decode cX2_feed 5 = .ok (.invokestatic 92, 3) := dk_184 0 92 (dk_at dksX2_feed_0 5 rfl rfl)
theorem dX2_feed_8 : decode cX2_feed 8 = .ok (.ifCond .ne 5, 3) := dk_154 0 5 (dk_at dksX2_feed_0 8 rfl rfl)
theorem dX2_feed_11 : decode cX2_feed 11 = .ok (.iconst (-1), 1) := dk_2 (dk_at dksX2_feed_0 11 rfl rfl)
theorem dX2_feed_12 : decode cX2_feed 12 = .ok (.ireturn, 1) := dk_172 (dk_at dksX2_feed_0 12 rfl rfl)
theorem dX2_feed_13 : decode cX2_feed 13 = .ok (.aload_n 0, 1) := dk_42 (dk_at dksX2_feed_0 13 rfl rfl)
theorem dX2_feed_14 : decode cX2_feed 14 = .ok (.getfield 151, 3) := dk_180 0 151 (dk_at dksX2_feed_0 14 rfl rfl)
theorem dX2_feed_17 : decode cX2_feed 17 = .ok (.bipush 120, 2) := dk_16 120 (dk_at dksX2_feed_0 17 rfl rfl)
theorem dX2_feed_19 : decode cX2_feed 19 = .ok (.if_icmp .ne 6, 3) := dk_160 0 6 (dk_at dksX2_feed_0 19 rfl rfl)
theorem dX2_feed_22 : decode cX2_feed 22 = .ok (.bipush (-3), 2) := dk_16 253 (dk_at dksX2_feed_0 22 rfl rfl)
theorem dX2_feed_24 : decode cX2_feed 24 = .ok (.ireturn, 1) := dk_172 (dk_at dksX2_feed_1 0 rfl rfl)
theorem dX2_feed_25 : decode cX2_feed 25 = .ok (.aload_n 0, 1) := dk_42 (dk_at dksX2_feed_1 1 rfl rfl)
theorem dX2_feed_26 : decode cX2_feed 26 = .ok (.getfield 24, 3) := dk_180 0 24 (dk_at dksX2_feed_1 2 rfl rfl)
theorem dX2_feed_29 : decode cX2_feed 29 = .ok (.aload_n 0, 1) := dk_42 (dk_at dksX2_feed_1 5 rfl rfl)
theorem dX2_feed_30 : decode cX2_feed 30 = .ok (.dup, 1) := dk_89 (dk_at dksX2_feed_1 6 rfl rfl)
theorem dX2_feed_31 : decode cX2_feed 31 = .ok (.getfield 151, 3) := dk_180 0 151 (dk_at dksX2_feed_1 7 rfl rfl)
theorem dX2_feed_34 : decode cX2_feed 34 = .ok (.dup_x1, 1) := dk_90 (dk_at dksX2_feed_1 10 rfl rfl)
theorem dX2_feed_35 : decode cX2_feed 35 = .ok (.iconst 1, 1) := dk_4 (dk_at dksX2_feed_1 11 rfl rfl)
theorem dX2_feed_36 : decode cX2_feed 36 = .ok (.iadd, 1) := dk_96 (dk_at dksX2_feed_1 12 rfl rfl)
theorem dX2_feed_37 : decode cX2_feed 37 = .ok (.putfield 151, 3) := dk_181 0 151 (dk_at dksX2_feed_1 13 rfl rfl)
theorem dX2_feed_40 : decode cX2_feed 40 = .ok (.iload_n 1, 1) := dk_27 (dk_at dksX2_feed_1 16 rfl rfl)
theorem dX2_feed_41 : decode cX2_feed 41 = .ok (.iastore, 1) := dk_79 (dk_at dksX2_feed_1 17 rfl rfl)
theorem dX2_feed_42 : decode cX2_feed 42 = .ok (.aload_n 0, 1) := dk_42 (dk_at dksX2_feed_1 18 rfl rfl)
theorem dX2_feed_43 : decode cX2_feed 43 = .ok (.getfield 151, 3) := dk_180 0 151 (dk_at dksX2_feed_1 19 rfl rfl)
theorem dX2_feed_46 : decode cX2_feed 46 = .ok (.ireturn, 1) := dk_172 (dk_at dksX2_feed_1 22 rfl rfl)
def dkwX2_law_7 : List UInt8 := [180, 0, 36, 29, 42, 180, 0, 48, 29, 46, 79, 132, 3, 1, 167, 255, 233, 4, 172]
abbrev dktX2_law_7 : List UInt8 := dkwX2_law_7 ++ []
def dkwX2_law_6 : List UInt8 := [180, 0, 45, 29, 46, 79, 132, 3, 1, 167, 255, 209, 3, 62, 29, 42, 180, 0, 161, 162, 0, 21, 42]
abbrev dktX2_law_6 : List UInt8 := dkwX2_law_6 ++ dktX2_law_7
def dkwX2_law_5 : List UInt8 := [180, 0, 39, 29, 46, 79, 42, 180, 0, 30, 29, 42, 180, 0, 42, 29, 46, 79, 42, 180, 0, 33, 29, 42]
abbrev dktX2_law_5 : List UInt8 := dkwX2_law_5 ++ dktX2_law_6
def dkwX2_law_4 : List UInt8 := [180, 0, 199, 181, 0, 209, 3, 62, 29, 42, 180, 0, 209, 162, 0, 45, 42, 180, 0, 27, 29, 42]
abbrev dktX2_law_4 : List UInt8 := dkwX2_law_4 ++ dktX2_law_5
def dkwX2_law_3 : List UInt8 := [181, 0, 151, 28, 154, 0, 11, 16, 156, 42, 180, 0, 154, 100, 172, 42, 4, 181, 0, 205, 42, 42]
abbrev dktX2_law_3 : List UInt8 := dkwX2_law_3 ++ dktX2_law_4
def dkwX2_law_2 : List UInt8 := [153, 0, 18, 42, 180, 0, 154, 42, 180, 0, 151, 160, 0, 7, 4, 167, 0, 4, 3, 61, 42, 3]
abbrev dktX2_law_2 : List UInt8 := dkwX2_law_2 ++ dktX2_law_3
def dkwX2_law_1 : List UInt8 := [60, 27, 153, 0, 20, 42, 16, 59, 182, 0, 178, 153, 0, 11, 42, 182, 0, 202, 60, 167, 255, 238, 27]
abbrev dktX2_law_1 : List UInt8 := dkwX2_law_1 ++ dktX2_law_2
def dkwX2_law_0 : List UInt8 := [42, 3, 181, 0, 154, 42, 3, 181, 0, 175, 42, 3, 181, 0, 161, 42, 3, 181, 0, 199, 42, 182, 0, 202]
abbrev dktX2_law_0 : List UInt8 := dkwX2_law_0 ++ dktX2_law_1
theorem dksX2_law_0 : cX2_law.data.toList.drop 0 = dktX2_law_0 := by decide +kernel
theorem dksX2_law_1 : cX2_law.data.toList.drop 24 = dktX2_law_1 := dk_seg dksX2_law_0 24 rfl rfl
theorem dksX2_law_2 : cX2_law.data.toList.drop 47 = dktX2_law_2 := dk_seg dksX2_law_1 23 rfl rfl
theorem dksX2_law_3 : cX2_law.data.toList.drop 69 = dktX2_law_3 := dk_seg dksX2_law_2 22 rfl rfl
theorem dksX2_law_4 : cX2_law.data.toList.drop 91 = dktX2_law_4 := dk_seg dksX2_law_3 22 rfl rfl
theorem dksX2_law_5 : cX2_law.data.toList.drop 113 = dktX2_law_5 := dk_seg dksX2_law_4 22 rfl rfl
theorem dksX2_law_6 : cX2_law.data.toList.drop 137 = dktX2_law_6 := dk_seg dksX2_law_5 24 rfl rfl
theorem dksX2_law_7 : cX2_law.data.toList.drop 160 = dktX2_law_7 := dk_seg dksX2_law_6 23 rfl rfl
theorem dX2_law_0 : decode cX2_law 0 = .ok (.aload_n 0, 1) := dk_42 (dk_at dksX2_law_0 0 rfl rfl)
theorem dX2_law_1 : decode cX2_law 1 = .ok (.iconst 0, 1) := dk_3 (dk_at dksX2_law_0 1 rfl rfl)
theorem dX2_law_2 : decode cX2_law 2 = .ok (.putfield 154, 3) := dk_181 0 154 (dk_at dksX2_law_0 2 rfl rfl)
theorem dX2_law_5 : decode cX2_law 5 = .ok (.aload_n 0, 1) := dk_42 (dk_at dksX2_law_0 5 rfl rfl)
theorem dX2_law_6 : decode cX2_law 6 = .ok (.iconst 0, 1) := dk_3 (dk_at dksX2_law_0 6 rfl rfl)
theorem dX2_law_7 : decode cX2_law 7 = .ok (.putfield 175, 3) := dk_181 0 175 (dk_at dksX2_law_0 7 rfl rfl)
theorem dX2_law_10 : decode cX2_law 10 = .ok (.aload_n 0, 1) := dk_42 (dk_at dksX2_law_0 10 rfl rfl)
theorem dX2_law_11 : decode cX2_law 11 = .ok (.iconst 0, 1) := dk_3 (dk_at dksX2_law_0 11 rfl rfl)
theorem dX2_law_12 : decode cX2_law 12 = .ok (.putfield 161, 3) := dk_181 0 161 (dk_at dksX2_law_0 12 rfl rfl)
theorem dX2_law_15 : decode cX2_law 15 = .ok (.aload_n 0, 1) := dk_42 (dk_at dksX2_law_0 15 rfl rfl)
theorem dX2_law_16 : decode cX2_law 16 = .ok (.iconst 0, 1) := dk_3 (dk_at dksX2_law_0 16 rfl rfl)
theorem dX2_law_17 : decode cX2_law 17 = .ok (.putfield 199, 3) := dk_181 0 199 (dk_at dksX2_law_0 17 rfl rfl)
theorem dX2_law_20 : decode cX2_law 20 = .ok (.aload_n 0, 1) := dk_42 (dk_at dksX2_law_0 20 rfl rfl)
theorem dX2_law_21 : decode cX2_law 21 = .ok (.invokevirtual 202, 3) := dk_182 0 202 (dk_at dksX2_law_0 21 rfl rfl)
theorem dX2_law_24 : decode cX2_law 24 = .ok (.istore_n 1, 1) := dk_60 (dk_at dksX2_law_1 0 rfl rfl)
theorem dX2_law_25 : decode cX2_law 25 = .ok (.iload_n 1, 1) := dk_27 (dk_at dksX2_law_1 1 rfl rfl)
theorem dX2_law_26 : decode cX2_law 26 = .ok (.ifCond .eq 20, 3) := dk_153 0 20 (dk_at dksX2_law_1 2 rfl rfl)
theorem dX2_law_29 : decode cX2_law 29 = .ok (.aload_n 0, 1) := dk_42 (dk_at dksX2_law_1 5 rfl rfl)
theorem dX2_law_30 : decode cX2_law 30 = .ok (.bipush 59, 2) := dk_16 59 (dk_at dksX2_law_1 6 rfl rfl)
theorem dX2_law_32 : decode cX2_law 32 = .ok (.invokevirtual 178, 3) := dk_182 0 178 (dk_at dksX2_law_1 8 rfl rfl)
theorem dX2_law_35 : decode cX2_law 35 = .ok (.ifCond .eq 11, 3) := dk_153 0 11 (dk_at dksX2_law_1 11 rfl rfl)
theorem dX2_law_38 : decode cX2_law 38 = .ok (.aload_n 0, 1) := dk_42 (dk_at dksX2_law_1 14 rfl rfl)
theorem dX2_law_39 : decode cX2_law 39 = .ok (.invokevirtual 202, 3) := dk_182 0 202 (dk_at dksX2_law_1 15 rfl rfl)
theorem dX2_law_42 : decode cX2_law 42 = .ok (.istore_n 1, 1) := dk_60 (dk_at dksX2_law_1 18 rfl rfl)
theorem dX2_law_43 : decode cX2_law 43 = .ok (.goto (-18), 3) := dk_167 255 238 (dk_at dksX2_law_1 19 rfl rfl)
theorem dX2_law_46 : decode cX2_law 46 = .ok (.iload_n 1, 1) := dk_27 (dk_at dksX2_law_1 22 rfl rfl)
theorem dX2_law_47 : decode cX2_law 47 = .ok (.ifCond .eq 18, 3) := dk_153 0 18 (dk_at dksX2_law_2 0 rfl rfl)
theorem dX2_law_50 : decode cX2_law 50 = .ok (.aload_n 0, 1) := dk_42 (dk_at dksX2_law_2 3 rfl rfl)
theorem dX2_law_51 : decode cX2_law 51 = .ok (.getfield 154, 3) := dk_180 0 154 (dk_at dksX2_law_2 4 rfl rfl)
theorem dX2_law_54 : decode cX2_law 54 = .ok (.aload_n 0, 1) := dk_42 (dk_at dksX2_law_2 7 rfl rfl)
theorem dX2_law_55 : decode cX2_law 55 = .ok (.getfield 151, 3) := dk_180 0 151 (dk_at dksX2_law_2 8 rfl rfl)
theorem dX2_law_58 : decode cX2_law 58 = .ok (.if_icmp .ne 7, 3) := dk_160 0 7 (dk_at dksX2_law_2 11 rfl rfl)
theorem dX2_law_61 : decode cX2_law 61 = .ok (.iconst 1, 1) := dk_4 (dk_at dksX2_law_2 14 rfl rfl)
theorem dX2_law_62 : decode cX2_law 62 = .ok (.goto 4, 3) := dk_167 0 4 (dk_at dksX2_law_2 15 rfl rfl)
theorem dX2_law_65 : decode cX2_law 65 = .ok (.iconst 0, 1) := dk_3 (dk_at dksX2_law_2 18 rfl rfl)
theorem dX2_law_66 : decode cX2_law 66 = .ok (.istore_n 2, 1) := dk_61 (dk_at dksX2_law_2 19 rfl rfl)
theorem dX2_law_67 : decode cX2_law 67 = .ok (.aload_n 0, 1) := dk_42 (dk_at dksX2_law_2 20 rfl rfl)
theorem dX2_law_68 : decode cX2_law 68 = .ok (.iconst 0, 1) := dk_3 (dk_at dksX2_law_2 21 rfl rfl)
theorem dX2_law_69 : decode cX2_law 69 = .ok (.putfield 151, 3) := dk_181 0 151 (dk_at dksX2_law_3 0 rfl rfl)
theorem dX2_law_72 : decode cX2_law 72 = .ok (.iload_n 2, 1) := dk_28 (dk_at dksX2_law_3 3 rfl rfl)
theorem dX2_law_73 : decode cX2_law 73 = .ok (.ifCond .ne 11, 3) := dk_154 0 11 (dk_at dksX2_law_3 4 rfl rfl)
theorem dX2_law_76 : decode cX2_law 76 = .ok (.bipush (-100), 2) := dk_16 156 (dk_at dksX2_law_3 7 rfl rfl)
theorem dX2_law_78 : decode cX2_law 78 = .ok (.aload_n 0, 1) := dk_42 (dk_at dksX2_law_3 9 rfl rfl)
theorem dX2_law_79 : decode cX2_law 79 = .ok (.getfield 154, 3) := dk_180 0 154 (dk_at dksX2_law_3 10 rfl rfl)
theorem dX2_law_82 : decode cX2_law 82 = .ok (.isub, 1) := dk_100 (dk_at dksX2_law_3 13 rfl rfl)
theorem dX2_law_83 : decode cX2_law 83 = .ok (.ireturn, 1) := dk_172 (dk_at dksX2_law_3 14 rfl rfl)
theorem dX2_law_84 : decode cX2_law 84 = .ok (.aload_n 0, 1) := dk_42 (dk_at dksX2_law_3 15 rfl rfl)
theorem dX2_law_85 : decode cX2_law 85 = .ok (.iconst 1, 1) := dk_4 (dk_at dksX2_law_3 16 rfl rfl)
theorem dX2_law_86 : decode cX2_law 86 = .ok (.putfield 205, 3) := dk_181 0 205 (dk_at dksX2_law_3 17 rfl rfl)
theorem dX2_law_89 : decode cX2_law 89 = .ok (.aload_n 0, 1) := dk_42 (dk_at dksX2_law_3 20 rfl rfl)
theorem dX2_law_90 : decode cX2_law 90 = .ok (.aload_n 0, 1) := dk_42 (dk_at dksX2_law_3 21 rfl rfl)
theorem dX2_law_91 : decode cX2_law 91 = .ok (.getfield 199, 3) := dk_180 0 199 (dk_at dksX2_law_4 0 rfl rfl)
theorem dX2_law_94 : decode cX2_law 94 = .ok (.putfield 209, 3) := dk_181 0 209 (dk_at dksX2_law_4 3 rfl rfl)
theorem dX2_law_97 : decode cX2_law 97 = .ok (.iconst 0, 1) := dk_3 (dk_at dksX2_law_4 6 rfl rfl)
theorem dX2_law_98 : decode cX2_law 98 = .ok (.istore_n 3, 1) := dk_62 (dk_at dksX2_law_4 7 rfl rfl)
theorem dX2_law_99 : decode cX2_law 99 = .ok (.iload_n 3, 1) := dk_29 (dk_at dksX2_law_4 8 rfl rfl)
theorem dX2_law_100 : decode cX2_law 100 = .ok (.aload_n 0, 1) := dk_42 (dk_at dksX2_law_4 9 rfl rfl)
theorem dX2_law_101 : decode cX2_law 101 = .ok (.getfield 209, 3) := dk_180 0 209 (dk_at dksX2_law_4 10 rfl rfl)
theorem dX2_law_104 : decode cX2_law 104 = .ok (.if_icmp .ge 45, 3) := dk_162 0 45 (dk_at dksX2_law_4 13 rfl rfl)
theorem dX2_law_107 : decode cX2_law 107 = .ok (.aload_n 0, 1) := dk_42 (dk_at dksX2_law_4 16 rfl rfl)
theorem dX2_law_108 : decode cX2_law 108 = .ok (.getfield 27, 3) := dk_180 0 27 (dk_at dksX2_law_4 17 rfl rfl)
theorem dX2_law_111 : decode cX2_law 111 = .ok (.iload_n 3, 1) := dk_29 (dk_at dksX2_law_4 20 rfl rfl)
theorem dX2_law_112 : decode cX2_law 112 = .ok (.aload_n 0, 1) := dk_42 (dk_at dksX2_law_4 21 rfl rfl)
theorem dX2_law_113 : decode cX2_law 113 = .ok (.getfield 39, 3) := dk_180 0 39 (dk_at dksX2_law_5 0 rfl rfl)
theorem dX2_law_116 : decode cX2_law 116 = .ok (.iload_n 3, 1) := dk_29 (dk_at dksX2_law_5 3 rfl rfl)
theorem dX2_law_117 : decode cX2_law 117 = .ok (.iaload, 1) := dk_46 (dk_at dksX2_law_5 4 rfl rfl)
theorem dX2_law_118 : decode cX2_law 118 = .ok (.iastore, 1) := dk_79 (dk_at dksX2_law_5 5 rfl rfl)
theorem dX2_law_119 : decode cX2_law 119 = .ok (.aload_n 0, 1) := dk_42 (dk_at dksX2_law_5 6 rfl rfl)
theorem dX2_law_120 : decode cX2_law 120 = .ok (.getfield 30, 3) := dk_180 0 30 (dk_at dksX2_law_5 7 rfl rfl)
theorem dX2_law_123 : decode cX2_law 123 = .ok (.iload_n 3, 1) := dk_29 (dk_at dksX2_law_5 10 rfl rfl)
theorem dX2_law_124 : decode cX2_law 124 = .ok (.aload_n 0, 1) := dk_42 (dk_at dksX2_law_5 11 rfl rfl)
theorem dX2_law_125 : decode cX2_law 125 = .ok (.getfield 42, 3) := dk_180 0 42 (dk_at dksX2_law_5 12 rfl rfl)
theorem dX2_law_128 : decode cX2_law 128 = .ok (.iload_n 3, 1) := dk_29 (dk_at dksX2_law_5 15 rfl rfl)
theorem dX2_law_129 : decode cX2_law 129 = .ok (.iaload, 1) := dk_46 (dk_at dksX2_law_5 16 rfl rfl)
theorem dX2_law_130 : decode cX2_law 130 = .ok (.iastore, 1) := dk_79 (dk_at dksX2_law_5 17 rfl rfl)
theorem dX2_law_131 : decode cX2_law 131 = .ok (.aload_n 0, 1) := dk_42 (dk_at dksX2_law_5 18 rfl rfl)
theorem dX2_law_132 : decode cX2_law 132 = .ok (.getfield 33, 3) := dk_180 0 33 (dk_at dksX2_law_5 19 rfl rfl)
theorem dX2_law_135 : decode cX2_law 135 = .ok (.iload_n 3, 1) := dk_29 (dk_at dksX2_law_5 22 rfl rfl)
theorem dX2_law_136 : decode cX2_law 136 = .ok (.aload_n 0, 1) := dk_42 (dk_at dksX2_law_5 23 rfl rfl)
theorem dX2_law_137 : decode cX2_law 137 = .ok (.getfield 45, 3) := dk_180 0 45 (dk_at dksX2_law_6 0 rfl rfl)
theorem dX2_law_140 : decode cX2_law 140 = .ok (.iload_n 3, 1) := dk_29 (dk_at dksX2_law_6 3 rfl rfl)
theorem dX2_law_141 : decode cX2_law 141 = .ok (.iaload, 1) := dk_46 (dk_at dksX2_law_6 4 rfl rfl)
theorem dX2_law_142 : decode cX2_law 142 = .ok (.iastore, 1) := dk_79 (dk_at dksX2_law_6 5 rfl rfl)
theorem dX2_law_143 : decode cX2_law 143 = .ok (.iinc 3 1, 3) := dk_132 3 1 (dk_at dksX2_law_6 6 rfl rfl)
theorem dX2_law_146 : decode cX2_law 146 = .ok (.goto (-47), 3) := dk_167 255 209 (dk_at dksX2_law_6 9 rfl rfl)
theorem dX2_law_149 : decode cX2_law 149 = .ok (.iconst 0, 1) := dk_3 (dk_at dksX2_law_6 12 rfl rfl)
theorem dX2_law_150 : decode cX2_law 150 = .ok (.istore_n 3, 1) := dk_62 (dk_at dksX2_law_6 13 rfl rfl)
theorem dX2_law_151 : decode cX2_law 151 = .ok (.iload_n 3, 1) := dk_29 (dk_at dksX2_law_6 14 rfl rfl)
theorem dX2_law_152 : decode cX2_law 152 = .ok (.aload_n 0, 1) := dk_42 (dk_at dksX2_law_6 15 rfl rfl)
theorem dX2_law_153 : decode cX2_law 153 = .ok (.getfield 161, 3) := dk_180 0 161 (dk_at dksX2_law_6 16 rfl rfl)
theorem dX2_law_156 : decode cX2_law 156 = .ok (.if_icmp .ge 21, 3) := dk_162 0 21 (dk_at dksX2_law_6 19 rfl rfl)
theorem dX2_law_159 : decode cX2_law 159 = .ok (.aload_n 0, 1) := dk_42 (dk_at dksX2_law_6 22 rfl rfl)
theorem dX2_law_160 : decode cX2_law 160 = .ok (.getfield 36, 3) := dk_180 0 36 (dk_at dksX2_law_7 0 rfl rfl)
theorem dX2_law_163 : decode cX2_law 163 = .ok (.iload_n 3, 1) := dk_29 (dk_at dksX2_law_7 3 rfl rfl)
theorem dX2_law_164 : decode cX2_law 164 = .ok (.aload_n 0, 1) := dk_42 (dk_at dksX2_law_7 4 rfl rfl)
theorem dX2_law_165 : decode cX2_law 165 = .ok (.getfield 48, 3) := dk_180 0 48 (dk_at dksX2_law_7 5 rfl rfl)
theorem dX2_law_168 : decode cX2_law 168 = .ok (.iload_n 3, 1) := dk_29 (dk_at dksX2_law_7 8 rfl rfl)
theorem dX2_law_169 : decode cX2_law 169 = .ok (.iaload, 1) := dk_46 (dk_at dksX2_law_7 9 rfl rfl)
theorem dX2_law_170 : decode cX2_law 170 = .ok (.iastore, 1) := dk_79 (dk_at dksX2_law_7 10 rfl rfl)
theorem dX2_law_171 : decode cX2_law 171 = .ok (.iinc 3 1, 3) := dk_132 3 1 (dk_at dksX2_law_7 11 rfl rfl)
theorem dX2_law_174 : decode cX2_law 174 = .ok (.goto (-23), 3) := dk_167 255 233 (dk_at dksX2_law_7 14 rfl rfl)
theorem dX2_law_177 : decode cX2_law 177 = .ok (.iconst 1, 1) := dk_4 (dk_at dksX2_law_7 17 rfl rfl)
theorem dX2_law_178 : decode cX2_law 178 = .ok (.ireturn, 1) := dk_172 (dk_at dksX2_law_7 18 rfl rfl)
def dkwX2_isLine_3 : List UInt8 := [172, 42, 180, 0, 45, 42, 89, 180, 0, 199, 90, 4, 96, 181, 0, 199, 42, 180, 0, 161, 79, 4, 172]
abbrev dktX2_isLine_3 : List UInt8 := dkwX2_isLine_3 ++ []
def dkwX2_isLine_2 : List UInt8 := [153, 0, 25, 42, 180, 0, 42, 42, 180, 0, 199, 42, 180, 0, 161, 79, 42, 182, 0, 184, 154, 0, 5, 3]
abbrev dktX2_isLine_2 : List UInt8 := dkwX2_isLine_2 ++ dktX2_isLine_3
def dkwX2_isLine_1 : List UInt8 := [180, 0, 42, 42, 180, 0, 199, 42, 180, 0, 39, 42, 180, 0, 199, 46, 79, 42, 16, 63, 182, 0, 178]
abbrev dktX2_isLine_1 : List UInt8 := dkwX2_isLine_1 ++ dktX2_isLine_2
def dkwX2_isLine_0 : List UInt8 := [42, 180, 0, 39, 42, 180, 0, 199, 42, 180, 0, 161, 79, 42, 182, 0, 184, 154, 0, 5, 3, 172, 42]
abbrev dktX2_isLine_0 : List UInt8 := dkwX2_isLine_0 ++ dktX2_isLine_1
theorem dksX2_isLine_0 : cX2_isLine.data.toList.drop 0 = dktX2_isLine_0 := by decide +kernel
theorem dksX2_isLine_1 : cX2_isLine.data.toList.drop 23 = dktX2_isLine_1 := dk_seg dksX2_isLine_0 23 rfl rfl
theorem dksX2_isLine_2 : cX2_isLine.data.toList.drop 46 = dktX2_isLine_2 := dk_seg dksX2_isLine_1 23 rfl rfl
theorem dksX2_isLine_3 : cX2_isLine.data.toList.drop 70 = dktX2_isLine_3 := dk_seg dksX2_isLine_2 24 rfl rfl
theorem dX2_isLine_0 : decode cX2_isLine 0 = .ok (.aload_n 0, 1) := dk_42 (dk_at dksX2_isLine_0 0 rfl rfl)
theorem dX2_isLine_1 : decode cX2_isLine 1 = .ok (.getfield 39, 3) := dk_180 0 39 (dk_at dksX2_isLine_0 1 rfl rfl)
theorem dX2_isLine_4 : decode cX2_isLine 4 = .ok (.aload_n 0, 1) := dk_42 (dk_at dksX2_isLine_0 4 rfl rfl)
theorem dX2_isLine_5 : decode cX2_isLine 5 = .ok (.getfield 199, 3) := dk_180 0 199 (dk_at dksX2_isLine_0 5 rfl rfl)
theorem dX2_isLine_8 : decode cX2_isLine 8 = .ok (.aload_n 0, 1) := dk_42 (dk_at dksX2_isLine_0 8 rfl rfl)
theorem dX2_isLine_9 : decode cX2_isLine 9 = .ok (.getfield 161, 3) := dk_180 0 161 (dk_at dksX2_isLine_0 9 rfl rfl)
theorem dX2_isLine_12 : decode cX2_isLine 12 = .ok (.iastore, 1) := dk_79 (dk_at dksX2_isLine_0 12 rfl rfl)
theorem dX2_isLine_13 : decode cX2_isLine 13 = .ok (.aload_n 0, 1) := dk_42 (dk_at dksX2_isLine_0 13 rfl rfl)
theorem dX2_isLine_14 : decode cX2_isLine 14 = .ok (.invokevirtual 184, 3) := dk_182 0 184 (dk_at dksX2_isLine_0 14 rfl rfl)
theorem dX2_isLine_17 : decode cX2_isLine 17 = .ok (.ifCond .ne 5, 3) := dk_154 0 5 (dk_at dksX2_isLine_0 17 rfl rfl)
theorem dX2_isLine_20 : decode cX2_isLine 20 = .ok (.iconst 0, 1) := dk_3 (dk_at dksX2_isLine_0 20 rfl rfl)
theorem dX2_isLine_21 : decode cX2_isLine 21 = .ok (.ireturn, 1) := dk_172 (dk_at dksX2_isLine_0 21 rfl rfl)
theorem dX2_isLine_22 : decode cX2_isLine 22 = .ok (.aload_n 0, 1) := dk_42 (dk_at dksX2_isLine_0 22 rfl rfl)
theorem dX2_isLine_23 : decode cX2_isLine 23 = .ok (.getfield 42, 3) := dk_180 0 42 (dk_at dksX2_isLine_1 0 rfl rfl)
theorem dX2_isLine_26 : decode cX2_isLine 26 = .ok (.aload_n 0, 1) := dk_42 (dk_at dksX2_isLine_1 3 rfl rfl)
theorem dX2_isLine_27 : decode cX2_isLine 27 = .ok (.getfield 199, 3) := dk_180 0 199 (dk_at dksX2_isLine_1 4 rfl rfl)
theorem dX2_isLine_30 : decode cX2_isLine 30 = .ok (.aload_n 0, 1) := dk_42 (dk_at dksX2_isLine_1 7 rfl rfl)
theorem dX2_isLine_31 : decode cX2_isLine 31 = .ok (.getfield 39, 3) := dk_180 0 39 (dk_at dksX2_isLine_1 8 rfl rfl)
theorem dX2_isLine_34 : decode cX2_isLine 34 = .ok (.aload_n 0, 1) := dk_42 (dk_at dksX2_isLine_1 11 rfl rfl)
theorem dX2_isLine_35 : decode cX2_isLine 35 = .ok (.getfield 199, 3) := dk_180 0 199 (dk_at dksX2_isLine_1 12 rfl rfl)
theorem dX2_isLine_38 : decode cX2_isLine 38 = .ok (.iaload, 1) := dk_46 (dk_at dksX2_isLine_1 15 rfl rfl)
theorem dX2_isLine_39 : decode cX2_isLine 39 = .ok (.iastore, 1) := dk_79 (dk_at dksX2_isLine_1 16 rfl rfl)
theorem dX2_isLine_40 : decode cX2_isLine 40 = .ok (.aload_n 0, 1) := dk_42 (dk_at dksX2_isLine_1 17 rfl rfl)
theorem dX2_isLine_41 : decode cX2_isLine 41 = .ok (.bipush 63, 2) := dk_16 63 (dk_at dksX2_isLine_1 18 rfl rfl)
theorem dX2_isLine_43 : decode cX2_isLine 43 = .ok (.invokevirtual 178, 3) := dk_182 0 178 (dk_at dksX2_isLine_1 20 rfl rfl)
theorem dX2_isLine_46 : decode cX2_isLine 46 = .ok (.ifCond .eq 25, 3) := dk_153 0 25 (dk_at dksX2_isLine_2 0 rfl rfl)
theorem dX2_isLine_49 : decode cX2_isLine 49 = .ok (.aload_n 0, 1) := dk_42 (dk_at dksX2_isLine_2 3 rfl rfl)
theorem dX2_isLine_50 : decode cX2_isLine 50 = .ok (.getfield 42, 3) := dk_180 0 42 (dk_at dksX2_isLine_2 4 rfl rfl)
theorem dX2_isLine_53 : decode cX2_isLine 53 = .ok (.aload_n 0, 1) := dk_42 (dk_at dksX2_isLine_2 7 rfl rfl)
theorem dX2_isLine_54 : decode cX2_isLine 54 = .ok (.getfield 199, 3) := dk_180 0 199 (dk_at dksX2_isLine_2 8 rfl rfl)
theorem dX2_isLine_57 : decode cX2_isLine 57 = .ok (.aload_n 0, 1) := dk_42 (dk_at dksX2_isLine_2 11 rfl rfl)
theorem dX2_isLine_58 : decode cX2_isLine 58 = .ok (.getfield 161, 3) := dk_180 0 161 (dk_at dksX2_isLine_2 12 rfl rfl)
theorem dX2_isLine_61 : decode cX2_isLine 61 = .ok (.iastore, 1) := dk_79 (dk_at dksX2_isLine_2 15 rfl rfl)
theorem dX2_isLine_62 : decode cX2_isLine 62 = .ok (.aload_n 0, 1) := dk_42 (dk_at dksX2_isLine_2 16 rfl rfl)
theorem dX2_isLine_63 : decode cX2_isLine 63 = .ok (.invokevirtual 184, 3) := dk_182 0 184 (dk_at dksX2_isLine_2 17 rfl rfl)
theorem dX2_isLine_66 : decode cX2_isLine 66 = .ok (.ifCond .ne 5, 3) := dk_154 0 5 (dk_at dksX2_isLine_2 20 rfl rfl)
theorem dX2_isLine_69 : decode cX2_isLine 69 = .ok (.iconst 0, 1) := dk_3 (dk_at dksX2_isLine_2 23 rfl rfl)
theorem dX2_isLine_70 : decode cX2_isLine 70 = .ok (.ireturn, 1) := dk_172 (dk_at dksX2_isLine_3 0 rfl rfl)
theorem dX2_isLine_71 : decode cX2_isLine 71 = .ok (.aload_n 0, 1) := dk_42 (dk_at dksX2_isLine_3 1 rfl rfl)
theorem dX2_isLine_72 : decode cX2_isLine 72 = .ok (.getfield 45, 3) := dk_180 0 45 (dk_at dksX2_isLine_3 2 rfl rfl)
theorem dX2_isLine_75 : decode cX2_isLine 75 = .ok (.aload_n 0, 1) := dk_42 (dk_at dksX2_isLine_3 5 rfl rfl)
theorem dX2_isLine_76 : decode cX2_isLine 76 = .ok (.dup, 1) := dk_89 (dk_at dksX2_isLine_3 6 rfl rfl)
theorem dX2_isLine_77 : decode cX2_isLine 77 = .ok (.getfield 199, 3) := dk_180 0 199 (dk_at dksX2_isLine_3 7 rfl rfl)
theorem dX2_isLine_80 : decode cX2_isLine 80 = .ok (.dup_x1, 1) := dk_90 (dk_at dksX2_isLine_3 10 rfl rfl)
theorem dX2_isLine_81 : decode cX2_isLine 81 = .ok (.iconst 1, 1) := dk_4 (dk_at dksX2_isLine_3 11 rfl rfl)
theorem dX2_isLine_82 : decode cX2_isLine 82 = .ok (.iadd, 1) := dk_96 (dk_at dksX2_isLine_3 12 rfl rfl)
theorem dX2_isLine_83 : decode cX2_isLine 83 = .ok (.putfield 199, 3) := dk_181 0 199 (dk_at dksX2_isLine_3 13 rfl rfl)
theorem dX2_isLine_86 : decode cX2_isLine 86 = .ok (.aload_n 0, 1) := dk_42 (dk_at dksX2_isLine_3 16 rfl rfl)
theorem dX2_isLine_87 : decode cX2_isLine 87 = .ok (.getfield 161, 3) := dk_180 0 161 (dk_at dksX2_isLine_3 17 rfl rfl)
theorem dX2_isLine_90 : decode cX2_isLine 90 = .ok (.iastore, 1) := dk_79 (dk_at dksX2_isLine_3 20 rfl rfl)
theorem dX2_isLine_91 : decode cX2_isLine 91 = .ok (.iconst 1, 1) := dk_4 (dk_at dksX2_isLine_3 21 rfl rfl)
theorem dX2_isLine_92 : decode cX2_isLine 92 = .ok (.ireturn, 1) := dk_172 (dk_at dksX2_isLine_3 22 rfl rfl)
def dkwX2_isE_1 : List UInt8 := [154, 0, 5, 3, 172, 42, 16, 6, 182, 0, 168, 87, 167, 255, 231, 4, 172]
abbrev dktX2_isE_1 : List UInt8 := dkwX2_isE_1 ++ []
def dkwX2_isE_0 : List UInt8 := [42, 182, 0, 196, 154, 0, 5, 3, 172, 42, 16, 124, 182, 0, 178, 153, 0, 22, 42, 182, 0, 196]
abbrev dktX2_isE_0 : List UInt8 := dkwX2_isE_0 ++ dktX2_isE_1
theorem dksX2_isE_0 : cX2_isE.data.toList.drop 0 = dktX2_isE_0 := by decide +kernel
theorem dksX2_isE_1 : cX2_isE.data.toList.drop 22 = dktX2_isE_1 := dk_seg dksX2_isE_0 22 rfl rfl
theorem dX2_isE_0 : decode cX2_isE 0 = .ok (.aload_n 0, 1) := dk_42 (dk_at dksX2_isE_0 0 rfl rfl)
theorem dX2_isE_1 : decode cX2_isE 1 = .ok (.invokevirtual 196, 3) := dk_182 0 196 (dk_at dksX2_isE_0 1 rfl rfl)
theorem dX2_isE_4 : decode cX2_isE 4 = .ok (.ifCond .ne 5, 3) := dk_154 0 5 (dk_at dksX2_isE_0 4 rfl rfl)
theorem dX2_isE_7 : decode cX2_isE 7 = .ok (.iconst 0, 1) := dk_3 (dk_at dksX2_isE_0 7 rfl rfl)
theorem dX2_isE_8 : decode cX2_isE 8 = .ok (.ireturn, 1) := dk_172 (dk_at dksX2_isE_0 8 rfl rfl)
theorem dX2_isE_9 : decode cX2_isE 9 = .ok (.aload_n 0, 1) := dk_42 (dk_at dksX2_isE_0 9 rfl rfl)
theorem dX2_isE_10 : decode cX2_isE 10 = .ok (.bipush 124, 2) := dk_16 124 (dk_at dksX2_isE_0 10 rfl rfl)
theorem dX2_isE_12 : decode cX2_isE 12 = .ok (.invokevirtual 178, 3) := dk_182 0 178 (dk_at dksX2_isE_0 12 rfl rfl)
theorem dX2_isE_15 : decode cX2_isE 15 = .ok (.ifCond .eq 22, 3) := dk_153 0 22 (dk_at dksX2_isE_0 15 rfl rfl)
theorem dX2_isE_18 : decode cX2_isE 18 = .ok (.aload_n 0, 1) := dk_42 (dk_at dksX2_isE_0 18 rfl rfl)
theorem dX2_isE_19 : decode cX2_isE 19 = .ok (.invokevirtual 196, 3) := dk_182 0 196 (dk_at dksX2_isE_0 19 rfl rfl)
theorem dX2_isE_22 : decode cX2_isE 22 = .ok (.ifCond .ne 5, 3) := dk_154 0 5 (dk_at dksX2_isE_1 0 rfl rfl)
theorem dX2_isE_25 : decode cX2_isE 25 = .ok (.iconst 0, 1) := dk_3 (dk_at dksX2_isE_1 3 rfl rfl)
theorem dX2_isE_26 : decode cX2_isE 26 = .ok (.ireturn, 1) := dk_172 (dk_at dksX2_isE_1 4 rfl rfl)
theorem dX2_isE_27 : decode cX2_isE 27 = .ok (.aload_n 0, 1) := dk_42 (dk_at dksX2_isE_1 5 rfl rfl)
theorem dX2_isE_28 : decode cX2_isE 28 = .ok (.bipush 6, 2) := dk_16 6 (dk_at dksX2_isE_1 6 rfl rfl)
theorem dX2_isE_30 : decode cX2_isE 30 = .ok (.invokevirtual 168, 3) := dk_182 0 168 (dk_at dksX2_isE_1 8 rfl rfl)
theorem dX2_isE_33 : decode cX2_isE 33 = .ok (.pop, 1) := dk_87 (dk_at dksX2_isE_1 11 rfl rfl)
theorem dX2_isE_34 : decode cX2_isE 34 = .ok (.goto (-25), 3) := dk_167 255 231 (dk_at dksX2_isE_1 12 rfl rfl)
theorem dX2_isE_37 : decode cX2_isE 37 = .ok (.iconst 1, 1) := dk_4 (dk_at dksX2_isE_1 15 rfl rfl)
theorem dX2_isE_38 : decode cX2_isE 38 = .ok (.ireturn, 1) := dk_172 (dk_at dksX2_isE_1 16 rfl rfl)
def dkwX2_isA_1 : List UInt8 := [154, 0, 5, 3, 172, 42, 16, 7, 182, 0, 168, 87, 167, 255, 231, 4, 172]
abbrev dktX2_isA_1 : List UInt8 := dkwX2_isA_1 ++ []
def dkwX2_isA_0 : List UInt8 := [42, 182, 0, 193, 154, 0, 5, 3, 172, 42, 16, 38, 182, 0, 178, 153, 0, 22, 42, 182, 0, 193]
abbrev dktX2_isA_0 : List UInt8 := dkwX2_isA_0 ++ dktX2_isA_1
theorem dksX2_isA_0 : cX2_isA.data.toList.drop 0 = dktX2_isA_0 := by decide +kernel
theorem dksX2_isA_1 : cX2_isA.data.toList.drop 22 = dktX2_isA_1 := dk_seg dksX2_isA_0 22 rfl rfl
theorem dX2_isA_0 : decode cX2_isA 0 = .ok (.aload_n 0, 1) := dk_42 (dk_at dksX2_isA_0 0 rfl rfl)
theorem dX2_isA_1 : decode cX2_isA 1 = .ok (.invokevirtual 193, 3) := dk_182 0 193 (dk_at dksX2_isA_0 1 rfl rfl)
theorem dX2_isA_4 : decode cX2_isA 4 = .ok (.ifCond .ne 5, 3) := dk_154 0 5 (dk_at dksX2_isA_0 4 rfl rfl)
theorem dX2_isA_7 : decode cX2_isA 7 = .ok (.iconst 0, 1) := dk_3 (dk_at dksX2_isA_0 7 rfl rfl)
theorem dX2_isA_8 : decode cX2_isA 8 = .ok (.ireturn, 1) := dk_172 (dk_at dksX2_isA_0 8 rfl rfl)
theorem dX2_isA_9 : decode cX2_isA 9 = .ok (.aload_n 0, 1) := dk_42 (dk_at dksX2_isA_0 9 rfl rfl)
theorem dX2_isA_10 : decode cX2_isA 10 = .ok (.bipush 38, 2) := dk_16 38 (dk_at dksX2_isA_0 10 rfl rfl)
theorem dX2_isA_12 : decode cX2_isA 12 = .ok (.invokevirtual 178, 3) := dk_182 0 178 (dk_at dksX2_isA_0 12 rfl rfl)
theorem dX2_isA_15 : decode cX2_isA 15 = .ok (.ifCond .eq 22, 3) := dk_153 0 22 (dk_at dksX2_isA_0 15 rfl rfl)
theorem dX2_isA_18 : decode cX2_isA 18 = .ok (.aload_n 0, 1) := dk_42 (dk_at dksX2_isA_0 18 rfl rfl)
theorem dX2_isA_19 : decode cX2_isA 19 = .ok (.invokevirtual 193, 3) := dk_182 0 193 (dk_at dksX2_isA_0 19 rfl rfl)
theorem dX2_isA_22 : decode cX2_isA 22 = .ok (.ifCond .ne 5, 3) := dk_154 0 5 (dk_at dksX2_isA_1 0 rfl rfl)
theorem dX2_isA_25 : decode cX2_isA 25 = .ok (.iconst 0, 1) := dk_3 (dk_at dksX2_isA_1 3 rfl rfl)
theorem dX2_isA_26 : decode cX2_isA 26 = .ok (.ireturn, 1) := dk_172 (dk_at dksX2_isA_1 4 rfl rfl)
theorem dX2_isA_27 : decode cX2_isA 27 = .ok (.aload_n 0, 1) := dk_42 (dk_at dksX2_isA_1 5 rfl rfl)
theorem dX2_isA_28 : decode cX2_isA 28 = .ok (.bipush 7, 2) := dk_16 7 (dk_at dksX2_isA_1 6 rfl rfl)
theorem dX2_isA_30 : decode cX2_isA 30 = .ok (.invokevirtual 168, 3) := dk_182 0 168 (dk_at dksX2_isA_1 8 rfl rfl)
theorem dX2_isA_33 : decode cX2_isA 33 = .ok (.pop, 1) := dk_87 (dk_at dksX2_isA_1 11 rfl rfl)
theorem dX2_isA_34 : decode cX2_isA 34 = .ok (.goto (-25), 3) := dk_167 255 231 (dk_at dksX2_isA_1 12 rfl rfl)
theorem dX2_isA_37 : decode cX2_isA 37 = .ok (.iconst 1, 1) := dk_4 (dk_at dksX2_isA_1 15 rfl rfl)
theorem dX2_isA_38 : decode cX2_isA 38 = .ok (.ireturn, 1) := dk_172 (dk_at dksX2_isA_1 16 rfl rfl)
def dkwX2_isB_3 : List UInt8 := [182, 0, 190, 153, 0, 15, 42, 27, 182, 0, 168, 153, 0, 7, 4, 167, 0, 4, 3, 172]
abbrev dktX2_isB_3 : List UInt8 := dkwX2_isB_3 ++ []
def dkwX2_isB_2 : List UInt8 := [167, 0, 4, 2, 60, 27, 156, 0, 5, 4, 172, 42, 89, 180, 0, 154, 4, 96, 181, 0, 154, 42]
abbrev dktX2_isB_2 : List UInt8 := dkwX2_isB_2 ++ dktX2_isB_3
def dkwX2_isB_1 : List UInt8 := [182, 0, 157, 16, 61, 160, 0, 8, 16, 9, 167, 0, 18, 42, 182, 0, 157, 16, 62, 160, 0, 8, 16, 10]
abbrev dktX2_isB_1 : List UInt8 := dkwX2_isB_1 ++ dktX2_isB_2
def dkwX2_isB_0 : List UInt8 := [42, 182, 0, 190, 154, 0, 5, 3, 172, 42, 182, 0, 157, 16, 60, 160, 0, 8, 16, 8, 167, 0, 32, 42]
abbrev dktX2_isB_0 : List UInt8 := dkwX2_isB_0 ++ dktX2_isB_1
theorem dksX2_isB_0 : cX2_isB.data.toList.drop 0 = dktX2_isB_0 := by decide +kernel
theorem dksX2_isB_1 : cX2_isB.data.toList.drop 24 = dktX2_isB_1 := dk_seg dksX2_isB_0 24 rfl rfl
theorem dksX2_isB_2 : cX2_isB.data.toList.drop 48 = dktX2_isB_2 := dk_seg dksX2_isB_1 24 rfl rfl
theorem dksX2_isB_3 : cX2_isB.data.toList.drop 70 = dktX2_isB_3 := dk_seg dksX2_isB_2 22 rfl rfl
theorem dX2_isB_0 : decode cX2_isB 0 = .ok (.aload_n 0, 1) := dk_42 (dk_at dksX2_isB_0 0 rfl rfl)
theorem dX2_isB_1 : decode cX2_isB 1 = .ok (.invokevirtual 190, 3) := dk_182 0 190 (dk_at dksX2_isB_0 1 rfl rfl)
theorem dX2_isB_4 : decode cX2_isB 4 = .ok (.ifCond .ne 5, 3) := dk_154 0 5 (dk_at dksX2_isB_0 4 rfl rfl)
theorem dX2_isB_7 : decode cX2_isB 7 = .ok (.iconst 0, 1) := dk_3 (dk_at dksX2_isB_0 7 rfl rfl)
theorem dX2_isB_8 : decode cX2_isB 8 = .ok (.ireturn, 1) := dk_172 (dk_at dksX2_isB_0 8 rfl rfl)
theorem dX2_isB_9 : decode cX2_isB 9 = .ok (.aload_n 0, 1) := dk_42 (dk_at dksX2_isB_0 9 rfl rfl)
theorem dX2_isB_10 : decode cX2_isB 10 = .ok (.invokevirtual 157, 3) := dk_182 0 157 (dk_at dksX2_isB_0 10 rfl rfl)
theorem dX2_isB_13 : decode cX2_isB 13 = .ok (.bipush 60, 2) := dk_16 60 (dk_at dksX2_isB_0 13 rfl rfl)
theorem dX2_isB_15 : decode cX2_isB 15 = .ok (.if_icmp .ne 8, 3) := dk_160 0 8 (dk_at dksX2_isB_0 15 rfl rfl)
theorem dX2_isB_18 : decode cX2_isB 18 = .ok (.bipush 8, 2) := dk_16 8 (dk_at dksX2_isB_0 18 rfl rfl)
theorem dX2_isB_20 : decode cX2_isB 20 = .ok (.goto 32, 3) := dk_167 0 32 (dk_at dksX2_isB_0 20 rfl rfl)
theorem dX2_isB_23 : decode cX2_isB 23 = .ok (.aload_n 0, 1) := dk_42 (dk_at dksX2_isB_0 23 rfl rfl)
theorem dX2_isB_24 : decode cX2_isB 24 = .ok (.invokevirtual 157, 3) := dk_182 0 157 (dk_at dksX2_isB_1 0 rfl rfl)
theorem dX2_isB_27 : decode cX2_isB 27 = .ok (.bipush 61, 2) := dk_16 61 (dk_at dksX2_isB_1 3 rfl rfl)
theorem dX2_isB_29 : decode cX2_isB 29 = .ok (.if_icmp .ne 8, 3) := dk_160 0 8 (dk_at dksX2_isB_1 5 rfl rfl)
theorem dX2_isB_32 : decode cX2_isB 32 = .ok (.bipush 9, 2) := dk_16 9 (dk_at dksX2_isB_1 8 rfl rfl)
theorem dX2_isB_34 : decode cX2_isB 34 = .ok (.goto 18, 3) := dk_167 0 18 (dk_at dksX2_isB_1 10 rfl rfl)
theorem dX2_isB_37 : decode cX2_isB 37 = .ok (.aload_n 0, 1) := dk_42 (dk_at dksX2_isB_1 13 rfl rfl)
theorem dX2_isB_38 : decode cX2_isB 38 = .ok (.invokevirtual 157, 3) := dk_182 0 157 (dk_at dksX2_isB_1 14 rfl rfl)
theorem dX2_isB_41 : decode cX2_isB 41 = .ok (.bipush 62, 2) := dk_16 62 (dk_at dksX2_isB_1 17 rfl rfl)
theorem dX2_isB_43 : decode cX2_isB 43 = .ok (.if_icmp .ne 8, 3) := dk_160 0 8 (dk_at dksX2_isB_1 19 rfl rfl)
theorem dX2_isB_46 : decode cX2_isB 46 = .ok (.bipush 10, 2) := dk_16 10 (dk_at dksX2_isB_1 22 rfl rfl)
theorem dX2_isB_48 : decode cX2_isB 48 = .ok (.goto 4, 3) := dk_167 0 4 (dk_at dksX2_isB_2 0 rfl rfl)
theorem dX2_isB_51 : decode cX2_isB 51 = .ok (.iconst (-1), 1) := dk_2 (dk_at dksX2_isB_2 3 rfl rfl)
theorem dX2_isB_52 : decode cX2_isB 52 = .ok (.istore_n 1, 1) := dk_60 (dk_at dksX2_isB_2 4 rfl rfl)
theorem dX2_isB_53 : decode cX2_isB 53 = .ok (.iload_n 1, 1) := dk_27 (dk_at dksX2_isB_2 5 rfl rfl)
theorem dX2_isB_54 : decode cX2_isB 54 = .ok (.ifCond .ge 5, 3) := dk_156 0 5 (dk_at dksX2_isB_2 6 rfl rfl)
theorem dX2_isB_57 : decode cX2_isB 57 = .ok (.iconst 1, 1) := dk_4 (dk_at dksX2_isB_2 9 rfl rfl)
theorem dX2_isB_58 : decode cX2_isB 58 = .ok (.ireturn, 1) := dk_172 (dk_at dksX2_isB_2 10 rfl rfl)
theorem dX2_isB_59 : decode cX2_isB 59 = .ok (.aload_n 0, 1) := dk_42 (dk_at dksX2_isB_2 11 rfl rfl)
theorem dX2_isB_60 : decode cX2_isB 60 = .ok (.dup, 1) := dk_89 (dk_at dksX2_isB_2 12 rfl rfl)
theorem dX2_isB_61 : decode cX2_isB 61 = .ok (.getfield 154, 3) := dk_180 0 154 (dk_at dksX2_isB_2 13 rfl rfl)
theorem dX2_isB_64 : decode cX2_isB 64 = .ok (.iconst 1, 1) := dk_4 (dk_at dksX2_isB_2 16 rfl rfl)
theorem dX2_isB_65 : decode cX2_isB 65 = .ok (.iadd, 1) := dk_96 (dk_at dksX2_isB_2 17 rfl rfl)
theorem dX2_isB_66 : decode cX2_isB 66 = .ok (.putfield 154, 3) := dk_181 0 154 (dk_at dksX2_isB_2 18 rfl rfl)
theorem dX2_isB_69 : decode cX2_isB 69 = .ok (.aload_n 0, 1) := dk_42 (dk_at dksX2_isB_2 21 rfl rfl)
theorem dX2_isB_70 : decode cX2_isB 70 = .ok (.invokevirtual 190, 3) := dk_182 0 190 (dk_at dksX2_isB_3 0 rfl rfl)
theorem dX2_isB_73 : decode cX2_isB 73 = .ok (.ifCond .eq 15, 3) := dk_153 0 15 (dk_at dksX2_isB_3 3 rfl rfl)
theorem dX2_isB_76 : decode cX2_isB 76 = .ok (.aload_n 0, 1) := dk_42 (dk_at dksX2_isB_3 6 rfl rfl)
theorem dX2_isB_77 : decode cX2_isB 77 = .ok (.iload_n 1, 1) := dk_27 (dk_at dksX2_isB_3 7 rfl rfl)
theorem dX2_isB_78 : decode cX2_isB 78 = .ok (.invokevirtual 168, 3) := dk_182 0 168 (dk_at dksX2_isB_3 8 rfl rfl)
theorem dX2_isB_81 : decode cX2_isB 81 = .ok (.ifCond .eq 7, 3) := dk_153 0 7 (dk_at dksX2_isB_3 11 rfl rfl)
theorem dX2_isB_84 : decode cX2_isB 84 = .ok (.iconst 1, 1) := dk_4 (dk_at dksX2_isB_3 14 rfl rfl)
theorem dX2_isB_85 : decode cX2_isB 85 = .ok (.goto 4, 3) := dk_167 0 4 (dk_at dksX2_isB_3 15 rfl rfl)
theorem dX2_isB_88 : decode cX2_isB 88 = .ok (.iconst 0, 1) := dk_3 (dk_at dksX2_isB_3 18 rfl rfl)
theorem dX2_isB_89 : decode cX2_isB 89 = .ok (.ireturn, 1) := dk_172 (dk_at dksX2_isB_3 19 rfl rfl)
def dkwX2_isS_3 : List UInt8 := [167, 255, 195]
abbrev dktX2_isS_3 : List UInt8 := dkwX2_isS_3 ++ []
def dkwX2_isS_2 : List UInt8 := [180, 0, 154, 4, 96, 181, 0, 154, 42, 182, 0, 187, 154, 0, 5, 3, 172, 42, 27, 182, 0, 168, 87]
abbrev dktX2_isS_2 : List UInt8 := dkwX2_isS_2 ++ dktX2_isS_3
def dkwX2_isS_1 : List UInt8 := [182, 0, 157, 16, 45, 160, 0, 8, 16, 12, 167, 0, 4, 2, 60, 27, 156, 0, 5, 4, 172, 42, 89]
abbrev dktX2_isS_1 : List UInt8 := dkwX2_isS_1 ++ dktX2_isS_2
def dkwX2_isS_0 : List UInt8 := [42, 182, 0, 187, 154, 0, 5, 3, 172, 42, 182, 0, 157, 16, 43, 160, 0, 8, 16, 11, 167, 0, 18, 42]
abbrev dktX2_isS_0 : List UInt8 := dkwX2_isS_0 ++ dktX2_isS_1
theorem dksX2_isS_0 : cX2_isS.data.toList.drop 0 = dktX2_isS_0 := by decide +kernel
theorem dksX2_isS_1 : cX2_isS.data.toList.drop 24 = dktX2_isS_1 := dk_seg dksX2_isS_0 24 rfl rfl
theorem dksX2_isS_2 : cX2_isS.data.toList.drop 47 = dktX2_isS_2 := dk_seg dksX2_isS_1 23 rfl rfl
theorem dksX2_isS_3 : cX2_isS.data.toList.drop 70 = dktX2_isS_3 := dk_seg dksX2_isS_2 23 rfl rfl
theorem dX2_isS_0 : decode cX2_isS 0 = .ok (.aload_n 0, 1) := dk_42 (dk_at dksX2_isS_0 0 rfl rfl)
theorem dX2_isS_1 : decode cX2_isS 1 = .ok (.invokevirtual 187, 3) := dk_182 0 187 (dk_at dksX2_isS_0 1 rfl rfl)
theorem dX2_isS_4 : decode cX2_isS 4 = .ok (.ifCond .ne 5, 3) := dk_154 0 5 (dk_at dksX2_isS_0 4 rfl rfl)
theorem dX2_isS_7 : decode cX2_isS 7 = .ok (.iconst 0, 1) := dk_3 (dk_at dksX2_isS_0 7 rfl rfl)
theorem dX2_isS_8 : decode cX2_isS 8 = .ok (.ireturn, 1) := dk_172 (dk_at dksX2_isS_0 8 rfl rfl)
theorem dX2_isS_9 : decode cX2_isS 9 = .ok (.aload_n 0, 1) := dk_42 (dk_at dksX2_isS_0 9 rfl rfl)
theorem dX2_isS_10 : decode cX2_isS 10 = .ok (.invokevirtual 157, 3) := dk_182 0 157 (dk_at dksX2_isS_0 10 rfl rfl)
theorem dX2_isS_13 : decode cX2_isS 13 = .ok (.bipush 43, 2) := dk_16 43 (dk_at dksX2_isS_0 13 rfl rfl)
theorem dX2_isS_15 : decode cX2_isS 15 = .ok (.if_icmp .ne 8, 3) := dk_160 0 8 (dk_at dksX2_isS_0 15 rfl rfl)
theorem dX2_isS_18 : decode cX2_isS 18 = .ok (.bipush 11, 2) := dk_16 11 (dk_at dksX2_isS_0 18 rfl rfl)
theorem dX2_isS_20 : decode cX2_isS 20 = .ok (.goto 18, 3) := dk_167 0 18 (dk_at dksX2_isS_0 20 rfl rfl)
theorem dX2_isS_23 : decode cX2_isS 23 = .ok (.aload_n 0, 1) := dk_42 (dk_at dksX2_isS_0 23 rfl rfl)
theorem dX2_isS_24 : decode cX2_isS 24 = .ok (.invokevirtual 157, 3) := dk_182 0 157 (dk_at dksX2_isS_1 0 rfl rfl)
theorem dX2_isS_27 : decode cX2_isS 27 = .ok (.bipush 45, 2) := dk_16 45 (dk_at dksX2_isS_1 3 rfl rfl)
theorem dX2_isS_29 : decode cX2_isS 29 = .ok (.if_icmp .ne 8, 3) := dk_160 0 8 (dk_at dksX2_isS_1 5 rfl rfl)
theorem dX2_isS_32 : decode cX2_isS 32 = .ok (.bipush 12, 2) := dk_16 12 (dk_at dksX2_isS_1 8 rfl rfl)
theorem dX2_isS_34 : decode cX2_isS 34 = .ok (.goto 4, 3) := dk_167 0 4 (dk_at dksX2_isS_1 10 rfl rfl)
theorem dX2_isS_37 : decode cX2_isS 37 = .ok (.iconst (-1), 1) := dk_2 (dk_at dksX2_isS_1 13 rfl rfl)
theorem dX2_isS_38 : decode cX2_isS 38 = .ok (.istore_n 1, 1) := dk_60 (dk_at dksX2_isS_1 14 rfl rfl)
theorem dX2_isS_39 : decode cX2_isS 39 = .ok (.iload_n 1, 1) := dk_27 (dk_at dksX2_isS_1 15 rfl rfl)
theorem dX2_isS_40 : decode cX2_isS 40 = .ok (.ifCond .ge 5, 3) := dk_156 0 5 (dk_at dksX2_isS_1 16 rfl rfl)
theorem dX2_isS_43 : decode cX2_isS 43 = .ok (.iconst 1, 1) := dk_4 (dk_at dksX2_isS_1 19 rfl rfl)
theorem dX2_isS_44 : decode cX2_isS 44 = .ok (.ireturn, 1) := dk_172 (dk_at dksX2_isS_1 20 rfl rfl)
theorem dX2_isS_45 : decode cX2_isS 45 = .ok (.aload_n 0, 1) := dk_42 (dk_at dksX2_isS_1 21 rfl rfl)
theorem dX2_isS_46 : decode cX2_isS 46 = .ok (.dup, 1) := dk_89 (dk_at dksX2_isS_1 22 rfl rfl)
theorem dX2_isS_47 : decode cX2_isS 47 = .ok (.getfield 154, 3) := dk_180 0 154 (dk_at dksX2_isS_2 0 rfl rfl)
theorem dX2_isS_50 : decode cX2_isS 50 = .ok (.iconst 1, 1) := dk_4 (dk_at dksX2_isS_2 3 rfl rfl)
theorem dX2_isS_51 : decode cX2_isS 51 = .ok (.iadd, 1) := dk_96 (dk_at dksX2_isS_2 4 rfl rfl)
theorem dX2_isS_52 : decode cX2_isS 52 = .ok (.putfield 154, 3) := dk_181 0 154 (dk_at dksX2_isS_2 5 rfl rfl)
theorem dX2_isS_55 : decode cX2_isS 55 = .ok (.aload_n 0, 1) := dk_42 (dk_at dksX2_isS_2 8 rfl rfl)
theorem dX2_isS_56 : decode cX2_isS 56 = .ok (.invokevirtual 187, 3) := dk_182 0 187 (dk_at dksX2_isS_2 9 rfl rfl)
theorem dX2_isS_59 : decode cX2_isS 59 = .ok (.ifCond .ne 5, 3) := dk_154 0 5 (dk_at dksX2_isS_2 12 rfl rfl)
theorem dX2_isS_62 : decode cX2_isS 62 = .ok (.iconst 0, 1) := dk_3 (dk_at dksX2_isS_2 15 rfl rfl)
theorem dX2_isS_63 : decode cX2_isS 63 = .ok (.ireturn, 1) := dk_172 (dk_at dksX2_isS_2 16 rfl rfl)
theorem dX2_isS_64 : decode cX2_isS 64 = .ok (.aload_n 0, 1) := dk_42 (dk_at dksX2_isS_2 17 rfl rfl)
theorem dX2_isS_65 : decode cX2_isS 65 = .ok (.iload_n 1, 1) := dk_27 (dk_at dksX2_isS_2 18 rfl rfl)
theorem dX2_isS_66 : decode cX2_isS 66 = .ok (.invokevirtual 168, 3) := dk_182 0 168 (dk_at dksX2_isS_2 19 rfl rfl)
theorem dX2_isS_69 : decode cX2_isS 69 = .ok (.pop, 1) := dk_87 (dk_at dksX2_isS_2 22 rfl rfl)
theorem dX2_isS_70 : decode cX2_isS 70 = .ok (.goto (-61), 3) := dk_167 255 195 (dk_at dksX2_isS_3 0 rfl rfl)
def dkwX2_isP_3 : List UInt8 := [182, 0, 181, 154, 0, 5, 3, 172, 42, 27, 182, 0, 168, 87, 167, 255, 181]
abbrev dktX2_isP_3 : List UInt8 := dkwX2_isP_3 ++ []
def dkwX2_isP_2 : List UInt8 := [167, 0, 4, 2, 60, 27, 156, 0, 5, 4, 172, 42, 89, 180, 0, 154, 4, 96, 181, 0, 154, 42]
abbrev dktX2_isP_2 : List UInt8 := dkwX2_isP_2 ++ dktX2_isP_3
def dkwX2_isP_1 : List UInt8 := [182, 0, 157, 16, 47, 160, 0, 8, 16, 14, 167, 0, 18, 42, 182, 0, 157, 16, 37, 160, 0, 8, 16, 15]
abbrev dktX2_isP_1 : List UInt8 := dkwX2_isP_1 ++ dktX2_isP_2
def dkwX2_isP_0 : List UInt8 := [42, 182, 0, 181, 154, 0, 5, 3, 172, 42, 182, 0, 157, 16, 42, 160, 0, 8, 16, 13, 167, 0, 32, 42]
abbrev dktX2_isP_0 : List UInt8 := dkwX2_isP_0 ++ dktX2_isP_1
theorem dksX2_isP_0 : cX2_isP.data.toList.drop 0 = dktX2_isP_0 := by decide +kernel
theorem dksX2_isP_1 : cX2_isP.data.toList.drop 24 = dktX2_isP_1 := dk_seg dksX2_isP_0 24 rfl rfl
theorem dksX2_isP_2 : cX2_isP.data.toList.drop 48 = dktX2_isP_2 := dk_seg dksX2_isP_1 24 rfl rfl
theorem dksX2_isP_3 : cX2_isP.data.toList.drop 70 = dktX2_isP_3 := dk_seg dksX2_isP_2 22 rfl rfl
theorem dX2_isP_0 : decode cX2_isP 0 = .ok (.aload_n 0, 1) := dk_42 (dk_at dksX2_isP_0 0 rfl rfl)
theorem dX2_isP_1 : decode cX2_isP 1 = .ok (.invokevirtual 181, 3) := dk_182 0 181 (dk_at dksX2_isP_0 1 rfl rfl)
theorem dX2_isP_4 : decode cX2_isP 4 = .ok (.ifCond .ne 5, 3) := dk_154 0 5 (dk_at dksX2_isP_0 4 rfl rfl)
theorem dX2_isP_7 : decode cX2_isP 7 = .ok (.iconst 0, 1) := dk_3 (dk_at dksX2_isP_0 7 rfl rfl)
theorem dX2_isP_8 : decode cX2_isP 8 = .ok (.ireturn, 1) := dk_172 (dk_at dksX2_isP_0 8 rfl rfl)
theorem dX2_isP_9 : decode cX2_isP 9 = .ok (.aload_n 0, 1) := dk_42 (dk_at dksX2_isP_0 9 rfl rfl)
theorem dX2_isP_10 : decode cX2_isP 10 = .ok (.invokevirtual 157, 3) := dk_182 0 157 (dk_at dksX2_isP_0 10 rfl rfl)
theorem dX2_isP_13 : decode cX2_isP 13 = .ok (.bipush 42, 2) := dk_16 42 (dk_at dksX2_isP_0 13 rfl rfl)
theorem dX2_isP_15 : decode cX2_isP 15 = .ok (.if_icmp .ne 8, 3) := dk_160 0 8 (dk_at dksX2_isP_0 15 rfl rfl)
theorem dX2_isP_18 : decode cX2_isP 18 = .ok (.bipush 13, 2) := dk_16 13 (dk_at dksX2_isP_0 18 rfl rfl)
theorem dX2_isP_20 : decode cX2_isP 20 = .ok (.goto 32, 3) := dk_167 0 32 (dk_at dksX2_isP_0 20 rfl rfl)
theorem dX2_isP_23 : decode cX2_isP 23 = .ok (.aload_n 0, 1) := dk_42 (dk_at dksX2_isP_0 23 rfl rfl)
theorem dX2_isP_24 : decode cX2_isP 24 = .ok (.invokevirtual 157, 3) := dk_182 0 157 (dk_at dksX2_isP_1 0 rfl rfl)
theorem dX2_isP_27 : decode cX2_isP 27 = .ok (.bipush 47, 2) := dk_16 47 (dk_at dksX2_isP_1 3 rfl rfl)
theorem dX2_isP_29 : decode cX2_isP 29 = .ok (.if_icmp .ne 8, 3) := dk_160 0 8 (dk_at dksX2_isP_1 5 rfl rfl)
theorem dX2_isP_32 : decode cX2_isP 32 = .ok (.bipush 14, 2) := dk_16 14 (dk_at dksX2_isP_1 8 rfl rfl)
theorem dX2_isP_34 : decode cX2_isP 34 = .ok (.goto 18, 3) := dk_167 0 18 (dk_at dksX2_isP_1 10 rfl rfl)
theorem dX2_isP_37 : decode cX2_isP 37 = .ok (.aload_n 0, 1) := dk_42 (dk_at dksX2_isP_1 13 rfl rfl)
theorem dX2_isP_38 : decode cX2_isP 38 = .ok (.invokevirtual 157, 3) := dk_182 0 157 (dk_at dksX2_isP_1 14 rfl rfl)
theorem dX2_isP_41 : decode cX2_isP 41 = .ok (.bipush 37, 2) := dk_16 37 (dk_at dksX2_isP_1 17 rfl rfl)
theorem dX2_isP_43 : decode cX2_isP 43 = .ok (.if_icmp .ne 8, 3) := dk_160 0 8 (dk_at dksX2_isP_1 19 rfl rfl)
theorem dX2_isP_46 : decode cX2_isP 46 = .ok (.bipush 15, 2) := dk_16 15 (dk_at dksX2_isP_1 22 rfl rfl)
theorem dX2_isP_48 : decode cX2_isP 48 = .ok (.goto 4, 3) := dk_167 0 4 (dk_at dksX2_isP_2 0 rfl rfl)
theorem dX2_isP_51 : decode cX2_isP 51 = .ok (.iconst (-1), 1) := dk_2 (dk_at dksX2_isP_2 3 rfl rfl)
theorem dX2_isP_52 : decode cX2_isP 52 = .ok (.istore_n 1, 1) := dk_60 (dk_at dksX2_isP_2 4 rfl rfl)
theorem dX2_isP_53 : decode cX2_isP 53 = .ok (.iload_n 1, 1) := dk_27 (dk_at dksX2_isP_2 5 rfl rfl)
theorem dX2_isP_54 : decode cX2_isP 54 = .ok (.ifCond .ge 5, 3) := dk_156 0 5 (dk_at dksX2_isP_2 6 rfl rfl)
theorem dX2_isP_57 : decode cX2_isP 57 = .ok (.iconst 1, 1) := dk_4 (dk_at dksX2_isP_2 9 rfl rfl)
theorem dX2_isP_58 : decode cX2_isP 58 = .ok (.ireturn, 1) := dk_172 (dk_at dksX2_isP_2 10 rfl rfl)
theorem dX2_isP_59 : decode cX2_isP 59 = .ok (.aload_n 0, 1) := dk_42 (dk_at dksX2_isP_2 11 rfl rfl)
theorem dX2_isP_60 : decode cX2_isP 60 = .ok (.dup, 1) := dk_89 (dk_at dksX2_isP_2 12 rfl rfl)
theorem dX2_isP_61 : decode cX2_isP 61 = .ok (.getfield 154, 3) := dk_180 0 154 (dk_at dksX2_isP_2 13 rfl rfl)
theorem dX2_isP_64 : decode cX2_isP 64 = .ok (.iconst 1, 1) := dk_4 (dk_at dksX2_isP_2 16 rfl rfl)
theorem dX2_isP_65 : decode cX2_isP 65 = .ok (.iadd, 1) := dk_96 (dk_at dksX2_isP_2 17 rfl rfl)
theorem dX2_isP_66 : decode cX2_isP 66 = .ok (.putfield 154, 3) := dk_181 0 154 (dk_at dksX2_isP_2 18 rfl rfl)
theorem dX2_isP_69 : decode cX2_isP 69 = .ok (.aload_n 0, 1) := dk_42 (dk_at dksX2_isP_2 21 rfl rfl)
theorem dX2_isP_70 : decode cX2_isP 70 = .ok (.invokevirtual 181, 3) := dk_182 0 181 (dk_at dksX2_isP_3 0 rfl rfl)
theorem dX2_isP_73 : decode cX2_isP 73 = .ok (.ifCond .ne 5, 3) := dk_154 0 5 (dk_at dksX2_isP_3 3 rfl rfl)
theorem dX2_isP_76 : decode cX2_isP 76 = .ok (.iconst 0, 1) := dk_3 (dk_at dksX2_isP_3 6 rfl rfl)
theorem dX2_isP_77 : decode cX2_isP 77 = .ok (.ireturn, 1) := dk_172 (dk_at dksX2_isP_3 7 rfl rfl)
theorem dX2_isP_78 : decode cX2_isP 78 = .ok (.aload_n 0, 1) := dk_42 (dk_at dksX2_isP_3 8 rfl rfl)
theorem dX2_isP_79 : decode cX2_isP 79 = .ok (.iload_n 1, 1) := dk_27 (dk_at dksX2_isP_3 9 rfl rfl)
theorem dX2_isP_80 : decode cX2_isP 80 = .ok (.invokevirtual 168, 3) := dk_182 0 168 (dk_at dksX2_isP_3 10 rfl rfl)
theorem dX2_isP_83 : decode cX2_isP 83 = .ok (.pop, 1) := dk_87 (dk_at dksX2_isP_3 13 rfl rfl)
theorem dX2_isP_84 : decode cX2_isP 84 = .ok (.goto (-75), 3) := dk_167 255 181 (dk_at dksX2_isP_3 14 rfl rfl)
def dkwX2_isO_9 : List UInt8 := [61, 42, 89, 180, 0, 175, 4, 100, 181, 0, 175, 28, 172]
abbrev dktX2_isO_9 : List UInt8 := dkwX2_isO_9 ++ []
def dkwX2_isO_8 : List UInt8 := [153, 0, 23, 42, 182, 0, 184, 153, 0, 16, 42, 16, 41, 182, 0, 178, 153, 0, 7, 4, 167, 0, 4, 3]
abbrev dktX2_isO_8 : List UInt8 := dkwX2_isO_8 ++ dktX2_isO_9
def dkwX2_isO_7 : List UInt8 := [42, 16, 17, 182, 0, 168, 153, 0, 7, 4, 167, 0, 4, 3, 61, 167, 0, 34, 42, 16, 40, 182, 0, 178]
abbrev dktX2_isO_7 : List UInt8 := dkwX2_isO_7 ++ dktX2_isO_8
def dkwX2_isO_6 : List UInt8 := [167, 0, 4, 3, 61, 167, 0, 68, 42, 16, 45, 182, 0, 178, 153, 0, 28, 42, 182, 0, 181, 153, 0, 16]
abbrev dktX2_isO_6 : List UInt8 := dkwX2_isO_6 ++ dktX2_isO_7
def dkwX2_isO_5 : List UInt8 := [182, 0, 178, 153, 0, 28, 42, 182, 0, 181, 153, 0, 16, 42, 16, 16, 182, 0, 168, 153, 0, 7, 4]
abbrev dktX2_isO_5 : List UInt8 := dkwX2_isO_5 ++ dktX2_isO_6
def dkwX2_isO_4 : List UInt8 := [42, 180, 0, 175, 16, 6, 160, 0, 5, 3, 172, 42, 89, 180, 0, 175, 4, 96, 181, 0, 175, 42, 16, 33]
abbrev dktX2_isO_4 : List UInt8 := dkwX2_isO_4 ++ dktX2_isO_5
def dkwX2_isO_3 : List UInt8 := [184, 0, 171, 60, 27, 155, 0, 19, 42, 89, 180, 0, 154, 4, 96, 181, 0, 154, 42, 27, 182, 0, 168, 172]
abbrev dktX2_isO_3 : List UInt8 := dkwX2_isO_3 ++ dktX2_isO_4
def dkwX2_isO_2 : List UInt8 := [96, 181, 0, 154, 132, 2, 1, 167, 255, 213, 42, 16, 18, 27, 96, 182, 0, 168, 172, 42, 182, 0, 157]
abbrev dktX2_isO_2 : List UInt8 := dkwX2_isO_2 ++ dktX2_isO_3
def dkwX2_isO_1 : List UInt8 := [16, 10, 27, 104, 42, 180, 0, 24, 42, 180, 0, 154, 46, 96, 16, 48, 100, 60, 42, 89, 180, 0, 154, 4]
abbrev dktX2_isO_1 : List UInt8 := dkwX2_isO_1 ++ dktX2_isO_2
def dkwX2_isO_0 : List UInt8 := [42, 182, 0, 164, 153, 0, 62, 3, 60, 3, 61, 28, 7, 162, 0, 44, 42, 182, 0, 164, 153, 0, 37]
abbrev dktX2_isO_0 : List UInt8 := dkwX2_isO_0 ++ dktX2_isO_1
theorem dksX2_isO_0 : cX2_isO.data.toList.drop 0 = dktX2_isO_0 := by decide +kernel
theorem dksX2_isO_1 : cX2_isO.data.toList.drop 23 = dktX2_isO_1 := dk_seg dksX2_isO_0 23 rfl rfl
theorem dksX2_isO_2 : cX2_isO.data.toList.drop 47 = dktX2_isO_2 := dk_seg dksX2_isO_1 24 rfl rfl
theorem dksX2_isO_3 : cX2_isO.data.toList.drop 70 = dktX2_isO_3 := dk_seg dksX2_isO_2 23 rfl rfl
theorem dksX2_isO_4 : cX2_isO.data.toList.drop 94 = dktX2_isO_4 := dk_seg dksX2_isO_3 24 rfl rfl
theorem dksX2_isO_5 : cX2_isO.data.toList.drop 118 = dktX2_isO_5 := dk_seg dksX2_isO_4 24 rfl rfl
theorem dksX2_isO_6 : cX2_isO.data.toList.drop 141 = dktX2_isO_6 := dk_seg dksX2_isO_5 23 rfl rfl
theorem dksX2_isO_7 : cX2_isO.data.toList.drop 165 = dktX2_isO_7 := dk_seg dksX2_isO_6 24 rfl rfl
theorem dksX2_isO_8 : cX2_isO.data.toList.drop 189 = dktX2_isO_8 := dk_seg dksX2_isO_7 24 rfl rfl
theorem dksX2_isO_9 : cX2_isO.data.toList.drop 213 = dktX2_isO_9 := dk_seg dksX2_isO_8 24 rfl rfl
theorem dX2_isO_0 : decode cX2_isO 0 = .ok (.aload_n 0, 1) := dk_42 (dk_at dksX2_isO_0 0 rfl rfl)
theorem dX2_isO_1 : decode cX2_isO 1 = .ok (.invokevirtual 164, 3) := dk_182 0 164 (dk_at dksX2_isO_0 1 rfl rfl)
theorem dX2_isO_4 : decode cX2_isO 4 = .ok (.ifCond .eq 62, 3) := dk_153 0 62 (dk_at dksX2_isO_0 4 rfl rfl)
theorem dX2_isO_7 : decode cX2_isO 7 = .ok (.iconst 0, 1) := dk_3 (dk_at dksX2_isO_0 7 rfl rfl)
theorem dX2_isO_8 : decode cX2_isO 8 = .ok (.istore_n 1, 1) := dk_60 (dk_at dksX2_isO_0 8 rfl rfl)
theorem dX2_isO_9 : decode cX2_isO 9 = .ok (.iconst 0, 1) := dk_3 (dk_at dksX2_isO_0 9 rfl rfl)
theorem dX2_isO_10 : decode cX2_isO 10 = .ok (.istore_n 2, 1) := dk_61 (dk_at dksX2_isO_0 10 rfl rfl)
theorem dX2_isO_11 : decode cX2_isO 11 = .ok (.iload_n 2, 1) := dk_28 (dk_at dksX2_isO_0 11 rfl rfl)
theorem dX2_isO_12 : decode cX2_isO 12 = .ok (.iconst 4, 1) := dk_7 (dk_at dksX2_isO_0 12 rfl rfl)
theorem dX2_isO_13 : decode cX2_isO 13 = .ok (.if_icmp .ge 44, 3) := dk_162 0 44 (dk_at dksX2_isO_0 13 rfl rfl)
theorem dX2_isO_16 : decode cX2_isO 16 = .ok (.aload_n 0, 1) := dk_42 (dk_at dksX2_isO_0 16 rfl rfl)
theorem dX2_isO_17 : decode cX2_isO 17 = .ok (.invokevirtual 164, 3) := dk_182 0 164 (dk_at dksX2_isO_0 17 rfl rfl)
theorem dX2_isO_20 : decode cX2_isO 20 = .ok (.ifCond .eq 37, 3) := dk_153 0 37 (dk_at dksX2_isO_0 20 rfl rfl)
theorem dX2_isO_23 : decode cX2_isO 23 = .ok (.bipush 10, 2) := dk_16 10 (dk_at dksX2_isO_1 0 rfl rfl)
theorem dX2_isO_25 : decode cX2_isO 25 = .ok (.iload_n 1, 1) := dk_27 (dk_at dksX2_isO_1 2 rfl rfl)
theorem dX2_isO_26 : decode cX2_isO 26 = .ok (.imul, 1) := dk_104 (dk_at dksX2_isO_1 3 rfl rfl)
theorem dX2_isO_27 : decode cX2_isO 27 = .ok (.aload_n 0, 1) := dk_42 (dk_at dksX2_isO_1 4 rfl rfl)
theorem dX2_isO_28 : decode cX2_isO 28 = .ok (.getfield 24, 3) := dk_180 0 24 (dk_at dksX2_isO_1 5 rfl rfl)
theorem dX2_isO_31 : decode cX2_isO 31 = .ok (.aload_n 0, 1) := dk_42 (dk_at dksX2_isO_1 8 rfl rfl)
theorem dX2_isO_32 : decode cX2_isO 32 = .ok (.getfield 154, 3) := dk_180 0 154 (dk_at dksX2_isO_1 9 rfl rfl)
theorem dX2_isO_35 : decode cX2_isO 35 = .ok (.iaload, 1) := dk_46 (dk_at dksX2_isO_1 12 rfl rfl)
theorem dX2_isO_36 : decode cX2_isO 36 = .ok (.iadd, 1) := dk_96 (dk_at dksX2_isO_1 13 rfl rfl)
theorem dX2_isO_37 : decode cX2_isO 37 = .ok (.bipush 48, 2) := dk_16 48 (dk_at dksX2_isO_1 14 rfl rfl)
theorem dX2_isO_39 : decode cX2_isO 39 = .ok (.isub, 1) := dk_100 (dk_at dksX2_isO_1 16 rfl rfl)
theorem dX2_isO_40 : decode cX2_isO 40 = .ok (.istore_n 1, 1) := dk_60 (dk_at dksX2_isO_1 17 rfl rfl)
theorem dX2_isO_41 : decode cX2_isO 41 = .ok (.aload_n 0, 1) := dk_42 (dk_at dksX2_isO_1 18 rfl rfl)
theorem dX2_isO_42 : decode cX2_isO 42 = .ok (.dup, 1) := dk_89 (dk_at dksX2_isO_1 19 rfl rfl)
theorem dX2_isO_43 : decode cX2_isO 43 = .ok (.getfield 154, 3) := dk_180 0 154 (dk_at dksX2_isO_1 20 rfl rfl)
theorem dX2_isO_46 : decode cX2_isO 46 = .ok (.iconst 1, 1) := dk_4 (dk_at dksX2_isO_1 23 rfl rfl)
theorem dX2_isO_47 : decode cX2_isO 47 = .ok (.iadd, 1) := dk_96 (dk_at dksX2_isO_2 0 rfl rfl)
theorem dX2_isO_48 : decode cX2_isO 48 = .ok (.putfield 154, 3) := dk_181 0 154 (dk_at dksX2_isO_2 1 rfl rfl)
theorem dX2_isO_51 : decode cX2_isO 51 = .ok (.iinc 2 1, 3) := dk_132 2 1 (dk_at dksX2_isO_2 4 rfl rfl)
theorem dX2_isO_54 : decode cX2_isO 54 = .ok (.goto (-43), 3) := dk_167 255 213 (dk_at dksX2_isO_2 7 rfl rfl)
theorem dX2_isO_57 : decode cX2_isO 57 = .ok (.aload_n 0, 1) := dk_42 (dk_at dksX2_isO_2 10 rfl rfl)
theorem dX2_isO_58 : decode cX2_isO 58 = .ok (.bipush 18, 2) := dk_16 18 (dk_at dksX2_isO_2 11 rfl rfl)
theorem dX2_isO_60 : decode cX2_isO 60 = .ok (.iload_n 1, 1) := dk_27 (dk_at dksX2_isO_2 13 rfl rfl)
theorem dX2_isO_61 : decode cX2_isO 61 = .ok (.iadd, 1) := dk_96 (dk_at dksX2_isO_2 14 rfl rfl)
theorem dX2_isO_62 : decode cX2_isO 62 = .ok (.invokevirtual 168, 3) := dk_182 0 168 (dk_at dksX2_isO_2 15 rfl rfl)
theorem dX2_isO_65 : decode cX2_isO 65 = .ok (.ireturn, 1) := dk_172 (dk_at dksX2_isO_2 18 rfl rfl)
theorem dX2_isO_66 : decode cX2_isO 66 = .ok (.aload_n 0, 1) := dk_42 (dk_at dksX2_isO_2 19 rfl rfl)
theorem dX2_isO_67 : decode cX2_isO 67 = .ok (.invokevirtual 157, 3) := dk_182 0 157 (dk_at dksX2_isO_2 20 rfl rfl)
theorem dX2_isO_70 : decode cX2_isO 70 = .ok (.invokestatic 171, 3) := dk_184 0 171 (dk_at dksX2_isO_3 0 rfl rfl)
theorem dX2_isO_73 : decode cX2_isO 73 = .ok (.istore_n 1, 1) := dk_60 (dk_at dksX2_isO_3 3 rfl rfl)
theorem dX2_isO_74 : decode cX2_isO 74 = .ok (.iload_n 1, 1) := dk_27 (dk_at dksX2_isO_3 4 rfl rfl)
theorem dX2_isO_75 : decode cX2_isO 75 = .ok (.ifCond .lt 19, 3) := dk_155 0 19 (dk_at dksX2_isO_3 5 rfl rfl)
theorem dX2_isO_78 : decode cX2_isO 78 = .ok (.aload_n 0, 1) := dk_42 (dk_at dksX2_isO_3 8 rfl rfl)
theorem dX2_isO_79 : decode cX2_isO 79 = .ok (.dup, 1) := dk_89 (dk_at dksX2_isO_3 9 rfl rfl)
theorem dX2_isO_80 : decode cX2_isO 80 = .ok (.getfield 154, 3) := dk_180 0 154 (dk_at dksX2_isO_3 10 rfl rfl)
theorem dX2_isO_83 : decode cX2_isO 83 = .ok (.iconst 1, 1) := dk_4 (dk_at dksX2_isO_3 13 rfl rfl)
theorem dX2_isO_84 : decode cX2_isO 84 = .ok (.iadd, 1) := dk_96 (dk_at dksX2_isO_3 14 rfl rfl)
theorem dX2_isO_85 : decode cX2_isO 85 = .ok (.putfield 154, 3) := dk_181 0 154 (dk_at dksX2_isO_3 15 rfl rfl)
theorem dX2_isO_88 : decode cX2_isO 88 = .ok (.aload_n 0, 1) := dk_42 (dk_at dksX2_isO_3 18 rfl rfl)
theorem dX2_isO_89 : decode cX2_isO 89 = .ok (.iload_n 1, 1) := dk_27 (dk_at dksX2_isO_3 19 rfl rfl)
theorem dX2_isO_90 : decode cX2_isO 90 = .ok (.invokevirtual 168, 3) := dk_182 0 168 (dk_at dksX2_isO_3 20 rfl rfl)
theorem dX2_isO_93 : decode cX2_isO 93 = .ok (.ireturn, 1) := dk_172 (dk_at dksX2_isO_3 23 rfl rfl)
theorem dX2_isO_94 : decode cX2_isO 94 = .ok (.aload_n 0, 1) := dk_42 (dk_at dksX2_isO_4 0 rfl rfl)
theorem dX2_isO_95 : decode cX2_isO 95 = .ok (.getfield 175, 3) := dk_180 0 175 (dk_at dksX2_isO_4 1 rfl rfl)
theorem dX2_isO_98 : decode cX2_isO 98 = .ok (.bipush 6, 2) := dk_16 6 (dk_at dksX2_isO_4 4 rfl rfl)
theorem dX2_isO_100 : decode cX2_isO 100 = .ok (.if_icmp .ne 5, 3) := dk_160 0 5 (dk_at dksX2_isO_4 6 rfl rfl)
theorem dX2_isO_103 : decode cX2_isO 103 = .ok (.iconst 0, 1) := dk_3 (dk_at dksX2_isO_4 9 rfl rfl)
theorem dX2_isO_104 : decode cX2_isO 104 = .ok (.ireturn, 1) := dk_172 (dk_at dksX2_isO_4 10 rfl rfl)
theorem dX2_isO_105 : decode cX2_isO 105 = .ok (.aload_n 0, 1) := dk_42 (dk_at dksX2_isO_4 11 rfl rfl)
theorem dX2_isO_106 : decode cX2_isO 106 = .ok (.dup, 1) := dk_89 (dk_at dksX2_isO_4 12 rfl rfl)
theorem dX2_isO_107 : decode cX2_isO 107 = .ok (.getfield 175, 3) := dk_180 0 175 (dk_at dksX2_isO_4 13 rfl rfl)
theorem dX2_isO_110 : decode cX2_isO 110 = .ok (.iconst 1, 1) := dk_4 (dk_at dksX2_isO_4 16 rfl rfl)
theorem dX2_isO_111 : decode cX2_isO 111 = .ok (.iadd, 1) := dk_96 (dk_at dksX2_isO_4 17 rfl rfl)
theorem dX2_isO_112 : decode cX2_isO 112 = .ok (.putfield 175, 3) := dk_181 0 175 (dk_at dksX2_isO_4 18 rfl rfl)
theorem dX2_isO_115 : decode cX2_isO 115 = .ok (.aload_n 0, 1) := dk_42 (dk_at dksX2_isO_4 21 rfl rfl)
theorem dX2_isO_116 : decode cX2_isO 116 = .ok (.bipush 33, 2) := dk_16 33 (dk_at dksX2_isO_4 22 rfl rfl)
theorem dX2_isO_118 : decode cX2_isO 118 = .ok (.invokevirtual 178, 3) := dk_182 0 178 (dk_at dksX2_isO_5 0 rfl rfl)
theorem dX2_isO_121 : decode cX2_isO 121 = .ok (.ifCond .eq 28, 3) := dk_153 0 28 (dk_at dksX2_isO_5 3 rfl rfl)
theorem dX2_isO_124 : decode cX2_isO 124 = .ok (.aload_n 0, 1) := dk_42 (dk_at dksX2_isO_5 6 rfl rfl)
theorem dX2_isO_125 : decode cX2_isO 125 = .ok (.invokevirtual 181, 3) := dk_182 0 181 (dk_at dksX2_isO_5 7 rfl rfl)
theorem dX2_isO_128 : decode cX2_isO 128 = .ok (.ifCond .eq 16, 3) := dk_153 0 16 (dk_at dksX2_isO_5 10 rfl rfl)
theorem dX2_isO_131 : decode cX2_isO 131 = .ok (.aload_n 0, 1) := dk_42 (dk_at dksX2_isO_5 13 rfl rfl)
theorem dX2_isO_132 : decode cX2_isO 132 = .ok (.bipush 16, 2) := dk_16 16 (dk_at dksX2_isO_5 14 rfl rfl)
theorem dX2_isO_134 : decode cX2_isO 134 = .ok (.invokevirtual 168, 3) := dk_182 0 168 (dk_at dksX2_isO_5 16 rfl rfl)
theorem dX2_isO_137 : decode cX2_isO 137 = .ok (.ifCond .eq 7, 3) := dk_153 0 7 (dk_at dksX2_isO_5 19 rfl rfl)
theorem dX2_isO_140 : decode cX2_isO 140 = .ok (.iconst 1, 1) := dk_4 (dk_at dksX2_isO_5 22 rfl rfl)
theorem dX2_isO_141 : decode cX2_isO 141 = .ok (.goto 4, 3) := dk_167 0 4 (dk_at dksX2_isO_6 0 rfl rfl)
theorem dX2_isO_144 : decode cX2_isO 144 = .ok (.iconst 0, 1) := dk_3 (dk_at dksX2_isO_6 3 rfl rfl)
theorem dX2_isO_145 : decode cX2_isO 145 = .ok (.istore_n 2, 1) := dk_61 (dk_at dksX2_isO_6 4 rfl rfl)
theorem dX2_isO_146 : decode cX2_isO 146 = .ok (.goto 68, 3) := dk_167 0 68 (dk_at dksX2_isO_6 5 rfl rfl)
theorem dX2_isO_149 : decode cX2_isO 149 = .ok (.aload_n 0, 1) := dk_42 (dk_at dksX2_isO_6 8 rfl rfl)
theorem dX2_isO_150 : decode cX2_isO 150 = .ok (.bipush 45, 2) := dk_16 45 (dk_at dksX2_isO_6 9 rfl rfl)
theorem dX2_isO_152 : decode cX2_isO 152 = .ok (.invokevirtual 178, 3) := dk_182 0 178 (dk_at dksX2_isO_6 11 rfl rfl)
theorem dX2_isO_155 : decode cX2_isO 155 = .ok (.ifCond .eq 28, 3) := dk_153 0 28 (dk_at dksX2_isO_6 14 rfl rfl)
theorem dX2_isO_158 : decode cX2_isO 158 = .ok (.aload_n 0, 1) := dk_42 (dk_at dksX2_isO_6 17 rfl rfl)
theorem dX2_isO_159 : decode cX2_isO 159 = .ok (.invokevirtual 181, 3) := dk_182 0 181 (dk_at dksX2_isO_6 18 rfl rfl)
theorem dX2_isO_162 : decode cX2_isO 162 = .ok (.ifCond .eq 16, 3) := dk_153 0 16 (dk_at dksX2_isO_6 21 rfl rfl)
theorem dX2_isO_165 : decode cX2_isO 165 = .ok (.aload_n 0, 1) := dk_42 (dk_at dksX2_isO_7 0 rfl rfl)
theorem dX2_isO_166 : decode cX2_isO 166 = .ok (.bipush 17, 2) := dk_16 17 (dk_at dksX2_isO_7 1 rfl rfl)
theorem dX2_isO_168 : decode cX2_isO 168 = .ok (.invokevirtual 168, 3) := dk_182 0 168 (dk_at dksX2_isO_7 3 rfl rfl)
theorem dX2_isO_171 : decode cX2_isO 171 = .ok (.ifCond .eq 7, 3) := dk_153 0 7 (dk_at dksX2_isO_7 6 rfl rfl)
theorem dX2_isO_174 : decode cX2_isO 174 = .ok (.iconst 1, 1) := dk_4 (dk_at dksX2_isO_7 9 rfl rfl)
theorem dX2_isO_175 : decode cX2_isO 175 = .ok (.goto 4, 3) := dk_167 0 4 (dk_at dksX2_isO_7 10 rfl rfl)
theorem dX2_isO_178 : decode cX2_isO 178 = .ok (.iconst 0, 1) := dk_3 (dk_at dksX2_isO_7 13 rfl rfl)
theorem dX2_isO_179 : decode cX2_isO 179 = .ok (.istore_n 2, 1) := dk_61 (dk_at dksX2_isO_7 14 rfl rfl)
theorem dX2_isO_180 : decode cX2_isO 180 = .ok (.goto 34, 3) := dk_167 0 34 (dk_at dksX2_isO_7 15 rfl rfl)
theorem dX2_isO_183 : decode cX2_isO 183 = .ok (.aload_n 0, 1) := dk_42 (dk_at dksX2_isO_7 18 rfl rfl)
theorem dX2_isO_184 : decode cX2_isO 184 = .ok (.bipush 40, 2) := dk_16 40 (dk_at dksX2_isO_7 19 rfl rfl)
theorem dX2_isO_186 : decode cX2_isO 186 = .ok (.invokevirtual 178, 3) := dk_182 0 178 (dk_at dksX2_isO_7 21 rfl rfl)
theorem dX2_isO_189 : decode cX2_isO 189 = .ok (.ifCond .eq 23, 3) := dk_153 0 23 (dk_at dksX2_isO_8 0 rfl rfl)
theorem dX2_isO_192 : decode cX2_isO 192 = .ok (.aload_n 0, 1) := dk_42 (dk_at dksX2_isO_8 3 rfl rfl)
theorem dX2_isO_193 : decode cX2_isO 193 = .ok (.invokevirtual 184, 3) := dk_182 0 184 (dk_at dksX2_isO_8 4 rfl rfl)
theorem dX2_isO_196 : decode cX2_isO 196 = .ok (.ifCond .eq 16, 3) := dk_153 0 16 (dk_at dksX2_isO_8 7 rfl rfl)
theorem dX2_isO_199 : decode cX2_isO 199 = .ok (.aload_n 0, 1) := dk_42 (dk_at dksX2_isO_8 10 rfl rfl)
theorem dX2_isO_200 : decode cX2_isO 200 = .ok (.bipush 41, 2) := dk_16 41 (dk_at dksX2_isO_8 11 rfl rfl)
theorem dX2_isO_202 : decode cX2_isO 202 = .ok (.invokevirtual 178, 3) := dk_182 0 178 (dk_at dksX2_isO_8 13 rfl rfl)
theorem dX2_isO_205 : decode cX2_isO 205 = .ok (.ifCond .eq 7, 3) := dk_153 0 7 (dk_at dksX2_isO_8 16 rfl rfl)
theorem dX2_isO_208 : decode cX2_isO 208 = .ok (.iconst 1, 1) := dk_4 (dk_at dksX2_isO_8 19 rfl rfl)
theorem dX2_isO_209 : decode cX2_isO 209 = .ok (.goto 4, 3) := dk_167 0 4 (dk_at dksX2_isO_8 20 rfl rfl)
theorem dX2_isO_212 : decode cX2_isO 212 = .ok (.iconst 0, 1) := dk_3 (dk_at dksX2_isO_8 23 rfl rfl)
theorem dX2_isO_213 : decode cX2_isO 213 = .ok (.istore_n 2, 1) := dk_61 (dk_at dksX2_isO_9 0 rfl rfl)
theorem dX2_isO_214 : decode cX2_isO 214 = .ok (.aload_n 0, 1) := dk_42 (dk_at dksX2_isO_9 1 rfl rfl)
theorem dX2_isO_215 : decode cX2_isO 215 = .ok (.dup, 1) := dk_89 (dk_at dksX2_isO_9 2 rfl rfl)
theorem dX2_isO_216 : decode cX2_isO 216 = .ok (.getfield 175, 3) := dk_180 0 175 (dk_at dksX2_isO_9 3 rfl rfl)
theorem dX2_isO_219 : decode cX2_isO 219 = .ok (.iconst 1, 1) := dk_4 (dk_at dksX2_isO_9 6 rfl rfl)
theorem dX2_isO_220 : decode cX2_isO 220 = .ok (.isub, 1) := dk_100 (dk_at dksX2_isO_9 7 rfl rfl)
theorem dX2_isO_221 : decode cX2_isO 221 = .ok (.putfield 175, 3) := dk_181 0 175 (dk_at dksX2_isO_9 8 rfl rfl)
theorem dX2_isO_224 : decode cX2_isO 224 = .ok (.iload_n 2, 1) := dk_28 (dk_at dksX2_isO_9 11 rfl rfl)
theorem dX2_isO_225 : decode cX2_isO 225 = .ok (.ireturn, 1) := dk_172 (dk_at dksX2_isO_9 12 rfl rfl)
def dkwX2_isDigit_0 : List UInt8 := [42, 182, 0, 157, 16, 48, 161, 0, 16, 42, 182, 0, 157, 16, 57, 163, 0, 7, 4, 167, 0, 4, 3, 172]
abbrev dktX2_isDigit_0 : List UInt8 := dkwX2_isDigit_0 ++ []
theorem dksX2_isDigit_0 : cX2_isDigit.data.toList.drop 0 = dktX2_isDigit_0 := by decide +kernel
theorem dX2_isDigit_0 : decode cX2_isDigit 0 = .ok (.aload_n 0, 1) := dk_42 (dk_at dksX2_isDigit_0 0 rfl rfl)
theorem dX2_isDigit_1 : decode cX2_isDigit 1 = .ok (.invokevirtual 157, 3) := dk_182 0 157 (dk_at dksX2_isDigit_0 1 rfl rfl)
theorem dX2_isDigit_4 : decode cX2_isDigit 4 = .ok (.bipush 48, 2) := dk_16 48 (dk_at dksX2_isDigit_0 4 rfl rfl)
theorem dX2_isDigit_6 : decode cX2_isDigit 6 = .ok (.if_icmp .lt 16, 3) := dk_161 0 16 (dk_at dksX2_isDigit_0 6 rfl rfl)
theorem dX2_isDigit_9 : decode cX2_isDigit 9 = .ok (.aload_n 0, 1) := dk_42 (dk_at dksX2_isDigit_0 9 rfl rfl)
theorem dX2_isDigit_10 : decode cX2_isDigit 10 = .ok (.invokevirtual 157, 3) := dk_182 0 157 (dk_at dksX2_isDigit_0 10 rfl rfl)
theorem dX2_isDigit_13 : decode cX2_isDigit 13 = .ok (.bipush 57, 2) := dk_16 57 (dk_at dksX2_isDigit_0 13 rfl rfl)
theorem dX2_isDigit_15 : decode cX2_isDigit 15 = .ok (.if_icmp .gt 7, 3) := dk_163 0 7 (dk_at dksX2_isDigit_0 15 rfl rfl)
theorem dX2_isDigit_18 : decode cX2_isDigit 18 = .ok (.iconst 1, 1) := dk_4 (dk_at dksX2_isDigit_0 18 rfl rfl)
theorem dX2_isDigit_19 : decode cX2_isDigit 19 = .ok (.goto 4, 3) := dk_167 0 4 (dk_at dksX2_isDigit_0 19 rfl rfl)
theorem dX2_isDigit_22 : decode cX2_isDigit 22 = .ok (.iconst 0, 1) := dk_3 (dk_at dksX2_isDigit_0 22 rfl rfl)
theorem dX2_isDigit_23 : decode cX2_isDigit 23 = .ok (.ireturn, 1) := dk_172 (dk_at dksX2_isDigit_0 23 rfl rfl)
def dkwX2_sign_1 : List UInt8 := [172]
abbrev dktX2_sign_1 : List UInt8 := dkwX2_sign_1 ++ []
def dkwX2_sign_0 : List UInt8 := [42, 180, 0, 154, 42, 180, 0, 151, 162, 0, 15, 42, 180, 0, 24, 42, 180, 0, 154, 46, 167, 0, 4, 2]
abbrev dktX2_sign_0 : List UInt8 := dkwX2_sign_0 ++ dktX2_sign_1
theorem dksX2_sign_0 : cX2_sign.data.toList.drop 0 = dktX2_sign_0 := by decide +kernel
theorem dksX2_sign_1 : cX2_sign.data.toList.drop 24 = dktX2_sign_1 := dk_seg dksX2_sign_0 24 rfl rfl
theorem dX2_sign_0 : decode cX2_sign 0 = .ok (.aload_n 0, 1) := dk_42 (dk_at dksX2_sign_0 0 rfl rfl)
theorem dX2_sign_1 : decode cX2_sign 1 = .ok (.getfield 154, 3) := dk_180 0 154 (dk_at dksX2_sign_0 1 rfl rfl)
theorem dX2_sign_4 : decode cX2_sign 4 = .ok (.aload_n 0, 1) := dk_42 (dk_at dksX2_sign_0 4 rfl rfl)
theorem dX2_sign_5 : decode cX2_sign 5 = .ok (.getfield 151, 3) := dk_180 0 151 (dk_at dksX2_sign_0 5 rfl rfl)
theorem dX2_sign_8 : decode cX2_sign 8 = .ok (.if_icmp .ge 15, 3) := dk_162 0 15 (dk_at dksX2_sign_0 8 rfl rfl)
theorem dX2_sign_11 : decode cX2_sign 11 = .ok (.aload_n 0, 1) := dk_42 (dk_at dksX2_sign_0 11 rfl rfl)
theorem dX2_sign_12 : decode cX2_sign 12 = .ok (.getfield 24, 3) := dk_180 0 24 (dk_at dksX2_sign_0 12 rfl rfl)
theorem dX2_sign_15 : decode cX2_sign 15 = .ok (.aload_n 0, 1) := dk_42 (dk_at dksX2_sign_0 15 rfl rfl)
theorem dX2_sign_16 : decode cX2_sign 16 = .ok (.getfield 154, 3) := dk_180 0 154 (dk_at dksX2_sign_0 16 rfl rfl)
theorem dX2_sign_19 : decode cX2_sign 19 = .ok (.iaload, 1) := dk_46 (dk_at dksX2_sign_0 19 rfl rfl)
theorem dX2_sign_20 : decode cX2_sign 20 = .ok (.goto 4, 3) := dk_167 0 4 (dk_at dksX2_sign_0 20 rfl rfl)
theorem dX2_sign_23 : decode cX2_sign 23 = .ok (.iconst (-1), 1) := dk_2 (dk_at dksX2_sign_0 23 rfl rfl)
theorem dX2_sign_24 : decode cX2_sign 24 = .ok (.ireturn, 1) := dk_172 (dk_at dksX2_sign_1 0 rfl rfl)
def dkwX2_codes_0 : List UInt8 := [42, 180, 0, 48, 42, 89, 180, 0, 161, 90, 4, 96, 181, 0, 161, 27, 79, 4, 172]
abbrev dktX2_codes_0 : List UInt8 := dkwX2_codes_0 ++ []
theorem dksX2_codes_0 : cX2_codes.data.toList.drop 0 = dktX2_codes_0 := by decide +kernel
theorem dX2_codes_0 : decode cX2_codes 0 = .ok (.aload_n 0, 1) := dk_42 (dk_at dksX2_codes_0 0 rfl rfl)
theorem dX2_codes_1 : decode cX2_codes 1 = .ok (.getfield 48, 3) := dk_180 0 48 (dk_at dksX2_codes_0 1 rfl rfl)
theorem dX2_codes_4 : decode cX2_codes 4 = .ok (.aload_n 0, 1) := dk_42 (dk_at dksX2_codes_0 4 rfl rfl)
theorem dX2_codes_5 : decode cX2_codes 5 = .ok (.dup, 1) := dk_89 (dk_at dksX2_codes_0 5 rfl rfl)
theorem dX2_codes_6 : decode cX2_codes 6 = .ok (.getfield 161, 3) := dk_180 0 161 (dk_at dksX2_codes_0 6 rfl rfl)
theorem dX2_codes_9 : decode cX2_codes 9 = .ok (.dup_x1, 1) := dk_90 (dk_at dksX2_codes_0 9 rfl rfl)
theorem dX2_codes_10 : decode cX2_codes 10 = .ok (.iconst 1, 1) := dk_4 (dk_at dksX2_codes_0 10 rfl rfl)
theorem dX2_codes_11 : decode cX2_codes 11 = .ok (.iadd, 1) := dk_96 (dk_at dksX2_codes_0 11 rfl rfl)
theorem dX2_codes_12 : decode cX2_codes 12 = .ok (.putfield 161, 3) := dk_181 0 161 (dk_at dksX2_codes_0 12 rfl rfl)
theorem dX2_codes_15 : decode cX2_codes 15 = .ok (.iload_n 1, 1) := dk_27 (dk_at dksX2_codes_0 15 rfl rfl)
theorem dX2_codes_16 : decode cX2_codes 16 = .ok (.iastore, 1) := dk_79 (dk_at dksX2_codes_0 16 rfl rfl)
theorem dX2_codes_17 : decode cX2_codes 17 = .ok (.iconst 1, 1) := dk_4 (dk_at dksX2_codes_0 17 rfl rfl)
theorem dX2_codes_18 : decode cX2_codes 18 = .ok (.ireturn, 1) := dk_172 (dk_at dksX2_codes_0 18 rfl rfl)
def dkwX2_nameOf_2 : List UInt8 := [3, 172, 4, 172, 5, 172, 6, 172, 7, 172, 8, 172, 2, 172]
abbrev dktX2_nameOf_2 : List UInt8 := dkwX2_nameOf_2 ++ []
def dkwX2_nameOf_1 : List UInt8 := [170, 0, 0, 0, 0, 0, 107, 0, 0, 0, 100, 0, 0, 0, 119, 0, 0, 0, 97, 0, 0, 0, 107, 0, 0, 0, 107, 0, 0, 0, 107, 0, 0, 0, 107, 0, 0, 0, 107, 0, 0, 0, 107, 0, 0, 0, 101, 0, 0, 0, 99, 0, 0, 0, 103, 0, 0, 0, 105, 0, 0, 0, 107, 0, 0, 0, 107, 0, 0, 0, 107, 0, 0, 0, 107, 0, 0, 0, 107, 0, 0, 0, 107, 0, 0, 0, 107, 0, 0, 0, 107, 0, 0, 0, 95]
abbrev dktX2_nameOf_1 : List UInt8 := dkwX2_nameOf_1 ++ dktX2_nameOf_2
def dkwX2_nameOf_0 : List UInt8 := [26]
abbrev dktX2_nameOf_0 : List UInt8 := dkwX2_nameOf_0 ++ dktX2_nameOf_1
theorem dksX2_nameOf_0 : cX2_nameOf.data.toList.drop 0 = dktX2_nameOf_0 := by decide +kernel
theorem dksX2_nameOf_1 : cX2_nameOf.data.toList.drop 1 = dktX2_nameOf_1 := dk_seg dksX2_nameOf_0 1 rfl rfl
theorem dksX2_nameOf_2 : cX2_nameOf.data.toList.drop 96 = dktX2_nameOf_2 := dk_seg dksX2_nameOf_1 95 rfl rfl
theorem dX2_nameOf_0 : decode cX2_nameOf 0 = .ok (.iload_n 0, 1) := dk_26 (dk_at dksX2_nameOf_0 0 rfl rfl)
theorem dX2_nameOf_1 : decode cX2_nameOf 1 = .ok (.tableswitch 107 100 119 #[97, 107, 107, 107, 107, 107, 107, 101, 99, 103, 105, 107, 107, 107, 107, 107, 107, 107, 107, 95], 95) := by decide +kernel
theorem dX2_nameOf_96 : decode cX2_nameOf 96 = .ok (.iconst 0, 1) := dk_3 (dk_at dksX2_nameOf_2 0 rfl rfl)
theorem dX2_nameOf_97 : decode cX2_nameOf 97 = .ok (.ireturn, 1) := dk_172 (dk_at dksX2_nameOf_2 1 rfl rfl)
theorem dX2_nameOf_98 : decode cX2_nameOf 98 = .ok (.iconst 1, 1) := dk_4 (dk_at dksX2_nameOf_2 2 rfl rfl)
theorem dX2_nameOf_99 : decode cX2_nameOf 99 = .ok (.ireturn, 1) := dk_172 (dk_at dksX2_nameOf_2 3 rfl rfl)
theorem dX2_nameOf_100 : decode cX2_nameOf 100 = .ok (.iconst 2, 1) := dk_5 (dk_at dksX2_nameOf_2 4 rfl rfl)
theorem dX2_nameOf_101 : decode cX2_nameOf 101 = .ok (.ireturn, 1) := dk_172 (dk_at dksX2_nameOf_2 5 rfl rfl)
theorem dX2_nameOf_102 : decode cX2_nameOf 102 = .ok (.iconst 3, 1) := dk_6 (dk_at dksX2_nameOf_2 6 rfl rfl)
theorem dX2_nameOf_103 : decode cX2_nameOf 103 = .ok (.ireturn, 1) := dk_172 (dk_at dksX2_nameOf_2 7 rfl rfl)
theorem dX2_nameOf_104 : decode cX2_nameOf 104 = .ok (.iconst 4, 1) := dk_7 (dk_at dksX2_nameOf_2 8 rfl rfl)
theorem dX2_nameOf_105 : decode cX2_nameOf 105 = .ok (.ireturn, 1) := dk_172 (dk_at dksX2_nameOf_2 9 rfl rfl)
theorem dX2_nameOf_106 : decode cX2_nameOf 106 = .ok (.iconst 5, 1) := dk_8 (dk_at dksX2_nameOf_2 10 rfl rfl)
theorem dX2_nameOf_107 : decode cX2_nameOf 107 = .ok (.ireturn, 1) := dk_172 (dk_at dksX2_nameOf_2 11 rfl rfl)
theorem dX2_nameOf_108 : decode cX2_nameOf 108 = .ok (.iconst (-1), 1) := dk_2 (dk_at dksX2_nameOf_2 12 rfl rfl)
theorem dX2_nameOf_109 : decode cX2_nameOf 109 = .ok (.ireturn, 1) := dk_172 (dk_at dksX2_nameOf_2 13 rfl rfl)
def dkwX2_is_0 : List UInt8 := [42, 182, 0, 157, 27, 159, 0, 5, 3, 172, 42, 89, 180, 0, 154, 4, 96, 181, 0, 154, 4, 172]
abbrev dktX2_is_0 : List UInt8 := dkwX2_is_0 ++ []
theorem dksX2_is_0 : cX2_is.data.toList.drop 0 = dktX2_is_0 := by decide +kernel
theorem dX2_is_0 : decode cX2_is 0 = .ok (.aload_n 0, 1) := dk_42 (dk_at dksX2_is_0 0 rfl rfl)
theorem dX2_is_1 : decode cX2_is 1 = .ok (.invokevirtual 157, 3) := dk_182 0 157 (dk_at dksX2_is_0 1 rfl rfl)
theorem dX2_is_4 : decode cX2_is 4 = .ok (.iload_n 1, 1) := dk_27 (dk_at dksX2_is_0 4 rfl rfl)
theorem dX2_is_5 : decode cX2_is 5 = .ok (.if_icmp .eq 5, 3) := dk_159 0 5 (dk_at dksX2_is_0 5 rfl rfl)
theorem dX2_is_8 : decode cX2_is 8 = .ok (.iconst 0, 1) := dk_3 (dk_at dksX2_is_0 8 rfl rfl)
theorem dX2_is_9 : decode cX2_is 9 = .ok (.ireturn, 1) := dk_172 (dk_at dksX2_is_0 9 rfl rfl)
theorem dX2_is_10 : decode cX2_is 10 = .ok (.aload_n 0, 1) := dk_42 (dk_at dksX2_is_0 10 rfl rfl)
theorem dX2_is_11 : decode cX2_is 11 = .ok (.dup, 1) := dk_89 (dk_at dksX2_is_0 11 rfl rfl)
theorem dX2_is_12 : decode cX2_is 12 = .ok (.getfield 154, 3) := dk_180 0 154 (dk_at dksX2_is_0 12 rfl rfl)
theorem dX2_is_15 : decode cX2_is 15 = .ok (.iconst 1, 1) := dk_4 (dk_at dksX2_is_0 15 rfl rfl)
theorem dX2_is_16 : decode cX2_is 16 = .ok (.iadd, 1) := dk_96 (dk_at dksX2_is_0 16 rfl rfl)
theorem dX2_is_17 : decode cX2_is 17 = .ok (.putfield 154, 3) := dk_181 0 154 (dk_at dksX2_is_0 17 rfl rfl)
theorem dX2_is_20 : decode cX2_is 20 = .ok (.iconst 1, 1) := dk_4 (dk_at dksX2_is_0 20 rfl rfl)
theorem dX2_is_21 : decode cX2_is 21 = .ok (.ireturn, 1) := dk_172 (dk_at dksX2_is_0 21 rfl rfl)
def dkwX2_storeys_0 : List UInt8 := [42, 27, 182, 0, 127, 153, 0, 11, 42, 27, 182, 0, 236, 167, 0, 4, 2, 172]
abbrev dktX2_storeys_0 : List UInt8 := dkwX2_storeys_0 ++ []
theorem dksX2_storeys_0 : cX2_storeys.data.toList.drop 0 = dktX2_storeys_0 := by decide +kernel
theorem dX2_storeys_0 : decode cX2_storeys 0 = .ok (.aload_n 0, 1) := dk_42 (dk_at dksX2_storeys_0 0 rfl rfl)
theorem dX2_storeys_1 : decode cX2_storeys 1 = .ok (.iload_n 1, 1) := dk_27 (dk_at dksX2_storeys_0 1 rfl rfl)
theorem dX2_storeys_2 : decode cX2_storeys 2 = .ok (.invokevirtual 127, 3) := dk_182 0 127 (dk_at dksX2_storeys_0 2 rfl rfl)
theorem dX2_storeys_5 : decode cX2_storeys 5 = .ok (.ifCond .eq 11, 3) := dk_153 0 11 (dk_at dksX2_storeys_0 5 rfl rfl)
theorem dX2_storeys_8 : decode cX2_storeys 8 = .ok (.aload_n 0, 1) := dk_42 (dk_at dksX2_storeys_0 8 rfl rfl)
theorem dX2_storeys_9 : decode cX2_storeys 9 = .ok (.iload_n 1, 1) := dk_27 (dk_at dksX2_storeys_0 9 rfl rfl)
theorem dX2_storeys_10 : decode cX2_storeys 10 = .ok (.invokevirtual 236, 3) := dk_182 0 236 (dk_at dksX2_storeys_0 10 rfl rfl)
theorem dX2_storeys_13 : decode cX2_storeys 13 = .ok (.goto 4, 3) := dk_167 0 4 (dk_at dksX2_storeys_0 13 rfl rfl)
theorem dX2_storeys_16 : decode cX2_storeys 16 = .ok (.iconst (-1), 1) := dk_2 (dk_at dksX2_storeys_0 16 rfl rfl)
theorem dX2_storeys_17 : decode cX2_storeys 17 = .ok (.ireturn, 1) := dk_172 (dk_at dksX2_storeys_0 17 rfl rfl)
def dkwX2_storeysOf_2 : List UInt8 := [160, 0, 7, 4, 167, 0, 4, 3, 96, 61, 3, 16, 9, 28, 184, 0, 233, 184, 0, 222, 172]
abbrev dktX2_storeysOf_2 : List UInt8 := dkwX2_storeysOf_2 ++ []
def dkwX2_storeysOf_1 : List UInt8 := [167, 0, 33, 42, 180, 0, 15, 27, 46, 16, 20, 108, 4, 96, 42, 180, 0, 15, 16, 15, 27, 96, 46, 5]
abbrev dktX2_storeysOf_1 : List UInt8 := dkwX2_storeysOf_1 ++ dktX2_storeysOf_2
def dkwX2_storeysOf_0 : List UInt8 := [42, 27, 182, 0, 216, 154, 0, 5, 3, 172, 42, 180, 0, 205, 153, 0, 11, 42, 27, 182, 0, 230]
abbrev dktX2_storeysOf_0 : List UInt8 := dkwX2_storeysOf_0 ++ dktX2_storeysOf_1
theorem dksX2_storeysOf_0 : cX2_storeysOf.data.toList.drop 0 = dktX2_storeysOf_0 := by decide +kernel
theorem dksX2_storeysOf_1 : cX2_storeysOf.data.toList.drop 22 = dktX2_storeysOf_1 := dk_seg dksX2_storeysOf_0 22 rfl rfl
theorem dksX2_storeysOf_2 : cX2_storeysOf.data.toList.drop 46 = dktX2_storeysOf_2 := dk_seg dksX2_storeysOf_1 24 rfl rfl
theorem dX2_storeysOf_0 : decode cX2_storeysOf 0 = .ok (.aload_n 0, 1) := dk_42 (dk_at dksX2_storeysOf_0 0 rfl rfl)
theorem dX2_storeysOf_1 : decode cX2_storeysOf 1 = .ok (.iload_n 1, 1) := dk_27 (dk_at dksX2_storeysOf_0 1 rfl rfl)
theorem dX2_storeysOf_2 : decode cX2_storeysOf 2 = .ok (.invokevirtual 216, 3) := dk_182 0 216 (dk_at dksX2_storeysOf_0 2 rfl rfl)
theorem dX2_storeysOf_5 : decode cX2_storeysOf 5 = .ok (.ifCond .ne 5, 3) := dk_154 0 5 (dk_at dksX2_storeysOf_0 5 rfl rfl)
theorem dX2_storeysOf_8 : decode cX2_storeysOf 8 = .ok (.iconst 0, 1) := dk_3 (dk_at dksX2_storeysOf_0 8 rfl rfl)
theorem dX2_storeysOf_9 : decode cX2_storeysOf 9 = .ok (.ireturn, 1) := dk_172 (dk_at dksX2_storeysOf_0 9 rfl rfl)
theorem dX2_storeysOf_10 : decode cX2_storeysOf 10 = .ok (.aload_n 0, 1) := dk_42 (dk_at dksX2_storeysOf_0 10 rfl rfl)
theorem dX2_storeysOf_11 : decode cX2_storeysOf 11 = .ok (.getfield 205, 3) := dk_180 0 205 (dk_at dksX2_storeysOf_0 11 rfl rfl)
theorem dX2_storeysOf_14 : decode cX2_storeysOf 14 = .ok (.ifCond .eq 11, 3) := dk_153 0 11 (dk_at dksX2_storeysOf_0 14 rfl rfl)
theorem dX2_storeysOf_17 : decode cX2_storeysOf 17 = .ok (.aload_n 0, 1) := dk_42 (dk_at dksX2_storeysOf_0 17 rfl rfl)
theorem dX2_storeysOf_18 : decode cX2_storeysOf 18 = .ok (.iload_n 1, 1) := dk_27 (dk_at dksX2_storeysOf_0 18 rfl rfl)
theorem dX2_storeysOf_19 : decode cX2_storeysOf 19 = .ok (.invokevirtual 230, 3) := dk_182 0 230 (dk_at dksX2_storeysOf_0 19 rfl rfl)
theorem dX2_storeysOf_22 : decode cX2_storeysOf 22 = .ok (.goto 33, 3) := dk_167 0 33 (dk_at dksX2_storeysOf_1 0 rfl rfl)
theorem dX2_storeysOf_25 : decode cX2_storeysOf 25 = .ok (.aload_n 0, 1) := dk_42 (dk_at dksX2_storeysOf_1 3 rfl rfl)
theorem dX2_storeysOf_26 : decode cX2_storeysOf 26 = .ok (.getfield 15, 3) := dk_180 0 15 (dk_at dksX2_storeysOf_1 4 rfl rfl)
theorem dX2_storeysOf_29 : decode cX2_storeysOf 29 = .ok (.iload_n 1, 1) := dk_27 (dk_at dksX2_storeysOf_1 7 rfl rfl)
theorem dX2_storeysOf_30 : decode cX2_storeysOf 30 = .ok (.iaload, 1) := dk_46 (dk_at dksX2_storeysOf_1 8 rfl rfl)
theorem dX2_storeysOf_31 : decode cX2_storeysOf 31 = .ok (.bipush 20, 2) := dk_16 20 (dk_at dksX2_storeysOf_1 9 rfl rfl)
theorem dX2_storeysOf_33 : decode cX2_storeysOf 33 = .ok (.idiv, 1) := dk_108 (dk_at dksX2_storeysOf_1 11 rfl rfl)
theorem dX2_storeysOf_34 : decode cX2_storeysOf 34 = .ok (.iconst 1, 1) := dk_4 (dk_at dksX2_storeysOf_1 12 rfl rfl)
theorem dX2_storeysOf_35 : decode cX2_storeysOf 35 = .ok (.iadd, 1) := dk_96 (dk_at dksX2_storeysOf_1 13 rfl rfl)
theorem dX2_storeysOf_36 : decode cX2_storeysOf 36 = .ok (.aload_n 0, 1) := dk_42 (dk_at dksX2_storeysOf_1 14 rfl rfl)
theorem dX2_storeysOf_37 : decode cX2_storeysOf 37 = .ok (.getfield 15, 3) := dk_180 0 15 (dk_at dksX2_storeysOf_1 15 rfl rfl)
theorem dX2_storeysOf_40 : decode cX2_storeysOf 40 = .ok (.bipush 15, 2) := dk_16 15 (dk_at dksX2_storeysOf_1 18 rfl rfl)
theorem dX2_storeysOf_42 : decode cX2_storeysOf 42 = .ok (.iload_n 1, 1) := dk_27 (dk_at dksX2_storeysOf_1 20 rfl rfl)
theorem dX2_storeysOf_43 : decode cX2_storeysOf 43 = .ok (.iadd, 1) := dk_96 (dk_at dksX2_storeysOf_1 21 rfl rfl)
theorem dX2_storeysOf_44 : decode cX2_storeysOf 44 = .ok (.iaload, 1) := dk_46 (dk_at dksX2_storeysOf_1 22 rfl rfl)
theorem dX2_storeysOf_45 : decode cX2_storeysOf 45 = .ok (.iconst 2, 1) := dk_5 (dk_at dksX2_storeysOf_1 23 rfl rfl)
theorem dX2_storeysOf_46 : decode cX2_storeysOf 46 = .ok (.if_icmp .ne 7, 3) := dk_160 0 7 (dk_at dksX2_storeysOf_2 0 rfl rfl)
theorem dX2_storeysOf_49 : decode cX2_storeysOf 49 = .ok (.iconst 1, 1) := dk_4 (dk_at dksX2_storeysOf_2 3 rfl rfl)
theorem dX2_storeysOf_50 : decode cX2_storeysOf 50 = .ok (.goto 4, 3) := dk_167 0 4 (dk_at dksX2_storeysOf_2 4 rfl rfl)
theorem dX2_storeysOf_53 : decode cX2_storeysOf 53 = .ok (.iconst 0, 1) := dk_3 (dk_at dksX2_storeysOf_2 7 rfl rfl)
theorem dX2_storeysOf_54 : decode cX2_storeysOf 54 = .ok (.iadd, 1) := dk_96 (dk_at dksX2_storeysOf_2 8 rfl rfl)
theorem dX2_storeysOf_55 : decode cX2_storeysOf 55 = .ok (.istore_n 2, 1) := dk_61 (dk_at dksX2_storeysOf_2 9 rfl rfl)
theorem dX2_storeysOf_56 : decode cX2_storeysOf 56 = .ok (.iconst 0, 1) := dk_3 (dk_at dksX2_storeysOf_2 10 rfl rfl)
theorem dX2_storeysOf_57 : decode cX2_storeysOf 57 = .ok (.bipush 9, 2) := dk_16 9 (dk_at dksX2_storeysOf_2 11 rfl rfl)
theorem dX2_storeysOf_59 : decode cX2_storeysOf 59 = .ok (.iload_n 2, 1) := dk_28 (dk_at dksX2_storeysOf_2 13 rfl rfl)
theorem dX2_storeysOf_60 : decode cX2_storeysOf 60 = .ok (.invokestatic 233, 3) := dk_184 0 233 (dk_at dksX2_storeysOf_2 14 rfl rfl)
theorem dX2_storeysOf_63 : decode cX2_storeysOf 63 = .ok (.invokestatic 222, 3) := dk_184 0 222 (dk_at dksX2_storeysOf_2 17 rfl rfl)
theorem dX2_storeysOf_66 : decode cX2_storeysOf 66 = .ok (.ireturn, 1) := dk_172 (dk_at dksX2_storeysOf_2 20 rfl rfl)
def dkwX2_isOpen_2 : List UInt8 := [96, 46, 162, 0, 7, 4, 167, 0, 4, 3, 172]
abbrev dktX2_isOpen_2 : List UInt8 := dkwX2_isOpen_2 ++ []
def dkwX2_isOpen_1 : List UInt8 := [159, 0, 29, 42, 180, 0, 103, 42, 180, 0, 15, 16, 45, 27, 96, 46, 100, 42, 180, 0, 15, 16, 30, 27]
abbrev dktX2_isOpen_1 : List UInt8 := dkwX2_isOpen_1 ++ dktX2_isOpen_2
def dkwX2_isOpen_0 : List UInt8 := [42, 180, 0, 15, 16, 60, 27, 96, 46, 154, 0, 46, 42, 180, 0, 15, 16, 15, 27, 96, 46, 4]
abbrev dktX2_isOpen_0 : List UInt8 := dkwX2_isOpen_0 ++ dktX2_isOpen_1
theorem dksX2_isOpen_0 : cX2_isOpen.data.toList.drop 0 = dktX2_isOpen_0 := by decide +kernel
theorem dksX2_isOpen_1 : cX2_isOpen.data.toList.drop 22 = dktX2_isOpen_1 := dk_seg dksX2_isOpen_0 22 rfl rfl
theorem dksX2_isOpen_2 : cX2_isOpen.data.toList.drop 46 = dktX2_isOpen_2 := dk_seg dksX2_isOpen_1 24 rfl rfl
theorem dX2_isOpen_0 : decode cX2_isOpen 0 = .ok (.aload_n 0, 1) := dk_42 (dk_at dksX2_isOpen_0 0 rfl rfl)
theorem dX2_isOpen_1 : decode cX2_isOpen 1 = .ok (.getfield 15, 3) := dk_180 0 15 (dk_at dksX2_isOpen_0 1 rfl rfl)
theorem dX2_isOpen_4 : decode cX2_isOpen 4 = .ok (.bipush 60, 2) := dk_16 60 (dk_at dksX2_isOpen_0 4 rfl rfl)
theorem dX2_isOpen_6 : decode cX2_isOpen 6 = .ok (.iload_n 1, 1) := dk_27 (dk_at dksX2_isOpen_0 6 rfl rfl)
theorem dX2_isOpen_7 : decode cX2_isOpen 7 = .ok (.iadd, 1) := dk_96 (dk_at dksX2_isOpen_0 7 rfl rfl)
theorem dX2_isOpen_8 : decode cX2_isOpen 8 = .ok (.iaload, 1) := dk_46 (dk_at dksX2_isOpen_0 8 rfl rfl)
theorem dX2_isOpen_9 : decode cX2_isOpen 9 = .ok (.ifCond .ne 46, 3) := dk_154 0 46 (dk_at dksX2_isOpen_0 9 rfl rfl)
theorem dX2_isOpen_12 : decode cX2_isOpen 12 = .ok (.aload_n 0, 1) := dk_42 (dk_at dksX2_isOpen_0 12 rfl rfl)
theorem dX2_isOpen_13 : decode cX2_isOpen 13 = .ok (.getfield 15, 3) := dk_180 0 15 (dk_at dksX2_isOpen_0 13 rfl rfl)
theorem dX2_isOpen_16 : decode cX2_isOpen 16 = .ok (.bipush 15, 2) := dk_16 15 (dk_at dksX2_isOpen_0 16 rfl rfl)
theorem dX2_isOpen_18 : decode cX2_isOpen 18 = .ok (.iload_n 1, 1) := dk_27 (dk_at dksX2_isOpen_0 18 rfl rfl)
theorem dX2_isOpen_19 : decode cX2_isOpen 19 = .ok (.iadd, 1) := dk_96 (dk_at dksX2_isOpen_0 19 rfl rfl)
theorem dX2_isOpen_20 : decode cX2_isOpen 20 = .ok (.iaload, 1) := dk_46 (dk_at dksX2_isOpen_0 20 rfl rfl)
theorem dX2_isOpen_21 : decode cX2_isOpen 21 = .ok (.iconst 1, 1) := dk_4 (dk_at dksX2_isOpen_0 21 rfl rfl)
theorem dX2_isOpen_22 : decode cX2_isOpen 22 = .ok (.if_icmp .eq 29, 3) := dk_159 0 29 (dk_at dksX2_isOpen_1 0 rfl rfl)
theorem dX2_isOpen_25 : decode cX2_isOpen 25 = .ok (.aload_n 0, 1) := dk_42 (dk_at dksX2_isOpen_1 3 rfl rfl)
theorem dX2_isOpen_26 : decode cX2_isOpen 26 = .ok (.getfield 103, 3) := dk_180 0 103 (dk_at dksX2_isOpen_1 4 rfl rfl)
theorem dX2_isOpen_29 : decode cX2_isOpen 29 = .ok (.aload_n 0, 1) := dk_42 (dk_at dksX2_isOpen_1 7 rfl rfl)
theorem dX2_isOpen_30 : decode cX2_isOpen 30 = .ok (.getfield 15, 3) := dk_180 0 15 (dk_at dksX2_isOpen_1 8 rfl rfl)
theorem dX2_isOpen_33 : decode cX2_isOpen 33 = .ok (.bipush 45, 2) := dk_16 45 (dk_at dksX2_isOpen_1 11 rfl rfl)
theorem dX2_isOpen_35 : decode cX2_isOpen 35 = .ok (.iload_n 1, 1) := dk_27 (dk_at dksX2_isOpen_1 13 rfl rfl)
theorem dX2_isOpen_36 : decode cX2_isOpen 36 = .ok (.iadd, 1) := dk_96 (dk_at dksX2_isOpen_1 14 rfl rfl)
theorem dX2_isOpen_37 : decode cX2_isOpen 37 = .ok (.iaload, 1) := dk_46 (dk_at dksX2_isOpen_1 15 rfl rfl)
theorem dX2_isOpen_38 : decode cX2_isOpen 38 = .ok (.isub, 1) := dk_100 (dk_at dksX2_isOpen_1 16 rfl rfl)
theorem dX2_isOpen_39 : decode cX2_isOpen 39 = .ok (.aload_n 0, 1) := dk_42 (dk_at dksX2_isOpen_1 17 rfl rfl)
theorem dX2_isOpen_40 : decode cX2_isOpen 40 = .ok (.getfield 15, 3) := dk_180 0 15 (dk_at dksX2_isOpen_1 18 rfl rfl)
theorem dX2_isOpen_43 : decode cX2_isOpen 43 = .ok (.bipush 30, 2) := dk_16 30 (dk_at dksX2_isOpen_1 21 rfl rfl)
theorem dX2_isOpen_45 : decode cX2_isOpen 45 = .ok (.iload_n 1, 1) := dk_27 (dk_at dksX2_isOpen_1 23 rfl rfl)
theorem dX2_isOpen_46 : decode cX2_isOpen 46 = .ok (.iadd, 1) := dk_96 (dk_at dksX2_isOpen_2 0 rfl rfl)
theorem dX2_isOpen_47 : decode cX2_isOpen 47 = .ok (.iaload, 1) := dk_46 (dk_at dksX2_isOpen_2 1 rfl rfl)
theorem dX2_isOpen_48 : decode cX2_isOpen 48 = .ok (.if_icmp .ge 7, 3) := dk_162 0 7 (dk_at dksX2_isOpen_2 2 rfl rfl)
theorem dX2_isOpen_51 : decode cX2_isOpen 51 = .ok (.iconst 1, 1) := dk_4 (dk_at dksX2_isOpen_2 5 rfl rfl)
theorem dX2_isOpen_52 : decode cX2_isOpen 52 = .ok (.goto 4, 3) := dk_167 0 4 (dk_at dksX2_isOpen_2 6 rfl rfl)
theorem dX2_isOpen_55 : decode cX2_isOpen 55 = .ok (.iconst 0, 1) := dk_3 (dk_at dksX2_isOpen_2 9 rfl rfl)
theorem dX2_isOpen_56 : decode cX2_isOpen 56 = .ok (.ireturn, 1) := dk_172 (dk_at dksX2_isOpen_2 10 rfl rfl)
def dkwX2_byLaw_8 : List UInt8 := [132, 3, 1, 167, 255, 191, 3, 172]
abbrev dktX2_byLaw_8 : List UInt8 := dkwX2_byLaw_8 ++ []
def dkwX2_byLaw_7 : List UInt8 := [154, 0, 6, 167, 0, 20, 42, 42, 180, 0, 30, 29, 46, 42, 180, 0, 33, 29, 46, 182, 0, 227, 172]
abbrev dktX2_byLaw_7 : List UInt8 := dkwX2_byLaw_7 ++ dktX2_byLaw_8
def dkwX2_byLaw_6 : List UInt8 := [180, 0, 27, 29, 46, 164, 0, 25, 42, 42, 180, 0, 27, 29, 46, 42, 180, 0, 30, 29, 46, 182, 0, 227]
abbrev dktX2_byLaw_6 : List UInt8 := dkwX2_byLaw_6 ++ dktX2_byLaw_7
def dkwX2_byLaw_5 : List UInt8 := [180, 0, 54, 8, 28, 79, 3, 62, 29, 42, 180, 0, 209, 162, 0, 63, 42, 180, 0, 30, 29, 46, 42]
abbrev dktX2_byLaw_5 : List UInt8 := dkwX2_byLaw_5 ++ dktX2_byLaw_6
def dkwX2_byLaw_4 : List UInt8 := [16, 15, 27, 96, 46, 79, 42, 180, 0, 54, 7, 42, 180, 0, 9, 42, 180, 0, 18, 27, 46, 46, 79, 42]
abbrev dktX2_byLaw_4 : List UInt8 := dkwX2_byLaw_4 ++ dktX2_byLaw_5
def dkwX2_byLaw_3 : List UInt8 := [42, 180, 0, 54, 5, 42, 180, 0, 15, 16, 30, 27, 96, 46, 79, 42, 180, 0, 54, 6, 42, 180, 0, 15]
abbrev dktX2_byLaw_3 : List UInt8 := dkwX2_byLaw_3 ++ dktX2_byLaw_4
def dkwX2_byLaw_2 : List UInt8 := [42, 180, 0, 54, 4, 3, 42, 180, 0, 103, 42, 180, 0, 15, 16, 45, 27, 96, 46, 100, 184, 0, 222, 79]
abbrev dktX2_byLaw_2 : List UInt8 := dkwX2_byLaw_2 ++ dktX2_byLaw_3
def dkwX2_byLaw_1 : List UInt8 := [153, 0, 6, 132, 2, 1, 132, 3, 1, 167, 255, 228, 42, 180, 0, 54, 3, 42, 180, 0, 15, 27, 46, 79]
abbrev dktX2_byLaw_1 : List UInt8 := dkwX2_byLaw_1 ++ dktX2_byLaw_2
def dkwX2_byLaw_0 : List UInt8 := [3, 61, 3, 62, 29, 42, 180, 0, 96, 162, 0, 26, 42, 29, 42, 180, 0, 18, 27, 46, 182, 0, 219]
abbrev dktX2_byLaw_0 : List UInt8 := dkwX2_byLaw_0 ++ dktX2_byLaw_1
theorem dksX2_byLaw_0 : cX2_byLaw.data.toList.drop 0 = dktX2_byLaw_0 := by decide +kernel
theorem dksX2_byLaw_1 : cX2_byLaw.data.toList.drop 23 = dktX2_byLaw_1 := dk_seg dksX2_byLaw_0 23 rfl rfl
theorem dksX2_byLaw_2 : cX2_byLaw.data.toList.drop 47 = dktX2_byLaw_2 := dk_seg dksX2_byLaw_1 24 rfl rfl
theorem dksX2_byLaw_3 : cX2_byLaw.data.toList.drop 71 = dktX2_byLaw_3 := dk_seg dksX2_byLaw_2 24 rfl rfl
theorem dksX2_byLaw_4 : cX2_byLaw.data.toList.drop 95 = dktX2_byLaw_4 := dk_seg dksX2_byLaw_3 24 rfl rfl
theorem dksX2_byLaw_5 : cX2_byLaw.data.toList.drop 119 = dktX2_byLaw_5 := dk_seg dksX2_byLaw_4 24 rfl rfl
theorem dksX2_byLaw_6 : cX2_byLaw.data.toList.drop 142 = dktX2_byLaw_6 := dk_seg dksX2_byLaw_5 23 rfl rfl
theorem dksX2_byLaw_7 : cX2_byLaw.data.toList.drop 166 = dktX2_byLaw_7 := dk_seg dksX2_byLaw_6 24 rfl rfl
theorem dksX2_byLaw_8 : cX2_byLaw.data.toList.drop 189 = dktX2_byLaw_8 := dk_seg dksX2_byLaw_7 23 rfl rfl
theorem dX2_byLaw_0 : decode cX2_byLaw 0 = .ok (.iconst 0, 1) := dk_3 (dk_at dksX2_byLaw_0 0 rfl rfl)
theorem dX2_byLaw_1 : decode cX2_byLaw 1 = .ok (.istore_n 2, 1) := dk_61 (dk_at dksX2_byLaw_0 1 rfl rfl)
theorem dX2_byLaw_2 : decode cX2_byLaw 2 = .ok (.iconst 0, 1) := dk_3 (dk_at dksX2_byLaw_0 2 rfl rfl)
theorem dX2_byLaw_3 : decode cX2_byLaw 3 = .ok (.istore_n 3, 1) := dk_62 (dk_at dksX2_byLaw_0 3 rfl rfl)
theorem dX2_byLaw_4 : decode cX2_byLaw 4 = .ok (.iload_n 3, 1) := dk_29 (dk_at dksX2_byLaw_0 4 rfl rfl)
theorem dX2_byLaw_5 : decode cX2_byLaw 5 = .ok (.aload_n 0, 1) := dk_42 (dk_at dksX2_byLaw_0 5 rfl rfl)
theorem dX2_byLaw_6 : decode cX2_byLaw 6 = .ok (.getfield 96, 3) := dk_180 0 96 (dk_at dksX2_byLaw_0 6 rfl rfl)
theorem dX2_byLaw_9 : decode cX2_byLaw 9 = .ok (.if_icmp .ge 26, 3) := dk_162 0 26 (dk_at dksX2_byLaw_0 9 rfl rfl)
theorem dX2_byLaw_12 : decode cX2_byLaw 12 = .ok (.aload_n 0, 1) := dk_42 (dk_at dksX2_byLaw_0 12 rfl rfl)
theorem dX2_byLaw_13 : decode cX2_byLaw 13 = .ok (.iload_n 3, 1) := dk_29 (dk_at dksX2_byLaw_0 13 rfl rfl)
theorem dX2_byLaw_14 : decode cX2_byLaw 14 = .ok (.aload_n 0, 1) := dk_42 (dk_at dksX2_byLaw_0 14 rfl rfl)
theorem dX2_byLaw_15 : decode cX2_byLaw 15 = .ok (.getfield 18, 3) := dk_180 0 18 (dk_at dksX2_byLaw_0 15 rfl rfl)
theorem dX2_byLaw_18 : decode cX2_byLaw 18 = .ok (.iload_n 1, 1) := dk_27 (dk_at dksX2_byLaw_0 18 rfl rfl)
theorem dX2_byLaw_19 : decode cX2_byLaw 19 = .ok (.iaload, 1) := dk_46 (dk_at dksX2_byLaw_0 19 rfl rfl)
theorem dX2_byLaw_20 : decode cX2_byLaw 20 = .ok (.invokevirtual 219, 3) := dk_182 0 219 (dk_at dksX2_byLaw_0 20 rfl rfl)
theorem dX2_byLaw_23 : decode cX2_byLaw 23 = .ok (.ifCond .eq 6, 3) := dk_153 0 6 (dk_at dksX2_byLaw_1 0 rfl rfl)
theorem dX2_byLaw_26 : decode cX2_byLaw 26 = .ok (.iinc 2 1, 3) := dk_132 2 1 (dk_at dksX2_byLaw_1 3 rfl rfl)
theorem dX2_byLaw_29 : decode cX2_byLaw 29 = .ok (.iinc 3 1, 3) := dk_132 3 1 (dk_at dksX2_byLaw_1 6 rfl rfl)
theorem dX2_byLaw_32 : decode cX2_byLaw 32 = .ok (.goto (-28), 3) := dk_167 255 228 (dk_at dksX2_byLaw_1 9 rfl rfl)
theorem dX2_byLaw_35 : decode cX2_byLaw 35 = .ok (.aload_n 0, 1) := dk_42 (dk_at dksX2_byLaw_1 12 rfl rfl)
theorem dX2_byLaw_36 : decode cX2_byLaw 36 = .ok (.getfield 54, 3) := dk_180 0 54 (dk_at dksX2_byLaw_1 13 rfl rfl)
theorem dX2_byLaw_39 : decode cX2_byLaw 39 = .ok (.iconst 0, 1) := dk_3 (dk_at dksX2_byLaw_1 16 rfl rfl)
theorem dX2_byLaw_40 : decode cX2_byLaw 40 = .ok (.aload_n 0, 1) := dk_42 (dk_at dksX2_byLaw_1 17 rfl rfl)
theorem dX2_byLaw_41 : decode cX2_byLaw 41 = .ok (.getfield 15, 3) := dk_180 0 15 (dk_at dksX2_byLaw_1 18 rfl rfl)
theorem dX2_byLaw_44 : decode cX2_byLaw 44 = .ok (.iload_n 1, 1) := dk_27 (dk_at dksX2_byLaw_1 21 rfl rfl)
theorem dX2_byLaw_45 : decode cX2_byLaw 45 = .ok (.iaload, 1) := dk_46 (dk_at dksX2_byLaw_1 22 rfl rfl)
theorem dX2_byLaw_46 : decode cX2_byLaw 46 = .ok (.iastore, 1) := dk_79 (dk_at dksX2_byLaw_1 23 rfl rfl)
theorem dX2_byLaw_47 : decode cX2_byLaw 47 = .ok (.aload_n 0, 1) := dk_42 (dk_at dksX2_byLaw_2 0 rfl rfl)
theorem dX2_byLaw_48 : decode cX2_byLaw 48 = .ok (.getfield 54, 3) := dk_180 0 54 (dk_at dksX2_byLaw_2 1 rfl rfl)
theorem dX2_byLaw_51 : decode cX2_byLaw 51 = .ok (.iconst 1, 1) := dk_4 (dk_at dksX2_byLaw_2 4 rfl rfl)
theorem dX2_byLaw_52 : decode cX2_byLaw 52 = .ok (.iconst 0, 1) := dk_3 (dk_at dksX2_byLaw_2 5 rfl rfl)
theorem dX2_byLaw_53 : decode cX2_byLaw 53 = .ok (.aload_n 0, 1) := dk_42 (dk_at dksX2_byLaw_2 6 rfl rfl)
theorem dX2_byLaw_54 : decode cX2_byLaw 54 = .ok (.getfield 103, 3) := dk_180 0 103 (dk_at dksX2_byLaw_2 7 rfl rfl)
theorem dX2_byLaw_57 : decode cX2_byLaw 57 = .ok (.aload_n 0, 1) := dk_42 (dk_at dksX2_byLaw_2 10 rfl rfl)
theorem dX2_byLaw_58 : decode cX2_byLaw 58 = .ok (.getfield 15, 3) := dk_180 0 15 (dk_at dksX2_byLaw_2 11 rfl rfl)
theorem dX2_byLaw_61 : decode cX2_byLaw 61 = .ok (.bipush 45, 2) := dk_16 45 (dk_at dksX2_byLaw_2 14 rfl rfl)
theorem dX2_byLaw_63 : decode cX2_byLaw 63 = .ok (.iload_n 1, 1) := dk_27 (dk_at dksX2_byLaw_2 16 rfl rfl)
theorem dX2_byLaw_64 : decode cX2_byLaw 64 = .ok (.iadd, 1) := dk_96 (dk_at dksX2_byLaw_2 17 rfl rfl)
theorem dX2_byLaw_65 : decode cX2_byLaw 65 = .ok (.iaload, 1) := dk_46 (dk_at dksX2_byLaw_2 18 rfl rfl)
theorem dX2_byLaw_66 : decode cX2_byLaw 66 = .ok (.isub, 1) := dk_100 (dk_at dksX2_byLaw_2 19 rfl rfl)
theorem dX2_byLaw_67 : decode cX2_byLaw 67 = .ok (.invokestatic 222, 3) := dk_184 0 222 (dk_at dksX2_byLaw_2 20 rfl rfl)
theorem dX2_byLaw_70 : decode cX2_byLaw 70 = .ok (.iastore, 1) := dk_79 (dk_at dksX2_byLaw_2 23 rfl rfl)
theorem dX2_byLaw_71 : decode cX2_byLaw 71 = .ok (.aload_n 0, 1) := dk_42 (dk_at dksX2_byLaw_3 0 rfl rfl)
theorem dX2_byLaw_72 : decode cX2_byLaw 72 = .ok (.getfield 54, 3) := dk_180 0 54 (dk_at dksX2_byLaw_3 1 rfl rfl)
theorem dX2_byLaw_75 : decode cX2_byLaw 75 = .ok (.iconst 2, 1) := dk_5 (dk_at dksX2_byLaw_3 4 rfl rfl)
theorem dX2_byLaw_76 : decode cX2_byLaw 76 = .ok (.aload_n 0, 1) := dk_42 (dk_at dksX2_byLaw_3 5 rfl rfl)
theorem dX2_byLaw_77 : decode cX2_byLaw 77 = .ok (.getfield 15, 3) := dk_180 0 15 (dk_at dksX2_byLaw_3 6 rfl rfl)
theorem dX2_byLaw_80 : decode cX2_byLaw 80 = .ok (.bipush 30, 2) := dk_16 30 (dk_at dksX2_byLaw_3 9 rfl rfl)
theorem dX2_byLaw_82 : decode cX2_byLaw 82 = .ok (.iload_n 1, 1) := dk_27 (dk_at dksX2_byLaw_3 11 rfl rfl)
theorem dX2_byLaw_83 : decode cX2_byLaw 83 = .ok (.iadd, 1) := dk_96 (dk_at dksX2_byLaw_3 12 rfl rfl)
theorem dX2_byLaw_84 : decode cX2_byLaw 84 = .ok (.iaload, 1) := dk_46 (dk_at dksX2_byLaw_3 13 rfl rfl)
theorem dX2_byLaw_85 : decode cX2_byLaw 85 = .ok (.iastore, 1) := dk_79 (dk_at dksX2_byLaw_3 14 rfl rfl)
theorem dX2_byLaw_86 : decode cX2_byLaw 86 = .ok (.aload_n 0, 1) := dk_42 (dk_at dksX2_byLaw_3 15 rfl rfl)
theorem dX2_byLaw_87 : decode cX2_byLaw 87 = .ok (.getfield 54, 3) := dk_180 0 54 (dk_at dksX2_byLaw_3 16 rfl rfl)
theorem dX2_byLaw_90 : decode cX2_byLaw 90 = .ok (.iconst 3, 1) := dk_6 (dk_at dksX2_byLaw_3 19 rfl rfl)
theorem dX2_byLaw_91 : decode cX2_byLaw 91 = .ok (.aload_n 0, 1) := dk_42 (dk_at dksX2_byLaw_3 20 rfl rfl)
theorem dX2_byLaw_92 : decode cX2_byLaw 92 = .ok (.getfield 15, 3) := dk_180 0 15 (dk_at dksX2_byLaw_3 21 rfl rfl)
theorem dX2_byLaw_95 : decode cX2_byLaw 95 = .ok (.bipush 15, 2) := dk_16 15 (dk_at dksX2_byLaw_4 0 rfl rfl)
theorem dX2_byLaw_97 : decode cX2_byLaw 97 = .ok (.iload_n 1, 1) := dk_27 (dk_at dksX2_byLaw_4 2 rfl rfl)
theorem dX2_byLaw_98 : decode cX2_byLaw 98 = .ok (.iadd, 1) := dk_96 (dk_at dksX2_byLaw_4 3 rfl rfl)
theorem dX2_byLaw_99 : decode cX2_byLaw 99 = .ok (.iaload, 1) := dk_46 (dk_at dksX2_byLaw_4 4 rfl rfl)
theorem dX2_byLaw_100 : decode cX2_byLaw 100 = .ok (.iastore, 1) := dk_79 (dk_at dksX2_byLaw_4 5 rfl rfl)
theorem dX2_byLaw_101 : decode cX2_byLaw 101 = .ok (.aload_n 0, 1) := dk_42 (dk_at dksX2_byLaw_4 6 rfl rfl)
theorem dX2_byLaw_102 : decode cX2_byLaw 102 = .ok (.getfield 54, 3) := dk_180 0 54 (dk_at dksX2_byLaw_4 7 rfl rfl)
theorem dX2_byLaw_105 : decode cX2_byLaw 105 = .ok (.iconst 4, 1) := dk_7 (dk_at dksX2_byLaw_4 10 rfl rfl)
theorem dX2_byLaw_106 : decode cX2_byLaw 106 = .ok (.aload_n 0, 1) := dk_42 (dk_at dksX2_byLaw_4 11 rfl rfl)
theorem dX2_byLaw_107 : decode cX2_byLaw 107 = .ok (.getfield 9, 3) := dk_180 0 9 (dk_at dksX2_byLaw_4 12 rfl rfl)
theorem dX2_byLaw_110 : decode cX2_byLaw 110 = .ok (.aload_n 0, 1) := dk_42 (dk_at dksX2_byLaw_4 15 rfl rfl)
theorem dX2_byLaw_111 : decode cX2_byLaw 111 = .ok (.getfield 18, 3) := dk_180 0 18 (dk_at dksX2_byLaw_4 16 rfl rfl)
theorem dX2_byLaw_114 : decode cX2_byLaw 114 = .ok (.iload_n 1, 1) := dk_27 (dk_at dksX2_byLaw_4 19 rfl rfl)
theorem dX2_byLaw_115 : decode cX2_byLaw 115 = .ok (.iaload, 1) := dk_46 (dk_at dksX2_byLaw_4 20 rfl rfl)
theorem dX2_byLaw_116 : decode cX2_byLaw 116 = .ok (.iaload, 1) := dk_46 (dk_at dksX2_byLaw_4 21 rfl rfl)
theorem dX2_byLaw_117 : decode cX2_byLaw 117 = .ok (.iastore, 1) := dk_79 (dk_at dksX2_byLaw_4 22 rfl rfl)
theorem dX2_byLaw_118 : decode cX2_byLaw 118 = .ok (.aload_n 0, 1) := dk_42 (dk_at dksX2_byLaw_4 23 rfl rfl)
theorem dX2_byLaw_119 : decode cX2_byLaw 119 = .ok (.getfield 54, 3) := dk_180 0 54 (dk_at dksX2_byLaw_5 0 rfl rfl)
theorem dX2_byLaw_122 : decode cX2_byLaw 122 = .ok (.iconst 5, 1) := dk_8 (dk_at dksX2_byLaw_5 3 rfl rfl)
theorem dX2_byLaw_123 : decode cX2_byLaw 123 = .ok (.iload_n 2, 1) := dk_28 (dk_at dksX2_byLaw_5 4 rfl rfl)
theorem dX2_byLaw_124 : decode cX2_byLaw 124 = .ok (.iastore, 1) := dk_79 (dk_at dksX2_byLaw_5 5 rfl rfl)
theorem dX2_byLaw_125 : decode cX2_byLaw 125 = .ok (.iconst 0, 1) := dk_3 (dk_at dksX2_byLaw_5 6 rfl rfl)
theorem dX2_byLaw_126 : decode cX2_byLaw 126 = .ok (.istore_n 3, 1) := dk_62 (dk_at dksX2_byLaw_5 7 rfl rfl)
theorem dX2_byLaw_127 : decode cX2_byLaw 127 = .ok (.iload_n 3, 1) := dk_29 (dk_at dksX2_byLaw_5 8 rfl rfl)
theorem dX2_byLaw_128 : decode cX2_byLaw 128 = .ok (.aload_n 0, 1) := dk_42 (dk_at dksX2_byLaw_5 9 rfl rfl)
theorem dX2_byLaw_129 : decode cX2_byLaw 129 = .ok (.getfield 209, 3) := dk_180 0 209 (dk_at dksX2_byLaw_5 10 rfl rfl)
theorem dX2_byLaw_132 : decode cX2_byLaw 132 = .ok (.if_icmp .ge 63, 3) := dk_162 0 63 (dk_at dksX2_byLaw_5 13 rfl rfl)
theorem dX2_byLaw_135 : decode cX2_byLaw 135 = .ok (.aload_n 0, 1) := dk_42 (dk_at dksX2_byLaw_5 16 rfl rfl)
theorem dX2_byLaw_136 : decode cX2_byLaw 136 = .ok (.getfield 30, 3) := dk_180 0 30 (dk_at dksX2_byLaw_5 17 rfl rfl)
theorem dX2_byLaw_139 : decode cX2_byLaw 139 = .ok (.iload_n 3, 1) := dk_29 (dk_at dksX2_byLaw_5 20 rfl rfl)
theorem dX2_byLaw_140 : decode cX2_byLaw 140 = .ok (.iaload, 1) := dk_46 (dk_at dksX2_byLaw_5 21 rfl rfl)
theorem dX2_byLaw_141 : decode cX2_byLaw 141 = .ok (.aload_n 0, 1) := dk_42 (dk_at dksX2_byLaw_5 22 rfl rfl)
theorem dX2_byLaw_142 : decode cX2_byLaw 142 = .ok (.getfield 27, 3) := dk_180 0 27 (dk_at dksX2_byLaw_6 0 rfl rfl)
theorem dX2_byLaw_145 : decode cX2_byLaw 145 = .ok (.iload_n 3, 1) := dk_29 (dk_at dksX2_byLaw_6 3 rfl rfl)
theorem dX2_byLaw_146 : decode cX2_byLaw 146 = .ok (.iaload, 1) := dk_46 (dk_at dksX2_byLaw_6 4 rfl rfl)
theorem dX2_byLaw_147 : decode cX2_byLaw 147 = .ok (.if_icmp .le 25, 3) := dk_164 0 25 (dk_at dksX2_byLaw_6 5 rfl rfl)
theorem dX2_byLaw_150 : decode cX2_byLaw 150 = .ok (.aload_n 0, 1) := dk_42 (dk_at dksX2_byLaw_6 8 rfl rfl)
theorem dX2_byLaw_151 : decode cX2_byLaw 151 = .ok (.aload_n 0, 1) := dk_42 (dk_at dksX2_byLaw_6 9 rfl rfl)
theorem dX2_byLaw_152 : decode cX2_byLaw 152 = .ok (.getfield 27, 3) := dk_180 0 27 (dk_at dksX2_byLaw_6 10 rfl rfl)
theorem dX2_byLaw_155 : decode cX2_byLaw 155 = .ok (.iload_n 3, 1) := dk_29 (dk_at dksX2_byLaw_6 13 rfl rfl)
theorem dX2_byLaw_156 : decode cX2_byLaw 156 = .ok (.iaload, 1) := dk_46 (dk_at dksX2_byLaw_6 14 rfl rfl)
theorem dX2_byLaw_157 : decode cX2_byLaw 157 = .ok (.aload_n 0, 1) := dk_42 (dk_at dksX2_byLaw_6 15 rfl rfl)
theorem dX2_byLaw_158 : decode cX2_byLaw 158 = .ok (.getfield 30, 3) := dk_180 0 30 (dk_at dksX2_byLaw_6 16 rfl rfl)
theorem dX2_byLaw_161 : decode cX2_byLaw 161 = .ok (.iload_n 3, 1) := dk_29 (dk_at dksX2_byLaw_6 19 rfl rfl)
theorem dX2_byLaw_162 : decode cX2_byLaw 162 = .ok (.iaload, 1) := dk_46 (dk_at dksX2_byLaw_6 20 rfl rfl)
theorem dX2_byLaw_163 : decode cX2_byLaw 163 = .ok (.invokevirtual 227, 3) := dk_182 0 227 (dk_at dksX2_byLaw_6 21 rfl rfl)
theorem dX2_byLaw_166 : decode cX2_byLaw 166 = .ok (.ifCond .ne 6, 3) := dk_154 0 6 (dk_at dksX2_byLaw_7 0 rfl rfl)
theorem dX2_byLaw_169 : decode cX2_byLaw 169 = .ok (.goto 20, 3) := dk_167 0 20 (dk_at dksX2_byLaw_7 3 rfl rfl)
theorem dX2_byLaw_172 : decode cX2_byLaw 172 = .ok (.aload_n 0, 1) := dk_42 (dk_at dksX2_byLaw_7 6 rfl rfl)
theorem dX2_byLaw_173 : decode cX2_byLaw 173 = .ok (.aload_n 0, 1) := dk_42 (dk_at dksX2_byLaw_7 7 rfl rfl)
theorem dX2_byLaw_174 : decode cX2_byLaw 174 = .ok (.getfield 30, 3) := dk_180 0 30 (dk_at dksX2_byLaw_7 8 rfl rfl)
theorem dX2_byLaw_177 : decode cX2_byLaw 177 = .ok (.iload_n 3, 1) := dk_29 (dk_at dksX2_byLaw_7 11 rfl rfl)
theorem dX2_byLaw_178 : decode cX2_byLaw 178 = .ok (.iaload, 1) := dk_46 (dk_at dksX2_byLaw_7 12 rfl rfl)
theorem dX2_byLaw_179 : decode cX2_byLaw 179 = .ok (.aload_n 0, 1) := dk_42 (dk_at dksX2_byLaw_7 13 rfl rfl)
theorem dX2_byLaw_180 : decode cX2_byLaw 180 = .ok (.getfield 33, 3) := dk_180 0 33 (dk_at dksX2_byLaw_7 14 rfl rfl)
theorem dX2_byLaw_183 : decode cX2_byLaw 183 = .ok (.iload_n 3, 1) := dk_29 (dk_at dksX2_byLaw_7 17 rfl rfl)
theorem dX2_byLaw_184 : decode cX2_byLaw 184 = .ok (.iaload, 1) := dk_46 (dk_at dksX2_byLaw_7 18 rfl rfl)
theorem dX2_byLaw_185 : decode cX2_byLaw 185 = .ok (.invokevirtual 227, 3) := dk_182 0 227 (dk_at dksX2_byLaw_7 19 rfl rfl)
theorem dX2_byLaw_188 : decode cX2_byLaw 188 = .ok (.ireturn, 1) := dk_172 (dk_at dksX2_byLaw_7 22 rfl rfl)
theorem dX2_byLaw_189 : decode cX2_byLaw 189 = .ok (.iinc 3 1, 3) := dk_132 3 1 (dk_at dksX2_byLaw_8 0 rfl rfl)
theorem dX2_byLaw_192 : decode cX2_byLaw 192 = .ok (.goto (-65), 3) := dk_167 255 191 (dk_at dksX2_byLaw_8 3 rfl rfl)
theorem dX2_byLaw_195 : decode cX2_byLaw 195 = .ok (.iconst 0, 1) := dk_3 (dk_at dksX2_byLaw_8 6 rfl rfl)
theorem dX2_byLaw_196 : decode cX2_byLaw 196 = .ok (.ireturn, 1) := dk_172 (dk_at dksX2_byLaw_8 7 rfl rfl)
def dkwX2_isHis_0 : List UInt8 := [42, 180, 0, 18, 27, 46, 28, 160, 0, 15, 42, 27, 182, 0, 216, 153, 0, 7, 4, 167, 0, 4, 3, 172]
abbrev dktX2_isHis_0 : List UInt8 := dkwX2_isHis_0 ++ []
theorem dksX2_isHis_0 : cX2_isHis.data.toList.drop 0 = dktX2_isHis_0 := by decide +kernel
theorem dX2_isHis_0 : decode cX2_isHis 0 = .ok (.aload_n 0, 1) := dk_42 (dk_at dksX2_isHis_0 0 rfl rfl)
theorem dX2_isHis_1 : decode cX2_isHis 1 = .ok (.getfield 18, 3) := dk_180 0 18 (dk_at dksX2_isHis_0 1 rfl rfl)
theorem dX2_isHis_4 : decode cX2_isHis 4 = .ok (.iload_n 1, 1) := dk_27 (dk_at dksX2_isHis_0 4 rfl rfl)
theorem dX2_isHis_5 : decode cX2_isHis 5 = .ok (.iaload, 1) := dk_46 (dk_at dksX2_isHis_0 5 rfl rfl)
theorem dX2_isHis_6 : decode cX2_isHis 6 = .ok (.iload_n 2, 1) := dk_28 (dk_at dksX2_isHis_0 6 rfl rfl)
theorem dX2_isHis_7 : decode cX2_isHis 7 = .ok (.if_icmp .ne 15, 3) := dk_160 0 15 (dk_at dksX2_isHis_0 7 rfl rfl)
theorem dX2_isHis_10 : decode cX2_isHis 10 = .ok (.aload_n 0, 1) := dk_42 (dk_at dksX2_isHis_0 10 rfl rfl)
theorem dX2_isHis_11 : decode cX2_isHis 11 = .ok (.iload_n 1, 1) := dk_27 (dk_at dksX2_isHis_0 11 rfl rfl)
theorem dX2_isHis_12 : decode cX2_isHis 12 = .ok (.invokevirtual 216, 3) := dk_182 0 216 (dk_at dksX2_isHis_0 12 rfl rfl)
theorem dX2_isHis_15 : decode cX2_isHis 15 = .ok (.ifCond .eq 7, 3) := dk_153 0 7 (dk_at dksX2_isHis_0 15 rfl rfl)
theorem dX2_isHis_18 : decode cX2_isHis 18 = .ok (.iconst 1, 1) := dk_4 (dk_at dksX2_isHis_0 18 rfl rfl)
theorem dX2_isHis_19 : decode cX2_isHis 19 = .ok (.goto 4, 3) := dk_167 0 4 (dk_at dksX2_isHis_0 19 rfl rfl)
theorem dX2_isHis_22 : decode cX2_isHis 22 = .ok (.iconst 0, 1) := dk_3 (dk_at dksX2_isHis_0 22 rfl rfl)
theorem dX2_isHis_23 : decode cX2_isHis 23 = .ok (.ireturn, 1) := dk_172 (dk_at dksX2_isHis_0 23 rfl rfl)
def dkwX2_worked_7 : List UInt8 := [3, 46, 172]
abbrev dktX2_worked_7 : List UInt8 := dkwX2_worked_7 ++ []
def dkwX2_worked_6 : List UInt8 := [29, 4, 100, 46, 42, 180, 0, 51, 29, 46, 184, 0, 212, 79, 132, 4, 1, 167, 255, 101, 42, 180, 0, 51]
abbrev dktX2_worked_6 : List UInt8 := dkwX2_worked_6 ++ dktX2_worked_7
def dkwX2_worked_5 : List UInt8 := [167, 0, 4, 3, 79, 167, 0, 33, 132, 3, 255, 42, 180, 0, 51, 29, 4, 100, 21, 5, 42, 180, 0, 51]
abbrev dktX2_worked_5 : List UInt8 := dkwX2_worked_5 ++ dktX2_worked_6
def dkwX2_worked_4 : List UInt8 := [42, 180, 0, 51, 29, 4, 100, 46, 116, 167, 0, 19, 42, 180, 0, 51, 29, 4, 100, 46, 154, 0, 7, 4]
abbrev dktX2_worked_4 : List UInt8 := dkwX2_worked_4 ++ dktX2_worked_5
def dkwX2_worked_3 : List UInt8 := [159, 0, 10, 21, 5, 16, 17, 160, 0, 49, 42, 180, 0, 51, 29, 4, 100, 21, 5, 16, 17, 160, 0, 15]
abbrev dktX2_worked_3 : List UInt8 := dkwX2_worked_3 ++ dktX2_worked_4
def dkwX2_worked_2 : List UInt8 := [21, 5, 16, 18, 100, 167, 0, 10, 42, 180, 0, 54, 21, 5, 46, 79, 167, 0, 93, 21, 5, 16, 16]
abbrev dktX2_worked_2 : List UInt8 := dkwX2_worked_2 ++ dktX2_worked_3
def dkwX2_worked_1 : List UInt8 := [162, 0, 9, 21, 5, 8, 163, 0, 37, 42, 180, 0, 51, 29, 132, 3, 1, 21, 5, 16, 18, 161, 0, 11]
abbrev dktX2_worked_1 : List UInt8 := dkwX2_worked_1 ++ dktX2_worked_2
def dkwX2_worked_0 : List UInt8 := [3, 62, 27, 54, 4, 21, 4, 28, 162, 0, 155, 42, 180, 0, 36, 21, 4, 46, 54, 5, 21, 5, 16, 18]
abbrev dktX2_worked_0 : List UInt8 := dkwX2_worked_0 ++ dktX2_worked_1
theorem dksX2_worked_0 : cX2_worked.data.toList.drop 0 = dktX2_worked_0 := by decide +kernel
theorem dksX2_worked_1 : cX2_worked.data.toList.drop 24 = dktX2_worked_1 := dk_seg dksX2_worked_0 24 rfl rfl
theorem dksX2_worked_2 : cX2_worked.data.toList.drop 48 = dktX2_worked_2 := dk_seg dksX2_worked_1 24 rfl rfl
theorem dksX2_worked_3 : cX2_worked.data.toList.drop 71 = dktX2_worked_3 := dk_seg dksX2_worked_2 23 rfl rfl
theorem dksX2_worked_4 : cX2_worked.data.toList.drop 95 = dktX2_worked_4 := dk_seg dksX2_worked_3 24 rfl rfl
theorem dksX2_worked_5 : cX2_worked.data.toList.drop 119 = dktX2_worked_5 := dk_seg dksX2_worked_4 24 rfl rfl
theorem dksX2_worked_6 : cX2_worked.data.toList.drop 143 = dktX2_worked_6 := dk_seg dksX2_worked_5 24 rfl rfl
theorem dksX2_worked_7 : cX2_worked.data.toList.drop 167 = dktX2_worked_7 := dk_seg dksX2_worked_6 24 rfl rfl
theorem dX2_worked_0 : decode cX2_worked 0 = .ok (.iconst 0, 1) := dk_3 (dk_at dksX2_worked_0 0 rfl rfl)
theorem dX2_worked_1 : decode cX2_worked 1 = .ok (.istore_n 3, 1) := dk_62 (dk_at dksX2_worked_0 1 rfl rfl)
theorem dX2_worked_2 : decode cX2_worked 2 = .ok (.iload_n 1, 1) := dk_27 (dk_at dksX2_worked_0 2 rfl rfl)
theorem dX2_worked_3 : decode cX2_worked 3 = .ok (.istore 4, 2) := dk_54 4 (dk_at dksX2_worked_0 3 rfl rfl)
theorem dX2_worked_5 : decode cX2_worked 5 = .ok (.iload 4, 2) := dk_21 4 (dk_at dksX2_worked_0 5 rfl rfl)
theorem dX2_worked_7 : decode cX2_worked 7 = .ok (.iload_n 2, 1) := dk_28 (dk_at dksX2_worked_0 7 rfl rfl)
theorem dX2_worked_8 : decode cX2_worked 8 = .ok (.if_icmp .ge 155, 3) := dk_162 0 155 (dk_at dksX2_worked_0 8 rfl rfl)
theorem dX2_worked_11 : decode cX2_worked 11 = .ok (.aload_n 0, 1) := dk_42 (dk_at dksX2_worked_0 11 rfl rfl)
theorem dX2_worked_12 : decode cX2_worked 12 = .ok (.getfield 36, 3) := dk_180 0 36 (dk_at dksX2_worked_0 12 rfl rfl)
theorem dX2_worked_15 : decode cX2_worked 15 = .ok (.iload 4, 2) := dk_21 4 (dk_at dksX2_worked_0 15 rfl rfl)
theorem dX2_worked_17 : decode cX2_worked 17 = .ok (.iaload, 1) := dk_46 (dk_at dksX2_worked_0 17 rfl rfl)
theorem dX2_worked_18 : decode cX2_worked 18 = .ok (.istore 5, 2) := dk_54 5 (dk_at dksX2_worked_0 18 rfl rfl)
theorem dX2_worked_20 : decode cX2_worked 20 = .ok (.iload 5, 2) := dk_21 5 (dk_at dksX2_worked_0 20 rfl rfl)
theorem dX2_worked_22 : decode cX2_worked 22 = .ok (.bipush 18, 2) := dk_16 18 (dk_at dksX2_worked_0 22 rfl rfl)
theorem dX2_worked_24 : decode cX2_worked 24 = .ok (.if_icmp .ge 9, 3) := dk_162 0 9 (dk_at dksX2_worked_1 0 rfl rfl)
theorem dX2_worked_27 : decode cX2_worked 27 = .ok (.iload 5, 2) := dk_21 5 (dk_at dksX2_worked_1 3 rfl rfl)
theorem dX2_worked_29 : decode cX2_worked 29 = .ok (.iconst 5, 1) := dk_8 (dk_at dksX2_worked_1 5 rfl rfl)
theorem dX2_worked_30 : decode cX2_worked 30 = .ok (.if_icmp .gt 37, 3) := dk_163 0 37 (dk_at dksX2_worked_1 6 rfl rfl)
theorem dX2_worked_33 : decode cX2_worked 33 = .ok (.aload_n 0, 1) := dk_42 (dk_at dksX2_worked_1 9 rfl rfl)
theorem dX2_worked_34 : decode cX2_worked 34 = .ok (.getfield 51, 3) := dk_180 0 51 (dk_at dksX2_worked_1 10 rfl rfl)
theorem dX2_worked_37 : decode cX2_worked 37 = .ok (.iload_n 3, 1) := dk_29 (dk_at dksX2_worked_1 13 rfl rfl)
theorem dX2_worked_38 : decode cX2_worked 38 = .ok (.iinc 3 1, 3) := dk_132 3 1 (dk_at dksX2_worked_1 14 rfl rfl)
theorem dX2_worked_41 : decode cX2_worked 41 = .ok (.iload 5, 2) := dk_21 5 (dk_at dksX2_worked_1 17 rfl rfl)
theorem dX2_worked_43 : decode cX2_worked 43 = .ok (.bipush 18, 2) := dk_16 18 (dk_at dksX2_worked_1 19 rfl rfl)
theorem dX2_worked_45 : decode cX2_worked 45 = .ok (.if_icmp .lt 11, 3) := dk_161 0 11 (dk_at dksX2_worked_1 21 rfl rfl)
theorem dX2_worked_48 : decode cX2_worked 48 = .ok (.iload 5, 2) := dk_21 5 (dk_at dksX2_worked_2 0 rfl rfl)
theorem dX2_worked_50 : decode cX2_worked 50 = .ok (.bipush 18, 2) := dk_16 18 (dk_at dksX2_worked_2 2 rfl rfl)
theorem dX2_worked_52 : decode cX2_worked 52 = .ok (.isub, 1) := dk_100 (dk_at dksX2_worked_2 4 rfl rfl)
theorem dX2_worked_53 : decode cX2_worked 53 = .ok (.goto 10, 3) := dk_167 0 10 (dk_at dksX2_worked_2 5 rfl rfl)
theorem dX2_worked_56 : decode cX2_worked 56 = .ok (.aload_n 0, 1) := dk_42 (dk_at dksX2_worked_2 8 rfl rfl)
theorem dX2_worked_57 : decode cX2_worked 57 = .ok (.getfield 54, 3) := dk_180 0 54 (dk_at dksX2_worked_2 9 rfl rfl)
theorem dX2_worked_60 : decode cX2_worked 60 = .ok (.iload 5, 2) := dk_21 5 (dk_at dksX2_worked_2 12 rfl rfl)
theorem dX2_worked_62 : decode cX2_worked 62 = .ok (.iaload, 1) := dk_46 (dk_at dksX2_worked_2 14 rfl rfl)
theorem dX2_worked_63 : decode cX2_worked 63 = .ok (.iastore, 1) := dk_79 (dk_at dksX2_worked_2 15 rfl rfl)
theorem dX2_worked_64 : decode cX2_worked 64 = .ok (.goto 93, 3) := dk_167 0 93 (dk_at dksX2_worked_2 16 rfl rfl)
theorem dX2_worked_67 : decode cX2_worked 67 = .ok (.iload 5, 2) := dk_21 5 (dk_at dksX2_worked_2 19 rfl rfl)
theorem dX2_worked_69 : decode cX2_worked 69 = .ok (.bipush 16, 2) := dk_16 16 (dk_at dksX2_worked_2 21 rfl rfl)
theorem dX2_worked_71 : decode cX2_worked 71 = .ok (.if_icmp .eq 10, 3) := dk_159 0 10 (dk_at dksX2_worked_3 0 rfl rfl)
theorem dX2_worked_74 : decode cX2_worked 74 = .ok (.iload 5, 2) := dk_21 5 (dk_at dksX2_worked_3 3 rfl rfl)
theorem dX2_worked_76 : decode cX2_worked 76 = .ok (.bipush 17, 2) := dk_16 17 (dk_at dksX2_worked_3 5 rfl rfl)
theorem dX2_worked_78 : decode cX2_worked 78 = .ok (.if_icmp .ne 49, 3) := dk_160 0 49 (dk_at dksX2_worked_3 7 rfl rfl)
theorem dX2_worked_81 : decode cX2_worked 81 = .ok (.aload_n 0, 1) := dk_42 (dk_at dksX2_worked_3 10 rfl rfl)
theorem dX2_worked_82 : decode cX2_worked 82 = .ok (.getfield 51, 3) := dk_180 0 51 (dk_at dksX2_worked_3 11 rfl rfl)
theorem dX2_worked_85 : decode cX2_worked 85 = .ok (.iload_n 3, 1) := dk_29 (dk_at dksX2_worked_3 14 rfl rfl)
theorem dX2_worked_86 : decode cX2_worked 86 = .ok (.iconst 1, 1) := dk_4 (dk_at dksX2_worked_3 15 rfl rfl)
theorem dX2_worked_87 : decode cX2_worked 87 = .ok (.isub, 1) := dk_100 (dk_at dksX2_worked_3 16 rfl rfl)
theorem dX2_worked_88 : decode cX2_worked 88 = .ok (.iload 5, 2) := dk_21 5 (dk_at dksX2_worked_3 17 rfl rfl)
theorem dX2_worked_90 : decode cX2_worked 90 = .ok (.bipush 17, 2) := dk_16 17 (dk_at dksX2_worked_3 19 rfl rfl)
theorem dX2_worked_92 : decode cX2_worked 92 = .ok (.if_icmp .ne 15, 3) := dk_160 0 15 (dk_at dksX2_worked_3 21 rfl rfl)
theorem dX2_worked_95 : decode cX2_worked 95 = .ok (.aload_n 0, 1) := dk_42 (dk_at dksX2_worked_4 0 rfl rfl)
theorem dX2_worked_96 : decode cX2_worked 96 = .ok (.getfield 51, 3) := dk_180 0 51 (dk_at dksX2_worked_4 1 rfl rfl)
theorem dX2_worked_99 : decode cX2_worked 99 = .ok (.iload_n 3, 1) := dk_29 (dk_at dksX2_worked_4 4 rfl rfl)
theorem dX2_worked_100 : decode cX2_worked 100 = .ok (.iconst 1, 1) := dk_4 (dk_at dksX2_worked_4 5 rfl rfl)
theorem dX2_worked_101 : decode cX2_worked 101 = .ok (.isub, 1) := dk_100 (dk_at dksX2_worked_4 6 rfl rfl)
theorem dX2_worked_102 : decode cX2_worked 102 = .ok (.iaload, 1) := dk_46 (dk_at dksX2_worked_4 7 rfl rfl)
theorem dX2_worked_103 : decode cX2_worked 103 = .ok (.ineg, 1) := dk_116 (dk_at dksX2_worked_4 8 rfl rfl)
theorem dX2_worked_104 : decode cX2_worked 104 = .ok (.goto 19, 3) := dk_167 0 19 (dk_at dksX2_worked_4 9 rfl rfl)
theorem dX2_worked_107 : decode cX2_worked 107 = .ok (.aload_n 0, 1) := dk_42 (dk_at dksX2_worked_4 12 rfl rfl)
theorem dX2_worked_108 : decode cX2_worked 108 = .ok (.getfield 51, 3) := dk_180 0 51 (dk_at dksX2_worked_4 13 rfl rfl)
theorem dX2_worked_111 : decode cX2_worked 111 = .ok (.iload_n 3, 1) := dk_29 (dk_at dksX2_worked_4 16 rfl rfl)
theorem dX2_worked_112 : decode cX2_worked 112 = .ok (.iconst 1, 1) := dk_4 (dk_at dksX2_worked_4 17 rfl rfl)
theorem dX2_worked_113 : decode cX2_worked 113 = .ok (.isub, 1) := dk_100 (dk_at dksX2_worked_4 18 rfl rfl)
theorem dX2_worked_114 : decode cX2_worked 114 = .ok (.iaload, 1) := dk_46 (dk_at dksX2_worked_4 19 rfl rfl)
theorem dX2_worked_115 : decode cX2_worked 115 = .ok (.ifCond .ne 7, 3) := dk_154 0 7 (dk_at dksX2_worked_4 20 rfl rfl)
theorem dX2_worked_118 : decode cX2_worked 118 = .ok (.iconst 1, 1) := dk_4 (dk_at dksX2_worked_4 23 rfl rfl)
theorem dX2_worked_119 : decode cX2_worked 119 = .ok (.goto 4, 3) := dk_167 0 4 (dk_at dksX2_worked_5 0 rfl rfl)
theorem dX2_worked_122 : decode cX2_worked 122 = .ok (.iconst 0, 1) := dk_3 (dk_at dksX2_worked_5 3 rfl rfl)
theorem dX2_worked_123 : decode cX2_worked 123 = .ok (.iastore, 1) := dk_79 (dk_at dksX2_worked_5 4 rfl rfl)
theorem dX2_worked_124 : decode cX2_worked 124 = .ok (.goto 33, 3) := dk_167 0 33 (dk_at dksX2_worked_5 5 rfl rfl)
theorem dX2_worked_127 : decode cX2_worked 127 = .ok (.iinc 3 (-1), 3) := dk_132 3 255 (dk_at dksX2_worked_5 8 rfl rfl)
theorem dX2_worked_130 : decode cX2_worked 130 = .ok (.aload_n 0, 1) := dk_42 (dk_at dksX2_worked_5 11 rfl rfl)
theorem dX2_worked_131 : decode cX2_worked 131 = .ok (.getfield 51, 3) := dk_180 0 51 (dk_at dksX2_worked_5 12 rfl rfl)
theorem dX2_worked_134 : decode cX2_worked 134 = .ok (.iload_n 3, 1) := dk_29 (dk_at dksX2_worked_5 15 rfl rfl)
theorem dX2_worked_135 : decode cX2_worked 135 = .ok (.iconst 1, 1) := dk_4 (dk_at dksX2_worked_5 16 rfl rfl)
theorem dX2_worked_136 : decode cX2_worked 136 = .ok (.isub, 1) := dk_100 (dk_at dksX2_worked_5 17 rfl rfl)
theorem dX2_worked_137 : decode cX2_worked 137 = .ok (.iload 5, 2) := dk_21 5 (dk_at dksX2_worked_5 18 rfl rfl)
theorem dX2_worked_139 : decode cX2_worked 139 = .ok (.aload_n 0, 1) := dk_42 (dk_at dksX2_worked_5 20 rfl rfl)
theorem dX2_worked_140 : decode cX2_worked 140 = .ok (.getfield 51, 3) := dk_180 0 51 (dk_at dksX2_worked_5 21 rfl rfl)
theorem dX2_worked_143 : decode cX2_worked 143 = .ok (.iload_n 3, 1) := dk_29 (dk_at dksX2_worked_6 0 rfl rfl)
theorem dX2_worked_144 : decode cX2_worked 144 = .ok (.iconst 1, 1) := dk_4 (dk_at dksX2_worked_6 1 rfl rfl)
theorem dX2_worked_145 : decode cX2_worked 145 = .ok (.isub, 1) := dk_100 (dk_at dksX2_worked_6 2 rfl rfl)
theorem dX2_worked_146 : decode cX2_worked 146 = .ok (.iaload, 1) := dk_46 (dk_at dksX2_worked_6 3 rfl rfl)
theorem dX2_worked_147 : decode cX2_worked 147 = .ok (.aload_n 0, 1) := dk_42 (dk_at dksX2_worked_6 4 rfl rfl)
theorem dX2_worked_148 : decode cX2_worked 148 = .ok (.getfield 51, 3) := dk_180 0 51 (dk_at dksX2_worked_6 5 rfl rfl)
theorem dX2_worked_151 : decode cX2_worked 151 = .ok (.iload_n 3, 1) := dk_29 (dk_at dksX2_worked_6 8 rfl rfl)
theorem dX2_worked_152 : decode cX2_worked 152 = .ok (.iaload, 1) := dk_46 (dk_at dksX2_worked_6 9 rfl rfl)
theorem dX2_worked_153 : decode cX2_worked 153 = .ok (.invokestatic 212, 3) := dk_184 0 212 (dk_at dksX2_worked_6 10 rfl rfl)
theorem dX2_worked_156 : decode cX2_worked 156 = .ok (.iastore, 1) := dk_79 (dk_at dksX2_worked_6 13 rfl rfl)
theorem dX2_worked_157 : decode cX2_worked 157 = .ok (.iinc 4 1, 3) := dk_132 4 1 (dk_at dksX2_worked_6 14 rfl rfl)
theorem dX2_worked_160 : decode cX2_worked 160 = .ok (.goto (-155), 3) := dk_167 255 101 (dk_at dksX2_worked_6 17 rfl rfl)
theorem dX2_worked_163 : decode cX2_worked 163 = .ok (.aload_n 0, 1) := dk_42 (dk_at dksX2_worked_6 20 rfl rfl)
theorem dX2_worked_164 : decode cX2_worked 164 = .ok (.getfield 51, 3) := dk_180 0 51 (dk_at dksX2_worked_6 21 rfl rfl)
theorem dX2_worked_167 : decode cX2_worked 167 = .ok (.iconst 0, 1) := dk_3 (dk_at dksX2_worked_7 0 rfl rfl)
theorem dX2_worked_168 : decode cX2_worked 168 = .ok (.iaload, 1) := dk_46 (dk_at dksX2_worked_7 1 rfl rfl)
theorem dX2_worked_169 : decode cX2_worked 169 = .ok (.ireturn, 1) := dk_172 (dk_at dksX2_worked_7 2 rfl rfl)
def dkwX2_both_6 : List UInt8 := [27, 28, 112, 172]
abbrev dktX2_both_6 : List UInt8 := dkwX2_both_6 ++ []
def dkwX2_both_5 : List UInt8 := [27, 28, 104, 172, 28, 154, 0, 7, 3, 167, 0, 6, 27, 28, 108, 172, 28, 154, 0, 7, 3, 167, 0, 6]
abbrev dktX2_both_5 : List UInt8 := dkwX2_both_5 ++ dktX2_both_6
def dkwX2_both_4 : List UInt8 := [167, 0, 4, 3, 172, 27, 28, 164, 0, 7, 4, 167, 0, 4, 3, 172, 27, 28, 96, 172, 27, 28, 100, 172]
abbrev dktX2_both_4 : List UInt8 := dkwX2_both_4 ++ dktX2_both_5
def dkwX2_both_3 : List UInt8 := [167, 0, 4, 3, 172, 27, 28, 162, 0, 7, 4, 167, 0, 4, 3, 172, 27, 28, 160, 0, 7, 4]
abbrev dktX2_both_3 : List UInt8 := dkwX2_both_3 ++ dktX2_both_4
def dkwX2_both_2 : List UInt8 := [27, 154, 0, 7, 28, 153, 0, 7, 4, 167, 0, 4, 3, 172, 27, 153, 0, 11, 28, 153, 0, 7, 4]
abbrev dktX2_both_2 : List UInt8 := dkwX2_both_2 ++ dktX2_both_3
def dkwX2_both_1 : List UInt8 := [170, 0, 0, 0, 0, 0, 136, 0, 0, 0, 6, 0, 0, 0, 14, 0, 0, 0, 51, 0, 0, 0, 65, 0, 0, 0, 79, 0, 0, 0, 90, 0, 0, 0, 101, 0, 0, 0, 112, 0, 0, 0, 116, 0, 0, 0, 120, 0, 0, 0, 124]
abbrev dktX2_both_1 : List UInt8 := dkwX2_both_1 ++ dktX2_both_2
def dkwX2_both_0 : List UInt8 := [26]
abbrev dktX2_both_0 : List UInt8 := dkwX2_both_0 ++ dktX2_both_1
theorem dksX2_both_0 : cX2_both.data.toList.drop 0 = dktX2_both_0 := by decide +kernel
theorem dksX2_both_1 : cX2_both.data.toList.drop 1 = dktX2_both_1 := dk_seg dksX2_both_0 1 rfl rfl
theorem dksX2_both_2 : cX2_both.data.toList.drop 52 = dktX2_both_2 := dk_seg dksX2_both_1 51 rfl rfl
theorem dksX2_both_3 : cX2_both.data.toList.drop 75 = dktX2_both_3 := dk_seg dksX2_both_2 23 rfl rfl
theorem dksX2_both_4 : cX2_both.data.toList.drop 97 = dktX2_both_4 := dk_seg dksX2_both_3 22 rfl rfl
theorem dksX2_both_5 : cX2_both.data.toList.drop 121 = dktX2_both_5 := dk_seg dksX2_both_4 24 rfl rfl
theorem dksX2_both_6 : cX2_both.data.toList.drop 145 = dktX2_both_6 := dk_seg dksX2_both_5 24 rfl rfl
theorem dX2_both_0 : decode cX2_both 0 = .ok (.iload_n 0, 1) := dk_26 (dk_at dksX2_both_0 0 rfl rfl)
theorem dX2_both_1 : decode cX2_both 1 = .ok (.tableswitch 136 6 14 #[51, 65, 79, 90, 101, 112, 116, 120, 124], 51) := by decide +kernel
theorem dX2_both_52 : decode cX2_both 52 = .ok (.iload_n 1, 1) := dk_27 (dk_at dksX2_both_2 0 rfl rfl)
theorem dX2_both_53 : decode cX2_both 53 = .ok (.ifCond .ne 7, 3) := dk_154 0 7 (dk_at dksX2_both_2 1 rfl rfl)
theorem dX2_both_56 : decode cX2_both 56 = .ok (.iload_n 2, 1) := dk_28 (dk_at dksX2_both_2 4 rfl rfl)
theorem dX2_both_57 : decode cX2_both 57 = .ok (.ifCond .eq 7, 3) := dk_153 0 7 (dk_at dksX2_both_2 5 rfl rfl)
theorem dX2_both_60 : decode cX2_both 60 = .ok (.iconst 1, 1) := dk_4 (dk_at dksX2_both_2 8 rfl rfl)
theorem dX2_both_61 : decode cX2_both 61 = .ok (.goto 4, 3) := dk_167 0 4 (dk_at dksX2_both_2 9 rfl rfl)
theorem dX2_both_64 : decode cX2_both 64 = .ok (.iconst 0, 1) := dk_3 (dk_at dksX2_both_2 12 rfl rfl)
theorem dX2_both_65 : decode cX2_both 65 = .ok (.ireturn, 1) := dk_172 (dk_at dksX2_both_2 13 rfl rfl)
theorem dX2_both_66 : decode cX2_both 66 = .ok (.iload_n 1, 1) := dk_27 (dk_at dksX2_both_2 14 rfl rfl)
theorem dX2_both_67 : decode cX2_both 67 = .ok (.ifCond .eq 11, 3) := dk_153 0 11 (dk_at dksX2_both_2 15 rfl rfl)
theorem dX2_both_70 : decode cX2_both 70 = .ok (.iload_n 2, 1) := dk_28 (dk_at dksX2_both_2 18 rfl rfl)
theorem dX2_both_71 : decode cX2_both 71 = .ok (.ifCond .eq 7, 3) := dk_153 0 7 (dk_at dksX2_both_2 19 rfl rfl)
theorem dX2_both_74 : decode cX2_both 74 = .ok (.iconst 1, 1) := dk_4 (dk_at dksX2_both_2 22 rfl rfl)
theorem dX2_both_75 : decode cX2_both 75 = .ok (.goto 4, 3) := dk_167 0 4 (dk_at dksX2_both_3 0 rfl rfl)
theorem dX2_both_78 : decode cX2_both 78 = .ok (.iconst 0, 1) := dk_3 (dk_at dksX2_both_3 3 rfl rfl)
theorem dX2_both_79 : decode cX2_both 79 = .ok (.ireturn, 1) := dk_172 (dk_at dksX2_both_3 4 rfl rfl)
theorem dX2_both_80 : decode cX2_both 80 = .ok (.iload_n 1, 1) := dk_27 (dk_at dksX2_both_3 5 rfl rfl)
theorem dX2_both_81 : decode cX2_both 81 = .ok (.iload_n 2, 1) := dk_28 (dk_at dksX2_both_3 6 rfl rfl)
theorem dX2_both_82 : decode cX2_both 82 = .ok (.if_icmp .ge 7, 3) := dk_162 0 7 (dk_at dksX2_both_3 7 rfl rfl)
theorem dX2_both_85 : decode cX2_both 85 = .ok (.iconst 1, 1) := dk_4 (dk_at dksX2_both_3 10 rfl rfl)
theorem dX2_both_86 : decode cX2_both 86 = .ok (.goto 4, 3) := dk_167 0 4 (dk_at dksX2_both_3 11 rfl rfl)
theorem dX2_both_89 : decode cX2_both 89 = .ok (.iconst 0, 1) := dk_3 (dk_at dksX2_both_3 14 rfl rfl)
theorem dX2_both_90 : decode cX2_both 90 = .ok (.ireturn, 1) := dk_172 (dk_at dksX2_both_3 15 rfl rfl)
theorem dX2_both_91 : decode cX2_both 91 = .ok (.iload_n 1, 1) := dk_27 (dk_at dksX2_both_3 16 rfl rfl)
theorem dX2_both_92 : decode cX2_both 92 = .ok (.iload_n 2, 1) := dk_28 (dk_at dksX2_both_3 17 rfl rfl)
theorem dX2_both_93 : decode cX2_both 93 = .ok (.if_icmp .ne 7, 3) := dk_160 0 7 (dk_at dksX2_both_3 18 rfl rfl)
theorem dX2_both_96 : decode cX2_both 96 = .ok (.iconst 1, 1) := dk_4 (dk_at dksX2_both_3 21 rfl rfl)
theorem dX2_both_97 : decode cX2_both 97 = .ok (.goto 4, 3) := dk_167 0 4 (dk_at dksX2_both_4 0 rfl rfl)
theorem dX2_both_100 : decode cX2_both 100 = .ok (.iconst 0, 1) := dk_3 (dk_at dksX2_both_4 3 rfl rfl)
theorem dX2_both_101 : decode cX2_both 101 = .ok (.ireturn, 1) := dk_172 (dk_at dksX2_both_4 4 rfl rfl)
theorem dX2_both_102 : decode cX2_both 102 = .ok (.iload_n 1, 1) := dk_27 (dk_at dksX2_both_4 5 rfl rfl)
theorem dX2_both_103 : decode cX2_both 103 = .ok (.iload_n 2, 1) := dk_28 (dk_at dksX2_both_4 6 rfl rfl)
theorem dX2_both_104 : decode cX2_both 104 = .ok (.if_icmp .le 7, 3) := dk_164 0 7 (dk_at dksX2_both_4 7 rfl rfl)
theorem dX2_both_107 : decode cX2_both 107 = .ok (.iconst 1, 1) := dk_4 (dk_at dksX2_both_4 10 rfl rfl)
theorem dX2_both_108 : decode cX2_both 108 = .ok (.goto 4, 3) := dk_167 0 4 (dk_at dksX2_both_4 11 rfl rfl)
theorem dX2_both_111 : decode cX2_both 111 = .ok (.iconst 0, 1) := dk_3 (dk_at dksX2_both_4 14 rfl rfl)
theorem dX2_both_112 : decode cX2_both 112 = .ok (.ireturn, 1) := dk_172 (dk_at dksX2_both_4 15 rfl rfl)
theorem dX2_both_113 : decode cX2_both 113 = .ok (.iload_n 1, 1) := dk_27 (dk_at dksX2_both_4 16 rfl rfl)
theorem dX2_both_114 : decode cX2_both 114 = .ok (.iload_n 2, 1) := dk_28 (dk_at dksX2_both_4 17 rfl rfl)
theorem dX2_both_115 : decode cX2_both 115 = .ok (.iadd, 1) := dk_96 (dk_at dksX2_both_4 18 rfl rfl)
theorem dX2_both_116 : decode cX2_both 116 = .ok (.ireturn, 1) := dk_172 (dk_at dksX2_both_4 19 rfl rfl)
theorem dX2_both_117 : decode cX2_both 117 = .ok (.iload_n 1, 1) := dk_27 (dk_at dksX2_both_4 20 rfl rfl)
theorem dX2_both_118 : decode cX2_both 118 = .ok (.iload_n 2, 1) := dk_28 (dk_at dksX2_both_4 21 rfl rfl)
theorem dX2_both_119 : decode cX2_both 119 = .ok (.isub, 1) := dk_100 (dk_at dksX2_both_4 22 rfl rfl)
theorem dX2_both_120 : decode cX2_both 120 = .ok (.ireturn, 1) := dk_172 (dk_at dksX2_both_4 23 rfl rfl)
theorem dX2_both_121 : decode cX2_both 121 = .ok (.iload_n 1, 1) := dk_27 (dk_at dksX2_both_5 0 rfl rfl)
theorem dX2_both_122 : decode cX2_both 122 = .ok (.iload_n 2, 1) := dk_28 (dk_at dksX2_both_5 1 rfl rfl)
theorem dX2_both_123 : decode cX2_both 123 = .ok (.imul, 1) := dk_104 (dk_at dksX2_both_5 2 rfl rfl)
theorem dX2_both_124 : decode cX2_both 124 = .ok (.ireturn, 1) := dk_172 (dk_at dksX2_both_5 3 rfl rfl)
theorem dX2_both_125 : decode cX2_both 125 = .ok (.iload_n 2, 1) := dk_28 (dk_at dksX2_both_5 4 rfl rfl)
theorem dX2_both_126 : decode cX2_both 126 = .ok (.ifCond .ne 7, 3) := dk_154 0 7 (dk_at dksX2_both_5 5 rfl rfl)
theorem dX2_both_129 : decode cX2_both 129 = .ok (.iconst 0, 1) := dk_3 (dk_at dksX2_both_5 8 rfl rfl)
theorem dX2_both_130 : decode cX2_both 130 = .ok (.goto 6, 3) := dk_167 0 6 (dk_at dksX2_both_5 9 rfl rfl)
theorem dX2_both_133 : decode cX2_both 133 = .ok (.iload_n 1, 1) := dk_27 (dk_at dksX2_both_5 12 rfl rfl)
theorem dX2_both_134 : decode cX2_both 134 = .ok (.iload_n 2, 1) := dk_28 (dk_at dksX2_both_5 13 rfl rfl)
theorem dX2_both_135 : decode cX2_both 135 = .ok (.idiv, 1) := dk_108 (dk_at dksX2_both_5 14 rfl rfl)
theorem dX2_both_136 : decode cX2_both 136 = .ok (.ireturn, 1) := dk_172 (dk_at dksX2_both_5 15 rfl rfl)
theorem dX2_both_137 : decode cX2_both 137 = .ok (.iload_n 2, 1) := dk_28 (dk_at dksX2_both_5 16 rfl rfl)
theorem dX2_both_138 : decode cX2_both 138 = .ok (.ifCond .ne 7, 3) := dk_154 0 7 (dk_at dksX2_both_5 17 rfl rfl)
theorem dX2_both_141 : decode cX2_both 141 = .ok (.iconst 0, 1) := dk_3 (dk_at dksX2_both_5 20 rfl rfl)
theorem dX2_both_142 : decode cX2_both 142 = .ok (.goto 6, 3) := dk_167 0 6 (dk_at dksX2_both_5 21 rfl rfl)
theorem dX2_both_145 : decode cX2_both 145 = .ok (.iload_n 1, 1) := dk_27 (dk_at dksX2_both_6 0 rfl rfl)
theorem dX2_both_146 : decode cX2_both 146 = .ok (.iload_n 2, 1) := dk_28 (dk_at dksX2_both_6 1 rfl rfl)
theorem dX2_both_147 : decode cX2_both 147 = .ok (.irem, 1) := dk_112 (dk_at dksX2_both_6 2 rfl rfl)
theorem dX2_both_148 : decode cX2_both 148 = .ok (.ireturn, 1) := dk_172 (dk_at dksX2_both_6 3 rfl rfl)
def dkwX2_high_2 : List UInt8 := [167, 0, 8, 42, 28, 182, 0, 242, 54, 4, 42, 29, 181, 0, 103, 21, 4, 172]
abbrev dktX2_high_2 : List UInt8 := dkwX2_high_2 ++ []
def dkwX2_high_1 : List UInt8 := [172, 42, 180, 0, 103, 62, 42, 42, 27, 182, 0, 245, 181, 0, 103, 28, 2, 160, 0, 10, 42, 182, 0, 248]
abbrev dktX2_high_1 : List UInt8 := dkwX2_high_1 ++ dktX2_high_2
def dkwX2_high_0 : List UInt8 := [27, 3, 16, 99, 184, 0, 92, 153, 0, 16, 28, 2, 159, 0, 13, 42, 28, 182, 0, 99, 154, 0, 5, 2]
abbrev dktX2_high_0 : List UInt8 := dkwX2_high_0 ++ dktX2_high_1
theorem dksX2_high_0 : cX2_high.data.toList.drop 0 = dktX2_high_0 := by decide +kernel
theorem dksX2_high_1 : cX2_high.data.toList.drop 24 = dktX2_high_1 := dk_seg dksX2_high_0 24 rfl rfl
theorem dksX2_high_2 : cX2_high.data.toList.drop 48 = dktX2_high_2 := dk_seg dksX2_high_1 24 rfl rfl
theorem dX2_high_0 : decode cX2_high 0 = .ok (.iload_n 1, 1) := dk_27 (dk_at dksX2_high_0 0 rfl rfl)
theorem dX2_high_1 : decode cX2_high 1 = .ok (.iconst 0, 1) := dk_3 (dk_at dksX2_high_0 1 rfl rfl)
theorem dX2_high_2 : decode cX2_high 2 = .ok (.bipush 99, 2) := dk_16 99 (dk_at dksX2_high_0 2 rfl rfl)
theorem dX2_high_4 : decode cX2_high 4 = .ok (.invokestatic 92, 3) := dk_184 0 92 (dk_at dksX2_high_0 4 rfl rfl)
theorem dX2_high_7 : decode cX2_high 7 = .ok (.ifCond .eq 16, 3) := dk_153 0 16 (dk_at dksX2_high_0 7 rfl rfl)
theorem dX2_high_10 : decode cX2_high 10 = .ok (.iload_n 2, 1) := dk_28 (dk_at dksX2_high_0 10 rfl rfl)
theorem dX2_high_11 : decode cX2_high 11 = .ok (.iconst (-1), 1) := dk_2 (dk_at dksX2_high_0 11 rfl rfl)
theorem dX2_high_12 : decode cX2_high 12 = .ok (.if_icmp .eq 13, 3) := dk_159 0 13 (dk_at dksX2_high_0 12 rfl rfl)
theorem dX2_high_15 : decode cX2_high 15 = .ok (.aload_n 0, 1) := dk_42 (dk_at dksX2_high_0 15 rfl rfl)
theorem dX2_high_16 : decode cX2_high 16 = .ok (.iload_n 2, 1) := dk_28 (dk_at dksX2_high_0 16 rfl rfl)
theorem dX2_high_17 : decode cX2_high 17 = .ok (.invokevirtual 99, 3) := dk_182 0 99 (dk_at dksX2_high_0 17 rfl rfl)
theorem dX2_high_20 : decode cX2_high 20 = .ok (.ifCond .ne 5, 3) := dk_154 0 5 (dk_at dksX2_high_0 20 rfl rfl)
theorem dX2_high_23 : decode cX2_high 23 = .ok (.iconst (-1), 1) := dk_2 (dk_at dksX2_high_0 23 rfl rfl)
theorem dX2_high_24 : decode cX2_high 24 = .ok (.ireturn, 1) := dk_172 (dk_at dksX2_high_1 0 rfl rfl)
theorem dX2_high_25 : decode cX2_high 25 = .ok (.aload_n 0, 1) := dk_42 (dk_at dksX2_high_1 1 rfl rfl)
theorem dX2_high_26 : decode cX2_high 26 = .ok (.getfield 103, 3) := dk_180 0 103 (dk_at dksX2_high_1 2 rfl rfl)
theorem dX2_high_29 : decode cX2_high 29 = .ok (.istore_n 3, 1) := dk_62 (dk_at dksX2_high_1 5 rfl rfl)
theorem dX2_high_30 : decode cX2_high 30 = .ok (.aload_n 0, 1) := dk_42 (dk_at dksX2_high_1 6 rfl rfl)
theorem dX2_high_31 : decode cX2_high 31 = .ok (.aload_n 0, 1) := dk_42 (dk_at dksX2_high_1 7 rfl rfl)
theorem dX2_high_32 : decode cX2_high 32 = .ok (.iload_n 1, 1) := dk_27 (dk_at dksX2_high_1 8 rfl rfl)
theorem dX2_high_33 : decode cX2_high 33 = .ok (.invokevirtual 245, 3) := dk_182 0 245 (dk_at dksX2_high_1 9 rfl rfl)
theorem dX2_high_36 : decode cX2_high 36 = .ok (.putfield 103, 3) := dk_181 0 103 (dk_at dksX2_high_1 12 rfl rfl)
theorem dX2_high_39 : decode cX2_high 39 = .ok (.iload_n 2, 1) := dk_28 (dk_at dksX2_high_1 15 rfl rfl)
theorem dX2_high_40 : decode cX2_high 40 = .ok (.iconst (-1), 1) := dk_2 (dk_at dksX2_high_1 16 rfl rfl)
theorem dX2_high_41 : decode cX2_high 41 = .ok (.if_icmp .ne 10, 3) := dk_160 0 10 (dk_at dksX2_high_1 17 rfl rfl)
theorem dX2_high_44 : decode cX2_high 44 = .ok (.aload_n 0, 1) := dk_42 (dk_at dksX2_high_1 20 rfl rfl)
theorem dX2_high_45 : decode cX2_high 45 = .ok (.invokevirtual 248, 3) := dk_182 0 248 (dk_at dksX2_high_1 21 rfl rfl)
theorem dX2_high_48 : decode cX2_high 48 = .ok (.goto 8, 3) := dk_167 0 8 (dk_at dksX2_high_2 0 rfl rfl)
theorem dX2_high_51 : decode cX2_high 51 = .ok (.aload_n 0, 1) := dk_42 (dk_at dksX2_high_2 3 rfl rfl)
theorem dX2_high_52 : decode cX2_high 52 = .ok (.iload_n 2, 1) := dk_28 (dk_at dksX2_high_2 4 rfl rfl)
theorem dX2_high_53 : decode cX2_high 53 = .ok (.invokevirtual 242, 3) := dk_182 0 242 (dk_at dksX2_high_2 5 rfl rfl)
theorem dX2_high_56 : decode cX2_high 56 = .ok (.istore 4, 2) := dk_54 4 (dk_at dksX2_high_2 8 rfl rfl)
theorem dX2_high_58 : decode cX2_high 58 = .ok (.aload_n 0, 1) := dk_42 (dk_at dksX2_high_2 10 rfl rfl)
theorem dX2_high_59 : decode cX2_high 59 = .ok (.iload_n 3, 1) := dk_29 (dk_at dksX2_high_2 11 rfl rfl)
theorem dX2_high_60 : decode cX2_high 60 = .ok (.putfield 103, 3) := dk_181 0 103 (dk_at dksX2_high_2 12 rfl rfl)
theorem dX2_high_63 : decode cX2_high 63 = .ok (.iload 4, 2) := dk_21 4 (dk_at dksX2_high_2 15 rfl rfl)
theorem dX2_high_65 : decode cX2_high 65 = .ok (.ireturn, 1) := dk_172 (dk_at dksX2_high_2 17 rfl rfl)
def dkwX2_ahead_0 : List UInt8 := [16, 99, 42, 180, 0, 103, 27, 96, 184, 0, 233, 172]
abbrev dktX2_ahead_0 : List UInt8 := dkwX2_ahead_0 ++ []
theorem dksX2_ahead_0 : cX2_ahead.data.toList.drop 0 = dktX2_ahead_0 := by decide +kernel
theorem dX2_ahead_0 : decode cX2_ahead 0 = .ok (.bipush 99, 2) := dk_16 99 (dk_at dksX2_ahead_0 0 rfl rfl)
theorem dX2_ahead_2 : decode cX2_ahead 2 = .ok (.aload_n 0, 1) := dk_42 (dk_at dksX2_ahead_0 2 rfl rfl)
theorem dX2_ahead_3 : decode cX2_ahead 3 = .ok (.getfield 103, 3) := dk_180 0 103 (dk_at dksX2_ahead_0 3 rfl rfl)
theorem dX2_ahead_6 : decode cX2_ahead 6 = .ok (.iload_n 1, 1) := dk_27 (dk_at dksX2_ahead_0 6 rfl rfl)
theorem dX2_ahead_7 : decode cX2_ahead 7 = .ok (.iadd, 1) := dk_96 (dk_at dksX2_ahead_0 7 rfl rfl)
theorem dX2_ahead_8 : decode cX2_ahead 8 = .ok (.invokestatic 233, 3) := dk_184 0 233 (dk_at dksX2_ahead_0 8 rfl rfl)
theorem dX2_ahead_11 : decode cX2_ahead 11 = .ok (.ireturn, 1) := dk_172 (dk_at dksX2_ahead_0 11 rfl rfl)
def dkwX2_allHigh_1 : List UInt8 := [167, 255, 237, 27, 172]
abbrev dktX2_allHigh_1 : List UInt8 := dkwX2_allHigh_1 ++ []
def dkwX2_allHigh_0 : List UInt8 := [3, 60, 3, 61, 28, 42, 180, 0, 88, 162, 0, 17, 27, 42, 28, 182, 0, 242, 96, 60, 132, 2, 1]
abbrev dktX2_allHigh_0 : List UInt8 := dkwX2_allHigh_0 ++ dktX2_allHigh_1
theorem dksX2_allHigh_0 : cX2_allHigh.data.toList.drop 0 = dktX2_allHigh_0 := by decide +kernel
theorem dksX2_allHigh_1 : cX2_allHigh.data.toList.drop 23 = dktX2_allHigh_1 := dk_seg dksX2_allHigh_0 23 rfl rfl
theorem dX2_allHigh_0 : decode cX2_allHigh 0 = .ok (.iconst 0, 1) := dk_3 (dk_at dksX2_allHigh_0 0 rfl rfl)
theorem dX2_allHigh_1 : decode cX2_allHigh 1 = .ok (.istore_n 1, 1) := dk_60 (dk_at dksX2_allHigh_0 1 rfl rfl)
theorem dX2_allHigh_2 : decode cX2_allHigh 2 = .ok (.iconst 0, 1) := dk_3 (dk_at dksX2_allHigh_0 2 rfl rfl)
theorem dX2_allHigh_3 : decode cX2_allHigh 3 = .ok (.istore_n 2, 1) := dk_61 (dk_at dksX2_allHigh_0 3 rfl rfl)
theorem dX2_allHigh_4 : decode cX2_allHigh 4 = .ok (.iload_n 2, 1) := dk_28 (dk_at dksX2_allHigh_0 4 rfl rfl)
theorem dX2_allHigh_5 : decode cX2_allHigh 5 = .ok (.aload_n 0, 1) := dk_42 (dk_at dksX2_allHigh_0 5 rfl rfl)
theorem dX2_allHigh_6 : decode cX2_allHigh 6 = .ok (.getfield 88, 3) := dk_180 0 88 (dk_at dksX2_allHigh_0 6 rfl rfl)
theorem dX2_allHigh_9 : decode cX2_allHigh 9 = .ok (.if_icmp .ge 17, 3) := dk_162 0 17 (dk_at dksX2_allHigh_0 9 rfl rfl)
theorem dX2_allHigh_12 : decode cX2_allHigh 12 = .ok (.iload_n 1, 1) := dk_27 (dk_at dksX2_allHigh_0 12 rfl rfl)
theorem dX2_allHigh_13 : decode cX2_allHigh 13 = .ok (.aload_n 0, 1) := dk_42 (dk_at dksX2_allHigh_0 13 rfl rfl)
theorem dX2_allHigh_14 : decode cX2_allHigh 14 = .ok (.iload_n 2, 1) := dk_28 (dk_at dksX2_allHigh_0 14 rfl rfl)
theorem dX2_allHigh_15 : decode cX2_allHigh 15 = .ok (.invokevirtual 242, 3) := dk_182 0 242 (dk_at dksX2_allHigh_0 15 rfl rfl)
theorem dX2_allHigh_18 : decode cX2_allHigh 18 = .ok (.iadd, 1) := dk_96 (dk_at dksX2_allHigh_0 18 rfl rfl)
theorem dX2_allHigh_19 : decode cX2_allHigh 19 = .ok (.istore_n 1, 1) := dk_60 (dk_at dksX2_allHigh_0 19 rfl rfl)
theorem dX2_allHigh_20 : decode cX2_allHigh 20 = .ok (.iinc 2 1, 3) := dk_132 2 1 (dk_at dksX2_allHigh_0 20 rfl rfl)
theorem dX2_allHigh_23 : decode cX2_allHigh 23 = .ok (.goto (-19), 3) := dk_167 255 237 (dk_at dksX2_allHigh_1 0 rfl rfl)
theorem dX2_allHigh_26 : decode cX2_allHigh 26 = .ok (.iload_n 1, 1) := dk_27 (dk_at dksX2_allHigh_1 3 rfl rfl)
theorem dX2_allHigh_27 : decode cX2_allHigh 27 = .ok (.ireturn, 1) := dk_172 (dk_at dksX2_allHigh_1 4 rfl rfl)
def dkwX2_highOf_0 : List UInt8 := [42, 27, 182, 0, 239, 61, 28, 16, 254, 160, 0, 7, 3, 167, 0, 8, 42, 28, 182, 0, 236, 172]
abbrev dktX2_highOf_0 : List UInt8 := dkwX2_highOf_0 ++ []
theorem dksX2_highOf_0 : cX2_highOf.data.toList.drop 0 = dktX2_highOf_0 := by decide +kernel
theorem dX2_highOf_0 : decode cX2_highOf 0 = .ok (.aload_n 0, 1) := dk_42 (dk_at dksX2_highOf_0 0 rfl rfl)
theorem dX2_highOf_1 : decode cX2_highOf 1 = .ok (.iload_n 1, 1) := dk_27 (dk_at dksX2_highOf_0 1 rfl rfl)
theorem dX2_highOf_2 : decode cX2_highOf 2 = .ok (.invokevirtual 239, 3) := dk_182 0 239 (dk_at dksX2_highOf_0 2 rfl rfl)
theorem dX2_highOf_5 : decode cX2_highOf 5 = .ok (.istore_n 2, 1) := dk_61 (dk_at dksX2_highOf_0 5 rfl rfl)
theorem dX2_highOf_6 : decode cX2_highOf 6 = .ok (.iload_n 2, 1) := dk_28 (dk_at dksX2_highOf_0 6 rfl rfl)
theorem dX2_highOf_7 : decode cX2_highOf 7 = .ok (.bipush (-2), 2) := dk_16 254 (dk_at dksX2_highOf_0 7 rfl rfl)
theorem dX2_highOf_9 : decode cX2_highOf 9 = .ok (.if_icmp .ne 7, 3) := dk_160 0 7 (dk_at dksX2_highOf_0 9 rfl rfl)
theorem dX2_highOf_12 : decode cX2_highOf 12 = .ok (.iconst 0, 1) := dk_3 (dk_at dksX2_highOf_0 12 rfl rfl)
theorem dX2_highOf_13 : decode cX2_highOf 13 = .ok (.goto 8, 3) := dk_167 0 8 (dk_at dksX2_highOf_0 13 rfl rfl)
theorem dX2_highOf_16 : decode cX2_highOf 16 = .ok (.aload_n 0, 1) := dk_42 (dk_at dksX2_highOf_0 16 rfl rfl)
theorem dX2_highOf_17 : decode cX2_highOf 17 = .ok (.iload_n 2, 1) := dk_28 (dk_at dksX2_highOf_0 17 rfl rfl)
theorem dX2_highOf_18 : decode cX2_highOf 18 = .ok (.invokevirtual 236, 3) := dk_182 0 236 (dk_at dksX2_highOf_0 18 rfl rfl)
theorem dX2_highOf_21 : decode cX2_highOf 21 = .ok (.ireturn, 1) := dk_172 (dk_at dksX2_highOf_0 21 rfl rfl)
def dkwX2_roofOf_2 : List UInt8 := [167, 255, 215, 28, 172]
abbrev dktX2_roofOf_2 : List UInt8 := dkwX2_roofOf_2 ++ []
def dkwX2_roofOf_1 : List UInt8 := [16, 254, 159, 0, 16, 42, 29, 182, 0, 236, 42, 28, 182, 0, 236, 164, 0, 5, 29, 61, 132, 3, 1]
abbrev dktX2_roofOf_1 : List UInt8 := dkwX2_roofOf_1 ++ dktX2_roofOf_2
def dkwX2_roofOf_0 : List UInt8 := [16, 254, 61, 3, 62, 29, 42, 180, 0, 96, 162, 0, 39, 42, 29, 27, 182, 0, 219, 153, 0, 24, 28]
abbrev dktX2_roofOf_0 : List UInt8 := dkwX2_roofOf_0 ++ dktX2_roofOf_1
theorem dksX2_roofOf_0 : cX2_roofOf.data.toList.drop 0 = dktX2_roofOf_0 := by decide +kernel
theorem dksX2_roofOf_1 : cX2_roofOf.data.toList.drop 23 = dktX2_roofOf_1 := dk_seg dksX2_roofOf_0 23 rfl rfl
theorem dksX2_roofOf_2 : cX2_roofOf.data.toList.drop 46 = dktX2_roofOf_2 := dk_seg dksX2_roofOf_1 23 rfl rfl
theorem dX2_roofOf_0 : decode cX2_roofOf 0 = .ok (.bipush (-2), 2) := dk_16 254 (dk_at dksX2_roofOf_0 0 rfl rfl)
theorem dX2_roofOf_2 : decode cX2_roofOf 2 = .ok (.istore_n 2, 1) := dk_61 (dk_at dksX2_roofOf_0 2 rfl rfl)
theorem dX2_roofOf_3 : decode cX2_roofOf 3 = .ok (.iconst 0, 1) := dk_3 (dk_at dksX2_roofOf_0 3 rfl rfl)
theorem dX2_roofOf_4 : decode cX2_roofOf 4 = .ok (.istore_n 3, 1) := dk_62 (dk_at dksX2_roofOf_0 4 rfl rfl)
theorem dX2_roofOf_5 : decode cX2_roofOf 5 = .ok (.iload_n 3, 1) := dk_29 (dk_at dksX2_roofOf_0 5 rfl rfl)
theorem dX2_roofOf_6 : decode cX2_roofOf 6 = .ok (.aload_n 0, 1) := dk_42 (dk_at dksX2_roofOf_0 6 rfl rfl)
theorem dX2_roofOf_7 : decode cX2_roofOf 7 = .ok (.getfield 96, 3) := dk_180 0 96 (dk_at dksX2_roofOf_0 7 rfl rfl)
theorem dX2_roofOf_10 : decode cX2_roofOf 10 = .ok (.if_icmp .ge 39, 3) := dk_162 0 39 (dk_at dksX2_roofOf_0 10 rfl rfl)
theorem dX2_roofOf_13 : decode cX2_roofOf 13 = .ok (.aload_n 0, 1) := dk_42 (dk_at dksX2_roofOf_0 13 rfl rfl)
theorem dX2_roofOf_14 : decode cX2_roofOf 14 = .ok (.iload_n 3, 1) := dk_29 (dk_at dksX2_roofOf_0 14 rfl rfl)
theorem dX2_roofOf_15 : decode cX2_roofOf 15 = .ok (.iload_n 1, 1) := dk_27 (dk_at dksX2_roofOf_0 15 rfl rfl)
theorem dX2_roofOf_16 : decode cX2_roofOf 16 = .ok (.invokevirtual 219, 3) := dk_182 0 219 (dk_at dksX2_roofOf_0 16 rfl rfl)
theorem dX2_roofOf_19 : decode cX2_roofOf 19 = .ok (.ifCond .eq 24, 3) := dk_153 0 24 (dk_at dksX2_roofOf_0 19 rfl rfl)
theorem dX2_roofOf_22 : decode cX2_roofOf 22 = .ok (.iload_n 2, 1) := dk_28 (dk_at dksX2_roofOf_0 22 rfl rfl)
theorem dX2_roofOf_23 : decode cX2_roofOf 23 = .ok (.bipush (-2), 2) := dk_16 254 (dk_at dksX2_roofOf_1 0 rfl rfl)
theorem dX2_roofOf_25 : decode cX2_roofOf 25 = .ok (.if_icmp .eq 16, 3) := dk_159 0 16 (dk_at dksX2_roofOf_1 2 rfl rfl)
theorem dX2_roofOf_28 : decode cX2_roofOf 28 = .ok (.aload_n 0, 1) := dk_42 (dk_at dksX2_roofOf_1 5 rfl rfl)
theorem dX2_roofOf_29 : decode cX2_roofOf 29 = .ok (.iload_n 3, 1) := dk_29 (dk_at dksX2_roofOf_1 6 rfl rfl)
theorem dX2_roofOf_30 : decode cX2_roofOf 30 = .ok (.invokevirtual 236, 3) := dk_182 0 236 (dk_at dksX2_roofOf_1 7 rfl rfl)
theorem dX2_roofOf_33 : decode cX2_roofOf 33 = .ok (.aload_n 0, 1) := dk_42 (dk_at dksX2_roofOf_1 10 rfl rfl)
theorem dX2_roofOf_34 : decode cX2_roofOf 34 = .ok (.iload_n 2, 1) := dk_28 (dk_at dksX2_roofOf_1 11 rfl rfl)
theorem dX2_roofOf_35 : decode cX2_roofOf 35 = .ok (.invokevirtual 236, 3) := dk_182 0 236 (dk_at dksX2_roofOf_1 12 rfl rfl)
theorem dX2_roofOf_38 : decode cX2_roofOf 38 = .ok (.if_icmp .le 5, 3) := dk_164 0 5 (dk_at dksX2_roofOf_1 15 rfl rfl)
theorem dX2_roofOf_41 : decode cX2_roofOf 41 = .ok (.iload_n 3, 1) := dk_29 (dk_at dksX2_roofOf_1 18 rfl rfl)
theorem dX2_roofOf_42 : decode cX2_roofOf 42 = .ok (.istore_n 2, 1) := dk_61 (dk_at dksX2_roofOf_1 19 rfl rfl)
theorem dX2_roofOf_43 : decode cX2_roofOf 43 = .ok (.iinc 3 1, 3) := dk_132 3 1 (dk_at dksX2_roofOf_1 20 rfl rfl)
theorem dX2_roofOf_46 : decode cX2_roofOf 46 = .ok (.goto (-41), 3) := dk_167 255 215 (dk_at dksX2_roofOf_2 0 rfl rfl)
theorem dX2_roofOf_49 : decode cX2_roofOf 49 = .ok (.iload_n 2, 1) := dk_28 (dk_at dksX2_roofOf_2 3 rfl rfl)
theorem dX2_roofOf_50 : decode cX2_roofOf 50 = .ok (.ireturn, 1) := dk_172 (dk_at dksX2_roofOf_2 4 rfl rfl)
def dkwX2_opens_2 : List UInt8 := [153, 0, 10, 29, 4, 21, 4, 120, 128, 62, 132, 4, 1, 167, 255, 228, 42, 28, 181, 0, 103, 29, 172]
abbrev dktX2_opens_2 : List UInt8 := dkwX2_opens_2 ++ []
def dkwX2_opens_1 : List UInt8 := [181, 0, 103, 3, 62, 3, 54, 4, 21, 4, 42, 180, 0, 96, 162, 0, 25, 42, 21, 4, 182, 0, 216]
abbrev dktX2_opens_1 : List UInt8 := dkwX2_opens_1 ++ dktX2_opens_2
def dkwX2_opens_0 : List UInt8 := [27, 3, 16, 99, 184, 0, 92, 154, 0, 5, 2, 172, 42, 180, 0, 103, 61, 42, 42, 27, 182, 0, 245]
abbrev dktX2_opens_0 : List UInt8 := dkwX2_opens_0 ++ dktX2_opens_1
theorem dksX2_opens_0 : cX2_opens.data.toList.drop 0 = dktX2_opens_0 := by decide +kernel
theorem dksX2_opens_1 : cX2_opens.data.toList.drop 23 = dktX2_opens_1 := dk_seg dksX2_opens_0 23 rfl rfl
theorem dksX2_opens_2 : cX2_opens.data.toList.drop 46 = dktX2_opens_2 := dk_seg dksX2_opens_1 23 rfl rfl
theorem dX2_opens_0 : decode cX2_opens 0 = .ok (.iload_n 1, 1) := dk_27 (dk_at dksX2_opens_0 0 rfl rfl)
theorem dX2_opens_1 : decode cX2_opens 1 = .ok (.iconst 0, 1) := dk_3 (dk_at dksX2_opens_0 1 rfl rfl)
theorem dX2_opens_2 : decode cX2_opens 2 = .ok (.bipush 99, 2) := dk_16 99 (dk_at dksX2_opens_0 2 rfl rfl)
theorem dX2_opens_4 : decode cX2_opens 4 = .ok (.invokestatic 92, 3) := dk_184 0 92 (dk_at dksX2_opens_0 4 rfl rfl)
theorem dX2_opens_7 : decode cX2_opens 7 = .ok (.ifCond .ne 5, 3) := dk_154 0 5 (dk_at dksX2_opens_0 7 rfl rfl)
theorem dX2_opens_10 : decode cX2_opens 10 = .ok (.iconst (-1), 1) := dk_2 (dk_at dksX2_opens_0 10 rfl rfl)
theorem dX2_opens_11 : decode cX2_opens 11 = .ok (.ireturn, 1) := dk_172 (dk_at dksX2_opens_0 11 rfl rfl)
theorem dX2_opens_12 : decode cX2_opens 12 = .ok (.aload_n 0, 1) := dk_42 (dk_at dksX2_opens_0 12 rfl rfl)
theorem dX2_opens_13 : decode cX2_opens 13 = .ok (.getfield 103, 3) := dk_180 0 103 (dk_at dksX2_opens_0 13 rfl rfl)
theorem dX2_opens_16 : decode cX2_opens 16 = .ok (.istore_n 2, 1) := dk_61 (dk_at dksX2_opens_0 16 rfl rfl)
theorem dX2_opens_17 : decode cX2_opens 17 = .ok (.aload_n 0, 1) := dk_42 (dk_at dksX2_opens_0 17 rfl rfl)
theorem dX2_opens_18 : decode cX2_opens 18 = .ok (.aload_n 0, 1) := dk_42 (dk_at dksX2_opens_0 18 rfl rfl)
theorem dX2_opens_19 : decode cX2_opens 19 = .ok (.iload_n 1, 1) := dk_27 (dk_at dksX2_opens_0 19 rfl rfl)
theorem dX2_opens_20 : decode cX2_opens 20 = .ok (.invokevirtual 245, 3) := dk_182 0 245 (dk_at dksX2_opens_0 20 rfl rfl)
theorem dX2_opens_23 : decode cX2_opens 23 = .ok (.putfield 103, 3) := dk_181 0 103 (dk_at dksX2_opens_1 0 rfl rfl)
theorem dX2_opens_26 : decode cX2_opens 26 = .ok (.iconst 0, 1) := dk_3 (dk_at dksX2_opens_1 3 rfl rfl)
theorem dX2_opens_27 : decode cX2_opens 27 = .ok (.istore_n 3, 1) := dk_62 (dk_at dksX2_opens_1 4 rfl rfl)
theorem dX2_opens_28 : decode cX2_opens 28 = .ok (.iconst 0, 1) := dk_3 (dk_at dksX2_opens_1 5 rfl rfl)
theorem dX2_opens_29 : decode cX2_opens 29 = .ok (.istore 4, 2) := dk_54 4 (dk_at dksX2_opens_1 6 rfl rfl)
theorem dX2_opens_31 : decode cX2_opens 31 = .ok (.iload 4, 2) := dk_21 4 (dk_at dksX2_opens_1 8 rfl rfl)
theorem dX2_opens_33 : decode cX2_opens 33 = .ok (.aload_n 0, 1) := dk_42 (dk_at dksX2_opens_1 10 rfl rfl)
theorem dX2_opens_34 : decode cX2_opens 34 = .ok (.getfield 96, 3) := dk_180 0 96 (dk_at dksX2_opens_1 11 rfl rfl)
theorem dX2_opens_37 : decode cX2_opens 37 = .ok (.if_icmp .ge 25, 3) := dk_162 0 25 (dk_at dksX2_opens_1 14 rfl rfl)
theorem dX2_opens_40 : decode cX2_opens 40 = .ok (.aload_n 0, 1) := dk_42 (dk_at dksX2_opens_1 17 rfl rfl)
theorem dX2_opens_41 : decode cX2_opens 41 = .ok (.iload 4, 2) := dk_21 4 (dk_at dksX2_opens_1 18 rfl rfl)
theorem dX2_opens_43 : decode cX2_opens 43 = .ok (.invokevirtual 216, 3) := dk_182 0 216 (dk_at dksX2_opens_1 20 rfl rfl)
theorem dX2_opens_46 : decode cX2_opens 46 = .ok (.ifCond .eq 10, 3) := dk_153 0 10 (dk_at dksX2_opens_2 0 rfl rfl)
theorem dX2_opens_49 : decode cX2_opens 49 = .ok (.iload_n 3, 1) := dk_29 (dk_at dksX2_opens_2 3 rfl rfl)
theorem dX2_opens_50 : decode cX2_opens 50 = .ok (.iconst 1, 1) := dk_4 (dk_at dksX2_opens_2 4 rfl rfl)
theorem dX2_opens_51 : decode cX2_opens 51 = .ok (.iload 4, 2) := dk_21 4 (dk_at dksX2_opens_2 5 rfl rfl)
theorem dX2_opens_53 : decode cX2_opens 53 = .ok (.ishl, 1) := dk_120 (dk_at dksX2_opens_2 7 rfl rfl)
theorem dX2_opens_54 : decode cX2_opens 54 = .ok (.ior, 1) := dk_128 (dk_at dksX2_opens_2 8 rfl rfl)
theorem dX2_opens_55 : decode cX2_opens 55 = .ok (.istore_n 3, 1) := dk_62 (dk_at dksX2_opens_2 9 rfl rfl)
theorem dX2_opens_56 : decode cX2_opens 56 = .ok (.iinc 4 1, 3) := dk_132 4 1 (dk_at dksX2_opens_2 10 rfl rfl)
theorem dX2_opens_59 : decode cX2_opens 59 = .ok (.goto (-28), 3) := dk_167 255 228 (dk_at dksX2_opens_2 13 rfl rfl)
theorem dX2_opens_62 : decode cX2_opens 62 = .ok (.aload_n 0, 1) := dk_42 (dk_at dksX2_opens_2 16 rfl rfl)
theorem dX2_opens_63 : decode cX2_opens 63 = .ok (.iload_n 2, 1) := dk_28 (dk_at dksX2_opens_2 17 rfl rfl)
theorem dX2_opens_64 : decode cX2_opens 64 = .ok (.putfield 103, 3) := dk_181 0 103 (dk_at dksX2_opens_2 18 rfl rfl)
theorem dX2_opens_67 : decode cX2_opens 67 = .ok (.iload_n 3, 1) := dk_29 (dk_at dksX2_opens_2 21 rfl rfl)
theorem dX2_opens_68 : decode cX2_opens 68 = .ok (.ireturn, 1) := dk_172 (dk_at dksX2_opens_2 22 rfl rfl)
def dkwX2_roof_0 : List UInt8 := [42, 27, 182, 0, 99, 153, 0, 11, 42, 27, 182, 0, 239, 167, 0, 4, 2, 172]
abbrev dktX2_roof_0 : List UInt8 := dkwX2_roof_0 ++ []
theorem dksX2_roof_0 : cX2_roof.data.toList.drop 0 = dktX2_roof_0 := by decide +kernel
theorem dX2_roof_0 : decode cX2_roof 0 = .ok (.aload_n 0, 1) := dk_42 (dk_at dksX2_roof_0 0 rfl rfl)
theorem dX2_roof_1 : decode cX2_roof 1 = .ok (.iload_n 1, 1) := dk_27 (dk_at dksX2_roof_0 1 rfl rfl)
theorem dX2_roof_2 : decode cX2_roof 2 = .ok (.invokevirtual 99, 3) := dk_182 0 99 (dk_at dksX2_roof_0 2 rfl rfl)
theorem dX2_roof_5 : decode cX2_roof 5 = .ok (.ifCond .eq 11, 3) := dk_153 0 11 (dk_at dksX2_roof_0 5 rfl rfl)
theorem dX2_roof_8 : decode cX2_roof 8 = .ok (.aload_n 0, 1) := dk_42 (dk_at dksX2_roof_0 8 rfl rfl)
theorem dX2_roof_9 : decode cX2_roof 9 = .ok (.iload_n 1, 1) := dk_27 (dk_at dksX2_roof_0 9 rfl rfl)
theorem dX2_roof_10 : decode cX2_roof 10 = .ok (.invokevirtual 239, 3) := dk_182 0 239 (dk_at dksX2_roof_0 10 rfl rfl)
theorem dX2_roof_13 : decode cX2_roof 13 = .ok (.goto 4, 3) := dk_167 0 4 (dk_at dksX2_roof_0 13 rfl rfl)
theorem dX2_roof_16 : decode cX2_roof 16 = .ok (.iconst (-1), 1) := dk_2 (dk_at dksX2_roof_0 16 rfl rfl)
theorem dX2_roof_17 : decode cX2_roof 17 = .ok (.ireturn, 1) := dk_172 (dk_at dksX2_roof_0 17 rfl rfl)
def dkwX2_falls_3 : List UInt8 := [181, 0, 103, 21, 4, 172]
abbrev dktX2_falls_3 : List UInt8 := dkwX2_falls_3 ++ []
def dkwX2_falls_2 : List UInt8 := [181, 0, 103, 42, 27, 182, 0, 242, 28, 162, 0, 7, 21, 5, 54, 4, 132, 5, 255, 167, 255, 222, 42, 29]
abbrev dktX2_falls_2 : List UInt8 := dkwX2_falls_2 ++ dktX2_falls_3
def dkwX2_falls_1 : List UInt8 := [62, 16, 254, 54, 4, 16, 99, 54, 5, 21, 5, 155, 0, 35, 42, 16, 99, 29, 21, 5, 96, 184, 0, 233]
abbrev dktX2_falls_1 : List UInt8 := dkwX2_falls_1 ++ dktX2_falls_2
def dkwX2_falls_0 : List UInt8 := [42, 27, 182, 0, 99, 153, 0, 13, 28, 3, 16, 9, 184, 0, 92, 154, 0, 5, 2, 172, 42, 180, 0, 103]
abbrev dktX2_falls_0 : List UInt8 := dkwX2_falls_0 ++ dktX2_falls_1
theorem dksX2_falls_0 : cX2_falls.data.toList.drop 0 = dktX2_falls_0 := by decide +kernel
theorem dksX2_falls_1 : cX2_falls.data.toList.drop 24 = dktX2_falls_1 := dk_seg dksX2_falls_0 24 rfl rfl
theorem dksX2_falls_2 : cX2_falls.data.toList.drop 48 = dktX2_falls_2 := dk_seg dksX2_falls_1 24 rfl rfl
theorem dksX2_falls_3 : cX2_falls.data.toList.drop 72 = dktX2_falls_3 := dk_seg dksX2_falls_2 24 rfl rfl
theorem dX2_falls_0 : decode cX2_falls 0 = .ok (.aload_n 0, 1) := dk_42 (dk_at dksX2_falls_0 0 rfl rfl)
theorem dX2_falls_1 : decode cX2_falls 1 = .ok (.iload_n 1, 1) := dk_27 (dk_at dksX2_falls_0 1 rfl rfl)
theorem dX2_falls_2 : decode cX2_falls 2 = .ok (.invokevirtual 99, 3) := dk_182 0 99 (dk_at dksX2_falls_0 2 rfl rfl)
theorem dX2_falls_5 : decode cX2_falls 5 = .ok (.ifCond .eq 13, 3) := dk_153 0 13 (dk_at dksX2_falls_0 5 rfl rfl)
theorem dX2_falls_8 : decode cX2_falls 8 = .ok (.iload_n 2, 1) := dk_28 (dk_at dksX2_falls_0 8 rfl rfl)
theorem dX2_falls_9 : decode cX2_falls 9 = .ok (.iconst 0, 1) := dk_3 (dk_at dksX2_falls_0 9 rfl rfl)
theorem dX2_falls_10 : decode cX2_falls 10 = .ok (.bipush 9, 2) := dk_16 9 (dk_at dksX2_falls_0 10 rfl rfl)
theorem dX2_falls_12 : decode cX2_falls 12 = .ok (.invokestatic 92, 3) := dk_184 0 92 (dk_at dksX2_falls_0 12 rfl rfl)
theorem dX2_falls_15 : decode cX2_falls 15 = .ok (.ifCond .ne 5, 3) := dk_154 0 5 (dk_at dksX2_falls_0 15 rfl rfl)
theorem dX2_falls_18 : decode cX2_falls 18 = .ok (.iconst (-1), 1) := dk_2 (dk_at dksX2_falls_0 18 rfl rfl)
theorem dX2_falls_19 : decode cX2_falls 19 = .ok (.ireturn, 1) := dk_172 (dk_at dksX2_falls_0 19 rfl rfl)
theorem dX2_falls_20 : decode cX2_falls 20 = .ok (.aload_n 0, 1) := dk_42 (dk_at dksX2_falls_0 20 rfl rfl)
theorem dX2_falls_21 : decode cX2_falls 21 = .ok (.getfield 103, 3) := dk_180 0 103 (dk_at dksX2_falls_0 21 rfl rfl)
theorem dX2_falls_24 : decode cX2_falls 24 = .ok (.istore_n 3, 1) := dk_62 (dk_at dksX2_falls_1 0 rfl rfl)
theorem dX2_falls_25 : decode cX2_falls 25 = .ok (.bipush (-2), 2) := dk_16 254 (dk_at dksX2_falls_1 1 rfl rfl)
theorem dX2_falls_27 : decode cX2_falls 27 = .ok (.istore 4, 2) := dk_54 4 (dk_at dksX2_falls_1 3 rfl rfl)
theorem dX2_falls_29 : decode cX2_falls 29 = .ok (.bipush 99, 2) := dk_16 99 (dk_at dksX2_falls_1 5 rfl rfl)
theorem dX2_falls_31 : decode cX2_falls 31 = .ok (.istore 5, 2) := dk_54 5 (dk_at dksX2_falls_1 7 rfl rfl)
theorem dX2_falls_33 : decode cX2_falls 33 = .ok (.iload 5, 2) := dk_21 5 (dk_at dksX2_falls_1 9 rfl rfl)
theorem dX2_falls_35 : decode cX2_falls 35 = .ok (.ifCond .lt 35, 3) := dk_155 0 35 (dk_at dksX2_falls_1 11 rfl rfl)
theorem dX2_falls_38 : decode cX2_falls 38 = .ok (.aload_n 0, 1) := dk_42 (dk_at dksX2_falls_1 14 rfl rfl)
theorem dX2_falls_39 : decode cX2_falls 39 = .ok (.bipush 99, 2) := dk_16 99 (dk_at dksX2_falls_1 15 rfl rfl)
theorem dX2_falls_41 : decode cX2_falls 41 = .ok (.iload_n 3, 1) := dk_29 (dk_at dksX2_falls_1 17 rfl rfl)
theorem dX2_falls_42 : decode cX2_falls 42 = .ok (.iload 5, 2) := dk_21 5 (dk_at dksX2_falls_1 18 rfl rfl)
theorem dX2_falls_44 : decode cX2_falls 44 = .ok (.iadd, 1) := dk_96 (dk_at dksX2_falls_1 20 rfl rfl)
theorem dX2_falls_45 : decode cX2_falls 45 = .ok (.invokestatic 233, 3) := dk_184 0 233 (dk_at dksX2_falls_1 21 rfl rfl)
theorem dX2_falls_48 : decode cX2_falls 48 = .ok (.putfield 103, 3) := dk_181 0 103 (dk_at dksX2_falls_2 0 rfl rfl)
theorem dX2_falls_51 : decode cX2_falls 51 = .ok (.aload_n 0, 1) := dk_42 (dk_at dksX2_falls_2 3 rfl rfl)
theorem dX2_falls_52 : decode cX2_falls 52 = .ok (.iload_n 1, 1) := dk_27 (dk_at dksX2_falls_2 4 rfl rfl)
theorem dX2_falls_53 : decode cX2_falls 53 = .ok (.invokevirtual 242, 3) := dk_182 0 242 (dk_at dksX2_falls_2 5 rfl rfl)
theorem dX2_falls_56 : decode cX2_falls 56 = .ok (.iload_n 2, 1) := dk_28 (dk_at dksX2_falls_2 8 rfl rfl)
theorem dX2_falls_57 : decode cX2_falls 57 = .ok (.if_icmp .ge 7, 3) := dk_162 0 7 (dk_at dksX2_falls_2 9 rfl rfl)
theorem dX2_falls_60 : decode cX2_falls 60 = .ok (.iload 5, 2) := dk_21 5 (dk_at dksX2_falls_2 12 rfl rfl)
theorem dX2_falls_62 : decode cX2_falls 62 = .ok (.istore 4, 2) := dk_54 4 (dk_at dksX2_falls_2 14 rfl rfl)
theorem dX2_falls_64 : decode cX2_falls 64 = .ok (.iinc 5 (-1), 3) := dk_132 5 255 (dk_at dksX2_falls_2 16 rfl rfl)
theorem dX2_falls_67 : decode cX2_falls 67 = .ok (.goto (-34), 3) := dk_167 255 222 (dk_at dksX2_falls_2 19 rfl rfl)
theorem dX2_falls_70 : decode cX2_falls 70 = .ok (.aload_n 0, 1) := dk_42 (dk_at dksX2_falls_2 22 rfl rfl)
theorem dX2_falls_71 : decode cX2_falls 71 = .ok (.iload_n 3, 1) := dk_29 (dk_at dksX2_falls_2 23 rfl rfl)
theorem dX2_falls_72 : decode cX2_falls 72 = .ok (.putfield 103, 3) := dk_181 0 103 (dk_at dksX2_falls_3 0 rfl rfl)
theorem dX2_falls_75 : decode cX2_falls 75 = .ok (.iload 4, 2) := dk_21 4 (dk_at dksX2_falls_3 3 rfl rfl)
theorem dX2_falls_77 : decode cX2_falls 77 = .ok (.ireturn, 1) := dk_172 (dk_at dksX2_falls_3 5 rfl rfl)
def dkwX2_skyline_3 : List UInt8 := [154, 0, 7, 28, 167, 0, 4, 29, 172]
abbrev dktX2_skyline_3 : List UInt8 := dkwX2_skyline_3 ++ []
def dkwX2_skyline_2 : List UInt8 := [163, 0, 6, 167, 0, 13, 21, 4, 62, 28, 4, 21, 4, 120, 128, 61, 132, 4, 1, 167, 255, 211, 27]
abbrev dktX2_skyline_2 : List UInt8 := dkwX2_skyline_2 ++ dktX2_skyline_3
def dkwX2_skyline_1 : List UInt8 := [180, 0, 88, 162, 0, 42, 29, 16, 254, 159, 0, 20, 42, 21, 4, 182, 0, 242, 42, 29, 182, 0, 242]
abbrev dktX2_skyline_1 : List UInt8 := dkwX2_skyline_1 ++ dktX2_skyline_2
def dkwX2_skyline_0 : List UInt8 := [27, 3, 4, 184, 0, 92, 154, 0, 5, 2, 172, 3, 61, 16, 254, 62, 3, 54, 4, 21, 4, 42]
abbrev dktX2_skyline_0 : List UInt8 := dkwX2_skyline_0 ++ dktX2_skyline_1
theorem dksX2_skyline_0 : cX2_skyline.data.toList.drop 0 = dktX2_skyline_0 := by decide +kernel
theorem dksX2_skyline_1 : cX2_skyline.data.toList.drop 22 = dktX2_skyline_1 := dk_seg dksX2_skyline_0 22 rfl rfl
theorem dksX2_skyline_2 : cX2_skyline.data.toList.drop 45 = dktX2_skyline_2 := dk_seg dksX2_skyline_1 23 rfl rfl
theorem dksX2_skyline_3 : cX2_skyline.data.toList.drop 68 = dktX2_skyline_3 := dk_seg dksX2_skyline_2 23 rfl rfl
theorem dX2_skyline_0 : decode cX2_skyline 0 = .ok (.iload_n 1, 1) := dk_27 (dk_at dksX2_skyline_0 0 rfl rfl)
theorem dX2_skyline_1 : decode cX2_skyline 1 = .ok (.iconst 0, 1) := dk_3 (dk_at dksX2_skyline_0 1 rfl rfl)
theorem dX2_skyline_2 : decode cX2_skyline 2 = .ok (.iconst 1, 1) := dk_4 (dk_at dksX2_skyline_0 2 rfl rfl)
theorem dX2_skyline_3 : decode cX2_skyline 3 = .ok (.invokestatic 92, 3) := dk_184 0 92 (dk_at dksX2_skyline_0 3 rfl rfl)
theorem dX2_skyline_6 : decode cX2_skyline 6 = .ok (.ifCond .ne 5, 3) := dk_154 0 5 (dk_at dksX2_skyline_0 6 rfl rfl)
theorem dX2_skyline_9 : decode cX2_skyline 9 = .ok (.iconst (-1), 1) := dk_2 (dk_at dksX2_skyline_0 9 rfl rfl)
theorem dX2_skyline_10 : decode cX2_skyline 10 = .ok (.ireturn, 1) := dk_172 (dk_at dksX2_skyline_0 10 rfl rfl)
theorem dX2_skyline_11 : decode cX2_skyline 11 = .ok (.iconst 0, 1) := dk_3 (dk_at dksX2_skyline_0 11 rfl rfl)
theorem dX2_skyline_12 : decode cX2_skyline 12 = .ok (.istore_n 2, 1) := dk_61 (dk_at dksX2_skyline_0 12 rfl rfl)
theorem dX2_skyline_13 : decode cX2_skyline 13 = .ok (.bipush (-2), 2) := dk_16 254 (dk_at dksX2_skyline_0 13 rfl rfl)
theorem dX2_skyline_15 : decode cX2_skyline 15 = .ok (.istore_n 3, 1) := dk_62 (dk_at dksX2_skyline_0 15 rfl rfl)
theorem dX2_skyline_16 : decode cX2_skyline 16 = .ok (.iconst 0, 1) := dk_3 (dk_at dksX2_skyline_0 16 rfl rfl)
theorem dX2_skyline_17 : decode cX2_skyline 17 = .ok (.istore 4, 2) := dk_54 4 (dk_at dksX2_skyline_0 17 rfl rfl)
theorem dX2_skyline_19 : decode cX2_skyline 19 = .ok (.iload 4, 2) := dk_21 4 (dk_at dksX2_skyline_0 19 rfl rfl)
theorem dX2_skyline_21 : decode cX2_skyline 21 = .ok (.aload_n 0, 1) := dk_42 (dk_at dksX2_skyline_0 21 rfl rfl)
theorem dX2_skyline_22 : decode cX2_skyline 22 = .ok (.getfield 88, 3) := dk_180 0 88 (dk_at dksX2_skyline_1 0 rfl rfl)
theorem dX2_skyline_25 : decode cX2_skyline 25 = .ok (.if_icmp .ge 42, 3) := dk_162 0 42 (dk_at dksX2_skyline_1 3 rfl rfl)
theorem dX2_skyline_28 : decode cX2_skyline 28 = .ok (.iload_n 3, 1) := dk_29 (dk_at dksX2_skyline_1 6 rfl rfl)
theorem dX2_skyline_29 : decode cX2_skyline 29 = .ok (.bipush (-2), 2) := dk_16 254 (dk_at dksX2_skyline_1 7 rfl rfl)
theorem dX2_skyline_31 : decode cX2_skyline 31 = .ok (.if_icmp .eq 20, 3) := dk_159 0 20 (dk_at dksX2_skyline_1 9 rfl rfl)
theorem dX2_skyline_34 : decode cX2_skyline 34 = .ok (.aload_n 0, 1) := dk_42 (dk_at dksX2_skyline_1 12 rfl rfl)
theorem dX2_skyline_35 : decode cX2_skyline 35 = .ok (.iload 4, 2) := dk_21 4 (dk_at dksX2_skyline_1 13 rfl rfl)
theorem dX2_skyline_37 : decode cX2_skyline 37 = .ok (.invokevirtual 242, 3) := dk_182 0 242 (dk_at dksX2_skyline_1 15 rfl rfl)
theorem dX2_skyline_40 : decode cX2_skyline 40 = .ok (.aload_n 0, 1) := dk_42 (dk_at dksX2_skyline_1 18 rfl rfl)
theorem dX2_skyline_41 : decode cX2_skyline 41 = .ok (.iload_n 3, 1) := dk_29 (dk_at dksX2_skyline_1 19 rfl rfl)
theorem dX2_skyline_42 : decode cX2_skyline 42 = .ok (.invokevirtual 242, 3) := dk_182 0 242 (dk_at dksX2_skyline_1 20 rfl rfl)
theorem dX2_skyline_45 : decode cX2_skyline 45 = .ok (.if_icmp .gt 6, 3) := dk_163 0 6 (dk_at dksX2_skyline_2 0 rfl rfl)
theorem dX2_skyline_48 : decode cX2_skyline 48 = .ok (.goto 13, 3) := dk_167 0 13 (dk_at dksX2_skyline_2 3 rfl rfl)
theorem dX2_skyline_51 : decode cX2_skyline 51 = .ok (.iload 4, 2) := dk_21 4 (dk_at dksX2_skyline_2 6 rfl rfl)
theorem dX2_skyline_53 : decode cX2_skyline 53 = .ok (.istore_n 3, 1) := dk_62 (dk_at dksX2_skyline_2 8 rfl rfl)
theorem dX2_skyline_54 : decode cX2_skyline 54 = .ok (.iload_n 2, 1) := dk_28 (dk_at dksX2_skyline_2 9 rfl rfl)
theorem dX2_skyline_55 : decode cX2_skyline 55 = .ok (.iconst 1, 1) := dk_4 (dk_at dksX2_skyline_2 10 rfl rfl)
theorem dX2_skyline_56 : decode cX2_skyline 56 = .ok (.iload 4, 2) := dk_21 4 (dk_at dksX2_skyline_2 11 rfl rfl)
theorem dX2_skyline_58 : decode cX2_skyline 58 = .ok (.ishl, 1) := dk_120 (dk_at dksX2_skyline_2 13 rfl rfl)
theorem dX2_skyline_59 : decode cX2_skyline 59 = .ok (.ior, 1) := dk_128 (dk_at dksX2_skyline_2 14 rfl rfl)
theorem dX2_skyline_60 : decode cX2_skyline 60 = .ok (.istore_n 2, 1) := dk_61 (dk_at dksX2_skyline_2 15 rfl rfl)
theorem dX2_skyline_61 : decode cX2_skyline 61 = .ok (.iinc 4 1, 3) := dk_132 4 1 (dk_at dksX2_skyline_2 16 rfl rfl)
theorem dX2_skyline_64 : decode cX2_skyline 64 = .ok (.goto (-45), 3) := dk_167 255 211 (dk_at dksX2_skyline_2 19 rfl rfl)
theorem dX2_skyline_67 : decode cX2_skyline 67 = .ok (.iload_n 1, 1) := dk_27 (dk_at dksX2_skyline_2 22 rfl rfl)
theorem dX2_skyline_68 : decode cX2_skyline 68 = .ok (.ifCond .ne 7, 3) := dk_154 0 7 (dk_at dksX2_skyline_3 0 rfl rfl)
theorem dX2_skyline_71 : decode cX2_skyline 71 = .ok (.iload_n 2, 1) := dk_28 (dk_at dksX2_skyline_3 3 rfl rfl)
theorem dX2_skyline_72 : decode cX2_skyline 72 = .ok (.goto 4, 3) := dk_167 0 4 (dk_at dksX2_skyline_3 4 rfl rfl)
theorem dX2_skyline_75 : decode cX2_skyline 75 = .ok (.iload_n 3, 1) := dk_29 (dk_at dksX2_skyline_3 7 rfl rfl)
theorem dX2_skyline_76 : decode cX2_skyline 76 = .ok (.ireturn, 1) := dk_172 (dk_at dksX2_skyline_3 8 rfl rfl)
def dkwX2_view_3 : List UInt8 := [21, 5, 28, 154, 0, 7, 4, 167, 0, 4, 2, 96, 54, 5, 167, 255, 208, 29, 172]
abbrev dktX2_view_3 : List UInt8 := dkwX2_view_3 ++ []
def dkwX2_view_2 : List UInt8 := [21, 5, 182, 0, 242, 21, 4, 163, 0, 6, 167, 0, 14, 42, 21, 5, 182, 0, 242, 54, 4, 132, 3, 1]
abbrev dktX2_view_2 : List UInt8 := dkwX2_view_2 ++ dktX2_view_3
def dkwX2_view_1 : List UInt8 := [27, 28, 154, 0, 7, 4, 167, 0, 4, 2, 96, 54, 5, 42, 21, 5, 182, 0, 99, 153, 0, 45, 42]
abbrev dktX2_view_1 : List UInt8 := dkwX2_view_1 ++ dktX2_view_2
def dkwX2_view_0 : List UInt8 := [42, 27, 182, 0, 99, 153, 0, 12, 28, 3, 4, 184, 0, 92, 154, 0, 5, 2, 172, 3, 62, 2, 54, 4]
abbrev dktX2_view_0 : List UInt8 := dkwX2_view_0 ++ dktX2_view_1
theorem dksX2_view_0 : cX2_view.data.toList.drop 0 = dktX2_view_0 := by decide +kernel
theorem dksX2_view_1 : cX2_view.data.toList.drop 24 = dktX2_view_1 := dk_seg dksX2_view_0 24 rfl rfl
theorem dksX2_view_2 : cX2_view.data.toList.drop 47 = dktX2_view_2 := dk_seg dksX2_view_1 23 rfl rfl
theorem dksX2_view_3 : cX2_view.data.toList.drop 71 = dktX2_view_3 := dk_seg dksX2_view_2 24 rfl rfl
theorem dX2_view_0 : decode cX2_view 0 = .ok (.aload_n 0, 1) := dk_42 (dk_at dksX2_view_0 0 rfl rfl)
theorem dX2_view_1 : decode cX2_view 1 = .ok (.iload_n 1, 1) := dk_27 (dk_at dksX2_view_0 1 rfl rfl)
theorem dX2_view_2 : decode cX2_view 2 = .ok (.invokevirtual 99, 3) := dk_182 0 99 (dk_at dksX2_view_0 2 rfl rfl)
theorem dX2_view_5 : decode cX2_view 5 = .ok (.ifCond .eq 12, 3) := dk_153 0 12 (dk_at dksX2_view_0 5 rfl rfl)
theorem dX2_view_8 : decode cX2_view 8 = .ok (.iload_n 2, 1) := dk_28 (dk_at dksX2_view_0 8 rfl rfl)
theorem dX2_view_9 : decode cX2_view 9 = .ok (.iconst 0, 1) := dk_3 (dk_at dksX2_view_0 9 rfl rfl)
theorem dX2_view_10 : decode cX2_view 10 = .ok (.iconst 1, 1) := dk_4 (dk_at dksX2_view_0 10 rfl rfl)
theorem dX2_view_11 : decode cX2_view 11 = .ok (.invokestatic 92, 3) := dk_184 0 92 (dk_at dksX2_view_0 11 rfl rfl)
theorem dX2_view_14 : decode cX2_view 14 = .ok (.ifCond .ne 5, 3) := dk_154 0 5 (dk_at dksX2_view_0 14 rfl rfl)
theorem dX2_view_17 : decode cX2_view 17 = .ok (.iconst (-1), 1) := dk_2 (dk_at dksX2_view_0 17 rfl rfl)
theorem dX2_view_18 : decode cX2_view 18 = .ok (.ireturn, 1) := dk_172 (dk_at dksX2_view_0 18 rfl rfl)
theorem dX2_view_19 : decode cX2_view 19 = .ok (.iconst 0, 1) := dk_3 (dk_at dksX2_view_0 19 rfl rfl)
theorem dX2_view_20 : decode cX2_view 20 = .ok (.istore_n 3, 1) := dk_62 (dk_at dksX2_view_0 20 rfl rfl)
theorem dX2_view_21 : decode cX2_view 21 = .ok (.iconst (-1), 1) := dk_2 (dk_at dksX2_view_0 21 rfl rfl)
theorem dX2_view_22 : decode cX2_view 22 = .ok (.istore 4, 2) := dk_54 4 (dk_at dksX2_view_0 22 rfl rfl)
theorem dX2_view_24 : decode cX2_view 24 = .ok (.iload_n 1, 1) := dk_27 (dk_at dksX2_view_1 0 rfl rfl)
theorem dX2_view_25 : decode cX2_view 25 = .ok (.iload_n 2, 1) := dk_28 (dk_at dksX2_view_1 1 rfl rfl)
theorem dX2_view_26 : decode cX2_view 26 = .ok (.ifCond .ne 7, 3) := dk_154 0 7 (dk_at dksX2_view_1 2 rfl rfl)
theorem dX2_view_29 : decode cX2_view 29 = .ok (.iconst 1, 1) := dk_4 (dk_at dksX2_view_1 5 rfl rfl)
theorem dX2_view_30 : decode cX2_view 30 = .ok (.goto 4, 3) := dk_167 0 4 (dk_at dksX2_view_1 6 rfl rfl)
theorem dX2_view_33 : decode cX2_view 33 = .ok (.iconst (-1), 1) := dk_2 (dk_at dksX2_view_1 9 rfl rfl)
theorem dX2_view_34 : decode cX2_view 34 = .ok (.iadd, 1) := dk_96 (dk_at dksX2_view_1 10 rfl rfl)
theorem dX2_view_35 : decode cX2_view 35 = .ok (.istore 5, 2) := dk_54 5 (dk_at dksX2_view_1 11 rfl rfl)
theorem dX2_view_37 : decode cX2_view 37 = .ok (.aload_n 0, 1) := dk_42 (dk_at dksX2_view_1 13 rfl rfl)
theorem dX2_view_38 : decode cX2_view 38 = .ok (.iload 5, 2) := dk_21 5 (dk_at dksX2_view_1 14 rfl rfl)
theorem dX2_view_40 : decode cX2_view 40 = .ok (.invokevirtual 99, 3) := dk_182 0 99 (dk_at dksX2_view_1 16 rfl rfl)
theorem dX2_view_43 : decode cX2_view 43 = .ok (.ifCond .eq 45, 3) := dk_153 0 45 (dk_at dksX2_view_1 19 rfl rfl)
theorem dX2_view_46 : decode cX2_view 46 = .ok (.aload_n 0, 1) := dk_42 (dk_at dksX2_view_1 22 rfl rfl)
theorem dX2_view_47 : decode cX2_view 47 = .ok (.iload 5, 2) := dk_21 5 (dk_at dksX2_view_2 0 rfl rfl)
theorem dX2_view_49 : decode cX2_view 49 = .ok (.invokevirtual 242, 3) := dk_182 0 242 (dk_at dksX2_view_2 2 rfl rfl)
theorem dX2_view_52 : decode cX2_view 52 = .ok (.iload 4, 2) := dk_21 4 (dk_at dksX2_view_2 5 rfl rfl)
theorem dX2_view_54 : decode cX2_view 54 = .ok (.if_icmp .gt 6, 3) := dk_163 0 6 (dk_at dksX2_view_2 7 rfl rfl)
theorem dX2_view_57 : decode cX2_view 57 = .ok (.goto 14, 3) := dk_167 0 14 (dk_at dksX2_view_2 10 rfl rfl)
theorem dX2_view_60 : decode cX2_view 60 = .ok (.aload_n 0, 1) := dk_42 (dk_at dksX2_view_2 13 rfl rfl)
theorem dX2_view_61 : decode cX2_view 61 = .ok (.iload 5, 2) := dk_21 5 (dk_at dksX2_view_2 14 rfl rfl)
theorem dX2_view_63 : decode cX2_view 63 = .ok (.invokevirtual 242, 3) := dk_182 0 242 (dk_at dksX2_view_2 16 rfl rfl)
theorem dX2_view_66 : decode cX2_view 66 = .ok (.istore 4, 2) := dk_54 4 (dk_at dksX2_view_2 19 rfl rfl)
theorem dX2_view_68 : decode cX2_view 68 = .ok (.iinc 3 1, 3) := dk_132 3 1 (dk_at dksX2_view_2 21 rfl rfl)
theorem dX2_view_71 : decode cX2_view 71 = .ok (.iload 5, 2) := dk_21 5 (dk_at dksX2_view_3 0 rfl rfl)
theorem dX2_view_73 : decode cX2_view 73 = .ok (.iload_n 2, 1) := dk_28 (dk_at dksX2_view_3 2 rfl rfl)
theorem dX2_view_74 : decode cX2_view 74 = .ok (.ifCond .ne 7, 3) := dk_154 0 7 (dk_at dksX2_view_3 3 rfl rfl)
theorem dX2_view_77 : decode cX2_view 77 = .ok (.iconst 1, 1) := dk_4 (dk_at dksX2_view_3 6 rfl rfl)
theorem dX2_view_78 : decode cX2_view 78 = .ok (.goto 4, 3) := dk_167 0 4 (dk_at dksX2_view_3 7 rfl rfl)
theorem dX2_view_81 : decode cX2_view 81 = .ok (.iconst (-1), 1) := dk_2 (dk_at dksX2_view_3 10 rfl rfl)
theorem dX2_view_82 : decode cX2_view 82 = .ok (.iadd, 1) := dk_96 (dk_at dksX2_view_3 11 rfl rfl)
theorem dX2_view_83 : decode cX2_view 83 = .ok (.istore 5, 2) := dk_54 5 (dk_at dksX2_view_3 12 rfl rfl)
theorem dX2_view_85 : decode cX2_view 85 = .ok (.goto (-48), 3) := dk_167 255 208 (dk_at dksX2_view_3 14 rfl rfl)
theorem dX2_view_88 : decode cX2_view 88 = .ok (.iload_n 3, 1) := dk_29 (dk_at dksX2_view_3 17 rfl rfl)
theorem dX2_view_89 : decode cX2_view 89 = .ok (.ireturn, 1) := dk_172 (dk_at dksX2_view_3 18 rfl rfl)
def dkwX2_what_5 : List UInt8 := [21, 5, 54, 4, 132, 5, 255, 167, 255, 213, 42, 89, 180, 0, 96, 4, 100, 181, 0, 96, 21, 4, 172]
abbrev dktX2_what_5 : List UInt8 := dkwX2_what_5 ++ []
def dkwX2_what_4 : List UInt8 := [27, 2, 21, 5, 28, 16, 100, 108, 28, 16, 100, 112, 182, 0, 106, 42, 27, 29, 182, 0, 251, 153, 0, 7]
abbrev dktX2_what_4 : List UInt8 := dkwX2_what_4 ++ dktX2_what_5
def dkwX2_what_3 : List UInt8 := [180, 0, 96, 4, 96, 181, 0, 96, 16, 99, 54, 5, 21, 5, 155, 0, 44, 42, 42, 180, 0, 96, 4, 100]
abbrev dktX2_what_3 : List UInt8 := dkwX2_what_3 ++ dktX2_what_4
def dkwX2_what_2 : List UInt8 := [164, 0, 5, 2, 172, 42, 180, 0, 96, 16, 14, 160, 0, 6, 16, 254, 172, 16, 254, 54, 4, 42, 89]
abbrev dktX2_what_2 : List UInt8 := dkwX2_what_2 ++ dktX2_what_3
def dkwX2_what_1 : List UInt8 := [153, 0, 25, 29, 155, 0, 21, 29, 16, 100, 108, 16, 9, 163, 0, 12, 29, 16, 100, 112, 16, 40]
abbrev dktX2_what_1 : List UInt8 := dkwX2_what_1 ++ dktX2_what_2
def dkwX2_what_0 : List UInt8 := [42, 27, 182, 0, 99, 153, 0, 44, 28, 155, 0, 40, 28, 16, 100, 108, 5, 163, 0, 32, 28, 16, 100, 112]
abbrev dktX2_what_0 : List UInt8 := dkwX2_what_0 ++ dktX2_what_1
theorem dksX2_what_0 : cX2_what.data.toList.drop 0 = dktX2_what_0 := by decide +kernel
theorem dksX2_what_1 : cX2_what.data.toList.drop 24 = dktX2_what_1 := dk_seg dksX2_what_0 24 rfl rfl
theorem dksX2_what_2 : cX2_what.data.toList.drop 46 = dktX2_what_2 := dk_seg dksX2_what_1 22 rfl rfl
theorem dksX2_what_3 : cX2_what.data.toList.drop 69 = dktX2_what_3 := dk_seg dksX2_what_2 23 rfl rfl
theorem dksX2_what_4 : cX2_what.data.toList.drop 93 = dktX2_what_4 := dk_seg dksX2_what_3 24 rfl rfl
theorem dksX2_what_5 : cX2_what.data.toList.drop 117 = dktX2_what_5 := dk_seg dksX2_what_4 24 rfl rfl
theorem dX2_what_0 : decode cX2_what 0 = .ok (.aload_n 0, 1) := dk_42 (dk_at dksX2_what_0 0 rfl rfl)
theorem dX2_what_1 : decode cX2_what 1 = .ok (.iload_n 1, 1) := dk_27 (dk_at dksX2_what_0 1 rfl rfl)
theorem dX2_what_2 : decode cX2_what 2 = .ok (.invokevirtual 99, 3) := dk_182 0 99 (dk_at dksX2_what_0 2 rfl rfl)
theorem dX2_what_5 : decode cX2_what 5 = .ok (.ifCond .eq 44, 3) := dk_153 0 44 (dk_at dksX2_what_0 5 rfl rfl)
theorem dX2_what_8 : decode cX2_what 8 = .ok (.iload_n 2, 1) := dk_28 (dk_at dksX2_what_0 8 rfl rfl)
theorem dX2_what_9 : decode cX2_what 9 = .ok (.ifCond .lt 40, 3) := dk_155 0 40 (dk_at dksX2_what_0 9 rfl rfl)
theorem dX2_what_12 : decode cX2_what 12 = .ok (.iload_n 2, 1) := dk_28 (dk_at dksX2_what_0 12 rfl rfl)
theorem dX2_what_13 : decode cX2_what 13 = .ok (.bipush 100, 2) := dk_16 100 (dk_at dksX2_what_0 13 rfl rfl)
theorem dX2_what_15 : decode cX2_what 15 = .ok (.idiv, 1) := dk_108 (dk_at dksX2_what_0 15 rfl rfl)
theorem dX2_what_16 : decode cX2_what 16 = .ok (.iconst 2, 1) := dk_5 (dk_at dksX2_what_0 16 rfl rfl)
theorem dX2_what_17 : decode cX2_what 17 = .ok (.if_icmp .gt 32, 3) := dk_163 0 32 (dk_at dksX2_what_0 17 rfl rfl)
theorem dX2_what_20 : decode cX2_what 20 = .ok (.iload_n 2, 1) := dk_28 (dk_at dksX2_what_0 20 rfl rfl)
theorem dX2_what_21 : decode cX2_what 21 = .ok (.bipush 100, 2) := dk_16 100 (dk_at dksX2_what_0 21 rfl rfl)
theorem dX2_what_23 : decode cX2_what 23 = .ok (.irem, 1) := dk_112 (dk_at dksX2_what_0 23 rfl rfl)
theorem dX2_what_24 : decode cX2_what 24 = .ok (.ifCond .eq 25, 3) := dk_153 0 25 (dk_at dksX2_what_1 0 rfl rfl)
theorem dX2_what_27 : decode cX2_what 27 = .ok (.iload_n 3, 1) := dk_29 (dk_at dksX2_what_1 3 rfl rfl)
theorem dX2_what_28 : decode cX2_what 28 = .ok (.ifCond .lt 21, 3) := dk_155 0 21 (dk_at dksX2_what_1 4 rfl rfl)
theorem dX2_what_31 : decode cX2_what 31 = .ok (.iload_n 3, 1) := dk_29 (dk_at dksX2_what_1 7 rfl rfl)
theorem dX2_what_32 : decode cX2_what 32 = .ok (.bipush 100, 2) := dk_16 100 (dk_at dksX2_what_1 8 rfl rfl)
theorem dX2_what_34 : decode cX2_what 34 = .ok (.idiv, 1) := dk_108 (dk_at dksX2_what_1 10 rfl rfl)
theorem dX2_what_35 : decode cX2_what 35 = .ok (.bipush 9, 2) := dk_16 9 (dk_at dksX2_what_1 11 rfl rfl)
theorem dX2_what_37 : decode cX2_what 37 = .ok (.if_icmp .gt 12, 3) := dk_163 0 12 (dk_at dksX2_what_1 13 rfl rfl)
theorem dX2_what_40 : decode cX2_what 40 = .ok (.iload_n 3, 1) := dk_29 (dk_at dksX2_what_1 16 rfl rfl)
theorem dX2_what_41 : decode cX2_what 41 = .ok (.bipush 100, 2) := dk_16 100 (dk_at dksX2_what_1 17 rfl rfl)
theorem dX2_what_43 : decode cX2_what 43 = .ok (.irem, 1) := dk_112 (dk_at dksX2_what_1 19 rfl rfl)
theorem dX2_what_44 : decode cX2_what 44 = .ok (.bipush 40, 2) := dk_16 40 (dk_at dksX2_what_1 20 rfl rfl)
theorem dX2_what_46 : decode cX2_what 46 = .ok (.if_icmp .le 5, 3) := dk_164 0 5 (dk_at dksX2_what_2 0 rfl rfl)
theorem dX2_what_49 : decode cX2_what 49 = .ok (.iconst (-1), 1) := dk_2 (dk_at dksX2_what_2 3 rfl rfl)
theorem dX2_what_50 : decode cX2_what 50 = .ok (.ireturn, 1) := dk_172 (dk_at dksX2_what_2 4 rfl rfl)
theorem dX2_what_51 : decode cX2_what 51 = .ok (.aload_n 0, 1) := dk_42 (dk_at dksX2_what_2 5 rfl rfl)
theorem dX2_what_52 : decode cX2_what 52 = .ok (.getfield 96, 3) := dk_180 0 96 (dk_at dksX2_what_2 6 rfl rfl)
theorem dX2_what_55 : decode cX2_what 55 = .ok (.bipush 14, 2) := dk_16 14 (dk_at dksX2_what_2 9 rfl rfl)
theorem dX2_what_57 : decode cX2_what 57 = .ok (.if_icmp .ne 6, 3) := dk_160 0 6 (dk_at dksX2_what_2 11 rfl rfl)
theorem dX2_what_60 : decode cX2_what 60 = .ok (.bipush (-2), 2) := dk_16 254 (dk_at dksX2_what_2 14 rfl rfl)
theorem dX2_what_62 : decode cX2_what 62 = .ok (.ireturn, 1) := dk_172 (dk_at dksX2_what_2 16 rfl rfl)
theorem dX2_what_63 : decode cX2_what 63 = .ok (.bipush (-2), 2) := dk_16 254 (dk_at dksX2_what_2 17 rfl rfl)
theorem dX2_what_65 : decode cX2_what 65 = .ok (.istore 4, 2) := dk_54 4 (dk_at dksX2_what_2 19 rfl rfl)
theorem dX2_what_67 : decode cX2_what 67 = .ok (.aload_n 0, 1) := dk_42 (dk_at dksX2_what_2 21 rfl rfl)
theorem dX2_what_68 : decode cX2_what 68 = .ok (.dup, 1) := dk_89 (dk_at dksX2_what_2 22 rfl rfl)
theorem dX2_what_69 : decode cX2_what 69 = .ok (.getfield 96, 3) := dk_180 0 96 (dk_at dksX2_what_3 0 rfl rfl)
theorem dX2_what_72 : decode cX2_what 72 = .ok (.iconst 1, 1) := dk_4 (dk_at dksX2_what_3 3 rfl rfl)
theorem dX2_what_73 : decode cX2_what 73 = .ok (.iadd, 1) := dk_96 (dk_at dksX2_what_3 4 rfl rfl)
theorem dX2_what_74 : decode cX2_what 74 = .ok (.putfield 96, 3) := dk_181 0 96 (dk_at dksX2_what_3 5 rfl rfl)
theorem dX2_what_77 : decode cX2_what 77 = .ok (.bipush 99, 2) := dk_16 99 (dk_at dksX2_what_3 8 rfl rfl)
theorem dX2_what_79 : decode cX2_what 79 = .ok (.istore 5, 2) := dk_54 5 (dk_at dksX2_what_3 10 rfl rfl)
theorem dX2_what_81 : decode cX2_what 81 = .ok (.iload 5, 2) := dk_21 5 (dk_at dksX2_what_3 12 rfl rfl)
theorem dX2_what_83 : decode cX2_what 83 = .ok (.ifCond .lt 44, 3) := dk_155 0 44 (dk_at dksX2_what_3 14 rfl rfl)
theorem dX2_what_86 : decode cX2_what 86 = .ok (.aload_n 0, 1) := dk_42 (dk_at dksX2_what_3 17 rfl rfl)
theorem dX2_what_87 : decode cX2_what 87 = .ok (.aload_n 0, 1) := dk_42 (dk_at dksX2_what_3 18 rfl rfl)
theorem dX2_what_88 : decode cX2_what 88 = .ok (.getfield 96, 3) := dk_180 0 96 (dk_at dksX2_what_3 19 rfl rfl)
theorem dX2_what_91 : decode cX2_what 91 = .ok (.iconst 1, 1) := dk_4 (dk_at dksX2_what_3 22 rfl rfl)
theorem dX2_what_92 : decode cX2_what 92 = .ok (.isub, 1) := dk_100 (dk_at dksX2_what_3 23 rfl rfl)
theorem dX2_what_93 : decode cX2_what 93 = .ok (.iload_n 1, 1) := dk_27 (dk_at dksX2_what_4 0 rfl rfl)
theorem dX2_what_94 : decode cX2_what 94 = .ok (.iconst (-1), 1) := dk_2 (dk_at dksX2_what_4 1 rfl rfl)
theorem dX2_what_95 : decode cX2_what 95 = .ok (.iload 5, 2) := dk_21 5 (dk_at dksX2_what_4 2 rfl rfl)
theorem dX2_what_97 : decode cX2_what 97 = .ok (.iload_n 2, 1) := dk_28 (dk_at dksX2_what_4 4 rfl rfl)
theorem dX2_what_98 : decode cX2_what 98 = .ok (.bipush 100, 2) := dk_16 100 (dk_at dksX2_what_4 5 rfl rfl)
theorem dX2_what_100 : decode cX2_what 100 = .ok (.idiv, 1) := dk_108 (dk_at dksX2_what_4 7 rfl rfl)
theorem dX2_what_101 : decode cX2_what 101 = .ok (.iload_n 2, 1) := dk_28 (dk_at dksX2_what_4 8 rfl rfl)
theorem dX2_what_102 : decode cX2_what 102 = .ok (.bipush 100, 2) := dk_16 100 (dk_at dksX2_what_4 9 rfl rfl)
theorem dX2_what_104 : decode cX2_what 104 = .ok (.irem, 1) := dk_112 (dk_at dksX2_what_4 11 rfl rfl)
theorem dX2_what_105 : decode cX2_what 105 = .ok (.invokevirtual 106, 3) := dk_182 0 106 (dk_at dksX2_what_4 12 rfl rfl)
theorem dX2_what_108 : decode cX2_what 108 = .ok (.aload_n 0, 1) := dk_42 (dk_at dksX2_what_4 15 rfl rfl)
theorem dX2_what_109 : decode cX2_what 109 = .ok (.iload_n 1, 1) := dk_27 (dk_at dksX2_what_4 16 rfl rfl)
theorem dX2_what_110 : decode cX2_what 110 = .ok (.iload_n 3, 1) := dk_29 (dk_at dksX2_what_4 17 rfl rfl)
theorem dX2_what_111 : decode cX2_what 111 = .ok (.invokevirtual 251, 3) := dk_182 0 251 (dk_at dksX2_what_4 18 rfl rfl)
theorem dX2_what_114 : decode cX2_what 114 = .ok (.ifCond .eq 7, 3) := dk_153 0 7 (dk_at dksX2_what_4 21 rfl rfl)
theorem dX2_what_117 : decode cX2_what 117 = .ok (.iload 5, 2) := dk_21 5 (dk_at dksX2_what_5 0 rfl rfl)
theorem dX2_what_119 : decode cX2_what 119 = .ok (.istore 4, 2) := dk_54 4 (dk_at dksX2_what_5 2 rfl rfl)
theorem dX2_what_121 : decode cX2_what 121 = .ok (.iinc 5 (-1), 3) := dk_132 5 255 (dk_at dksX2_what_5 4 rfl rfl)
theorem dX2_what_124 : decode cX2_what 124 = .ok (.goto (-43), 3) := dk_167 255 213 (dk_at dksX2_what_5 7 rfl rfl)
theorem dX2_what_127 : decode cX2_what 127 = .ok (.aload_n 0, 1) := dk_42 (dk_at dksX2_what_5 10 rfl rfl)
theorem dX2_what_128 : decode cX2_what 128 = .ok (.dup, 1) := dk_89 (dk_at dksX2_what_5 11 rfl rfl)
theorem dX2_what_129 : decode cX2_what 129 = .ok (.getfield 96, 3) := dk_180 0 96 (dk_at dksX2_what_5 12 rfl rfl)
theorem dX2_what_132 : decode cX2_what 132 = .ok (.iconst 1, 1) := dk_4 (dk_at dksX2_what_5 15 rfl rfl)
theorem dX2_what_133 : decode cX2_what 133 = .ok (.isub, 1) := dk_100 (dk_at dksX2_what_5 16 rfl rfl)
theorem dX2_what_134 : decode cX2_what 134 = .ok (.putfield 96, 3) := dk_181 0 96 (dk_at dksX2_what_5 17 rfl rfl)
theorem dX2_what_137 : decode cX2_what 137 = .ok (.iload 4, 2) := dk_21 4 (dk_at dksX2_what_5 20 rfl rfl)
theorem dX2_what_139 : decode cX2_what 139 = .ok (.ireturn, 1) := dk_172 (dk_at dksX2_what_5 22 rfl rfl)
def dkwX2_stands_2 : List UInt8 := [132, 5, 1, 167, 255, 216, 42, 29, 181, 0, 103, 21, 4, 172]
abbrev dktX2_stands_2 : List UInt8 := dkwX2_stands_2 ++ []
def dkwX2_stands_1 : List UInt8 := [21, 5, 96, 184, 0, 233, 181, 0, 103, 42, 27, 182, 0, 242, 28, 16, 100, 108, 162, 0, 6, 3, 54, 4]
abbrev dktX2_stands_1 : List UInt8 := dkwX2_stands_1 ++ dktX2_stands_2
def dkwX2_stands_0 : List UInt8 := [42, 180, 0, 103, 62, 4, 54, 4, 3, 54, 5, 21, 5, 28, 16, 100, 112, 163, 0, 37, 42, 16, 99, 29]
abbrev dktX2_stands_0 : List UInt8 := dkwX2_stands_0 ++ dktX2_stands_1
theorem dksX2_stands_0 : cX2_stands.data.toList.drop 0 = dktX2_stands_0 := by decide +kernel
theorem dksX2_stands_1 : cX2_stands.data.toList.drop 24 = dktX2_stands_1 := dk_seg dksX2_stands_0 24 rfl rfl
theorem dksX2_stands_2 : cX2_stands.data.toList.drop 48 = dktX2_stands_2 := dk_seg dksX2_stands_1 24 rfl rfl
theorem dX2_stands_0 : decode cX2_stands 0 = .ok (.aload_n 0, 1) := dk_42 (dk_at dksX2_stands_0 0 rfl rfl)
theorem dX2_stands_1 : decode cX2_stands 1 = .ok (.getfield 103, 3) := dk_180 0 103 (dk_at dksX2_stands_0 1 rfl rfl)
theorem dX2_stands_4 : decode cX2_stands 4 = .ok (.istore_n 3, 1) := dk_62 (dk_at dksX2_stands_0 4 rfl rfl)
theorem dX2_stands_5 : decode cX2_stands 5 = .ok (.iconst 1, 1) := dk_4 (dk_at dksX2_stands_0 5 rfl rfl)
theorem dX2_stands_6 : decode cX2_stands 6 = .ok (.istore 4, 2) := dk_54 4 (dk_at dksX2_stands_0 6 rfl rfl)
theorem dX2_stands_8 : decode cX2_stands 8 = .ok (.iconst 0, 1) := dk_3 (dk_at dksX2_stands_0 8 rfl rfl)
theorem dX2_stands_9 : decode cX2_stands 9 = .ok (.istore 5, 2) := dk_54 5 (dk_at dksX2_stands_0 9 rfl rfl)
theorem dX2_stands_11 : decode cX2_stands 11 = .ok (.iload 5, 2) := dk_21 5 (dk_at dksX2_stands_0 11 rfl rfl)
theorem dX2_stands_13 : decode cX2_stands 13 = .ok (.iload_n 2, 1) := dk_28 (dk_at dksX2_stands_0 13 rfl rfl)
theorem dX2_stands_14 : decode cX2_stands 14 = .ok (.bipush 100, 2) := dk_16 100 (dk_at dksX2_stands_0 14 rfl rfl)
theorem dX2_stands_16 : decode cX2_stands 16 = .ok (.irem, 1) := dk_112 (dk_at dksX2_stands_0 16 rfl rfl)
theorem dX2_stands_17 : decode cX2_stands 17 = .ok (.if_icmp .gt 37, 3) := dk_163 0 37 (dk_at dksX2_stands_0 17 rfl rfl)
theorem dX2_stands_20 : decode cX2_stands 20 = .ok (.aload_n 0, 1) := dk_42 (dk_at dksX2_stands_0 20 rfl rfl)
theorem dX2_stands_21 : decode cX2_stands 21 = .ok (.bipush 99, 2) := dk_16 99 (dk_at dksX2_stands_0 21 rfl rfl)
theorem dX2_stands_23 : decode cX2_stands 23 = .ok (.iload_n 3, 1) := dk_29 (dk_at dksX2_stands_0 23 rfl rfl)
theorem dX2_stands_24 : decode cX2_stands 24 = .ok (.iload 5, 2) := dk_21 5 (dk_at dksX2_stands_1 0 rfl rfl)
theorem dX2_stands_26 : decode cX2_stands 26 = .ok (.iadd, 1) := dk_96 (dk_at dksX2_stands_1 2 rfl rfl)
theorem dX2_stands_27 : decode cX2_stands 27 = .ok (.invokestatic 233, 3) := dk_184 0 233 (dk_at dksX2_stands_1 3 rfl rfl)
theorem dX2_stands_30 : decode cX2_stands 30 = .ok (.putfield 103, 3) := dk_181 0 103 (dk_at dksX2_stands_1 6 rfl rfl)
theorem dX2_stands_33 : decode cX2_stands 33 = .ok (.aload_n 0, 1) := dk_42 (dk_at dksX2_stands_1 9 rfl rfl)
theorem dX2_stands_34 : decode cX2_stands 34 = .ok (.iload_n 1, 1) := dk_27 (dk_at dksX2_stands_1 10 rfl rfl)
theorem dX2_stands_35 : decode cX2_stands 35 = .ok (.invokevirtual 242, 3) := dk_182 0 242 (dk_at dksX2_stands_1 11 rfl rfl)
theorem dX2_stands_38 : decode cX2_stands 38 = .ok (.iload_n 2, 1) := dk_28 (dk_at dksX2_stands_1 14 rfl rfl)
theorem dX2_stands_39 : decode cX2_stands 39 = .ok (.bipush 100, 2) := dk_16 100 (dk_at dksX2_stands_1 15 rfl rfl)
theorem dX2_stands_41 : decode cX2_stands 41 = .ok (.idiv, 1) := dk_108 (dk_at dksX2_stands_1 17 rfl rfl)
theorem dX2_stands_42 : decode cX2_stands 42 = .ok (.if_icmp .ge 6, 3) := dk_162 0 6 (dk_at dksX2_stands_1 18 rfl rfl)
theorem dX2_stands_45 : decode cX2_stands 45 = .ok (.iconst 0, 1) := dk_3 (dk_at dksX2_stands_1 21 rfl rfl)
theorem dX2_stands_46 : decode cX2_stands 46 = .ok (.istore 4, 2) := dk_54 4 (dk_at dksX2_stands_1 22 rfl rfl)
theorem dX2_stands_48 : decode cX2_stands 48 = .ok (.iinc 5 1, 3) := dk_132 5 1 (dk_at dksX2_stands_2 0 rfl rfl)
theorem dX2_stands_51 : decode cX2_stands 51 = .ok (.goto (-40), 3) := dk_167 255 216 (dk_at dksX2_stands_2 3 rfl rfl)
theorem dX2_stands_54 : decode cX2_stands 54 = .ok (.aload_n 0, 1) := dk_42 (dk_at dksX2_stands_2 6 rfl rfl)
theorem dX2_stands_55 : decode cX2_stands 55 = .ok (.iload_n 3, 1) := dk_29 (dk_at dksX2_stands_2 7 rfl rfl)
theorem dX2_stands_56 : decode cX2_stands 56 = .ok (.putfield 103, 3) := dk_181 0 103 (dk_at dksX2_stands_2 8 rfl rfl)
theorem dX2_stands_59 : decode cX2_stands 59 = .ok (.iload 4, 2) := dk_21 4 (dk_at dksX2_stands_2 11 rfl rfl)
theorem dX2_stands_61 : decode cX2_stands 61 = .ok (.ireturn, 1) := dk_172 (dk_at dksX2_stands_2 13 rfl rfl)
def dkwX2_lower_10 : List UInt8 := [167, 0, 8, 21, 5, 184, 1, 4, 172]
abbrev dktX2_lower_10 : List UInt8 := dkwX2_lower_10 ++ []
def dkwX2_lower_9 : List UInt8 := [29, 5, 160, 0, 8, 21, 6, 167, 0, 25, 29, 4, 159, 0, 10, 21, 5, 16, 254, 160, 0, 8, 21, 5]
abbrev dktX2_lower_9 : List UInt8 := dkwX2_lower_9 ++ dktX2_lower_10
def dkwX2_lower_8 : List UInt8 := [154, 0, 18, 21, 8, 42, 21, 5, 182, 1, 1, 162, 0, 7, 21, 7, 54, 5, 132, 7, 1, 167, 255, 143]
abbrev dktX2_lower_8 : List UInt8 := dkwX2_lower_8 ++ dktX2_lower_9
def dkwX2_lower_7 : List UInt8 := [167, 0, 14, 21, 7, 184, 1, 4, 21, 5, 184, 1, 4, 100, 54, 9, 21, 9, 155, 0, 19, 21, 9]
abbrev dktX2_lower_7 : List UInt8 := dkwX2_lower_7 ++ dktX2_lower_8
def dkwX2_lower_6 : List UInt8 := [159, 0, 10, 21, 8, 21, 6, 162, 0, 7, 21, 8, 54, 6, 21, 5, 16, 254, 160, 0, 7, 2]
abbrev dktX2_lower_6 : List UInt8 := dkwX2_lower_6 ++ dktX2_lower_7
def dkwX2_lower_5 : List UInt8 := [21, 7, 182, 0, 254, 28, 164, 0, 6, 167, 0, 78, 42, 21, 7, 182, 1, 1, 54, 8, 21, 6, 16, 254]
abbrev dktX2_lower_5 : List UInt8 := dkwX2_lower_5 ++ dktX2_lower_6
def dkwX2_lower_4 : List UInt8 := [21, 7, 4, 42, 180, 0, 96, 120, 162, 0, 108, 21, 7, 21, 4, 2, 130, 126, 154, 0, 92, 42, 27]
abbrev dktX2_lower_4 : List UInt8 := dkwX2_lower_4 ++ dktX2_lower_5
def dkwX2_lower_3 : List UInt8 := [21, 5, 120, 128, 54, 4, 132, 5, 1, 167, 255, 211, 16, 254, 54, 5, 16, 254, 54, 6, 3, 54, 7]
abbrev dktX2_lower_3 : List UInt8 := dkwX2_lower_3 ++ dktX2_lower_4
def dkwX2_lower_2 : List UInt8 := [182, 0, 219, 153, 0, 26, 42, 180, 0, 15, 16, 15, 21, 5, 96, 46, 5, 159, 0, 12, 21, 4, 4]
abbrev dktX2_lower_2 : List UInt8 := dkwX2_lower_2 ++ dktX2_lower_3
def dkwX2_lower_1 : List UInt8 := [154, 0, 5, 2, 172, 3, 54, 4, 3, 54, 5, 21, 5, 42, 180, 0, 96, 162, 0, 42, 42, 21, 5, 27]
abbrev dktX2_lower_1 : List UInt8 := dkwX2_lower_1 ++ dktX2_lower_2
def dkwX2_lower_0 : List UInt8 := [42, 27, 182, 0, 99, 153, 0, 22, 28, 3, 16, 9, 184, 0, 92, 153, 0, 12, 29, 3, 5, 184, 0, 92]
abbrev dktX2_lower_0 : List UInt8 := dkwX2_lower_0 ++ dktX2_lower_1
theorem dksX2_lower_0 : cX2_lower.data.toList.drop 0 = dktX2_lower_0 := by decide +kernel
theorem dksX2_lower_1 : cX2_lower.data.toList.drop 24 = dktX2_lower_1 := dk_seg dksX2_lower_0 24 rfl rfl
theorem dksX2_lower_2 : cX2_lower.data.toList.drop 48 = dktX2_lower_2 := dk_seg dksX2_lower_1 24 rfl rfl
theorem dksX2_lower_3 : cX2_lower.data.toList.drop 71 = dktX2_lower_3 := dk_seg dksX2_lower_2 23 rfl rfl
theorem dksX2_lower_4 : cX2_lower.data.toList.drop 94 = dktX2_lower_4 := dk_seg dksX2_lower_3 23 rfl rfl
theorem dksX2_lower_5 : cX2_lower.data.toList.drop 117 = dktX2_lower_5 := dk_seg dksX2_lower_4 23 rfl rfl
theorem dksX2_lower_6 : cX2_lower.data.toList.drop 141 = dktX2_lower_6 := dk_seg dksX2_lower_5 24 rfl rfl
theorem dksX2_lower_7 : cX2_lower.data.toList.drop 163 = dktX2_lower_7 := dk_seg dksX2_lower_6 22 rfl rfl
theorem dksX2_lower_8 : cX2_lower.data.toList.drop 186 = dktX2_lower_8 := dk_seg dksX2_lower_7 23 rfl rfl
theorem dksX2_lower_9 : cX2_lower.data.toList.drop 210 = dktX2_lower_9 := dk_seg dksX2_lower_8 24 rfl rfl
theorem dksX2_lower_10 : cX2_lower.data.toList.drop 234 = dktX2_lower_10 := dk_seg dksX2_lower_9 24 rfl rfl
theorem dX2_lower_0 : decode cX2_lower 0 = .ok (.aload_n 0, 1) := dk_42 (dk_at dksX2_lower_0 0 rfl rfl)
theorem dX2_lower_1 : decode cX2_lower 1 = .ok (.iload_n 1, 1) := dk_27 (dk_at dksX2_lower_0 1 rfl rfl)
theorem dX2_lower_2 : decode cX2_lower 2 = .ok (.invokevirtual 99, 3) := dk_182 0 99 (dk_at dksX2_lower_0 2 rfl rfl)
theorem dX2_lower_5 : decode cX2_lower 5 = .ok (.ifCond .eq 22, 3) := dk_153 0 22 (dk_at dksX2_lower_0 5 rfl rfl)
theorem dX2_lower_8 : decode cX2_lower 8 = .ok (.iload_n 2, 1) := dk_28 (dk_at dksX2_lower_0 8 rfl rfl)
theorem dX2_lower_9 : decode cX2_lower 9 = .ok (.iconst 0, 1) := dk_3 (dk_at dksX2_lower_0 9 rfl rfl)
theorem dX2_lower_10 : decode cX2_lower 10 = .ok (.bipush 9, 2) := dk_16 9 (dk_at dksX2_lower_0 10 rfl rfl)
theorem dX2_lower_12 : decode cX2_lower 12 = .ok (.invokestatic 92, 3) := dk_184 0 92 (dk_at dksX2_lower_0 12 rfl rfl)
theorem dX2_lower_15 : decode cX2_lower 15 = .ok (.ifCond .eq 12, 3) := dk_153 0 12 (dk_at dksX2_lower_0 15 rfl rfl)
theorem dX2_lower_18 : decode cX2_lower 18 = .ok (.iload_n 3, 1) := dk_29 (dk_at dksX2_lower_0 18 rfl rfl)
theorem dX2_lower_19 : decode cX2_lower 19 = .ok (.iconst 0, 1) := dk_3 (dk_at dksX2_lower_0 19 rfl rfl)
theorem dX2_lower_20 : decode cX2_lower 20 = .ok (.iconst 2, 1) := dk_5 (dk_at dksX2_lower_0 20 rfl rfl)
theorem dX2_lower_21 : decode cX2_lower 21 = .ok (.invokestatic 92, 3) := dk_184 0 92 (dk_at dksX2_lower_0 21 rfl rfl)
theorem dX2_lower_24 : decode cX2_lower 24 = .ok (.ifCond .ne 5, 3) := dk_154 0 5 (dk_at dksX2_lower_1 0 rfl rfl)
theorem dX2_lower_27 : decode cX2_lower 27 = .ok (.iconst (-1), 1) := dk_2 (dk_at dksX2_lower_1 3 rfl rfl)
theorem dX2_lower_28 : decode cX2_lower 28 = .ok (.ireturn, 1) := dk_172 (dk_at dksX2_lower_1 4 rfl rfl)
theorem dX2_lower_29 : decode cX2_lower 29 = .ok (.iconst 0, 1) := dk_3 (dk_at dksX2_lower_1 5 rfl rfl)
theorem dX2_lower_30 : decode cX2_lower 30 = .ok (.istore 4, 2) := dk_54 4 (dk_at dksX2_lower_1 6 rfl rfl)
theorem dX2_lower_32 : decode cX2_lower 32 = .ok (.iconst 0, 1) := dk_3 (dk_at dksX2_lower_1 8 rfl rfl)
theorem dX2_lower_33 : decode cX2_lower 33 = .ok (.istore 5, 2) := dk_54 5 (dk_at dksX2_lower_1 9 rfl rfl)
theorem dX2_lower_35 : decode cX2_lower 35 = .ok (.iload 5, 2) := dk_21 5 (dk_at dksX2_lower_1 11 rfl rfl)
theorem dX2_lower_37 : decode cX2_lower 37 = .ok (.aload_n 0, 1) := dk_42 (dk_at dksX2_lower_1 13 rfl rfl)
theorem dX2_lower_38 : decode cX2_lower 38 = .ok (.getfield 96, 3) := dk_180 0 96 (dk_at dksX2_lower_1 14 rfl rfl)
theorem dX2_lower_41 : decode cX2_lower 41 = .ok (.if_icmp .ge 42, 3) := dk_162 0 42 (dk_at dksX2_lower_1 17 rfl rfl)
theorem dX2_lower_44 : decode cX2_lower 44 = .ok (.aload_n 0, 1) := dk_42 (dk_at dksX2_lower_1 20 rfl rfl)
theorem dX2_lower_45 : decode cX2_lower 45 = .ok (.iload 5, 2) := dk_21 5 (dk_at dksX2_lower_1 21 rfl rfl)
theorem dX2_lower_47 : decode cX2_lower 47 = .ok (.iload_n 1, 1) := dk_27 (dk_at dksX2_lower_1 23 rfl rfl)
theorem dX2_lower_48 : decode cX2_lower 48 = .ok (.invokevirtual 219, 3) := dk_182 0 219 (dk_at dksX2_lower_2 0 rfl rfl)
theorem dX2_lower_51 : decode cX2_lower 51 = .ok (.ifCond .eq 26, 3) := dk_153 0 26 (dk_at dksX2_lower_2 3 rfl rfl)
theorem dX2_lower_54 : decode cX2_lower 54 = .ok (.aload_n 0, 1) := dk_42 (dk_at dksX2_lower_2 6 rfl rfl)
theorem dX2_lower_55 : decode cX2_lower 55 = .ok (.getfield 15, 3) := dk_180 0 15 (dk_at dksX2_lower_2 7 rfl rfl)
theorem dX2_lower_58 : decode cX2_lower 58 = .ok (.bipush 15, 2) := dk_16 15 (dk_at dksX2_lower_2 10 rfl rfl)
theorem dX2_lower_60 : decode cX2_lower 60 = .ok (.iload 5, 2) := dk_21 5 (dk_at dksX2_lower_2 12 rfl rfl)
theorem dX2_lower_62 : decode cX2_lower 62 = .ok (.iadd, 1) := dk_96 (dk_at dksX2_lower_2 14 rfl rfl)
theorem dX2_lower_63 : decode cX2_lower 63 = .ok (.iaload, 1) := dk_46 (dk_at dksX2_lower_2 15 rfl rfl)
theorem dX2_lower_64 : decode cX2_lower 64 = .ok (.iconst 2, 1) := dk_5 (dk_at dksX2_lower_2 16 rfl rfl)
theorem dX2_lower_65 : decode cX2_lower 65 = .ok (.if_icmp .eq 12, 3) := dk_159 0 12 (dk_at dksX2_lower_2 17 rfl rfl)
theorem dX2_lower_68 : decode cX2_lower 68 = .ok (.iload 4, 2) := dk_21 4 (dk_at dksX2_lower_2 20 rfl rfl)
theorem dX2_lower_70 : decode cX2_lower 70 = .ok (.iconst 1, 1) := dk_4 (dk_at dksX2_lower_2 22 rfl rfl)
theorem dX2_lower_71 : decode cX2_lower 71 = .ok (.iload 5, 2) := dk_21 5 (dk_at dksX2_lower_3 0 rfl rfl)
theorem dX2_lower_73 : decode cX2_lower 73 = .ok (.ishl, 1) := dk_120 (dk_at dksX2_lower_3 2 rfl rfl)
theorem dX2_lower_74 : decode cX2_lower 74 = .ok (.ior, 1) := dk_128 (dk_at dksX2_lower_3 3 rfl rfl)
theorem dX2_lower_75 : decode cX2_lower 75 = .ok (.istore 4, 2) := dk_54 4 (dk_at dksX2_lower_3 4 rfl rfl)
theorem dX2_lower_77 : decode cX2_lower 77 = .ok (.iinc 5 1, 3) := dk_132 5 1 (dk_at dksX2_lower_3 6 rfl rfl)
theorem dX2_lower_80 : decode cX2_lower 80 = .ok (.goto (-45), 3) := dk_167 255 211 (dk_at dksX2_lower_3 9 rfl rfl)
theorem dX2_lower_83 : decode cX2_lower 83 = .ok (.bipush (-2), 2) := dk_16 254 (dk_at dksX2_lower_3 12 rfl rfl)
theorem dX2_lower_85 : decode cX2_lower 85 = .ok (.istore 5, 2) := dk_54 5 (dk_at dksX2_lower_3 14 rfl rfl)
theorem dX2_lower_87 : decode cX2_lower 87 = .ok (.bipush (-2), 2) := dk_16 254 (dk_at dksX2_lower_3 16 rfl rfl)
theorem dX2_lower_89 : decode cX2_lower 89 = .ok (.istore 6, 2) := dk_54 6 (dk_at dksX2_lower_3 18 rfl rfl)
theorem dX2_lower_91 : decode cX2_lower 91 = .ok (.iconst 0, 1) := dk_3 (dk_at dksX2_lower_3 20 rfl rfl)
theorem dX2_lower_92 : decode cX2_lower 92 = .ok (.istore 7, 2) := dk_54 7 (dk_at dksX2_lower_3 21 rfl rfl)
theorem dX2_lower_94 : decode cX2_lower 94 = .ok (.iload 7, 2) := dk_21 7 (dk_at dksX2_lower_4 0 rfl rfl)
theorem dX2_lower_96 : decode cX2_lower 96 = .ok (.iconst 1, 1) := dk_4 (dk_at dksX2_lower_4 2 rfl rfl)
theorem dX2_lower_97 : decode cX2_lower 97 = .ok (.aload_n 0, 1) := dk_42 (dk_at dksX2_lower_4 3 rfl rfl)
theorem dX2_lower_98 : decode cX2_lower 98 = .ok (.getfield 96, 3) := dk_180 0 96 (dk_at dksX2_lower_4 4 rfl rfl)
theorem dX2_lower_101 : decode cX2_lower 101 = .ok (.ishl, 1) := dk_120 (dk_at dksX2_lower_4 7 rfl rfl)
theorem dX2_lower_102 : decode cX2_lower 102 = .ok (.if_icmp .ge 108, 3) := dk_162 0 108 (dk_at dksX2_lower_4 8 rfl rfl)
theorem dX2_lower_105 : decode cX2_lower 105 = .ok (.iload 7, 2) := dk_21 7 (dk_at dksX2_lower_4 11 rfl rfl)
theorem dX2_lower_107 : decode cX2_lower 107 = .ok (.iload 4, 2) := dk_21 4 (dk_at dksX2_lower_4 13 rfl rfl)
theorem dX2_lower_109 : decode cX2_lower 109 = .ok (.iconst (-1), 1) := dk_2 (dk_at dksX2_lower_4 15 rfl rfl)
theorem dX2_lower_110 : decode cX2_lower 110 = .ok (.ixor, 1) := dk_130 (dk_at dksX2_lower_4 16 rfl rfl)
theorem dX2_lower_111 : decode cX2_lower 111 = .ok (.iand, 1) := dk_126 (dk_at dksX2_lower_4 17 rfl rfl)
theorem dX2_lower_112 : decode cX2_lower 112 = .ok (.ifCond .ne 92, 3) := dk_154 0 92 (dk_at dksX2_lower_4 18 rfl rfl)
theorem dX2_lower_115 : decode cX2_lower 115 = .ok (.aload_n 0, 1) := dk_42 (dk_at dksX2_lower_4 21 rfl rfl)
theorem dX2_lower_116 : decode cX2_lower 116 = .ok (.iload_n 1, 1) := dk_27 (dk_at dksX2_lower_4 22 rfl rfl)
theorem dX2_lower_117 : decode cX2_lower 117 = .ok (.iload 7, 2) := dk_21 7 (dk_at dksX2_lower_5 0 rfl rfl)
theorem dX2_lower_119 : decode cX2_lower 119 = .ok (.invokevirtual 254, 3) := dk_182 0 254 (dk_at dksX2_lower_5 2 rfl rfl)
theorem dX2_lower_122 : decode cX2_lower 122 = .ok (.iload_n 2, 1) := dk_28 (dk_at dksX2_lower_5 5 rfl rfl)
theorem dX2_lower_123 : decode cX2_lower 123 = .ok (.if_icmp .le 6, 3) := dk_164 0 6 (dk_at dksX2_lower_5 6 rfl rfl)
theorem dX2_lower_126 : decode cX2_lower 126 = .ok (.goto 78, 3) := dk_167 0 78 (dk_at dksX2_lower_5 9 rfl rfl)
theorem dX2_lower_129 : decode cX2_lower 129 = .ok (.aload_n 0, 1) := dk_42 (dk_at dksX2_lower_5 12 rfl rfl)
theorem dX2_lower_130 : decode cX2_lower 130 = .ok (.iload 7, 2) := dk_21 7 (dk_at dksX2_lower_5 13 rfl rfl)
theorem dX2_lower_132 : decode cX2_lower 132 = .ok (.invokevirtual 257, 3) := dk_182 1 1 (dk_at dksX2_lower_5 15 rfl rfl)
theorem dX2_lower_135 : decode cX2_lower 135 = .ok (.istore 8, 2) := dk_54 8 (dk_at dksX2_lower_5 18 rfl rfl)
theorem dX2_lower_137 : decode cX2_lower 137 = .ok (.iload 6, 2) := dk_21 6 (dk_at dksX2_lower_5 20 rfl rfl)
theorem dX2_lower_139 : decode cX2_lower 139 = .ok (.bipush (-2), 2) := dk_16 254 (dk_at dksX2_lower_5 22 rfl rfl)
theorem dX2_lower_141 : decode cX2_lower 141 = .ok (.if_icmp .eq 10, 3) := dk_159 0 10 (dk_at dksX2_lower_6 0 rfl rfl)
theorem dX2_lower_144 : decode cX2_lower 144 = .ok (.iload 8, 2) := dk_21 8 (dk_at dksX2_lower_6 3 rfl rfl)
theorem dX2_lower_146 : decode cX2_lower 146 = .ok (.iload 6, 2) := dk_21 6 (dk_at dksX2_lower_6 5 rfl rfl)
theorem dX2_lower_148 : decode cX2_lower 148 = .ok (.if_icmp .ge 7, 3) := dk_162 0 7 (dk_at dksX2_lower_6 7 rfl rfl)
theorem dX2_lower_151 : decode cX2_lower 151 = .ok (.iload 8, 2) := dk_21 8 (dk_at dksX2_lower_6 10 rfl rfl)
theorem dX2_lower_153 : decode cX2_lower 153 = .ok (.istore 6, 2) := dk_54 6 (dk_at dksX2_lower_6 12 rfl rfl)
theorem dX2_lower_155 : decode cX2_lower 155 = .ok (.iload 5, 2) := dk_21 5 (dk_at dksX2_lower_6 14 rfl rfl)
theorem dX2_lower_157 : decode cX2_lower 157 = .ok (.bipush (-2), 2) := dk_16 254 (dk_at dksX2_lower_6 16 rfl rfl)
theorem dX2_lower_159 : decode cX2_lower 159 = .ok (.if_icmp .ne 7, 3) := dk_160 0 7 (dk_at dksX2_lower_6 18 rfl rfl)
theorem dX2_lower_162 : decode cX2_lower 162 = .ok (.iconst (-1), 1) := dk_2 (dk_at dksX2_lower_6 21 rfl rfl)
theorem dX2_lower_163 : decode cX2_lower 163 = .ok (.goto 14, 3) := dk_167 0 14 (dk_at dksX2_lower_7 0 rfl rfl)
theorem dX2_lower_166 : decode cX2_lower 166 = .ok (.iload 7, 2) := dk_21 7 (dk_at dksX2_lower_7 3 rfl rfl)
theorem dX2_lower_168 : decode cX2_lower 168 = .ok (.invokestatic 260, 3) := dk_184 1 4 (dk_at dksX2_lower_7 5 rfl rfl)
theorem dX2_lower_171 : decode cX2_lower 171 = .ok (.iload 5, 2) := dk_21 5 (dk_at dksX2_lower_7 8 rfl rfl)
theorem dX2_lower_173 : decode cX2_lower 173 = .ok (.invokestatic 260, 3) := dk_184 1 4 (dk_at dksX2_lower_7 10 rfl rfl)
theorem dX2_lower_176 : decode cX2_lower 176 = .ok (.isub, 1) := dk_100 (dk_at dksX2_lower_7 13 rfl rfl)
theorem dX2_lower_177 : decode cX2_lower 177 = .ok (.istore 9, 2) := dk_54 9 (dk_at dksX2_lower_7 14 rfl rfl)
theorem dX2_lower_179 : decode cX2_lower 179 = .ok (.iload 9, 2) := dk_21 9 (dk_at dksX2_lower_7 16 rfl rfl)
theorem dX2_lower_181 : decode cX2_lower 181 = .ok (.ifCond .lt 19, 3) := dk_155 0 19 (dk_at dksX2_lower_7 18 rfl rfl)
theorem dX2_lower_184 : decode cX2_lower 184 = .ok (.iload 9, 2) := dk_21 9 (dk_at dksX2_lower_7 21 rfl rfl)
theorem dX2_lower_186 : decode cX2_lower 186 = .ok (.ifCond .ne 18, 3) := dk_154 0 18 (dk_at dksX2_lower_8 0 rfl rfl)
theorem dX2_lower_189 : decode cX2_lower 189 = .ok (.iload 8, 2) := dk_21 8 (dk_at dksX2_lower_8 3 rfl rfl)
theorem dX2_lower_191 : decode cX2_lower 191 = .ok (.aload_n 0, 1) := dk_42 (dk_at dksX2_lower_8 5 rfl rfl)
theorem dX2_lower_192 : decode cX2_lower 192 = .ok (.iload 5, 2) := dk_21 5 (dk_at dksX2_lower_8 6 rfl rfl)
theorem dX2_lower_194 : decode cX2_lower 194 = .ok (.invokevirtual 257, 3) := dk_182 1 1 (dk_at dksX2_lower_8 8 rfl rfl)
theorem dX2_lower_197 : decode cX2_lower 197 = .ok (.if_icmp .ge 7, 3) := dk_162 0 7 (dk_at dksX2_lower_8 11 rfl rfl)
theorem dX2_lower_200 : decode cX2_lower 200 = .ok (.iload 7, 2) := dk_21 7 (dk_at dksX2_lower_8 14 rfl rfl)
theorem dX2_lower_202 : decode cX2_lower 202 = .ok (.istore 5, 2) := dk_54 5 (dk_at dksX2_lower_8 16 rfl rfl)
theorem dX2_lower_204 : decode cX2_lower 204 = .ok (.iinc 7 1, 3) := dk_132 7 1 (dk_at dksX2_lower_8 18 rfl rfl)
theorem dX2_lower_207 : decode cX2_lower 207 = .ok (.goto (-113), 3) := dk_167 255 143 (dk_at dksX2_lower_8 21 rfl rfl)
theorem dX2_lower_210 : decode cX2_lower 210 = .ok (.iload_n 3, 1) := dk_29 (dk_at dksX2_lower_9 0 rfl rfl)
theorem dX2_lower_211 : decode cX2_lower 211 = .ok (.iconst 2, 1) := dk_5 (dk_at dksX2_lower_9 1 rfl rfl)
theorem dX2_lower_212 : decode cX2_lower 212 = .ok (.if_icmp .ne 8, 3) := dk_160 0 8 (dk_at dksX2_lower_9 2 rfl rfl)
theorem dX2_lower_215 : decode cX2_lower 215 = .ok (.iload 6, 2) := dk_21 6 (dk_at dksX2_lower_9 5 rfl rfl)
theorem dX2_lower_217 : decode cX2_lower 217 = .ok (.goto 25, 3) := dk_167 0 25 (dk_at dksX2_lower_9 7 rfl rfl)
theorem dX2_lower_220 : decode cX2_lower 220 = .ok (.iload_n 3, 1) := dk_29 (dk_at dksX2_lower_9 10 rfl rfl)
theorem dX2_lower_221 : decode cX2_lower 221 = .ok (.iconst 1, 1) := dk_4 (dk_at dksX2_lower_9 11 rfl rfl)
theorem dX2_lower_222 : decode cX2_lower 222 = .ok (.if_icmp .eq 10, 3) := dk_159 0 10 (dk_at dksX2_lower_9 12 rfl rfl)
theorem dX2_lower_225 : decode cX2_lower 225 = .ok (.iload 5, 2) := dk_21 5 (dk_at dksX2_lower_9 15 rfl rfl)
theorem dX2_lower_227 : decode cX2_lower 227 = .ok (.bipush (-2), 2) := dk_16 254 (dk_at dksX2_lower_9 17 rfl rfl)
theorem dX2_lower_229 : decode cX2_lower 229 = .ok (.if_icmp .ne 8, 3) := dk_160 0 8 (dk_at dksX2_lower_9 19 rfl rfl)
theorem dX2_lower_232 : decode cX2_lower 232 = .ok (.iload 5, 2) := dk_21 5 (dk_at dksX2_lower_9 22 rfl rfl)
theorem dX2_lower_234 : decode cX2_lower 234 = .ok (.goto 8, 3) := dk_167 0 8 (dk_at dksX2_lower_10 0 rfl rfl)
theorem dX2_lower_237 : decode cX2_lower 237 = .ok (.iload 5, 2) := dk_21 5 (dk_at dksX2_lower_10 3 rfl rfl)
theorem dX2_lower_239 : decode cX2_lower 239 = .ok (.invokestatic 260, 3) := dk_184 1 4 (dk_at dksX2_lower_10 5 rfl rfl)
theorem dX2_lower_242 : decode cX2_lower 242 = .ok (.ireturn, 1) := dk_172 (dk_at dksX2_lower_10 8 rfl rfl)
def dkwX2_highWithout_3 : List UInt8 := [96, 3, 79, 132, 4, 1, 167, 255, 223, 29, 172]
abbrev dktX2_highWithout_3 : List UInt8 := dkwX2_highWithout_3 ++ []
def dkwX2_highWithout_2 : List UInt8 := [180, 0, 96, 162, 0, 30, 28, 21, 4, 122, 4, 126, 4, 160, 0, 14, 42, 180, 0, 15, 16, 60, 21, 4]
abbrev dktX2_highWithout_2 : List UInt8 := dkwX2_highWithout_2 ++ dktX2_highWithout_3
def dkwX2_highWithout_1 : List UInt8 := [16, 60, 29, 96, 4, 79, 132, 3, 1, 167, 255, 226, 42, 27, 182, 0, 242, 62, 3, 54, 4, 21, 4, 42]
abbrev dktX2_highWithout_1 : List UInt8 := dkwX2_highWithout_1 ++ dktX2_highWithout_2
def dkwX2_highWithout_0 : List UInt8 := [3, 62, 29, 42, 180, 0, 96, 162, 0, 28, 28, 29, 122, 4, 126, 4, 160, 0, 13, 42, 180, 0, 15]
abbrev dktX2_highWithout_0 : List UInt8 := dkwX2_highWithout_0 ++ dktX2_highWithout_1
theorem dksX2_highWithout_0 : cX2_highWithout.data.toList.drop 0 = dktX2_highWithout_0 := by decide +kernel
theorem dksX2_highWithout_1 : cX2_highWithout.data.toList.drop 23 = dktX2_highWithout_1 := dk_seg dksX2_highWithout_0 23 rfl rfl
theorem dksX2_highWithout_2 : cX2_highWithout.data.toList.drop 47 = dktX2_highWithout_2 := dk_seg dksX2_highWithout_1 24 rfl rfl
theorem dksX2_highWithout_3 : cX2_highWithout.data.toList.drop 71 = dktX2_highWithout_3 := dk_seg dksX2_highWithout_2 24 rfl rfl
theorem dX2_highWithout_0 : decode cX2_highWithout 0 = .ok (.iconst 0, 1) := dk_3 (dk_at dksX2_highWithout_0 0 rfl rfl)
theorem dX2_highWithout_1 : decode cX2_highWithout 1 = .ok (.istore_n 3, 1) := dk_62 (dk_at dksX2_highWithout_0 1 rfl rfl)
theorem dX2_highWithout_2 : decode cX2_highWithout 2 = .ok (.iload_n 3, 1) := dk_29 (dk_at dksX2_highWithout_0 2 rfl rfl)
theorem dX2_highWithout_3 : decode cX2_highWithout 3 = .ok (.aload_n 0, 1) := dk_42 (dk_at dksX2_highWithout_0 3 rfl rfl)
theorem dX2_highWithout_4 : decode cX2_highWithout 4 = .ok (.getfield 96, 3) := dk_180 0 96 (dk_at dksX2_highWithout_0 4 rfl rfl)
theorem dX2_highWithout_7 : decode cX2_highWithout 7 = .ok (.if_icmp .ge 28, 3) := dk_162 0 28 (dk_at dksX2_highWithout_0 7 rfl rfl)
theorem dX2_highWithout_10 : decode cX2_highWithout 10 = .ok (.iload_n 2, 1) := dk_28 (dk_at dksX2_highWithout_0 10 rfl rfl)
theorem dX2_highWithout_11 : decode cX2_highWithout 11 = .ok (.iload_n 3, 1) := dk_29 (dk_at dksX2_highWithout_0 11 rfl rfl)
theorem dX2_highWithout_12 : decode cX2_highWithout 12 = .ok (.ishr, 1) := dk_122 (dk_at dksX2_highWithout_0 12 rfl rfl)
theorem dX2_highWithout_13 : decode cX2_highWithout 13 = .ok (.iconst 1, 1) := dk_4 (dk_at dksX2_highWithout_0 13 rfl rfl)
theorem dX2_highWithout_14 : decode cX2_highWithout 14 = .ok (.iand, 1) := dk_126 (dk_at dksX2_highWithout_0 14 rfl rfl)
theorem dX2_highWithout_15 : decode cX2_highWithout 15 = .ok (.iconst 1, 1) := dk_4 (dk_at dksX2_highWithout_0 15 rfl rfl)
theorem dX2_highWithout_16 : decode cX2_highWithout 16 = .ok (.if_icmp .ne 13, 3) := dk_160 0 13 (dk_at dksX2_highWithout_0 16 rfl rfl)
theorem dX2_highWithout_19 : decode cX2_highWithout 19 = .ok (.aload_n 0, 1) := dk_42 (dk_at dksX2_highWithout_0 19 rfl rfl)
theorem dX2_highWithout_20 : decode cX2_highWithout 20 = .ok (.getfield 15, 3) := dk_180 0 15 (dk_at dksX2_highWithout_0 20 rfl rfl)
theorem dX2_highWithout_23 : decode cX2_highWithout 23 = .ok (.bipush 60, 2) := dk_16 60 (dk_at dksX2_highWithout_1 0 rfl rfl)
theorem dX2_highWithout_25 : decode cX2_highWithout 25 = .ok (.iload_n 3, 1) := dk_29 (dk_at dksX2_highWithout_1 2 rfl rfl)
theorem dX2_highWithout_26 : decode cX2_highWithout 26 = .ok (.iadd, 1) := dk_96 (dk_at dksX2_highWithout_1 3 rfl rfl)
theorem dX2_highWithout_27 : decode cX2_highWithout 27 = .ok (.iconst 1, 1) := dk_4 (dk_at dksX2_highWithout_1 4 rfl rfl)
theorem dX2_highWithout_28 : decode cX2_highWithout 28 = .ok (.iastore, 1) := dk_79 (dk_at dksX2_highWithout_1 5 rfl rfl)
theorem dX2_highWithout_29 : decode cX2_highWithout 29 = .ok (.iinc 3 1, 3) := dk_132 3 1 (dk_at dksX2_highWithout_1 6 rfl rfl)
theorem dX2_highWithout_32 : decode cX2_highWithout 32 = .ok (.goto (-30), 3) := dk_167 255 226 (dk_at dksX2_highWithout_1 9 rfl rfl)
theorem dX2_highWithout_35 : decode cX2_highWithout 35 = .ok (.aload_n 0, 1) := dk_42 (dk_at dksX2_highWithout_1 12 rfl rfl)
theorem dX2_highWithout_36 : decode cX2_highWithout 36 = .ok (.iload_n 1, 1) := dk_27 (dk_at dksX2_highWithout_1 13 rfl rfl)
theorem dX2_highWithout_37 : decode cX2_highWithout 37 = .ok (.invokevirtual 242, 3) := dk_182 0 242 (dk_at dksX2_highWithout_1 14 rfl rfl)
theorem dX2_highWithout_40 : decode cX2_highWithout 40 = .ok (.istore_n 3, 1) := dk_62 (dk_at dksX2_highWithout_1 17 rfl rfl)
theorem dX2_highWithout_41 : decode cX2_highWithout 41 = .ok (.iconst 0, 1) := dk_3 (dk_at dksX2_highWithout_1 18 rfl rfl)
theorem dX2_highWithout_42 : decode cX2_highWithout 42 = .ok (.istore 4, 2) := dk_54 4 (dk_at dksX2_highWithout_1 19 rfl rfl)
theorem dX2_highWithout_44 : decode cX2_highWithout 44 = .ok (.iload 4, 2) := dk_21 4 (dk_at dksX2_highWithout_1 21 rfl rfl)
theorem dX2_highWithout_46 : decode cX2_highWithout 46 = .ok (.aload_n 0, 1) := dk_42 (dk_at dksX2_highWithout_1 23 rfl rfl)
theorem dX2_highWithout_47 : decode cX2_highWithout 47 = .ok (.getfield 96, 3) := dk_180 0 96 (dk_at dksX2_highWithout_2 0 rfl rfl)
theorem dX2_highWithout_50 : decode cX2_highWithout 50 = .ok (.if_icmp .ge 30, 3) := dk_162 0 30 (dk_at dksX2_highWithout_2 3 rfl rfl)
theorem dX2_highWithout_53 : decode cX2_highWithout 53 = .ok (.iload_n 2, 1) := dk_28 (dk_at dksX2_highWithout_2 6 rfl rfl)
theorem dX2_highWithout_54 : decode cX2_highWithout 54 = .ok (.iload 4, 2) := dk_21 4 (dk_at dksX2_highWithout_2 7 rfl rfl)
theorem dX2_highWithout_56 : decode cX2_highWithout 56 = .ok (.ishr, 1) := dk_122 (dk_at dksX2_highWithout_2 9 rfl rfl)
theorem dX2_highWithout_57 : decode cX2_highWithout 57 = .ok (.iconst 1, 1) := dk_4 (dk_at dksX2_highWithout_2 10 rfl rfl)
theorem dX2_highWithout_58 : decode cX2_highWithout 58 = .ok (.iand, 1) := dk_126 (dk_at dksX2_highWithout_2 11 rfl rfl)
theorem dX2_highWithout_59 : decode cX2_highWithout 59 = .ok (.iconst 1, 1) := dk_4 (dk_at dksX2_highWithout_2 12 rfl rfl)
theorem dX2_highWithout_60 : decode cX2_highWithout 60 = .ok (.if_icmp .ne 14, 3) := dk_160 0 14 (dk_at dksX2_highWithout_2 13 rfl rfl)
theorem dX2_highWithout_63 : decode cX2_highWithout 63 = .ok (.aload_n 0, 1) := dk_42 (dk_at dksX2_highWithout_2 16 rfl rfl)
theorem dX2_highWithout_64 : decode cX2_highWithout 64 = .ok (.getfield 15, 3) := dk_180 0 15 (dk_at dksX2_highWithout_2 17 rfl rfl)
theorem dX2_highWithout_67 : decode cX2_highWithout 67 = .ok (.bipush 60, 2) := dk_16 60 (dk_at dksX2_highWithout_2 20 rfl rfl)
theorem dX2_highWithout_69 : decode cX2_highWithout 69 = .ok (.iload 4, 2) := dk_21 4 (dk_at dksX2_highWithout_2 22 rfl rfl)
theorem dX2_highWithout_71 : decode cX2_highWithout 71 = .ok (.iadd, 1) := dk_96 (dk_at dksX2_highWithout_3 0 rfl rfl)
theorem dX2_highWithout_72 : decode cX2_highWithout 72 = .ok (.iconst 0, 1) := dk_3 (dk_at dksX2_highWithout_3 1 rfl rfl)
theorem dX2_highWithout_73 : decode cX2_highWithout 73 = .ok (.iastore, 1) := dk_79 (dk_at dksX2_highWithout_3 2 rfl rfl)
theorem dX2_highWithout_74 : decode cX2_highWithout 74 = .ok (.iinc 4 1, 3) := dk_132 4 1 (dk_at dksX2_highWithout_3 3 rfl rfl)
theorem dX2_highWithout_77 : decode cX2_highWithout 77 = .ok (.goto (-33), 3) := dk_167 255 223 (dk_at dksX2_highWithout_3 6 rfl rfl)
theorem dX2_highWithout_80 : decode cX2_highWithout 80 = .ok (.iload_n 3, 1) := dk_29 (dk_at dksX2_highWithout_3 9 rfl rfl)
theorem dX2_highWithout_81 : decode cX2_highWithout 81 = .ok (.ireturn, 1) := dk_172 (dk_at dksX2_highWithout_3 10 rfl rfl)
def dkwX2_worthOf_1 : List UInt8 := [180, 0, 15, 29, 46, 96, 61, 132, 3, 1, 167, 255, 227, 28, 172]
abbrev dktX2_worthOf_1 : List UInt8 := dkwX2_worthOf_1 ++ []
def dkwX2_worthOf_0 : List UInt8 := [3, 61, 3, 62, 29, 42, 180, 0, 96, 162, 0, 27, 27, 29, 122, 4, 126, 4, 160, 0, 12, 28, 42]
abbrev dktX2_worthOf_0 : List UInt8 := dkwX2_worthOf_0 ++ dktX2_worthOf_1
theorem dksX2_worthOf_0 : cX2_worthOf.data.toList.drop 0 = dktX2_worthOf_0 := by decide +kernel
theorem dksX2_worthOf_1 : cX2_worthOf.data.toList.drop 23 = dktX2_worthOf_1 := dk_seg dksX2_worthOf_0 23 rfl rfl
theorem dX2_worthOf_0 : decode cX2_worthOf 0 = .ok (.iconst 0, 1) := dk_3 (dk_at dksX2_worthOf_0 0 rfl rfl)
theorem dX2_worthOf_1 : decode cX2_worthOf 1 = .ok (.istore_n 2, 1) := dk_61 (dk_at dksX2_worthOf_0 1 rfl rfl)
theorem dX2_worthOf_2 : decode cX2_worthOf 2 = .ok (.iconst 0, 1) := dk_3 (dk_at dksX2_worthOf_0 2 rfl rfl)
theorem dX2_worthOf_3 : decode cX2_worthOf 3 = .ok (.istore_n 3, 1) := dk_62 (dk_at dksX2_worthOf_0 3 rfl rfl)
theorem dX2_worthOf_4 : decode cX2_worthOf 4 = .ok (.iload_n 3, 1) := dk_29 (dk_at dksX2_worthOf_0 4 rfl rfl)
theorem dX2_worthOf_5 : decode cX2_worthOf 5 = .ok (.aload_n 0, 1) := dk_42 (dk_at dksX2_worthOf_0 5 rfl rfl)
theorem dX2_worthOf_6 : decode cX2_worthOf 6 = .ok (.getfield 96, 3) := dk_180 0 96 (dk_at dksX2_worthOf_0 6 rfl rfl)
theorem dX2_worthOf_9 : decode cX2_worthOf 9 = .ok (.if_icmp .ge 27, 3) := dk_162 0 27 (dk_at dksX2_worthOf_0 9 rfl rfl)
theorem dX2_worthOf_12 : decode cX2_worthOf 12 = .ok (.iload_n 1, 1) := dk_27 (dk_at dksX2_worthOf_0 12 rfl rfl)
theorem dX2_worthOf_13 : decode cX2_worthOf 13 = .ok (.iload_n 3, 1) := dk_29 (dk_at dksX2_worthOf_0 13 rfl rfl)
theorem dX2_worthOf_14 : decode cX2_worthOf 14 = .ok (.ishr, 1) := dk_122 (dk_at dksX2_worthOf_0 14 rfl rfl)
theorem dX2_worthOf_15 : decode cX2_worthOf 15 = .ok (.iconst 1, 1) := dk_4 (dk_at dksX2_worthOf_0 15 rfl rfl)
theorem dX2_worthOf_16 : decode cX2_worthOf 16 = .ok (.iand, 1) := dk_126 (dk_at dksX2_worthOf_0 16 rfl rfl)
theorem dX2_worthOf_17 : decode cX2_worthOf 17 = .ok (.iconst 1, 1) := dk_4 (dk_at dksX2_worthOf_0 17 rfl rfl)
theorem dX2_worthOf_18 : decode cX2_worthOf 18 = .ok (.if_icmp .ne 12, 3) := dk_160 0 12 (dk_at dksX2_worthOf_0 18 rfl rfl)
theorem dX2_worthOf_21 : decode cX2_worthOf 21 = .ok (.iload_n 2, 1) := dk_28 (dk_at dksX2_worthOf_0 21 rfl rfl)
theorem dX2_worthOf_22 : decode cX2_worthOf 22 = .ok (.aload_n 0, 1) := dk_42 (dk_at dksX2_worthOf_0 22 rfl rfl)
theorem dX2_worthOf_23 : decode cX2_worthOf 23 = .ok (.getfield 15, 3) := dk_180 0 15 (dk_at dksX2_worthOf_1 0 rfl rfl)
theorem dX2_worthOf_26 : decode cX2_worthOf 26 = .ok (.iload_n 3, 1) := dk_29 (dk_at dksX2_worthOf_1 3 rfl rfl)
theorem dX2_worthOf_27 : decode cX2_worthOf 27 = .ok (.iaload, 1) := dk_46 (dk_at dksX2_worthOf_1 4 rfl rfl)
theorem dX2_worthOf_28 : decode cX2_worthOf 28 = .ok (.iadd, 1) := dk_96 (dk_at dksX2_worthOf_1 5 rfl rfl)
theorem dX2_worthOf_29 : decode cX2_worthOf 29 = .ok (.istore_n 2, 1) := dk_61 (dk_at dksX2_worthOf_1 6 rfl rfl)
theorem dX2_worthOf_30 : decode cX2_worthOf 30 = .ok (.iinc 3 1, 3) := dk_132 3 1 (dk_at dksX2_worthOf_1 7 rfl rfl)
theorem dX2_worthOf_33 : decode cX2_worthOf 33 = .ok (.goto (-29), 3) := dk_167 255 227 (dk_at dksX2_worthOf_1 10 rfl rfl)
theorem dX2_worthOf_36 : decode cX2_worthOf 36 = .ok (.iload_n 2, 1) := dk_28 (dk_at dksX2_worthOf_1 13 rfl rfl)
theorem dX2_worthOf_37 : decode cX2_worthOf 37 = .ok (.ireturn, 1) := dk_172 (dk_at dksX2_worthOf_1 14 rfl rfl)
def dkwX2_holds_2 : List UInt8 := [160, 0, 11, 42, 27, 182, 1, 15, 167, 0, 8, 42, 27, 182, 1, 18, 172]
abbrev dktX2_holds_2 : List UInt8 := dkwX2_holds_2 ++ []
def dkwX2_holds_1 : List UInt8 := [42, 27, 182, 1, 9, 167, 0, 34, 28, 4, 160, 0, 11, 42, 27, 182, 1, 12, 167, 0, 21, 28, 5]
abbrev dktX2_holds_1 : List UInt8 := dkwX2_holds_1 ++ dktX2_holds_2
def dkwX2_holds_0 : List UInt8 := [42, 27, 182, 0, 99, 153, 0, 12, 28, 3, 6, 184, 0, 92, 154, 0, 6, 18, 137, 172, 28, 154, 0, 11]
abbrev dktX2_holds_0 : List UInt8 := dkwX2_holds_0 ++ dktX2_holds_1
theorem dksX2_holds_0 : cX2_holds.data.toList.drop 0 = dktX2_holds_0 := by decide +kernel
theorem dksX2_holds_1 : cX2_holds.data.toList.drop 24 = dktX2_holds_1 := dk_seg dksX2_holds_0 24 rfl rfl
theorem dksX2_holds_2 : cX2_holds.data.toList.drop 47 = dktX2_holds_2 := dk_seg dksX2_holds_1 23 rfl rfl
theorem dX2_holds_0 : decode cX2_holds 0 = .ok (.aload_n 0, 1) := dk_42 (dk_at dksX2_holds_0 0 rfl rfl)
theorem dX2_holds_1 : decode cX2_holds 1 = .ok (.iload_n 1, 1) := dk_27 (dk_at dksX2_holds_0 1 rfl rfl)
theorem dX2_holds_2 : decode cX2_holds 2 = .ok (.invokevirtual 99, 3) := dk_182 0 99 (dk_at dksX2_holds_0 2 rfl rfl)
theorem dX2_holds_5 : decode cX2_holds 5 = .ok (.ifCond .eq 12, 3) := dk_153 0 12 (dk_at dksX2_holds_0 5 rfl rfl)
theorem dX2_holds_8 : decode cX2_holds 8 = .ok (.iload_n 2, 1) := dk_28 (dk_at dksX2_holds_0 8 rfl rfl)
theorem dX2_holds_9 : decode cX2_holds 9 = .ok (.iconst 0, 1) := dk_3 (dk_at dksX2_holds_0 9 rfl rfl)
theorem dX2_holds_10 : decode cX2_holds 10 = .ok (.iconst 3, 1) := dk_6 (dk_at dksX2_holds_0 10 rfl rfl)
theorem dX2_holds_11 : decode cX2_holds 11 = .ok (.invokestatic 92, 3) := dk_184 0 92 (dk_at dksX2_holds_0 11 rfl rfl)
theorem dX2_holds_14 : decode cX2_holds 14 = .ok (.ifCond .ne 6, 3) := dk_154 0 6 (dk_at dksX2_holds_0 14 rfl rfl)
theorem dX2_holds_17 : decode cX2_holds 17 = .ok (.ldc 137, 2) := dk_18 137 (dk_at dksX2_holds_0 17 rfl rfl)
theorem dX2_holds_19 : decode cX2_holds 19 = .ok (.ireturn, 1) := dk_172 (dk_at dksX2_holds_0 19 rfl rfl)
theorem dX2_holds_20 : decode cX2_holds 20 = .ok (.iload_n 2, 1) := dk_28 (dk_at dksX2_holds_0 20 rfl rfl)
theorem dX2_holds_21 : decode cX2_holds 21 = .ok (.ifCond .ne 11, 3) := dk_154 0 11 (dk_at dksX2_holds_0 21 rfl rfl)
theorem dX2_holds_24 : decode cX2_holds 24 = .ok (.aload_n 0, 1) := dk_42 (dk_at dksX2_holds_1 0 rfl rfl)
theorem dX2_holds_25 : decode cX2_holds 25 = .ok (.iload_n 1, 1) := dk_27 (dk_at dksX2_holds_1 1 rfl rfl)
theorem dX2_holds_26 : decode cX2_holds 26 = .ok (.invokevirtual 265, 3) := dk_182 1 9 (dk_at dksX2_holds_1 2 rfl rfl)
theorem dX2_holds_29 : decode cX2_holds 29 = .ok (.goto 34, 3) := dk_167 0 34 (dk_at dksX2_holds_1 5 rfl rfl)
theorem dX2_holds_32 : decode cX2_holds 32 = .ok (.iload_n 2, 1) := dk_28 (dk_at dksX2_holds_1 8 rfl rfl)
theorem dX2_holds_33 : decode cX2_holds 33 = .ok (.iconst 1, 1) := dk_4 (dk_at dksX2_holds_1 9 rfl rfl)
theorem dX2_holds_34 : decode cX2_holds 34 = .ok (.if_icmp .ne 11, 3) := dk_160 0 11 (dk_at dksX2_holds_1 10 rfl rfl)
theorem dX2_holds_37 : decode cX2_holds 37 = .ok (.aload_n 0, 1) := dk_42 (dk_at dksX2_holds_1 13 rfl rfl)
theorem dX2_holds_38 : decode cX2_holds 38 = .ok (.iload_n 1, 1) := dk_27 (dk_at dksX2_holds_1 14 rfl rfl)
theorem dX2_holds_39 : decode cX2_holds 39 = .ok (.invokevirtual 268, 3) := dk_182 1 12 (dk_at dksX2_holds_1 15 rfl rfl)
theorem dX2_holds_42 : decode cX2_holds 42 = .ok (.goto 21, 3) := dk_167 0 21 (dk_at dksX2_holds_1 18 rfl rfl)
theorem dX2_holds_45 : decode cX2_holds 45 = .ok (.iload_n 2, 1) := dk_28 (dk_at dksX2_holds_1 21 rfl rfl)
theorem dX2_holds_46 : decode cX2_holds 46 = .ok (.iconst 2, 1) := dk_5 (dk_at dksX2_holds_1 22 rfl rfl)
theorem dX2_holds_47 : decode cX2_holds 47 = .ok (.if_icmp .ne 11, 3) := dk_160 0 11 (dk_at dksX2_holds_2 0 rfl rfl)
theorem dX2_holds_50 : decode cX2_holds 50 = .ok (.aload_n 0, 1) := dk_42 (dk_at dksX2_holds_2 3 rfl rfl)
theorem dX2_holds_51 : decode cX2_holds 51 = .ok (.iload_n 1, 1) := dk_27 (dk_at dksX2_holds_2 4 rfl rfl)
theorem dX2_holds_52 : decode cX2_holds 52 = .ok (.invokevirtual 271, 3) := dk_182 1 15 (dk_at dksX2_holds_2 5 rfl rfl)
theorem dX2_holds_55 : decode cX2_holds 55 = .ok (.goto 8, 3) := dk_167 0 8 (dk_at dksX2_holds_2 8 rfl rfl)
theorem dX2_holds_58 : decode cX2_holds 58 = .ok (.aload_n 0, 1) := dk_42 (dk_at dksX2_holds_2 11 rfl rfl)
theorem dX2_holds_59 : decode cX2_holds 59 = .ok (.iload_n 1, 1) := dk_27 (dk_at dksX2_holds_2 12 rfl rfl)
theorem dX2_holds_60 : decode cX2_holds 60 = .ok (.invokevirtual 274, 3) := dk_182 1 18 (dk_at dksX2_holds_2 13 rfl rfl)
theorem dX2_holds_63 : decode cX2_holds 63 = .ok (.ireturn, 1) := dk_172 (dk_at dksX2_holds_2 16 rfl rfl)
def dkwX2_holder_1 : List UInt8 := [167, 0, 9, 42, 180, 0, 21, 28, 46, 172]
abbrev dktX2_holder_1 : List UInt8 := dkwX2_holder_1 ++ []
def dkwX2_holder_0 : List UInt8 := [42, 27, 182, 0, 239, 61, 28, 16, 254, 159, 0, 12, 42, 180, 0, 21, 28, 46, 156, 0, 8, 16, 254]
abbrev dktX2_holder_0 : List UInt8 := dkwX2_holder_0 ++ dktX2_holder_1
theorem dksX2_holder_0 : cX2_holder.data.toList.drop 0 = dktX2_holder_0 := by decide +kernel
theorem dksX2_holder_1 : cX2_holder.data.toList.drop 23 = dktX2_holder_1 := dk_seg dksX2_holder_0 23 rfl rfl
theorem dX2_holder_0 : decode cX2_holder 0 = .ok (.aload_n 0, 1) := dk_42 (dk_at dksX2_holder_0 0 rfl rfl)
theorem dX2_holder_1 : decode cX2_holder 1 = .ok (.iload_n 1, 1) := dk_27 (dk_at dksX2_holder_0 1 rfl rfl)
theorem dX2_holder_2 : decode cX2_holder 2 = .ok (.invokevirtual 239, 3) := dk_182 0 239 (dk_at dksX2_holder_0 2 rfl rfl)
theorem dX2_holder_5 : decode cX2_holder 5 = .ok (.istore_n 2, 1) := dk_61 (dk_at dksX2_holder_0 5 rfl rfl)
theorem dX2_holder_6 : decode cX2_holder 6 = .ok (.iload_n 2, 1) := dk_28 (dk_at dksX2_holder_0 6 rfl rfl)
theorem dX2_holder_7 : decode cX2_holder 7 = .ok (.bipush (-2), 2) := dk_16 254 (dk_at dksX2_holder_0 7 rfl rfl)
theorem dX2_holder_9 : decode cX2_holder 9 = .ok (.if_icmp .eq 12, 3) := dk_159 0 12 (dk_at dksX2_holder_0 9 rfl rfl)
theorem dX2_holder_12 : decode cX2_holder 12 = .ok (.aload_n 0, 1) := dk_42 (dk_at dksX2_holder_0 12 rfl rfl)
theorem dX2_holder_13 : decode cX2_holder 13 = .ok (.getfield 21, 3) := dk_180 0 21 (dk_at dksX2_holder_0 13 rfl rfl)
theorem dX2_holder_16 : decode cX2_holder 16 = .ok (.iload_n 2, 1) := dk_28 (dk_at dksX2_holder_0 16 rfl rfl)
theorem dX2_holder_17 : decode cX2_holder 17 = .ok (.iaload, 1) := dk_46 (dk_at dksX2_holder_0 17 rfl rfl)
theorem dX2_holder_18 : decode cX2_holder 18 = .ok (.ifCond .ge 8, 3) := dk_156 0 8 (dk_at dksX2_holder_0 18 rfl rfl)
theorem dX2_holder_21 : decode cX2_holder 21 = .ok (.bipush (-2), 2) := dk_16 254 (dk_at dksX2_holder_0 21 rfl rfl)
theorem dX2_holder_23 : decode cX2_holder 23 = .ok (.goto 9, 3) := dk_167 0 9 (dk_at dksX2_holder_1 0 rfl rfl)
theorem dX2_holder_26 : decode cX2_holder 26 = .ok (.aload_n 0, 1) := dk_42 (dk_at dksX2_holder_1 3 rfl rfl)
theorem dX2_holder_27 : decode cX2_holder 27 = .ok (.getfield 21, 3) := dk_180 0 21 (dk_at dksX2_holder_1 4 rfl rfl)
theorem dX2_holder_30 : decode cX2_holder 30 = .ok (.iload_n 2, 1) := dk_28 (dk_at dksX2_holder_1 7 rfl rfl)
theorem dX2_holder_31 : decode cX2_holder 31 = .ok (.iaload, 1) := dk_46 (dk_at dksX2_holder_1 8 rfl rfl)
theorem dX2_holder_32 : decode cX2_holder 32 = .ok (.ireturn, 1) := dk_172 (dk_at dksX2_holder_1 9 rfl rfl)
def dkwX2_ringOf_1 : List UInt8 := [160, 0, 5, 29, 172, 42, 28, 182, 1, 9, 61, 132, 3, 1, 167, 255, 226, 16, 254, 172]
abbrev dktX2_ringOf_1 : List UInt8 := dkwX2_ringOf_1 ++ []
def dkwX2_ringOf_0 : List UInt8 := [42, 27, 182, 1, 9, 61, 4, 62, 29, 42, 180, 0, 88, 163, 0, 28, 28, 16, 254, 159, 0, 22, 28, 27]
abbrev dktX2_ringOf_0 : List UInt8 := dkwX2_ringOf_0 ++ dktX2_ringOf_1
theorem dksX2_ringOf_0 : cX2_ringOf.data.toList.drop 0 = dktX2_ringOf_0 := by decide +kernel
theorem dksX2_ringOf_1 : cX2_ringOf.data.toList.drop 24 = dktX2_ringOf_1 := dk_seg dksX2_ringOf_0 24 rfl rfl
theorem dX2_ringOf_0 : decode cX2_ringOf 0 = .ok (.aload_n 0, 1) := dk_42 (dk_at dksX2_ringOf_0 0 rfl rfl)
theorem dX2_ringOf_1 : decode cX2_ringOf 1 = .ok (.iload_n 1, 1) := dk_27 (dk_at dksX2_ringOf_0 1 rfl rfl)
theorem dX2_ringOf_2 : decode cX2_ringOf 2 = .ok (.invokevirtual 265, 3) := dk_182 1 9 (dk_at dksX2_ringOf_0 2 rfl rfl)
theorem dX2_ringOf_5 : decode cX2_ringOf 5 = .ok (.istore_n 2, 1) := dk_61 (dk_at dksX2_ringOf_0 5 rfl rfl)
theorem dX2_ringOf_6 : decode cX2_ringOf 6 = .ok (.iconst 1, 1) := dk_4 (dk_at dksX2_ringOf_0 6 rfl rfl)
theorem dX2_ringOf_7 : decode cX2_ringOf 7 = .ok (.istore_n 3, 1) := dk_62 (dk_at dksX2_ringOf_0 7 rfl rfl)
theorem dX2_ringOf_8 : decode cX2_ringOf 8 = .ok (.iload_n 3, 1) := dk_29 (dk_at dksX2_ringOf_0 8 rfl rfl)
theorem dX2_ringOf_9 : decode cX2_ringOf 9 = .ok (.aload_n 0, 1) := dk_42 (dk_at dksX2_ringOf_0 9 rfl rfl)
theorem dX2_ringOf_10 : decode cX2_ringOf 10 = .ok (.getfield 88, 3) := dk_180 0 88 (dk_at dksX2_ringOf_0 10 rfl rfl)
theorem dX2_ringOf_13 : decode cX2_ringOf 13 = .ok (.if_icmp .gt 28, 3) := dk_163 0 28 (dk_at dksX2_ringOf_0 13 rfl rfl)
theorem dX2_ringOf_16 : decode cX2_ringOf 16 = .ok (.iload_n 2, 1) := dk_28 (dk_at dksX2_ringOf_0 16 rfl rfl)
theorem dX2_ringOf_17 : decode cX2_ringOf 17 = .ok (.bipush (-2), 2) := dk_16 254 (dk_at dksX2_ringOf_0 17 rfl rfl)
theorem dX2_ringOf_19 : decode cX2_ringOf 19 = .ok (.if_icmp .eq 22, 3) := dk_159 0 22 (dk_at dksX2_ringOf_0 19 rfl rfl)
theorem dX2_ringOf_22 : decode cX2_ringOf 22 = .ok (.iload_n 2, 1) := dk_28 (dk_at dksX2_ringOf_0 22 rfl rfl)
theorem dX2_ringOf_23 : decode cX2_ringOf 23 = .ok (.iload_n 1, 1) := dk_27 (dk_at dksX2_ringOf_0 23 rfl rfl)
theorem dX2_ringOf_24 : decode cX2_ringOf 24 = .ok (.if_icmp .ne 5, 3) := dk_160 0 5 (dk_at dksX2_ringOf_1 0 rfl rfl)
theorem dX2_ringOf_27 : decode cX2_ringOf 27 = .ok (.iload_n 3, 1) := dk_29 (dk_at dksX2_ringOf_1 3 rfl rfl)
theorem dX2_ringOf_28 : decode cX2_ringOf 28 = .ok (.ireturn, 1) := dk_172 (dk_at dksX2_ringOf_1 4 rfl rfl)
theorem dX2_ringOf_29 : decode cX2_ringOf 29 = .ok (.aload_n 0, 1) := dk_42 (dk_at dksX2_ringOf_1 5 rfl rfl)
theorem dX2_ringOf_30 : decode cX2_ringOf 30 = .ok (.iload_n 2, 1) := dk_28 (dk_at dksX2_ringOf_1 6 rfl rfl)
theorem dX2_ringOf_31 : decode cX2_ringOf 31 = .ok (.invokevirtual 265, 3) := dk_182 1 9 (dk_at dksX2_ringOf_1 7 rfl rfl)
theorem dX2_ringOf_34 : decode cX2_ringOf 34 = .ok (.istore_n 2, 1) := dk_61 (dk_at dksX2_ringOf_1 10 rfl rfl)
theorem dX2_ringOf_35 : decode cX2_ringOf 35 = .ok (.iinc 3 1, 3) := dk_132 3 1 (dk_at dksX2_ringOf_1 11 rfl rfl)
theorem dX2_ringOf_38 : decode cX2_ringOf 38 = .ok (.goto (-30), 3) := dk_167 255 226 (dk_at dksX2_ringOf_1 14 rfl rfl)
theorem dX2_ringOf_41 : decode cX2_ringOf 41 = .ok (.bipush (-2), 2) := dk_16 254 (dk_at dksX2_ringOf_1 17 rfl rfl)
theorem dX2_ringOf_43 : decode cX2_ringOf 43 = .ok (.ireturn, 1) := dk_172 (dk_at dksX2_ringOf_1 19 rfl rfl)
def dkwX2_endOf_1 : List UInt8 := [42, 28, 182, 1, 9, 61, 132, 3, 1, 167, 255, 227, 16, 254, 172]
abbrev dktX2_endOf_1 : List UInt8 := dkwX2_endOf_1 ++ []
def dkwX2_endOf_0 : List UInt8 := [27, 61, 3, 62, 29, 42, 180, 0, 88, 163, 0, 27, 42, 28, 182, 1, 9, 16, 254, 160, 0, 5, 28, 172]
abbrev dktX2_endOf_0 : List UInt8 := dkwX2_endOf_0 ++ dktX2_endOf_1
theorem dksX2_endOf_0 : cX2_endOf.data.toList.drop 0 = dktX2_endOf_0 := by decide +kernel
theorem dksX2_endOf_1 : cX2_endOf.data.toList.drop 24 = dktX2_endOf_1 := dk_seg dksX2_endOf_0 24 rfl rfl
theorem dX2_endOf_0 : decode cX2_endOf 0 = .ok (.iload_n 1, 1) := dk_27 (dk_at dksX2_endOf_0 0 rfl rfl)
theorem dX2_endOf_1 : decode cX2_endOf 1 = .ok (.istore_n 2, 1) := dk_61 (dk_at dksX2_endOf_0 1 rfl rfl)
theorem dX2_endOf_2 : decode cX2_endOf 2 = .ok (.iconst 0, 1) := dk_3 (dk_at dksX2_endOf_0 2 rfl rfl)
theorem dX2_endOf_3 : decode cX2_endOf 3 = .ok (.istore_n 3, 1) := dk_62 (dk_at dksX2_endOf_0 3 rfl rfl)
theorem dX2_endOf_4 : decode cX2_endOf 4 = .ok (.iload_n 3, 1) := dk_29 (dk_at dksX2_endOf_0 4 rfl rfl)
theorem dX2_endOf_5 : decode cX2_endOf 5 = .ok (.aload_n 0, 1) := dk_42 (dk_at dksX2_endOf_0 5 rfl rfl)
theorem dX2_endOf_6 : decode cX2_endOf 6 = .ok (.getfield 88, 3) := dk_180 0 88 (dk_at dksX2_endOf_0 6 rfl rfl)
theorem dX2_endOf_9 : decode cX2_endOf 9 = .ok (.if_icmp .gt 27, 3) := dk_163 0 27 (dk_at dksX2_endOf_0 9 rfl rfl)
theorem dX2_endOf_12 : decode cX2_endOf 12 = .ok (.aload_n 0, 1) := dk_42 (dk_at dksX2_endOf_0 12 rfl rfl)
theorem dX2_endOf_13 : decode cX2_endOf 13 = .ok (.iload_n 2, 1) := dk_28 (dk_at dksX2_endOf_0 13 rfl rfl)
theorem dX2_endOf_14 : decode cX2_endOf 14 = .ok (.invokevirtual 265, 3) := dk_182 1 9 (dk_at dksX2_endOf_0 14 rfl rfl)
theorem dX2_endOf_17 : decode cX2_endOf 17 = .ok (.bipush (-2), 2) := dk_16 254 (dk_at dksX2_endOf_0 17 rfl rfl)
theorem dX2_endOf_19 : decode cX2_endOf 19 = .ok (.if_icmp .ne 5, 3) := dk_160 0 5 (dk_at dksX2_endOf_0 19 rfl rfl)
theorem dX2_endOf_22 : decode cX2_endOf 22 = .ok (.iload_n 2, 1) := dk_28 (dk_at dksX2_endOf_0 22 rfl rfl)
theorem dX2_endOf_23 : decode cX2_endOf 23 = .ok (.ireturn, 1) := dk_172 (dk_at dksX2_endOf_0 23 rfl rfl)
theorem dX2_endOf_24 : decode cX2_endOf 24 = .ok (.aload_n 0, 1) := dk_42 (dk_at dksX2_endOf_1 0 rfl rfl)
theorem dX2_endOf_25 : decode cX2_endOf 25 = .ok (.iload_n 2, 1) := dk_28 (dk_at dksX2_endOf_1 1 rfl rfl)
theorem dX2_endOf_26 : decode cX2_endOf 26 = .ok (.invokevirtual 265, 3) := dk_182 1 9 (dk_at dksX2_endOf_1 2 rfl rfl)
theorem dX2_endOf_29 : decode cX2_endOf 29 = .ok (.istore_n 2, 1) := dk_61 (dk_at dksX2_endOf_1 5 rfl rfl)
theorem dX2_endOf_30 : decode cX2_endOf 30 = .ok (.iinc 3 1, 3) := dk_132 3 1 (dk_at dksX2_endOf_1 6 rfl rfl)
theorem dX2_endOf_33 : decode cX2_endOf 33 = .ok (.goto (-29), 3) := dk_167 255 227 (dk_at dksX2_endOf_1 9 rfl rfl)
theorem dX2_endOf_36 : decode cX2_endOf 36 = .ok (.bipush (-2), 2) := dk_16 254 (dk_at dksX2_endOf_1 12 rfl rfl)
theorem dX2_endOf_38 : decode cX2_endOf 38 = .ok (.ireturn, 1) := dk_172 (dk_at dksX2_endOf_1 14 rfl rfl)
def dkwX2_owed_2 : List UInt8 := [27, 160, 0, 12, 28, 42, 180, 0, 15, 29, 46, 100, 61, 132, 3, 1, 167, 255, 196, 28, 172]
abbrev dktX2_owed_2 : List UInt8 := dkwX2_owed_2 ++ []
def dkwX2_owed_1 : List UInt8 := [180, 0, 21, 29, 46, 27, 160, 0, 12, 28, 42, 180, 0, 15, 29, 46, 96, 61, 42, 180, 0, 18, 29, 46]
abbrev dktX2_owed_1 : List UInt8 := dkwX2_owed_1 ++ dktX2_owed_2
def dkwX2_owed_0 : List UInt8 := [3, 61, 3, 62, 29, 42, 180, 0, 96, 162, 0, 58, 42, 29, 182, 0, 216, 154, 0, 6, 167, 0, 41, 42]
abbrev dktX2_owed_0 : List UInt8 := dkwX2_owed_0 ++ dktX2_owed_1
theorem dksX2_owed_0 : cX2_owed.data.toList.drop 0 = dktX2_owed_0 := by decide +kernel
theorem dksX2_owed_1 : cX2_owed.data.toList.drop 24 = dktX2_owed_1 := dk_seg dksX2_owed_0 24 rfl rfl
theorem dksX2_owed_2 : cX2_owed.data.toList.drop 48 = dktX2_owed_2 := dk_seg dksX2_owed_1 24 rfl rfl
theorem dX2_owed_0 : decode cX2_owed 0 = .ok (.iconst 0, 1) := dk_3 (dk_at dksX2_owed_0 0 rfl rfl)
theorem dX2_owed_1 : decode cX2_owed 1 = .ok (.istore_n 2, 1) := dk_61 (dk_at dksX2_owed_0 1 rfl rfl)
theorem dX2_owed_2 : decode cX2_owed 2 = .ok (.iconst 0, 1) := dk_3 (dk_at dksX2_owed_0 2 rfl rfl)
theorem dX2_owed_3 : decode cX2_owed 3 = .ok (.istore_n 3, 1) := dk_62 (dk_at dksX2_owed_0 3 rfl rfl)
theorem dX2_owed_4 : decode cX2_owed 4 = .ok (.iload_n 3, 1) := dk_29 (dk_at dksX2_owed_0 4 rfl rfl)
theorem dX2_owed_5 : decode cX2_owed 5 = .ok (.aload_n 0, 1) := dk_42 (dk_at dksX2_owed_0 5 rfl rfl)
theorem dX2_owed_6 : decode cX2_owed 6 = .ok (.getfield 96, 3) := dk_180 0 96 (dk_at dksX2_owed_0 6 rfl rfl)
theorem dX2_owed_9 : decode cX2_owed 9 = .ok (.if_icmp .ge 58, 3) := dk_162 0 58 (dk_at dksX2_owed_0 9 rfl rfl)
theorem dX2_owed_12 : decode cX2_owed 12 = .ok (.aload_n 0, 1) := dk_42 (dk_at dksX2_owed_0 12 rfl rfl)
theorem dX2_owed_13 : decode cX2_owed 13 = .ok (.iload_n 3, 1) := dk_29 (dk_at dksX2_owed_0 13 rfl rfl)
theorem dX2_owed_14 : decode cX2_owed 14 = .ok (.invokevirtual 216, 3) := dk_182 0 216 (dk_at dksX2_owed_0 14 rfl rfl)
theorem dX2_owed_17 : decode cX2_owed 17 = .ok (.ifCond .ne 6, 3) := dk_154 0 6 (dk_at dksX2_owed_0 17 rfl rfl)
theorem dX2_owed_20 : decode cX2_owed 20 = .ok (.goto 41, 3) := dk_167 0 41 (dk_at dksX2_owed_0 20 rfl rfl)
theorem dX2_owed_23 : decode cX2_owed 23 = .ok (.aload_n 0, 1) := dk_42 (dk_at dksX2_owed_0 23 rfl rfl)
theorem dX2_owed_24 : decode cX2_owed 24 = .ok (.getfield 21, 3) := dk_180 0 21 (dk_at dksX2_owed_1 0 rfl rfl)
theorem dX2_owed_27 : decode cX2_owed 27 = .ok (.iload_n 3, 1) := dk_29 (dk_at dksX2_owed_1 3 rfl rfl)
theorem dX2_owed_28 : decode cX2_owed 28 = .ok (.iaload, 1) := dk_46 (dk_at dksX2_owed_1 4 rfl rfl)
theorem dX2_owed_29 : decode cX2_owed 29 = .ok (.iload_n 1, 1) := dk_27 (dk_at dksX2_owed_1 5 rfl rfl)
theorem dX2_owed_30 : decode cX2_owed 30 = .ok (.if_icmp .ne 12, 3) := dk_160 0 12 (dk_at dksX2_owed_1 6 rfl rfl)
theorem dX2_owed_33 : decode cX2_owed 33 = .ok (.iload_n 2, 1) := dk_28 (dk_at dksX2_owed_1 9 rfl rfl)
theorem dX2_owed_34 : decode cX2_owed 34 = .ok (.aload_n 0, 1) := dk_42 (dk_at dksX2_owed_1 10 rfl rfl)
theorem dX2_owed_35 : decode cX2_owed 35 = .ok (.getfield 15, 3) := dk_180 0 15 (dk_at dksX2_owed_1 11 rfl rfl)
theorem dX2_owed_38 : decode cX2_owed 38 = .ok (.iload_n 3, 1) := dk_29 (dk_at dksX2_owed_1 14 rfl rfl)
theorem dX2_owed_39 : decode cX2_owed 39 = .ok (.iaload, 1) := dk_46 (dk_at dksX2_owed_1 15 rfl rfl)
theorem dX2_owed_40 : decode cX2_owed 40 = .ok (.iadd, 1) := dk_96 (dk_at dksX2_owed_1 16 rfl rfl)
theorem dX2_owed_41 : decode cX2_owed 41 = .ok (.istore_n 2, 1) := dk_61 (dk_at dksX2_owed_1 17 rfl rfl)
theorem dX2_owed_42 : decode cX2_owed 42 = .ok (.aload_n 0, 1) := dk_42 (dk_at dksX2_owed_1 18 rfl rfl)
theorem dX2_owed_43 : decode cX2_owed 43 = .ok (.getfield 18, 3) := dk_180 0 18 (dk_at dksX2_owed_1 19 rfl rfl)
theorem dX2_owed_46 : decode cX2_owed 46 = .ok (.iload_n 3, 1) := dk_29 (dk_at dksX2_owed_1 22 rfl rfl)
theorem dX2_owed_47 : decode cX2_owed 47 = .ok (.iaload, 1) := dk_46 (dk_at dksX2_owed_1 23 rfl rfl)
theorem dX2_owed_48 : decode cX2_owed 48 = .ok (.iload_n 1, 1) := dk_27 (dk_at dksX2_owed_2 0 rfl rfl)
theorem dX2_owed_49 : decode cX2_owed 49 = .ok (.if_icmp .ne 12, 3) := dk_160 0 12 (dk_at dksX2_owed_2 1 rfl rfl)
theorem dX2_owed_52 : decode cX2_owed 52 = .ok (.iload_n 2, 1) := dk_28 (dk_at dksX2_owed_2 4 rfl rfl)
theorem dX2_owed_53 : decode cX2_owed 53 = .ok (.aload_n 0, 1) := dk_42 (dk_at dksX2_owed_2 5 rfl rfl)
theorem dX2_owed_54 : decode cX2_owed 54 = .ok (.getfield 15, 3) := dk_180 0 15 (dk_at dksX2_owed_2 6 rfl rfl)
theorem dX2_owed_57 : decode cX2_owed 57 = .ok (.iload_n 3, 1) := dk_29 (dk_at dksX2_owed_2 9 rfl rfl)
theorem dX2_owed_58 : decode cX2_owed 58 = .ok (.iaload, 1) := dk_46 (dk_at dksX2_owed_2 10 rfl rfl)
theorem dX2_owed_59 : decode cX2_owed 59 = .ok (.isub, 1) := dk_100 (dk_at dksX2_owed_2 11 rfl rfl)
theorem dX2_owed_60 : decode cX2_owed 60 = .ok (.istore_n 2, 1) := dk_61 (dk_at dksX2_owed_2 12 rfl rfl)
theorem dX2_owed_61 : decode cX2_owed 61 = .ok (.iinc 3 1, 3) := dk_132 3 1 (dk_at dksX2_owed_2 13 rfl rfl)
theorem dX2_owed_64 : decode cX2_owed 64 = .ok (.goto (-60), 3) := dk_167 255 196 (dk_at dksX2_owed_2 16 rfl rfl)
theorem dX2_owed_67 : decode cX2_owed 67 = .ok (.iload_n 2, 1) := dk_28 (dk_at dksX2_owed_2 19 rfl rfl)
theorem dX2_owed_68 : decode cX2_owed 68 = .ok (.ireturn, 1) := dk_172 (dk_at dksX2_owed_2 20 rfl rfl)
def dkwX2_judge_1 : List UInt8 := [156, 0, 7, 29, 167, 0, 9, 42, 27, 28, 182, 1, 24, 172]
abbrev dktX2_judge_1 : List UInt8 := dkwX2_judge_1 ++ []
def dkwX2_judge_0 : List UInt8 := [27, 184, 0, 118, 153, 0, 11, 42, 28, 182, 0, 99, 154, 0, 5, 2, 172, 42, 27, 182, 1, 21, 62, 29]
abbrev dktX2_judge_0 : List UInt8 := dkwX2_judge_0 ++ dktX2_judge_1
theorem dksX2_judge_0 : cX2_judge.data.toList.drop 0 = dktX2_judge_0 := by decide +kernel
theorem dksX2_judge_1 : cX2_judge.data.toList.drop 24 = dktX2_judge_1 := dk_seg dksX2_judge_0 24 rfl rfl
theorem dX2_judge_0 : decode cX2_judge 0 = .ok (.iload_n 1, 1) := dk_27 (dk_at dksX2_judge_0 0 rfl rfl)
theorem dX2_judge_1 : decode cX2_judge 1 = .ok (.invokestatic 118, 3) := dk_184 0 118 (dk_at dksX2_judge_0 1 rfl rfl)
theorem dX2_judge_4 : decode cX2_judge 4 = .ok (.ifCond .eq 11, 3) := dk_153 0 11 (dk_at dksX2_judge_0 4 rfl rfl)
theorem dX2_judge_7 : decode cX2_judge 7 = .ok (.aload_n 0, 1) := dk_42 (dk_at dksX2_judge_0 7 rfl rfl)
theorem dX2_judge_8 : decode cX2_judge 8 = .ok (.iload_n 2, 1) := dk_28 (dk_at dksX2_judge_0 8 rfl rfl)
theorem dX2_judge_9 : decode cX2_judge 9 = .ok (.invokevirtual 99, 3) := dk_182 0 99 (dk_at dksX2_judge_0 9 rfl rfl)
theorem dX2_judge_12 : decode cX2_judge 12 = .ok (.ifCond .ne 5, 3) := dk_154 0 5 (dk_at dksX2_judge_0 12 rfl rfl)
theorem dX2_judge_15 : decode cX2_judge 15 = .ok (.iconst (-1), 1) := dk_2 (dk_at dksX2_judge_0 15 rfl rfl)
theorem dX2_judge_16 : decode cX2_judge 16 = .ok (.ireturn, 1) := dk_172 (dk_at dksX2_judge_0 16 rfl rfl)
theorem dX2_judge_17 : decode cX2_judge 17 = .ok (.aload_n 0, 1) := dk_42 (dk_at dksX2_judge_0 17 rfl rfl)
theorem dX2_judge_18 : decode cX2_judge 18 = .ok (.iload_n 1, 1) := dk_27 (dk_at dksX2_judge_0 18 rfl rfl)
theorem dX2_judge_19 : decode cX2_judge 19 = .ok (.invokevirtual 277, 3) := dk_182 1 21 (dk_at dksX2_judge_0 19 rfl rfl)
theorem dX2_judge_22 : decode cX2_judge 22 = .ok (.istore_n 3, 1) := dk_62 (dk_at dksX2_judge_0 22 rfl rfl)
theorem dX2_judge_23 : decode cX2_judge 23 = .ok (.iload_n 3, 1) := dk_29 (dk_at dksX2_judge_0 23 rfl rfl)
theorem dX2_judge_24 : decode cX2_judge 24 = .ok (.ifCond .ge 7, 3) := dk_156 0 7 (dk_at dksX2_judge_1 0 rfl rfl)
theorem dX2_judge_27 : decode cX2_judge 27 = .ok (.iload_n 3, 1) := dk_29 (dk_at dksX2_judge_1 3 rfl rfl)
theorem dX2_judge_28 : decode cX2_judge 28 = .ok (.goto 9, 3) := dk_167 0 9 (dk_at dksX2_judge_1 4 rfl rfl)
theorem dX2_judge_31 : decode cX2_judge 31 = .ok (.aload_n 0, 1) := dk_42 (dk_at dksX2_judge_1 7 rfl rfl)
theorem dX2_judge_32 : decode cX2_judge 32 = .ok (.iload_n 1, 1) := dk_27 (dk_at dksX2_judge_1 8 rfl rfl)
theorem dX2_judge_33 : decode cX2_judge 33 = .ok (.iload_n 2, 1) := dk_28 (dk_at dksX2_judge_1 9 rfl rfl)
theorem dX2_judge_34 : decode cX2_judge 34 = .ok (.invokevirtual 280, 3) := dk_182 1 24 (dk_at dksX2_judge_1 10 rfl rfl)
theorem dX2_judge_37 : decode cX2_judge 37 = .ok (.ireturn, 1) := dk_172 (dk_at dksX2_judge_1 13 rfl rfl)
def dkwX2_noBytes_1 : List UInt8 := [16, 244, 167, 0, 4, 3, 172]
abbrev dktX2_noBytes_1 : List UInt8 := dkwX2_noBytes_1 ++ []
def dkwX2_noBytes_0 : List UInt8 := [42, 180, 0, 75, 27, 46, 2, 160, 0, 8, 16, 245, 167, 0, 18, 42, 180, 0, 75, 27, 46, 153, 0, 8]
abbrev dktX2_noBytes_0 : List UInt8 := dkwX2_noBytes_0 ++ dktX2_noBytes_1
theorem dksX2_noBytes_0 : cX2_noBytes.data.toList.drop 0 = dktX2_noBytes_0 := by decide +kernel
theorem dksX2_noBytes_1 : cX2_noBytes.data.toList.drop 24 = dktX2_noBytes_1 := dk_seg dksX2_noBytes_0 24 rfl rfl
theorem dX2_noBytes_0 : decode cX2_noBytes 0 = .ok (.aload_n 0, 1) := dk_42 (dk_at dksX2_noBytes_0 0 rfl rfl)
theorem dX2_noBytes_1 : decode cX2_noBytes 1 = .ok (.getfield 75, 3) := dk_180 0 75 (dk_at dksX2_noBytes_0 1 rfl rfl)
theorem dX2_noBytes_4 : decode cX2_noBytes 4 = .ok (.iload_n 1, 1) := dk_27 (dk_at dksX2_noBytes_0 4 rfl rfl)
theorem dX2_noBytes_5 : decode cX2_noBytes 5 = .ok (.iaload, 1) := dk_46 (dk_at dksX2_noBytes_0 5 rfl rfl)
theorem dX2_noBytes_6 : decode cX2_noBytes 6 = .ok (.iconst (-1), 1) := dk_2 (dk_at dksX2_noBytes_0 6 rfl rfl)
theorem dX2_noBytes_7 : decode cX2_noBytes 7 = .ok (.if_icmp .ne 8, 3) := dk_160 0 8 (dk_at dksX2_noBytes_0 7 rfl rfl)
theorem dX2_noBytes_10 : decode cX2_noBytes 10 = .ok (.bipush (-11), 2) := dk_16 245 (dk_at dksX2_noBytes_0 10 rfl rfl)
theorem dX2_noBytes_12 : decode cX2_noBytes 12 = .ok (.goto 18, 3) := dk_167 0 18 (dk_at dksX2_noBytes_0 12 rfl rfl)
theorem dX2_noBytes_15 : decode cX2_noBytes 15 = .ok (.aload_n 0, 1) := dk_42 (dk_at dksX2_noBytes_0 15 rfl rfl)
theorem dX2_noBytes_16 : decode cX2_noBytes 16 = .ok (.getfield 75, 3) := dk_180 0 75 (dk_at dksX2_noBytes_0 16 rfl rfl)
theorem dX2_noBytes_19 : decode cX2_noBytes 19 = .ok (.iload_n 1, 1) := dk_27 (dk_at dksX2_noBytes_0 19 rfl rfl)
theorem dX2_noBytes_20 : decode cX2_noBytes 20 = .ok (.iaload, 1) := dk_46 (dk_at dksX2_noBytes_0 20 rfl rfl)
theorem dX2_noBytes_21 : decode cX2_noBytes 21 = .ok (.ifCond .eq 8, 3) := dk_153 0 8 (dk_at dksX2_noBytes_0 21 rfl rfl)
theorem dX2_noBytes_24 : decode cX2_noBytes 24 = .ok (.bipush (-12), 2) := dk_16 244 (dk_at dksX2_noBytes_1 0 rfl rfl)
theorem dX2_noBytes_26 : decode cX2_noBytes 26 = .ok (.goto 4, 3) := dk_167 0 4 (dk_at dksX2_noBytes_1 2 rfl rfl)
theorem dX2_noBytes_29 : decode cX2_noBytes 29 = .ok (.iconst 0, 1) := dk_3 (dk_at dksX2_noBytes_1 5 rfl rfl)
theorem dX2_noBytes_30 : decode cX2_noBytes 30 = .ok (.ireturn, 1) := dk_172 (dk_at dksX2_noBytes_1 6 rfl rfl)
def dkwX2_unlike_3 : List UInt8 := [29, 181, 0, 103, 21, 4, 172]
abbrev dktX2_unlike_3 : List UInt8 := dkwX2_unlike_3 ++ []
def dkwX2_unlike_2 : List UInt8 := [182, 0, 242, 42, 27, 21, 5, 182, 0, 123, 159, 0, 7, 21, 5, 54, 4, 132, 5, 1, 167, 255, 203, 42]
abbrev dktX2_unlike_2 : List UInt8 := dkwX2_unlike_2 ++ dktX2_unlike_3
def dkwX2_unlike_1 : List UInt8 := [21, 4, 16, 254, 160, 0, 41, 42, 16, 99, 29, 21, 5, 96, 184, 0, 233, 181, 0, 103, 42, 28]
abbrev dktX2_unlike_1 : List UInt8 := dkwX2_unlike_1 ++ dktX2_unlike_2
def dkwX2_unlike_0 : List UInt8 := [42, 180, 0, 103, 62, 16, 254, 54, 4, 3, 54, 5, 21, 5, 42, 180, 0, 78, 27, 46, 162, 0, 48]
abbrev dktX2_unlike_0 : List UInt8 := dkwX2_unlike_0 ++ dktX2_unlike_1
theorem dksX2_unlike_0 : cX2_unlike.data.toList.drop 0 = dktX2_unlike_0 := by decide +kernel
theorem dksX2_unlike_1 : cX2_unlike.data.toList.drop 23 = dktX2_unlike_1 := dk_seg dksX2_unlike_0 23 rfl rfl
theorem dksX2_unlike_2 : cX2_unlike.data.toList.drop 45 = dktX2_unlike_2 := dk_seg dksX2_unlike_1 22 rfl rfl
theorem dksX2_unlike_3 : cX2_unlike.data.toList.drop 69 = dktX2_unlike_3 := dk_seg dksX2_unlike_2 24 rfl rfl
theorem dX2_unlike_0 : decode cX2_unlike 0 = .ok (.aload_n 0, 1) := dk_42 (dk_at dksX2_unlike_0 0 rfl rfl)
theorem dX2_unlike_1 : decode cX2_unlike 1 = .ok (.getfield 103, 3) := dk_180 0 103 (dk_at dksX2_unlike_0 1 rfl rfl)
theorem dX2_unlike_4 : decode cX2_unlike 4 = .ok (.istore_n 3, 1) := dk_62 (dk_at dksX2_unlike_0 4 rfl rfl)
theorem dX2_unlike_5 : decode cX2_unlike 5 = .ok (.bipush (-2), 2) := dk_16 254 (dk_at dksX2_unlike_0 5 rfl rfl)
theorem dX2_unlike_7 : decode cX2_unlike 7 = .ok (.istore 4, 2) := dk_54 4 (dk_at dksX2_unlike_0 7 rfl rfl)
theorem dX2_unlike_9 : decode cX2_unlike 9 = .ok (.iconst 0, 1) := dk_3 (dk_at dksX2_unlike_0 9 rfl rfl)
theorem dX2_unlike_10 : decode cX2_unlike 10 = .ok (.istore 5, 2) := dk_54 5 (dk_at dksX2_unlike_0 10 rfl rfl)
theorem dX2_unlike_12 : decode cX2_unlike 12 = .ok (.iload 5, 2) := dk_21 5 (dk_at dksX2_unlike_0 12 rfl rfl)
theorem dX2_unlike_14 : decode cX2_unlike 14 = .ok (.aload_n 0, 1) := dk_42 (dk_at dksX2_unlike_0 14 rfl rfl)
theorem dX2_unlike_15 : decode cX2_unlike 15 = .ok (.getfield 78, 3) := dk_180 0 78 (dk_at dksX2_unlike_0 15 rfl rfl)
theorem dX2_unlike_18 : decode cX2_unlike 18 = .ok (.iload_n 1, 1) := dk_27 (dk_at dksX2_unlike_0 18 rfl rfl)
theorem dX2_unlike_19 : decode cX2_unlike 19 = .ok (.iaload, 1) := dk_46 (dk_at dksX2_unlike_0 19 rfl rfl)
theorem dX2_unlike_20 : decode cX2_unlike 20 = .ok (.if_icmp .ge 48, 3) := dk_162 0 48 (dk_at dksX2_unlike_0 20 rfl rfl)
theorem dX2_unlike_23 : decode cX2_unlike 23 = .ok (.iload 4, 2) := dk_21 4 (dk_at dksX2_unlike_1 0 rfl rfl)
theorem dX2_unlike_25 : decode cX2_unlike 25 = .ok (.bipush (-2), 2) := dk_16 254 (dk_at dksX2_unlike_1 2 rfl rfl)
theorem dX2_unlike_27 : decode cX2_unlike 27 = .ok (.if_icmp .ne 41, 3) := dk_160 0 41 (dk_at dksX2_unlike_1 4 rfl rfl)
theorem dX2_unlike_30 : decode cX2_unlike 30 = .ok (.aload_n 0, 1) := dk_42 (dk_at dksX2_unlike_1 7 rfl rfl)
theorem dX2_unlike_31 : decode cX2_unlike 31 = .ok (.bipush 99, 2) := dk_16 99 (dk_at dksX2_unlike_1 8 rfl rfl)
theorem dX2_unlike_33 : decode cX2_unlike 33 = .ok (.iload_n 3, 1) := dk_29 (dk_at dksX2_unlike_1 10 rfl rfl)
theorem dX2_unlike_34 : decode cX2_unlike 34 = .ok (.iload 5, 2) := dk_21 5 (dk_at dksX2_unlike_1 11 rfl rfl)
theorem dX2_unlike_36 : decode cX2_unlike 36 = .ok (.iadd, 1) := dk_96 (dk_at dksX2_unlike_1 13 rfl rfl)
theorem dX2_unlike_37 : decode cX2_unlike 37 = .ok (.invokestatic 233, 3) := dk_184 0 233 (dk_at dksX2_unlike_1 14 rfl rfl)
theorem dX2_unlike_40 : decode cX2_unlike 40 = .ok (.putfield 103, 3) := dk_181 0 103 (dk_at dksX2_unlike_1 17 rfl rfl)
theorem dX2_unlike_43 : decode cX2_unlike 43 = .ok (.aload_n 0, 1) := dk_42 (dk_at dksX2_unlike_1 20 rfl rfl)
theorem dX2_unlike_44 : decode cX2_unlike 44 = .ok (.iload_n 2, 1) := dk_28 (dk_at dksX2_unlike_1 21 rfl rfl)
theorem dX2_unlike_45 : decode cX2_unlike 45 = .ok (.invokevirtual 242, 3) := dk_182 0 242 (dk_at dksX2_unlike_2 0 rfl rfl)
theorem dX2_unlike_48 : decode cX2_unlike 48 = .ok (.aload_n 0, 1) := dk_42 (dk_at dksX2_unlike_2 3 rfl rfl)
theorem dX2_unlike_49 : decode cX2_unlike 49 = .ok (.iload_n 1, 1) := dk_27 (dk_at dksX2_unlike_2 4 rfl rfl)
theorem dX2_unlike_50 : decode cX2_unlike 50 = .ok (.iload 5, 2) := dk_21 5 (dk_at dksX2_unlike_2 5 rfl rfl)
theorem dX2_unlike_52 : decode cX2_unlike 52 = .ok (.invokevirtual 123, 3) := dk_182 0 123 (dk_at dksX2_unlike_2 7 rfl rfl)
theorem dX2_unlike_55 : decode cX2_unlike 55 = .ok (.if_icmp .eq 7, 3) := dk_159 0 7 (dk_at dksX2_unlike_2 10 rfl rfl)
theorem dX2_unlike_58 : decode cX2_unlike 58 = .ok (.iload 5, 2) := dk_21 5 (dk_at dksX2_unlike_2 13 rfl rfl)
theorem dX2_unlike_60 : decode cX2_unlike 60 = .ok (.istore 4, 2) := dk_54 4 (dk_at dksX2_unlike_2 15 rfl rfl)
theorem dX2_unlike_62 : decode cX2_unlike 62 = .ok (.iinc 5 1, 3) := dk_132 5 1 (dk_at dksX2_unlike_2 17 rfl rfl)
theorem dX2_unlike_65 : decode cX2_unlike 65 = .ok (.goto (-53), 3) := dk_167 255 203 (dk_at dksX2_unlike_2 20 rfl rfl)
theorem dX2_unlike_68 : decode cX2_unlike 68 = .ok (.aload_n 0, 1) := dk_42 (dk_at dksX2_unlike_2 23 rfl rfl)
theorem dX2_unlike_69 : decode cX2_unlike 69 = .ok (.iload_n 3, 1) := dk_29 (dk_at dksX2_unlike_3 0 rfl rfl)
theorem dX2_unlike_70 : decode cX2_unlike 70 = .ok (.putfield 103, 3) := dk_181 0 103 (dk_at dksX2_unlike_3 1 rfl rfl)
theorem dX2_unlike_73 : decode cX2_unlike 73 = .ok (.iload 4, 2) := dk_21 4 (dk_at dksX2_unlike_3 4 rfl rfl)
theorem dX2_unlike_75 : decode cX2_unlike 75 = .ok (.ireturn, 1) := dk_172 (dk_at dksX2_unlike_3 6 rfl rfl)
def dkwX2_fits_6 : List UInt8 := [21, 7, 182, 0, 141, 21, 4, 5, 112, 154, 0, 8, 21, 8, 167, 0, 5, 21, 9, 172]
abbrev dktX2_fits_6 : List UInt8 := dkwX2_fits_6 ++ []
def dkwX2_fits_5 : List UInt8 := [159, 0, 6, 167, 0, 10, 132, 8, 1, 21, 10, 54, 9, 132, 10, 255, 167, 255, 207, 42, 29, 21, 6]
abbrev dktX2_fits_5 : List UInt8 := dkwX2_fits_5 ++ dktX2_fits_6
def dkwX2_fits_4 : List UInt8 := [167, 0, 4, 4, 161, 0, 39, 42, 29, 21, 6, 21, 10, 182, 0, 141, 42, 27, 28, 182, 1, 24, 16, 254]
abbrev dktX2_fits_4 : List UInt8 := dkwX2_fits_4 ++ dktX2_fits_5
def dkwX2_fits_3 : List UInt8 := [54, 7, 3, 54, 8, 16, 254, 54, 9, 16, 99, 54, 10, 21, 10, 21, 4, 5, 162, 0, 7, 3]
abbrev dktX2_fits_3 : List UInt8 := dkwX2_fits_3 ++ dktX2_fits_4
def dkwX2_fits_2 : List UInt8 := [21, 5, 172, 21, 4, 5, 162, 0, 7, 4, 167, 0, 4, 6, 54, 6, 42, 29, 21, 6, 182, 0, 138]
abbrev dktX2_fits_2 : List UInt8 := dkwX2_fits_2 ++ dktX2_fits_3
def dkwX2_fits_1 : List UInt8 := [21, 4, 3, 6, 184, 0, 92, 154, 0, 5, 2, 172, 42, 27, 182, 1, 21, 54, 5, 21, 5, 156, 0, 6]
abbrev dktX2_fits_1 : List UInt8 := dkwX2_fits_1 ++ dktX2_fits_2
def dkwX2_fits_0 : List UInt8 := [27, 184, 0, 118, 153, 0, 29, 42, 28, 182, 0, 99, 153, 0, 21, 42, 29, 182, 0, 127, 153, 0, 13]
abbrev dktX2_fits_0 : List UInt8 := dkwX2_fits_0 ++ dktX2_fits_1
theorem dksX2_fits_0 : cX2_fits.data.toList.drop 0 = dktX2_fits_0 := by decide +kernel
theorem dksX2_fits_1 : cX2_fits.data.toList.drop 23 = dktX2_fits_1 := dk_seg dksX2_fits_0 23 rfl rfl
theorem dksX2_fits_2 : cX2_fits.data.toList.drop 47 = dktX2_fits_2 := dk_seg dksX2_fits_1 24 rfl rfl
theorem dksX2_fits_3 : cX2_fits.data.toList.drop 70 = dktX2_fits_3 := dk_seg dksX2_fits_2 23 rfl rfl
theorem dksX2_fits_4 : cX2_fits.data.toList.drop 92 = dktX2_fits_4 := dk_seg dksX2_fits_3 22 rfl rfl
theorem dksX2_fits_5 : cX2_fits.data.toList.drop 116 = dktX2_fits_5 := dk_seg dksX2_fits_4 24 rfl rfl
theorem dksX2_fits_6 : cX2_fits.data.toList.drop 139 = dktX2_fits_6 := dk_seg dksX2_fits_5 23 rfl rfl
theorem dX2_fits_0 : decode cX2_fits 0 = .ok (.iload_n 1, 1) := dk_27 (dk_at dksX2_fits_0 0 rfl rfl)
theorem dX2_fits_1 : decode cX2_fits 1 = .ok (.invokestatic 118, 3) := dk_184 0 118 (dk_at dksX2_fits_0 1 rfl rfl)
theorem dX2_fits_4 : decode cX2_fits 4 = .ok (.ifCond .eq 29, 3) := dk_153 0 29 (dk_at dksX2_fits_0 4 rfl rfl)
theorem dX2_fits_7 : decode cX2_fits 7 = .ok (.aload_n 0, 1) := dk_42 (dk_at dksX2_fits_0 7 rfl rfl)
theorem dX2_fits_8 : decode cX2_fits 8 = .ok (.iload_n 2, 1) := dk_28 (dk_at dksX2_fits_0 8 rfl rfl)
theorem dX2_fits_9 : decode cX2_fits 9 = .ok (.invokevirtual 99, 3) := dk_182 0 99 (dk_at dksX2_fits_0 9 rfl rfl)
theorem dX2_fits_12 : decode cX2_fits 12 = .ok (.ifCond .eq 21, 3) := dk_153 0 21 (dk_at dksX2_fits_0 12 rfl rfl)
theorem dX2_fits_15 : decode cX2_fits 15 = .ok (.aload_n 0, 1) := dk_42 (dk_at dksX2_fits_0 15 rfl rfl)
theorem dX2_fits_16 : decode cX2_fits 16 = .ok (.iload_n 3, 1) := dk_29 (dk_at dksX2_fits_0 16 rfl rfl)
theorem dX2_fits_17 : decode cX2_fits 17 = .ok (.invokevirtual 127, 3) := dk_182 0 127 (dk_at dksX2_fits_0 17 rfl rfl)
theorem dX2_fits_20 : decode cX2_fits 20 = .ok (.ifCond .eq 13, 3) := dk_153 0 13 (dk_at dksX2_fits_0 20 rfl rfl)
theorem dX2_fits_23 : decode cX2_fits 23 = .ok (.iload 4, 2) := dk_21 4 (dk_at dksX2_fits_1 0 rfl rfl)
theorem dX2_fits_25 : decode cX2_fits 25 = .ok (.iconst 0, 1) := dk_3 (dk_at dksX2_fits_1 2 rfl rfl)
theorem dX2_fits_26 : decode cX2_fits 26 = .ok (.iconst 3, 1) := dk_6 (dk_at dksX2_fits_1 3 rfl rfl)
theorem dX2_fits_27 : decode cX2_fits 27 = .ok (.invokestatic 92, 3) := dk_184 0 92 (dk_at dksX2_fits_1 4 rfl rfl)
theorem dX2_fits_30 : decode cX2_fits 30 = .ok (.ifCond .ne 5, 3) := dk_154 0 5 (dk_at dksX2_fits_1 7 rfl rfl)
theorem dX2_fits_33 : decode cX2_fits 33 = .ok (.iconst (-1), 1) := dk_2 (dk_at dksX2_fits_1 10 rfl rfl)
theorem dX2_fits_34 : decode cX2_fits 34 = .ok (.ireturn, 1) := dk_172 (dk_at dksX2_fits_1 11 rfl rfl)
theorem dX2_fits_35 : decode cX2_fits 35 = .ok (.aload_n 0, 1) := dk_42 (dk_at dksX2_fits_1 12 rfl rfl)
theorem dX2_fits_36 : decode cX2_fits 36 = .ok (.iload_n 1, 1) := dk_27 (dk_at dksX2_fits_1 13 rfl rfl)
theorem dX2_fits_37 : decode cX2_fits 37 = .ok (.invokevirtual 277, 3) := dk_182 1 21 (dk_at dksX2_fits_1 14 rfl rfl)
theorem dX2_fits_40 : decode cX2_fits 40 = .ok (.istore 5, 2) := dk_54 5 (dk_at dksX2_fits_1 17 rfl rfl)
theorem dX2_fits_42 : decode cX2_fits 42 = .ok (.iload 5, 2) := dk_21 5 (dk_at dksX2_fits_1 19 rfl rfl)
theorem dX2_fits_44 : decode cX2_fits 44 = .ok (.ifCond .ge 6, 3) := dk_156 0 6 (dk_at dksX2_fits_1 21 rfl rfl)
theorem dX2_fits_47 : decode cX2_fits 47 = .ok (.iload 5, 2) := dk_21 5 (dk_at dksX2_fits_2 0 rfl rfl)
theorem dX2_fits_49 : decode cX2_fits 49 = .ok (.ireturn, 1) := dk_172 (dk_at dksX2_fits_2 2 rfl rfl)
theorem dX2_fits_50 : decode cX2_fits 50 = .ok (.iload 4, 2) := dk_21 4 (dk_at dksX2_fits_2 3 rfl rfl)
theorem dX2_fits_52 : decode cX2_fits 52 = .ok (.iconst 2, 1) := dk_5 (dk_at dksX2_fits_2 5 rfl rfl)
theorem dX2_fits_53 : decode cX2_fits 53 = .ok (.if_icmp .ge 7, 3) := dk_162 0 7 (dk_at dksX2_fits_2 6 rfl rfl)
theorem dX2_fits_56 : decode cX2_fits 56 = .ok (.iconst 1, 1) := dk_4 (dk_at dksX2_fits_2 9 rfl rfl)
theorem dX2_fits_57 : decode cX2_fits 57 = .ok (.goto 4, 3) := dk_167 0 4 (dk_at dksX2_fits_2 10 rfl rfl)
theorem dX2_fits_60 : decode cX2_fits 60 = .ok (.iconst 3, 1) := dk_6 (dk_at dksX2_fits_2 13 rfl rfl)
theorem dX2_fits_61 : decode cX2_fits 61 = .ok (.istore 6, 2) := dk_54 6 (dk_at dksX2_fits_2 14 rfl rfl)
theorem dX2_fits_63 : decode cX2_fits 63 = .ok (.aload_n 0, 1) := dk_42 (dk_at dksX2_fits_2 16 rfl rfl)
theorem dX2_fits_64 : decode cX2_fits 64 = .ok (.iload_n 3, 1) := dk_29 (dk_at dksX2_fits_2 17 rfl rfl)
theorem dX2_fits_65 : decode cX2_fits 65 = .ok (.iload 6, 2) := dk_21 6 (dk_at dksX2_fits_2 18 rfl rfl)
theorem dX2_fits_67 : decode cX2_fits 67 = .ok (.invokevirtual 138, 3) := dk_182 0 138 (dk_at dksX2_fits_2 20 rfl rfl)
theorem dX2_fits_70 : decode cX2_fits 70 = .ok (.istore 7, 2) := dk_54 7 (dk_at dksX2_fits_3 0 rfl rfl)
theorem dX2_fits_72 : decode cX2_fits 72 = .ok (.iconst 0, 1) := dk_3 (dk_at dksX2_fits_3 2 rfl rfl)
theorem dX2_fits_73 : decode cX2_fits 73 = .ok (.istore 8, 2) := dk_54 8 (dk_at dksX2_fits_3 3 rfl rfl)
theorem dX2_fits_75 : decode cX2_fits 75 = .ok (.bipush (-2), 2) := dk_16 254 (dk_at dksX2_fits_3 5 rfl rfl)
theorem dX2_fits_77 : decode cX2_fits 77 = .ok (.istore 9, 2) := dk_54 9 (dk_at dksX2_fits_3 7 rfl rfl)
theorem dX2_fits_79 : decode cX2_fits 79 = .ok (.bipush 99, 2) := dk_16 99 (dk_at dksX2_fits_3 9 rfl rfl)
theorem dX2_fits_81 : decode cX2_fits 81 = .ok (.istore 10, 2) := dk_54 10 (dk_at dksX2_fits_3 11 rfl rfl)
theorem dX2_fits_83 : decode cX2_fits 83 = .ok (.iload 10, 2) := dk_21 10 (dk_at dksX2_fits_3 13 rfl rfl)
theorem dX2_fits_85 : decode cX2_fits 85 = .ok (.iload 4, 2) := dk_21 4 (dk_at dksX2_fits_3 15 rfl rfl)
theorem dX2_fits_87 : decode cX2_fits 87 = .ok (.iconst 2, 1) := dk_5 (dk_at dksX2_fits_3 17 rfl rfl)
theorem dX2_fits_88 : decode cX2_fits 88 = .ok (.if_icmp .ge 7, 3) := dk_162 0 7 (dk_at dksX2_fits_3 18 rfl rfl)
theorem dX2_fits_91 : decode cX2_fits 91 = .ok (.iconst 0, 1) := dk_3 (dk_at dksX2_fits_3 21 rfl rfl)
theorem dX2_fits_92 : decode cX2_fits 92 = .ok (.goto 4, 3) := dk_167 0 4 (dk_at dksX2_fits_4 0 rfl rfl)
theorem dX2_fits_95 : decode cX2_fits 95 = .ok (.iconst 1, 1) := dk_4 (dk_at dksX2_fits_4 3 rfl rfl)
theorem dX2_fits_96 : decode cX2_fits 96 = .ok (.if_icmp .lt 39, 3) := dk_161 0 39 (dk_at dksX2_fits_4 4 rfl rfl)
theorem dX2_fits_99 : decode cX2_fits 99 = .ok (.aload_n 0, 1) := dk_42 (dk_at dksX2_fits_4 7 rfl rfl)
theorem dX2_fits_100 : decode cX2_fits 100 = .ok (.iload_n 3, 1) := dk_29 (dk_at dksX2_fits_4 8 rfl rfl)
theorem dX2_fits_101 : decode cX2_fits 101 = .ok (.iload 6, 2) := dk_21 6 (dk_at dksX2_fits_4 9 rfl rfl)
theorem dX2_fits_103 : decode cX2_fits 103 = .ok (.iload 10, 2) := dk_21 10 (dk_at dksX2_fits_4 11 rfl rfl)
theorem dX2_fits_105 : decode cX2_fits 105 = .ok (.invokevirtual 141, 3) := dk_182 0 141 (dk_at dksX2_fits_4 13 rfl rfl)
theorem dX2_fits_108 : decode cX2_fits 108 = .ok (.aload_n 0, 1) := dk_42 (dk_at dksX2_fits_4 16 rfl rfl)
theorem dX2_fits_109 : decode cX2_fits 109 = .ok (.iload_n 1, 1) := dk_27 (dk_at dksX2_fits_4 17 rfl rfl)
theorem dX2_fits_110 : decode cX2_fits 110 = .ok (.iload_n 2, 1) := dk_28 (dk_at dksX2_fits_4 18 rfl rfl)
theorem dX2_fits_111 : decode cX2_fits 111 = .ok (.invokevirtual 280, 3) := dk_182 1 24 (dk_at dksX2_fits_4 19 rfl rfl)
theorem dX2_fits_114 : decode cX2_fits 114 = .ok (.bipush (-2), 2) := dk_16 254 (dk_at dksX2_fits_4 22 rfl rfl)
theorem dX2_fits_116 : decode cX2_fits 116 = .ok (.if_icmp .eq 6, 3) := dk_159 0 6 (dk_at dksX2_fits_5 0 rfl rfl)
theorem dX2_fits_119 : decode cX2_fits 119 = .ok (.goto 10, 3) := dk_167 0 10 (dk_at dksX2_fits_5 3 rfl rfl)
theorem dX2_fits_122 : decode cX2_fits 122 = .ok (.iinc 8 1, 3) := dk_132 8 1 (dk_at dksX2_fits_5 6 rfl rfl)
theorem dX2_fits_125 : decode cX2_fits 125 = .ok (.iload 10, 2) := dk_21 10 (dk_at dksX2_fits_5 9 rfl rfl)
theorem dX2_fits_127 : decode cX2_fits 127 = .ok (.istore 9, 2) := dk_54 9 (dk_at dksX2_fits_5 11 rfl rfl)
theorem dX2_fits_129 : decode cX2_fits 129 = .ok (.iinc 10 (-1), 3) := dk_132 10 255 (dk_at dksX2_fits_5 13 rfl rfl)
theorem dX2_fits_132 : decode cX2_fits 132 = .ok (.goto (-49), 3) := dk_167 255 207 (dk_at dksX2_fits_5 16 rfl rfl)
theorem dX2_fits_135 : decode cX2_fits 135 = .ok (.aload_n 0, 1) := dk_42 (dk_at dksX2_fits_5 19 rfl rfl)
theorem dX2_fits_136 : decode cX2_fits 136 = .ok (.iload_n 3, 1) := dk_29 (dk_at dksX2_fits_5 20 rfl rfl)
theorem dX2_fits_137 : decode cX2_fits 137 = .ok (.iload 6, 2) := dk_21 6 (dk_at dksX2_fits_5 21 rfl rfl)
theorem dX2_fits_139 : decode cX2_fits 139 = .ok (.iload 7, 2) := dk_21 7 (dk_at dksX2_fits_6 0 rfl rfl)
theorem dX2_fits_141 : decode cX2_fits 141 = .ok (.invokevirtual 141, 3) := dk_182 0 141 (dk_at dksX2_fits_6 2 rfl rfl)
theorem dX2_fits_144 : decode cX2_fits 144 = .ok (.iload 4, 2) := dk_21 4 (dk_at dksX2_fits_6 5 rfl rfl)
theorem dX2_fits_146 : decode cX2_fits 146 = .ok (.iconst 2, 1) := dk_5 (dk_at dksX2_fits_6 7 rfl rfl)
theorem dX2_fits_147 : decode cX2_fits 147 = .ok (.irem, 1) := dk_112 (dk_at dksX2_fits_6 8 rfl rfl)
theorem dX2_fits_148 : decode cX2_fits 148 = .ok (.ifCond .ne 8, 3) := dk_154 0 8 (dk_at dksX2_fits_6 9 rfl rfl)
theorem dX2_fits_151 : decode cX2_fits 151 = .ok (.iload 8, 2) := dk_21 8 (dk_at dksX2_fits_6 12 rfl rfl)
theorem dX2_fits_153 : decode cX2_fits 153 = .ok (.goto 5, 3) := dk_167 0 5 (dk_at dksX2_fits_6 14 rfl rfl)
theorem dX2_fits_156 : decode cX2_fits 156 = .ok (.iload 9, 2) := dk_21 9 (dk_at dksX2_fits_6 17 rfl rfl)
theorem dX2_fits_158 : decode cX2_fits 158 = .ok (.ireturn, 1) := dk_172 (dk_at dksX2_fits_6 19 rfl rfl)
def dkwX2_share_4 : List UInt8 := [96, 172]
abbrev dktX2_share_4 : List UInt8 := dkwX2_share_4 ++ []
def dkwX2_share_3 : List UInt8 := [28, 42, 27, 182, 0, 242, 104, 29, 108, 42, 4, 182, 1, 27, 27, 160, 0, 8, 21, 4, 167, 0, 4, 3]
abbrev dktX2_share_3 : List UInt8 := dkwX2_share_3 ++ dktX2_share_4
def dkwX2_share_2 : List UInt8 := [162, 0, 24, 21, 4, 28, 42, 21, 5, 182, 0, 242, 104, 29, 108, 100, 54, 4, 132, 5, 1, 167, 255, 229]
abbrev dktX2_share_2 : List UInt8 := dkwX2_share_2 ++ dktX2_share_3
def dkwX2_share_1 : List UInt8 := [182, 0, 248, 62, 29, 154, 0, 5, 3, 172, 28, 54, 4, 3, 54, 5, 21, 5, 42, 180, 0, 88]
abbrev dktX2_share_1 : List UInt8 := dkwX2_share_1 ++ dktX2_share_2
def dkwX2_share_0 : List UInt8 := [42, 27, 182, 0, 99, 153, 0, 14, 28, 3, 17, 39, 15, 184, 0, 92, 154, 0, 5, 2, 172, 42]
abbrev dktX2_share_0 : List UInt8 := dkwX2_share_0 ++ dktX2_share_1
theorem dksX2_share_0 : cX2_share.data.toList.drop 0 = dktX2_share_0 := by decide +kernel
theorem dksX2_share_1 : cX2_share.data.toList.drop 22 = dktX2_share_1 := dk_seg dksX2_share_0 22 rfl rfl
theorem dksX2_share_2 : cX2_share.data.toList.drop 44 = dktX2_share_2 := dk_seg dksX2_share_1 22 rfl rfl
theorem dksX2_share_3 : cX2_share.data.toList.drop 68 = dktX2_share_3 := dk_seg dksX2_share_2 24 rfl rfl
theorem dksX2_share_4 : cX2_share.data.toList.drop 92 = dktX2_share_4 := dk_seg dksX2_share_3 24 rfl rfl
theorem dX2_share_0 : decode cX2_share 0 = .ok (.aload_n 0, 1) := dk_42 (dk_at dksX2_share_0 0 rfl rfl)
theorem dX2_share_1 : decode cX2_share 1 = .ok (.iload_n 1, 1) := dk_27 (dk_at dksX2_share_0 1 rfl rfl)
theorem dX2_share_2 : decode cX2_share 2 = .ok (.invokevirtual 99, 3) := dk_182 0 99 (dk_at dksX2_share_0 2 rfl rfl)
theorem dX2_share_5 : decode cX2_share 5 = .ok (.ifCond .eq 14, 3) := dk_153 0 14 (dk_at dksX2_share_0 5 rfl rfl)
theorem dX2_share_8 : decode cX2_share 8 = .ok (.iload_n 2, 1) := dk_28 (dk_at dksX2_share_0 8 rfl rfl)
theorem dX2_share_9 : decode cX2_share 9 = .ok (.iconst 0, 1) := dk_3 (dk_at dksX2_share_0 9 rfl rfl)
theorem dX2_share_10 : decode cX2_share 10 = .ok (.sipush 9999, 3) := dk_17 39 15 (dk_at dksX2_share_0 10 rfl rfl)
theorem dX2_share_13 : decode cX2_share 13 = .ok (.invokestatic 92, 3) := dk_184 0 92 (dk_at dksX2_share_0 13 rfl rfl)
theorem dX2_share_16 : decode cX2_share 16 = .ok (.ifCond .ne 5, 3) := dk_154 0 5 (dk_at dksX2_share_0 16 rfl rfl)
theorem dX2_share_19 : decode cX2_share 19 = .ok (.iconst (-1), 1) := dk_2 (dk_at dksX2_share_0 19 rfl rfl)
theorem dX2_share_20 : decode cX2_share 20 = .ok (.ireturn, 1) := dk_172 (dk_at dksX2_share_0 20 rfl rfl)
theorem dX2_share_21 : decode cX2_share 21 = .ok (.aload_n 0, 1) := dk_42 (dk_at dksX2_share_0 21 rfl rfl)
theorem dX2_share_22 : decode cX2_share 22 = .ok (.invokevirtual 248, 3) := dk_182 0 248 (dk_at dksX2_share_1 0 rfl rfl)
theorem dX2_share_25 : decode cX2_share 25 = .ok (.istore_n 3, 1) := dk_62 (dk_at dksX2_share_1 3 rfl rfl)
theorem dX2_share_26 : decode cX2_share 26 = .ok (.iload_n 3, 1) := dk_29 (dk_at dksX2_share_1 4 rfl rfl)
theorem dX2_share_27 : decode cX2_share 27 = .ok (.ifCond .ne 5, 3) := dk_154 0 5 (dk_at dksX2_share_1 5 rfl rfl)
theorem dX2_share_30 : decode cX2_share 30 = .ok (.iconst 0, 1) := dk_3 (dk_at dksX2_share_1 8 rfl rfl)
theorem dX2_share_31 : decode cX2_share 31 = .ok (.ireturn, 1) := dk_172 (dk_at dksX2_share_1 9 rfl rfl)
theorem dX2_share_32 : decode cX2_share 32 = .ok (.iload_n 2, 1) := dk_28 (dk_at dksX2_share_1 10 rfl rfl)
theorem dX2_share_33 : decode cX2_share 33 = .ok (.istore 4, 2) := dk_54 4 (dk_at dksX2_share_1 11 rfl rfl)
theorem dX2_share_35 : decode cX2_share 35 = .ok (.iconst 0, 1) := dk_3 (dk_at dksX2_share_1 13 rfl rfl)
theorem dX2_share_36 : decode cX2_share 36 = .ok (.istore 5, 2) := dk_54 5 (dk_at dksX2_share_1 14 rfl rfl)
theorem dX2_share_38 : decode cX2_share 38 = .ok (.iload 5, 2) := dk_21 5 (dk_at dksX2_share_1 16 rfl rfl)
theorem dX2_share_40 : decode cX2_share 40 = .ok (.aload_n 0, 1) := dk_42 (dk_at dksX2_share_1 18 rfl rfl)
theorem dX2_share_41 : decode cX2_share 41 = .ok (.getfield 88, 3) := dk_180 0 88 (dk_at dksX2_share_1 19 rfl rfl)
theorem dX2_share_44 : decode cX2_share 44 = .ok (.if_icmp .ge 24, 3) := dk_162 0 24 (dk_at dksX2_share_2 0 rfl rfl)
theorem dX2_share_47 : decode cX2_share 47 = .ok (.iload 4, 2) := dk_21 4 (dk_at dksX2_share_2 3 rfl rfl)
theorem dX2_share_49 : decode cX2_share 49 = .ok (.iload_n 2, 1) := dk_28 (dk_at dksX2_share_2 5 rfl rfl)
theorem dX2_share_50 : decode cX2_share 50 = .ok (.aload_n 0, 1) := dk_42 (dk_at dksX2_share_2 6 rfl rfl)
theorem dX2_share_51 : decode cX2_share 51 = .ok (.iload 5, 2) := dk_21 5 (dk_at dksX2_share_2 7 rfl rfl)
theorem dX2_share_53 : decode cX2_share 53 = .ok (.invokevirtual 242, 3) := dk_182 0 242 (dk_at dksX2_share_2 9 rfl rfl)
theorem dX2_share_56 : decode cX2_share 56 = .ok (.imul, 1) := dk_104 (dk_at dksX2_share_2 12 rfl rfl)
theorem dX2_share_57 : decode cX2_share 57 = .ok (.iload_n 3, 1) := dk_29 (dk_at dksX2_share_2 13 rfl rfl)
theorem dX2_share_58 : decode cX2_share 58 = .ok (.idiv, 1) := dk_108 (dk_at dksX2_share_2 14 rfl rfl)
theorem dX2_share_59 : decode cX2_share 59 = .ok (.isub, 1) := dk_100 (dk_at dksX2_share_2 15 rfl rfl)
theorem dX2_share_60 : decode cX2_share 60 = .ok (.istore 4, 2) := dk_54 4 (dk_at dksX2_share_2 16 rfl rfl)
theorem dX2_share_62 : decode cX2_share 62 = .ok (.iinc 5 1, 3) := dk_132 5 1 (dk_at dksX2_share_2 18 rfl rfl)
theorem dX2_share_65 : decode cX2_share 65 = .ok (.goto (-27), 3) := dk_167 255 229 (dk_at dksX2_share_2 21 rfl rfl)
theorem dX2_share_68 : decode cX2_share 68 = .ok (.iload_n 2, 1) := dk_28 (dk_at dksX2_share_3 0 rfl rfl)
theorem dX2_share_69 : decode cX2_share 69 = .ok (.aload_n 0, 1) := dk_42 (dk_at dksX2_share_3 1 rfl rfl)
theorem dX2_share_70 : decode cX2_share 70 = .ok (.iload_n 1, 1) := dk_27 (dk_at dksX2_share_3 2 rfl rfl)
theorem dX2_share_71 : decode cX2_share 71 = .ok (.invokevirtual 242, 3) := dk_182 0 242 (dk_at dksX2_share_3 3 rfl rfl)
theorem dX2_share_74 : decode cX2_share 74 = .ok (.imul, 1) := dk_104 (dk_at dksX2_share_3 6 rfl rfl)
theorem dX2_share_75 : decode cX2_share 75 = .ok (.iload_n 3, 1) := dk_29 (dk_at dksX2_share_3 7 rfl rfl)
theorem dX2_share_76 : decode cX2_share 76 = .ok (.idiv, 1) := dk_108 (dk_at dksX2_share_3 8 rfl rfl)
theorem dX2_share_77 : decode cX2_share 77 = .ok (.aload_n 0, 1) := dk_42 (dk_at dksX2_share_3 9 rfl rfl)
theorem dX2_share_78 : decode cX2_share 78 = .ok (.iconst 1, 1) := dk_4 (dk_at dksX2_share_3 10 rfl rfl)
theorem dX2_share_79 : decode cX2_share 79 = .ok (.invokevirtual 283, 3) := dk_182 1 27 (dk_at dksX2_share_3 11 rfl rfl)
theorem dX2_share_82 : decode cX2_share 82 = .ok (.iload_n 1, 1) := dk_27 (dk_at dksX2_share_3 14 rfl rfl)
theorem dX2_share_83 : decode cX2_share 83 = .ok (.if_icmp .ne 8, 3) := dk_160 0 8 (dk_at dksX2_share_3 15 rfl rfl)
theorem dX2_share_86 : decode cX2_share 86 = .ok (.iload 4, 2) := dk_21 4 (dk_at dksX2_share_3 18 rfl rfl)
theorem dX2_share_88 : decode cX2_share 88 = .ok (.goto 4, 3) := dk_167 0 4 (dk_at dksX2_share_3 20 rfl rfl)
theorem dX2_share_91 : decode cX2_share 91 = .ok (.iconst 0, 1) := dk_3 (dk_at dksX2_share_3 23 rfl rfl)
theorem dX2_share_92 : decode cX2_share 92 = .ok (.iadd, 1) := dk_96 (dk_at dksX2_share_4 0 rfl rfl)
theorem dX2_share_93 : decode cX2_share 93 = .ok (.ireturn, 1) := dk_172 (dk_at dksX2_share_4 1 rfl rfl)
def dkwX2_byTurns_7 : List UInt8 := [21, 5, 172]
abbrev dktX2_byTurns_7 : List UInt8 := dkwX2_byTurns_7 ++ []
def dkwX2_byTurns_6 : List UInt8 := [21, 7, 54, 4, 21, 6, 54, 5, 132, 6, 1, 167, 255, 179, 29, 154, 0, 8, 21, 4, 167, 0, 5]
abbrev dktX2_byTurns_6 : List UInt8 := dkwX2_byTurns_6 ++ dktX2_byTurns_7
def dkwX2_byTurns_5 : List UInt8 := [54, 7, 42, 180, 0, 15, 16, 60, 21, 6, 96, 3, 79, 21, 7, 21, 4, 163, 0, 6, 167, 0, 11]
abbrev dktX2_byTurns_5 : List UInt8 := dkwX2_byTurns_5 ++ dktX2_byTurns_6
def dkwX2_byTurns_4 : List UInt8 := [154, 0, 6, 167, 0, 52, 42, 180, 0, 15, 16, 60, 21, 6, 96, 4, 79, 42, 4, 28, 27, 182, 1, 30]
abbrev dktX2_byTurns_4 : List UInt8 := dkwX2_byTurns_4 ++ dktX2_byTurns_5
def dkwX2_byTurns_3 : List UInt8 := [3, 54, 6, 21, 6, 42, 180, 0, 96, 162, 0, 74, 42, 21, 6, 27, 16, 10, 112, 182, 1, 33]
abbrev dktX2_byTurns_3 : List UInt8 := dkwX2_byTurns_3 ++ dktX2_byTurns_4
def dkwX2_byTurns_2 : List UInt8 := [3, 4, 184, 0, 92, 154, 0, 6, 18, 137, 172, 42, 4, 28, 27, 182, 1, 30, 54, 4, 16, 14, 54, 5]
abbrev dktX2_byTurns_2 : List UInt8 := dkwX2_byTurns_2 ++ dktX2_byTurns_3
def dkwX2_byTurns_1 : List UInt8 := [153, 0, 32, 27, 16, 10, 108, 27, 16, 10, 112, 159, 0, 21, 28, 4, 7, 184, 0, 92, 153, 0, 12, 29]
abbrev dktX2_byTurns_1 : List UInt8 := dkwX2_byTurns_1 ++ dktX2_byTurns_2
def dkwX2_byTurns_0 : List UInt8 := [27, 155, 0, 54, 42, 27, 16, 10, 108, 182, 0, 99, 153, 0, 43, 42, 27, 16, 10, 112, 182, 0, 99]
abbrev dktX2_byTurns_0 : List UInt8 := dkwX2_byTurns_0 ++ dktX2_byTurns_1
theorem dksX2_byTurns_0 : cX2_byTurns.data.toList.drop 0 = dktX2_byTurns_0 := by decide +kernel
theorem dksX2_byTurns_1 : cX2_byTurns.data.toList.drop 23 = dktX2_byTurns_1 := dk_seg dksX2_byTurns_0 23 rfl rfl
theorem dksX2_byTurns_2 : cX2_byTurns.data.toList.drop 47 = dktX2_byTurns_2 := dk_seg dksX2_byTurns_1 24 rfl rfl
theorem dksX2_byTurns_3 : cX2_byTurns.data.toList.drop 71 = dktX2_byTurns_3 := dk_seg dksX2_byTurns_2 24 rfl rfl
theorem dksX2_byTurns_4 : cX2_byTurns.data.toList.drop 93 = dktX2_byTurns_4 := dk_seg dksX2_byTurns_3 22 rfl rfl
theorem dksX2_byTurns_5 : cX2_byTurns.data.toList.drop 117 = dktX2_byTurns_5 := dk_seg dksX2_byTurns_4 24 rfl rfl
theorem dksX2_byTurns_6 : cX2_byTurns.data.toList.drop 140 = dktX2_byTurns_6 := dk_seg dksX2_byTurns_5 23 rfl rfl
theorem dksX2_byTurns_7 : cX2_byTurns.data.toList.drop 163 = dktX2_byTurns_7 := dk_seg dksX2_byTurns_6 23 rfl rfl
theorem dX2_byTurns_0 : decode cX2_byTurns 0 = .ok (.iload_n 1, 1) := dk_27 (dk_at dksX2_byTurns_0 0 rfl rfl)
theorem dX2_byTurns_1 : decode cX2_byTurns 1 = .ok (.ifCond .lt 54, 3) := dk_155 0 54 (dk_at dksX2_byTurns_0 1 rfl rfl)
theorem dX2_byTurns_4 : decode cX2_byTurns 4 = .ok (.aload_n 0, 1) := dk_42 (dk_at dksX2_byTurns_0 4 rfl rfl)
theorem dX2_byTurns_5 : decode cX2_byTurns 5 = .ok (.iload_n 1, 1) := dk_27 (dk_at dksX2_byTurns_0 5 rfl rfl)
theorem dX2_byTurns_6 : decode cX2_byTurns 6 = .ok (.bipush 10, 2) := dk_16 10 (dk_at dksX2_byTurns_0 6 rfl rfl)
theorem dX2_byTurns_8 : decode cX2_byTurns 8 = .ok (.idiv, 1) := dk_108 (dk_at dksX2_byTurns_0 8 rfl rfl)
theorem dX2_byTurns_9 : decode cX2_byTurns 9 = .ok (.invokevirtual 99, 3) := dk_182 0 99 (dk_at dksX2_byTurns_0 9 rfl rfl)
theorem dX2_byTurns_12 : decode cX2_byTurns 12 = .ok (.ifCond .eq 43, 3) := dk_153 0 43 (dk_at dksX2_byTurns_0 12 rfl rfl)
theorem dX2_byTurns_15 : decode cX2_byTurns 15 = .ok (.aload_n 0, 1) := dk_42 (dk_at dksX2_byTurns_0 15 rfl rfl)
theorem dX2_byTurns_16 : decode cX2_byTurns 16 = .ok (.iload_n 1, 1) := dk_27 (dk_at dksX2_byTurns_0 16 rfl rfl)
theorem dX2_byTurns_17 : decode cX2_byTurns 17 = .ok (.bipush 10, 2) := dk_16 10 (dk_at dksX2_byTurns_0 17 rfl rfl)
theorem dX2_byTurns_19 : decode cX2_byTurns 19 = .ok (.irem, 1) := dk_112 (dk_at dksX2_byTurns_0 19 rfl rfl)
theorem dX2_byTurns_20 : decode cX2_byTurns 20 = .ok (.invokevirtual 99, 3) := dk_182 0 99 (dk_at dksX2_byTurns_0 20 rfl rfl)
theorem dX2_byTurns_23 : decode cX2_byTurns 23 = .ok (.ifCond .eq 32, 3) := dk_153 0 32 (dk_at dksX2_byTurns_1 0 rfl rfl)
theorem dX2_byTurns_26 : decode cX2_byTurns 26 = .ok (.iload_n 1, 1) := dk_27 (dk_at dksX2_byTurns_1 3 rfl rfl)
theorem dX2_byTurns_27 : decode cX2_byTurns 27 = .ok (.bipush 10, 2) := dk_16 10 (dk_at dksX2_byTurns_1 4 rfl rfl)
theorem dX2_byTurns_29 : decode cX2_byTurns 29 = .ok (.idiv, 1) := dk_108 (dk_at dksX2_byTurns_1 6 rfl rfl)
theorem dX2_byTurns_30 : decode cX2_byTurns 30 = .ok (.iload_n 1, 1) := dk_27 (dk_at dksX2_byTurns_1 7 rfl rfl)
theorem dX2_byTurns_31 : decode cX2_byTurns 31 = .ok (.bipush 10, 2) := dk_16 10 (dk_at dksX2_byTurns_1 8 rfl rfl)
theorem dX2_byTurns_33 : decode cX2_byTurns 33 = .ok (.irem, 1) := dk_112 (dk_at dksX2_byTurns_1 10 rfl rfl)
theorem dX2_byTurns_34 : decode cX2_byTurns 34 = .ok (.if_icmp .eq 21, 3) := dk_159 0 21 (dk_at dksX2_byTurns_1 11 rfl rfl)
theorem dX2_byTurns_37 : decode cX2_byTurns 37 = .ok (.iload_n 2, 1) := dk_28 (dk_at dksX2_byTurns_1 14 rfl rfl)
theorem dX2_byTurns_38 : decode cX2_byTurns 38 = .ok (.iconst 1, 1) := dk_4 (dk_at dksX2_byTurns_1 15 rfl rfl)
theorem dX2_byTurns_39 : decode cX2_byTurns 39 = .ok (.iconst 4, 1) := dk_7 (dk_at dksX2_byTurns_1 16 rfl rfl)
theorem dX2_byTurns_40 : decode cX2_byTurns 40 = .ok (.invokestatic 92, 3) := dk_184 0 92 (dk_at dksX2_byTurns_1 17 rfl rfl)
theorem dX2_byTurns_43 : decode cX2_byTurns 43 = .ok (.ifCond .eq 12, 3) := dk_153 0 12 (dk_at dksX2_byTurns_1 20 rfl rfl)
theorem dX2_byTurns_46 : decode cX2_byTurns 46 = .ok (.iload_n 3, 1) := dk_29 (dk_at dksX2_byTurns_1 23 rfl rfl)
theorem dX2_byTurns_47 : decode cX2_byTurns 47 = .ok (.iconst 0, 1) := dk_3 (dk_at dksX2_byTurns_2 0 rfl rfl)
theorem dX2_byTurns_48 : decode cX2_byTurns 48 = .ok (.iconst 1, 1) := dk_4 (dk_at dksX2_byTurns_2 1 rfl rfl)
theorem dX2_byTurns_49 : decode cX2_byTurns 49 = .ok (.invokestatic 92, 3) := dk_184 0 92 (dk_at dksX2_byTurns_2 2 rfl rfl)
theorem dX2_byTurns_52 : decode cX2_byTurns 52 = .ok (.ifCond .ne 6, 3) := dk_154 0 6 (dk_at dksX2_byTurns_2 5 rfl rfl)
theorem dX2_byTurns_55 : decode cX2_byTurns 55 = .ok (.ldc 137, 2) := dk_18 137 (dk_at dksX2_byTurns_2 8 rfl rfl)
theorem dX2_byTurns_57 : decode cX2_byTurns 57 = .ok (.ireturn, 1) := dk_172 (dk_at dksX2_byTurns_2 10 rfl rfl)
theorem dX2_byTurns_58 : decode cX2_byTurns 58 = .ok (.aload_n 0, 1) := dk_42 (dk_at dksX2_byTurns_2 11 rfl rfl)
theorem dX2_byTurns_59 : decode cX2_byTurns 59 = .ok (.iconst 1, 1) := dk_4 (dk_at dksX2_byTurns_2 12 rfl rfl)
theorem dX2_byTurns_60 : decode cX2_byTurns 60 = .ok (.iload_n 2, 1) := dk_28 (dk_at dksX2_byTurns_2 13 rfl rfl)
theorem dX2_byTurns_61 : decode cX2_byTurns 61 = .ok (.iload_n 1, 1) := dk_27 (dk_at dksX2_byTurns_2 14 rfl rfl)
theorem dX2_byTurns_62 : decode cX2_byTurns 62 = .ok (.invokevirtual 286, 3) := dk_182 1 30 (dk_at dksX2_byTurns_2 15 rfl rfl)
theorem dX2_byTurns_65 : decode cX2_byTurns 65 = .ok (.istore 4, 2) := dk_54 4 (dk_at dksX2_byTurns_2 18 rfl rfl)
theorem dX2_byTurns_67 : decode cX2_byTurns 67 = .ok (.bipush 14, 2) := dk_16 14 (dk_at dksX2_byTurns_2 20 rfl rfl)
theorem dX2_byTurns_69 : decode cX2_byTurns 69 = .ok (.istore 5, 2) := dk_54 5 (dk_at dksX2_byTurns_2 22 rfl rfl)
theorem dX2_byTurns_71 : decode cX2_byTurns 71 = .ok (.iconst 0, 1) := dk_3 (dk_at dksX2_byTurns_3 0 rfl rfl)
theorem dX2_byTurns_72 : decode cX2_byTurns 72 = .ok (.istore 6, 2) := dk_54 6 (dk_at dksX2_byTurns_3 1 rfl rfl)
theorem dX2_byTurns_74 : decode cX2_byTurns 74 = .ok (.iload 6, 2) := dk_21 6 (dk_at dksX2_byTurns_3 3 rfl rfl)
theorem dX2_byTurns_76 : decode cX2_byTurns 76 = .ok (.aload_n 0, 1) := dk_42 (dk_at dksX2_byTurns_3 5 rfl rfl)
theorem dX2_byTurns_77 : decode cX2_byTurns 77 = .ok (.getfield 96, 3) := dk_180 0 96 (dk_at dksX2_byTurns_3 6 rfl rfl)
theorem dX2_byTurns_80 : decode cX2_byTurns 80 = .ok (.if_icmp .ge 74, 3) := dk_162 0 74 (dk_at dksX2_byTurns_3 9 rfl rfl)
theorem dX2_byTurns_83 : decode cX2_byTurns 83 = .ok (.aload_n 0, 1) := dk_42 (dk_at dksX2_byTurns_3 12 rfl rfl)
theorem dX2_byTurns_84 : decode cX2_byTurns 84 = .ok (.iload 6, 2) := dk_21 6 (dk_at dksX2_byTurns_3 13 rfl rfl)
theorem dX2_byTurns_86 : decode cX2_byTurns 86 = .ok (.iload_n 1, 1) := dk_27 (dk_at dksX2_byTurns_3 15 rfl rfl)
theorem dX2_byTurns_87 : decode cX2_byTurns 87 = .ok (.bipush 10, 2) := dk_16 10 (dk_at dksX2_byTurns_3 16 rfl rfl)
theorem dX2_byTurns_89 : decode cX2_byTurns 89 = .ok (.irem, 1) := dk_112 (dk_at dksX2_byTurns_3 18 rfl rfl)
theorem dX2_byTurns_90 : decode cX2_byTurns 90 = .ok (.invokevirtual 289, 3) := dk_182 1 33 (dk_at dksX2_byTurns_3 19 rfl rfl)
theorem dX2_byTurns_93 : decode cX2_byTurns 93 = .ok (.ifCond .ne 6, 3) := dk_154 0 6 (dk_at dksX2_byTurns_4 0 rfl rfl)
theorem dX2_byTurns_96 : decode cX2_byTurns 96 = .ok (.goto 52, 3) := dk_167 0 52 (dk_at dksX2_byTurns_4 3 rfl rfl)
theorem dX2_byTurns_99 : decode cX2_byTurns 99 = .ok (.aload_n 0, 1) := dk_42 (dk_at dksX2_byTurns_4 6 rfl rfl)
theorem dX2_byTurns_100 : decode cX2_byTurns 100 = .ok (.getfield 15, 3) := dk_180 0 15 (dk_at dksX2_byTurns_4 7 rfl rfl)
theorem dX2_byTurns_103 : decode cX2_byTurns 103 = .ok (.bipush 60, 2) := dk_16 60 (dk_at dksX2_byTurns_4 10 rfl rfl)
theorem dX2_byTurns_105 : decode cX2_byTurns 105 = .ok (.iload 6, 2) := dk_21 6 (dk_at dksX2_byTurns_4 12 rfl rfl)
theorem dX2_byTurns_107 : decode cX2_byTurns 107 = .ok (.iadd, 1) := dk_96 (dk_at dksX2_byTurns_4 14 rfl rfl)
theorem dX2_byTurns_108 : decode cX2_byTurns 108 = .ok (.iconst 1, 1) := dk_4 (dk_at dksX2_byTurns_4 15 rfl rfl)
theorem dX2_byTurns_109 : decode cX2_byTurns 109 = .ok (.iastore, 1) := dk_79 (dk_at dksX2_byTurns_4 16 rfl rfl)
theorem dX2_byTurns_110 : decode cX2_byTurns 110 = .ok (.aload_n 0, 1) := dk_42 (dk_at dksX2_byTurns_4 17 rfl rfl)
theorem dX2_byTurns_111 : decode cX2_byTurns 111 = .ok (.iconst 1, 1) := dk_4 (dk_at dksX2_byTurns_4 18 rfl rfl)
theorem dX2_byTurns_112 : decode cX2_byTurns 112 = .ok (.iload_n 2, 1) := dk_28 (dk_at dksX2_byTurns_4 19 rfl rfl)
theorem dX2_byTurns_113 : decode cX2_byTurns 113 = .ok (.iload_n 1, 1) := dk_27 (dk_at dksX2_byTurns_4 20 rfl rfl)
theorem dX2_byTurns_114 : decode cX2_byTurns 114 = .ok (.invokevirtual 286, 3) := dk_182 1 30 (dk_at dksX2_byTurns_4 21 rfl rfl)
theorem dX2_byTurns_117 : decode cX2_byTurns 117 = .ok (.istore 7, 2) := dk_54 7 (dk_at dksX2_byTurns_5 0 rfl rfl)
theorem dX2_byTurns_119 : decode cX2_byTurns 119 = .ok (.aload_n 0, 1) := dk_42 (dk_at dksX2_byTurns_5 2 rfl rfl)
theorem dX2_byTurns_120 : decode cX2_byTurns 120 = .ok (.getfield 15, 3) := dk_180 0 15 (dk_at dksX2_byTurns_5 3 rfl rfl)
theorem dX2_byTurns_123 : decode cX2_byTurns 123 = .ok (.bipush 60, 2) := dk_16 60 (dk_at dksX2_byTurns_5 6 rfl rfl)
theorem dX2_byTurns_125 : decode cX2_byTurns 125 = .ok (.iload 6, 2) := dk_21 6 (dk_at dksX2_byTurns_5 8 rfl rfl)
theorem dX2_byTurns_127 : decode cX2_byTurns 127 = .ok (.iadd, 1) := dk_96 (dk_at dksX2_byTurns_5 10 rfl rfl)
theorem dX2_byTurns_128 : decode cX2_byTurns 128 = .ok (.iconst 0, 1) := dk_3 (dk_at dksX2_byTurns_5 11 rfl rfl)
theorem dX2_byTurns_129 : decode cX2_byTurns 129 = .ok (.iastore, 1) := dk_79 (dk_at dksX2_byTurns_5 12 rfl rfl)
theorem dX2_byTurns_130 : decode cX2_byTurns 130 = .ok (.iload 7, 2) := dk_21 7 (dk_at dksX2_byTurns_5 13 rfl rfl)
theorem dX2_byTurns_132 : decode cX2_byTurns 132 = .ok (.iload 4, 2) := dk_21 4 (dk_at dksX2_byTurns_5 15 rfl rfl)
theorem dX2_byTurns_134 : decode cX2_byTurns 134 = .ok (.if_icmp .gt 6, 3) := dk_163 0 6 (dk_at dksX2_byTurns_5 17 rfl rfl)
theorem dX2_byTurns_137 : decode cX2_byTurns 137 = .ok (.goto 11, 3) := dk_167 0 11 (dk_at dksX2_byTurns_5 20 rfl rfl)
theorem dX2_byTurns_140 : decode cX2_byTurns 140 = .ok (.iload 7, 2) := dk_21 7 (dk_at dksX2_byTurns_6 0 rfl rfl)
theorem dX2_byTurns_142 : decode cX2_byTurns 142 = .ok (.istore 4, 2) := dk_54 4 (dk_at dksX2_byTurns_6 2 rfl rfl)
theorem dX2_byTurns_144 : decode cX2_byTurns 144 = .ok (.iload 6, 2) := dk_21 6 (dk_at dksX2_byTurns_6 4 rfl rfl)
theorem dX2_byTurns_146 : decode cX2_byTurns 146 = .ok (.istore 5, 2) := dk_54 5 (dk_at dksX2_byTurns_6 6 rfl rfl)
theorem dX2_byTurns_148 : decode cX2_byTurns 148 = .ok (.iinc 6 1, 3) := dk_132 6 1 (dk_at dksX2_byTurns_6 8 rfl rfl)
theorem dX2_byTurns_151 : decode cX2_byTurns 151 = .ok (.goto (-77), 3) := dk_167 255 179 (dk_at dksX2_byTurns_6 11 rfl rfl)
theorem dX2_byTurns_154 : decode cX2_byTurns 154 = .ok (.iload_n 3, 1) := dk_29 (dk_at dksX2_byTurns_6 14 rfl rfl)
theorem dX2_byTurns_155 : decode cX2_byTurns 155 = .ok (.ifCond .ne 8, 3) := dk_154 0 8 (dk_at dksX2_byTurns_6 15 rfl rfl)
theorem dX2_byTurns_158 : decode cX2_byTurns 158 = .ok (.iload 4, 2) := dk_21 4 (dk_at dksX2_byTurns_6 18 rfl rfl)
theorem dX2_byTurns_160 : decode cX2_byTurns 160 = .ok (.goto 5, 3) := dk_167 0 5 (dk_at dksX2_byTurns_6 20 rfl rfl)
theorem dX2_byTurns_163 : decode cX2_byTurns 163 = .ok (.iload 5, 2) := dk_21 5 (dk_at dksX2_byTurns_7 0 rfl rfl)
theorem dX2_byTurns_165 : decode cX2_byTurns 165 = .ok (.ireturn, 1) := dk_172 (dk_at dksX2_byTurns_7 2 rfl rfl)
def dkwX2_turnFrom_6 : List UInt8 := [167, 255, 172, 21, 4, 172]
abbrev dktX2_turnFrom_6 : List UInt8 := dkwX2_turnFrom_6 ++ []
def dkwX2_turnFrom_5 : List UInt8 := [21, 4, 21, 7, 184, 0, 222, 167, 0, 10, 21, 4, 21, 7, 184, 0, 233, 54, 4, 132, 6, 1]
abbrev dktX2_turnFrom_5 : List UInt8 := dkwX2_turnFrom_5 ++ dktX2_turnFrom_6
def dkwX2_turnFrom_4 : List UInt8 := [28, 29, 182, 1, 30, 54, 7, 42, 180, 0, 15, 16, 60, 21, 6, 96, 3, 79, 27, 5, 112, 154, 0, 13]
abbrev dktX2_turnFrom_4 : List UInt8 := dkwX2_turnFrom_4 ++ dktX2_turnFrom_5
def dkwX2_turnFrom_3 : List UInt8 := [182, 1, 33, 154, 0, 6, 167, 0, 61, 42, 180, 0, 15, 16, 60, 21, 6, 96, 4, 79, 42, 27, 4, 96]
abbrev dktX2_turnFrom_3 : List UInt8 := dkwX2_turnFrom_3 ++ dktX2_turnFrom_4
def dkwX2_turnFrom_2 : List UInt8 := [16, 10, 108, 54, 5, 3, 54, 6, 21, 6, 42, 180, 0, 96, 162, 0, 81, 42, 21, 6, 21, 5]
abbrev dktX2_turnFrom_2 : List UInt8 := dkwX2_turnFrom_2 ++ dktX2_turnFrom_3
def dkwX2_turnFrom_1 : List UInt8 := [27, 4, 96, 28, 29, 182, 1, 30, 54, 4, 27, 5, 112, 154, 0, 10, 29, 16, 10, 112, 167, 0, 7, 29]
abbrev dktX2_turnFrom_1 : List UInt8 := dkwX2_turnFrom_1 ++ dktX2_turnFrom_2
def dkwX2_turnFrom_0 : List UInt8 := [27, 28, 160, 0, 21, 42, 29, 16, 10, 108, 182, 0, 242, 42, 29, 16, 10, 112, 182, 0, 242, 100, 172, 42]
abbrev dktX2_turnFrom_0 : List UInt8 := dkwX2_turnFrom_0 ++ dktX2_turnFrom_1
theorem dksX2_turnFrom_0 : cX2_turnFrom.data.toList.drop 0 = dktX2_turnFrom_0 := by decide +kernel
theorem dksX2_turnFrom_1 : cX2_turnFrom.data.toList.drop 24 = dktX2_turnFrom_1 := dk_seg dksX2_turnFrom_0 24 rfl rfl
theorem dksX2_turnFrom_2 : cX2_turnFrom.data.toList.drop 48 = dktX2_turnFrom_2 := dk_seg dksX2_turnFrom_1 24 rfl rfl
theorem dksX2_turnFrom_3 : cX2_turnFrom.data.toList.drop 70 = dktX2_turnFrom_3 := dk_seg dksX2_turnFrom_2 22 rfl rfl
theorem dksX2_turnFrom_4 : cX2_turnFrom.data.toList.drop 94 = dktX2_turnFrom_4 := dk_seg dksX2_turnFrom_3 24 rfl rfl
theorem dksX2_turnFrom_5 : cX2_turnFrom.data.toList.drop 118 = dktX2_turnFrom_5 := dk_seg dksX2_turnFrom_4 24 rfl rfl
theorem dksX2_turnFrom_6 : cX2_turnFrom.data.toList.drop 140 = dktX2_turnFrom_6 := dk_seg dksX2_turnFrom_5 22 rfl rfl
theorem dX2_turnFrom_0 : decode cX2_turnFrom 0 = .ok (.iload_n 1, 1) := dk_27 (dk_at dksX2_turnFrom_0 0 rfl rfl)
theorem dX2_turnFrom_1 : decode cX2_turnFrom 1 = .ok (.iload_n 2, 1) := dk_28 (dk_at dksX2_turnFrom_0 1 rfl rfl)
theorem dX2_turnFrom_2 : decode cX2_turnFrom 2 = .ok (.if_icmp .ne 21, 3) := dk_160 0 21 (dk_at dksX2_turnFrom_0 2 rfl rfl)
theorem dX2_turnFrom_5 : decode cX2_turnFrom 5 = .ok (.aload_n 0, 1) := dk_42 (dk_at dksX2_turnFrom_0 5 rfl rfl)
theorem dX2_turnFrom_6 : decode cX2_turnFrom 6 = .ok (.iload_n 3, 1) := dk_29 (dk_at dksX2_turnFrom_0 6 rfl rfl)
theorem dX2_turnFrom_7 : decode cX2_turnFrom 7 = .ok (.bipush 10, 2) := dk_16 10 (dk_at dksX2_turnFrom_0 7 rfl rfl)
theorem dX2_turnFrom_9 : decode cX2_turnFrom 9 = .ok (.idiv, 1) := dk_108 (dk_at dksX2_turnFrom_0 9 rfl rfl)
theorem dX2_turnFrom_10 : decode cX2_turnFrom 10 = .ok (.invokevirtual 242, 3) := dk_182 0 242 (dk_at dksX2_turnFrom_0 10 rfl rfl)
theorem dX2_turnFrom_13 : decode cX2_turnFrom 13 = .ok (.aload_n 0, 1) := dk_42 (dk_at dksX2_turnFrom_0 13 rfl rfl)
theorem dX2_turnFrom_14 : decode cX2_turnFrom 14 = .ok (.iload_n 3, 1) := dk_29 (dk_at dksX2_turnFrom_0 14 rfl rfl)
theorem dX2_turnFrom_15 : decode cX2_turnFrom 15 = .ok (.bipush 10, 2) := dk_16 10 (dk_at dksX2_turnFrom_0 15 rfl rfl)
theorem dX2_turnFrom_17 : decode cX2_turnFrom 17 = .ok (.irem, 1) := dk_112 (dk_at dksX2_turnFrom_0 17 rfl rfl)
theorem dX2_turnFrom_18 : decode cX2_turnFrom 18 = .ok (.invokevirtual 242, 3) := dk_182 0 242 (dk_at dksX2_turnFrom_0 18 rfl rfl)
theorem dX2_turnFrom_21 : decode cX2_turnFrom 21 = .ok (.isub, 1) := dk_100 (dk_at dksX2_turnFrom_0 21 rfl rfl)
theorem dX2_turnFrom_22 : decode cX2_turnFrom 22 = .ok (.ireturn, 1) := dk_172 (dk_at dksX2_turnFrom_0 22 rfl rfl)
theorem dX2_turnFrom_23 : decode cX2_turnFrom 23 = .ok (.aload_n 0, 1) := dk_42 (dk_at dksX2_turnFrom_0 23 rfl rfl)
theorem dX2_turnFrom_24 : decode cX2_turnFrom 24 = .ok (.iload_n 1, 1) := dk_27 (dk_at dksX2_turnFrom_1 0 rfl rfl)
theorem dX2_turnFrom_25 : decode cX2_turnFrom 25 = .ok (.iconst 1, 1) := dk_4 (dk_at dksX2_turnFrom_1 1 rfl rfl)
theorem dX2_turnFrom_26 : decode cX2_turnFrom 26 = .ok (.iadd, 1) := dk_96 (dk_at dksX2_turnFrom_1 2 rfl rfl)
theorem dX2_turnFrom_27 : decode cX2_turnFrom 27 = .ok (.iload_n 2, 1) := dk_28 (dk_at dksX2_turnFrom_1 3 rfl rfl)
theorem dX2_turnFrom_28 : decode cX2_turnFrom 28 = .ok (.iload_n 3, 1) := dk_29 (dk_at dksX2_turnFrom_1 4 rfl rfl)
theorem dX2_turnFrom_29 : decode cX2_turnFrom 29 = .ok (.invokevirtual 286, 3) := dk_182 1 30 (dk_at dksX2_turnFrom_1 5 rfl rfl)
theorem dX2_turnFrom_32 : decode cX2_turnFrom 32 = .ok (.istore 4, 2) := dk_54 4 (dk_at dksX2_turnFrom_1 8 rfl rfl)
theorem dX2_turnFrom_34 : decode cX2_turnFrom 34 = .ok (.iload_n 1, 1) := dk_27 (dk_at dksX2_turnFrom_1 10 rfl rfl)
theorem dX2_turnFrom_35 : decode cX2_turnFrom 35 = .ok (.iconst 2, 1) := dk_5 (dk_at dksX2_turnFrom_1 11 rfl rfl)
theorem dX2_turnFrom_36 : decode cX2_turnFrom 36 = .ok (.irem, 1) := dk_112 (dk_at dksX2_turnFrom_1 12 rfl rfl)
theorem dX2_turnFrom_37 : decode cX2_turnFrom 37 = .ok (.ifCond .ne 10, 3) := dk_154 0 10 (dk_at dksX2_turnFrom_1 13 rfl rfl)
theorem dX2_turnFrom_40 : decode cX2_turnFrom 40 = .ok (.iload_n 3, 1) := dk_29 (dk_at dksX2_turnFrom_1 16 rfl rfl)
theorem dX2_turnFrom_41 : decode cX2_turnFrom 41 = .ok (.bipush 10, 2) := dk_16 10 (dk_at dksX2_turnFrom_1 17 rfl rfl)
theorem dX2_turnFrom_43 : decode cX2_turnFrom 43 = .ok (.irem, 1) := dk_112 (dk_at dksX2_turnFrom_1 19 rfl rfl)
theorem dX2_turnFrom_44 : decode cX2_turnFrom 44 = .ok (.goto 7, 3) := dk_167 0 7 (dk_at dksX2_turnFrom_1 20 rfl rfl)
theorem dX2_turnFrom_47 : decode cX2_turnFrom 47 = .ok (.iload_n 3, 1) := dk_29 (dk_at dksX2_turnFrom_1 23 rfl rfl)
theorem dX2_turnFrom_48 : decode cX2_turnFrom 48 = .ok (.bipush 10, 2) := dk_16 10 (dk_at dksX2_turnFrom_2 0 rfl rfl)
theorem dX2_turnFrom_50 : decode cX2_turnFrom 50 = .ok (.idiv, 1) := dk_108 (dk_at dksX2_turnFrom_2 2 rfl rfl)
theorem dX2_turnFrom_51 : decode cX2_turnFrom 51 = .ok (.istore 5, 2) := dk_54 5 (dk_at dksX2_turnFrom_2 3 rfl rfl)
theorem dX2_turnFrom_53 : decode cX2_turnFrom 53 = .ok (.iconst 0, 1) := dk_3 (dk_at dksX2_turnFrom_2 5 rfl rfl)
theorem dX2_turnFrom_54 : decode cX2_turnFrom 54 = .ok (.istore 6, 2) := dk_54 6 (dk_at dksX2_turnFrom_2 6 rfl rfl)
theorem dX2_turnFrom_56 : decode cX2_turnFrom 56 = .ok (.iload 6, 2) := dk_21 6 (dk_at dksX2_turnFrom_2 8 rfl rfl)
theorem dX2_turnFrom_58 : decode cX2_turnFrom 58 = .ok (.aload_n 0, 1) := dk_42 (dk_at dksX2_turnFrom_2 10 rfl rfl)
theorem dX2_turnFrom_59 : decode cX2_turnFrom 59 = .ok (.getfield 96, 3) := dk_180 0 96 (dk_at dksX2_turnFrom_2 11 rfl rfl)
theorem dX2_turnFrom_62 : decode cX2_turnFrom 62 = .ok (.if_icmp .ge 81, 3) := dk_162 0 81 (dk_at dksX2_turnFrom_2 14 rfl rfl)
theorem dX2_turnFrom_65 : decode cX2_turnFrom 65 = .ok (.aload_n 0, 1) := dk_42 (dk_at dksX2_turnFrom_2 17 rfl rfl)
theorem dX2_turnFrom_66 : decode cX2_turnFrom 66 = .ok (.iload 6, 2) := dk_21 6 (dk_at dksX2_turnFrom_2 18 rfl rfl)
theorem dX2_turnFrom_68 : decode cX2_turnFrom 68 = .ok (.iload 5, 2) := dk_21 5 (dk_at dksX2_turnFrom_2 20 rfl rfl)
theorem dX2_turnFrom_70 : decode cX2_turnFrom 70 = .ok (.invokevirtual 289, 3) := dk_182 1 33 (dk_at dksX2_turnFrom_3 0 rfl rfl)
theorem dX2_turnFrom_73 : decode cX2_turnFrom 73 = .ok (.ifCond .ne 6, 3) := dk_154 0 6 (dk_at dksX2_turnFrom_3 3 rfl rfl)
theorem dX2_turnFrom_76 : decode cX2_turnFrom 76 = .ok (.goto 61, 3) := dk_167 0 61 (dk_at dksX2_turnFrom_3 6 rfl rfl)
theorem dX2_turnFrom_79 : decode cX2_turnFrom 79 = .ok (.aload_n 0, 1) := dk_42 (dk_at dksX2_turnFrom_3 9 rfl rfl)
theorem dX2_turnFrom_80 : decode cX2_turnFrom 80 = .ok (.getfield 15, 3) := dk_180 0 15 (dk_at dksX2_turnFrom_3 10 rfl rfl)
theorem dX2_turnFrom_83 : decode cX2_turnFrom 83 = .ok (.bipush 60, 2) := dk_16 60 (dk_at dksX2_turnFrom_3 13 rfl rfl)
theorem dX2_turnFrom_85 : decode cX2_turnFrom 85 = .ok (.iload 6, 2) := dk_21 6 (dk_at dksX2_turnFrom_3 15 rfl rfl)
theorem dX2_turnFrom_87 : decode cX2_turnFrom 87 = .ok (.iadd, 1) := dk_96 (dk_at dksX2_turnFrom_3 17 rfl rfl)
theorem dX2_turnFrom_88 : decode cX2_turnFrom 88 = .ok (.iconst 1, 1) := dk_4 (dk_at dksX2_turnFrom_3 18 rfl rfl)
theorem dX2_turnFrom_89 : decode cX2_turnFrom 89 = .ok (.iastore, 1) := dk_79 (dk_at dksX2_turnFrom_3 19 rfl rfl)
theorem dX2_turnFrom_90 : decode cX2_turnFrom 90 = .ok (.aload_n 0, 1) := dk_42 (dk_at dksX2_turnFrom_3 20 rfl rfl)
theorem dX2_turnFrom_91 : decode cX2_turnFrom 91 = .ok (.iload_n 1, 1) := dk_27 (dk_at dksX2_turnFrom_3 21 rfl rfl)
theorem dX2_turnFrom_92 : decode cX2_turnFrom 92 = .ok (.iconst 1, 1) := dk_4 (dk_at dksX2_turnFrom_3 22 rfl rfl)
theorem dX2_turnFrom_93 : decode cX2_turnFrom 93 = .ok (.iadd, 1) := dk_96 (dk_at dksX2_turnFrom_3 23 rfl rfl)
theorem dX2_turnFrom_94 : decode cX2_turnFrom 94 = .ok (.iload_n 2, 1) := dk_28 (dk_at dksX2_turnFrom_4 0 rfl rfl)
theorem dX2_turnFrom_95 : decode cX2_turnFrom 95 = .ok (.iload_n 3, 1) := dk_29 (dk_at dksX2_turnFrom_4 1 rfl rfl)
theorem dX2_turnFrom_96 : decode cX2_turnFrom 96 = .ok (.invokevirtual 286, 3) := dk_182 1 30 (dk_at dksX2_turnFrom_4 2 rfl rfl)
theorem dX2_turnFrom_99 : decode cX2_turnFrom 99 = .ok (.istore 7, 2) := dk_54 7 (dk_at dksX2_turnFrom_4 5 rfl rfl)
theorem dX2_turnFrom_101 : decode cX2_turnFrom 101 = .ok (.aload_n 0, 1) := dk_42 (dk_at dksX2_turnFrom_4 7 rfl rfl)
theorem dX2_turnFrom_102 : decode cX2_turnFrom 102 = .ok (.getfield 15, 3) := dk_180 0 15 (dk_at dksX2_turnFrom_4 8 rfl rfl)
theorem dX2_turnFrom_105 : decode cX2_turnFrom 105 = .ok (.bipush 60, 2) := dk_16 60 (dk_at dksX2_turnFrom_4 11 rfl rfl)
theorem dX2_turnFrom_107 : decode cX2_turnFrom 107 = .ok (.iload 6, 2) := dk_21 6 (dk_at dksX2_turnFrom_4 13 rfl rfl)
theorem dX2_turnFrom_109 : decode cX2_turnFrom 109 = .ok (.iadd, 1) := dk_96 (dk_at dksX2_turnFrom_4 15 rfl rfl)
theorem dX2_turnFrom_110 : decode cX2_turnFrom 110 = .ok (.iconst 0, 1) := dk_3 (dk_at dksX2_turnFrom_4 16 rfl rfl)
theorem dX2_turnFrom_111 : decode cX2_turnFrom 111 = .ok (.iastore, 1) := dk_79 (dk_at dksX2_turnFrom_4 17 rfl rfl)
theorem dX2_turnFrom_112 : decode cX2_turnFrom 112 = .ok (.iload_n 1, 1) := dk_27 (dk_at dksX2_turnFrom_4 18 rfl rfl)
theorem dX2_turnFrom_113 : decode cX2_turnFrom 113 = .ok (.iconst 2, 1) := dk_5 (dk_at dksX2_turnFrom_4 19 rfl rfl)
theorem dX2_turnFrom_114 : decode cX2_turnFrom 114 = .ok (.irem, 1) := dk_112 (dk_at dksX2_turnFrom_4 20 rfl rfl)
theorem dX2_turnFrom_115 : decode cX2_turnFrom 115 = .ok (.ifCond .ne 13, 3) := dk_154 0 13 (dk_at dksX2_turnFrom_4 21 rfl rfl)
theorem dX2_turnFrom_118 : decode cX2_turnFrom 118 = .ok (.iload 4, 2) := dk_21 4 (dk_at dksX2_turnFrom_5 0 rfl rfl)
theorem dX2_turnFrom_120 : decode cX2_turnFrom 120 = .ok (.iload 7, 2) := dk_21 7 (dk_at dksX2_turnFrom_5 2 rfl rfl)
theorem dX2_turnFrom_122 : decode cX2_turnFrom 122 = .ok (.invokestatic 222, 3) := dk_184 0 222 (dk_at dksX2_turnFrom_5 4 rfl rfl)
theorem dX2_turnFrom_125 : decode cX2_turnFrom 125 = .ok (.goto 10, 3) := dk_167 0 10 (dk_at dksX2_turnFrom_5 7 rfl rfl)
theorem dX2_turnFrom_128 : decode cX2_turnFrom 128 = .ok (.iload 4, 2) := dk_21 4 (dk_at dksX2_turnFrom_5 10 rfl rfl)
theorem dX2_turnFrom_130 : decode cX2_turnFrom 130 = .ok (.iload 7, 2) := dk_21 7 (dk_at dksX2_turnFrom_5 12 rfl rfl)
theorem dX2_turnFrom_132 : decode cX2_turnFrom 132 = .ok (.invokestatic 233, 3) := dk_184 0 233 (dk_at dksX2_turnFrom_5 14 rfl rfl)
theorem dX2_turnFrom_135 : decode cX2_turnFrom 135 = .ok (.istore 4, 2) := dk_54 4 (dk_at dksX2_turnFrom_5 17 rfl rfl)
theorem dX2_turnFrom_137 : decode cX2_turnFrom 137 = .ok (.iinc 6 1, 3) := dk_132 6 1 (dk_at dksX2_turnFrom_5 19 rfl rfl)
theorem dX2_turnFrom_140 : decode cX2_turnFrom 140 = .ok (.goto (-84), 3) := dk_167 255 172 (dk_at dksX2_turnFrom_6 0 rfl rfl)
theorem dX2_turnFrom_143 : decode cX2_turnFrom 143 = .ok (.iload 4, 2) := dk_21 4 (dk_at dksX2_turnFrom_6 3 rfl rfl)
theorem dX2_turnFrom_145 : decode cX2_turnFrom 145 = .ok (.ireturn, 1) := dk_172 (dk_at dksX2_turnFrom_6 5 rfl rfl)
def dkwX2_mayDo_1 : List UInt8 := [167, 0, 4, 3, 172]
abbrev dktX2_mayDo_1 : List UInt8 := dkwX2_mayDo_1 ++ []
def dkwX2_mayDo_0 : List UInt8 := [42, 27, 28, 182, 0, 219, 153, 0, 20, 42, 180, 0, 15, 16, 15, 27, 96, 46, 5, 159, 0, 7, 4]
abbrev dktX2_mayDo_0 : List UInt8 := dkwX2_mayDo_0 ++ dktX2_mayDo_1
theorem dksX2_mayDo_0 : cX2_mayDo.data.toList.drop 0 = dktX2_mayDo_0 := by decide +kernel
theorem dksX2_mayDo_1 : cX2_mayDo.data.toList.drop 23 = dktX2_mayDo_1 := dk_seg dksX2_mayDo_0 23 rfl rfl
theorem dX2_mayDo_0 : decode cX2_mayDo 0 = .ok (.aload_n 0, 1) := dk_42 (dk_at dksX2_mayDo_0 0 rfl rfl)
theorem dX2_mayDo_1 : decode cX2_mayDo 1 = .ok (.iload_n 1, 1) := dk_27 (dk_at dksX2_mayDo_0 1 rfl rfl)
theorem dX2_mayDo_2 : decode cX2_mayDo 2 = .ok (.iload_n 2, 1) := dk_28 (dk_at dksX2_mayDo_0 2 rfl rfl)
theorem dX2_mayDo_3 : decode cX2_mayDo 3 = .ok (.invokevirtual 219, 3) := dk_182 0 219 (dk_at dksX2_mayDo_0 3 rfl rfl)
theorem dX2_mayDo_6 : decode cX2_mayDo 6 = .ok (.ifCond .eq 20, 3) := dk_153 0 20 (dk_at dksX2_mayDo_0 6 rfl rfl)
theorem dX2_mayDo_9 : decode cX2_mayDo 9 = .ok (.aload_n 0, 1) := dk_42 (dk_at dksX2_mayDo_0 9 rfl rfl)
theorem dX2_mayDo_10 : decode cX2_mayDo 10 = .ok (.getfield 15, 3) := dk_180 0 15 (dk_at dksX2_mayDo_0 10 rfl rfl)
theorem dX2_mayDo_13 : decode cX2_mayDo 13 = .ok (.bipush 15, 2) := dk_16 15 (dk_at dksX2_mayDo_0 13 rfl rfl)
theorem dX2_mayDo_15 : decode cX2_mayDo 15 = .ok (.iload_n 1, 1) := dk_27 (dk_at dksX2_mayDo_0 15 rfl rfl)
theorem dX2_mayDo_16 : decode cX2_mayDo 16 = .ok (.iadd, 1) := dk_96 (dk_at dksX2_mayDo_0 16 rfl rfl)
theorem dX2_mayDo_17 : decode cX2_mayDo 17 = .ok (.iaload, 1) := dk_46 (dk_at dksX2_mayDo_0 17 rfl rfl)
theorem dX2_mayDo_18 : decode cX2_mayDo 18 = .ok (.iconst 2, 1) := dk_5 (dk_at dksX2_mayDo_0 18 rfl rfl)
theorem dX2_mayDo_19 : decode cX2_mayDo 19 = .ok (.if_icmp .eq 7, 3) := dk_159 0 7 (dk_at dksX2_mayDo_0 19 rfl rfl)
theorem dX2_mayDo_22 : decode cX2_mayDo 22 = .ok (.iconst 1, 1) := dk_4 (dk_at dksX2_mayDo_0 22 rfl rfl)
theorem dX2_mayDo_23 : decode cX2_mayDo 23 = .ok (.goto 4, 3) := dk_167 0 4 (dk_at dksX2_mayDo_1 0 rfl rfl)
theorem dX2_mayDo_26 : decode cX2_mayDo 26 = .ok (.iconst 0, 1) := dk_3 (dk_at dksX2_mayDo_1 3 rfl rfl)
theorem dX2_mayDo_27 : decode cX2_mayDo 27 = .ok (.ireturn, 1) := dk_172 (dk_at dksX2_mayDo_1 4 rfl rfl)
def dkwX2_drawn_13 : List UInt8 := [132, 7, 1, 167, 255, 59, 21, 6, 172]
abbrev dktX2_drawn_13 : List UInt8 := dkwX2_drawn_13 ++ []
def dkwX2_drawn_12 : List UInt8 := [42, 180, 0, 15, 16, 60, 21, 8, 96, 42, 180, 0, 85, 21, 8, 46, 79, 132, 8, 1, 167, 255, 227]
abbrev dktX2_drawn_12 : List UInt8 := dkwX2_drawn_12 ++ dktX2_drawn_13
def dkwX2_drawn_11 : List UInt8 := [182, 0, 242, 96, 54, 6, 42, 21, 4, 181, 0, 103, 3, 54, 8, 21, 8, 42, 180, 0, 96, 162, 0, 26]
abbrev dktX2_drawn_11 : List UInt8 := dkwX2_drawn_11 ++ dktX2_drawn_12
def dkwX2_drawn_10 : List UInt8 := [132, 8, 1, 167, 255, 141, 21, 6, 29, 2, 160, 0, 10, 42, 182, 0, 248, 167, 0, 8, 42, 29]
abbrev dktX2_drawn_10 : List UInt8 := dkwX2_drawn_10 ++ dktX2_drawn_11
def dkwX2_drawn_9 : List UInt8 := [112, 162, 0, 14, 42, 180, 0, 15, 16, 60, 21, 9, 96, 4, 79, 42, 42, 4, 182, 0, 245, 181, 0, 103]
abbrev dktX2_drawn_9 : List UInt8 := dkwX2_drawn_9 ++ dktX2_drawn_10
def dkwX2_drawn_8 : List UInt8 := [180, 0, 15, 16, 15, 21, 9, 96, 46, 5, 159, 0, 29, 21, 5, 16, 16, 124, 16, 12, 112, 28, 16, 100]
abbrev dktX2_drawn_8 : List UInt8 := dkwX2_drawn_8 ++ dktX2_drawn_9
def dkwX2_drawn_7 : List UInt8 := [180, 0, 96, 112, 54, 9, 42, 180, 0, 96, 158, 0, 52, 42, 21, 9, 182, 0, 216, 153, 0, 43, 42]
abbrev dktX2_drawn_7 : List UInt8 := dkwX2_drawn_7 ++ dktX2_drawn_8
def dkwX2_drawn_6 : List UInt8 := [17, 48, 57, 96, 54, 5, 42, 180, 0, 96, 154, 0, 7, 3, 167, 0, 13, 21, 5, 16, 8, 124, 42]
abbrev dktX2_drawn_6 : List UInt8 := dkwX2_drawn_6 ++ dktX2_drawn_7
def dkwX2_drawn_5 : List UInt8 := [162, 0, 193, 3, 54, 8, 21, 8, 28, 16, 100, 108, 16, 100, 112, 162, 0, 109, 21, 5, 19, 1, 36, 104]
abbrev dktX2_drawn_5 : List UInt8 := dkwX2_drawn_5 ++ dktX2_drawn_6
def dkwX2_drawn_4 : List UInt8 := [132, 5, 1, 167, 255, 227, 27, 54, 5, 3, 54, 6, 3, 54, 7, 21, 7, 28, 17, 39, 16, 108]
abbrev dktX2_drawn_4 : List UInt8 := dkwX2_drawn_4 ++ dktX2_drawn_5
def dkwX2_drawn_3 : List UInt8 := [180, 0, 96, 162, 0, 26, 42, 180, 0, 85, 21, 5, 42, 180, 0, 15, 16, 60, 21, 5, 96, 46, 79]
abbrev dktX2_drawn_3 : List UInt8 := dkwX2_drawn_3 ++ dktX2_drawn_4
def dkwX2_drawn_2 : List UInt8 := [42, 29, 182, 0, 99, 154, 0, 5, 2, 172, 42, 180, 0, 103, 54, 4, 3, 54, 5, 21, 5, 42]
abbrev dktX2_drawn_2 : List UInt8 := dkwX2_drawn_2 ++ dktX2_drawn_3
def dkwX2_drawn_1 : List UInt8 := [112, 4, 16, 40, 184, 0, 92, 153, 0, 25, 28, 16, 100, 112, 16, 12, 163, 0, 16, 29, 2, 159, 0, 13]
abbrev dktX2_drawn_1 : List UInt8 := dkwX2_drawn_1 ++ dktX2_drawn_2
def dkwX2_drawn_0 : List UInt8 := [28, 155, 0, 55, 28, 17, 39, 16, 108, 4, 16, 30, 184, 0, 92, 153, 0, 41, 28, 16, 100, 108, 16, 100]
abbrev dktX2_drawn_0 : List UInt8 := dkwX2_drawn_0 ++ dktX2_drawn_1
theorem dksX2_drawn_0 : cX2_drawn.data.toList.drop 0 = dktX2_drawn_0 := by decide +kernel
theorem dksX2_drawn_1 : cX2_drawn.data.toList.drop 24 = dktX2_drawn_1 := dk_seg dksX2_drawn_0 24 rfl rfl
theorem dksX2_drawn_2 : cX2_drawn.data.toList.drop 48 = dktX2_drawn_2 := dk_seg dksX2_drawn_1 24 rfl rfl
theorem dksX2_drawn_3 : cX2_drawn.data.toList.drop 70 = dktX2_drawn_3 := dk_seg dksX2_drawn_2 22 rfl rfl
theorem dksX2_drawn_4 : cX2_drawn.data.toList.drop 93 = dktX2_drawn_4 := dk_seg dksX2_drawn_3 23 rfl rfl
theorem dksX2_drawn_5 : cX2_drawn.data.toList.drop 115 = dktX2_drawn_5 := dk_seg dksX2_drawn_4 22 rfl rfl
theorem dksX2_drawn_6 : cX2_drawn.data.toList.drop 139 = dktX2_drawn_6 := dk_seg dksX2_drawn_5 24 rfl rfl
theorem dksX2_drawn_7 : cX2_drawn.data.toList.drop 162 = dktX2_drawn_7 := dk_seg dksX2_drawn_6 23 rfl rfl
theorem dksX2_drawn_8 : cX2_drawn.data.toList.drop 185 = dktX2_drawn_8 := dk_seg dksX2_drawn_7 23 rfl rfl
theorem dksX2_drawn_9 : cX2_drawn.data.toList.drop 209 = dktX2_drawn_9 := dk_seg dksX2_drawn_8 24 rfl rfl
theorem dksX2_drawn_10 : cX2_drawn.data.toList.drop 233 = dktX2_drawn_10 := dk_seg dksX2_drawn_9 24 rfl rfl
theorem dksX2_drawn_11 : cX2_drawn.data.toList.drop 255 = dktX2_drawn_11 := dk_seg dksX2_drawn_10 22 rfl rfl
theorem dksX2_drawn_12 : cX2_drawn.data.toList.drop 279 = dktX2_drawn_12 := dk_seg dksX2_drawn_11 24 rfl rfl
theorem dksX2_drawn_13 : cX2_drawn.data.toList.drop 302 = dktX2_drawn_13 := dk_seg dksX2_drawn_12 23 rfl rfl
theorem dX2_drawn_0 : decode cX2_drawn 0 = .ok (.iload_n 2, 1) := dk_28 (dk_at dksX2_drawn_0 0 rfl rfl)
theorem dX2_drawn_1 : decode cX2_drawn 1 = .ok (.ifCond .lt 55, 3) := dk_155 0 55 (dk_at dksX2_drawn_0 1 rfl rfl)
theorem dX2_drawn_4 : decode cX2_drawn 4 = .ok (.iload_n 2, 1) := dk_28 (dk_at dksX2_drawn_0 4 rfl rfl)
theorem dX2_drawn_5 : decode cX2_drawn 5 = .ok (.sipush 10000, 3) := dk_17 39 16 (dk_at dksX2_drawn_0 5 rfl rfl)
theorem dX2_drawn_8 : decode cX2_drawn 8 = .ok (.idiv, 1) := dk_108 (dk_at dksX2_drawn_0 8 rfl rfl)
theorem dX2_drawn_9 : decode cX2_drawn 9 = .ok (.iconst 1, 1) := dk_4 (dk_at dksX2_drawn_0 9 rfl rfl)
theorem dX2_drawn_10 : decode cX2_drawn 10 = .ok (.bipush 30, 2) := dk_16 30 (dk_at dksX2_drawn_0 10 rfl rfl)
theorem dX2_drawn_12 : decode cX2_drawn 12 = .ok (.invokestatic 92, 3) := dk_184 0 92 (dk_at dksX2_drawn_0 12 rfl rfl)
theorem dX2_drawn_15 : decode cX2_drawn 15 = .ok (.ifCond .eq 41, 3) := dk_153 0 41 (dk_at dksX2_drawn_0 15 rfl rfl)
theorem dX2_drawn_18 : decode cX2_drawn 18 = .ok (.iload_n 2, 1) := dk_28 (dk_at dksX2_drawn_0 18 rfl rfl)
theorem dX2_drawn_19 : decode cX2_drawn 19 = .ok (.bipush 100, 2) := dk_16 100 (dk_at dksX2_drawn_0 19 rfl rfl)
theorem dX2_drawn_21 : decode cX2_drawn 21 = .ok (.idiv, 1) := dk_108 (dk_at dksX2_drawn_0 21 rfl rfl)
theorem dX2_drawn_22 : decode cX2_drawn 22 = .ok (.bipush 100, 2) := dk_16 100 (dk_at dksX2_drawn_0 22 rfl rfl)
theorem dX2_drawn_24 : decode cX2_drawn 24 = .ok (.irem, 1) := dk_112 (dk_at dksX2_drawn_1 0 rfl rfl)
theorem dX2_drawn_25 : decode cX2_drawn 25 = .ok (.iconst 1, 1) := dk_4 (dk_at dksX2_drawn_1 1 rfl rfl)
theorem dX2_drawn_26 : decode cX2_drawn 26 = .ok (.bipush 40, 2) := dk_16 40 (dk_at dksX2_drawn_1 2 rfl rfl)
theorem dX2_drawn_28 : decode cX2_drawn 28 = .ok (.invokestatic 92, 3) := dk_184 0 92 (dk_at dksX2_drawn_1 4 rfl rfl)
theorem dX2_drawn_31 : decode cX2_drawn 31 = .ok (.ifCond .eq 25, 3) := dk_153 0 25 (dk_at dksX2_drawn_1 7 rfl rfl)
theorem dX2_drawn_34 : decode cX2_drawn 34 = .ok (.iload_n 2, 1) := dk_28 (dk_at dksX2_drawn_1 10 rfl rfl)
theorem dX2_drawn_35 : decode cX2_drawn 35 = .ok (.bipush 100, 2) := dk_16 100 (dk_at dksX2_drawn_1 11 rfl rfl)
theorem dX2_drawn_37 : decode cX2_drawn 37 = .ok (.irem, 1) := dk_112 (dk_at dksX2_drawn_1 13 rfl rfl)
theorem dX2_drawn_38 : decode cX2_drawn 38 = .ok (.bipush 12, 2) := dk_16 12 (dk_at dksX2_drawn_1 14 rfl rfl)
theorem dX2_drawn_40 : decode cX2_drawn 40 = .ok (.if_icmp .gt 16, 3) := dk_163 0 16 (dk_at dksX2_drawn_1 16 rfl rfl)
theorem dX2_drawn_43 : decode cX2_drawn 43 = .ok (.iload_n 3, 1) := dk_29 (dk_at dksX2_drawn_1 19 rfl rfl)
theorem dX2_drawn_44 : decode cX2_drawn 44 = .ok (.iconst (-1), 1) := dk_2 (dk_at dksX2_drawn_1 20 rfl rfl)
theorem dX2_drawn_45 : decode cX2_drawn 45 = .ok (.if_icmp .eq 13, 3) := dk_159 0 13 (dk_at dksX2_drawn_1 21 rfl rfl)
theorem dX2_drawn_48 : decode cX2_drawn 48 = .ok (.aload_n 0, 1) := dk_42 (dk_at dksX2_drawn_2 0 rfl rfl)
theorem dX2_drawn_49 : decode cX2_drawn 49 = .ok (.iload_n 3, 1) := dk_29 (dk_at dksX2_drawn_2 1 rfl rfl)
theorem dX2_drawn_50 : decode cX2_drawn 50 = .ok (.invokevirtual 99, 3) := dk_182 0 99 (dk_at dksX2_drawn_2 2 rfl rfl)
theorem dX2_drawn_53 : decode cX2_drawn 53 = .ok (.ifCond .ne 5, 3) := dk_154 0 5 (dk_at dksX2_drawn_2 5 rfl rfl)
theorem dX2_drawn_56 : decode cX2_drawn 56 = .ok (.iconst (-1), 1) := dk_2 (dk_at dksX2_drawn_2 8 rfl rfl)
theorem dX2_drawn_57 : decode cX2_drawn 57 = .ok (.ireturn, 1) := dk_172 (dk_at dksX2_drawn_2 9 rfl rfl)
theorem dX2_drawn_58 : decode cX2_drawn 58 = .ok (.aload_n 0, 1) := dk_42 (dk_at dksX2_drawn_2 10 rfl rfl)
theorem dX2_drawn_59 : decode cX2_drawn 59 = .ok (.getfield 103, 3) := dk_180 0 103 (dk_at dksX2_drawn_2 11 rfl rfl)
theorem dX2_drawn_62 : decode cX2_drawn 62 = .ok (.istore 4, 2) := dk_54 4 (dk_at dksX2_drawn_2 14 rfl rfl)
theorem dX2_drawn_64 : decode cX2_drawn 64 = .ok (.iconst 0, 1) := dk_3 (dk_at dksX2_drawn_2 16 rfl rfl)
theorem dX2_drawn_65 : decode cX2_drawn 65 = .ok (.istore 5, 2) := dk_54 5 (dk_at dksX2_drawn_2 17 rfl rfl)
theorem dX2_drawn_67 : decode cX2_drawn 67 = .ok (.iload 5, 2) := dk_21 5 (dk_at dksX2_drawn_2 19 rfl rfl)
theorem dX2_drawn_69 : decode cX2_drawn 69 = .ok (.aload_n 0, 1) := dk_42 (dk_at dksX2_drawn_2 21 rfl rfl)
theorem dX2_drawn_70 : decode cX2_drawn 70 = .ok (.getfield 96, 3) := dk_180 0 96 (dk_at dksX2_drawn_3 0 rfl rfl)
theorem dX2_drawn_73 : decode cX2_drawn 73 = .ok (.if_icmp .ge 26, 3) := dk_162 0 26 (dk_at dksX2_drawn_3 3 rfl rfl)
theorem dX2_drawn_76 : decode cX2_drawn 76 = .ok (.aload_n 0, 1) := dk_42 (dk_at dksX2_drawn_3 6 rfl rfl)
theorem dX2_drawn_77 : decode cX2_drawn 77 = .ok (.getfield 85, 3) := dk_180 0 85 (dk_at dksX2_drawn_3 7 rfl rfl)
theorem dX2_drawn_80 : decode cX2_drawn 80 = .ok (.iload 5, 2) := dk_21 5 (dk_at dksX2_drawn_3 10 rfl rfl)
theorem dX2_drawn_82 : decode cX2_drawn 82 = .ok (.aload_n 0, 1) := dk_42 (dk_at dksX2_drawn_3 12 rfl rfl)
theorem dX2_drawn_83 : decode cX2_drawn 83 = .ok (.getfield 15, 3) := dk_180 0 15 (dk_at dksX2_drawn_3 13 rfl rfl)
theorem dX2_drawn_86 : decode cX2_drawn 86 = .ok (.bipush 60, 2) := dk_16 60 (dk_at dksX2_drawn_3 16 rfl rfl)
theorem dX2_drawn_88 : decode cX2_drawn 88 = .ok (.iload 5, 2) := dk_21 5 (dk_at dksX2_drawn_3 18 rfl rfl)
theorem dX2_drawn_90 : decode cX2_drawn 90 = .ok (.iadd, 1) := dk_96 (dk_at dksX2_drawn_3 20 rfl rfl)
theorem dX2_drawn_91 : decode cX2_drawn 91 = .ok (.iaload, 1) := dk_46 (dk_at dksX2_drawn_3 21 rfl rfl)
theorem dX2_drawn_92 : decode cX2_drawn 92 = .ok (.iastore, 1) := dk_79 (dk_at dksX2_drawn_3 22 rfl rfl)
theorem dX2_drawn_93 : decode cX2_drawn 93 = .ok (.iinc 5 1, 3) := dk_132 5 1 (dk_at dksX2_drawn_4 0 rfl rfl)
theorem dX2_drawn_96 : decode cX2_drawn 96 = .ok (.goto (-29), 3) := dk_167 255 227 (dk_at dksX2_drawn_4 3 rfl rfl)
theorem dX2_drawn_99 : decode cX2_drawn 99 = .ok (.iload_n 1, 1) := dk_27 (dk_at dksX2_drawn_4 6 rfl rfl)
theorem dX2_drawn_100 : decode cX2_drawn 100 = .ok (.istore 5, 2) := dk_54 5 (dk_at dksX2_drawn_4 7 rfl rfl)
theorem dX2_drawn_102 : decode cX2_drawn 102 = .ok (.iconst 0, 1) := dk_3 (dk_at dksX2_drawn_4 9 rfl rfl)
theorem dX2_drawn_103 : decode cX2_drawn 103 = .ok (.istore 6, 2) := dk_54 6 (dk_at dksX2_drawn_4 10 rfl rfl)
theorem dX2_drawn_105 : decode cX2_drawn 105 = .ok (.iconst 0, 1) := dk_3 (dk_at dksX2_drawn_4 12 rfl rfl)
theorem dX2_drawn_106 : decode cX2_drawn 106 = .ok (.istore 7, 2) := dk_54 7 (dk_at dksX2_drawn_4 13 rfl rfl)
theorem dX2_drawn_108 : decode cX2_drawn 108 = .ok (.iload 7, 2) := dk_21 7 (dk_at dksX2_drawn_4 15 rfl rfl)
theorem dX2_drawn_110 : decode cX2_drawn 110 = .ok (.iload_n 2, 1) := dk_28 (dk_at dksX2_drawn_4 17 rfl rfl)
theorem dX2_drawn_111 : decode cX2_drawn 111 = .ok (.sipush 10000, 3) := dk_17 39 16 (dk_at dksX2_drawn_4 18 rfl rfl)
theorem dX2_drawn_114 : decode cX2_drawn 114 = .ok (.idiv, 1) := dk_108 (dk_at dksX2_drawn_4 21 rfl rfl)
theorem dX2_drawn_115 : decode cX2_drawn 115 = .ok (.if_icmp .ge 193, 3) := dk_162 0 193 (dk_at dksX2_drawn_5 0 rfl rfl)
theorem dX2_drawn_118 : decode cX2_drawn 118 = .ok (.iconst 0, 1) := dk_3 (dk_at dksX2_drawn_5 3 rfl rfl)
theorem dX2_drawn_119 : decode cX2_drawn 119 = .ok (.istore 8, 2) := dk_54 8 (dk_at dksX2_drawn_5 4 rfl rfl)
theorem dX2_drawn_121 : decode cX2_drawn 121 = .ok (.iload 8, 2) := dk_21 8 (dk_at dksX2_drawn_5 6 rfl rfl)
theorem dX2_drawn_123 : decode cX2_drawn 123 = .ok (.iload_n 2, 1) := dk_28 (dk_at dksX2_drawn_5 8 rfl rfl)
theorem dX2_drawn_124 : decode cX2_drawn 124 = .ok (.bipush 100, 2) := dk_16 100 (dk_at dksX2_drawn_5 9 rfl rfl)
theorem dX2_drawn_126 : decode cX2_drawn 126 = .ok (.idiv, 1) := dk_108 (dk_at dksX2_drawn_5 11 rfl rfl)
theorem dX2_drawn_127 : decode cX2_drawn 127 = .ok (.bipush 100, 2) := dk_16 100 (dk_at dksX2_drawn_5 12 rfl rfl)
theorem dX2_drawn_129 : decode cX2_drawn 129 = .ok (.irem, 1) := dk_112 (dk_at dksX2_drawn_5 14 rfl rfl)
theorem dX2_drawn_130 : decode cX2_drawn 130 = .ok (.if_icmp .ge 109, 3) := dk_162 0 109 (dk_at dksX2_drawn_5 15 rfl rfl)
theorem dX2_drawn_133 : decode cX2_drawn 133 = .ok (.iload 5, 2) := dk_21 5 (dk_at dksX2_drawn_5 18 rfl rfl)
theorem dX2_drawn_135 : decode cX2_drawn 135 = .ok (.ldc_w 292, 3) := dk_19 1 36 (dk_at dksX2_drawn_5 20 rfl rfl)
theorem dX2_drawn_138 : decode cX2_drawn 138 = .ok (.imul, 1) := dk_104 (dk_at dksX2_drawn_5 23 rfl rfl)
theorem dX2_drawn_139 : decode cX2_drawn 139 = .ok (.sipush 12345, 3) := dk_17 48 57 (dk_at dksX2_drawn_6 0 rfl rfl)
theorem dX2_drawn_142 : decode cX2_drawn 142 = .ok (.iadd, 1) := dk_96 (dk_at dksX2_drawn_6 3 rfl rfl)
theorem dX2_drawn_143 : decode cX2_drawn 143 = .ok (.istore 5, 2) := dk_54 5 (dk_at dksX2_drawn_6 4 rfl rfl)
theorem dX2_drawn_145 : decode cX2_drawn 145 = .ok (.aload_n 0, 1) := dk_42 (dk_at dksX2_drawn_6 6 rfl rfl)
theorem dX2_drawn_146 : decode cX2_drawn 146 = .ok (.getfield 96, 3) := dk_180 0 96 (dk_at dksX2_drawn_6 7 rfl rfl)
theorem dX2_drawn_149 : decode cX2_drawn 149 = .ok (.ifCond .ne 7, 3) := dk_154 0 7 (dk_at dksX2_drawn_6 10 rfl rfl)
theorem dX2_drawn_152 : decode cX2_drawn 152 = .ok (.iconst 0, 1) := dk_3 (dk_at dksX2_drawn_6 13 rfl rfl)
theorem dX2_drawn_153 : decode cX2_drawn 153 = .ok (.goto 13, 3) := dk_167 0 13 (dk_at dksX2_drawn_6 14 rfl rfl)
theorem dX2_drawn_156 : decode cX2_drawn 156 = .ok (.iload 5, 2) := dk_21 5 (dk_at dksX2_drawn_6 17 rfl rfl)
theorem dX2_drawn_158 : decode cX2_drawn 158 = .ok (.bipush 8, 2) := dk_16 8 (dk_at dksX2_drawn_6 19 rfl rfl)
theorem dX2_drawn_160 : decode cX2_drawn 160 = .ok (.iushr, 1) := dk_124 (dk_at dksX2_drawn_6 21 rfl rfl)
theorem dX2_drawn_161 : decode cX2_drawn 161 = .ok (.aload_n 0, 1) := dk_42 (dk_at dksX2_drawn_6 22 rfl rfl)
theorem dX2_drawn_162 : decode cX2_drawn 162 = .ok (.getfield 96, 3) := dk_180 0 96 (dk_at dksX2_drawn_7 0 rfl rfl)
theorem dX2_drawn_165 : decode cX2_drawn 165 = .ok (.irem, 1) := dk_112 (dk_at dksX2_drawn_7 3 rfl rfl)
theorem dX2_drawn_166 : decode cX2_drawn 166 = .ok (.istore 9, 2) := dk_54 9 (dk_at dksX2_drawn_7 4 rfl rfl)
theorem dX2_drawn_168 : decode cX2_drawn 168 = .ok (.aload_n 0, 1) := dk_42 (dk_at dksX2_drawn_7 6 rfl rfl)
theorem dX2_drawn_169 : decode cX2_drawn 169 = .ok (.getfield 96, 3) := dk_180 0 96 (dk_at dksX2_drawn_7 7 rfl rfl)
theorem dX2_drawn_172 : decode cX2_drawn 172 = .ok (.ifCond .le 52, 3) := dk_158 0 52 (dk_at dksX2_drawn_7 10 rfl rfl)
theorem dX2_drawn_175 : decode cX2_drawn 175 = .ok (.aload_n 0, 1) := dk_42 (dk_at dksX2_drawn_7 13 rfl rfl)
theorem dX2_drawn_176 : decode cX2_drawn 176 = .ok (.iload 9, 2) := dk_21 9 (dk_at dksX2_drawn_7 14 rfl rfl)
theorem dX2_drawn_178 : decode cX2_drawn 178 = .ok (.invokevirtual 216, 3) := dk_182 0 216 (dk_at dksX2_drawn_7 16 rfl rfl)
theorem dX2_drawn_181 : decode cX2_drawn 181 = .ok (.ifCond .eq 43, 3) := dk_153 0 43 (dk_at dksX2_drawn_7 19 rfl rfl)
theorem dX2_drawn_184 : decode cX2_drawn 184 = .ok (.aload_n 0, 1) := dk_42 (dk_at dksX2_drawn_7 22 rfl rfl)
theorem dX2_drawn_185 : decode cX2_drawn 185 = .ok (.getfield 15, 3) := dk_180 0 15 (dk_at dksX2_drawn_8 0 rfl rfl)
theorem dX2_drawn_188 : decode cX2_drawn 188 = .ok (.bipush 15, 2) := dk_16 15 (dk_at dksX2_drawn_8 3 rfl rfl)
theorem dX2_drawn_190 : decode cX2_drawn 190 = .ok (.iload 9, 2) := dk_21 9 (dk_at dksX2_drawn_8 5 rfl rfl)
theorem dX2_drawn_192 : decode cX2_drawn 192 = .ok (.iadd, 1) := dk_96 (dk_at dksX2_drawn_8 7 rfl rfl)
theorem dX2_drawn_193 : decode cX2_drawn 193 = .ok (.iaload, 1) := dk_46 (dk_at dksX2_drawn_8 8 rfl rfl)
theorem dX2_drawn_194 : decode cX2_drawn 194 = .ok (.iconst 2, 1) := dk_5 (dk_at dksX2_drawn_8 9 rfl rfl)
theorem dX2_drawn_195 : decode cX2_drawn 195 = .ok (.if_icmp .eq 29, 3) := dk_159 0 29 (dk_at dksX2_drawn_8 10 rfl rfl)
theorem dX2_drawn_198 : decode cX2_drawn 198 = .ok (.iload 5, 2) := dk_21 5 (dk_at dksX2_drawn_8 13 rfl rfl)
theorem dX2_drawn_200 : decode cX2_drawn 200 = .ok (.bipush 16, 2) := dk_16 16 (dk_at dksX2_drawn_8 15 rfl rfl)
theorem dX2_drawn_202 : decode cX2_drawn 202 = .ok (.iushr, 1) := dk_124 (dk_at dksX2_drawn_8 17 rfl rfl)
theorem dX2_drawn_203 : decode cX2_drawn 203 = .ok (.bipush 12, 2) := dk_16 12 (dk_at dksX2_drawn_8 18 rfl rfl)
theorem dX2_drawn_205 : decode cX2_drawn 205 = .ok (.irem, 1) := dk_112 (dk_at dksX2_drawn_8 20 rfl rfl)
theorem dX2_drawn_206 : decode cX2_drawn 206 = .ok (.iload_n 2, 1) := dk_28 (dk_at dksX2_drawn_8 21 rfl rfl)
theorem dX2_drawn_207 : decode cX2_drawn 207 = .ok (.bipush 100, 2) := dk_16 100 (dk_at dksX2_drawn_8 22 rfl rfl)
theorem dX2_drawn_209 : decode cX2_drawn 209 = .ok (.irem, 1) := dk_112 (dk_at dksX2_drawn_9 0 rfl rfl)
theorem dX2_drawn_210 : decode cX2_drawn 210 = .ok (.if_icmp .ge 14, 3) := dk_162 0 14 (dk_at dksX2_drawn_9 1 rfl rfl)
theorem dX2_drawn_213 : decode cX2_drawn 213 = .ok (.aload_n 0, 1) := dk_42 (dk_at dksX2_drawn_9 4 rfl rfl)
theorem dX2_drawn_214 : decode cX2_drawn 214 = .ok (.getfield 15, 3) := dk_180 0 15 (dk_at dksX2_drawn_9 5 rfl rfl)
theorem dX2_drawn_217 : decode cX2_drawn 217 = .ok (.bipush 60, 2) := dk_16 60 (dk_at dksX2_drawn_9 8 rfl rfl)
theorem dX2_drawn_219 : decode cX2_drawn 219 = .ok (.iload 9, 2) := dk_21 9 (dk_at dksX2_drawn_9 10 rfl rfl)
theorem dX2_drawn_221 : decode cX2_drawn 221 = .ok (.iadd, 1) := dk_96 (dk_at dksX2_drawn_9 12 rfl rfl)
theorem dX2_drawn_222 : decode cX2_drawn 222 = .ok (.iconst 1, 1) := dk_4 (dk_at dksX2_drawn_9 13 rfl rfl)
theorem dX2_drawn_223 : decode cX2_drawn 223 = .ok (.iastore, 1) := dk_79 (dk_at dksX2_drawn_9 14 rfl rfl)
theorem dX2_drawn_224 : decode cX2_drawn 224 = .ok (.aload_n 0, 1) := dk_42 (dk_at dksX2_drawn_9 15 rfl rfl)
theorem dX2_drawn_225 : decode cX2_drawn 225 = .ok (.aload_n 0, 1) := dk_42 (dk_at dksX2_drawn_9 16 rfl rfl)
theorem dX2_drawn_226 : decode cX2_drawn 226 = .ok (.iconst 1, 1) := dk_4 (dk_at dksX2_drawn_9 17 rfl rfl)
theorem dX2_drawn_227 : decode cX2_drawn 227 = .ok (.invokevirtual 245, 3) := dk_182 0 245 (dk_at dksX2_drawn_9 18 rfl rfl)
theorem dX2_drawn_230 : decode cX2_drawn 230 = .ok (.putfield 103, 3) := dk_181 0 103 (dk_at dksX2_drawn_9 21 rfl rfl)
theorem dX2_drawn_233 : decode cX2_drawn 233 = .ok (.iinc 8 1, 3) := dk_132 8 1 (dk_at dksX2_drawn_10 0 rfl rfl)
theorem dX2_drawn_236 : decode cX2_drawn 236 = .ok (.goto (-115), 3) := dk_167 255 141 (dk_at dksX2_drawn_10 3 rfl rfl)
theorem dX2_drawn_239 : decode cX2_drawn 239 = .ok (.iload 6, 2) := dk_21 6 (dk_at dksX2_drawn_10 6 rfl rfl)
theorem dX2_drawn_241 : decode cX2_drawn 241 = .ok (.iload_n 3, 1) := dk_29 (dk_at dksX2_drawn_10 8 rfl rfl)
theorem dX2_drawn_242 : decode cX2_drawn 242 = .ok (.iconst (-1), 1) := dk_2 (dk_at dksX2_drawn_10 9 rfl rfl)
theorem dX2_drawn_243 : decode cX2_drawn 243 = .ok (.if_icmp .ne 10, 3) := dk_160 0 10 (dk_at dksX2_drawn_10 10 rfl rfl)
theorem dX2_drawn_246 : decode cX2_drawn 246 = .ok (.aload_n 0, 1) := dk_42 (dk_at dksX2_drawn_10 13 rfl rfl)
theorem dX2_drawn_247 : decode cX2_drawn 247 = .ok (.invokevirtual 248, 3) := dk_182 0 248 (dk_at dksX2_drawn_10 14 rfl rfl)
theorem dX2_drawn_250 : decode cX2_drawn 250 = .ok (.goto 8, 3) := dk_167 0 8 (dk_at dksX2_drawn_10 17 rfl rfl)
theorem dX2_drawn_253 : decode cX2_drawn 253 = .ok (.aload_n 0, 1) := dk_42 (dk_at dksX2_drawn_10 20 rfl rfl)
theorem dX2_drawn_254 : decode cX2_drawn 254 = .ok (.iload_n 3, 1) := dk_29 (dk_at dksX2_drawn_10 21 rfl rfl)
theorem dX2_drawn_255 : decode cX2_drawn 255 = .ok (.invokevirtual 242, 3) := dk_182 0 242 (dk_at dksX2_drawn_11 0 rfl rfl)
theorem dX2_drawn_258 : decode cX2_drawn 258 = .ok (.iadd, 1) := dk_96 (dk_at dksX2_drawn_11 3 rfl rfl)
theorem dX2_drawn_259 : decode cX2_drawn 259 = .ok (.istore 6, 2) := dk_54 6 (dk_at dksX2_drawn_11 4 rfl rfl)
theorem dX2_drawn_261 : decode cX2_drawn 261 = .ok (.aload_n 0, 1) := dk_42 (dk_at dksX2_drawn_11 6 rfl rfl)
theorem dX2_drawn_262 : decode cX2_drawn 262 = .ok (.iload 4, 2) := dk_21 4 (dk_at dksX2_drawn_11 7 rfl rfl)
theorem dX2_drawn_264 : decode cX2_drawn 264 = .ok (.putfield 103, 3) := dk_181 0 103 (dk_at dksX2_drawn_11 9 rfl rfl)
theorem dX2_drawn_267 : decode cX2_drawn 267 = .ok (.iconst 0, 1) := dk_3 (dk_at dksX2_drawn_11 12 rfl rfl)
theorem dX2_drawn_268 : decode cX2_drawn 268 = .ok (.istore 8, 2) := dk_54 8 (dk_at dksX2_drawn_11 13 rfl rfl)
theorem dX2_drawn_270 : decode cX2_drawn 270 = .ok (.iload 8, 2) := dk_21 8 (dk_at dksX2_drawn_11 15 rfl rfl)
theorem dX2_drawn_272 : decode cX2_drawn 272 = .ok (.aload_n 0, 1) := dk_42 (dk_at dksX2_drawn_11 17 rfl rfl)
theorem dX2_drawn_273 : decode cX2_drawn 273 = .ok (.getfield 96, 3) := dk_180 0 96 (dk_at dksX2_drawn_11 18 rfl rfl)
theorem dX2_drawn_276 : decode cX2_drawn 276 = .ok (.if_icmp .ge 26, 3) := dk_162 0 26 (dk_at dksX2_drawn_11 21 rfl rfl)
theorem dX2_drawn_279 : decode cX2_drawn 279 = .ok (.aload_n 0, 1) := dk_42 (dk_at dksX2_drawn_12 0 rfl rfl)
theorem dX2_drawn_280 : decode cX2_drawn 280 = .ok (.getfield 15, 3) := dk_180 0 15 (dk_at dksX2_drawn_12 1 rfl rfl)
theorem dX2_drawn_283 : decode cX2_drawn 283 = .ok (.bipush 60, 2) := dk_16 60 (dk_at dksX2_drawn_12 4 rfl rfl)
theorem dX2_drawn_285 : decode cX2_drawn 285 = .ok (.iload 8, 2) := dk_21 8 (dk_at dksX2_drawn_12 6 rfl rfl)
theorem dX2_drawn_287 : decode cX2_drawn 287 = .ok (.iadd, 1) := dk_96 (dk_at dksX2_drawn_12 8 rfl rfl)
theorem dX2_drawn_288 : decode cX2_drawn 288 = .ok (.aload_n 0, 1) := dk_42 (dk_at dksX2_drawn_12 9 rfl rfl)
theorem dX2_drawn_289 : decode cX2_drawn 289 = .ok (.getfield 85, 3) := dk_180 0 85 (dk_at dksX2_drawn_12 10 rfl rfl)
theorem dX2_drawn_292 : decode cX2_drawn 292 = .ok (.iload 8, 2) := dk_21 8 (dk_at dksX2_drawn_12 13 rfl rfl)
theorem dX2_drawn_294 : decode cX2_drawn 294 = .ok (.iaload, 1) := dk_46 (dk_at dksX2_drawn_12 15 rfl rfl)
theorem dX2_drawn_295 : decode cX2_drawn 295 = .ok (.iastore, 1) := dk_79 (dk_at dksX2_drawn_12 16 rfl rfl)
theorem dX2_drawn_296 : decode cX2_drawn 296 = .ok (.iinc 8 1, 3) := dk_132 8 1 (dk_at dksX2_drawn_12 17 rfl rfl)
theorem dX2_drawn_299 : decode cX2_drawn 299 = .ok (.goto (-29), 3) := dk_167 255 227 (dk_at dksX2_drawn_12 20 rfl rfl)
theorem dX2_drawn_302 : decode cX2_drawn 302 = .ok (.iinc 7 1, 3) := dk_132 7 1 (dk_at dksX2_drawn_13 0 rfl rfl)
theorem dX2_drawn_305 : decode cX2_drawn 305 = .ok (.goto (-197), 3) := dk_167 255 59 (dk_at dksX2_drawn_13 3 rfl rfl)
theorem dX2_drawn_308 : decode cX2_drawn 308 = .ok (.iload 6, 2) := dk_21 6 (dk_at dksX2_drawn_13 6 rfl rfl)
theorem dX2_drawn_310 : decode cX2_drawn 310 = .ok (.ireturn, 1) := dk_172 (dk_at dksX2_drawn_13 8 rfl rfl)
def dkwX2_does_4 : List UInt8 := [42, 180, 0, 57, 6, 92, 46, 42, 180, 0, 15, 27, 46, 96, 79, 42, 180, 0, 9, 28, 46, 172]
abbrev dktX2_does_4 : List UInt8 := dkwX2_does_4 ++ []
def dkwX2_does_3 : List UInt8 := [180, 0, 9, 28, 92, 46, 42, 180, 0, 15, 27, 46, 100, 79, 42, 180, 0, 57, 4, 92, 46, 4, 96, 79]
abbrev dktX2_does_3 : List UInt8 := dkwX2_does_3 ++ dktX2_does_4
def dkwX2_does_2 : List UInt8 := [180, 0, 15, 27, 46, 162, 0, 6, 16, 251, 172, 42, 180, 0, 15, 16, 60, 27, 96, 4, 79, 42]
abbrev dktX2_does_2 : List UInt8 := dkwX2_does_2 ++ dktX2_does_3
def dkwX2_does_1 : List UInt8 := [153, 0, 31, 42, 180, 0, 15, 16, 15, 27, 96, 46, 5, 159, 0, 18, 42, 180, 0, 9, 28, 46, 42]
abbrev dktX2_does_1 : List UInt8 := dkwX2_does_1 ++ dktX2_does_2
def dkwX2_does_0 : List UInt8 := [42, 27, 182, 0, 127, 153, 0, 11, 42, 28, 182, 0, 99, 154, 0, 5, 2, 172, 42, 27, 182, 0, 216]
abbrev dktX2_does_0 : List UInt8 := dkwX2_does_0 ++ dktX2_does_1
theorem dksX2_does_0 : cX2_does.data.toList.drop 0 = dktX2_does_0 := by decide +kernel
theorem dksX2_does_1 : cX2_does.data.toList.drop 23 = dktX2_does_1 := dk_seg dksX2_does_0 23 rfl rfl
theorem dksX2_does_2 : cX2_does.data.toList.drop 46 = dktX2_does_2 := dk_seg dksX2_does_1 23 rfl rfl
theorem dksX2_does_3 : cX2_does.data.toList.drop 68 = dktX2_does_3 := dk_seg dksX2_does_2 22 rfl rfl
theorem dksX2_does_4 : cX2_does.data.toList.drop 92 = dktX2_does_4 := dk_seg dksX2_does_3 24 rfl rfl
theorem dX2_does_0 : decode cX2_does 0 = .ok (.aload_n 0, 1) := dk_42 (dk_at dksX2_does_0 0 rfl rfl)
theorem dX2_does_1 : decode cX2_does 1 = .ok (.iload_n 1, 1) := dk_27 (dk_at dksX2_does_0 1 rfl rfl)
theorem dX2_does_2 : decode cX2_does 2 = .ok (.invokevirtual 127, 3) := dk_182 0 127 (dk_at dksX2_does_0 2 rfl rfl)
theorem dX2_does_5 : decode cX2_does 5 = .ok (.ifCond .eq 11, 3) := dk_153 0 11 (dk_at dksX2_does_0 5 rfl rfl)
theorem dX2_does_8 : decode cX2_does 8 = .ok (.aload_n 0, 1) := dk_42 (dk_at dksX2_does_0 8 rfl rfl)
theorem dX2_does_9 : decode cX2_does 9 = .ok (.iload_n 2, 1) := dk_28 (dk_at dksX2_does_0 9 rfl rfl)
theorem dX2_does_10 : decode cX2_does 10 = .ok (.invokevirtual 99, 3) := dk_182 0 99 (dk_at dksX2_does_0 10 rfl rfl)
theorem dX2_does_13 : decode cX2_does 13 = .ok (.ifCond .ne 5, 3) := dk_154 0 5 (dk_at dksX2_does_0 13 rfl rfl)
theorem dX2_does_16 : decode cX2_does 16 = .ok (.iconst (-1), 1) := dk_2 (dk_at dksX2_does_0 16 rfl rfl)
theorem dX2_does_17 : decode cX2_does 17 = .ok (.ireturn, 1) := dk_172 (dk_at dksX2_does_0 17 rfl rfl)
theorem dX2_does_18 : decode cX2_does 18 = .ok (.aload_n 0, 1) := dk_42 (dk_at dksX2_does_0 18 rfl rfl)
theorem dX2_does_19 : decode cX2_does 19 = .ok (.iload_n 1, 1) := dk_27 (dk_at dksX2_does_0 19 rfl rfl)
theorem dX2_does_20 : decode cX2_does 20 = .ok (.invokevirtual 216, 3) := dk_182 0 216 (dk_at dksX2_does_0 20 rfl rfl)
theorem dX2_does_23 : decode cX2_does 23 = .ok (.ifCond .eq 31, 3) := dk_153 0 31 (dk_at dksX2_does_1 0 rfl rfl)
theorem dX2_does_26 : decode cX2_does 26 = .ok (.aload_n 0, 1) := dk_42 (dk_at dksX2_does_1 3 rfl rfl)
theorem dX2_does_27 : decode cX2_does 27 = .ok (.getfield 15, 3) := dk_180 0 15 (dk_at dksX2_does_1 4 rfl rfl)
theorem dX2_does_30 : decode cX2_does 30 = .ok (.bipush 15, 2) := dk_16 15 (dk_at dksX2_does_1 7 rfl rfl)
theorem dX2_does_32 : decode cX2_does 32 = .ok (.iload_n 1, 1) := dk_27 (dk_at dksX2_does_1 9 rfl rfl)
theorem dX2_does_33 : decode cX2_does 33 = .ok (.iadd, 1) := dk_96 (dk_at dksX2_does_1 10 rfl rfl)
theorem dX2_does_34 : decode cX2_does 34 = .ok (.iaload, 1) := dk_46 (dk_at dksX2_does_1 11 rfl rfl)
theorem dX2_does_35 : decode cX2_does 35 = .ok (.iconst 2, 1) := dk_5 (dk_at dksX2_does_1 12 rfl rfl)
theorem dX2_does_36 : decode cX2_does 36 = .ok (.if_icmp .eq 18, 3) := dk_159 0 18 (dk_at dksX2_does_1 13 rfl rfl)
theorem dX2_does_39 : decode cX2_does 39 = .ok (.aload_n 0, 1) := dk_42 (dk_at dksX2_does_1 16 rfl rfl)
theorem dX2_does_40 : decode cX2_does 40 = .ok (.getfield 9, 3) := dk_180 0 9 (dk_at dksX2_does_1 17 rfl rfl)
theorem dX2_does_43 : decode cX2_does 43 = .ok (.iload_n 2, 1) := dk_28 (dk_at dksX2_does_1 20 rfl rfl)
theorem dX2_does_44 : decode cX2_does 44 = .ok (.iaload, 1) := dk_46 (dk_at dksX2_does_1 21 rfl rfl)
theorem dX2_does_45 : decode cX2_does 45 = .ok (.aload_n 0, 1) := dk_42 (dk_at dksX2_does_1 22 rfl rfl)
theorem dX2_does_46 : decode cX2_does 46 = .ok (.getfield 15, 3) := dk_180 0 15 (dk_at dksX2_does_2 0 rfl rfl)
theorem dX2_does_49 : decode cX2_does 49 = .ok (.iload_n 1, 1) := dk_27 (dk_at dksX2_does_2 3 rfl rfl)
theorem dX2_does_50 : decode cX2_does 50 = .ok (.iaload, 1) := dk_46 (dk_at dksX2_does_2 4 rfl rfl)
theorem dX2_does_51 : decode cX2_does 51 = .ok (.if_icmp .ge 6, 3) := dk_162 0 6 (dk_at dksX2_does_2 5 rfl rfl)
theorem dX2_does_54 : decode cX2_does 54 = .ok (.bipush (-5), 2) := dk_16 251 (dk_at dksX2_does_2 8 rfl rfl)
theorem dX2_does_56 : decode cX2_does 56 = .ok (.ireturn, 1) := dk_172 (dk_at dksX2_does_2 10 rfl rfl)
theorem dX2_does_57 : decode cX2_does 57 = .ok (.aload_n 0, 1) := dk_42 (dk_at dksX2_does_2 11 rfl rfl)
theorem dX2_does_58 : decode cX2_does 58 = .ok (.getfield 15, 3) := dk_180 0 15 (dk_at dksX2_does_2 12 rfl rfl)
theorem dX2_does_61 : decode cX2_does 61 = .ok (.bipush 60, 2) := dk_16 60 (dk_at dksX2_does_2 15 rfl rfl)
theorem dX2_does_63 : decode cX2_does 63 = .ok (.iload_n 1, 1) := dk_27 (dk_at dksX2_does_2 17 rfl rfl)
theorem dX2_does_64 : decode cX2_does 64 = .ok (.iadd, 1) := dk_96 (dk_at dksX2_does_2 18 rfl rfl)
theorem dX2_does_65 : decode cX2_does 65 = .ok (.iconst 1, 1) := dk_4 (dk_at dksX2_does_2 19 rfl rfl)
theorem dX2_does_66 : decode cX2_does 66 = .ok (.iastore, 1) := dk_79 (dk_at dksX2_does_2 20 rfl rfl)
theorem dX2_does_67 : decode cX2_does 67 = .ok (.aload_n 0, 1) := dk_42 (dk_at dksX2_does_2 21 rfl rfl)
theorem dX2_does_68 : decode cX2_does 68 = .ok (.getfield 9, 3) := dk_180 0 9 (dk_at dksX2_does_3 0 rfl rfl)
theorem dX2_does_71 : decode cX2_does 71 = .ok (.iload_n 2, 1) := dk_28 (dk_at dksX2_does_3 3 rfl rfl)
theorem dX2_does_72 : decode cX2_does 72 = .ok (.dup2, 1) := dk_92 (dk_at dksX2_does_3 4 rfl rfl)
theorem dX2_does_73 : decode cX2_does 73 = .ok (.iaload, 1) := dk_46 (dk_at dksX2_does_3 5 rfl rfl)
theorem dX2_does_74 : decode cX2_does 74 = .ok (.aload_n 0, 1) := dk_42 (dk_at dksX2_does_3 6 rfl rfl)
theorem dX2_does_75 : decode cX2_does 75 = .ok (.getfield 15, 3) := dk_180 0 15 (dk_at dksX2_does_3 7 rfl rfl)
theorem dX2_does_78 : decode cX2_does 78 = .ok (.iload_n 1, 1) := dk_27 (dk_at dksX2_does_3 10 rfl rfl)
theorem dX2_does_79 : decode cX2_does 79 = .ok (.iaload, 1) := dk_46 (dk_at dksX2_does_3 11 rfl rfl)
theorem dX2_does_80 : decode cX2_does 80 = .ok (.isub, 1) := dk_100 (dk_at dksX2_does_3 12 rfl rfl)
theorem dX2_does_81 : decode cX2_does 81 = .ok (.iastore, 1) := dk_79 (dk_at dksX2_does_3 13 rfl rfl)
theorem dX2_does_82 : decode cX2_does 82 = .ok (.aload_n 0, 1) := dk_42 (dk_at dksX2_does_3 14 rfl rfl)
theorem dX2_does_83 : decode cX2_does 83 = .ok (.getfield 57, 3) := dk_180 0 57 (dk_at dksX2_does_3 15 rfl rfl)
theorem dX2_does_86 : decode cX2_does 86 = .ok (.iconst 1, 1) := dk_4 (dk_at dksX2_does_3 18 rfl rfl)
theorem dX2_does_87 : decode cX2_does 87 = .ok (.dup2, 1) := dk_92 (dk_at dksX2_does_3 19 rfl rfl)
theorem dX2_does_88 : decode cX2_does 88 = .ok (.iaload, 1) := dk_46 (dk_at dksX2_does_3 20 rfl rfl)
theorem dX2_does_89 : decode cX2_does 89 = .ok (.iconst 1, 1) := dk_4 (dk_at dksX2_does_3 21 rfl rfl)
theorem dX2_does_90 : decode cX2_does 90 = .ok (.iadd, 1) := dk_96 (dk_at dksX2_does_3 22 rfl rfl)
theorem dX2_does_91 : decode cX2_does 91 = .ok (.iastore, 1) := dk_79 (dk_at dksX2_does_3 23 rfl rfl)
theorem dX2_does_92 : decode cX2_does 92 = .ok (.aload_n 0, 1) := dk_42 (dk_at dksX2_does_4 0 rfl rfl)
theorem dX2_does_93 : decode cX2_does 93 = .ok (.getfield 57, 3) := dk_180 0 57 (dk_at dksX2_does_4 1 rfl rfl)
theorem dX2_does_96 : decode cX2_does 96 = .ok (.iconst 3, 1) := dk_6 (dk_at dksX2_does_4 4 rfl rfl)
theorem dX2_does_97 : decode cX2_does 97 = .ok (.dup2, 1) := dk_92 (dk_at dksX2_does_4 5 rfl rfl)
theorem dX2_does_98 : decode cX2_does 98 = .ok (.iaload, 1) := dk_46 (dk_at dksX2_does_4 6 rfl rfl)
theorem dX2_does_99 : decode cX2_does 99 = .ok (.aload_n 0, 1) := dk_42 (dk_at dksX2_does_4 7 rfl rfl)
theorem dX2_does_100 : decode cX2_does 100 = .ok (.getfield 15, 3) := dk_180 0 15 (dk_at dksX2_does_4 8 rfl rfl)
theorem dX2_does_103 : decode cX2_does 103 = .ok (.iload_n 1, 1) := dk_27 (dk_at dksX2_does_4 11 rfl rfl)
theorem dX2_does_104 : decode cX2_does 104 = .ok (.iaload, 1) := dk_46 (dk_at dksX2_does_4 12 rfl rfl)
theorem dX2_does_105 : decode cX2_does 105 = .ok (.iadd, 1) := dk_96 (dk_at dksX2_does_4 13 rfl rfl)
theorem dX2_does_106 : decode cX2_does 106 = .ok (.iastore, 1) := dk_79 (dk_at dksX2_does_4 14 rfl rfl)
theorem dX2_does_107 : decode cX2_does 107 = .ok (.aload_n 0, 1) := dk_42 (dk_at dksX2_does_4 15 rfl rfl)
theorem dX2_does_108 : decode cX2_does 108 = .ok (.getfield 9, 3) := dk_180 0 9 (dk_at dksX2_does_4 16 rfl rfl)
theorem dX2_does_111 : decode cX2_does 111 = .ok (.iload_n 2, 1) := dk_28 (dk_at dksX2_does_4 19 rfl rfl)
theorem dX2_does_112 : decode cX2_does 112 = .ok (.iaload, 1) := dk_46 (dk_at dksX2_does_4 20 rfl rfl)
theorem dX2_does_113 : decode cX2_does 113 = .ok (.ireturn, 1) := dk_172 (dk_at dksX2_does_4 21 rfl rfl)
def dkwX2_release_2 : List UInt8 := [96, 79, 42, 42, 180, 0, 18, 27, 46, 182, 0, 242, 172]
abbrev dktX2_release_2 : List UInt8 := dkwX2_release_2 ++ []
def dkwX2_release_1 : List UInt8 := [156, 0, 6, 16, 251, 172, 42, 180, 0, 15, 16, 60, 27, 96, 4, 79, 42, 180, 0, 57, 5, 92, 46, 4]
abbrev dktX2_release_1 : List UInt8 := dkwX2_release_1 ++ dktX2_release_2
def dkwX2_release_0 : List UInt8 := [42, 27, 182, 0, 127, 154, 0, 5, 2, 172, 42, 27, 182, 0, 216, 153, 0, 12, 42, 180, 0, 21, 27, 46]
abbrev dktX2_release_0 : List UInt8 := dkwX2_release_0 ++ dktX2_release_1
theorem dksX2_release_0 : cX2_release.data.toList.drop 0 = dktX2_release_0 := by decide +kernel
theorem dksX2_release_1 : cX2_release.data.toList.drop 24 = dktX2_release_1 := dk_seg dksX2_release_0 24 rfl rfl
theorem dksX2_release_2 : cX2_release.data.toList.drop 48 = dktX2_release_2 := dk_seg dksX2_release_1 24 rfl rfl
theorem dX2_release_0 : decode cX2_release 0 = .ok (.aload_n 0, 1) := dk_42 (dk_at dksX2_release_0 0 rfl rfl)
theorem dX2_release_1 : decode cX2_release 1 = .ok (.iload_n 1, 1) := dk_27 (dk_at dksX2_release_0 1 rfl rfl)
theorem dX2_release_2 : decode cX2_release 2 = .ok (.invokevirtual 127, 3) := dk_182 0 127 (dk_at dksX2_release_0 2 rfl rfl)
theorem dX2_release_5 : decode cX2_release 5 = .ok (.ifCond .ne 5, 3) := dk_154 0 5 (dk_at dksX2_release_0 5 rfl rfl)
theorem dX2_release_8 : decode cX2_release 8 = .ok (.iconst (-1), 1) := dk_2 (dk_at dksX2_release_0 8 rfl rfl)
theorem dX2_release_9 : decode cX2_release 9 = .ok (.ireturn, 1) := dk_172 (dk_at dksX2_release_0 9 rfl rfl)
theorem dX2_release_10 : decode cX2_release 10 = .ok (.aload_n 0, 1) := dk_42 (dk_at dksX2_release_0 10 rfl rfl)
theorem dX2_release_11 : decode cX2_release 11 = .ok (.iload_n 1, 1) := dk_27 (dk_at dksX2_release_0 11 rfl rfl)
theorem dX2_release_12 : decode cX2_release 12 = .ok (.invokevirtual 216, 3) := dk_182 0 216 (dk_at dksX2_release_0 12 rfl rfl)
theorem dX2_release_15 : decode cX2_release 15 = .ok (.ifCond .eq 12, 3) := dk_153 0 12 (dk_at dksX2_release_0 15 rfl rfl)
theorem dX2_release_18 : decode cX2_release 18 = .ok (.aload_n 0, 1) := dk_42 (dk_at dksX2_release_0 18 rfl rfl)
theorem dX2_release_19 : decode cX2_release 19 = .ok (.getfield 21, 3) := dk_180 0 21 (dk_at dksX2_release_0 19 rfl rfl)
theorem dX2_release_22 : decode cX2_release 22 = .ok (.iload_n 1, 1) := dk_27 (dk_at dksX2_release_0 22 rfl rfl)
theorem dX2_release_23 : decode cX2_release 23 = .ok (.iaload, 1) := dk_46 (dk_at dksX2_release_0 23 rfl rfl)
theorem dX2_release_24 : decode cX2_release 24 = .ok (.ifCond .ge 6, 3) := dk_156 0 6 (dk_at dksX2_release_1 0 rfl rfl)
theorem dX2_release_27 : decode cX2_release 27 = .ok (.bipush (-5), 2) := dk_16 251 (dk_at dksX2_release_1 3 rfl rfl)
theorem dX2_release_29 : decode cX2_release 29 = .ok (.ireturn, 1) := dk_172 (dk_at dksX2_release_1 5 rfl rfl)
theorem dX2_release_30 : decode cX2_release 30 = .ok (.aload_n 0, 1) := dk_42 (dk_at dksX2_release_1 6 rfl rfl)
theorem dX2_release_31 : decode cX2_release 31 = .ok (.getfield 15, 3) := dk_180 0 15 (dk_at dksX2_release_1 7 rfl rfl)
theorem dX2_release_34 : decode cX2_release 34 = .ok (.bipush 60, 2) := dk_16 60 (dk_at dksX2_release_1 10 rfl rfl)
theorem dX2_release_36 : decode cX2_release 36 = .ok (.iload_n 1, 1) := dk_27 (dk_at dksX2_release_1 12 rfl rfl)
theorem dX2_release_37 : decode cX2_release 37 = .ok (.iadd, 1) := dk_96 (dk_at dksX2_release_1 13 rfl rfl)
theorem dX2_release_38 : decode cX2_release 38 = .ok (.iconst 1, 1) := dk_4 (dk_at dksX2_release_1 14 rfl rfl)
theorem dX2_release_39 : decode cX2_release 39 = .ok (.iastore, 1) := dk_79 (dk_at dksX2_release_1 15 rfl rfl)
theorem dX2_release_40 : decode cX2_release 40 = .ok (.aload_n 0, 1) := dk_42 (dk_at dksX2_release_1 16 rfl rfl)
theorem dX2_release_41 : decode cX2_release 41 = .ok (.getfield 57, 3) := dk_180 0 57 (dk_at dksX2_release_1 17 rfl rfl)
theorem dX2_release_44 : decode cX2_release 44 = .ok (.iconst 2, 1) := dk_5 (dk_at dksX2_release_1 20 rfl rfl)
theorem dX2_release_45 : decode cX2_release 45 = .ok (.dup2, 1) := dk_92 (dk_at dksX2_release_1 21 rfl rfl)
theorem dX2_release_46 : decode cX2_release 46 = .ok (.iaload, 1) := dk_46 (dk_at dksX2_release_1 22 rfl rfl)
theorem dX2_release_47 : decode cX2_release 47 = .ok (.iconst 1, 1) := dk_4 (dk_at dksX2_release_1 23 rfl rfl)
theorem dX2_release_48 : decode cX2_release 48 = .ok (.iadd, 1) := dk_96 (dk_at dksX2_release_2 0 rfl rfl)
theorem dX2_release_49 : decode cX2_release 49 = .ok (.iastore, 1) := dk_79 (dk_at dksX2_release_2 1 rfl rfl)
theorem dX2_release_50 : decode cX2_release 50 = .ok (.aload_n 0, 1) := dk_42 (dk_at dksX2_release_2 2 rfl rfl)
theorem dX2_release_51 : decode cX2_release 51 = .ok (.aload_n 0, 1) := dk_42 (dk_at dksX2_release_2 3 rfl rfl)
theorem dX2_release_52 : decode cX2_release 52 = .ok (.getfield 18, 3) := dk_180 0 18 (dk_at dksX2_release_2 4 rfl rfl)
theorem dX2_release_55 : decode cX2_release 55 = .ok (.iload_n 1, 1) := dk_27 (dk_at dksX2_release_2 7 rfl rfl)
theorem dX2_release_56 : decode cX2_release 56 = .ok (.iaload, 1) := dk_46 (dk_at dksX2_release_2 8 rfl rfl)
theorem dX2_release_57 : decode cX2_release 57 = .ok (.invokevirtual 242, 3) := dk_182 0 242 (dk_at dksX2_release_2 9 rfl rfl)
theorem dX2_release_60 : decode cX2_release 60 = .ok (.ireturn, 1) := dk_172 (dk_at dksX2_release_2 12 rfl rfl)
def dkwX2_days_1 : List UInt8 := [180, 0, 57, 7, 92, 46, 27, 96, 79, 42, 180, 0, 103, 172]
abbrev dktX2_days_1 : List UInt8 := dkwX2_days_1 ++ []
def dkwX2_days_0 : List UInt8 := [27, 4, 16, 99, 184, 0, 92, 154, 0, 5, 2, 172, 42, 42, 27, 182, 0, 245, 181, 0, 103, 42]
abbrev dktX2_days_0 : List UInt8 := dkwX2_days_0 ++ dktX2_days_1
theorem dksX2_days_0 : cX2_days.data.toList.drop 0 = dktX2_days_0 := by decide +kernel
theorem dksX2_days_1 : cX2_days.data.toList.drop 22 = dktX2_days_1 := dk_seg dksX2_days_0 22 rfl rfl
theorem dX2_days_0 : decode cX2_days 0 = .ok (.iload_n 1, 1) := dk_27 (dk_at dksX2_days_0 0 rfl rfl)
theorem dX2_days_1 : decode cX2_days 1 = .ok (.iconst 1, 1) := dk_4 (dk_at dksX2_days_0 1 rfl rfl)
theorem dX2_days_2 : decode cX2_days 2 = .ok (.bipush 99, 2) := dk_16 99 (dk_at dksX2_days_0 2 rfl rfl)
theorem dX2_days_4 : decode cX2_days 4 = .ok (.invokestatic 92, 3) := dk_184 0 92 (dk_at dksX2_days_0 4 rfl rfl)
theorem dX2_days_7 : decode cX2_days 7 = .ok (.ifCond .ne 5, 3) := dk_154 0 5 (dk_at dksX2_days_0 7 rfl rfl)
theorem dX2_days_10 : decode cX2_days 10 = .ok (.iconst (-1), 1) := dk_2 (dk_at dksX2_days_0 10 rfl rfl)
theorem dX2_days_11 : decode cX2_days 11 = .ok (.ireturn, 1) := dk_172 (dk_at dksX2_days_0 11 rfl rfl)
theorem dX2_days_12 : decode cX2_days 12 = .ok (.aload_n 0, 1) := dk_42 (dk_at dksX2_days_0 12 rfl rfl)
theorem dX2_days_13 : decode cX2_days 13 = .ok (.aload_n 0, 1) := dk_42 (dk_at dksX2_days_0 13 rfl rfl)
theorem dX2_days_14 : decode cX2_days 14 = .ok (.iload_n 1, 1) := dk_27 (dk_at dksX2_days_0 14 rfl rfl)
theorem dX2_days_15 : decode cX2_days 15 = .ok (.invokevirtual 245, 3) := dk_182 0 245 (dk_at dksX2_days_0 15 rfl rfl)
theorem dX2_days_18 : decode cX2_days 18 = .ok (.putfield 103, 3) := dk_181 0 103 (dk_at dksX2_days_0 18 rfl rfl)
theorem dX2_days_21 : decode cX2_days 21 = .ok (.aload_n 0, 1) := dk_42 (dk_at dksX2_days_0 21 rfl rfl)
theorem dX2_days_22 : decode cX2_days 22 = .ok (.getfield 57, 3) := dk_180 0 57 (dk_at dksX2_days_1 0 rfl rfl)
theorem dX2_days_25 : decode cX2_days 25 = .ok (.iconst 4, 1) := dk_7 (dk_at dksX2_days_1 3 rfl rfl)
theorem dX2_days_26 : decode cX2_days 26 = .ok (.dup2, 1) := dk_92 (dk_at dksX2_days_1 4 rfl rfl)
theorem dX2_days_27 : decode cX2_days 27 = .ok (.iaload, 1) := dk_46 (dk_at dksX2_days_1 5 rfl rfl)
theorem dX2_days_28 : decode cX2_days 28 = .ok (.iload_n 1, 1) := dk_27 (dk_at dksX2_days_1 6 rfl rfl)
theorem dX2_days_29 : decode cX2_days 29 = .ok (.iadd, 1) := dk_96 (dk_at dksX2_days_1 7 rfl rfl)
theorem dX2_days_30 : decode cX2_days 30 = .ok (.iastore, 1) := dk_79 (dk_at dksX2_days_1 8 rfl rfl)
theorem dX2_days_31 : decode cX2_days 31 = .ok (.aload_n 0, 1) := dk_42 (dk_at dksX2_days_1 9 rfl rfl)
theorem dX2_days_32 : decode cX2_days 32 = .ok (.getfield 103, 3) := dk_180 0 103 (dk_at dksX2_days_1 10 rfl rfl)
theorem dX2_days_35 : decode cX2_days 35 = .ok (.ireturn, 1) := dk_172 (dk_at dksX2_days_1 13 rfl rfl)
def dkwX2_led_0 : List UInt8 := [27, 3, 7, 184, 0, 92, 153, 0, 12, 42, 180, 0, 57, 27, 46, 167, 0, 4, 2, 172]
abbrev dktX2_led_0 : List UInt8 := dkwX2_led_0 ++ []
theorem dksX2_led_0 : cX2_led.data.toList.drop 0 = dktX2_led_0 := by decide +kernel
theorem dX2_led_0 : decode cX2_led 0 = .ok (.iload_n 1, 1) := dk_27 (dk_at dksX2_led_0 0 rfl rfl)
theorem dX2_led_1 : decode cX2_led 1 = .ok (.iconst 0, 1) := dk_3 (dk_at dksX2_led_0 1 rfl rfl)
theorem dX2_led_2 : decode cX2_led 2 = .ok (.iconst 4, 1) := dk_7 (dk_at dksX2_led_0 2 rfl rfl)
theorem dX2_led_3 : decode cX2_led 3 = .ok (.invokestatic 92, 3) := dk_184 0 92 (dk_at dksX2_led_0 3 rfl rfl)
theorem dX2_led_6 : decode cX2_led 6 = .ok (.ifCond .eq 12, 3) := dk_153 0 12 (dk_at dksX2_led_0 6 rfl rfl)
theorem dX2_led_9 : decode cX2_led 9 = .ok (.aload_n 0, 1) := dk_42 (dk_at dksX2_led_0 9 rfl rfl)
theorem dX2_led_10 : decode cX2_led 10 = .ok (.getfield 57, 3) := dk_180 0 57 (dk_at dksX2_led_0 10 rfl rfl)
theorem dX2_led_13 : decode cX2_led 13 = .ok (.iload_n 1, 1) := dk_27 (dk_at dksX2_led_0 13 rfl rfl)
theorem dX2_led_14 : decode cX2_led 14 = .ok (.iaload, 1) := dk_46 (dk_at dksX2_led_0 14 rfl rfl)
theorem dX2_led_15 : decode cX2_led 15 = .ok (.goto 4, 3) := dk_167 0 4 (dk_at dksX2_led_0 15 rfl rfl)
theorem dX2_led_18 : decode cX2_led 18 = .ok (.iconst (-1), 1) := dk_2 (dk_at dksX2_led_0 18 rfl rfl)
theorem dX2_led_19 : decode cX2_led 19 = .ok (.ireturn, 1) := dk_172 (dk_at dksX2_led_0 19 rfl rfl)
def dkwX2_image_5 : List UInt8 := [180, 0, 57, 7, 46, 172]
abbrev dktX2_image_5 : List UInt8 := dkwX2_image_5 ++ []
def dkwX2_image_4 : List UInt8 := [162, 0, 21, 42, 180, 0, 63, 27, 42, 180, 0, 57, 27, 46, 79, 132, 1, 1, 167, 255, 236, 42]
abbrev dktX2_image_4 : List UInt8 := dkwX2_image_4 ++ dktX2_image_5
def dkwX2_image_3 : List UInt8 := [79, 132, 1, 1, 167, 255, 229, 42, 180, 0, 60, 16, 22, 42, 180, 0, 103, 79, 3, 60, 27, 8]
abbrev dktX2_image_3 : List UInt8 := dkwX2_image_3 ++ dktX2_image_4
def dkwX2_image_2 : List UInt8 := [60, 27, 16, 14, 162, 0, 27, 42, 180, 0, 60, 16, 8, 27, 96, 42, 180, 0, 15, 16, 60, 27, 96, 46]
abbrev dktX2_image_2 : List UInt8 := dkwX2_image_2 ++ dktX2_image_3
def dkwX2_image_1 : List UInt8 := [16, 8, 162, 0, 21, 42, 180, 0, 60, 27, 42, 180, 0, 9, 27, 46, 79, 132, 1, 1, 167, 255, 235, 3]
abbrev dktX2_image_1 : List UInt8 := dkwX2_image_1 ++ dktX2_image_2
def dkwX2_image_0 : List UInt8 := [42, 4, 181, 1, 37, 42, 42, 180, 0, 88, 181, 1, 40, 42, 42, 180, 0, 96, 181, 1, 43, 3, 60, 27]
abbrev dktX2_image_0 : List UInt8 := dkwX2_image_0 ++ dktX2_image_1
theorem dksX2_image_0 : cX2_image.data.toList.drop 0 = dktX2_image_0 := by decide +kernel
theorem dksX2_image_1 : cX2_image.data.toList.drop 24 = dktX2_image_1 := dk_seg dksX2_image_0 24 rfl rfl
theorem dksX2_image_2 : cX2_image.data.toList.drop 48 = dktX2_image_2 := dk_seg dksX2_image_1 24 rfl rfl
theorem dksX2_image_3 : cX2_image.data.toList.drop 72 = dktX2_image_3 := dk_seg dksX2_image_2 24 rfl rfl
theorem dksX2_image_4 : cX2_image.data.toList.drop 94 = dktX2_image_4 := dk_seg dksX2_image_3 22 rfl rfl
theorem dksX2_image_5 : cX2_image.data.toList.drop 116 = dktX2_image_5 := dk_seg dksX2_image_4 22 rfl rfl
theorem dX2_image_0 : decode cX2_image 0 = .ok (.aload_n 0, 1) := dk_42 (dk_at dksX2_image_0 0 rfl rfl)
theorem dX2_image_1 : decode cX2_image 1 = .ok (.iconst 1, 1) := dk_4 (dk_at dksX2_image_0 1 rfl rfl)
theorem dX2_image_2 : decode cX2_image 2 = .ok (.putfield 293, 3) := dk_181 1 37 (dk_at dksX2_image_0 2 rfl rfl)
theorem dX2_image_5 : decode cX2_image 5 = .ok (.aload_n 0, 1) := dk_42 (dk_at dksX2_image_0 5 rfl rfl)
theorem dX2_image_6 : decode cX2_image 6 = .ok (.aload_n 0, 1) := dk_42 (dk_at dksX2_image_0 6 rfl rfl)
theorem dX2_image_7 : decode cX2_image 7 = .ok (.getfield 88, 3) := dk_180 0 88 (dk_at dksX2_image_0 7 rfl rfl)
theorem dX2_image_10 : decode cX2_image 10 = .ok (.putfield 296, 3) := dk_181 1 40 (dk_at dksX2_image_0 10 rfl rfl)
theorem dX2_image_13 : decode cX2_image 13 = .ok (.aload_n 0, 1) := dk_42 (dk_at dksX2_image_0 13 rfl rfl)
theorem dX2_image_14 : decode cX2_image 14 = .ok (.aload_n 0, 1) := dk_42 (dk_at dksX2_image_0 14 rfl rfl)
theorem dX2_image_15 : decode cX2_image 15 = .ok (.getfield 96, 3) := dk_180 0 96 (dk_at dksX2_image_0 15 rfl rfl)
theorem dX2_image_18 : decode cX2_image 18 = .ok (.putfield 299, 3) := dk_181 1 43 (dk_at dksX2_image_0 18 rfl rfl)
theorem dX2_image_21 : decode cX2_image 21 = .ok (.iconst 0, 1) := dk_3 (dk_at dksX2_image_0 21 rfl rfl)
theorem dX2_image_22 : decode cX2_image 22 = .ok (.istore_n 1, 1) := dk_60 (dk_at dksX2_image_0 22 rfl rfl)
theorem dX2_image_23 : decode cX2_image 23 = .ok (.iload_n 1, 1) := dk_27 (dk_at dksX2_image_0 23 rfl rfl)
theorem dX2_image_24 : decode cX2_image 24 = .ok (.bipush 8, 2) := dk_16 8 (dk_at dksX2_image_1 0 rfl rfl)
theorem dX2_image_26 : decode cX2_image 26 = .ok (.if_icmp .ge 21, 3) := dk_162 0 21 (dk_at dksX2_image_1 2 rfl rfl)
theorem dX2_image_29 : decode cX2_image 29 = .ok (.aload_n 0, 1) := dk_42 (dk_at dksX2_image_1 5 rfl rfl)
theorem dX2_image_30 : decode cX2_image 30 = .ok (.getfield 60, 3) := dk_180 0 60 (dk_at dksX2_image_1 6 rfl rfl)
theorem dX2_image_33 : decode cX2_image 33 = .ok (.iload_n 1, 1) := dk_27 (dk_at dksX2_image_1 9 rfl rfl)
theorem dX2_image_34 : decode cX2_image 34 = .ok (.aload_n 0, 1) := dk_42 (dk_at dksX2_image_1 10 rfl rfl)
theorem dX2_image_35 : decode cX2_image 35 = .ok (.getfield 9, 3) := dk_180 0 9 (dk_at dksX2_image_1 11 rfl rfl)
theorem dX2_image_38 : decode cX2_image 38 = .ok (.iload_n 1, 1) := dk_27 (dk_at dksX2_image_1 14 rfl rfl)
theorem dX2_image_39 : decode cX2_image 39 = .ok (.iaload, 1) := dk_46 (dk_at dksX2_image_1 15 rfl rfl)
theorem dX2_image_40 : decode cX2_image 40 = .ok (.iastore, 1) := dk_79 (dk_at dksX2_image_1 16 rfl rfl)
theorem dX2_image_41 : decode cX2_image 41 = .ok (.iinc 1 1, 3) := dk_132 1 1 (dk_at dksX2_image_1 17 rfl rfl)
theorem dX2_image_44 : decode cX2_image 44 = .ok (.goto (-21), 3) := dk_167 255 235 (dk_at dksX2_image_1 20 rfl rfl)
theorem dX2_image_47 : decode cX2_image 47 = .ok (.iconst 0, 1) := dk_3 (dk_at dksX2_image_1 23 rfl rfl)
theorem dX2_image_48 : decode cX2_image 48 = .ok (.istore_n 1, 1) := dk_60 (dk_at dksX2_image_2 0 rfl rfl)
theorem dX2_image_49 : decode cX2_image 49 = .ok (.iload_n 1, 1) := dk_27 (dk_at dksX2_image_2 1 rfl rfl)
theorem dX2_image_50 : decode cX2_image 50 = .ok (.bipush 14, 2) := dk_16 14 (dk_at dksX2_image_2 2 rfl rfl)
theorem dX2_image_52 : decode cX2_image 52 = .ok (.if_icmp .ge 27, 3) := dk_162 0 27 (dk_at dksX2_image_2 4 rfl rfl)
theorem dX2_image_55 : decode cX2_image 55 = .ok (.aload_n 0, 1) := dk_42 (dk_at dksX2_image_2 7 rfl rfl)
theorem dX2_image_56 : decode cX2_image 56 = .ok (.getfield 60, 3) := dk_180 0 60 (dk_at dksX2_image_2 8 rfl rfl)
theorem dX2_image_59 : decode cX2_image 59 = .ok (.bipush 8, 2) := dk_16 8 (dk_at dksX2_image_2 11 rfl rfl)
theorem dX2_image_61 : decode cX2_image 61 = .ok (.iload_n 1, 1) := dk_27 (dk_at dksX2_image_2 13 rfl rfl)
theorem dX2_image_62 : decode cX2_image 62 = .ok (.iadd, 1) := dk_96 (dk_at dksX2_image_2 14 rfl rfl)
theorem dX2_image_63 : decode cX2_image 63 = .ok (.aload_n 0, 1) := dk_42 (dk_at dksX2_image_2 15 rfl rfl)
theorem dX2_image_64 : decode cX2_image 64 = .ok (.getfield 15, 3) := dk_180 0 15 (dk_at dksX2_image_2 16 rfl rfl)
theorem dX2_image_67 : decode cX2_image 67 = .ok (.bipush 60, 2) := dk_16 60 (dk_at dksX2_image_2 19 rfl rfl)
theorem dX2_image_69 : decode cX2_image 69 = .ok (.iload_n 1, 1) := dk_27 (dk_at dksX2_image_2 21 rfl rfl)
theorem dX2_image_70 : decode cX2_image 70 = .ok (.iadd, 1) := dk_96 (dk_at dksX2_image_2 22 rfl rfl)
theorem dX2_image_71 : decode cX2_image 71 = .ok (.iaload, 1) := dk_46 (dk_at dksX2_image_2 23 rfl rfl)
theorem dX2_image_72 : decode cX2_image 72 = .ok (.iastore, 1) := dk_79 (dk_at dksX2_image_3 0 rfl rfl)
theorem dX2_image_73 : decode cX2_image 73 = .ok (.iinc 1 1, 3) := dk_132 1 1 (dk_at dksX2_image_3 1 rfl rfl)
theorem dX2_image_76 : decode cX2_image 76 = .ok (.goto (-27), 3) := dk_167 255 229 (dk_at dksX2_image_3 4 rfl rfl)
theorem dX2_image_79 : decode cX2_image 79 = .ok (.aload_n 0, 1) := dk_42 (dk_at dksX2_image_3 7 rfl rfl)
theorem dX2_image_80 : decode cX2_image 80 = .ok (.getfield 60, 3) := dk_180 0 60 (dk_at dksX2_image_3 8 rfl rfl)
theorem dX2_image_83 : decode cX2_image 83 = .ok (.bipush 22, 2) := dk_16 22 (dk_at dksX2_image_3 11 rfl rfl)
theorem dX2_image_85 : decode cX2_image 85 = .ok (.aload_n 0, 1) := dk_42 (dk_at dksX2_image_3 13 rfl rfl)
theorem dX2_image_86 : decode cX2_image 86 = .ok (.getfield 103, 3) := dk_180 0 103 (dk_at dksX2_image_3 14 rfl rfl)
theorem dX2_image_89 : decode cX2_image 89 = .ok (.iastore, 1) := dk_79 (dk_at dksX2_image_3 17 rfl rfl)
theorem dX2_image_90 : decode cX2_image 90 = .ok (.iconst 0, 1) := dk_3 (dk_at dksX2_image_3 18 rfl rfl)
theorem dX2_image_91 : decode cX2_image 91 = .ok (.istore_n 1, 1) := dk_60 (dk_at dksX2_image_3 19 rfl rfl)
theorem dX2_image_92 : decode cX2_image 92 = .ok (.iload_n 1, 1) := dk_27 (dk_at dksX2_image_3 20 rfl rfl)
theorem dX2_image_93 : decode cX2_image 93 = .ok (.iconst 5, 1) := dk_8 (dk_at dksX2_image_3 21 rfl rfl)
theorem dX2_image_94 : decode cX2_image 94 = .ok (.if_icmp .ge 21, 3) := dk_162 0 21 (dk_at dksX2_image_4 0 rfl rfl)
theorem dX2_image_97 : decode cX2_image 97 = .ok (.aload_n 0, 1) := dk_42 (dk_at dksX2_image_4 3 rfl rfl)
theorem dX2_image_98 : decode cX2_image 98 = .ok (.getfield 63, 3) := dk_180 0 63 (dk_at dksX2_image_4 4 rfl rfl)
theorem dX2_image_101 : decode cX2_image 101 = .ok (.iload_n 1, 1) := dk_27 (dk_at dksX2_image_4 7 rfl rfl)
theorem dX2_image_102 : decode cX2_image 102 = .ok (.aload_n 0, 1) := dk_42 (dk_at dksX2_image_4 8 rfl rfl)
theorem dX2_image_103 : decode cX2_image 103 = .ok (.getfield 57, 3) := dk_180 0 57 (dk_at dksX2_image_4 9 rfl rfl)
theorem dX2_image_106 : decode cX2_image 106 = .ok (.iload_n 1, 1) := dk_27 (dk_at dksX2_image_4 12 rfl rfl)
theorem dX2_image_107 : decode cX2_image 107 = .ok (.iaload, 1) := dk_46 (dk_at dksX2_image_4 13 rfl rfl)
theorem dX2_image_108 : decode cX2_image 108 = .ok (.iastore, 1) := dk_79 (dk_at dksX2_image_4 14 rfl rfl)
theorem dX2_image_109 : decode cX2_image 109 = .ok (.iinc 1 1, 3) := dk_132 1 1 (dk_at dksX2_image_4 15 rfl rfl)
theorem dX2_image_112 : decode cX2_image 112 = .ok (.goto (-20), 3) := dk_167 255 236 (dk_at dksX2_image_4 18 rfl rfl)
theorem dX2_image_115 : decode cX2_image 115 = .ok (.aload_n 0, 1) := dk_42 (dk_at dksX2_image_4 21 rfl rfl)
theorem dX2_image_116 : decode cX2_image 116 = .ok (.getfield 57, 3) := dk_180 0 57 (dk_at dksX2_image_5 0 rfl rfl)
theorem dX2_image_119 : decode cX2_image 119 = .ok (.iconst 4, 1) := dk_7 (dk_at dksX2_image_5 3 rfl rfl)
theorem dX2_image_120 : decode cX2_image 120 = .ok (.iaload, 1) := dk_46 (dk_at dksX2_image_5 4 rfl rfl)
theorem dX2_image_121 : decode cX2_image 121 = .ok (.ireturn, 1) := dk_172 (dk_at dksX2_image_5 5 rfl rfl)
def dkwX2_back_4 : List UInt8 := [180, 0, 63, 27, 46, 79, 132, 1, 1, 167, 255, 236, 42, 180, 0, 57, 7, 46, 172]
abbrev dktX2_back_4 : List UInt8 := dkwX2_back_4 ++ []
def dkwX2_back_3 : List UInt8 := [42, 42, 180, 0, 60, 16, 22, 46, 181, 0, 103, 3, 60, 27, 8, 162, 0, 21, 42, 180, 0, 57, 27, 42]
abbrev dktX2_back_3 : List UInt8 := dkwX2_back_3 ++ dktX2_back_4
def dkwX2_back_2 : List UInt8 := [42, 180, 0, 15, 16, 60, 27, 96, 42, 180, 0, 60, 16, 8, 27, 96, 46, 79, 132, 1, 1, 167, 255, 227]
abbrev dktX2_back_2 : List UInt8 := dkwX2_back_2 ++ dktX2_back_3
def dkwX2_back_1 : List UInt8 := [27, 42, 180, 0, 60, 27, 46, 79, 132, 1, 1, 167, 255, 233, 3, 60, 27, 42, 180, 1, 43, 162, 0, 27]
abbrev dktX2_back_1 : List UInt8 := dkwX2_back_1 ++ dktX2_back_2
def dkwX2_back_0 : List UInt8 := [42, 180, 1, 37, 154, 0, 6, 16, 251, 172, 3, 60, 27, 42, 180, 1, 40, 162, 0, 21, 42, 180, 0, 9]
abbrev dktX2_back_0 : List UInt8 := dkwX2_back_0 ++ dktX2_back_1
theorem dksX2_back_0 : cX2_back.data.toList.drop 0 = dktX2_back_0 := by decide +kernel
theorem dksX2_back_1 : cX2_back.data.toList.drop 24 = dktX2_back_1 := dk_seg dksX2_back_0 24 rfl rfl
theorem dksX2_back_2 : cX2_back.data.toList.drop 48 = dktX2_back_2 := dk_seg dksX2_back_1 24 rfl rfl
theorem dksX2_back_3 : cX2_back.data.toList.drop 72 = dktX2_back_3 := dk_seg dksX2_back_2 24 rfl rfl
theorem dksX2_back_4 : cX2_back.data.toList.drop 96 = dktX2_back_4 := dk_seg dksX2_back_3 24 rfl rfl
theorem dX2_back_0 : decode cX2_back 0 = .ok (.aload_n 0, 1) := dk_42 (dk_at dksX2_back_0 0 rfl rfl)
theorem dX2_back_1 : decode cX2_back 1 = .ok (.getfield 293, 3) := dk_180 1 37 (dk_at dksX2_back_0 1 rfl rfl)
theorem dX2_back_4 : decode cX2_back 4 = .ok (.ifCond .ne 6, 3) := dk_154 0 6 (dk_at dksX2_back_0 4 rfl rfl)
theorem dX2_back_7 : decode cX2_back 7 = .ok (.bipush (-5), 2) := dk_16 251 (dk_at dksX2_back_0 7 rfl rfl)
theorem dX2_back_9 : decode cX2_back 9 = .ok (.ireturn, 1) := dk_172 (dk_at dksX2_back_0 9 rfl rfl)
theorem dX2_back_10 : decode cX2_back 10 = .ok (.iconst 0, 1) := dk_3 (dk_at dksX2_back_0 10 rfl rfl)
theorem dX2_back_11 : decode cX2_back 11 = .ok (.istore_n 1, 1) := dk_60 (dk_at dksX2_back_0 11 rfl rfl)
theorem dX2_back_12 : decode cX2_back 12 = .ok (.iload_n 1, 1) := dk_27 (dk_at dksX2_back_0 12 rfl rfl)
theorem dX2_back_13 : decode cX2_back 13 = .ok (.aload_n 0, 1) := dk_42 (dk_at dksX2_back_0 13 rfl rfl)
theorem dX2_back_14 : decode cX2_back 14 = .ok (.getfield 296, 3) := dk_180 1 40 (dk_at dksX2_back_0 14 rfl rfl)
theorem dX2_back_17 : decode cX2_back 17 = .ok (.if_icmp .ge 21, 3) := dk_162 0 21 (dk_at dksX2_back_0 17 rfl rfl)
theorem dX2_back_20 : decode cX2_back 20 = .ok (.aload_n 0, 1) := dk_42 (dk_at dksX2_back_0 20 rfl rfl)
theorem dX2_back_21 : decode cX2_back 21 = .ok (.getfield 9, 3) := dk_180 0 9 (dk_at dksX2_back_0 21 rfl rfl)
theorem dX2_back_24 : decode cX2_back 24 = .ok (.iload_n 1, 1) := dk_27 (dk_at dksX2_back_1 0 rfl rfl)
theorem dX2_back_25 : decode cX2_back 25 = .ok (.aload_n 0, 1) := dk_42 (dk_at dksX2_back_1 1 rfl rfl)
theorem dX2_back_26 : decode cX2_back 26 = .ok (.getfield 60, 3) := dk_180 0 60 (dk_at dksX2_back_1 2 rfl rfl)
theorem dX2_back_29 : decode cX2_back 29 = .ok (.iload_n 1, 1) := dk_27 (dk_at dksX2_back_1 5 rfl rfl)
theorem dX2_back_30 : decode cX2_back 30 = .ok (.iaload, 1) := dk_46 (dk_at dksX2_back_1 6 rfl rfl)
theorem dX2_back_31 : decode cX2_back 31 = .ok (.iastore, 1) := dk_79 (dk_at dksX2_back_1 7 rfl rfl)
theorem dX2_back_32 : decode cX2_back 32 = .ok (.iinc 1 1, 3) := dk_132 1 1 (dk_at dksX2_back_1 8 rfl rfl)
theorem dX2_back_35 : decode cX2_back 35 = .ok (.goto (-23), 3) := dk_167 255 233 (dk_at dksX2_back_1 11 rfl rfl)
theorem dX2_back_38 : decode cX2_back 38 = .ok (.iconst 0, 1) := dk_3 (dk_at dksX2_back_1 14 rfl rfl)
theorem dX2_back_39 : decode cX2_back 39 = .ok (.istore_n 1, 1) := dk_60 (dk_at dksX2_back_1 15 rfl rfl)
theorem dX2_back_40 : decode cX2_back 40 = .ok (.iload_n 1, 1) := dk_27 (dk_at dksX2_back_1 16 rfl rfl)
theorem dX2_back_41 : decode cX2_back 41 = .ok (.aload_n 0, 1) := dk_42 (dk_at dksX2_back_1 17 rfl rfl)
theorem dX2_back_42 : decode cX2_back 42 = .ok (.getfield 299, 3) := dk_180 1 43 (dk_at dksX2_back_1 18 rfl rfl)
theorem dX2_back_45 : decode cX2_back 45 = .ok (.if_icmp .ge 27, 3) := dk_162 0 27 (dk_at dksX2_back_1 21 rfl rfl)
theorem dX2_back_48 : decode cX2_back 48 = .ok (.aload_n 0, 1) := dk_42 (dk_at dksX2_back_2 0 rfl rfl)
theorem dX2_back_49 : decode cX2_back 49 = .ok (.getfield 15, 3) := dk_180 0 15 (dk_at dksX2_back_2 1 rfl rfl)
theorem dX2_back_52 : decode cX2_back 52 = .ok (.bipush 60, 2) := dk_16 60 (dk_at dksX2_back_2 4 rfl rfl)
theorem dX2_back_54 : decode cX2_back 54 = .ok (.iload_n 1, 1) := dk_27 (dk_at dksX2_back_2 6 rfl rfl)
theorem dX2_back_55 : decode cX2_back 55 = .ok (.iadd, 1) := dk_96 (dk_at dksX2_back_2 7 rfl rfl)
theorem dX2_back_56 : decode cX2_back 56 = .ok (.aload_n 0, 1) := dk_42 (dk_at dksX2_back_2 8 rfl rfl)
theorem dX2_back_57 : decode cX2_back 57 = .ok (.getfield 60, 3) := dk_180 0 60 (dk_at dksX2_back_2 9 rfl rfl)
theorem dX2_back_60 : decode cX2_back 60 = .ok (.bipush 8, 2) := dk_16 8 (dk_at dksX2_back_2 12 rfl rfl)
theorem dX2_back_62 : decode cX2_back 62 = .ok (.iload_n 1, 1) := dk_27 (dk_at dksX2_back_2 14 rfl rfl)
theorem dX2_back_63 : decode cX2_back 63 = .ok (.iadd, 1) := dk_96 (dk_at dksX2_back_2 15 rfl rfl)
theorem dX2_back_64 : decode cX2_back 64 = .ok (.iaload, 1) := dk_46 (dk_at dksX2_back_2 16 rfl rfl)
theorem dX2_back_65 : decode cX2_back 65 = .ok (.iastore, 1) := dk_79 (dk_at dksX2_back_2 17 rfl rfl)
theorem dX2_back_66 : decode cX2_back 66 = .ok (.iinc 1 1, 3) := dk_132 1 1 (dk_at dksX2_back_2 18 rfl rfl)
theorem dX2_back_69 : decode cX2_back 69 = .ok (.goto (-29), 3) := dk_167 255 227 (dk_at dksX2_back_2 21 rfl rfl)
theorem dX2_back_72 : decode cX2_back 72 = .ok (.aload_n 0, 1) := dk_42 (dk_at dksX2_back_3 0 rfl rfl)
theorem dX2_back_73 : decode cX2_back 73 = .ok (.aload_n 0, 1) := dk_42 (dk_at dksX2_back_3 1 rfl rfl)
theorem dX2_back_74 : decode cX2_back 74 = .ok (.getfield 60, 3) := dk_180 0 60 (dk_at dksX2_back_3 2 rfl rfl)
theorem dX2_back_77 : decode cX2_back 77 = .ok (.bipush 22, 2) := dk_16 22 (dk_at dksX2_back_3 5 rfl rfl)
theorem dX2_back_79 : decode cX2_back 79 = .ok (.iaload, 1) := dk_46 (dk_at dksX2_back_3 7 rfl rfl)
theorem dX2_back_80 : decode cX2_back 80 = .ok (.putfield 103, 3) := dk_181 0 103 (dk_at dksX2_back_3 8 rfl rfl)
theorem dX2_back_83 : decode cX2_back 83 = .ok (.iconst 0, 1) := dk_3 (dk_at dksX2_back_3 11 rfl rfl)
theorem dX2_back_84 : decode cX2_back 84 = .ok (.istore_n 1, 1) := dk_60 (dk_at dksX2_back_3 12 rfl rfl)
theorem dX2_back_85 : decode cX2_back 85 = .ok (.iload_n 1, 1) := dk_27 (dk_at dksX2_back_3 13 rfl rfl)
theorem dX2_back_86 : decode cX2_back 86 = .ok (.iconst 5, 1) := dk_8 (dk_at dksX2_back_3 14 rfl rfl)
theorem dX2_back_87 : decode cX2_back 87 = .ok (.if_icmp .ge 21, 3) := dk_162 0 21 (dk_at dksX2_back_3 15 rfl rfl)
theorem dX2_back_90 : decode cX2_back 90 = .ok (.aload_n 0, 1) := dk_42 (dk_at dksX2_back_3 18 rfl rfl)
theorem dX2_back_91 : decode cX2_back 91 = .ok (.getfield 57, 3) := dk_180 0 57 (dk_at dksX2_back_3 19 rfl rfl)
theorem dX2_back_94 : decode cX2_back 94 = .ok (.iload_n 1, 1) := dk_27 (dk_at dksX2_back_3 22 rfl rfl)
theorem dX2_back_95 : decode cX2_back 95 = .ok (.aload_n 0, 1) := dk_42 (dk_at dksX2_back_3 23 rfl rfl)
theorem dX2_back_96 : decode cX2_back 96 = .ok (.getfield 63, 3) := dk_180 0 63 (dk_at dksX2_back_4 0 rfl rfl)
theorem dX2_back_99 : decode cX2_back 99 = .ok (.iload_n 1, 1) := dk_27 (dk_at dksX2_back_4 3 rfl rfl)
theorem dX2_back_100 : decode cX2_back 100 = .ok (.iaload, 1) := dk_46 (dk_at dksX2_back_4 4 rfl rfl)
theorem dX2_back_101 : decode cX2_back 101 = .ok (.iastore, 1) := dk_79 (dk_at dksX2_back_4 5 rfl rfl)
theorem dX2_back_102 : decode cX2_back 102 = .ok (.iinc 1 1, 3) := dk_132 1 1 (dk_at dksX2_back_4 6 rfl rfl)
theorem dX2_back_105 : decode cX2_back 105 = .ok (.goto (-20), 3) := dk_167 255 236 (dk_at dksX2_back_4 9 rfl rfl)
theorem dX2_back_108 : decode cX2_back 108 = .ok (.aload_n 0, 1) := dk_42 (dk_at dksX2_back_4 12 rfl rfl)
theorem dX2_back_109 : decode cX2_back 109 = .ok (.getfield 57, 3) := dk_180 0 57 (dk_at dksX2_back_4 13 rfl rfl)
theorem dX2_back_112 : decode cX2_back 112 = .ok (.iconst 4, 1) := dk_7 (dk_at dksX2_back_4 16 rfl rfl)
theorem dX2_back_113 : decode cX2_back 113 = .ok (.iaload, 1) := dk_46 (dk_at dksX2_back_4 17 rfl rfl)
theorem dX2_back_114 : decode cX2_back 114 = .ok (.ireturn, 1) := dk_172 (dk_at dksX2_back_4 18 rfl rfl)
def dkwX2_body_1 : List UInt8 := [42, 180, 0, 69, 42, 180, 1, 68, 27, 79, 42, 89, 180, 1, 68, 90, 4, 96, 181, 1, 68, 172]
abbrev dktX2_body_1 : List UInt8 := dkwX2_body_1 ++ []
def dkwX2_body_0 : List UInt8 := [27, 3, 16, 7, 184, 0, 92, 154, 0, 5, 2, 172, 42, 180, 1, 68, 16, 50, 160, 0, 6, 16, 253, 172]
abbrev dktX2_body_0 : List UInt8 := dkwX2_body_0 ++ dktX2_body_1
theorem dksX2_body_0 : cX2_body.data.toList.drop 0 = dktX2_body_0 := by decide +kernel
theorem dksX2_body_1 : cX2_body.data.toList.drop 24 = dktX2_body_1 := dk_seg dksX2_body_0 24 rfl rfl
theorem dX2_body_0 : decode cX2_body 0 = .ok (.iload_n 1, 1) := dk_27 (dk_at dksX2_body_0 0 rfl rfl)
theorem dX2_body_1 : decode cX2_body 1 = .ok (.iconst 0, 1) := dk_3 (dk_at dksX2_body_0 1 rfl rfl)
theorem dX2_body_2 : decode cX2_body 2 = .ok (.bipush 7, 2) := dk_16 7 (dk_at dksX2_body_0 2 rfl rfl)
theorem dX2_body_4 : decode cX2_body 4 = .ok (.invokestatic 92, 3) := dk_184 0 92 (dk_at dksX2_body_0 4 rfl rfl)
theorem dX2_body_7 : decode cX2_body 7 = .ok (.ifCond .ne 5, 3) := dk_154 0 5 (dk_at dksX2_body_0 7 rfl rfl)
theorem dX2_body_10 : decode cX2_body 10 = .ok (.iconst (-1), 1) := dk_2 (dk_at dksX2_body_0 10 rfl rfl)
theorem dX2_body_11 : decode cX2_body 11 = .ok (.ireturn, 1) := dk_172 (dk_at dksX2_body_0 11 rfl rfl)
theorem dX2_body_12 : decode cX2_body 12 = .ok (.aload_n 0, 1) := dk_42 (dk_at dksX2_body_0 12 rfl rfl)
theorem dX2_body_13 : decode cX2_body 13 = .ok (.getfield 324, 3) := dk_180 1 68 (dk_at dksX2_body_0 13 rfl rfl)
theorem dX2_body_16 : decode cX2_body 16 = .ok (.bipush 50, 2) := dk_16 50 (dk_at dksX2_body_0 16 rfl rfl)
theorem dX2_body_18 : decode cX2_body 18 = .ok (.if_icmp .ne 6, 3) := dk_160 0 6 (dk_at dksX2_body_0 18 rfl rfl)
theorem dX2_body_21 : decode cX2_body 21 = .ok (.bipush (-3), 2) := dk_16 253 (dk_at dksX2_body_0 21 rfl rfl)
theorem dX2_body_23 : decode cX2_body 23 = .ok (.ireturn, 1) := dk_172 (dk_at dksX2_body_0 23 rfl rfl)
theorem dX2_body_24 : decode cX2_body 24 = .ok (.aload_n 0, 1) := dk_42 (dk_at dksX2_body_1 0 rfl rfl)
theorem dX2_body_25 : decode cX2_body 25 = .ok (.getfield 69, 3) := dk_180 0 69 (dk_at dksX2_body_1 1 rfl rfl)
theorem dX2_body_28 : decode cX2_body 28 = .ok (.aload_n 0, 1) := dk_42 (dk_at dksX2_body_1 4 rfl rfl)
theorem dX2_body_29 : decode cX2_body 29 = .ok (.getfield 324, 3) := dk_180 1 68 (dk_at dksX2_body_1 5 rfl rfl)
theorem dX2_body_32 : decode cX2_body 32 = .ok (.iload_n 1, 1) := dk_27 (dk_at dksX2_body_1 8 rfl rfl)
theorem dX2_body_33 : decode cX2_body 33 = .ok (.iastore, 1) := dk_79 (dk_at dksX2_body_1 9 rfl rfl)
theorem dX2_body_34 : decode cX2_body 34 = .ok (.aload_n 0, 1) := dk_42 (dk_at dksX2_body_1 10 rfl rfl)
theorem dX2_body_35 : decode cX2_body 35 = .ok (.dup, 1) := dk_89 (dk_at dksX2_body_1 11 rfl rfl)
theorem dX2_body_36 : decode cX2_body 36 = .ok (.getfield 324, 3) := dk_180 1 68 (dk_at dksX2_body_1 12 rfl rfl)
theorem dX2_body_39 : decode cX2_body 39 = .ok (.dup_x1, 1) := dk_90 (dk_at dksX2_body_1 15 rfl rfl)
theorem dX2_body_40 : decode cX2_body 40 = .ok (.iconst 1, 1) := dk_4 (dk_at dksX2_body_1 16 rfl rfl)
theorem dX2_body_41 : decode cX2_body 41 = .ok (.iadd, 1) := dk_96 (dk_at dksX2_body_1 17 rfl rfl)
theorem dX2_body_42 : decode cX2_body 42 = .ok (.putfield 324, 3) := dk_181 1 68 (dk_at dksX2_body_1 18 rfl rfl)
theorem dX2_body_45 : decode cX2_body 45 = .ok (.ireturn, 1) := dk_172 (dk_at dksX2_body_1 21 rfl rfl)
def dkwX2_act_3 : List UInt8 := [5, 160, 0, 14, 42, 27, 21, 4, 29, 182, 1, 62, 167, 0, 11, 42, 27, 21, 4, 29, 182, 1, 65, 172]
abbrev dktX2_act_3 : List UInt8 := dkwX2_act_3 ++ []
def dkwX2_act_2 : List UInt8 := [29, 182, 1, 53, 167, 0, 43, 28, 4, 160, 0, 14, 42, 27, 21, 4, 29, 182, 1, 59, 167, 0, 27, 28]
abbrev dktX2_act_2 : List UInt8 := dkwX2_act_2 ++ dktX2_act_3
def dkwX2_act_1 : List UInt8 := [184, 0, 92, 154, 0, 5, 3, 172, 42, 180, 0, 69, 27, 46, 54, 4, 28, 154, 0, 14, 42, 27, 21, 4]
abbrev dktX2_act_1 : List UInt8 := dkwX2_act_1 ++ dktX2_act_2
def dkwX2_act_0 : List UInt8 := [42, 3, 181, 1, 46, 27, 3, 42, 180, 1, 68, 4, 100, 184, 0, 92, 153, 0, 12, 28, 3, 6]
abbrev dktX2_act_0 : List UInt8 := dkwX2_act_0 ++ dktX2_act_1
theorem dksX2_act_0 : cX2_act.data.toList.drop 0 = dktX2_act_0 := by decide +kernel
theorem dksX2_act_1 : cX2_act.data.toList.drop 22 = dktX2_act_1 := dk_seg dksX2_act_0 22 rfl rfl
theorem dksX2_act_2 : cX2_act.data.toList.drop 46 = dktX2_act_2 := dk_seg dksX2_act_1 24 rfl rfl
theorem dksX2_act_3 : cX2_act.data.toList.drop 70 = dktX2_act_3 := dk_seg dksX2_act_2 24 rfl rfl
theorem dX2_act_0 : decode cX2_act 0 = .ok (.aload_n 0, 1) := dk_42 (dk_at dksX2_act_0 0 rfl rfl)
theorem dX2_act_1 : decode cX2_act 1 = .ok (.iconst 0, 1) := dk_3 (dk_at dksX2_act_0 1 rfl rfl)
theorem dX2_act_2 : decode cX2_act 2 = .ok (.putfield 302, 3) := dk_181 1 46 (dk_at dksX2_act_0 2 rfl rfl)
theorem dX2_act_5 : decode cX2_act 5 = .ok (.iload_n 1, 1) := dk_27 (dk_at dksX2_act_0 5 rfl rfl)
theorem dX2_act_6 : decode cX2_act 6 = .ok (.iconst 0, 1) := dk_3 (dk_at dksX2_act_0 6 rfl rfl)
theorem dX2_act_7 : decode cX2_act 7 = .ok (.aload_n 0, 1) := dk_42 (dk_at dksX2_act_0 7 rfl rfl)
theorem dX2_act_8 : decode cX2_act 8 = .ok (.getfield 324, 3) := dk_180 1 68 (dk_at dksX2_act_0 8 rfl rfl)
theorem dX2_act_11 : decode cX2_act 11 = .ok (.iconst 1, 1) := dk_4 (dk_at dksX2_act_0 11 rfl rfl)
theorem dX2_act_12 : decode cX2_act 12 = .ok (.isub, 1) := dk_100 (dk_at dksX2_act_0 12 rfl rfl)
theorem dX2_act_13 : decode cX2_act 13 = .ok (.invokestatic 92, 3) := dk_184 0 92 (dk_at dksX2_act_0 13 rfl rfl)
theorem dX2_act_16 : decode cX2_act 16 = .ok (.ifCond .eq 12, 3) := dk_153 0 12 (dk_at dksX2_act_0 16 rfl rfl)
theorem dX2_act_19 : decode cX2_act 19 = .ok (.iload_n 2, 1) := dk_28 (dk_at dksX2_act_0 19 rfl rfl)
theorem dX2_act_20 : decode cX2_act 20 = .ok (.iconst 0, 1) := dk_3 (dk_at dksX2_act_0 20 rfl rfl)
theorem dX2_act_21 : decode cX2_act 21 = .ok (.iconst 3, 1) := dk_6 (dk_at dksX2_act_0 21 rfl rfl)
theorem dX2_act_22 : decode cX2_act 22 = .ok (.invokestatic 92, 3) := dk_184 0 92 (dk_at dksX2_act_1 0 rfl rfl)
theorem dX2_act_25 : decode cX2_act 25 = .ok (.ifCond .ne 5, 3) := dk_154 0 5 (dk_at dksX2_act_1 3 rfl rfl)
theorem dX2_act_28 : decode cX2_act 28 = .ok (.iconst 0, 1) := dk_3 (dk_at dksX2_act_1 6 rfl rfl)
theorem dX2_act_29 : decode cX2_act 29 = .ok (.ireturn, 1) := dk_172 (dk_at dksX2_act_1 7 rfl rfl)
theorem dX2_act_30 : decode cX2_act 30 = .ok (.aload_n 0, 1) := dk_42 (dk_at dksX2_act_1 8 rfl rfl)
theorem dX2_act_31 : decode cX2_act 31 = .ok (.getfield 69, 3) := dk_180 0 69 (dk_at dksX2_act_1 9 rfl rfl)
theorem dX2_act_34 : decode cX2_act 34 = .ok (.iload_n 1, 1) := dk_27 (dk_at dksX2_act_1 12 rfl rfl)
theorem dX2_act_35 : decode cX2_act 35 = .ok (.iaload, 1) := dk_46 (dk_at dksX2_act_1 13 rfl rfl)
theorem dX2_act_36 : decode cX2_act 36 = .ok (.istore 4, 2) := dk_54 4 (dk_at dksX2_act_1 14 rfl rfl)
theorem dX2_act_38 : decode cX2_act 38 = .ok (.iload_n 2, 1) := dk_28 (dk_at dksX2_act_1 16 rfl rfl)
theorem dX2_act_39 : decode cX2_act 39 = .ok (.ifCond .ne 14, 3) := dk_154 0 14 (dk_at dksX2_act_1 17 rfl rfl)
theorem dX2_act_42 : decode cX2_act 42 = .ok (.aload_n 0, 1) := dk_42 (dk_at dksX2_act_1 20 rfl rfl)
theorem dX2_act_43 : decode cX2_act 43 = .ok (.iload_n 1, 1) := dk_27 (dk_at dksX2_act_1 21 rfl rfl)
theorem dX2_act_44 : decode cX2_act 44 = .ok (.iload 4, 2) := dk_21 4 (dk_at dksX2_act_1 22 rfl rfl)
theorem dX2_act_46 : decode cX2_act 46 = .ok (.iload_n 3, 1) := dk_29 (dk_at dksX2_act_2 0 rfl rfl)
theorem dX2_act_47 : decode cX2_act 47 = .ok (.invokevirtual 309, 3) := dk_182 1 53 (dk_at dksX2_act_2 1 rfl rfl)
theorem dX2_act_50 : decode cX2_act 50 = .ok (.goto 43, 3) := dk_167 0 43 (dk_at dksX2_act_2 4 rfl rfl)
theorem dX2_act_53 : decode cX2_act 53 = .ok (.iload_n 2, 1) := dk_28 (dk_at dksX2_act_2 7 rfl rfl)
theorem dX2_act_54 : decode cX2_act 54 = .ok (.iconst 1, 1) := dk_4 (dk_at dksX2_act_2 8 rfl rfl)
theorem dX2_act_55 : decode cX2_act 55 = .ok (.if_icmp .ne 14, 3) := dk_160 0 14 (dk_at dksX2_act_2 9 rfl rfl)
theorem dX2_act_58 : decode cX2_act 58 = .ok (.aload_n 0, 1) := dk_42 (dk_at dksX2_act_2 12 rfl rfl)
theorem dX2_act_59 : decode cX2_act 59 = .ok (.iload_n 1, 1) := dk_27 (dk_at dksX2_act_2 13 rfl rfl)
theorem dX2_act_60 : decode cX2_act 60 = .ok (.iload 4, 2) := dk_21 4 (dk_at dksX2_act_2 14 rfl rfl)
theorem dX2_act_62 : decode cX2_act 62 = .ok (.iload_n 3, 1) := dk_29 (dk_at dksX2_act_2 16 rfl rfl)
theorem dX2_act_63 : decode cX2_act 63 = .ok (.invokevirtual 315, 3) := dk_182 1 59 (dk_at dksX2_act_2 17 rfl rfl)
theorem dX2_act_66 : decode cX2_act 66 = .ok (.goto 27, 3) := dk_167 0 27 (dk_at dksX2_act_2 20 rfl rfl)
theorem dX2_act_69 : decode cX2_act 69 = .ok (.iload_n 2, 1) := dk_28 (dk_at dksX2_act_2 23 rfl rfl)
theorem dX2_act_70 : decode cX2_act 70 = .ok (.iconst 2, 1) := dk_5 (dk_at dksX2_act_3 0 rfl rfl)
theorem dX2_act_71 : decode cX2_act 71 = .ok (.if_icmp .ne 14, 3) := dk_160 0 14 (dk_at dksX2_act_3 1 rfl rfl)
theorem dX2_act_74 : decode cX2_act 74 = .ok (.aload_n 0, 1) := dk_42 (dk_at dksX2_act_3 4 rfl rfl)
theorem dX2_act_75 : decode cX2_act 75 = .ok (.iload_n 1, 1) := dk_27 (dk_at dksX2_act_3 5 rfl rfl)
theorem dX2_act_76 : decode cX2_act 76 = .ok (.iload 4, 2) := dk_21 4 (dk_at dksX2_act_3 6 rfl rfl)
theorem dX2_act_78 : decode cX2_act 78 = .ok (.iload_n 3, 1) := dk_29 (dk_at dksX2_act_3 8 rfl rfl)
theorem dX2_act_79 : decode cX2_act 79 = .ok (.invokevirtual 318, 3) := dk_182 1 62 (dk_at dksX2_act_3 9 rfl rfl)
theorem dX2_act_82 : decode cX2_act 82 = .ok (.goto 11, 3) := dk_167 0 11 (dk_at dksX2_act_3 12 rfl rfl)
theorem dX2_act_85 : decode cX2_act 85 = .ok (.aload_n 0, 1) := dk_42 (dk_at dksX2_act_3 15 rfl rfl)
theorem dX2_act_86 : decode cX2_act 86 = .ok (.iload_n 1, 1) := dk_27 (dk_at dksX2_act_3 16 rfl rfl)
theorem dX2_act_87 : decode cX2_act 87 = .ok (.iload 4, 2) := dk_21 4 (dk_at dksX2_act_3 17 rfl rfl)
theorem dX2_act_89 : decode cX2_act 89 = .ok (.iload_n 3, 1) := dk_29 (dk_at dksX2_act_3 19 rfl rfl)
theorem dX2_act_90 : decode cX2_act 90 = .ok (.invokevirtual 321, 3) := dk_182 1 65 (dk_at dksX2_act_3 20 rfl rfl)
theorem dX2_act_93 : decode cX2_act 93 = .ok (.ireturn, 1) := dk_172 (dk_at dksX2_act_3 23 rfl rfl)
def dkwX2_swearsBy_4 : List UInt8 := [182, 1, 53, 172]
abbrev dktX2_swearsBy_4 : List UInt8 := dkwX2_swearsBy_4 ++ []
def dkwX2_swearsBy_3 : List UInt8 := [172, 42, 16, 70, 182, 1, 49, 42, 27, 3, 29, 182, 1, 53, 5, 104, 172, 42, 27, 28, 184, 1, 56, 29]
abbrev dktX2_swearsBy_3 : List UInt8 := dkwX2_swearsBy_3 ++ dktX2_swearsBy_4
def dkwX2_swearsBy_2 : List UInt8 := [42, 4, 182, 1, 49, 29, 27, 96, 172, 42, 16, 20, 182, 1, 49, 42, 27, 3, 29, 182, 1, 53, 6, 96]
abbrev dktX2_swearsBy_2 : List UInt8 := dkwX2_swearsBy_2 ++ dktX2_swearsBy_3
def dkwX2_swearsBy_1 : List UInt8 := [171, 0, 0, 0, 0, 0, 76, 0, 0, 0, 3, 0, 0, 0, 0, 0, 0, 0, 35, 0, 0, 0, 1, 0, 0, 0, 44, 0, 0, 0, 6, 0, 0, 0, 60]
abbrev dktX2_swearsBy_1 : List UInt8 := dkwX2_swearsBy_1 ++ dktX2_swearsBy_2
def dkwX2_swearsBy_0 : List UInt8 := [28]
abbrev dktX2_swearsBy_0 : List UInt8 := dkwX2_swearsBy_0 ++ dktX2_swearsBy_1
theorem dksX2_swearsBy_0 : cX2_swearsBy.data.toList.drop 0 = dktX2_swearsBy_0 := by decide +kernel
theorem dksX2_swearsBy_1 : cX2_swearsBy.data.toList.drop 1 = dktX2_swearsBy_1 := dk_seg dksX2_swearsBy_0 1 rfl rfl
theorem dksX2_swearsBy_2 : cX2_swearsBy.data.toList.drop 36 = dktX2_swearsBy_2 := dk_seg dksX2_swearsBy_1 35 rfl rfl
theorem dksX2_swearsBy_3 : cX2_swearsBy.data.toList.drop 60 = dktX2_swearsBy_3 := dk_seg dksX2_swearsBy_2 24 rfl rfl
theorem dksX2_swearsBy_4 : cX2_swearsBy.data.toList.drop 84 = dktX2_swearsBy_4 := dk_seg dksX2_swearsBy_3 24 rfl rfl
theorem dX2_swearsBy_0 : decode cX2_swearsBy 0 = .ok (.iload_n 2, 1) := dk_28 (dk_at dksX2_swearsBy_0 0 rfl rfl)
theorem dX2_swearsBy_1 : decode cX2_swearsBy 1 = .ok (.lookupswitch 76 #[(0, 35), (1, 44), (6, 60)], 35) := by decide +kernel
theorem dX2_swearsBy_36 : decode cX2_swearsBy 36 = .ok (.aload_n 0, 1) := dk_42 (dk_at dksX2_swearsBy_2 0 rfl rfl)
theorem dX2_swearsBy_37 : decode cX2_swearsBy 37 = .ok (.iconst 1, 1) := dk_4 (dk_at dksX2_swearsBy_2 1 rfl rfl)
theorem dX2_swearsBy_38 : decode cX2_swearsBy 38 = .ok (.invokevirtual 305, 3) := dk_182 1 49 (dk_at dksX2_swearsBy_2 2 rfl rfl)
theorem dX2_swearsBy_41 : decode cX2_swearsBy 41 = .ok (.iload_n 3, 1) := dk_29 (dk_at dksX2_swearsBy_2 5 rfl rfl)
theorem dX2_swearsBy_42 : decode cX2_swearsBy 42 = .ok (.iload_n 1, 1) := dk_27 (dk_at dksX2_swearsBy_2 6 rfl rfl)
theorem dX2_swearsBy_43 : decode cX2_swearsBy 43 = .ok (.iadd, 1) := dk_96 (dk_at dksX2_swearsBy_2 7 rfl rfl)
theorem dX2_swearsBy_44 : decode cX2_swearsBy 44 = .ok (.ireturn, 1) := dk_172 (dk_at dksX2_swearsBy_2 8 rfl rfl)
theorem dX2_swearsBy_45 : decode cX2_swearsBy 45 = .ok (.aload_n 0, 1) := dk_42 (dk_at dksX2_swearsBy_2 9 rfl rfl)
theorem dX2_swearsBy_46 : decode cX2_swearsBy 46 = .ok (.bipush 20, 2) := dk_16 20 (dk_at dksX2_swearsBy_2 10 rfl rfl)
theorem dX2_swearsBy_48 : decode cX2_swearsBy 48 = .ok (.invokevirtual 305, 3) := dk_182 1 49 (dk_at dksX2_swearsBy_2 12 rfl rfl)
theorem dX2_swearsBy_51 : decode cX2_swearsBy 51 = .ok (.aload_n 0, 1) := dk_42 (dk_at dksX2_swearsBy_2 15 rfl rfl)
theorem dX2_swearsBy_52 : decode cX2_swearsBy 52 = .ok (.iload_n 1, 1) := dk_27 (dk_at dksX2_swearsBy_2 16 rfl rfl)
theorem dX2_swearsBy_53 : decode cX2_swearsBy 53 = .ok (.iconst 0, 1) := dk_3 (dk_at dksX2_swearsBy_2 17 rfl rfl)
theorem dX2_swearsBy_54 : decode cX2_swearsBy 54 = .ok (.iload_n 3, 1) := dk_29 (dk_at dksX2_swearsBy_2 18 rfl rfl)
theorem dX2_swearsBy_55 : decode cX2_swearsBy 55 = .ok (.invokevirtual 309, 3) := dk_182 1 53 (dk_at dksX2_swearsBy_2 19 rfl rfl)
theorem dX2_swearsBy_58 : decode cX2_swearsBy 58 = .ok (.iconst 3, 1) := dk_6 (dk_at dksX2_swearsBy_2 22 rfl rfl)
theorem dX2_swearsBy_59 : decode cX2_swearsBy 59 = .ok (.iadd, 1) := dk_96 (dk_at dksX2_swearsBy_2 23 rfl rfl)
theorem dX2_swearsBy_60 : decode cX2_swearsBy 60 = .ok (.ireturn, 1) := dk_172 (dk_at dksX2_swearsBy_3 0 rfl rfl)
theorem dX2_swearsBy_61 : decode cX2_swearsBy 61 = .ok (.aload_n 0, 1) := dk_42 (dk_at dksX2_swearsBy_3 1 rfl rfl)
theorem dX2_swearsBy_62 : decode cX2_swearsBy 62 = .ok (.bipush 70, 2) := dk_16 70 (dk_at dksX2_swearsBy_3 2 rfl rfl)
theorem dX2_swearsBy_64 : decode cX2_swearsBy 64 = .ok (.invokevirtual 305, 3) := dk_182 1 49 (dk_at dksX2_swearsBy_3 4 rfl rfl)
theorem dX2_swearsBy_67 : decode cX2_swearsBy 67 = .ok (.aload_n 0, 1) := dk_42 (dk_at dksX2_swearsBy_3 7 rfl rfl)
theorem dX2_swearsBy_68 : decode cX2_swearsBy 68 = .ok (.iload_n 1, 1) := dk_27 (dk_at dksX2_swearsBy_3 8 rfl rfl)
theorem dX2_swearsBy_69 : decode cX2_swearsBy 69 = .ok (.iconst 0, 1) := dk_3 (dk_at dksX2_swearsBy_3 9 rfl rfl)
theorem dX2_swearsBy_70 : decode cX2_swearsBy 70 = .ok (.iload_n 3, 1) := dk_29 (dk_at dksX2_swearsBy_3 10 rfl rfl)
theorem dX2_swearsBy_71 : decode cX2_swearsBy 71 = .ok (.invokevirtual 309, 3) := dk_182 1 53 (dk_at dksX2_swearsBy_3 11 rfl rfl)
theorem dX2_swearsBy_74 : decode cX2_swearsBy 74 = .ok (.iconst 2, 1) := dk_5 (dk_at dksX2_swearsBy_3 14 rfl rfl)
theorem dX2_swearsBy_75 : decode cX2_swearsBy 75 = .ok (.imul, 1) := dk_104 (dk_at dksX2_swearsBy_3 15 rfl rfl)
theorem dX2_swearsBy_76 : decode cX2_swearsBy 76 = .ok (.ireturn, 1) := dk_172 (dk_at dksX2_swearsBy_3 16 rfl rfl)
theorem dX2_swearsBy_77 : decode cX2_swearsBy 77 = .ok (.aload_n 0, 1) := dk_42 (dk_at dksX2_swearsBy_3 17 rfl rfl)
theorem dX2_swearsBy_78 : decode cX2_swearsBy 78 = .ok (.iload_n 1, 1) := dk_27 (dk_at dksX2_swearsBy_3 18 rfl rfl)
theorem dX2_swearsBy_79 : decode cX2_swearsBy 79 = .ok (.iload_n 2, 1) := dk_28 (dk_at dksX2_swearsBy_3 19 rfl rfl)
theorem dX2_swearsBy_80 : decode cX2_swearsBy 80 = .ok (.invokestatic 312, 3) := dk_184 1 56 (dk_at dksX2_swearsBy_3 20 rfl rfl)
theorem dX2_swearsBy_83 : decode cX2_swearsBy 83 = .ok (.iload_n 3, 1) := dk_29 (dk_at dksX2_swearsBy_3 23 rfl rfl)
theorem dX2_swearsBy_84 : decode cX2_swearsBy 84 = .ok (.invokevirtual 309, 3) := dk_182 1 53 (dk_at dksX2_swearsBy_4 0 rfl rfl)
theorem dX2_swearsBy_87 : decode cX2_swearsBy 87 = .ok (.ireturn, 1) := dk_172 (dk_at dksX2_swearsBy_4 3 rfl rfl)
def dkwX2_ran_1 : List UInt8 := [4, 96, 181, 1, 46, 177]
abbrev dktX2_ran_1 : List UInt8 := dkwX2_ran_1 ++ []
def dkwX2_ran_0 : List UInt8 := [42, 180, 1, 46, 16, 24, 162, 0, 13, 42, 180, 0, 72, 42, 180, 1, 46, 27, 79, 42, 89, 180, 1, 46]
abbrev dktX2_ran_0 : List UInt8 := dkwX2_ran_0 ++ dktX2_ran_1
theorem dksX2_ran_0 : cX2_ran.data.toList.drop 0 = dktX2_ran_0 := by decide +kernel
theorem dksX2_ran_1 : cX2_ran.data.toList.drop 24 = dktX2_ran_1 := dk_seg dksX2_ran_0 24 rfl rfl
theorem dX2_ran_0 : decode cX2_ran 0 = .ok (.aload_n 0, 1) := dk_42 (dk_at dksX2_ran_0 0 rfl rfl)
theorem dX2_ran_1 : decode cX2_ran 1 = .ok (.getfield 302, 3) := dk_180 1 46 (dk_at dksX2_ran_0 1 rfl rfl)
theorem dX2_ran_4 : decode cX2_ran 4 = .ok (.bipush 24, 2) := dk_16 24 (dk_at dksX2_ran_0 4 rfl rfl)
theorem dX2_ran_6 : decode cX2_ran 6 = .ok (.if_icmp .ge 13, 3) := dk_162 0 13 (dk_at dksX2_ran_0 6 rfl rfl)
theorem dX2_ran_9 : decode cX2_ran 9 = .ok (.aload_n 0, 1) := dk_42 (dk_at dksX2_ran_0 9 rfl rfl)
theorem dX2_ran_10 : decode cX2_ran 10 = .ok (.getfield 72, 3) := dk_180 0 72 (dk_at dksX2_ran_0 10 rfl rfl)
theorem dX2_ran_13 : decode cX2_ran 13 = .ok (.aload_n 0, 1) := dk_42 (dk_at dksX2_ran_0 13 rfl rfl)
theorem dX2_ran_14 : decode cX2_ran 14 = .ok (.getfield 302, 3) := dk_180 1 46 (dk_at dksX2_ran_0 14 rfl rfl)
theorem dX2_ran_17 : decode cX2_ran 17 = .ok (.iload_n 1, 1) := dk_27 (dk_at dksX2_ran_0 17 rfl rfl)
theorem dX2_ran_18 : decode cX2_ran 18 = .ok (.iastore, 1) := dk_79 (dk_at dksX2_ran_0 18 rfl rfl)
theorem dX2_ran_19 : decode cX2_ran 19 = .ok (.aload_n 0, 1) := dk_42 (dk_at dksX2_ran_0 19 rfl rfl)
theorem dX2_ran_20 : decode cX2_ran 20 = .ok (.dup, 1) := dk_89 (dk_at dksX2_ran_0 20 rfl rfl)
theorem dX2_ran_21 : decode cX2_ran 21 = .ok (.getfield 302, 3) := dk_180 1 46 (dk_at dksX2_ran_0 21 rfl rfl)
theorem dX2_ran_24 : decode cX2_ran 24 = .ok (.iconst 1, 1) := dk_4 (dk_at dksX2_ran_1 0 rfl rfl)
theorem dX2_ran_25 : decode cX2_ran 25 = .ok (.iadd, 1) := dk_96 (dk_at dksX2_ran_1 1 rfl rfl)
theorem dX2_ran_26 : decode cX2_ran 26 = .ok (.putfield 302, 3) := dk_181 1 46 (dk_at dksX2_ran_1 2 rfl rfl)
theorem dX2_ran_29 : decode cX2_ran 29 = .ok (.return_, 1) := dk_177 (dk_at dksX2_ran_1 5 rfl rfl)
def dkwX2_above_2 : List UInt8 := [5, 172, 4, 172, 6, 172, 7, 172, 3, 172]
abbrev dktX2_above_2 : List UInt8 := dkwX2_above_2 ++ []
def dkwX2_above_1 : List UInt8 := [170, 0, 0, 0, 0, 0, 43, 0, 0, 0, 3, 0, 0, 0, 7, 0, 0, 0, 35, 0, 0, 0, 37, 0, 0, 0, 39, 0, 0, 0, 43, 0, 0, 0, 41]
abbrev dktX2_above_1 : List UInt8 := dkwX2_above_1 ++ dktX2_above_2
def dkwX2_above_0 : List UInt8 := [26]
abbrev dktX2_above_0 : List UInt8 := dkwX2_above_0 ++ dktX2_above_1
theorem dksX2_above_0 : cX2_above.data.toList.drop 0 = dktX2_above_0 := by decide +kernel
theorem dksX2_above_1 : cX2_above.data.toList.drop 1 = dktX2_above_1 := dk_seg dksX2_above_0 1 rfl rfl
theorem dksX2_above_2 : cX2_above.data.toList.drop 36 = dktX2_above_2 := dk_seg dksX2_above_1 35 rfl rfl
theorem dX2_above_0 : decode cX2_above 0 = .ok (.iload_n 0, 1) := dk_26 (dk_at dksX2_above_0 0 rfl rfl)
theorem dX2_above_1 : decode cX2_above 1 = .ok (.tableswitch 43 3 7 #[35, 37, 39, 43, 41], 35) := by decide +kernel
theorem dX2_above_36 : decode cX2_above 36 = .ok (.iconst 2, 1) := dk_5 (dk_at dksX2_above_2 0 rfl rfl)
theorem dX2_above_37 : decode cX2_above 37 = .ok (.ireturn, 1) := dk_172 (dk_at dksX2_above_2 1 rfl rfl)
theorem dX2_above_38 : decode cX2_above 38 = .ok (.iconst 1, 1) := dk_4 (dk_at dksX2_above_2 2 rfl rfl)
theorem dX2_above_39 : decode cX2_above 39 = .ok (.ireturn, 1) := dk_172 (dk_at dksX2_above_2 3 rfl rfl)
theorem dX2_above_40 : decode cX2_above 40 = .ok (.iconst 3, 1) := dk_6 (dk_at dksX2_above_2 4 rfl rfl)
theorem dX2_above_41 : decode cX2_above 41 = .ok (.ireturn, 1) := dk_172 (dk_at dksX2_above_2 5 rfl rfl)
theorem dX2_above_42 : decode cX2_above 42 = .ok (.iconst 4, 1) := dk_7 (dk_at dksX2_above_2 6 rfl rfl)
theorem dX2_above_43 : decode cX2_above 43 = .ok (.ireturn, 1) := dk_172 (dk_at dksX2_above_2 7 rfl rfl)
theorem dX2_above_44 : decode cX2_above 44 = .ok (.iconst 0, 1) := dk_3 (dk_at dksX2_above_2 8 rfl rfl)
theorem dX2_above_45 : decode cX2_above 45 = .ok (.ireturn, 1) := dk_172 (dk_at dksX2_above_2 9 rfl rfl)
def dkwX2_buildsBy_5 : List UInt8 := [180, 0, 69, 27, 46, 5, 182, 1, 62, 96, 172, 42, 27, 28, 184, 1, 56, 29, 182, 1, 59, 172]
abbrev dktX2_buildsBy_5 : List UInt8 := dkwX2_buildsBy_5 ++ []
def dkwX2_buildsBy_4 : List UInt8 := [182, 1, 59, 172, 42, 16, 80, 182, 1, 49, 42, 27, 7, 29, 182, 1, 59, 54, 4, 21, 4, 42, 27, 42]
abbrev dktX2_buildsBy_4 : List UInt8 := dkwX2_buildsBy_4 ++ dktX2_buildsBy_5
def dkwX2_buildsBy_3 : List UInt8 := [182, 1, 49, 42, 27, 3, 29, 182, 1, 59, 116, 172, 42, 16, 41, 182, 1, 49, 42, 27, 5, 29, 4, 96]
abbrev dktX2_buildsBy_3 : List UInt8 := dkwX2_buildsBy_3 ++ dktX2_buildsBy_4
def dkwX2_buildsBy_2 : List UInt8 := [42, 16, 10, 182, 1, 49, 42, 27, 42, 180, 0, 69, 27, 46, 29, 182, 1, 53, 5, 104, 172, 42, 16, 30]
abbrev dktX2_buildsBy_2 : List UInt8 := dkwX2_buildsBy_2 ++ dktX2_buildsBy_3
def dkwX2_buildsBy_1 : List UInt8 := [170, 0, 0, 0, 0, 0, 130, 0, 0, 0, 0, 0, 0, 0, 7, 0, 0, 0, 47, 0, 0, 0, 130, 0, 0, 0, 68, 0, 0, 0, 83, 0, 0, 0, 130, 0, 0, 0, 130, 0, 0, 0, 130, 0, 0, 0, 99]
abbrev dktX2_buildsBy_1 : List UInt8 := dkwX2_buildsBy_1 ++ dktX2_buildsBy_2
def dkwX2_buildsBy_0 : List UInt8 := [28]
abbrev dktX2_buildsBy_0 : List UInt8 := dkwX2_buildsBy_0 ++ dktX2_buildsBy_1
theorem dksX2_buildsBy_0 : cX2_buildsBy.data.toList.drop 0 = dktX2_buildsBy_0 := by decide +kernel
theorem dksX2_buildsBy_1 : cX2_buildsBy.data.toList.drop 1 = dktX2_buildsBy_1 := dk_seg dksX2_buildsBy_0 1 rfl rfl
theorem dksX2_buildsBy_2 : cX2_buildsBy.data.toList.drop 48 = dktX2_buildsBy_2 := dk_seg dksX2_buildsBy_1 47 rfl rfl
theorem dksX2_buildsBy_3 : cX2_buildsBy.data.toList.drop 72 = dktX2_buildsBy_3 := dk_seg dksX2_buildsBy_2 24 rfl rfl
theorem dksX2_buildsBy_4 : cX2_buildsBy.data.toList.drop 96 = dktX2_buildsBy_4 := dk_seg dksX2_buildsBy_3 24 rfl rfl
theorem dksX2_buildsBy_5 : cX2_buildsBy.data.toList.drop 120 = dktX2_buildsBy_5 := dk_seg dksX2_buildsBy_4 24 rfl rfl
theorem dX2_buildsBy_0 : decode cX2_buildsBy 0 = .ok (.iload_n 2, 1) := dk_28 (dk_at dksX2_buildsBy_0 0 rfl rfl)
theorem dX2_buildsBy_1 : decode cX2_buildsBy 1 = .ok (.tableswitch 130 0 7 #[47, 130, 68, 83, 130, 130, 130, 99], 47) := by decide +kernel
theorem dX2_buildsBy_48 : decode cX2_buildsBy 48 = .ok (.aload_n 0, 1) := dk_42 (dk_at dksX2_buildsBy_2 0 rfl rfl)
theorem dX2_buildsBy_49 : decode cX2_buildsBy 49 = .ok (.bipush 10, 2) := dk_16 10 (dk_at dksX2_buildsBy_2 1 rfl rfl)
theorem dX2_buildsBy_51 : decode cX2_buildsBy 51 = .ok (.invokevirtual 305, 3) := dk_182 1 49 (dk_at dksX2_buildsBy_2 3 rfl rfl)
theorem dX2_buildsBy_54 : decode cX2_buildsBy 54 = .ok (.aload_n 0, 1) := dk_42 (dk_at dksX2_buildsBy_2 6 rfl rfl)
theorem dX2_buildsBy_55 : decode cX2_buildsBy 55 = .ok (.iload_n 1, 1) := dk_27 (dk_at dksX2_buildsBy_2 7 rfl rfl)
theorem dX2_buildsBy_56 : decode cX2_buildsBy 56 = .ok (.aload_n 0, 1) := dk_42 (dk_at dksX2_buildsBy_2 8 rfl rfl)
theorem dX2_buildsBy_57 : decode cX2_buildsBy 57 = .ok (.getfield 69, 3) := dk_180 0 69 (dk_at dksX2_buildsBy_2 9 rfl rfl)
theorem dX2_buildsBy_60 : decode cX2_buildsBy 60 = .ok (.iload_n 1, 1) := dk_27 (dk_at dksX2_buildsBy_2 12 rfl rfl)
theorem dX2_buildsBy_61 : decode cX2_buildsBy 61 = .ok (.iaload, 1) := dk_46 (dk_at dksX2_buildsBy_2 13 rfl rfl)
theorem dX2_buildsBy_62 : decode cX2_buildsBy 62 = .ok (.iload_n 3, 1) := dk_29 (dk_at dksX2_buildsBy_2 14 rfl rfl)
theorem dX2_buildsBy_63 : decode cX2_buildsBy 63 = .ok (.invokevirtual 309, 3) := dk_182 1 53 (dk_at dksX2_buildsBy_2 15 rfl rfl)
theorem dX2_buildsBy_66 : decode cX2_buildsBy 66 = .ok (.iconst 2, 1) := dk_5 (dk_at dksX2_buildsBy_2 18 rfl rfl)
theorem dX2_buildsBy_67 : decode cX2_buildsBy 67 = .ok (.imul, 1) := dk_104 (dk_at dksX2_buildsBy_2 19 rfl rfl)
theorem dX2_buildsBy_68 : decode cX2_buildsBy 68 = .ok (.ireturn, 1) := dk_172 (dk_at dksX2_buildsBy_2 20 rfl rfl)
theorem dX2_buildsBy_69 : decode cX2_buildsBy 69 = .ok (.aload_n 0, 1) := dk_42 (dk_at dksX2_buildsBy_2 21 rfl rfl)
theorem dX2_buildsBy_70 : decode cX2_buildsBy 70 = .ok (.bipush 30, 2) := dk_16 30 (dk_at dksX2_buildsBy_2 22 rfl rfl)
theorem dX2_buildsBy_72 : decode cX2_buildsBy 72 = .ok (.invokevirtual 305, 3) := dk_182 1 49 (dk_at dksX2_buildsBy_3 0 rfl rfl)
theorem dX2_buildsBy_75 : decode cX2_buildsBy 75 = .ok (.aload_n 0, 1) := dk_42 (dk_at dksX2_buildsBy_3 3 rfl rfl)
theorem dX2_buildsBy_76 : decode cX2_buildsBy 76 = .ok (.iload_n 1, 1) := dk_27 (dk_at dksX2_buildsBy_3 4 rfl rfl)
theorem dX2_buildsBy_77 : decode cX2_buildsBy 77 = .ok (.iconst 0, 1) := dk_3 (dk_at dksX2_buildsBy_3 5 rfl rfl)
theorem dX2_buildsBy_78 : decode cX2_buildsBy 78 = .ok (.iload_n 3, 1) := dk_29 (dk_at dksX2_buildsBy_3 6 rfl rfl)
theorem dX2_buildsBy_79 : decode cX2_buildsBy 79 = .ok (.invokevirtual 315, 3) := dk_182 1 59 (dk_at dksX2_buildsBy_3 7 rfl rfl)
theorem dX2_buildsBy_82 : decode cX2_buildsBy 82 = .ok (.ineg, 1) := dk_116 (dk_at dksX2_buildsBy_3 10 rfl rfl)
theorem dX2_buildsBy_83 : decode cX2_buildsBy 83 = .ok (.ireturn, 1) := dk_172 (dk_at dksX2_buildsBy_3 11 rfl rfl)
theorem dX2_buildsBy_84 : decode cX2_buildsBy 84 = .ok (.aload_n 0, 1) := dk_42 (dk_at dksX2_buildsBy_3 12 rfl rfl)
theorem dX2_buildsBy_85 : decode cX2_buildsBy 85 = .ok (.bipush 41, 2) := dk_16 41 (dk_at dksX2_buildsBy_3 13 rfl rfl)
theorem dX2_buildsBy_87 : decode cX2_buildsBy 87 = .ok (.invokevirtual 305, 3) := dk_182 1 49 (dk_at dksX2_buildsBy_3 15 rfl rfl)
theorem dX2_buildsBy_90 : decode cX2_buildsBy 90 = .ok (.aload_n 0, 1) := dk_42 (dk_at dksX2_buildsBy_3 18 rfl rfl)
theorem dX2_buildsBy_91 : decode cX2_buildsBy 91 = .ok (.iload_n 1, 1) := dk_27 (dk_at dksX2_buildsBy_3 19 rfl rfl)
theorem dX2_buildsBy_92 : decode cX2_buildsBy 92 = .ok (.iconst 2, 1) := dk_5 (dk_at dksX2_buildsBy_3 20 rfl rfl)
theorem dX2_buildsBy_93 : decode cX2_buildsBy 93 = .ok (.iload_n 3, 1) := dk_29 (dk_at dksX2_buildsBy_3 21 rfl rfl)
theorem dX2_buildsBy_94 : decode cX2_buildsBy 94 = .ok (.iconst 1, 1) := dk_4 (dk_at dksX2_buildsBy_3 22 rfl rfl)
theorem dX2_buildsBy_95 : decode cX2_buildsBy 95 = .ok (.iadd, 1) := dk_96 (dk_at dksX2_buildsBy_3 23 rfl rfl)
theorem dX2_buildsBy_96 : decode cX2_buildsBy 96 = .ok (.invokevirtual 315, 3) := dk_182 1 59 (dk_at dksX2_buildsBy_4 0 rfl rfl)
theorem dX2_buildsBy_99 : decode cX2_buildsBy 99 = .ok (.ireturn, 1) := dk_172 (dk_at dksX2_buildsBy_4 3 rfl rfl)
theorem dX2_buildsBy_100 : decode cX2_buildsBy 100 = .ok (.aload_n 0, 1) := dk_42 (dk_at dksX2_buildsBy_4 4 rfl rfl)
theorem dX2_buildsBy_101 : decode cX2_buildsBy 101 = .ok (.bipush 80, 2) := dk_16 80 (dk_at dksX2_buildsBy_4 5 rfl rfl)
theorem dX2_buildsBy_103 : decode cX2_buildsBy 103 = .ok (.invokevirtual 305, 3) := dk_182 1 49 (dk_at dksX2_buildsBy_4 7 rfl rfl)
theorem dX2_buildsBy_106 : decode cX2_buildsBy 106 = .ok (.aload_n 0, 1) := dk_42 (dk_at dksX2_buildsBy_4 10 rfl rfl)
theorem dX2_buildsBy_107 : decode cX2_buildsBy 107 = .ok (.iload_n 1, 1) := dk_27 (dk_at dksX2_buildsBy_4 11 rfl rfl)
theorem dX2_buildsBy_108 : decode cX2_buildsBy 108 = .ok (.iconst 4, 1) := dk_7 (dk_at dksX2_buildsBy_4 12 rfl rfl)
theorem dX2_buildsBy_109 : decode cX2_buildsBy 109 = .ok (.iload_n 3, 1) := dk_29 (dk_at dksX2_buildsBy_4 13 rfl rfl)
theorem dX2_buildsBy_110 : decode cX2_buildsBy 110 = .ok (.invokevirtual 315, 3) := dk_182 1 59 (dk_at dksX2_buildsBy_4 14 rfl rfl)
theorem dX2_buildsBy_113 : decode cX2_buildsBy 113 = .ok (.istore 4, 2) := dk_54 4 (dk_at dksX2_buildsBy_4 17 rfl rfl)
theorem dX2_buildsBy_115 : decode cX2_buildsBy 115 = .ok (.iload 4, 2) := dk_21 4 (dk_at dksX2_buildsBy_4 19 rfl rfl)
theorem dX2_buildsBy_117 : decode cX2_buildsBy 117 = .ok (.aload_n 0, 1) := dk_42 (dk_at dksX2_buildsBy_4 21 rfl rfl)
theorem dX2_buildsBy_118 : decode cX2_buildsBy 118 = .ok (.iload_n 1, 1) := dk_27 (dk_at dksX2_buildsBy_4 22 rfl rfl)
theorem dX2_buildsBy_119 : decode cX2_buildsBy 119 = .ok (.aload_n 0, 1) := dk_42 (dk_at dksX2_buildsBy_4 23 rfl rfl)
theorem dX2_buildsBy_120 : decode cX2_buildsBy 120 = .ok (.getfield 69, 3) := dk_180 0 69 (dk_at dksX2_buildsBy_5 0 rfl rfl)
theorem dX2_buildsBy_123 : decode cX2_buildsBy 123 = .ok (.iload_n 1, 1) := dk_27 (dk_at dksX2_buildsBy_5 3 rfl rfl)
theorem dX2_buildsBy_124 : decode cX2_buildsBy 124 = .ok (.iaload, 1) := dk_46 (dk_at dksX2_buildsBy_5 4 rfl rfl)
theorem dX2_buildsBy_125 : decode cX2_buildsBy 125 = .ok (.iconst 2, 1) := dk_5 (dk_at dksX2_buildsBy_5 5 rfl rfl)
theorem dX2_buildsBy_126 : decode cX2_buildsBy 126 = .ok (.invokevirtual 318, 3) := dk_182 1 62 (dk_at dksX2_buildsBy_5 6 rfl rfl)
theorem dX2_buildsBy_129 : decode cX2_buildsBy 129 = .ok (.iadd, 1) := dk_96 (dk_at dksX2_buildsBy_5 9 rfl rfl)
theorem dX2_buildsBy_130 : decode cX2_buildsBy 130 = .ok (.ireturn, 1) := dk_172 (dk_at dksX2_buildsBy_5 10 rfl rfl)
theorem dX2_buildsBy_131 : decode cX2_buildsBy 131 = .ok (.aload_n 0, 1) := dk_42 (dk_at dksX2_buildsBy_5 11 rfl rfl)
theorem dX2_buildsBy_132 : decode cX2_buildsBy 132 = .ok (.iload_n 1, 1) := dk_27 (dk_at dksX2_buildsBy_5 12 rfl rfl)
theorem dX2_buildsBy_133 : decode cX2_buildsBy 133 = .ok (.iload_n 2, 1) := dk_28 (dk_at dksX2_buildsBy_5 13 rfl rfl)
theorem dX2_buildsBy_134 : decode cX2_buildsBy 134 = .ok (.invokestatic 312, 3) := dk_184 1 56 (dk_at dksX2_buildsBy_5 14 rfl rfl)
theorem dX2_buildsBy_137 : decode cX2_buildsBy 137 = .ok (.iload_n 3, 1) := dk_29 (dk_at dksX2_buildsBy_5 17 rfl rfl)
theorem dX2_buildsBy_138 : decode cX2_buildsBy 138 = .ok (.invokevirtual 315, 3) := dk_182 1 59 (dk_at dksX2_buildsBy_5 18 rfl rfl)
theorem dX2_buildsBy_141 : decode cX2_buildsBy 141 = .ok (.ireturn, 1) := dk_172 (dk_at dksX2_buildsBy_5 21 rfl rfl)
def dkwX2_fallsBy_4 : List UInt8 := [180, 0, 69, 27, 46, 5, 182, 1, 53, 100, 172, 42, 27, 28, 184, 1, 56, 29, 182, 1, 62, 172]
abbrev dktX2_fallsBy_4 : List UInt8 := dkwX2_fallsBy_4 ++ []
def dkwX2_fallsBy_3 : List UInt8 := [104, 172, 42, 16, 50, 182, 1, 49, 42, 27, 4, 29, 182, 1, 62, 54, 4, 21, 4, 42, 27, 42]
abbrev dktX2_fallsBy_3 : List UInt8 := dkwX2_fallsBy_3 ++ dktX2_fallsBy_4
def dkwX2_fallsBy_2 : List UInt8 := [42, 16, 11, 182, 1, 49, 29, 27, 130, 172, 42, 16, 40, 182, 1, 49, 42, 27, 5, 29, 182, 1, 62, 6]
abbrev dktX2_fallsBy_2 : List UInt8 := dkwX2_fallsBy_2 ++ dktX2_fallsBy_3
def dkwX2_fallsBy_1 : List UInt8 := [170, 0, 0, 0, 0, 0, 92, 0, 0, 0, 0, 0, 0, 0, 4, 0, 0, 0, 35, 0, 0, 0, 92, 0, 0, 0, 92, 0, 0, 0, 45, 0, 0, 0, 61]
abbrev dktX2_fallsBy_1 : List UInt8 := dkwX2_fallsBy_1 ++ dktX2_fallsBy_2
def dkwX2_fallsBy_0 : List UInt8 := [28]
abbrev dktX2_fallsBy_0 : List UInt8 := dkwX2_fallsBy_0 ++ dktX2_fallsBy_1
theorem dksX2_fallsBy_0 : cX2_fallsBy.data.toList.drop 0 = dktX2_fallsBy_0 := by decide +kernel
theorem dksX2_fallsBy_1 : cX2_fallsBy.data.toList.drop 1 = dktX2_fallsBy_1 := dk_seg dksX2_fallsBy_0 1 rfl rfl
theorem dksX2_fallsBy_2 : cX2_fallsBy.data.toList.drop 36 = dktX2_fallsBy_2 := dk_seg dksX2_fallsBy_1 35 rfl rfl
theorem dksX2_fallsBy_3 : cX2_fallsBy.data.toList.drop 60 = dktX2_fallsBy_3 := dk_seg dksX2_fallsBy_2 24 rfl rfl
theorem dksX2_fallsBy_4 : cX2_fallsBy.data.toList.drop 82 = dktX2_fallsBy_4 := dk_seg dksX2_fallsBy_3 22 rfl rfl
theorem dX2_fallsBy_0 : decode cX2_fallsBy 0 = .ok (.iload_n 2, 1) := dk_28 (dk_at dksX2_fallsBy_0 0 rfl rfl)
theorem dX2_fallsBy_1 : decode cX2_fallsBy 1 = .ok (.tableswitch 92 0 4 #[35, 92, 92, 45, 61], 35) := by decide +kernel
theorem dX2_fallsBy_36 : decode cX2_fallsBy 36 = .ok (.aload_n 0, 1) := dk_42 (dk_at dksX2_fallsBy_2 0 rfl rfl)
theorem dX2_fallsBy_37 : decode cX2_fallsBy 37 = .ok (.bipush 11, 2) := dk_16 11 (dk_at dksX2_fallsBy_2 1 rfl rfl)
theorem dX2_fallsBy_39 : decode cX2_fallsBy 39 = .ok (.invokevirtual 305, 3) := dk_182 1 49 (dk_at dksX2_fallsBy_2 3 rfl rfl)
theorem dX2_fallsBy_42 : decode cX2_fallsBy 42 = .ok (.iload_n 3, 1) := dk_29 (dk_at dksX2_fallsBy_2 6 rfl rfl)
theorem dX2_fallsBy_43 : decode cX2_fallsBy 43 = .ok (.iload_n 1, 1) := dk_27 (dk_at dksX2_fallsBy_2 7 rfl rfl)
theorem dX2_fallsBy_44 : decode cX2_fallsBy 44 = .ok (.ixor, 1) := dk_130 (dk_at dksX2_fallsBy_2 8 rfl rfl)
theorem dX2_fallsBy_45 : decode cX2_fallsBy 45 = .ok (.ireturn, 1) := dk_172 (dk_at dksX2_fallsBy_2 9 rfl rfl)
theorem dX2_fallsBy_46 : decode cX2_fallsBy 46 = .ok (.aload_n 0, 1) := dk_42 (dk_at dksX2_fallsBy_2 10 rfl rfl)
theorem dX2_fallsBy_47 : decode cX2_fallsBy 47 = .ok (.bipush 40, 2) := dk_16 40 (dk_at dksX2_fallsBy_2 11 rfl rfl)
theorem dX2_fallsBy_49 : decode cX2_fallsBy 49 = .ok (.invokevirtual 305, 3) := dk_182 1 49 (dk_at dksX2_fallsBy_2 13 rfl rfl)
theorem dX2_fallsBy_52 : decode cX2_fallsBy 52 = .ok (.aload_n 0, 1) := dk_42 (dk_at dksX2_fallsBy_2 16 rfl rfl)
theorem dX2_fallsBy_53 : decode cX2_fallsBy 53 = .ok (.iload_n 1, 1) := dk_27 (dk_at dksX2_fallsBy_2 17 rfl rfl)
theorem dX2_fallsBy_54 : decode cX2_fallsBy 54 = .ok (.iconst 2, 1) := dk_5 (dk_at dksX2_fallsBy_2 18 rfl rfl)
theorem dX2_fallsBy_55 : decode cX2_fallsBy 55 = .ok (.iload_n 3, 1) := dk_29 (dk_at dksX2_fallsBy_2 19 rfl rfl)
theorem dX2_fallsBy_56 : decode cX2_fallsBy 56 = .ok (.invokevirtual 318, 3) := dk_182 1 62 (dk_at dksX2_fallsBy_2 20 rfl rfl)
theorem dX2_fallsBy_59 : decode cX2_fallsBy 59 = .ok (.iconst 3, 1) := dk_6 (dk_at dksX2_fallsBy_2 23 rfl rfl)
theorem dX2_fallsBy_60 : decode cX2_fallsBy 60 = .ok (.imul, 1) := dk_104 (dk_at dksX2_fallsBy_3 0 rfl rfl)
theorem dX2_fallsBy_61 : decode cX2_fallsBy 61 = .ok (.ireturn, 1) := dk_172 (dk_at dksX2_fallsBy_3 1 rfl rfl)
theorem dX2_fallsBy_62 : decode cX2_fallsBy 62 = .ok (.aload_n 0, 1) := dk_42 (dk_at dksX2_fallsBy_3 2 rfl rfl)
theorem dX2_fallsBy_63 : decode cX2_fallsBy 63 = .ok (.bipush 50, 2) := dk_16 50 (dk_at dksX2_fallsBy_3 3 rfl rfl)
theorem dX2_fallsBy_65 : decode cX2_fallsBy 65 = .ok (.invokevirtual 305, 3) := dk_182 1 49 (dk_at dksX2_fallsBy_3 5 rfl rfl)
theorem dX2_fallsBy_68 : decode cX2_fallsBy 68 = .ok (.aload_n 0, 1) := dk_42 (dk_at dksX2_fallsBy_3 8 rfl rfl)
theorem dX2_fallsBy_69 : decode cX2_fallsBy 69 = .ok (.iload_n 1, 1) := dk_27 (dk_at dksX2_fallsBy_3 9 rfl rfl)
theorem dX2_fallsBy_70 : decode cX2_fallsBy 70 = .ok (.iconst 1, 1) := dk_4 (dk_at dksX2_fallsBy_3 10 rfl rfl)
theorem dX2_fallsBy_71 : decode cX2_fallsBy 71 = .ok (.iload_n 3, 1) := dk_29 (dk_at dksX2_fallsBy_3 11 rfl rfl)
theorem dX2_fallsBy_72 : decode cX2_fallsBy 72 = .ok (.invokevirtual 318, 3) := dk_182 1 62 (dk_at dksX2_fallsBy_3 12 rfl rfl)
theorem dX2_fallsBy_75 : decode cX2_fallsBy 75 = .ok (.istore 4, 2) := dk_54 4 (dk_at dksX2_fallsBy_3 15 rfl rfl)
theorem dX2_fallsBy_77 : decode cX2_fallsBy 77 = .ok (.iload 4, 2) := dk_21 4 (dk_at dksX2_fallsBy_3 17 rfl rfl)
theorem dX2_fallsBy_79 : decode cX2_fallsBy 79 = .ok (.aload_n 0, 1) := dk_42 (dk_at dksX2_fallsBy_3 19 rfl rfl)
theorem dX2_fallsBy_80 : decode cX2_fallsBy 80 = .ok (.iload_n 1, 1) := dk_27 (dk_at dksX2_fallsBy_3 20 rfl rfl)
theorem dX2_fallsBy_81 : decode cX2_fallsBy 81 = .ok (.aload_n 0, 1) := dk_42 (dk_at dksX2_fallsBy_3 21 rfl rfl)
theorem dX2_fallsBy_82 : decode cX2_fallsBy 82 = .ok (.getfield 69, 3) := dk_180 0 69 (dk_at dksX2_fallsBy_4 0 rfl rfl)
theorem dX2_fallsBy_85 : decode cX2_fallsBy 85 = .ok (.iload_n 1, 1) := dk_27 (dk_at dksX2_fallsBy_4 3 rfl rfl)
theorem dX2_fallsBy_86 : decode cX2_fallsBy 86 = .ok (.iaload, 1) := dk_46 (dk_at dksX2_fallsBy_4 4 rfl rfl)
theorem dX2_fallsBy_87 : decode cX2_fallsBy 87 = .ok (.iconst 2, 1) := dk_5 (dk_at dksX2_fallsBy_4 5 rfl rfl)
theorem dX2_fallsBy_88 : decode cX2_fallsBy 88 = .ok (.invokevirtual 309, 3) := dk_182 1 53 (dk_at dksX2_fallsBy_4 6 rfl rfl)
theorem dX2_fallsBy_91 : decode cX2_fallsBy 91 = .ok (.isub, 1) := dk_100 (dk_at dksX2_fallsBy_4 9 rfl rfl)
theorem dX2_fallsBy_92 : decode cX2_fallsBy 92 = .ok (.ireturn, 1) := dk_172 (dk_at dksX2_fallsBy_4 10 rfl rfl)
theorem dX2_fallsBy_93 : decode cX2_fallsBy 93 = .ok (.aload_n 0, 1) := dk_42 (dk_at dksX2_fallsBy_4 11 rfl rfl)
theorem dX2_fallsBy_94 : decode cX2_fallsBy 94 = .ok (.iload_n 1, 1) := dk_27 (dk_at dksX2_fallsBy_4 12 rfl rfl)
theorem dX2_fallsBy_95 : decode cX2_fallsBy 95 = .ok (.iload_n 2, 1) := dk_28 (dk_at dksX2_fallsBy_4 13 rfl rfl)
theorem dX2_fallsBy_96 : decode cX2_fallsBy 96 = .ok (.invokestatic 312, 3) := dk_184 1 56 (dk_at dksX2_fallsBy_4 14 rfl rfl)
theorem dX2_fallsBy_99 : decode cX2_fallsBy 99 = .ok (.iload_n 3, 1) := dk_29 (dk_at dksX2_fallsBy_4 17 rfl rfl)
theorem dX2_fallsBy_100 : decode cX2_fallsBy 100 = .ok (.invokevirtual 318, 3) := dk_182 1 62 (dk_at dksX2_fallsBy_4 18 rfl rfl)
theorem dX2_fallsBy_103 : decode cX2_fallsBy 103 = .ok (.ireturn, 1) := dk_172 (dk_at dksX2_fallsBy_4 21 rfl rfl)
def dkwX2_tells_5 : List UInt8 := [184, 1, 56, 29, 182, 1, 65, 172]
abbrev dktX2_tells_5 : List UInt8 := dkwX2_tells_5 ++ []
def dkwX2_tells_4 : List UInt8 := [8, 130, 172, 42, 16, 81, 182, 1, 49, 42, 27, 7, 29, 182, 1, 65, 4, 100, 172, 42, 27, 28]
abbrev dktX2_tells_4 : List UInt8 := dkwX2_tells_4 ++ dktX2_tells_5
def dkwX2_tells_3 : List UInt8 := [180, 0, 69, 27, 46, 4, 182, 1, 62, 100, 172, 42, 16, 60, 182, 1, 49, 42, 27, 6, 29, 182, 1, 65]
abbrev dktX2_tells_3 : List UInt8 := dkwX2_tells_3 ++ dktX2_tells_4
def dkwX2_tells_2 : List UInt8 := [42, 5, 182, 1, 49, 42, 27, 42, 180, 0, 69, 27, 46, 29, 182, 1, 59, 54, 4, 21, 4, 42, 27, 42]
abbrev dktX2_tells_2 : List UInt8 := dkwX2_tells_2 ++ dktX2_tells_3
def dkwX2_tells_1 : List UInt8 := [171, 0, 0, 0, 0, 0, 102, 0, 0, 0, 3, 0, 0, 0, 0, 0, 0, 0, 35, 0, 0, 0, 5, 0, 0, 0, 70, 0, 0, 0, 7, 0, 0, 0, 86]
abbrev dktX2_tells_1 : List UInt8 := dkwX2_tells_1 ++ dktX2_tells_2
def dkwX2_tells_0 : List UInt8 := [28]
abbrev dktX2_tells_0 : List UInt8 := dkwX2_tells_0 ++ dktX2_tells_1
theorem dksX2_tells_0 : cX2_tells.data.toList.drop 0 = dktX2_tells_0 := by decide +kernel
theorem dksX2_tells_1 : cX2_tells.data.toList.drop 1 = dktX2_tells_1 := dk_seg dksX2_tells_0 1 rfl rfl
theorem dksX2_tells_2 : cX2_tells.data.toList.drop 36 = dktX2_tells_2 := dk_seg dksX2_tells_1 35 rfl rfl
theorem dksX2_tells_3 : cX2_tells.data.toList.drop 60 = dktX2_tells_3 := dk_seg dksX2_tells_2 24 rfl rfl
theorem dksX2_tells_4 : cX2_tells.data.toList.drop 84 = dktX2_tells_4 := dk_seg dksX2_tells_3 24 rfl rfl
theorem dksX2_tells_5 : cX2_tells.data.toList.drop 106 = dktX2_tells_5 := dk_seg dksX2_tells_4 22 rfl rfl
theorem dX2_tells_0 : decode cX2_tells 0 = .ok (.iload_n 2, 1) := dk_28 (dk_at dksX2_tells_0 0 rfl rfl)
theorem dX2_tells_1 : decode cX2_tells 1 = .ok (.lookupswitch 102 #[(0, 35), (5, 70), (7, 86)], 35) := by decide +kernel
theorem dX2_tells_36 : decode cX2_tells 36 = .ok (.aload_n 0, 1) := dk_42 (dk_at dksX2_tells_2 0 rfl rfl)
theorem dX2_tells_37 : decode cX2_tells 37 = .ok (.iconst 2, 1) := dk_5 (dk_at dksX2_tells_2 1 rfl rfl)
theorem dX2_tells_38 : decode cX2_tells 38 = .ok (.invokevirtual 305, 3) := dk_182 1 49 (dk_at dksX2_tells_2 2 rfl rfl)
theorem dX2_tells_41 : decode cX2_tells 41 = .ok (.aload_n 0, 1) := dk_42 (dk_at dksX2_tells_2 5 rfl rfl)
theorem dX2_tells_42 : decode cX2_tells 42 = .ok (.iload_n 1, 1) := dk_27 (dk_at dksX2_tells_2 6 rfl rfl)
theorem dX2_tells_43 : decode cX2_tells 43 = .ok (.aload_n 0, 1) := dk_42 (dk_at dksX2_tells_2 7 rfl rfl)
theorem dX2_tells_44 : decode cX2_tells 44 = .ok (.getfield 69, 3) := dk_180 0 69 (dk_at dksX2_tells_2 8 rfl rfl)
theorem dX2_tells_47 : decode cX2_tells 47 = .ok (.iload_n 1, 1) := dk_27 (dk_at dksX2_tells_2 11 rfl rfl)
theorem dX2_tells_48 : decode cX2_tells 48 = .ok (.iaload, 1) := dk_46 (dk_at dksX2_tells_2 12 rfl rfl)
theorem dX2_tells_49 : decode cX2_tells 49 = .ok (.iload_n 3, 1) := dk_29 (dk_at dksX2_tells_2 13 rfl rfl)
theorem dX2_tells_50 : decode cX2_tells 50 = .ok (.invokevirtual 315, 3) := dk_182 1 59 (dk_at dksX2_tells_2 14 rfl rfl)
theorem dX2_tells_53 : decode cX2_tells 53 = .ok (.istore 4, 2) := dk_54 4 (dk_at dksX2_tells_2 17 rfl rfl)
theorem dX2_tells_55 : decode cX2_tells 55 = .ok (.iload 4, 2) := dk_21 4 (dk_at dksX2_tells_2 19 rfl rfl)
theorem dX2_tells_57 : decode cX2_tells 57 = .ok (.aload_n 0, 1) := dk_42 (dk_at dksX2_tells_2 21 rfl rfl)
theorem dX2_tells_58 : decode cX2_tells 58 = .ok (.iload_n 1, 1) := dk_27 (dk_at dksX2_tells_2 22 rfl rfl)
theorem dX2_tells_59 : decode cX2_tells 59 = .ok (.aload_n 0, 1) := dk_42 (dk_at dksX2_tells_2 23 rfl rfl)
theorem dX2_tells_60 : decode cX2_tells 60 = .ok (.getfield 69, 3) := dk_180 0 69 (dk_at dksX2_tells_3 0 rfl rfl)
theorem dX2_tells_63 : decode cX2_tells 63 = .ok (.iload_n 1, 1) := dk_27 (dk_at dksX2_tells_3 3 rfl rfl)
theorem dX2_tells_64 : decode cX2_tells 64 = .ok (.iaload, 1) := dk_46 (dk_at dksX2_tells_3 4 rfl rfl)
theorem dX2_tells_65 : decode cX2_tells 65 = .ok (.iconst 1, 1) := dk_4 (dk_at dksX2_tells_3 5 rfl rfl)
theorem dX2_tells_66 : decode cX2_tells 66 = .ok (.invokevirtual 318, 3) := dk_182 1 62 (dk_at dksX2_tells_3 6 rfl rfl)
theorem dX2_tells_69 : decode cX2_tells 69 = .ok (.isub, 1) := dk_100 (dk_at dksX2_tells_3 9 rfl rfl)
theorem dX2_tells_70 : decode cX2_tells 70 = .ok (.ireturn, 1) := dk_172 (dk_at dksX2_tells_3 10 rfl rfl)
theorem dX2_tells_71 : decode cX2_tells 71 = .ok (.aload_n 0, 1) := dk_42 (dk_at dksX2_tells_3 11 rfl rfl)
theorem dX2_tells_72 : decode cX2_tells 72 = .ok (.bipush 60, 2) := dk_16 60 (dk_at dksX2_tells_3 12 rfl rfl)
theorem dX2_tells_74 : decode cX2_tells 74 = .ok (.invokevirtual 305, 3) := dk_182 1 49 (dk_at dksX2_tells_3 14 rfl rfl)
theorem dX2_tells_77 : decode cX2_tells 77 = .ok (.aload_n 0, 1) := dk_42 (dk_at dksX2_tells_3 17 rfl rfl)
theorem dX2_tells_78 : decode cX2_tells 78 = .ok (.iload_n 1, 1) := dk_27 (dk_at dksX2_tells_3 18 rfl rfl)
theorem dX2_tells_79 : decode cX2_tells 79 = .ok (.iconst 3, 1) := dk_6 (dk_at dksX2_tells_3 19 rfl rfl)
theorem dX2_tells_80 : decode cX2_tells 80 = .ok (.iload_n 3, 1) := dk_29 (dk_at dksX2_tells_3 20 rfl rfl)
theorem dX2_tells_81 : decode cX2_tells 81 = .ok (.invokevirtual 321, 3) := dk_182 1 65 (dk_at dksX2_tells_3 21 rfl rfl)
theorem dX2_tells_84 : decode cX2_tells 84 = .ok (.iconst 5, 1) := dk_8 (dk_at dksX2_tells_4 0 rfl rfl)
theorem dX2_tells_85 : decode cX2_tells 85 = .ok (.ixor, 1) := dk_130 (dk_at dksX2_tells_4 1 rfl rfl)
theorem dX2_tells_86 : decode cX2_tells 86 = .ok (.ireturn, 1) := dk_172 (dk_at dksX2_tells_4 2 rfl rfl)
theorem dX2_tells_87 : decode cX2_tells 87 = .ok (.aload_n 0, 1) := dk_42 (dk_at dksX2_tells_4 3 rfl rfl)
theorem dX2_tells_88 : decode cX2_tells 88 = .ok (.bipush 81, 2) := dk_16 81 (dk_at dksX2_tells_4 4 rfl rfl)
theorem dX2_tells_90 : decode cX2_tells 90 = .ok (.invokevirtual 305, 3) := dk_182 1 49 (dk_at dksX2_tells_4 6 rfl rfl)
theorem dX2_tells_93 : decode cX2_tells 93 = .ok (.aload_n 0, 1) := dk_42 (dk_at dksX2_tells_4 9 rfl rfl)
theorem dX2_tells_94 : decode cX2_tells 94 = .ok (.iload_n 1, 1) := dk_27 (dk_at dksX2_tells_4 10 rfl rfl)
theorem dX2_tells_95 : decode cX2_tells 95 = .ok (.iconst 4, 1) := dk_7 (dk_at dksX2_tells_4 11 rfl rfl)
theorem dX2_tells_96 : decode cX2_tells 96 = .ok (.iload_n 3, 1) := dk_29 (dk_at dksX2_tells_4 12 rfl rfl)
theorem dX2_tells_97 : decode cX2_tells 97 = .ok (.invokevirtual 321, 3) := dk_182 1 65 (dk_at dksX2_tells_4 13 rfl rfl)
theorem dX2_tells_100 : decode cX2_tells 100 = .ok (.iconst 1, 1) := dk_4 (dk_at dksX2_tells_4 16 rfl rfl)
theorem dX2_tells_101 : decode cX2_tells 101 = .ok (.isub, 1) := dk_100 (dk_at dksX2_tells_4 17 rfl rfl)
theorem dX2_tells_102 : decode cX2_tells 102 = .ok (.ireturn, 1) := dk_172 (dk_at dksX2_tells_4 18 rfl rfl)
theorem dX2_tells_103 : decode cX2_tells 103 = .ok (.aload_n 0, 1) := dk_42 (dk_at dksX2_tells_4 19 rfl rfl)
theorem dX2_tells_104 : decode cX2_tells 104 = .ok (.iload_n 1, 1) := dk_27 (dk_at dksX2_tells_4 20 rfl rfl)
theorem dX2_tells_105 : decode cX2_tells 105 = .ok (.iload_n 2, 1) := dk_28 (dk_at dksX2_tells_4 21 rfl rfl)
theorem dX2_tells_106 : decode cX2_tells 106 = .ok (.invokestatic 312, 3) := dk_184 1 56 (dk_at dksX2_tells_5 0 rfl rfl)
theorem dX2_tells_109 : decode cX2_tells 109 = .ok (.iload_n 3, 1) := dk_29 (dk_at dksX2_tells_5 3 rfl rfl)
theorem dX2_tells_110 : decode cX2_tells 110 = .ok (.invokevirtual 321, 3) := dk_182 1 65 (dk_at dksX2_tells_5 4 rfl rfl)
theorem dX2_tells_113 : decode cX2_tells 113 = .ok (.ireturn, 1) := dk_172 (dk_at dksX2_tells_5 7 rfl rfl)
def dkwX2_trace_1 : List UInt8 := [46, 167, 0, 4, 2, 172]
abbrev dktX2_trace_1 : List UInt8 := dkwX2_trace_1 ++ []
def dkwX2_trace_0 : List UInt8 := [27, 3, 16, 24, 42, 180, 1, 46, 184, 0, 233, 4, 100, 184, 0, 92, 153, 0, 12, 42, 180, 0, 72, 27]
abbrev dktX2_trace_0 : List UInt8 := dkwX2_trace_0 ++ dktX2_trace_1
theorem dksX2_trace_0 : cX2_trace.data.toList.drop 0 = dktX2_trace_0 := by decide +kernel
theorem dksX2_trace_1 : cX2_trace.data.toList.drop 24 = dktX2_trace_1 := dk_seg dksX2_trace_0 24 rfl rfl
theorem dX2_trace_0 : decode cX2_trace 0 = .ok (.iload_n 1, 1) := dk_27 (dk_at dksX2_trace_0 0 rfl rfl)
theorem dX2_trace_1 : decode cX2_trace 1 = .ok (.iconst 0, 1) := dk_3 (dk_at dksX2_trace_0 1 rfl rfl)
theorem dX2_trace_2 : decode cX2_trace 2 = .ok (.bipush 24, 2) := dk_16 24 (dk_at dksX2_trace_0 2 rfl rfl)
theorem dX2_trace_4 : decode cX2_trace 4 = .ok (.aload_n 0, 1) := dk_42 (dk_at dksX2_trace_0 4 rfl rfl)
theorem dX2_trace_5 : decode cX2_trace 5 = .ok (.getfield 302, 3) := dk_180 1 46 (dk_at dksX2_trace_0 5 rfl rfl)
theorem dX2_trace_8 : decode cX2_trace 8 = .ok (.invokestatic 233, 3) := dk_184 0 233 (dk_at dksX2_trace_0 8 rfl rfl)
theorem dX2_trace_11 : decode cX2_trace 11 = .ok (.iconst 1, 1) := dk_4 (dk_at dksX2_trace_0 11 rfl rfl)
theorem dX2_trace_12 : decode cX2_trace 12 = .ok (.isub, 1) := dk_100 (dk_at dksX2_trace_0 12 rfl rfl)
theorem dX2_trace_13 : decode cX2_trace 13 = .ok (.invokestatic 92, 3) := dk_184 0 92 (dk_at dksX2_trace_0 13 rfl rfl)
theorem dX2_trace_16 : decode cX2_trace 16 = .ok (.ifCond .eq 12, 3) := dk_153 0 12 (dk_at dksX2_trace_0 16 rfl rfl)
theorem dX2_trace_19 : decode cX2_trace 19 = .ok (.aload_n 0, 1) := dk_42 (dk_at dksX2_trace_0 19 rfl rfl)
theorem dX2_trace_20 : decode cX2_trace 20 = .ok (.getfield 72, 3) := dk_180 0 72 (dk_at dksX2_trace_0 20 rfl rfl)
theorem dX2_trace_23 : decode cX2_trace 23 = .ok (.iload_n 1, 1) := dk_27 (dk_at dksX2_trace_0 23 rfl rfl)
theorem dX2_trace_24 : decode cX2_trace 24 = .ok (.iaload, 1) := dk_46 (dk_at dksX2_trace_1 0 rfl rfl)
theorem dX2_trace_25 : decode cX2_trace 25 = .ok (.goto 4, 3) := dk_167 0 4 (dk_at dksX2_trace_1 1 rfl rfl)
theorem dX2_trace_28 : decode cX2_trace 28 = .ok (.iconst (-1), 1) := dk_2 (dk_at dksX2_trace_1 4 rfl rfl)
theorem dX2_trace_29 : decode cX2_trace 29 = .ok (.ireturn, 1) := dk_172 (dk_at dksX2_trace_1 5 rfl rfl)
def dkwX2_keep_2 : List UInt8 := [4, 172]
abbrev dktX2_keep_2 : List UInt8 := dkwX2_keep_2 ++ []
def dkwX2_keep_1 : List UInt8 := [180, 0, 75, 27, 28, 156, 0, 7, 2, 167, 0, 7, 16, 10, 28, 96, 79, 42, 180, 0, 78, 27, 3, 79]
abbrev dktX2_keep_1 : List UInt8 := dkwX2_keep_1 ++ dktX2_keep_2
def dkwX2_keep_0 : List UInt8 := [27, 184, 0, 118, 153, 0, 17, 28, 2, 42, 180, 1, 68, 4, 100, 184, 0, 92, 154, 0, 5, 2, 172, 42]
abbrev dktX2_keep_0 : List UInt8 := dkwX2_keep_0 ++ dktX2_keep_1
theorem dksX2_keep_0 : cX2_keep.data.toList.drop 0 = dktX2_keep_0 := by decide +kernel
theorem dksX2_keep_1 : cX2_keep.data.toList.drop 24 = dktX2_keep_1 := dk_seg dksX2_keep_0 24 rfl rfl
theorem dksX2_keep_2 : cX2_keep.data.toList.drop 48 = dktX2_keep_2 := dk_seg dksX2_keep_1 24 rfl rfl
theorem dX2_keep_0 : decode cX2_keep 0 = .ok (.iload_n 1, 1) := dk_27 (dk_at dksX2_keep_0 0 rfl rfl)
theorem dX2_keep_1 : decode cX2_keep 1 = .ok (.invokestatic 118, 3) := dk_184 0 118 (dk_at dksX2_keep_0 1 rfl rfl)
theorem dX2_keep_4 : decode cX2_keep 4 = .ok (.ifCond .eq 17, 3) := dk_153 0 17 (dk_at dksX2_keep_0 4 rfl rfl)
theorem dX2_keep_7 : decode cX2_keep 7 = .ok (.iload_n 2, 1) := dk_28 (dk_at dksX2_keep_0 7 rfl rfl)
theorem dX2_keep_8 : decode cX2_keep 8 = .ok (.iconst (-1), 1) := dk_2 (dk_at dksX2_keep_0 8 rfl rfl)
theorem dX2_keep_9 : decode cX2_keep 9 = .ok (.aload_n 0, 1) := dk_42 (dk_at dksX2_keep_0 9 rfl rfl)
theorem dX2_keep_10 : decode cX2_keep 10 = .ok (.getfield 324, 3) := dk_180 1 68 (dk_at dksX2_keep_0 10 rfl rfl)
theorem dX2_keep_13 : decode cX2_keep 13 = .ok (.iconst 1, 1) := dk_4 (dk_at dksX2_keep_0 13 rfl rfl)
theorem dX2_keep_14 : decode cX2_keep 14 = .ok (.isub, 1) := dk_100 (dk_at dksX2_keep_0 14 rfl rfl)
theorem dX2_keep_15 : decode cX2_keep 15 = .ok (.invokestatic 92, 3) := dk_184 0 92 (dk_at dksX2_keep_0 15 rfl rfl)
theorem dX2_keep_18 : decode cX2_keep 18 = .ok (.ifCond .ne 5, 3) := dk_154 0 5 (dk_at dksX2_keep_0 18 rfl rfl)
theorem dX2_keep_21 : decode cX2_keep 21 = .ok (.iconst (-1), 1) := dk_2 (dk_at dksX2_keep_0 21 rfl rfl)
theorem dX2_keep_22 : decode cX2_keep 22 = .ok (.ireturn, 1) := dk_172 (dk_at dksX2_keep_0 22 rfl rfl)
theorem dX2_keep_23 : decode cX2_keep 23 = .ok (.aload_n 0, 1) := dk_42 (dk_at dksX2_keep_0 23 rfl rfl)
theorem dX2_keep_24 : decode cX2_keep 24 = .ok (.getfield 75, 3) := dk_180 0 75 (dk_at dksX2_keep_1 0 rfl rfl)
theorem dX2_keep_27 : decode cX2_keep 27 = .ok (.iload_n 1, 1) := dk_27 (dk_at dksX2_keep_1 3 rfl rfl)
theorem dX2_keep_28 : decode cX2_keep 28 = .ok (.iload_n 2, 1) := dk_28 (dk_at dksX2_keep_1 4 rfl rfl)
theorem dX2_keep_29 : decode cX2_keep 29 = .ok (.ifCond .ge 7, 3) := dk_156 0 7 (dk_at dksX2_keep_1 5 rfl rfl)
theorem dX2_keep_32 : decode cX2_keep 32 = .ok (.iconst (-1), 1) := dk_2 (dk_at dksX2_keep_1 8 rfl rfl)
theorem dX2_keep_33 : decode cX2_keep 33 = .ok (.goto 7, 3) := dk_167 0 7 (dk_at dksX2_keep_1 9 rfl rfl)
theorem dX2_keep_36 : decode cX2_keep 36 = .ok (.bipush 10, 2) := dk_16 10 (dk_at dksX2_keep_1 12 rfl rfl)
theorem dX2_keep_38 : decode cX2_keep 38 = .ok (.iload_n 2, 1) := dk_28 (dk_at dksX2_keep_1 14 rfl rfl)
theorem dX2_keep_39 : decode cX2_keep 39 = .ok (.iadd, 1) := dk_96 (dk_at dksX2_keep_1 15 rfl rfl)
theorem dX2_keep_40 : decode cX2_keep 40 = .ok (.iastore, 1) := dk_79 (dk_at dksX2_keep_1 16 rfl rfl)
theorem dX2_keep_41 : decode cX2_keep 41 = .ok (.aload_n 0, 1) := dk_42 (dk_at dksX2_keep_1 17 rfl rfl)
theorem dX2_keep_42 : decode cX2_keep 42 = .ok (.getfield 78, 3) := dk_180 0 78 (dk_at dksX2_keep_1 18 rfl rfl)
theorem dX2_keep_45 : decode cX2_keep 45 = .ok (.iload_n 1, 1) := dk_27 (dk_at dksX2_keep_1 21 rfl rfl)
theorem dX2_keep_46 : decode cX2_keep 46 = .ok (.iconst 0, 1) := dk_3 (dk_at dksX2_keep_1 22 rfl rfl)
theorem dX2_keep_47 : decode cX2_keep 47 = .ok (.iastore, 1) := dk_79 (dk_at dksX2_keep_1 23 rfl rfl)
theorem dX2_keep_48 : decode cX2_keep 48 = .ok (.iconst 1, 1) := dk_4 (dk_at dksX2_keep_2 0 rfl rfl)
theorem dX2_keep_49 : decode cX2_keep 49 = .ok (.ireturn, 1) := dk_172 (dk_at dksX2_keep_2 1 rfl rfl)
def dkwX2_row_3 : List UInt8 := [167, 255, 233, 4, 172]
abbrev dktX2_row_3 : List UInt8 := dkwX2_row_3 ++ []
def dkwX2_row_2 : List UInt8 := [21, 4, 16, 60, 162, 0, 22, 42, 180, 0, 81, 16, 60, 27, 104, 21, 4, 96, 9, 80, 132, 4, 1]
abbrev dktX2_row_2 : List UInt8 := dkwX2_row_2 ++ dktX2_row_3
def dkwX2_row_1 : List UInt8 := [29, 156, 0, 6, 16, 242, 172, 42, 180, 0, 75, 27, 28, 79, 42, 180, 0, 78, 27, 29, 79, 3, 54, 4]
abbrev dktX2_row_1 : List UInt8 := dkwX2_row_1 ++ dktX2_row_2
def dkwX2_row_0 : List UInt8 := [27, 184, 0, 118, 153, 0, 18, 28, 3, 7, 184, 0, 92, 153, 0, 9, 29, 16, 60, 164, 0, 5, 2, 172]
abbrev dktX2_row_0 : List UInt8 := dkwX2_row_0 ++ dktX2_row_1
theorem dksX2_row_0 : cX2_row.data.toList.drop 0 = dktX2_row_0 := by decide +kernel
theorem dksX2_row_1 : cX2_row.data.toList.drop 24 = dktX2_row_1 := dk_seg dksX2_row_0 24 rfl rfl
theorem dksX2_row_2 : cX2_row.data.toList.drop 48 = dktX2_row_2 := dk_seg dksX2_row_1 24 rfl rfl
theorem dksX2_row_3 : cX2_row.data.toList.drop 71 = dktX2_row_3 := dk_seg dksX2_row_2 23 rfl rfl
theorem dX2_row_0 : decode cX2_row 0 = .ok (.iload_n 1, 1) := dk_27 (dk_at dksX2_row_0 0 rfl rfl)
theorem dX2_row_1 : decode cX2_row 1 = .ok (.invokestatic 118, 3) := dk_184 0 118 (dk_at dksX2_row_0 1 rfl rfl)
theorem dX2_row_4 : decode cX2_row 4 = .ok (.ifCond .eq 18, 3) := dk_153 0 18 (dk_at dksX2_row_0 4 rfl rfl)
theorem dX2_row_7 : decode cX2_row 7 = .ok (.iload_n 2, 1) := dk_28 (dk_at dksX2_row_0 7 rfl rfl)
theorem dX2_row_8 : decode cX2_row 8 = .ok (.iconst 0, 1) := dk_3 (dk_at dksX2_row_0 8 rfl rfl)
theorem dX2_row_9 : decode cX2_row 9 = .ok (.iconst 4, 1) := dk_7 (dk_at dksX2_row_0 9 rfl rfl)
theorem dX2_row_10 : decode cX2_row 10 = .ok (.invokestatic 92, 3) := dk_184 0 92 (dk_at dksX2_row_0 10 rfl rfl)
theorem dX2_row_13 : decode cX2_row 13 = .ok (.ifCond .eq 9, 3) := dk_153 0 9 (dk_at dksX2_row_0 13 rfl rfl)
theorem dX2_row_16 : decode cX2_row 16 = .ok (.iload_n 3, 1) := dk_29 (dk_at dksX2_row_0 16 rfl rfl)
theorem dX2_row_17 : decode cX2_row 17 = .ok (.bipush 60, 2) := dk_16 60 (dk_at dksX2_row_0 17 rfl rfl)
theorem dX2_row_19 : decode cX2_row 19 = .ok (.if_icmp .le 5, 3) := dk_164 0 5 (dk_at dksX2_row_0 19 rfl rfl)
theorem dX2_row_22 : decode cX2_row 22 = .ok (.iconst (-1), 1) := dk_2 (dk_at dksX2_row_0 22 rfl rfl)
theorem dX2_row_23 : decode cX2_row 23 = .ok (.ireturn, 1) := dk_172 (dk_at dksX2_row_0 23 rfl rfl)
theorem dX2_row_24 : decode cX2_row 24 = .ok (.iload_n 3, 1) := dk_29 (dk_at dksX2_row_1 0 rfl rfl)
theorem dX2_row_25 : decode cX2_row 25 = .ok (.ifCond .ge 6, 3) := dk_156 0 6 (dk_at dksX2_row_1 1 rfl rfl)
theorem dX2_row_28 : decode cX2_row 28 = .ok (.bipush (-14), 2) := dk_16 242 (dk_at dksX2_row_1 4 rfl rfl)
theorem dX2_row_30 : decode cX2_row 30 = .ok (.ireturn, 1) := dk_172 (dk_at dksX2_row_1 6 rfl rfl)
theorem dX2_row_31 : decode cX2_row 31 = .ok (.aload_n 0, 1) := dk_42 (dk_at dksX2_row_1 7 rfl rfl)
theorem dX2_row_32 : decode cX2_row 32 = .ok (.getfield 75, 3) := dk_180 0 75 (dk_at dksX2_row_1 8 rfl rfl)
theorem dX2_row_35 : decode cX2_row 35 = .ok (.iload_n 1, 1) := dk_27 (dk_at dksX2_row_1 11 rfl rfl)
theorem dX2_row_36 : decode cX2_row 36 = .ok (.iload_n 2, 1) := dk_28 (dk_at dksX2_row_1 12 rfl rfl)
theorem dX2_row_37 : decode cX2_row 37 = .ok (.iastore, 1) := dk_79 (dk_at dksX2_row_1 13 rfl rfl)
theorem dX2_row_38 : decode cX2_row 38 = .ok (.aload_n 0, 1) := dk_42 (dk_at dksX2_row_1 14 rfl rfl)
theorem dX2_row_39 : decode cX2_row 39 = .ok (.getfield 78, 3) := dk_180 0 78 (dk_at dksX2_row_1 15 rfl rfl)
theorem dX2_row_42 : decode cX2_row 42 = .ok (.iload_n 1, 1) := dk_27 (dk_at dksX2_row_1 18 rfl rfl)
theorem dX2_row_43 : decode cX2_row 43 = .ok (.iload_n 3, 1) := dk_29 (dk_at dksX2_row_1 19 rfl rfl)
theorem dX2_row_44 : decode cX2_row 44 = .ok (.iastore, 1) := dk_79 (dk_at dksX2_row_1 20 rfl rfl)
theorem dX2_row_45 : decode cX2_row 45 = .ok (.iconst 0, 1) := dk_3 (dk_at dksX2_row_1 21 rfl rfl)
theorem dX2_row_46 : decode cX2_row 46 = .ok (.istore 4, 2) := dk_54 4 (dk_at dksX2_row_1 22 rfl rfl)
theorem dX2_row_48 : decode cX2_row 48 = .ok (.iload 4, 2) := dk_21 4 (dk_at dksX2_row_2 0 rfl rfl)
theorem dX2_row_50 : decode cX2_row 50 = .ok (.bipush 60, 2) := dk_16 60 (dk_at dksX2_row_2 2 rfl rfl)
theorem dX2_row_52 : decode cX2_row 52 = .ok (.if_icmp .ge 22, 3) := dk_162 0 22 (dk_at dksX2_row_2 4 rfl rfl)
theorem dX2_row_55 : decode cX2_row 55 = .ok (.aload_n 0, 1) := dk_42 (dk_at dksX2_row_2 7 rfl rfl)
theorem dX2_row_56 : decode cX2_row 56 = .ok (.getfield 81, 3) := dk_180 0 81 (dk_at dksX2_row_2 8 rfl rfl)
theorem dX2_row_59 : decode cX2_row 59 = .ok (.bipush 60, 2) := dk_16 60 (dk_at dksX2_row_2 11 rfl rfl)
theorem dX2_row_61 : decode cX2_row 61 = .ok (.iload_n 1, 1) := dk_27 (dk_at dksX2_row_2 13 rfl rfl)
theorem dX2_row_62 : decode cX2_row 62 = .ok (.imul, 1) := dk_104 (dk_at dksX2_row_2 14 rfl rfl)
theorem dX2_row_63 : decode cX2_row 63 = .ok (.iload 4, 2) := dk_21 4 (dk_at dksX2_row_2 15 rfl rfl)
theorem dX2_row_65 : decode cX2_row 65 = .ok (.iadd, 1) := dk_96 (dk_at dksX2_row_2 17 rfl rfl)
theorem dX2_row_66 : decode cX2_row 66 = .ok (.lconst 0, 1) := dk_9 (dk_at dksX2_row_2 18 rfl rfl)
theorem dX2_row_67 : decode cX2_row 67 = .ok (.lastore, 1) := dk_80 (dk_at dksX2_row_2 19 rfl rfl)
theorem dX2_row_68 : decode cX2_row 68 = .ok (.iinc 4 1, 3) := dk_132 4 1 (dk_at dksX2_row_2 20 rfl rfl)
theorem dX2_row_71 : decode cX2_row 71 = .ok (.goto (-23), 3) := dk_167 255 233 (dk_at dksX2_row_3 0 rfl rfl)
theorem dX2_row_74 : decode cX2_row 74 = .ok (.iconst 1, 1) := dk_4 (dk_at dksX2_row_3 3 rfl rfl)
theorem dX2_row_75 : decode cX2_row 75 = .ok (.ireturn, 1) := dk_172 (dk_at dksX2_row_3 4 rfl rfl)
def dkwX2_put_3 : List UInt8 := [184, 1, 74, 80, 4, 172]
abbrev dktX2_put_3 : List UInt8 := dkwX2_put_3 ++ []
def dkwX2_put_2 : List UInt8 := [154, 0, 6, 16, 243, 172, 42, 180, 0, 81, 16, 60, 27, 104, 28, 96, 42, 180, 0, 75, 27, 46, 33]
abbrev dktX2_put_2 : List UInt8 := dkwX2_put_2 ++ dktX2_put_3
def dkwX2_put_1 : List UInt8 := [182, 1, 71, 154, 0, 6, 16, 244, 172, 28, 3, 42, 180, 0, 78, 27, 46, 4, 100, 184, 0, 92]
abbrev dktX2_put_1 : List UInt8 := dkwX2_put_1 ++ dktX2_put_2
def dkwX2_put_0 : List UInt8 := [27, 184, 0, 118, 154, 0, 5, 2, 172, 42, 180, 0, 75, 27, 46, 2, 160, 0, 6, 16, 245, 172, 42, 27]
abbrev dktX2_put_0 : List UInt8 := dkwX2_put_0 ++ dktX2_put_1
theorem dksX2_put_0 : cX2_put.data.toList.drop 0 = dktX2_put_0 := by decide +kernel
theorem dksX2_put_1 : cX2_put.data.toList.drop 24 = dktX2_put_1 := dk_seg dksX2_put_0 24 rfl rfl
theorem dksX2_put_2 : cX2_put.data.toList.drop 46 = dktX2_put_2 := dk_seg dksX2_put_1 22 rfl rfl
theorem dksX2_put_3 : cX2_put.data.toList.drop 69 = dktX2_put_3 := dk_seg dksX2_put_2 23 rfl rfl
theorem dX2_put_0 : decode cX2_put 0 = .ok (.iload_n 1, 1) := dk_27 (dk_at dksX2_put_0 0 rfl rfl)
theorem dX2_put_1 : decode cX2_put 1 = .ok (.invokestatic 118, 3) := dk_184 0 118 (dk_at dksX2_put_0 1 rfl rfl)
theorem dX2_put_4 : decode cX2_put 4 = .ok (.ifCond .ne 5, 3) := dk_154 0 5 (dk_at dksX2_put_0 4 rfl rfl)
theorem dX2_put_7 : decode cX2_put 7 = .ok (.iconst (-1), 1) := dk_2 (dk_at dksX2_put_0 7 rfl rfl)
theorem dX2_put_8 : decode cX2_put 8 = .ok (.ireturn, 1) := dk_172 (dk_at dksX2_put_0 8 rfl rfl)
theorem dX2_put_9 : decode cX2_put 9 = .ok (.aload_n 0, 1) := dk_42 (dk_at dksX2_put_0 9 rfl rfl)
theorem dX2_put_10 : decode cX2_put 10 = .ok (.getfield 75, 3) := dk_180 0 75 (dk_at dksX2_put_0 10 rfl rfl)
theorem dX2_put_13 : decode cX2_put 13 = .ok (.iload_n 1, 1) := dk_27 (dk_at dksX2_put_0 13 rfl rfl)
theorem dX2_put_14 : decode cX2_put 14 = .ok (.iaload, 1) := dk_46 (dk_at dksX2_put_0 14 rfl rfl)
theorem dX2_put_15 : decode cX2_put 15 = .ok (.iconst (-1), 1) := dk_2 (dk_at dksX2_put_0 15 rfl rfl)
theorem dX2_put_16 : decode cX2_put 16 = .ok (.if_icmp .ne 6, 3) := dk_160 0 6 (dk_at dksX2_put_0 16 rfl rfl)
theorem dX2_put_19 : decode cX2_put 19 = .ok (.bipush (-11), 2) := dk_16 245 (dk_at dksX2_put_0 19 rfl rfl)
theorem dX2_put_21 : decode cX2_put 21 = .ok (.ireturn, 1) := dk_172 (dk_at dksX2_put_0 21 rfl rfl)
theorem dX2_put_22 : decode cX2_put 22 = .ok (.aload_n 0, 1) := dk_42 (dk_at dksX2_put_0 22 rfl rfl)
theorem dX2_put_23 : decode cX2_put 23 = .ok (.iload_n 1, 1) := dk_27 (dk_at dksX2_put_0 23 rfl rfl)
theorem dX2_put_24 : decode cX2_put 24 = .ok (.invokevirtual 327, 3) := dk_182 1 71 (dk_at dksX2_put_1 0 rfl rfl)
theorem dX2_put_27 : decode cX2_put 27 = .ok (.ifCond .ne 6, 3) := dk_154 0 6 (dk_at dksX2_put_1 3 rfl rfl)
theorem dX2_put_30 : decode cX2_put 30 = .ok (.bipush (-12), 2) := dk_16 244 (dk_at dksX2_put_1 6 rfl rfl)
theorem dX2_put_32 : decode cX2_put 32 = .ok (.ireturn, 1) := dk_172 (dk_at dksX2_put_1 8 rfl rfl)
theorem dX2_put_33 : decode cX2_put 33 = .ok (.iload_n 2, 1) := dk_28 (dk_at dksX2_put_1 9 rfl rfl)
theorem dX2_put_34 : decode cX2_put 34 = .ok (.iconst 0, 1) := dk_3 (dk_at dksX2_put_1 10 rfl rfl)
theorem dX2_put_35 : decode cX2_put 35 = .ok (.aload_n 0, 1) := dk_42 (dk_at dksX2_put_1 11 rfl rfl)
theorem dX2_put_36 : decode cX2_put 36 = .ok (.getfield 78, 3) := dk_180 0 78 (dk_at dksX2_put_1 12 rfl rfl)
theorem dX2_put_39 : decode cX2_put 39 = .ok (.iload_n 1, 1) := dk_27 (dk_at dksX2_put_1 15 rfl rfl)
theorem dX2_put_40 : decode cX2_put 40 = .ok (.iaload, 1) := dk_46 (dk_at dksX2_put_1 16 rfl rfl)
theorem dX2_put_41 : decode cX2_put 41 = .ok (.iconst 1, 1) := dk_4 (dk_at dksX2_put_1 17 rfl rfl)
theorem dX2_put_42 : decode cX2_put 42 = .ok (.isub, 1) := dk_100 (dk_at dksX2_put_1 18 rfl rfl)
theorem dX2_put_43 : decode cX2_put 43 = .ok (.invokestatic 92, 3) := dk_184 0 92 (dk_at dksX2_put_1 19 rfl rfl)
theorem dX2_put_46 : decode cX2_put 46 = .ok (.ifCond .ne 6, 3) := dk_154 0 6 (dk_at dksX2_put_2 0 rfl rfl)
theorem dX2_put_49 : decode cX2_put 49 = .ok (.bipush (-13), 2) := dk_16 243 (dk_at dksX2_put_2 3 rfl rfl)
theorem dX2_put_51 : decode cX2_put 51 = .ok (.ireturn, 1) := dk_172 (dk_at dksX2_put_2 5 rfl rfl)
theorem dX2_put_52 : decode cX2_put 52 = .ok (.aload_n 0, 1) := dk_42 (dk_at dksX2_put_2 6 rfl rfl)
theorem dX2_put_53 : decode cX2_put 53 = .ok (.getfield 81, 3) := dk_180 0 81 (dk_at dksX2_put_2 7 rfl rfl)
theorem dX2_put_56 : decode cX2_put 56 = .ok (.bipush 60, 2) := dk_16 60 (dk_at dksX2_put_2 10 rfl rfl)
theorem dX2_put_58 : decode cX2_put 58 = .ok (.iload_n 1, 1) := dk_27 (dk_at dksX2_put_2 12 rfl rfl)
theorem dX2_put_59 : decode cX2_put 59 = .ok (.imul, 1) := dk_104 (dk_at dksX2_put_2 13 rfl rfl)
theorem dX2_put_60 : decode cX2_put 60 = .ok (.iload_n 2, 1) := dk_28 (dk_at dksX2_put_2 14 rfl rfl)
theorem dX2_put_61 : decode cX2_put 61 = .ok (.iadd, 1) := dk_96 (dk_at dksX2_put_2 15 rfl rfl)
theorem dX2_put_62 : decode cX2_put 62 = .ok (.aload_n 0, 1) := dk_42 (dk_at dksX2_put_2 16 rfl rfl)
theorem dX2_put_63 : decode cX2_put 63 = .ok (.getfield 75, 3) := dk_180 0 75 (dk_at dksX2_put_2 17 rfl rfl)
theorem dX2_put_66 : decode cX2_put 66 = .ok (.iload_n 1, 1) := dk_27 (dk_at dksX2_put_2 20 rfl rfl)
theorem dX2_put_67 : decode cX2_put 67 = .ok (.iaload, 1) := dk_46 (dk_at dksX2_put_2 21 rfl rfl)
theorem dX2_put_68 : decode cX2_put 68 = .ok (.lload_n 3, 1) := dk_33 (dk_at dksX2_put_2 22 rfl rfl)
theorem dX2_put_69 : decode cX2_put 69 = .ok (.invokestatic 330, 3) := dk_184 1 74 (dk_at dksX2_put_3 0 rfl rfl)
theorem dX2_put_72 : decode cX2_put 72 = .ok (.lastore, 1) := dk_80 (dk_at dksX2_put_3 3 rfl rfl)
theorem dX2_put_73 : decode cX2_put 73 = .ok (.iconst 1, 1) := dk_4 (dk_at dksX2_put_3 4 rfl rfl)
theorem dX2_put_74 : decode cX2_put 74 = .ok (.ireturn, 1) := dk_172 (dk_at dksX2_put_3 5 rfl rfl)
def dkwX2_isRow_0 : List UInt8 := [42, 180, 0, 75, 27, 46, 3, 7, 184, 0, 92, 172]
abbrev dktX2_isRow_0 : List UInt8 := dkwX2_isRow_0 ++ []
theorem dksX2_isRow_0 : cX2_isRow.data.toList.drop 0 = dktX2_isRow_0 := by decide +kernel
theorem dX2_isRow_0 : decode cX2_isRow 0 = .ok (.aload_n 0, 1) := dk_42 (dk_at dksX2_isRow_0 0 rfl rfl)
theorem dX2_isRow_1 : decode cX2_isRow 1 = .ok (.getfield 75, 3) := dk_180 0 75 (dk_at dksX2_isRow_0 1 rfl rfl)
theorem dX2_isRow_4 : decode cX2_isRow 4 = .ok (.iload_n 1, 1) := dk_27 (dk_at dksX2_isRow_0 4 rfl rfl)
theorem dX2_isRow_5 : decode cX2_isRow 5 = .ok (.iaload, 1) := dk_46 (dk_at dksX2_isRow_0 5 rfl rfl)
theorem dX2_isRow_6 : decode cX2_isRow 6 = .ok (.iconst 0, 1) := dk_3 (dk_at dksX2_isRow_0 6 rfl rfl)
theorem dX2_isRow_7 : decode cX2_isRow 7 = .ok (.iconst 4, 1) := dk_7 (dk_at dksX2_isRow_0 7 rfl rfl)
theorem dX2_isRow_8 : decode cX2_isRow 8 = .ok (.invokestatic 92, 3) := dk_184 0 92 (dk_at dksX2_isRow_0 8 rfl rfl)
theorem dX2_isRow_11 : decode cX2_isRow 11 = .ok (.ireturn, 1) := dk_172 (dk_at dksX2_isRow_0 11 rfl rfl)
def dkwX2_kept_3 : List UInt8 := [167, 0, 4, 9, 173]
abbrev dktX2_kept_3 : List UInt8 := dkwX2_kept_3 ++ []
def dkwX2_kept_2 : List UInt8 := [31, 136, 145, 133, 173, 31, 136, 147, 133, 173, 31, 136, 133, 173, 31, 173, 31, 9, 148, 153, 0, 7, 10]
abbrev dktX2_kept_2 : List UInt8 := dkwX2_kept_2 ++ dktX2_kept_3
def dkwX2_kept_1 : List UInt8 := [170, 0, 0, 0, 0, 0, 47, 0, 0, 0, 0, 0, 0, 0, 3, 0, 0, 0, 31, 0, 0, 0, 36, 0, 0, 0, 41, 0, 0, 0, 45]
abbrev dktX2_kept_1 : List UInt8 := dkwX2_kept_1 ++ dktX2_kept_2
def dkwX2_kept_0 : List UInt8 := [26]
abbrev dktX2_kept_0 : List UInt8 := dkwX2_kept_0 ++ dktX2_kept_1
theorem dksX2_kept_0 : cX2_kept.data.toList.drop 0 = dktX2_kept_0 := by decide +kernel
theorem dksX2_kept_1 : cX2_kept.data.toList.drop 1 = dktX2_kept_1 := dk_seg dksX2_kept_0 1 rfl rfl
theorem dksX2_kept_2 : cX2_kept.data.toList.drop 32 = dktX2_kept_2 := dk_seg dksX2_kept_1 31 rfl rfl
theorem dksX2_kept_3 : cX2_kept.data.toList.drop 55 = dktX2_kept_3 := dk_seg dksX2_kept_2 23 rfl rfl
theorem dX2_kept_0 : decode cX2_kept 0 = .ok (.iload_n 0, 1) := dk_26 (dk_at dksX2_kept_0 0 rfl rfl)
theorem dX2_kept_1 : decode cX2_kept 1 = .ok (.tableswitch 47 0 3 #[31, 36, 41, 45], 31) := by decide +kernel
theorem dX2_kept_32 : decode cX2_kept 32 = .ok (.lload_n 1, 1) := dk_31 (dk_at dksX2_kept_2 0 rfl rfl)
theorem dX2_kept_33 : decode cX2_kept 33 = .ok (.l2i, 1) := dk_136 (dk_at dksX2_kept_2 1 rfl rfl)
theorem dX2_kept_34 : decode cX2_kept 34 = .ok (.i2b, 1) := dk_145 (dk_at dksX2_kept_2 2 rfl rfl)
theorem dX2_kept_35 : decode cX2_kept 35 = .ok (.i2l, 1) := dk_133 (dk_at dksX2_kept_2 3 rfl rfl)
theorem dX2_kept_36 : decode cX2_kept 36 = .ok (.lreturn, 1) := dk_173 (dk_at dksX2_kept_2 4 rfl rfl)
theorem dX2_kept_37 : decode cX2_kept 37 = .ok (.lload_n 1, 1) := dk_31 (dk_at dksX2_kept_2 5 rfl rfl)
theorem dX2_kept_38 : decode cX2_kept 38 = .ok (.l2i, 1) := dk_136 (dk_at dksX2_kept_2 6 rfl rfl)
theorem dX2_kept_39 : decode cX2_kept 39 = .ok (.i2s, 1) := dk_147 (dk_at dksX2_kept_2 7 rfl rfl)
theorem dX2_kept_40 : decode cX2_kept 40 = .ok (.i2l, 1) := dk_133 (dk_at dksX2_kept_2 8 rfl rfl)
theorem dX2_kept_41 : decode cX2_kept 41 = .ok (.lreturn, 1) := dk_173 (dk_at dksX2_kept_2 9 rfl rfl)
theorem dX2_kept_42 : decode cX2_kept 42 = .ok (.lload_n 1, 1) := dk_31 (dk_at dksX2_kept_2 10 rfl rfl)
theorem dX2_kept_43 : decode cX2_kept 43 = .ok (.l2i, 1) := dk_136 (dk_at dksX2_kept_2 11 rfl rfl)
theorem dX2_kept_44 : decode cX2_kept 44 = .ok (.i2l, 1) := dk_133 (dk_at dksX2_kept_2 12 rfl rfl)
theorem dX2_kept_45 : decode cX2_kept 45 = .ok (.lreturn, 1) := dk_173 (dk_at dksX2_kept_2 13 rfl rfl)
theorem dX2_kept_46 : decode cX2_kept 46 = .ok (.lload_n 1, 1) := dk_31 (dk_at dksX2_kept_2 14 rfl rfl)
theorem dX2_kept_47 : decode cX2_kept 47 = .ok (.lreturn, 1) := dk_173 (dk_at dksX2_kept_2 15 rfl rfl)
theorem dX2_kept_48 : decode cX2_kept 48 = .ok (.lload_n 1, 1) := dk_31 (dk_at dksX2_kept_2 16 rfl rfl)
theorem dX2_kept_49 : decode cX2_kept 49 = .ok (.lconst 0, 1) := dk_9 (dk_at dksX2_kept_2 17 rfl rfl)
theorem dX2_kept_50 : decode cX2_kept 50 = .ok (.lcmp, 1) := dk_148 (dk_at dksX2_kept_2 18 rfl rfl)
theorem dX2_kept_51 : decode cX2_kept 51 = .ok (.ifCond .eq 7, 3) := dk_153 0 7 (dk_at dksX2_kept_2 19 rfl rfl)
theorem dX2_kept_54 : decode cX2_kept 54 = .ok (.lconst 1, 1) := dk_10 (dk_at dksX2_kept_2 22 rfl rfl)
theorem dX2_kept_55 : decode cX2_kept 55 = .ok (.goto 4, 3) := dk_167 0 4 (dk_at dksX2_kept_3 0 rfl rfl)
theorem dX2_kept_58 : decode cX2_kept 58 = .ok (.lconst 0, 1) := dk_9 (dk_at dksX2_kept_3 3 rfl rfl)
theorem dX2_kept_59 : decode cX2_kept 59 = .ok (.lreturn, 1) := dk_173 (dk_at dksX2_kept_3 4 rfl rfl)
def dkwX2_element_2 : List UInt8 := [173]
abbrev dktX2_element_2 : List UInt8 := dkwX2_element_2 ++ []
def dkwX2_element_1 : List UInt8 := [100, 184, 0, 92, 153, 0, 17, 42, 180, 0, 81, 16, 60, 27, 104, 28, 96, 47, 167, 0, 6, 20, 1, 78]
abbrev dktX2_element_1 : List UInt8 := dkwX2_element_1 ++ dktX2_element_2
def dkwX2_element_0 : List UInt8 := [27, 184, 0, 118, 153, 0, 41, 42, 27, 182, 1, 71, 153, 0, 33, 28, 3, 42, 180, 0, 78, 27, 46, 4]
abbrev dktX2_element_0 : List UInt8 := dkwX2_element_0 ++ dktX2_element_1
theorem dksX2_element_0 : cX2_element.data.toList.drop 0 = dktX2_element_0 := by decide +kernel
theorem dksX2_element_1 : cX2_element.data.toList.drop 24 = dktX2_element_1 := dk_seg dksX2_element_0 24 rfl rfl
theorem dksX2_element_2 : cX2_element.data.toList.drop 48 = dktX2_element_2 := dk_seg dksX2_element_1 24 rfl rfl
theorem dX2_element_0 : decode cX2_element 0 = .ok (.iload_n 1, 1) := dk_27 (dk_at dksX2_element_0 0 rfl rfl)
theorem dX2_element_1 : decode cX2_element 1 = .ok (.invokestatic 118, 3) := dk_184 0 118 (dk_at dksX2_element_0 1 rfl rfl)
theorem dX2_element_4 : decode cX2_element 4 = .ok (.ifCond .eq 41, 3) := dk_153 0 41 (dk_at dksX2_element_0 4 rfl rfl)
theorem dX2_element_7 : decode cX2_element 7 = .ok (.aload_n 0, 1) := dk_42 (dk_at dksX2_element_0 7 rfl rfl)
theorem dX2_element_8 : decode cX2_element 8 = .ok (.iload_n 1, 1) := dk_27 (dk_at dksX2_element_0 8 rfl rfl)
theorem dX2_element_9 : decode cX2_element 9 = .ok (.invokevirtual 327, 3) := dk_182 1 71 (dk_at dksX2_element_0 9 rfl rfl)
theorem dX2_element_12 : decode cX2_element 12 = .ok (.ifCond .eq 33, 3) := dk_153 0 33 (dk_at dksX2_element_0 12 rfl rfl)
theorem dX2_element_15 : decode cX2_element 15 = .ok (.iload_n 2, 1) := dk_28 (dk_at dksX2_element_0 15 rfl rfl)
theorem dX2_element_16 : decode cX2_element 16 = .ok (.iconst 0, 1) := dk_3 (dk_at dksX2_element_0 16 rfl rfl)
theorem dX2_element_17 : decode cX2_element 17 = .ok (.aload_n 0, 1) := dk_42 (dk_at dksX2_element_0 17 rfl rfl)
theorem dX2_element_18 : decode cX2_element 18 = .ok (.getfield 78, 3) := dk_180 0 78 (dk_at dksX2_element_0 18 rfl rfl)
theorem dX2_element_21 : decode cX2_element 21 = .ok (.iload_n 1, 1) := dk_27 (dk_at dksX2_element_0 21 rfl rfl)
theorem dX2_element_22 : decode cX2_element 22 = .ok (.iaload, 1) := dk_46 (dk_at dksX2_element_0 22 rfl rfl)
theorem dX2_element_23 : decode cX2_element 23 = .ok (.iconst 1, 1) := dk_4 (dk_at dksX2_element_0 23 rfl rfl)
theorem dX2_element_24 : decode cX2_element 24 = .ok (.isub, 1) := dk_100 (dk_at dksX2_element_1 0 rfl rfl)
theorem dX2_element_25 : decode cX2_element 25 = .ok (.invokestatic 92, 3) := dk_184 0 92 (dk_at dksX2_element_1 1 rfl rfl)
theorem dX2_element_28 : decode cX2_element 28 = .ok (.ifCond .eq 17, 3) := dk_153 0 17 (dk_at dksX2_element_1 4 rfl rfl)
theorem dX2_element_31 : decode cX2_element 31 = .ok (.aload_n 0, 1) := dk_42 (dk_at dksX2_element_1 7 rfl rfl)
theorem dX2_element_32 : decode cX2_element 32 = .ok (.getfield 81, 3) := dk_180 0 81 (dk_at dksX2_element_1 8 rfl rfl)
theorem dX2_element_35 : decode cX2_element 35 = .ok (.bipush 60, 2) := dk_16 60 (dk_at dksX2_element_1 11 rfl rfl)
theorem dX2_element_37 : decode cX2_element 37 = .ok (.iload_n 1, 1) := dk_27 (dk_at dksX2_element_1 13 rfl rfl)
theorem dX2_element_38 : decode cX2_element 38 = .ok (.imul, 1) := dk_104 (dk_at dksX2_element_1 14 rfl rfl)
theorem dX2_element_39 : decode cX2_element 39 = .ok (.iload_n 2, 1) := dk_28 (dk_at dksX2_element_1 15 rfl rfl)
theorem dX2_element_40 : decode cX2_element 40 = .ok (.iadd, 1) := dk_96 (dk_at dksX2_element_1 16 rfl rfl)
theorem dX2_element_41 : decode cX2_element 41 = .ok (.laload, 1) := dk_47 (dk_at dksX2_element_1 17 rfl rfl)
theorem dX2_element_42 : decode cX2_element 42 = .ok (.goto 6, 3) := dk_167 0 6 (dk_at dksX2_element_1 18 rfl rfl)
theorem dX2_element_45 : decode cX2_element 45 = .ok (.ldc2_w 334, 3) := dk_20 1 78 (dk_at dksX2_element_1 21 rfl rfl)
theorem dX2_element_48 : decode cX2_element 48 = .ok (.lreturn, 1) := dk_173 (dk_at dksX2_element_2 0 rfl rfl)
def dkwX2_shift_9 : List UInt8 := [180, 0, 81, 16, 60, 27, 104, 28, 96, 21, 6, 96, 47, 80, 132, 6, 1, 167, 255, 217, 21, 5, 172]
abbrev dktX2_shift_9 : List UInt8 := dkwX2_shift_9 ++ []
def dkwX2_shift_8 : List UInt8 := [21, 6, 21, 5, 162, 0, 38, 42, 180, 0, 81, 16, 60, 29, 104, 21, 4, 96, 21, 6, 96, 42]
abbrev dktX2_shift_8 : List UInt8 := dkwX2_shift_8 ++ dktX2_shift_9
def dkwX2_shift_7 : List UInt8 := [16, 60, 27, 104, 28, 96, 21, 6, 96, 47, 80, 132, 6, 255, 167, 255, 219, 167, 0, 48, 3, 54, 6]
abbrev dktX2_shift_7 : List UInt8 := dkwX2_shift_7 ++ dktX2_shift_8
def dkwX2_shift_6 : List UInt8 := [21, 6, 155, 0, 38, 42, 180, 0, 81, 16, 60, 29, 104, 21, 4, 96, 21, 6, 96, 42, 180, 0, 81]
abbrev dktX2_shift_6 : List UInt8 := dkwX2_shift_6 ++ dktX2_shift_7
def dkwX2_shift_5 : List UInt8 := [148, 158, 0, 6, 16, 243, 172, 27, 29, 160, 0, 58, 28, 21, 4, 162, 0, 52, 21, 5, 4, 100, 54, 6]
abbrev dktX2_shift_5 : List UInt8 := dkwX2_shift_5 ++ dktX2_shift_6
def dkwX2_shift_4 : List UInt8 := [180, 0, 78, 27, 46, 133, 148, 157, 0, 21, 21, 4, 133, 21, 5, 133, 97, 42, 180, 0, 78, 29, 46, 133]
abbrev dktX2_shift_4 : List UInt8 := dkwX2_shift_4 ++ dktX2_shift_5
def dkwX2_shift_3 : List UInt8 := [16, 244, 172, 21, 5, 155, 0, 47, 28, 155, 0, 43, 21, 4, 155, 0, 38, 28, 133, 21, 5, 133, 97, 42]
abbrev dktX2_shift_3 : List UInt8 := dkwX2_shift_3 ++ dktX2_shift_4
def dkwX2_shift_2 : List UInt8 := [42, 29, 182, 1, 71, 153, 0, 18, 42, 180, 0, 75, 27, 46, 42, 180, 0, 75, 29, 46, 159, 0, 6]
abbrev dktX2_shift_2 : List UInt8 := dkwX2_shift_2 ++ dktX2_shift_3
def dkwX2_shift_1 : List UInt8 := [159, 0, 13, 42, 180, 0, 75, 29, 46, 2, 160, 0, 6, 16, 245, 172, 42, 27, 182, 1, 71, 153, 0, 26]
abbrev dktX2_shift_1 : List UInt8 := dkwX2_shift_1 ++ dktX2_shift_2
def dkwX2_shift_0 : List UInt8 := [27, 184, 0, 118, 153, 0, 10, 29, 184, 0, 118, 154, 0, 5, 2, 172, 42, 180, 0, 75, 27, 46, 2]
abbrev dktX2_shift_0 : List UInt8 := dkwX2_shift_0 ++ dktX2_shift_1
theorem dksX2_shift_0 : cX2_shift.data.toList.drop 0 = dktX2_shift_0 := by decide +kernel
theorem dksX2_shift_1 : cX2_shift.data.toList.drop 23 = dktX2_shift_1 := dk_seg dksX2_shift_0 23 rfl rfl
theorem dksX2_shift_2 : cX2_shift.data.toList.drop 47 = dktX2_shift_2 := dk_seg dksX2_shift_1 24 rfl rfl
theorem dksX2_shift_3 : cX2_shift.data.toList.drop 70 = dktX2_shift_3 := dk_seg dksX2_shift_2 23 rfl rfl
theorem dksX2_shift_4 : cX2_shift.data.toList.drop 94 = dktX2_shift_4 := dk_seg dksX2_shift_3 24 rfl rfl
theorem dksX2_shift_5 : cX2_shift.data.toList.drop 118 = dktX2_shift_5 := dk_seg dksX2_shift_4 24 rfl rfl
theorem dksX2_shift_6 : cX2_shift.data.toList.drop 142 = dktX2_shift_6 := dk_seg dksX2_shift_5 24 rfl rfl
theorem dksX2_shift_7 : cX2_shift.data.toList.drop 165 = dktX2_shift_7 := dk_seg dksX2_shift_6 23 rfl rfl
theorem dksX2_shift_8 : cX2_shift.data.toList.drop 188 = dktX2_shift_8 := dk_seg dksX2_shift_7 23 rfl rfl
theorem dksX2_shift_9 : cX2_shift.data.toList.drop 210 = dktX2_shift_9 := dk_seg dksX2_shift_8 22 rfl rfl
theorem dX2_shift_0 : decode cX2_shift 0 = .ok (.iload_n 1, 1) := dk_27 (dk_at dksX2_shift_0 0 rfl rfl)
theorem dX2_shift_1 : decode cX2_shift 1 = .ok (.invokestatic 118, 3) := dk_184 0 118 (dk_at dksX2_shift_0 1 rfl rfl)
theorem dX2_shift_4 : decode cX2_shift 4 = .ok (.ifCond .eq 10, 3) := dk_153 0 10 (dk_at dksX2_shift_0 4 rfl rfl)
theorem dX2_shift_7 : decode cX2_shift 7 = .ok (.iload_n 3, 1) := dk_29 (dk_at dksX2_shift_0 7 rfl rfl)
theorem dX2_shift_8 : decode cX2_shift 8 = .ok (.invokestatic 118, 3) := dk_184 0 118 (dk_at dksX2_shift_0 8 rfl rfl)
theorem dX2_shift_11 : decode cX2_shift 11 = .ok (.ifCond .ne 5, 3) := dk_154 0 5 (dk_at dksX2_shift_0 11 rfl rfl)
theorem dX2_shift_14 : decode cX2_shift 14 = .ok (.iconst (-1), 1) := dk_2 (dk_at dksX2_shift_0 14 rfl rfl)
theorem dX2_shift_15 : decode cX2_shift 15 = .ok (.ireturn, 1) := dk_172 (dk_at dksX2_shift_0 15 rfl rfl)
theorem dX2_shift_16 : decode cX2_shift 16 = .ok (.aload_n 0, 1) := dk_42 (dk_at dksX2_shift_0 16 rfl rfl)
theorem dX2_shift_17 : decode cX2_shift 17 = .ok (.getfield 75, 3) := dk_180 0 75 (dk_at dksX2_shift_0 17 rfl rfl)
theorem dX2_shift_20 : decode cX2_shift 20 = .ok (.iload_n 1, 1) := dk_27 (dk_at dksX2_shift_0 20 rfl rfl)
theorem dX2_shift_21 : decode cX2_shift 21 = .ok (.iaload, 1) := dk_46 (dk_at dksX2_shift_0 21 rfl rfl)
theorem dX2_shift_22 : decode cX2_shift 22 = .ok (.iconst (-1), 1) := dk_2 (dk_at dksX2_shift_0 22 rfl rfl)
theorem dX2_shift_23 : decode cX2_shift 23 = .ok (.if_icmp .eq 13, 3) := dk_159 0 13 (dk_at dksX2_shift_1 0 rfl rfl)
theorem dX2_shift_26 : decode cX2_shift 26 = .ok (.aload_n 0, 1) := dk_42 (dk_at dksX2_shift_1 3 rfl rfl)
theorem dX2_shift_27 : decode cX2_shift 27 = .ok (.getfield 75, 3) := dk_180 0 75 (dk_at dksX2_shift_1 4 rfl rfl)
theorem dX2_shift_30 : decode cX2_shift 30 = .ok (.iload_n 3, 1) := dk_29 (dk_at dksX2_shift_1 7 rfl rfl)
theorem dX2_shift_31 : decode cX2_shift 31 = .ok (.iaload, 1) := dk_46 (dk_at dksX2_shift_1 8 rfl rfl)
theorem dX2_shift_32 : decode cX2_shift 32 = .ok (.iconst (-1), 1) := dk_2 (dk_at dksX2_shift_1 9 rfl rfl)
theorem dX2_shift_33 : decode cX2_shift 33 = .ok (.if_icmp .ne 6, 3) := dk_160 0 6 (dk_at dksX2_shift_1 10 rfl rfl)
theorem dX2_shift_36 : decode cX2_shift 36 = .ok (.bipush (-11), 2) := dk_16 245 (dk_at dksX2_shift_1 13 rfl rfl)
theorem dX2_shift_38 : decode cX2_shift 38 = .ok (.ireturn, 1) := dk_172 (dk_at dksX2_shift_1 15 rfl rfl)
theorem dX2_shift_39 : decode cX2_shift 39 = .ok (.aload_n 0, 1) := dk_42 (dk_at dksX2_shift_1 16 rfl rfl)
theorem dX2_shift_40 : decode cX2_shift 40 = .ok (.iload_n 1, 1) := dk_27 (dk_at dksX2_shift_1 17 rfl rfl)
theorem dX2_shift_41 : decode cX2_shift 41 = .ok (.invokevirtual 327, 3) := dk_182 1 71 (dk_at dksX2_shift_1 18 rfl rfl)
theorem dX2_shift_44 : decode cX2_shift 44 = .ok (.ifCond .eq 26, 3) := dk_153 0 26 (dk_at dksX2_shift_1 21 rfl rfl)
theorem dX2_shift_47 : decode cX2_shift 47 = .ok (.aload_n 0, 1) := dk_42 (dk_at dksX2_shift_2 0 rfl rfl)
theorem dX2_shift_48 : decode cX2_shift 48 = .ok (.iload_n 3, 1) := dk_29 (dk_at dksX2_shift_2 1 rfl rfl)
theorem dX2_shift_49 : decode cX2_shift 49 = .ok (.invokevirtual 327, 3) := dk_182 1 71 (dk_at dksX2_shift_2 2 rfl rfl)
theorem dX2_shift_52 : decode cX2_shift 52 = .ok (.ifCond .eq 18, 3) := dk_153 0 18 (dk_at dksX2_shift_2 5 rfl rfl)
theorem dX2_shift_55 : decode cX2_shift 55 = .ok (.aload_n 0, 1) := dk_42 (dk_at dksX2_shift_2 8 rfl rfl)
theorem dX2_shift_56 : decode cX2_shift 56 = .ok (.getfield 75, 3) := dk_180 0 75 (dk_at dksX2_shift_2 9 rfl rfl)
theorem dX2_shift_59 : decode cX2_shift 59 = .ok (.iload_n 1, 1) := dk_27 (dk_at dksX2_shift_2 12 rfl rfl)
theorem dX2_shift_60 : decode cX2_shift 60 = .ok (.iaload, 1) := dk_46 (dk_at dksX2_shift_2 13 rfl rfl)
theorem dX2_shift_61 : decode cX2_shift 61 = .ok (.aload_n 0, 1) := dk_42 (dk_at dksX2_shift_2 14 rfl rfl)
theorem dX2_shift_62 : decode cX2_shift 62 = .ok (.getfield 75, 3) := dk_180 0 75 (dk_at dksX2_shift_2 15 rfl rfl)
theorem dX2_shift_65 : decode cX2_shift 65 = .ok (.iload_n 3, 1) := dk_29 (dk_at dksX2_shift_2 18 rfl rfl)
theorem dX2_shift_66 : decode cX2_shift 66 = .ok (.iaload, 1) := dk_46 (dk_at dksX2_shift_2 19 rfl rfl)
theorem dX2_shift_67 : decode cX2_shift 67 = .ok (.if_icmp .eq 6, 3) := dk_159 0 6 (dk_at dksX2_shift_2 20 rfl rfl)
theorem dX2_shift_70 : decode cX2_shift 70 = .ok (.bipush (-12), 2) := dk_16 244 (dk_at dksX2_shift_3 0 rfl rfl)
theorem dX2_shift_72 : decode cX2_shift 72 = .ok (.ireturn, 1) := dk_172 (dk_at dksX2_shift_3 2 rfl rfl)
theorem dX2_shift_73 : decode cX2_shift 73 = .ok (.iload 5, 2) := dk_21 5 (dk_at dksX2_shift_3 3 rfl rfl)
theorem dX2_shift_75 : decode cX2_shift 75 = .ok (.ifCond .lt 47, 3) := dk_155 0 47 (dk_at dksX2_shift_3 5 rfl rfl)
theorem dX2_shift_78 : decode cX2_shift 78 = .ok (.iload_n 2, 1) := dk_28 (dk_at dksX2_shift_3 8 rfl rfl)
theorem dX2_shift_79 : decode cX2_shift 79 = .ok (.ifCond .lt 43, 3) := dk_155 0 43 (dk_at dksX2_shift_3 9 rfl rfl)
theorem dX2_shift_82 : decode cX2_shift 82 = .ok (.iload 4, 2) := dk_21 4 (dk_at dksX2_shift_3 12 rfl rfl)
theorem dX2_shift_84 : decode cX2_shift 84 = .ok (.ifCond .lt 38, 3) := dk_155 0 38 (dk_at dksX2_shift_3 14 rfl rfl)
theorem dX2_shift_87 : decode cX2_shift 87 = .ok (.iload_n 2, 1) := dk_28 (dk_at dksX2_shift_3 17 rfl rfl)
theorem dX2_shift_88 : decode cX2_shift 88 = .ok (.i2l, 1) := dk_133 (dk_at dksX2_shift_3 18 rfl rfl)
theorem dX2_shift_89 : decode cX2_shift 89 = .ok (.iload 5, 2) := dk_21 5 (dk_at dksX2_shift_3 19 rfl rfl)
theorem dX2_shift_91 : decode cX2_shift 91 = .ok (.i2l, 1) := dk_133 (dk_at dksX2_shift_3 21 rfl rfl)
theorem dX2_shift_92 : decode cX2_shift 92 = .ok (.ladd, 1) := dk_97 (dk_at dksX2_shift_3 22 rfl rfl)
theorem dX2_shift_93 : decode cX2_shift 93 = .ok (.aload_n 0, 1) := dk_42 (dk_at dksX2_shift_3 23 rfl rfl)
theorem dX2_shift_94 : decode cX2_shift 94 = .ok (.getfield 78, 3) := dk_180 0 78 (dk_at dksX2_shift_4 0 rfl rfl)
theorem dX2_shift_97 : decode cX2_shift 97 = .ok (.iload_n 1, 1) := dk_27 (dk_at dksX2_shift_4 3 rfl rfl)
theorem dX2_shift_98 : decode cX2_shift 98 = .ok (.iaload, 1) := dk_46 (dk_at dksX2_shift_4 4 rfl rfl)
theorem dX2_shift_99 : decode cX2_shift 99 = .ok (.i2l, 1) := dk_133 (dk_at dksX2_shift_4 5 rfl rfl)
theorem dX2_shift_100 : decode cX2_shift 100 = .ok (.lcmp, 1) := dk_148 (dk_at dksX2_shift_4 6 rfl rfl)
theorem dX2_shift_101 : decode cX2_shift 101 = .ok (.ifCond .gt 21, 3) := dk_157 0 21 (dk_at dksX2_shift_4 7 rfl rfl)
theorem dX2_shift_104 : decode cX2_shift 104 = .ok (.iload 4, 2) := dk_21 4 (dk_at dksX2_shift_4 10 rfl rfl)
theorem dX2_shift_106 : decode cX2_shift 106 = .ok (.i2l, 1) := dk_133 (dk_at dksX2_shift_4 12 rfl rfl)
theorem dX2_shift_107 : decode cX2_shift 107 = .ok (.iload 5, 2) := dk_21 5 (dk_at dksX2_shift_4 13 rfl rfl)
theorem dX2_shift_109 : decode cX2_shift 109 = .ok (.i2l, 1) := dk_133 (dk_at dksX2_shift_4 15 rfl rfl)
theorem dX2_shift_110 : decode cX2_shift 110 = .ok (.ladd, 1) := dk_97 (dk_at dksX2_shift_4 16 rfl rfl)
theorem dX2_shift_111 : decode cX2_shift 111 = .ok (.aload_n 0, 1) := dk_42 (dk_at dksX2_shift_4 17 rfl rfl)
theorem dX2_shift_112 : decode cX2_shift 112 = .ok (.getfield 78, 3) := dk_180 0 78 (dk_at dksX2_shift_4 18 rfl rfl)
theorem dX2_shift_115 : decode cX2_shift 115 = .ok (.iload_n 3, 1) := dk_29 (dk_at dksX2_shift_4 21 rfl rfl)
theorem dX2_shift_116 : decode cX2_shift 116 = .ok (.iaload, 1) := dk_46 (dk_at dksX2_shift_4 22 rfl rfl)
theorem dX2_shift_117 : decode cX2_shift 117 = .ok (.i2l, 1) := dk_133 (dk_at dksX2_shift_4 23 rfl rfl)
theorem dX2_shift_118 : decode cX2_shift 118 = .ok (.lcmp, 1) := dk_148 (dk_at dksX2_shift_5 0 rfl rfl)
theorem dX2_shift_119 : decode cX2_shift 119 = .ok (.ifCond .le 6, 3) := dk_158 0 6 (dk_at dksX2_shift_5 1 rfl rfl)
theorem dX2_shift_122 : decode cX2_shift 122 = .ok (.bipush (-13), 2) := dk_16 243 (dk_at dksX2_shift_5 4 rfl rfl)
theorem dX2_shift_124 : decode cX2_shift 124 = .ok (.ireturn, 1) := dk_172 (dk_at dksX2_shift_5 6 rfl rfl)
theorem dX2_shift_125 : decode cX2_shift 125 = .ok (.iload_n 1, 1) := dk_27 (dk_at dksX2_shift_5 7 rfl rfl)
theorem dX2_shift_126 : decode cX2_shift 126 = .ok (.iload_n 3, 1) := dk_29 (dk_at dksX2_shift_5 8 rfl rfl)
theorem dX2_shift_127 : decode cX2_shift 127 = .ok (.if_icmp .ne 58, 3) := dk_160 0 58 (dk_at dksX2_shift_5 9 rfl rfl)
theorem dX2_shift_130 : decode cX2_shift 130 = .ok (.iload_n 2, 1) := dk_28 (dk_at dksX2_shift_5 12 rfl rfl)
theorem dX2_shift_131 : decode cX2_shift 131 = .ok (.iload 4, 2) := dk_21 4 (dk_at dksX2_shift_5 13 rfl rfl)
theorem dX2_shift_133 : decode cX2_shift 133 = .ok (.if_icmp .ge 52, 3) := dk_162 0 52 (dk_at dksX2_shift_5 15 rfl rfl)
theorem dX2_shift_136 : decode cX2_shift 136 = .ok (.iload 5, 2) := dk_21 5 (dk_at dksX2_shift_5 18 rfl rfl)
theorem dX2_shift_138 : decode cX2_shift 138 = .ok (.iconst 1, 1) := dk_4 (dk_at dksX2_shift_5 20 rfl rfl)
theorem dX2_shift_139 : decode cX2_shift 139 = .ok (.isub, 1) := dk_100 (dk_at dksX2_shift_5 21 rfl rfl)
theorem dX2_shift_140 : decode cX2_shift 140 = .ok (.istore 6, 2) := dk_54 6 (dk_at dksX2_shift_5 22 rfl rfl)
theorem dX2_shift_142 : decode cX2_shift 142 = .ok (.iload 6, 2) := dk_21 6 (dk_at dksX2_shift_6 0 rfl rfl)
theorem dX2_shift_144 : decode cX2_shift 144 = .ok (.ifCond .lt 38, 3) := dk_155 0 38 (dk_at dksX2_shift_6 2 rfl rfl)
theorem dX2_shift_147 : decode cX2_shift 147 = .ok (.aload_n 0, 1) := dk_42 (dk_at dksX2_shift_6 5 rfl rfl)
theorem dX2_shift_148 : decode cX2_shift 148 = .ok (.getfield 81, 3) := dk_180 0 81 (dk_at dksX2_shift_6 6 rfl rfl)
theorem dX2_shift_151 : decode cX2_shift 151 = .ok (.bipush 60, 2) := dk_16 60 (dk_at dksX2_shift_6 9 rfl rfl)
theorem dX2_shift_153 : decode cX2_shift 153 = .ok (.iload_n 3, 1) := dk_29 (dk_at dksX2_shift_6 11 rfl rfl)
theorem dX2_shift_154 : decode cX2_shift 154 = .ok (.imul, 1) := dk_104 (dk_at dksX2_shift_6 12 rfl rfl)
theorem dX2_shift_155 : decode cX2_shift 155 = .ok (.iload 4, 2) := dk_21 4 (dk_at dksX2_shift_6 13 rfl rfl)
theorem dX2_shift_157 : decode cX2_shift 157 = .ok (.iadd, 1) := dk_96 (dk_at dksX2_shift_6 15 rfl rfl)
theorem dX2_shift_158 : decode cX2_shift 158 = .ok (.iload 6, 2) := dk_21 6 (dk_at dksX2_shift_6 16 rfl rfl)
theorem dX2_shift_160 : decode cX2_shift 160 = .ok (.iadd, 1) := dk_96 (dk_at dksX2_shift_6 18 rfl rfl)
theorem dX2_shift_161 : decode cX2_shift 161 = .ok (.aload_n 0, 1) := dk_42 (dk_at dksX2_shift_6 19 rfl rfl)
theorem dX2_shift_162 : decode cX2_shift 162 = .ok (.getfield 81, 3) := dk_180 0 81 (dk_at dksX2_shift_6 20 rfl rfl)
theorem dX2_shift_165 : decode cX2_shift 165 = .ok (.bipush 60, 2) := dk_16 60 (dk_at dksX2_shift_7 0 rfl rfl)
theorem dX2_shift_167 : decode cX2_shift 167 = .ok (.iload_n 1, 1) := dk_27 (dk_at dksX2_shift_7 2 rfl rfl)
theorem dX2_shift_168 : decode cX2_shift 168 = .ok (.imul, 1) := dk_104 (dk_at dksX2_shift_7 3 rfl rfl)
theorem dX2_shift_169 : decode cX2_shift 169 = .ok (.iload_n 2, 1) := dk_28 (dk_at dksX2_shift_7 4 rfl rfl)
theorem dX2_shift_170 : decode cX2_shift 170 = .ok (.iadd, 1) := dk_96 (dk_at dksX2_shift_7 5 rfl rfl)
theorem dX2_shift_171 : decode cX2_shift 171 = .ok (.iload 6, 2) := dk_21 6 (dk_at dksX2_shift_7 6 rfl rfl)
theorem dX2_shift_173 : decode cX2_shift 173 = .ok (.iadd, 1) := dk_96 (dk_at dksX2_shift_7 8 rfl rfl)
theorem dX2_shift_174 : decode cX2_shift 174 = .ok (.laload, 1) := dk_47 (dk_at dksX2_shift_7 9 rfl rfl)
theorem dX2_shift_175 : decode cX2_shift 175 = .ok (.lastore, 1) := dk_80 (dk_at dksX2_shift_7 10 rfl rfl)
theorem dX2_shift_176 : decode cX2_shift 176 = .ok (.iinc 6 (-1), 3) := dk_132 6 255 (dk_at dksX2_shift_7 11 rfl rfl)
theorem dX2_shift_179 : decode cX2_shift 179 = .ok (.goto (-37), 3) := dk_167 255 219 (dk_at dksX2_shift_7 14 rfl rfl)
theorem dX2_shift_182 : decode cX2_shift 182 = .ok (.goto 48, 3) := dk_167 0 48 (dk_at dksX2_shift_7 17 rfl rfl)
theorem dX2_shift_185 : decode cX2_shift 185 = .ok (.iconst 0, 1) := dk_3 (dk_at dksX2_shift_7 20 rfl rfl)
theorem dX2_shift_186 : decode cX2_shift 186 = .ok (.istore 6, 2) := dk_54 6 (dk_at dksX2_shift_7 21 rfl rfl)
theorem dX2_shift_188 : decode cX2_shift 188 = .ok (.iload 6, 2) := dk_21 6 (dk_at dksX2_shift_8 0 rfl rfl)
theorem dX2_shift_190 : decode cX2_shift 190 = .ok (.iload 5, 2) := dk_21 5 (dk_at dksX2_shift_8 2 rfl rfl)
theorem dX2_shift_192 : decode cX2_shift 192 = .ok (.if_icmp .ge 38, 3) := dk_162 0 38 (dk_at dksX2_shift_8 4 rfl rfl)
theorem dX2_shift_195 : decode cX2_shift 195 = .ok (.aload_n 0, 1) := dk_42 (dk_at dksX2_shift_8 7 rfl rfl)
theorem dX2_shift_196 : decode cX2_shift 196 = .ok (.getfield 81, 3) := dk_180 0 81 (dk_at dksX2_shift_8 8 rfl rfl)
theorem dX2_shift_199 : decode cX2_shift 199 = .ok (.bipush 60, 2) := dk_16 60 (dk_at dksX2_shift_8 11 rfl rfl)
theorem dX2_shift_201 : decode cX2_shift 201 = .ok (.iload_n 3, 1) := dk_29 (dk_at dksX2_shift_8 13 rfl rfl)
theorem dX2_shift_202 : decode cX2_shift 202 = .ok (.imul, 1) := dk_104 (dk_at dksX2_shift_8 14 rfl rfl)
theorem dX2_shift_203 : decode cX2_shift 203 = .ok (.iload 4, 2) := dk_21 4 (dk_at dksX2_shift_8 15 rfl rfl)
theorem dX2_shift_205 : decode cX2_shift 205 = .ok (.iadd, 1) := dk_96 (dk_at dksX2_shift_8 17 rfl rfl)
theorem dX2_shift_206 : decode cX2_shift 206 = .ok (.iload 6, 2) := dk_21 6 (dk_at dksX2_shift_8 18 rfl rfl)
theorem dX2_shift_208 : decode cX2_shift 208 = .ok (.iadd, 1) := dk_96 (dk_at dksX2_shift_8 20 rfl rfl)
theorem dX2_shift_209 : decode cX2_shift 209 = .ok (.aload_n 0, 1) := dk_42 (dk_at dksX2_shift_8 21 rfl rfl)
theorem dX2_shift_210 : decode cX2_shift 210 = .ok (.getfield 81, 3) := dk_180 0 81 (dk_at dksX2_shift_9 0 rfl rfl)
theorem dX2_shift_213 : decode cX2_shift 213 = .ok (.bipush 60, 2) := dk_16 60 (dk_at dksX2_shift_9 3 rfl rfl)
theorem dX2_shift_215 : decode cX2_shift 215 = .ok (.iload_n 1, 1) := dk_27 (dk_at dksX2_shift_9 5 rfl rfl)
theorem dX2_shift_216 : decode cX2_shift 216 = .ok (.imul, 1) := dk_104 (dk_at dksX2_shift_9 6 rfl rfl)
theorem dX2_shift_217 : decode cX2_shift 217 = .ok (.iload_n 2, 1) := dk_28 (dk_at dksX2_shift_9 7 rfl rfl)
theorem dX2_shift_218 : decode cX2_shift 218 = .ok (.iadd, 1) := dk_96 (dk_at dksX2_shift_9 8 rfl rfl)
theorem dX2_shift_219 : decode cX2_shift 219 = .ok (.iload 6, 2) := dk_21 6 (dk_at dksX2_shift_9 9 rfl rfl)
theorem dX2_shift_221 : decode cX2_shift 221 = .ok (.iadd, 1) := dk_96 (dk_at dksX2_shift_9 11 rfl rfl)
theorem dX2_shift_222 : decode cX2_shift 222 = .ok (.laload, 1) := dk_47 (dk_at dksX2_shift_9 12 rfl rfl)
theorem dX2_shift_223 : decode cX2_shift 223 = .ok (.lastore, 1) := dk_80 (dk_at dksX2_shift_9 13 rfl rfl)
theorem dX2_shift_224 : decode cX2_shift 224 = .ok (.iinc 6 1, 3) := dk_132 6 1 (dk_at dksX2_shift_9 14 rfl rfl)
theorem dX2_shift_227 : decode cX2_shift 227 = .ok (.goto (-39), 3) := dk_167 255 217 (dk_at dksX2_shift_9 17 rfl rfl)
theorem dX2_shift_230 : decode cX2_shift 230 = .ok (.iload 5, 2) := dk_21 5 (dk_at dksX2_shift_9 20 rfl rfl)
theorem dX2_shift_232 : decode cX2_shift 232 = .ok (.ireturn, 1) := dk_172 (dk_at dksX2_shift_9 22 rfl rfl)
def dkwX2_taken_3 : List UInt8 := [21, 4, 184, 1, 56, 54, 4, 167, 255, 238, 21, 4, 28, 160, 0, 7, 29, 167, 0, 5, 16, 244, 172]
abbrev dktX2_taken_3 : List UInt8 := dkwX2_taken_3 ++ []
def dkwX2_taken_2 : List UInt8 := [180, 0, 75, 27, 46, 16, 10, 100, 46, 62, 29, 54, 4, 21, 4, 28, 159, 0, 18, 21, 4, 158, 0, 13]
abbrev dktX2_taken_2 : List UInt8 := dkwX2_taken_2 ++ dktX2_taken_3
def dkwX2_taken_1 : List UInt8 := [46, 2, 160, 0, 6, 16, 245, 172, 42, 27, 182, 1, 71, 153, 0, 6, 16, 244, 172, 42, 180, 0, 69, 42]
abbrev dktX2_taken_1 : List UInt8 := dkwX2_taken_1 ++ dktX2_taken_2
def dkwX2_taken_0 : List UInt8 := [27, 184, 0, 118, 153, 0, 13, 28, 3, 16, 7, 184, 0, 92, 154, 0, 5, 2, 172, 42, 180, 0, 75, 27]
abbrev dktX2_taken_0 : List UInt8 := dkwX2_taken_0 ++ dktX2_taken_1
theorem dksX2_taken_0 : cX2_taken.data.toList.drop 0 = dktX2_taken_0 := by decide +kernel
theorem dksX2_taken_1 : cX2_taken.data.toList.drop 24 = dktX2_taken_1 := dk_seg dksX2_taken_0 24 rfl rfl
theorem dksX2_taken_2 : cX2_taken.data.toList.drop 48 = dktX2_taken_2 := dk_seg dksX2_taken_1 24 rfl rfl
theorem dksX2_taken_3 : cX2_taken.data.toList.drop 72 = dktX2_taken_3 := dk_seg dksX2_taken_2 24 rfl rfl
theorem dX2_taken_0 : decode cX2_taken 0 = .ok (.iload_n 1, 1) := dk_27 (dk_at dksX2_taken_0 0 rfl rfl)
theorem dX2_taken_1 : decode cX2_taken 1 = .ok (.invokestatic 118, 3) := dk_184 0 118 (dk_at dksX2_taken_0 1 rfl rfl)
theorem dX2_taken_4 : decode cX2_taken 4 = .ok (.ifCond .eq 13, 3) := dk_153 0 13 (dk_at dksX2_taken_0 4 rfl rfl)
theorem dX2_taken_7 : decode cX2_taken 7 = .ok (.iload_n 2, 1) := dk_28 (dk_at dksX2_taken_0 7 rfl rfl)
theorem dX2_taken_8 : decode cX2_taken 8 = .ok (.iconst 0, 1) := dk_3 (dk_at dksX2_taken_0 8 rfl rfl)
theorem dX2_taken_9 : decode cX2_taken 9 = .ok (.bipush 7, 2) := dk_16 7 (dk_at dksX2_taken_0 9 rfl rfl)
theorem dX2_taken_11 : decode cX2_taken 11 = .ok (.invokestatic 92, 3) := dk_184 0 92 (dk_at dksX2_taken_0 11 rfl rfl)
theorem dX2_taken_14 : decode cX2_taken 14 = .ok (.ifCond .ne 5, 3) := dk_154 0 5 (dk_at dksX2_taken_0 14 rfl rfl)
theorem dX2_taken_17 : decode cX2_taken 17 = .ok (.iconst (-1), 1) := dk_2 (dk_at dksX2_taken_0 17 rfl rfl)
theorem dX2_taken_18 : decode cX2_taken 18 = .ok (.ireturn, 1) := dk_172 (dk_at dksX2_taken_0 18 rfl rfl)
theorem dX2_taken_19 : decode cX2_taken 19 = .ok (.aload_n 0, 1) := dk_42 (dk_at dksX2_taken_0 19 rfl rfl)
theorem dX2_taken_20 : decode cX2_taken 20 = .ok (.getfield 75, 3) := dk_180 0 75 (dk_at dksX2_taken_0 20 rfl rfl)
theorem dX2_taken_23 : decode cX2_taken 23 = .ok (.iload_n 1, 1) := dk_27 (dk_at dksX2_taken_0 23 rfl rfl)
theorem dX2_taken_24 : decode cX2_taken 24 = .ok (.iaload, 1) := dk_46 (dk_at dksX2_taken_1 0 rfl rfl)
theorem dX2_taken_25 : decode cX2_taken 25 = .ok (.iconst (-1), 1) := dk_2 (dk_at dksX2_taken_1 1 rfl rfl)
theorem dX2_taken_26 : decode cX2_taken 26 = .ok (.if_icmp .ne 6, 3) := dk_160 0 6 (dk_at dksX2_taken_1 2 rfl rfl)
theorem dX2_taken_29 : decode cX2_taken 29 = .ok (.bipush (-11), 2) := dk_16 245 (dk_at dksX2_taken_1 5 rfl rfl)
theorem dX2_taken_31 : decode cX2_taken 31 = .ok (.ireturn, 1) := dk_172 (dk_at dksX2_taken_1 7 rfl rfl)
theorem dX2_taken_32 : decode cX2_taken 32 = .ok (.aload_n 0, 1) := dk_42 (dk_at dksX2_taken_1 8 rfl rfl)
theorem dX2_taken_33 : decode cX2_taken 33 = .ok (.iload_n 1, 1) := dk_27 (dk_at dksX2_taken_1 9 rfl rfl)
theorem dX2_taken_34 : decode cX2_taken 34 = .ok (.invokevirtual 327, 3) := dk_182 1 71 (dk_at dksX2_taken_1 10 rfl rfl)
theorem dX2_taken_37 : decode cX2_taken 37 = .ok (.ifCond .eq 6, 3) := dk_153 0 6 (dk_at dksX2_taken_1 13 rfl rfl)
theorem dX2_taken_40 : decode cX2_taken 40 = .ok (.bipush (-12), 2) := dk_16 244 (dk_at dksX2_taken_1 16 rfl rfl)
theorem dX2_taken_42 : decode cX2_taken 42 = .ok (.ireturn, 1) := dk_172 (dk_at dksX2_taken_1 18 rfl rfl)
theorem dX2_taken_43 : decode cX2_taken 43 = .ok (.aload_n 0, 1) := dk_42 (dk_at dksX2_taken_1 19 rfl rfl)
theorem dX2_taken_44 : decode cX2_taken 44 = .ok (.getfield 69, 3) := dk_180 0 69 (dk_at dksX2_taken_1 20 rfl rfl)
theorem dX2_taken_47 : decode cX2_taken 47 = .ok (.aload_n 0, 1) := dk_42 (dk_at dksX2_taken_1 23 rfl rfl)
theorem dX2_taken_48 : decode cX2_taken 48 = .ok (.getfield 75, 3) := dk_180 0 75 (dk_at dksX2_taken_2 0 rfl rfl)
theorem dX2_taken_51 : decode cX2_taken 51 = .ok (.iload_n 1, 1) := dk_27 (dk_at dksX2_taken_2 3 rfl rfl)
theorem dX2_taken_52 : decode cX2_taken 52 = .ok (.iaload, 1) := dk_46 (dk_at dksX2_taken_2 4 rfl rfl)
theorem dX2_taken_53 : decode cX2_taken 53 = .ok (.bipush 10, 2) := dk_16 10 (dk_at dksX2_taken_2 5 rfl rfl)
theorem dX2_taken_55 : decode cX2_taken 55 = .ok (.isub, 1) := dk_100 (dk_at dksX2_taken_2 7 rfl rfl)
theorem dX2_taken_56 : decode cX2_taken 56 = .ok (.iaload, 1) := dk_46 (dk_at dksX2_taken_2 8 rfl rfl)
theorem dX2_taken_57 : decode cX2_taken 57 = .ok (.istore_n 3, 1) := dk_62 (dk_at dksX2_taken_2 9 rfl rfl)
theorem dX2_taken_58 : decode cX2_taken 58 = .ok (.iload_n 3, 1) := dk_29 (dk_at dksX2_taken_2 10 rfl rfl)
theorem dX2_taken_59 : decode cX2_taken 59 = .ok (.istore 4, 2) := dk_54 4 (dk_at dksX2_taken_2 11 rfl rfl)
theorem dX2_taken_61 : decode cX2_taken 61 = .ok (.iload 4, 2) := dk_21 4 (dk_at dksX2_taken_2 13 rfl rfl)
theorem dX2_taken_63 : decode cX2_taken 63 = .ok (.iload_n 2, 1) := dk_28 (dk_at dksX2_taken_2 15 rfl rfl)
theorem dX2_taken_64 : decode cX2_taken 64 = .ok (.if_icmp .eq 18, 3) := dk_159 0 18 (dk_at dksX2_taken_2 16 rfl rfl)
theorem dX2_taken_67 : decode cX2_taken 67 = .ok (.iload 4, 2) := dk_21 4 (dk_at dksX2_taken_2 19 rfl rfl)
theorem dX2_taken_69 : decode cX2_taken 69 = .ok (.ifCond .le 13, 3) := dk_158 0 13 (dk_at dksX2_taken_2 21 rfl rfl)
theorem dX2_taken_72 : decode cX2_taken 72 = .ok (.iload 4, 2) := dk_21 4 (dk_at dksX2_taken_3 0 rfl rfl)
theorem dX2_taken_74 : decode cX2_taken 74 = .ok (.invokestatic 312, 3) := dk_184 1 56 (dk_at dksX2_taken_3 2 rfl rfl)
theorem dX2_taken_77 : decode cX2_taken 77 = .ok (.istore 4, 2) := dk_54 4 (dk_at dksX2_taken_3 5 rfl rfl)
theorem dX2_taken_79 : decode cX2_taken 79 = .ok (.goto (-18), 3) := dk_167 255 238 (dk_at dksX2_taken_3 7 rfl rfl)
theorem dX2_taken_82 : decode cX2_taken 82 = .ok (.iload 4, 2) := dk_21 4 (dk_at dksX2_taken_3 10 rfl rfl)
theorem dX2_taken_84 : decode cX2_taken 84 = .ok (.iload_n 2, 1) := dk_28 (dk_at dksX2_taken_3 12 rfl rfl)
theorem dX2_taken_85 : decode cX2_taken 85 = .ok (.if_icmp .ne 7, 3) := dk_160 0 7 (dk_at dksX2_taken_3 13 rfl rfl)
theorem dX2_taken_88 : decode cX2_taken 88 = .ok (.iload_n 3, 1) := dk_29 (dk_at dksX2_taken_3 16 rfl rfl)
theorem dX2_taken_89 : decode cX2_taken 89 = .ok (.goto 5, 3) := dk_167 0 5 (dk_at dksX2_taken_3 17 rfl rfl)
theorem dX2_taken_92 : decode cX2_taken 92 = .ok (.bipush (-12), 2) := dk_16 244 (dk_at dksX2_taken_3 20 rfl rfl)
theorem dX2_taken_94 : decode cX2_taken 94 = .ok (.ireturn, 1) := dk_172 (dk_at dksX2_taken_3 22 rfl rfl)
def dkwX2_count_3 : List UInt8 := [172, 42, 180, 1, 46, 172, 2, 172]
abbrev dktX2_count_3 : List UInt8 := dkwX2_count_3 ++ []
def dkwX2_count_2 : List UInt8 := [42, 180, 0, 88, 172, 42, 180, 0, 96, 172, 42, 180, 0, 151, 172, 42, 180, 0, 145, 172, 42, 180, 1, 68]
abbrev dktX2_count_2 : List UInt8 := dkwX2_count_2 ++ dktX2_count_3
def dkwX2_count_1 : List UInt8 := [170, 0, 0, 0, 0, 0, 69, 0, 0, 0, 0, 0, 0, 0, 5, 0, 0, 0, 39, 0, 0, 0, 44, 0, 0, 0, 49, 0, 0, 0, 54, 0, 0, 0, 59, 0, 0, 0, 64]
abbrev dktX2_count_1 : List UInt8 := dkwX2_count_1 ++ dktX2_count_2
def dkwX2_count_0 : List UInt8 := [27]
abbrev dktX2_count_0 : List UInt8 := dkwX2_count_0 ++ dktX2_count_1
theorem dksX2_count_0 : cX2_count.data.toList.drop 0 = dktX2_count_0 := by decide +kernel
theorem dksX2_count_1 : cX2_count.data.toList.drop 1 = dktX2_count_1 := dk_seg dksX2_count_0 1 rfl rfl
theorem dksX2_count_2 : cX2_count.data.toList.drop 40 = dktX2_count_2 := dk_seg dksX2_count_1 39 rfl rfl
theorem dksX2_count_3 : cX2_count.data.toList.drop 64 = dktX2_count_3 := dk_seg dksX2_count_2 24 rfl rfl
theorem dX2_count_0 : decode cX2_count 0 = .ok (.iload_n 1, 1) := dk_27 (dk_at dksX2_count_0 0 rfl rfl)
theorem dX2_count_1 : decode cX2_count 1 = .ok (.tableswitch 69 0 5 #[39, 44, 49, 54, 59, 64], 39) := by decide +kernel
theorem dX2_count_40 : decode cX2_count 40 = .ok (.aload_n 0, 1) := dk_42 (dk_at dksX2_count_2 0 rfl rfl)
theorem dX2_count_41 : decode cX2_count 41 = .ok (.getfield 88, 3) := dk_180 0 88 (dk_at dksX2_count_2 1 rfl rfl)
theorem dX2_count_44 : decode cX2_count 44 = .ok (.ireturn, 1) := dk_172 (dk_at dksX2_count_2 4 rfl rfl)
theorem dX2_count_45 : decode cX2_count 45 = .ok (.aload_n 0, 1) := dk_42 (dk_at dksX2_count_2 5 rfl rfl)
theorem dX2_count_46 : decode cX2_count 46 = .ok (.getfield 96, 3) := dk_180 0 96 (dk_at dksX2_count_2 6 rfl rfl)
theorem dX2_count_49 : decode cX2_count 49 = .ok (.ireturn, 1) := dk_172 (dk_at dksX2_count_2 9 rfl rfl)
theorem dX2_count_50 : decode cX2_count 50 = .ok (.aload_n 0, 1) := dk_42 (dk_at dksX2_count_2 10 rfl rfl)
theorem dX2_count_51 : decode cX2_count 51 = .ok (.getfield 151, 3) := dk_180 0 151 (dk_at dksX2_count_2 11 rfl rfl)
theorem dX2_count_54 : decode cX2_count 54 = .ok (.ireturn, 1) := dk_172 (dk_at dksX2_count_2 14 rfl rfl)
theorem dX2_count_55 : decode cX2_count 55 = .ok (.aload_n 0, 1) := dk_42 (dk_at dksX2_count_2 15 rfl rfl)
theorem dX2_count_56 : decode cX2_count 56 = .ok (.getfield 145, 3) := dk_180 0 145 (dk_at dksX2_count_2 16 rfl rfl)
theorem dX2_count_59 : decode cX2_count 59 = .ok (.ireturn, 1) := dk_172 (dk_at dksX2_count_2 19 rfl rfl)
theorem dX2_count_60 : decode cX2_count 60 = .ok (.aload_n 0, 1) := dk_42 (dk_at dksX2_count_2 20 rfl rfl)
theorem dX2_count_61 : decode cX2_count 61 = .ok (.getfield 324, 3) := dk_180 1 68 (dk_at dksX2_count_2 21 rfl rfl)
theorem dX2_count_64 : decode cX2_count 64 = .ok (.ireturn, 1) := dk_172 (dk_at dksX2_count_3 0 rfl rfl)
theorem dX2_count_65 : decode cX2_count 65 = .ok (.aload_n 0, 1) := dk_42 (dk_at dksX2_count_3 1 rfl rfl)
theorem dX2_count_66 : decode cX2_count 66 = .ok (.getfield 302, 3) := dk_180 1 46 (dk_at dksX2_count_3 2 rfl rfl)
theorem dX2_count_69 : decode cX2_count 69 = .ok (.ireturn, 1) := dk_172 (dk_at dksX2_count_3 5 rfl rfl)
theorem dX2_count_70 : decode cX2_count 70 = .ok (.iconst (-1), 1) := dk_2 (dk_at dksX2_count_3 6 rfl rfl)
theorem dX2_count_71 : decode cX2_count 71 = .ok (.ireturn, 1) := dk_172 (dk_at dksX2_count_3 7 rfl rfl)
