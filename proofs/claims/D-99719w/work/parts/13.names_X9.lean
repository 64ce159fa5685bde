set_option maxRecDepth 100000
def dkwX9_init_10 : List UInt8 := [177]
abbrev dktX9_init_10 : List UInt8 := dkwX9_init_10 ++ []
def dkwX9_init_9 : List UInt8 := [42, 17, 1, 225, 188, 10, 181, 0, 80, 42, 6, 188, 10, 181, 0, 83, 42, 182, 0, 86, 42, 182, 0, 89]
abbrev dktX9_init_9 : List UInt8 := dkwX9_init_9 ++ dktX9_init_10
def dkwX9_init_8 : List UInt8 := [181, 0, 70, 42, 6, 17, 3, 253, 197, 0, 32, 2, 181, 0, 73, 42, 17, 4, 0, 188, 4, 181, 0, 76]
abbrev dktX9_init_8 : List UInt8 := dkwX9_init_8 ++ dktX9_init_9
def dkwX9_init_7 : List UInt8 := [16, 60, 188, 10, 181, 0, 64, 42, 16, 8, 188, 10, 181, 0, 67, 42, 16, 16, 16, 60, 197, 0, 32, 2]
abbrev dktX9_init_7 : List UInt8 := dkwX9_init_7 ++ dktX9_init_8
def dkwX9_init_6 : List UInt8 := [181, 0, 55, 42, 16, 80, 16, 6, 197, 0, 32, 2, 181, 0, 58, 42, 16, 60, 188, 10, 181, 0, 61, 42]
abbrev dktX9_init_6 : List UInt8 := dkwX9_init_6 ++ dktX9_init_7
def dkwX9_init_5 : List UInt8 := [16, 6, 6, 197, 0, 32, 2, 181, 0, 49, 42, 17, 0, 160, 188, 10, 181, 0, 52, 42, 16, 7, 188, 10]
abbrev dktX9_init_5 : List UInt8 := dkwX9_init_5 ++ dktX9_init_6
def dkwX9_init_4 : List UInt8 := [17, 0, 160, 5, 197, 0, 32, 2, 181, 0, 43, 42, 16, 6, 6, 197, 0, 32, 2, 181, 0, 46, 42]
abbrev dktX9_init_4 : List UInt8 := dkwX9_init_4 ++ dktX9_init_5
def dkwX9_init_3 : List UInt8 := [16, 10, 7, 197, 0, 32, 2, 181, 0, 37, 42, 17, 0, 160, 5, 197, 0, 32, 2, 181, 0, 40, 42]
abbrev dktX9_init_3 : List UInt8 := dkwX9_init_3 ++ dktX9_init_4
def dkwX9_init_2 : List UInt8 := [181, 0, 26, 42, 16, 8, 188, 10, 181, 0, 29, 42, 16, 10, 7, 197, 0, 32, 2, 181, 0, 34, 42]
abbrev dktX9_init_2 : List UInt8 := dkwX9_init_2 ++ dktX9_init_3
def dkwX9_init_1 : List UInt8 := [181, 0, 17, 42, 7, 188, 10, 181, 0, 20, 42, 7, 188, 10, 181, 0, 23, 42, 16, 8, 188, 10]
abbrev dktX9_init_1 : List UInt8 := dkwX9_init_1 ++ dktX9_init_2
def dkwX9_init_0 : List UInt8 := [42, 183, 0, 1, 42, 2, 181, 0, 9, 42, 17, 2, 88, 188, 10, 181, 0, 13, 42, 5, 188, 10]
abbrev dktX9_init_0 : List UInt8 := dkwX9_init_0 ++ dktX9_init_1
theorem dksX9_init_0 : cX9_init.data.toList.drop 0 = dktX9_init_0 := by decide +kernel
theorem dksX9_init_1 : cX9_init.data.toList.drop 22 = dktX9_init_1 := dk_seg dksX9_init_0 22 rfl rfl
theorem dksX9_init_2 : cX9_init.data.toList.drop 44 = dktX9_init_2 := dk_seg dksX9_init_1 22 rfl rfl
theorem dksX9_init_3 : cX9_init.data.toList.drop 67 = dktX9_init_3 := dk_seg dksX9_init_2 23 rfl rfl
theorem dksX9_init_4 : cX9_init.data.toList.drop 90 = dktX9_init_4 := dk_seg dksX9_init_3 23 rfl rfl
theorem dksX9_init_5 : cX9_init.data.toList.drop 113 = dktX9_init_5 := dk_seg dksX9_init_4 23 rfl rfl
theorem dksX9_init_6 : cX9_init.data.toList.drop 137 = dktX9_init_6 := dk_seg dksX9_init_5 24 rfl rfl
theorem dksX9_init_7 : cX9_init.data.toList.drop 161 = dktX9_init_7 := dk_seg dksX9_init_6 24 rfl rfl
theorem dksX9_init_8 : cX9_init.data.toList.drop 185 = dktX9_init_8 := dk_seg dksX9_init_7 24 rfl rfl
theorem dksX9_init_9 : cX9_init.data.toList.drop 209 = dktX9_init_9 := dk_seg dksX9_init_8 24 rfl rfl
theorem dksX9_init_10 : cX9_init.data.toList.drop 233 = dktX9_init_10 := dk_seg dksX9_init_9 24 rfl rfl
theorem dX9_init_0 : decode cX9_init 0 = .ok (.aload_n 0, 1) := dk_42 (dk_at dksX9_init_0 0 rfl rfl)
theorem dX9_init_1 : decode cX9_init 1 = .ok (.invokespecial 1, 3) := dk_183 0 1 (dk_at dksX9_init_0 1 rfl rfl)
theorem dX9_init_4 : decode cX9_init 4 = .ok (.aload_n 0, 1) := dk_42 (dk_at dksX9_init_0 4 rfl rfl)
theorem dX9_init_5 : decode cX9_init 5 = .ok (.iconst (-1), 1) := dk_2 (dk_at dksX9_init_0 5 rfl rfl)
theorem dX9_init_6 : decode cX9_init 6 = .ok (.putfield 9, 3) := dk_181 0 9 (dk_at dksX9_init_0 6 rfl rfl)
theorem dX9_init_9 : decode cX9_init 9 = .ok (.aload_n 0, 1) := dk_42 (dk_at dksX9_init_0 9 rfl rfl)
theorem dX9_init_10 : decode cX9_init 10 = .ok (.sipush 600, 3) := dk_17 2 88 (dk_at dksX9_init_0 10 rfl rfl)
theorem dX9_init_13 : decode cX9_init 13 = .ok (.newarray .int, 2) := dk_188_10 (dk_at dksX9_init_0 13 rfl rfl)
theorem dX9_init_15 : decode cX9_init 15 = .ok (.putfield 13, 3) := dk_181 0 13 (dk_at dksX9_init_0 15 rfl rfl)
theorem dX9_init_18 : decode cX9_init 18 = .ok (.aload_n 0, 1) := dk_42 (dk_at dksX9_init_0 18 rfl rfl)
theorem dX9_init_19 : decode cX9_init 19 = .ok (.iconst 2, 1) := dk_5 (dk_at dksX9_init_0 19 rfl rfl)
theorem dX9_init_20 : decode cX9_init 20 = .ok (.newarray .int, 2) := dk_188_10 (dk_at dksX9_init_0 20 rfl rfl)
theorem dX9_init_22 : decode cX9_init 22 = .ok (.putfield 17, 3) := dk_181 0 17 (dk_at dksX9_init_1 0 rfl rfl)
theorem dX9_init_25 : decode cX9_init 25 = .ok (.aload_n 0, 1) := dk_42 (dk_at dksX9_init_1 3 rfl rfl)
theorem dX9_init_26 : decode cX9_init 26 = .ok (.iconst 4, 1) := dk_7 (dk_at dksX9_init_1 4 rfl rfl)
theorem dX9_init_27 : decode cX9_init 27 = .ok (.newarray .int, 2) := dk_188_10 (dk_at dksX9_init_1 5 rfl rfl)
theorem dX9_init_29 : decode cX9_init 29 = .ok (.putfield 20, 3) := dk_181 0 20 (dk_at dksX9_init_1 7 rfl rfl)
theorem dX9_init_32 : decode cX9_init 32 = .ok (.aload_n 0, 1) := dk_42 (dk_at dksX9_init_1 10 rfl rfl)
theorem dX9_init_33 : decode cX9_init 33 = .ok (.iconst 4, 1) := dk_7 (dk_at dksX9_init_1 11 rfl rfl)
theorem dX9_init_34 : decode cX9_init 34 = .ok (.newarray .int, 2) := dk_188_10 (dk_at dksX9_init_1 12 rfl rfl)
theorem dX9_init_36 : decode cX9_init 36 = .ok (.putfield 23, 3) := dk_181 0 23 (dk_at dksX9_init_1 14 rfl rfl)
theorem dX9_init_39 : decode cX9_init 39 = .ok (.aload_n 0, 1) := dk_42 (dk_at dksX9_init_1 17 rfl rfl)
theorem dX9_init_40 : decode cX9_init 40 = .ok (.bipush 8, 2) := dk_16 8 (dk_at dksX9_init_1 18 rfl rfl)
theorem dX9_init_42 : decode cX9_init 42 = .ok (.newarray .int, 2) := dk_188_10 (dk_at dksX9_init_1 20 rfl rfl)
theorem dX9_init_44 : decode cX9_init 44 = .ok (.putfield 26, 3) := dk_181 0 26 (dk_at dksX9_init_2 0 rfl rfl)
theorem dX9_init_47 : decode cX9_init 47 = .ok (.aload_n 0, 1) := dk_42 (dk_at dksX9_init_2 3 rfl rfl)
theorem dX9_init_48 : decode cX9_init 48 = .ok (.bipush 8, 2) := dk_16 8 (dk_at dksX9_init_2 4 rfl rfl)
theorem dX9_init_50 : decode cX9_init 50 = .ok (.newarray .int, 2) := dk_188_10 (dk_at dksX9_init_2 6 rfl rfl)
theorem dX9_init_52 : decode cX9_init 52 = .ok (.putfield 29, 3) := dk_181 0 29 (dk_at dksX9_init_2 8 rfl rfl)
theorem dX9_init_55 : decode cX9_init 55 = .ok (.aload_n 0, 1) := dk_42 (dk_at dksX9_init_2 11 rfl rfl)
theorem dX9_init_56 : decode cX9_init 56 = .ok (.bipush 10, 2) := dk_16 10 (dk_at dksX9_init_2 12 rfl rfl)
theorem dX9_init_58 : decode cX9_init 58 = .ok (.iconst 4, 1) := dk_7 (dk_at dksX9_init_2 14 rfl rfl)
theorem dX9_init_59 : decode cX9_init 59 = .ok (.multianewarray 32 2, 4) := by decide +kernel
theorem dX9_init_63 : decode cX9_init 63 = .ok (.putfield 34, 3) := dk_181 0 34 (dk_at dksX9_init_2 19 rfl rfl)
theorem dX9_init_66 : decode cX9_init 66 = .ok (.aload_n 0, 1) := dk_42 (dk_at dksX9_init_2 22 rfl rfl)
theorem dX9_init_67 : decode cX9_init 67 = .ok (.bipush 10, 2) := dk_16 10 (dk_at dksX9_init_3 0 rfl rfl)
theorem dX9_init_69 : decode cX9_init 69 = .ok (.iconst 4, 1) := dk_7 (dk_at dksX9_init_3 2 rfl rfl)
theorem dX9_init_70 : decode cX9_init 70 = .ok (.multianewarray 32 2, 4) := by decide +kernel
theorem dX9_init_74 : decode cX9_init 74 = .ok (.putfield 37, 3) := dk_181 0 37 (dk_at dksX9_init_3 7 rfl rfl)
theorem dX9_init_77 : decode cX9_init 77 = .ok (.aload_n 0, 1) := dk_42 (dk_at dksX9_init_3 10 rfl rfl)
theorem dX9_init_78 : decode cX9_init 78 = .ok (.sipush 160, 3) := dk_17 0 160 (dk_at dksX9_init_3 11 rfl rfl)
theorem dX9_init_81 : decode cX9_init 81 = .ok (.iconst 2, 1) := dk_5 (dk_at dksX9_init_3 14 rfl rfl)
theorem dX9_init_82 : decode cX9_init 82 = .ok (.multianewarray 32 2, 4) := by decide +kernel
theorem dX9_init_86 : decode cX9_init 86 = .ok (.putfield 40, 3) := dk_181 0 40 (dk_at dksX9_init_3 19 rfl rfl)
theorem dX9_init_89 : decode cX9_init 89 = .ok (.aload_n 0, 1) := dk_42 (dk_at dksX9_init_3 22 rfl rfl)
theorem dX9_init_90 : decode cX9_init 90 = .ok (.sipush 160, 3) := dk_17 0 160 (dk_at dksX9_init_4 0 rfl rfl)
theorem dX9_init_93 : decode cX9_init 93 = .ok (.iconst 2, 1) := dk_5 (dk_at dksX9_init_4 3 rfl rfl)
theorem dX9_init_94 : decode cX9_init 94 = .ok (.multianewarray 32 2, 4) := by decide +kernel
theorem dX9_init_98 : decode cX9_init 98 = .ok (.putfield 43, 3) := dk_181 0 43 (dk_at dksX9_init_4 8 rfl rfl)
theorem dX9_init_101 : decode cX9_init 101 = .ok (.aload_n 0, 1) := dk_42 (dk_at dksX9_init_4 11 rfl rfl)
theorem dX9_init_102 : decode cX9_init 102 = .ok (.bipush 6, 2) := dk_16 6 (dk_at dksX9_init_4 12 rfl rfl)
theorem dX9_init_104 : decode cX9_init 104 = .ok (.iconst 3, 1) := dk_6 (dk_at dksX9_init_4 14 rfl rfl)
theorem dX9_init_105 : decode cX9_init 105 = .ok (.multianewarray 32 2, 4) := by decide +kernel
theorem dX9_init_109 : decode cX9_init 109 = .ok (.putfield 46, 3) := dk_181 0 46 (dk_at dksX9_init_4 19 rfl rfl)
theorem dX9_init_112 : decode cX9_init 112 = .ok (.aload_n 0, 1) := dk_42 (dk_at dksX9_init_4 22 rfl rfl)
theorem dX9_init_113 : decode cX9_init 113 = .ok (.bipush 6, 2) := dk_16 6 (dk_at dksX9_init_5 0 rfl rfl)
theorem dX9_init_115 : decode cX9_init 115 = .ok (.iconst 3, 1) := dk_6 (dk_at dksX9_init_5 2 rfl rfl)
theorem dX9_init_116 : decode cX9_init 116 = .ok (.multianewarray 32 2, 4) := by decide +kernel
theorem dX9_init_120 : decode cX9_init 120 = .ok (.putfield 49, 3) := dk_181 0 49 (dk_at dksX9_init_5 7 rfl rfl)
theorem dX9_init_123 : decode cX9_init 123 = .ok (.aload_n 0, 1) := dk_42 (dk_at dksX9_init_5 10 rfl rfl)
theorem dX9_init_124 : decode cX9_init 124 = .ok (.sipush 160, 3) := dk_17 0 160 (dk_at dksX9_init_5 11 rfl rfl)
theorem dX9_init_127 : decode cX9_init 127 = .ok (.newarray .int, 2) := dk_188_10 (dk_at dksX9_init_5 14 rfl rfl)
theorem dX9_init_129 : decode cX9_init 129 = .ok (.putfield 52, 3) := dk_181 0 52 (dk_at dksX9_init_5 16 rfl rfl)
theorem dX9_init_132 : decode cX9_init 132 = .ok (.aload_n 0, 1) := dk_42 (dk_at dksX9_init_5 19 rfl rfl)
theorem dX9_init_133 : decode cX9_init 133 = .ok (.bipush 7, 2) := dk_16 7 (dk_at dksX9_init_5 20 rfl rfl)
theorem dX9_init_135 : decode cX9_init 135 = .ok (.newarray .int, 2) := dk_188_10 (dk_at dksX9_init_5 22 rfl rfl)
theorem dX9_init_137 : decode cX9_init 137 = .ok (.putfield 55, 3) := dk_181 0 55 (dk_at dksX9_init_6 0 rfl rfl)
theorem dX9_init_140 : decode cX9_init 140 = .ok (.aload_n 0, 1) := dk_42 (dk_at dksX9_init_6 3 rfl rfl)
theorem dX9_init_141 : decode cX9_init 141 = .ok (.bipush 80, 2) := dk_16 80 (dk_at dksX9_init_6 4 rfl rfl)
theorem dX9_init_143 : decode cX9_init 143 = .ok (.bipush 6, 2) := dk_16 6 (dk_at dksX9_init_6 6 rfl rfl)
theorem dX9_init_145 : decode cX9_init 145 = .ok (.multianewarray 32 2, 4) := by decide +kernel
theorem dX9_init_149 : decode cX9_init 149 = .ok (.putfield 58, 3) := dk_181 0 58 (dk_at dksX9_init_6 12 rfl rfl)
theorem dX9_init_152 : decode cX9_init 152 = .ok (.aload_n 0, 1) := dk_42 (dk_at dksX9_init_6 15 rfl rfl)
theorem dX9_init_153 : decode cX9_init 153 = .ok (.bipush 60, 2) := dk_16 60 (dk_at dksX9_init_6 16 rfl rfl)
theorem dX9_init_155 : decode cX9_init 155 = .ok (.newarray .int, 2) := dk_188_10 (dk_at dksX9_init_6 18 rfl rfl)
theorem dX9_init_157 : decode cX9_init 157 = .ok (.putfield 61, 3) := dk_181 0 61 (dk_at dksX9_init_6 20 rfl rfl)
theorem dX9_init_160 : decode cX9_init 160 = .ok (.aload_n 0, 1) := dk_42 (dk_at dksX9_init_6 23 rfl rfl)
theorem dX9_init_161 : decode cX9_init 161 = .ok (.bipush 60, 2) := dk_16 60 (dk_at dksX9_init_7 0 rfl rfl)
theorem dX9_init_163 : decode cX9_init 163 = .ok (.newarray .int, 2) := dk_188_10 (dk_at dksX9_init_7 2 rfl rfl)
theorem dX9_init_165 : decode cX9_init 165 = .ok (.putfield 64, 3) := dk_181 0 64 (dk_at dksX9_init_7 4 rfl rfl)
theorem dX9_init_168 : decode cX9_init 168 = .ok (.aload_n 0, 1) := dk_42 (dk_at dksX9_init_7 7 rfl rfl)
theorem dX9_init_169 : decode cX9_init 169 = .ok (.bipush 8, 2) := dk_16 8 (dk_at dksX9_init_7 8 rfl rfl)
theorem dX9_init_171 : decode cX9_init 171 = .ok (.newarray .int, 2) := dk_188_10 (dk_at dksX9_init_7 10 rfl rfl)
theorem dX9_init_173 : decode cX9_init 173 = .ok (.putfield 67, 3) := dk_181 0 67 (dk_at dksX9_init_7 12 rfl rfl)
theorem dX9_init_176 : decode cX9_init 176 = .ok (.aload_n 0, 1) := dk_42 (dk_at dksX9_init_7 15 rfl rfl)
theorem dX9_init_177 : decode cX9_init 177 = .ok (.bipush 16, 2) := dk_16 16 (dk_at dksX9_init_7 16 rfl rfl)
theorem dX9_init_179 : decode cX9_init 179 = .ok (.bipush 60, 2) := dk_16 60 (dk_at dksX9_init_7 18 rfl rfl)
theorem dX9_init_181 : decode cX9_init 181 = .ok (.multianewarray 32 2, 4) := by decide +kernel
theorem dX9_init_185 : decode cX9_init 185 = .ok (.putfield 70, 3) := dk_181 0 70 (dk_at dksX9_init_8 0 rfl rfl)
theorem dX9_init_188 : decode cX9_init 188 = .ok (.aload_n 0, 1) := dk_42 (dk_at dksX9_init_8 3 rfl rfl)
theorem dX9_init_189 : decode cX9_init 189 = .ok (.iconst 3, 1) := dk_6 (dk_at dksX9_init_8 4 rfl rfl)
theorem dX9_init_190 : decode cX9_init 190 = .ok (.sipush 1021, 3) := dk_17 3 253 (dk_at dksX9_init_8 5 rfl rfl)
theorem dX9_init_193 : decode cX9_init 193 = .ok (.multianewarray 32 2, 4) := by decide +kernel
theorem dX9_init_197 : decode cX9_init 197 = .ok (.putfield 73, 3) := dk_181 0 73 (dk_at dksX9_init_8 12 rfl rfl)
theorem dX9_init_200 : decode cX9_init 200 = .ok (.aload_n 0, 1) := dk_42 (dk_at dksX9_init_8 15 rfl rfl)
theorem dX9_init_201 : decode cX9_init 201 = .ok (.sipush 1024, 3) := dk_17 4 0 (dk_at dksX9_init_8 16 rfl rfl)
theorem dX9_init_204 : decode cX9_init 204 = .ok (.newarray .boolean, 2) := dk_188_4 (dk_at dksX9_init_8 19 rfl rfl)
theorem dX9_init_206 : decode cX9_init 206 = .ok (.putfield 76, 3) := dk_181 0 76 (dk_at dksX9_init_8 21 rfl rfl)
theorem dX9_init_209 : decode cX9_init 209 = .ok (.aload_n 0, 1) := dk_42 (dk_at dksX9_init_9 0 rfl rfl)
theorem dX9_init_210 : decode cX9_init 210 = .ok (.sipush 481, 3) := dk_17 1 225 (dk_at dksX9_init_9 1 rfl rfl)
theorem dX9_init_213 : decode cX9_init 213 = .ok (.newarray .int, 2) := dk_188_10 (dk_at dksX9_init_9 4 rfl rfl)
theorem dX9_init_215 : decode cX9_init 215 = .ok (.putfield 80, 3) := dk_181 0 80 (dk_at dksX9_init_9 6 rfl rfl)
theorem dX9_init_218 : decode cX9_init 218 = .ok (.aload_n 0, 1) := dk_42 (dk_at dksX9_init_9 9 rfl rfl)
theorem dX9_init_219 : decode cX9_init 219 = .ok (.iconst 3, 1) := dk_6 (dk_at dksX9_init_9 10 rfl rfl)
theorem dX9_init_220 : decode cX9_init 220 = .ok (.newarray .int, 2) := dk_188_10 (dk_at dksX9_init_9 11 rfl rfl)
theorem dX9_init_222 : decode cX9_init 222 = .ok (.putfield 83, 3) := dk_181 0 83 (dk_at dksX9_init_9 13 rfl rfl)
theorem dX9_init_225 : decode cX9_init 225 = .ok (.aload_n 0, 1) := dk_42 (dk_at dksX9_init_9 16 rfl rfl)
theorem dX9_init_226 : decode cX9_init 226 = .ok (.invokevirtual 86, 3) := dk_182 0 86 (dk_at dksX9_init_9 17 rfl rfl)
theorem dX9_init_229 : decode cX9_init 229 = .ok (.aload_n 0, 1) := dk_42 (dk_at dksX9_init_9 20 rfl rfl)
theorem dX9_init_230 : decode cX9_init 230 = .ok (.invokevirtual 89, 3) := dk_182 0 89 (dk_at dksX9_init_9 21 rfl rfl)
theorem dX9_init_233 : decode cX9_init 233 = .ok (.return_, 1) := dk_177 (dk_at dksX9_init_10 0 rfl rfl)
def dkwX9_tellsNothing_1 : List UInt8 := [180, 0, 20, 6, 3, 79, 177]
abbrev dktX9_tellsNothing_1 : List UInt8 := dkwX9_tellsNothing_1 ++ []
def dkwX9_tellsNothing_0 : List UInt8 := [42, 180, 0, 20, 3, 3, 79, 42, 180, 0, 20, 4, 3, 79, 42, 180, 0, 20, 5, 16, 9, 79, 42]
abbrev dktX9_tellsNothing_0 : List UInt8 := dkwX9_tellsNothing_0 ++ dktX9_tellsNothing_1
theorem dksX9_tellsNothing_0 : cX9_tellsNothing.data.toList.drop 0 = dktX9_tellsNothing_0 := by decide +kernel
theorem dksX9_tellsNothing_1 : cX9_tellsNothing.data.toList.drop 23 = dktX9_tellsNothing_1 := dk_seg dksX9_tellsNothing_0 23 rfl rfl
theorem dX9_tellsNothing_0 : decode cX9_tellsNothing 0 = .ok (.aload_n 0, 1) := dk_42 (dk_at dksX9_tellsNothing_0 0 rfl rfl)
theorem dX9_tellsNothing_1 : decode cX9_tellsNothing 1 = .ok (.getfield 20, 3) := dk_180 0 20 (dk_at dksX9_tellsNothing_0 1 rfl rfl)
theorem dX9_tellsNothing_4 : decode cX9_tellsNothing 4 = .ok (.iconst 0, 1) := dk_3 (dk_at dksX9_tellsNothing_0 4 rfl rfl)
theorem dX9_tellsNothing_5 : decode cX9_tellsNothing 5 = .ok (.iconst 0, 1) := dk_3 (dk_at dksX9_tellsNothing_0 5 rfl rfl)
theorem dX9_tellsNothing_6 : decode cX9_tellsNothing 6 = .ok (.iastore, 1) := dk_79 (dk_at dksX9_tellsNothing_0 6 rfl rfl)
theorem dX9_tellsNothing_7 : decode cX9_tellsNothing 7 = .ok (.aload_n 0, 1) := dk_42 (dk_at dksX9_tellsNothing_0 7 rfl rfl)
theorem dX9_tellsNothing_8 : decode cX9_tellsNothing 8 = .ok (.getfield 20, 3) := dk_180 0 20 (dk_at dksX9_tellsNothing_0 8 rfl rfl)
theorem dX9_tellsNothing_11 : decode cX9_tellsNothing 11 = .ok (.iconst 1, 1) := dk_4 (dk_at dksX9_tellsNothing_0 11 rfl rfl)
theorem dX9_tellsNothing_12 : decode cX9_tellsNothing 12 = .ok (.iconst 0, 1) := dk_3 (dk_at dksX9_tellsNothing_0 12 rfl rfl)
theorem dX9_tellsNothing_13 : decode cX9_tellsNothing 13 = .ok (.iastore, 1) := dk_79 (dk_at dksX9_tellsNothing_0 13 rfl rfl)
theorem dX9_tellsNothing_14 : decode cX9_tellsNothing 14 = .ok (.aload_n 0, 1) := dk_42 (dk_at dksX9_tellsNothing_0 14 rfl rfl)
theorem dX9_tellsNothing_15 : decode cX9_tellsNothing 15 = .ok (.getfield 20, 3) := dk_180 0 20 (dk_at dksX9_tellsNothing_0 15 rfl rfl)
theorem dX9_tellsNothing_18 : decode cX9_tellsNothing 18 = .ok (.iconst 2, 1) := dk_5 (dk_at dksX9_tellsNothing_0 18 rfl rfl)
theorem dX9_tellsNothing_19 : decode cX9_tellsNothing 19 = .ok (.bipush 9, 2) := dk_16 9 (dk_at dksX9_tellsNothing_0 19 rfl rfl)
theorem dX9_tellsNothing_21 : decode cX9_tellsNothing 21 = .ok (.iastore, 1) := dk_79 (dk_at dksX9_tellsNothing_0 21 rfl rfl)
theorem dX9_tellsNothing_22 : decode cX9_tellsNothing 22 = .ok (.aload_n 0, 1) := dk_42 (dk_at dksX9_tellsNothing_0 22 rfl rfl)
theorem dX9_tellsNothing_23 : decode cX9_tellsNothing 23 = .ok (.getfield 20, 3) := dk_180 0 20 (dk_at dksX9_tellsNothing_1 0 rfl rfl)
theorem dX9_tellsNothing_26 : decode cX9_tellsNothing 26 = .ok (.iconst 3, 1) := dk_6 (dk_at dksX9_tellsNothing_1 3 rfl rfl)
theorem dX9_tellsNothing_27 : decode cX9_tellsNothing 27 = .ok (.iconst 0, 1) := dk_3 (dk_at dksX9_tellsNothing_1 4 rfl rfl)
theorem dX9_tellsNothing_28 : decode cX9_tellsNothing 28 = .ok (.iastore, 1) := dk_79 (dk_at dksX9_tellsNothing_1 5 rfl rfl)
theorem dX9_tellsNothing_29 : decode cX9_tellsNothing 29 = .ok (.return_, 1) := dk_177 (dk_at dksX9_tellsNothing_1 6 rfl rfl)
def dkwX9_beginsAnew_8 : List UInt8 := [181, 0, 188, 42, 3, 181, 0, 191, 42, 3, 181, 0, 194, 42, 3, 181, 0, 197, 42, 3, 181, 0, 200, 177]
abbrev dktX9_beginsAnew_8 : List UInt8 := dkwX9_beginsAnew_8 ++ []
def dkwX9_beginsAnew_7 : List UInt8 := [16, 56, 42, 180, 0, 23, 4, 46, 79, 42, 180, 0, 61, 16, 57, 42, 180, 0, 23, 5, 46, 79, 42, 3]
abbrev dktX9_beginsAnew_7 : List UInt8 := dkwX9_beginsAnew_7 ++ dktX9_beginsAnew_8
def dkwX9_beginsAnew_6 : List UInt8 := [180, 0, 37, 27, 50, 28, 46, 79, 132, 2, 1, 167, 255, 227, 132, 1, 1, 167, 255, 209, 42, 180, 0, 61]
abbrev dktX9_beginsAnew_6 : List UInt8 := dkwX9_beginsAnew_6 ++ dktX9_beginsAnew_7
def dkwX9_beginsAnew_5 : List UInt8 := [162, 0, 43, 3, 61, 28, 7, 162, 0, 30, 42, 180, 0, 61, 16, 16, 7, 27, 104, 96, 28, 96, 42]
abbrev dktX9_beginsAnew_5 : List UInt8 := dkwX9_beginsAnew_5 ++ dktX9_beginsAnew_6
def dkwX9_beginsAnew_4 : List UInt8 := [42, 180, 0, 37, 42, 180, 0, 23, 4, 46, 184, 0, 184, 3, 60, 27, 42, 180, 0, 23, 4, 46]
abbrev dktX9_beginsAnew_4 : List UInt8 := dkwX9_beginsAnew_4 ++ dktX9_beginsAnew_5
def dkwX9_beginsAnew_3 : List UInt8 := [42, 180, 0, 61, 3, 27, 96, 42, 180, 0, 29, 27, 46, 79, 132, 1, 1, 167, 255, 217, 42, 180, 0, 34]
abbrev dktX9_beginsAnew_3 : List UInt8 := dkwX9_beginsAnew_3 ++ dktX9_beginsAnew_4
def dkwX9_beginsAnew_2 : List UInt8 := [3, 60, 27, 42, 180, 0, 23, 3, 46, 162, 0, 35, 42, 180, 0, 29, 27, 42, 180, 0, 26, 27, 46, 79]
abbrev dktX9_beginsAnew_2 : List UInt8 := dkwX9_beginsAnew_2 ++ dktX9_beginsAnew_3
def dkwX9_beginsAnew_1 : List UInt8 := [167, 255, 236, 3, 60, 27, 16, 60, 162, 0, 16, 42, 180, 0, 61, 27, 3, 79, 132, 1, 1, 167, 255, 240]
abbrev dktX9_beginsAnew_1 : List UInt8 := dkwX9_beginsAnew_1 ++ dktX9_beginsAnew_2
def dkwX9_beginsAnew_0 : List UInt8 := [3, 60, 27, 7, 162, 0, 21, 42, 180, 0, 23, 27, 42, 180, 0, 20, 27, 46, 79, 132, 1, 1]
abbrev dktX9_beginsAnew_0 : List UInt8 := dkwX9_beginsAnew_0 ++ dktX9_beginsAnew_1
theorem dksX9_beginsAnew_0 : cX9_beginsAnew.data.toList.drop 0 = dktX9_beginsAnew_0 := by decide +kernel
theorem dksX9_beginsAnew_1 : cX9_beginsAnew.data.toList.drop 22 = dktX9_beginsAnew_1 := dk_seg dksX9_beginsAnew_0 22 rfl rfl
theorem dksX9_beginsAnew_2 : cX9_beginsAnew.data.toList.drop 46 = dktX9_beginsAnew_2 := dk_seg dksX9_beginsAnew_1 24 rfl rfl
theorem dksX9_beginsAnew_3 : cX9_beginsAnew.data.toList.drop 70 = dktX9_beginsAnew_3 := dk_seg dksX9_beginsAnew_2 24 rfl rfl
theorem dksX9_beginsAnew_4 : cX9_beginsAnew.data.toList.drop 94 = dktX9_beginsAnew_4 := dk_seg dksX9_beginsAnew_3 24 rfl rfl
theorem dksX9_beginsAnew_5 : cX9_beginsAnew.data.toList.drop 116 = dktX9_beginsAnew_5 := dk_seg dksX9_beginsAnew_4 22 rfl rfl
theorem dksX9_beginsAnew_6 : cX9_beginsAnew.data.toList.drop 139 = dktX9_beginsAnew_6 := dk_seg dksX9_beginsAnew_5 23 rfl rfl
theorem dksX9_beginsAnew_7 : cX9_beginsAnew.data.toList.drop 163 = dktX9_beginsAnew_7 := dk_seg dksX9_beginsAnew_6 24 rfl rfl
theorem dksX9_beginsAnew_8 : cX9_beginsAnew.data.toList.drop 187 = dktX9_beginsAnew_8 := dk_seg dksX9_beginsAnew_7 24 rfl rfl
theorem dX9_beginsAnew_0 : decode cX9_beginsAnew 0 = .ok (.iconst 0, 1) := dk_3 (dk_at dksX9_beginsAnew_0 0 rfl rfl)
theorem dX9_beginsAnew_1 : decode cX9_beginsAnew 1 = .ok (.istore_n 1, 1) := dk_60 (dk_at dksX9_beginsAnew_0 1 rfl rfl)
theorem dX9_beginsAnew_2 : decode cX9_beginsAnew 2 = .ok (.iload_n 1, 1) := dk_27 (dk_at dksX9_beginsAnew_0 2 rfl rfl)
theorem dX9_beginsAnew_3 : decode cX9_beginsAnew 3 = .ok (.iconst 4, 1) := dk_7 (dk_at dksX9_beginsAnew_0 3 rfl rfl)
theorem dX9_beginsAnew_4 : decode cX9_beginsAnew 4 = .ok (.if_icmp .ge 21, 3) := dk_162 0 21 (dk_at dksX9_beginsAnew_0 4 rfl rfl)
theorem dX9_beginsAnew_7 : decode cX9_beginsAnew 7 = .ok (.aload_n 0, 1) := dk_42 (dk_at dksX9_beginsAnew_0 7 rfl rfl)
theorem dX9_beginsAnew_8 : decode cX9_beginsAnew 8 = .ok (.getfield 23, 3) := dk_180 0 23 (dk_at dksX9_beginsAnew_0 8 rfl rfl)
theorem dX9_beginsAnew_11 : decode cX9_beginsAnew 11 = .ok (.iload_n 1, 1) := dk_27 (dk_at dksX9_beginsAnew_0 11 rfl rfl)
theorem dX9_beginsAnew_12 : decode cX9_beginsAnew 12 = .ok (.aload_n 0, 1) := dk_42 (dk_at dksX9_beginsAnew_0 12 rfl rfl)
theorem dX9_beginsAnew_13 : decode cX9_beginsAnew 13 = .ok (.getfield 20, 3) := dk_180 0 20 (dk_at dksX9_beginsAnew_0 13 rfl rfl)
theorem dX9_beginsAnew_16 : decode cX9_beginsAnew 16 = .ok (.iload_n 1, 1) := dk_27 (dk_at dksX9_beginsAnew_0 16 rfl rfl)
theorem dX9_beginsAnew_17 : decode cX9_beginsAnew 17 = .ok (.iaload, 1) := dk_46 (dk_at dksX9_beginsAnew_0 17 rfl rfl)
theorem dX9_beginsAnew_18 : decode cX9_beginsAnew 18 = .ok (.iastore, 1) := dk_79 (dk_at dksX9_beginsAnew_0 18 rfl rfl)
theorem dX9_beginsAnew_19 : decode cX9_beginsAnew 19 = .ok (.iinc 1 1, 3) := dk_132 1 1 (dk_at dksX9_beginsAnew_0 19 rfl rfl)
theorem dX9_beginsAnew_22 : decode cX9_beginsAnew 22 = .ok (.goto (-20), 3) := dk_167 255 236 (dk_at dksX9_beginsAnew_1 0 rfl rfl)
theorem dX9_beginsAnew_25 : decode cX9_beginsAnew 25 = .ok (.iconst 0, 1) := dk_3 (dk_at dksX9_beginsAnew_1 3 rfl rfl)
theorem dX9_beginsAnew_26 : decode cX9_beginsAnew 26 = .ok (.istore_n 1, 1) := dk_60 (dk_at dksX9_beginsAnew_1 4 rfl rfl)
theorem dX9_beginsAnew_27 : decode cX9_beginsAnew 27 = .ok (.iload_n 1, 1) := dk_27 (dk_at dksX9_beginsAnew_1 5 rfl rfl)
theorem dX9_beginsAnew_28 : decode cX9_beginsAnew 28 = .ok (.bipush 60, 2) := dk_16 60 (dk_at dksX9_beginsAnew_1 6 rfl rfl)
theorem dX9_beginsAnew_30 : decode cX9_beginsAnew 30 = .ok (.if_icmp .ge 16, 3) := dk_162 0 16 (dk_at dksX9_beginsAnew_1 8 rfl rfl)
theorem dX9_beginsAnew_33 : decode cX9_beginsAnew 33 = .ok (.aload_n 0, 1) := dk_42 (dk_at dksX9_beginsAnew_1 11 rfl rfl)
theorem dX9_beginsAnew_34 : decode cX9_beginsAnew 34 = .ok (.getfield 61, 3) := dk_180 0 61 (dk_at dksX9_beginsAnew_1 12 rfl rfl)
theorem dX9_beginsAnew_37 : decode cX9_beginsAnew 37 = .ok (.iload_n 1, 1) := dk_27 (dk_at dksX9_beginsAnew_1 15 rfl rfl)
theorem dX9_beginsAnew_38 : decode cX9_beginsAnew 38 = .ok (.iconst 0, 1) := dk_3 (dk_at dksX9_beginsAnew_1 16 rfl rfl)
theorem dX9_beginsAnew_39 : decode cX9_beginsAnew 39 = .ok (.iastore, 1) := dk_79 (dk_at dksX9_beginsAnew_1 17 rfl rfl)
theorem dX9_beginsAnew_40 : decode cX9_beginsAnew 40 = .ok (.iinc 1 1, 3) := dk_132 1 1 (dk_at dksX9_beginsAnew_1 18 rfl rfl)
theorem dX9_beginsAnew_43 : decode cX9_beginsAnew 43 = .ok (.goto (-16), 3) := dk_167 255 240 (dk_at dksX9_beginsAnew_1 21 rfl rfl)
theorem dX9_beginsAnew_46 : decode cX9_beginsAnew 46 = .ok (.iconst 0, 1) := dk_3 (dk_at dksX9_beginsAnew_2 0 rfl rfl)
theorem dX9_beginsAnew_47 : decode cX9_beginsAnew 47 = .ok (.istore_n 1, 1) := dk_60 (dk_at dksX9_beginsAnew_2 1 rfl rfl)
theorem dX9_beginsAnew_48 : decode cX9_beginsAnew 48 = .ok (.iload_n 1, 1) := dk_27 (dk_at dksX9_beginsAnew_2 2 rfl rfl)
theorem dX9_beginsAnew_49 : decode cX9_beginsAnew 49 = .ok (.aload_n 0, 1) := dk_42 (dk_at dksX9_beginsAnew_2 3 rfl rfl)
theorem dX9_beginsAnew_50 : decode cX9_beginsAnew 50 = .ok (.getfield 23, 3) := dk_180 0 23 (dk_at dksX9_beginsAnew_2 4 rfl rfl)
theorem dX9_beginsAnew_53 : decode cX9_beginsAnew 53 = .ok (.iconst 0, 1) := dk_3 (dk_at dksX9_beginsAnew_2 7 rfl rfl)
theorem dX9_beginsAnew_54 : decode cX9_beginsAnew 54 = .ok (.iaload, 1) := dk_46 (dk_at dksX9_beginsAnew_2 8 rfl rfl)
theorem dX9_beginsAnew_55 : decode cX9_beginsAnew 55 = .ok (.if_icmp .ge 35, 3) := dk_162 0 35 (dk_at dksX9_beginsAnew_2 9 rfl rfl)
theorem dX9_beginsAnew_58 : decode cX9_beginsAnew 58 = .ok (.aload_n 0, 1) := dk_42 (dk_at dksX9_beginsAnew_2 12 rfl rfl)
theorem dX9_beginsAnew_59 : decode cX9_beginsAnew 59 = .ok (.getfield 29, 3) := dk_180 0 29 (dk_at dksX9_beginsAnew_2 13 rfl rfl)
theorem dX9_beginsAnew_62 : decode cX9_beginsAnew 62 = .ok (.iload_n 1, 1) := dk_27 (dk_at dksX9_beginsAnew_2 16 rfl rfl)
theorem dX9_beginsAnew_63 : decode cX9_beginsAnew 63 = .ok (.aload_n 0, 1) := dk_42 (dk_at dksX9_beginsAnew_2 17 rfl rfl)
theorem dX9_beginsAnew_64 : decode cX9_beginsAnew 64 = .ok (.getfield 26, 3) := dk_180 0 26 (dk_at dksX9_beginsAnew_2 18 rfl rfl)
theorem dX9_beginsAnew_67 : decode cX9_beginsAnew 67 = .ok (.iload_n 1, 1) := dk_27 (dk_at dksX9_beginsAnew_2 21 rfl rfl)
theorem dX9_beginsAnew_68 : decode cX9_beginsAnew 68 = .ok (.iaload, 1) := dk_46 (dk_at dksX9_beginsAnew_2 22 rfl rfl)
theorem dX9_beginsAnew_69 : decode cX9_beginsAnew 69 = .ok (.iastore, 1) := dk_79 (dk_at dksX9_beginsAnew_2 23 rfl rfl)
theorem dX9_beginsAnew_70 : decode cX9_beginsAnew 70 = .ok (.aload_n 0, 1) := dk_42 (dk_at dksX9_beginsAnew_3 0 rfl rfl)
theorem dX9_beginsAnew_71 : decode cX9_beginsAnew 71 = .ok (.getfield 61, 3) := dk_180 0 61 (dk_at dksX9_beginsAnew_3 1 rfl rfl)
theorem dX9_beginsAnew_74 : decode cX9_beginsAnew 74 = .ok (.iconst 0, 1) := dk_3 (dk_at dksX9_beginsAnew_3 4 rfl rfl)
theorem dX9_beginsAnew_75 : decode cX9_beginsAnew 75 = .ok (.iload_n 1, 1) := dk_27 (dk_at dksX9_beginsAnew_3 5 rfl rfl)
theorem dX9_beginsAnew_76 : decode cX9_beginsAnew 76 = .ok (.iadd, 1) := dk_96 (dk_at dksX9_beginsAnew_3 6 rfl rfl)
theorem dX9_beginsAnew_77 : decode cX9_beginsAnew 77 = .ok (.aload_n 0, 1) := dk_42 (dk_at dksX9_beginsAnew_3 7 rfl rfl)
theorem dX9_beginsAnew_78 : decode cX9_beginsAnew 78 = .ok (.getfield 29, 3) := dk_180 0 29 (dk_at dksX9_beginsAnew_3 8 rfl rfl)
theorem dX9_beginsAnew_81 : decode cX9_beginsAnew 81 = .ok (.iload_n 1, 1) := dk_27 (dk_at dksX9_beginsAnew_3 11 rfl rfl)
theorem dX9_beginsAnew_82 : decode cX9_beginsAnew 82 = .ok (.iaload, 1) := dk_46 (dk_at dksX9_beginsAnew_3 12 rfl rfl)
theorem dX9_beginsAnew_83 : decode cX9_beginsAnew 83 = .ok (.iastore, 1) := dk_79 (dk_at dksX9_beginsAnew_3 13 rfl rfl)
theorem dX9_beginsAnew_84 : decode cX9_beginsAnew 84 = .ok (.iinc 1 1, 3) := dk_132 1 1 (dk_at dksX9_beginsAnew_3 14 rfl rfl)
theorem dX9_beginsAnew_87 : decode cX9_beginsAnew 87 = .ok (.goto (-39), 3) := dk_167 255 217 (dk_at dksX9_beginsAnew_3 17 rfl rfl)
theorem dX9_beginsAnew_90 : decode cX9_beginsAnew 90 = .ok (.aload_n 0, 1) := dk_42 (dk_at dksX9_beginsAnew_3 20 rfl rfl)
theorem dX9_beginsAnew_91 : decode cX9_beginsAnew 91 = .ok (.getfield 34, 3) := dk_180 0 34 (dk_at dksX9_beginsAnew_3 21 rfl rfl)
theorem dX9_beginsAnew_94 : decode cX9_beginsAnew 94 = .ok (.aload_n 0, 1) := dk_42 (dk_at dksX9_beginsAnew_4 0 rfl rfl)
theorem dX9_beginsAnew_95 : decode cX9_beginsAnew 95 = .ok (.getfield 37, 3) := dk_180 0 37 (dk_at dksX9_beginsAnew_4 1 rfl rfl)
theorem dX9_beginsAnew_98 : decode cX9_beginsAnew 98 = .ok (.aload_n 0, 1) := dk_42 (dk_at dksX9_beginsAnew_4 4 rfl rfl)
theorem dX9_beginsAnew_99 : decode cX9_beginsAnew 99 = .ok (.getfield 23, 3) := dk_180 0 23 (dk_at dksX9_beginsAnew_4 5 rfl rfl)
theorem dX9_beginsAnew_102 : decode cX9_beginsAnew 102 = .ok (.iconst 1, 1) := dk_4 (dk_at dksX9_beginsAnew_4 8 rfl rfl)
theorem dX9_beginsAnew_103 : decode cX9_beginsAnew 103 = .ok (.iaload, 1) := dk_46 (dk_at dksX9_beginsAnew_4 9 rfl rfl)
theorem dX9_beginsAnew_104 : decode cX9_beginsAnew 104 = .ok (.invokestatic 184, 3) := dk_184 0 184 (dk_at dksX9_beginsAnew_4 10 rfl rfl)
theorem dX9_beginsAnew_107 : decode cX9_beginsAnew 107 = .ok (.iconst 0, 1) := dk_3 (dk_at dksX9_beginsAnew_4 13 rfl rfl)
theorem dX9_beginsAnew_108 : decode cX9_beginsAnew 108 = .ok (.istore_n 1, 1) := dk_60 (dk_at dksX9_beginsAnew_4 14 rfl rfl)
theorem dX9_beginsAnew_109 : decode cX9_beginsAnew 109 = .ok (.iload_n 1, 1) := dk_27 (dk_at dksX9_beginsAnew_4 15 rfl rfl)
theorem dX9_beginsAnew_110 : decode cX9_beginsAnew 110 = .ok (.aload_n 0, 1) := dk_42 (dk_at dksX9_beginsAnew_4 16 rfl rfl)
theorem dX9_beginsAnew_111 : decode cX9_beginsAnew 111 = .ok (.getfield 23, 3) := dk_180 0 23 (dk_at dksX9_beginsAnew_4 17 rfl rfl)
theorem dX9_beginsAnew_114 : decode cX9_beginsAnew 114 = .ok (.iconst 1, 1) := dk_4 (dk_at dksX9_beginsAnew_4 20 rfl rfl)
theorem dX9_beginsAnew_115 : decode cX9_beginsAnew 115 = .ok (.iaload, 1) := dk_46 (dk_at dksX9_beginsAnew_4 21 rfl rfl)
theorem dX9_beginsAnew_116 : decode cX9_beginsAnew 116 = .ok (.if_icmp .ge 43, 3) := dk_162 0 43 (dk_at dksX9_beginsAnew_5 0 rfl rfl)
theorem dX9_beginsAnew_119 : decode cX9_beginsAnew 119 = .ok (.iconst 0, 1) := dk_3 (dk_at dksX9_beginsAnew_5 3 rfl rfl)
theorem dX9_beginsAnew_120 : decode cX9_beginsAnew 120 = .ok (.istore_n 2, 1) := dk_61 (dk_at dksX9_beginsAnew_5 4 rfl rfl)
theorem dX9_beginsAnew_121 : decode cX9_beginsAnew 121 = .ok (.iload_n 2, 1) := dk_28 (dk_at dksX9_beginsAnew_5 5 rfl rfl)
theorem dX9_beginsAnew_122 : decode cX9_beginsAnew 122 = .ok (.iconst 4, 1) := dk_7 (dk_at dksX9_beginsAnew_5 6 rfl rfl)
theorem dX9_beginsAnew_123 : decode cX9_beginsAnew 123 = .ok (.if_icmp .ge 30, 3) := dk_162 0 30 (dk_at dksX9_beginsAnew_5 7 rfl rfl)
theorem dX9_beginsAnew_126 : decode cX9_beginsAnew 126 = .ok (.aload_n 0, 1) := dk_42 (dk_at dksX9_beginsAnew_5 10 rfl rfl)
theorem dX9_beginsAnew_127 : decode cX9_beginsAnew 127 = .ok (.getfield 61, 3) := dk_180 0 61 (dk_at dksX9_beginsAnew_5 11 rfl rfl)
theorem dX9_beginsAnew_130 : decode cX9_beginsAnew 130 = .ok (.bipush 16, 2) := dk_16 16 (dk_at dksX9_beginsAnew_5 14 rfl rfl)
theorem dX9_beginsAnew_132 : decode cX9_beginsAnew 132 = .ok (.iconst 4, 1) := dk_7 (dk_at dksX9_beginsAnew_5 16 rfl rfl)
theorem dX9_beginsAnew_133 : decode cX9_beginsAnew 133 = .ok (.iload_n 1, 1) := dk_27 (dk_at dksX9_beginsAnew_5 17 rfl rfl)
theorem dX9_beginsAnew_134 : decode cX9_beginsAnew 134 = .ok (.imul, 1) := dk_104 (dk_at dksX9_beginsAnew_5 18 rfl rfl)
theorem dX9_beginsAnew_135 : decode cX9_beginsAnew 135 = .ok (.iadd, 1) := dk_96 (dk_at dksX9_beginsAnew_5 19 rfl rfl)
theorem dX9_beginsAnew_136 : decode cX9_beginsAnew 136 = .ok (.iload_n 2, 1) := dk_28 (dk_at dksX9_beginsAnew_5 20 rfl rfl)
theorem dX9_beginsAnew_137 : decode cX9_beginsAnew 137 = .ok (.iadd, 1) := dk_96 (dk_at dksX9_beginsAnew_5 21 rfl rfl)
theorem dX9_beginsAnew_138 : decode cX9_beginsAnew 138 = .ok (.aload_n 0, 1) := dk_42 (dk_at dksX9_beginsAnew_5 22 rfl rfl)
theorem dX9_beginsAnew_139 : decode cX9_beginsAnew 139 = .ok (.getfield 37, 3) := dk_180 0 37 (dk_at dksX9_beginsAnew_6 0 rfl rfl)
theorem dX9_beginsAnew_142 : decode cX9_beginsAnew 142 = .ok (.iload_n 1, 1) := dk_27 (dk_at dksX9_beginsAnew_6 3 rfl rfl)
theorem dX9_beginsAnew_143 : decode cX9_beginsAnew 143 = .ok (.aaload, 1) := dk_50 (dk_at dksX9_beginsAnew_6 4 rfl rfl)
theorem dX9_beginsAnew_144 : decode cX9_beginsAnew 144 = .ok (.iload_n 2, 1) := dk_28 (dk_at dksX9_beginsAnew_6 5 rfl rfl)
theorem dX9_beginsAnew_145 : decode cX9_beginsAnew 145 = .ok (.iaload, 1) := dk_46 (dk_at dksX9_beginsAnew_6 6 rfl rfl)
theorem dX9_beginsAnew_146 : decode cX9_beginsAnew 146 = .ok (.iastore, 1) := dk_79 (dk_at dksX9_beginsAnew_6 7 rfl rfl)
theorem dX9_beginsAnew_147 : decode cX9_beginsAnew 147 = .ok (.iinc 2 1, 3) := dk_132 2 1 (dk_at dksX9_beginsAnew_6 8 rfl rfl)
theorem dX9_beginsAnew_150 : decode cX9_beginsAnew 150 = .ok (.goto (-29), 3) := dk_167 255 227 (dk_at dksX9_beginsAnew_6 11 rfl rfl)
theorem dX9_beginsAnew_153 : decode cX9_beginsAnew 153 = .ok (.iinc 1 1, 3) := dk_132 1 1 (dk_at dksX9_beginsAnew_6 14 rfl rfl)
theorem dX9_beginsAnew_156 : decode cX9_beginsAnew 156 = .ok (.goto (-47), 3) := dk_167 255 209 (dk_at dksX9_beginsAnew_6 17 rfl rfl)
theorem dX9_beginsAnew_159 : decode cX9_beginsAnew 159 = .ok (.aload_n 0, 1) := dk_42 (dk_at dksX9_beginsAnew_6 20 rfl rfl)
theorem dX9_beginsAnew_160 : decode cX9_beginsAnew 160 = .ok (.getfield 61, 3) := dk_180 0 61 (dk_at dksX9_beginsAnew_6 21 rfl rfl)
theorem dX9_beginsAnew_163 : decode cX9_beginsAnew 163 = .ok (.bipush 56, 2) := dk_16 56 (dk_at dksX9_beginsAnew_7 0 rfl rfl)
theorem dX9_beginsAnew_165 : decode cX9_beginsAnew 165 = .ok (.aload_n 0, 1) := dk_42 (dk_at dksX9_beginsAnew_7 2 rfl rfl)
theorem dX9_beginsAnew_166 : decode cX9_beginsAnew 166 = .ok (.getfield 23, 3) := dk_180 0 23 (dk_at dksX9_beginsAnew_7 3 rfl rfl)
theorem dX9_beginsAnew_169 : decode cX9_beginsAnew 169 = .ok (.iconst 1, 1) := dk_4 (dk_at dksX9_beginsAnew_7 6 rfl rfl)
theorem dX9_beginsAnew_170 : decode cX9_beginsAnew 170 = .ok (.iaload, 1) := dk_46 (dk_at dksX9_beginsAnew_7 7 rfl rfl)
theorem dX9_beginsAnew_171 : decode cX9_beginsAnew 171 = .ok (.iastore, 1) := dk_79 (dk_at dksX9_beginsAnew_7 8 rfl rfl)
theorem dX9_beginsAnew_172 : decode cX9_beginsAnew 172 = .ok (.aload_n 0, 1) := dk_42 (dk_at dksX9_beginsAnew_7 9 rfl rfl)
theorem dX9_beginsAnew_173 : decode cX9_beginsAnew 173 = .ok (.getfield 61, 3) := dk_180 0 61 (dk_at dksX9_beginsAnew_7 10 rfl rfl)
theorem dX9_beginsAnew_176 : decode cX9_beginsAnew 176 = .ok (.bipush 57, 2) := dk_16 57 (dk_at dksX9_beginsAnew_7 13 rfl rfl)
theorem dX9_beginsAnew_178 : decode cX9_beginsAnew 178 = .ok (.aload_n 0, 1) := dk_42 (dk_at dksX9_beginsAnew_7 15 rfl rfl)
theorem dX9_beginsAnew_179 : decode cX9_beginsAnew 179 = .ok (.getfield 23, 3) := dk_180 0 23 (dk_at dksX9_beginsAnew_7 16 rfl rfl)
theorem dX9_beginsAnew_182 : decode cX9_beginsAnew 182 = .ok (.iconst 2, 1) := dk_5 (dk_at dksX9_beginsAnew_7 19 rfl rfl)
theorem dX9_beginsAnew_183 : decode cX9_beginsAnew 183 = .ok (.iaload, 1) := dk_46 (dk_at dksX9_beginsAnew_7 20 rfl rfl)
theorem dX9_beginsAnew_184 : decode cX9_beginsAnew 184 = .ok (.iastore, 1) := dk_79 (dk_at dksX9_beginsAnew_7 21 rfl rfl)
theorem dX9_beginsAnew_185 : decode cX9_beginsAnew 185 = .ok (.aload_n 0, 1) := dk_42 (dk_at dksX9_beginsAnew_7 22 rfl rfl)
theorem dX9_beginsAnew_186 : decode cX9_beginsAnew 186 = .ok (.iconst 0, 1) := dk_3 (dk_at dksX9_beginsAnew_7 23 rfl rfl)
theorem dX9_beginsAnew_187 : decode cX9_beginsAnew 187 = .ok (.putfield 188, 3) := dk_181 0 188 (dk_at dksX9_beginsAnew_8 0 rfl rfl)
theorem dX9_beginsAnew_190 : decode cX9_beginsAnew 190 = .ok (.aload_n 0, 1) := dk_42 (dk_at dksX9_beginsAnew_8 3 rfl rfl)
theorem dX9_beginsAnew_191 : decode cX9_beginsAnew 191 = .ok (.iconst 0, 1) := dk_3 (dk_at dksX9_beginsAnew_8 4 rfl rfl)
theorem dX9_beginsAnew_192 : decode cX9_beginsAnew 192 = .ok (.putfield 191, 3) := dk_181 0 191 (dk_at dksX9_beginsAnew_8 5 rfl rfl)
theorem dX9_beginsAnew_195 : decode cX9_beginsAnew 195 = .ok (.aload_n 0, 1) := dk_42 (dk_at dksX9_beginsAnew_8 8 rfl rfl)
theorem dX9_beginsAnew_196 : decode cX9_beginsAnew 196 = .ok (.iconst 0, 1) := dk_3 (dk_at dksX9_beginsAnew_8 9 rfl rfl)
theorem dX9_beginsAnew_197 : decode cX9_beginsAnew 197 = .ok (.putfield 194, 3) := dk_181 0 194 (dk_at dksX9_beginsAnew_8 10 rfl rfl)
theorem dX9_beginsAnew_200 : decode cX9_beginsAnew 200 = .ok (.aload_n 0, 1) := dk_42 (dk_at dksX9_beginsAnew_8 13 rfl rfl)
theorem dX9_beginsAnew_201 : decode cX9_beginsAnew 201 = .ok (.iconst 0, 1) := dk_3 (dk_at dksX9_beginsAnew_8 14 rfl rfl)
theorem dX9_beginsAnew_202 : decode cX9_beginsAnew 202 = .ok (.putfield 197, 3) := dk_181 0 197 (dk_at dksX9_beginsAnew_8 15 rfl rfl)
theorem dX9_beginsAnew_205 : decode cX9_beginsAnew 205 = .ok (.aload_n 0, 1) := dk_42 (dk_at dksX9_beginsAnew_8 18 rfl rfl)
theorem dX9_beginsAnew_206 : decode cX9_beginsAnew 206 = .ok (.iconst 0, 1) := dk_3 (dk_at dksX9_beginsAnew_8 19 rfl rfl)
theorem dX9_beginsAnew_207 : decode cX9_beginsAnew 207 = .ok (.putfield 200, 3) := dk_181 0 200 (dk_at dksX9_beginsAnew_8 20 rfl rfl)
theorem dX9_beginsAnew_210 : decode cX9_beginsAnew 210 = .ok (.return_, 1) := dk_177 (dk_at dksX9_beginsAnew_8 23 rfl rfl)
def dkwX9_lays_1 : List UInt8 := [42, 29, 50, 21, 4, 46, 79, 132, 4, 1, 167, 255, 232, 132, 3, 1, 167, 255, 218, 177]
abbrev dktX9_lays_1 : List UInt8 := dkwX9_lays_1 ++ []
def dkwX9_lays_0 : List UInt8 := [3, 62, 29, 28, 162, 0, 39, 3, 54, 4, 21, 4, 43, 29, 50, 190, 162, 0, 21, 43, 29, 50, 21, 4]
abbrev dktX9_lays_0 : List UInt8 := dkwX9_lays_0 ++ dktX9_lays_1
theorem dksX9_lays_0 : cX9_lays.data.toList.drop 0 = dktX9_lays_0 := by decide +kernel
theorem dksX9_lays_1 : cX9_lays.data.toList.drop 24 = dktX9_lays_1 := dk_seg dksX9_lays_0 24 rfl rfl
theorem dX9_lays_0 : decode cX9_lays 0 = .ok (.iconst 0, 1) := dk_3 (dk_at dksX9_lays_0 0 rfl rfl)
theorem dX9_lays_1 : decode cX9_lays 1 = .ok (.istore_n 3, 1) := dk_62 (dk_at dksX9_lays_0 1 rfl rfl)
theorem dX9_lays_2 : decode cX9_lays 2 = .ok (.iload_n 3, 1) := dk_29 (dk_at dksX9_lays_0 2 rfl rfl)
theorem dX9_lays_3 : decode cX9_lays 3 = .ok (.iload_n 2, 1) := dk_28 (dk_at dksX9_lays_0 3 rfl rfl)
theorem dX9_lays_4 : decode cX9_lays 4 = .ok (.if_icmp .ge 39, 3) := dk_162 0 39 (dk_at dksX9_lays_0 4 rfl rfl)
theorem dX9_lays_7 : decode cX9_lays 7 = .ok (.iconst 0, 1) := dk_3 (dk_at dksX9_lays_0 7 rfl rfl)
theorem dX9_lays_8 : decode cX9_lays 8 = .ok (.istore 4, 2) := dk_54 4 (dk_at dksX9_lays_0 8 rfl rfl)
theorem dX9_lays_10 : decode cX9_lays 10 = .ok (.iload 4, 2) := dk_21 4 (dk_at dksX9_lays_0 10 rfl rfl)
theorem dX9_lays_12 : decode cX9_lays 12 = .ok (.aload_n 1, 1) := dk_43 (dk_at dksX9_lays_0 12 rfl rfl)
theorem dX9_lays_13 : decode cX9_lays 13 = .ok (.iload_n 3, 1) := dk_29 (dk_at dksX9_lays_0 13 rfl rfl)
theorem dX9_lays_14 : decode cX9_lays 14 = .ok (.aaload, 1) := dk_50 (dk_at dksX9_lays_0 14 rfl rfl)
theorem dX9_lays_15 : decode cX9_lays 15 = .ok (.arraylength, 1) := dk_190 (dk_at dksX9_lays_0 15 rfl rfl)
theorem dX9_lays_16 : decode cX9_lays 16 = .ok (.if_icmp .ge 21, 3) := dk_162 0 21 (dk_at dksX9_lays_0 16 rfl rfl)
theorem dX9_lays_19 : decode cX9_lays 19 = .ok (.aload_n 1, 1) := dk_43 (dk_at dksX9_lays_0 19 rfl rfl)
theorem dX9_lays_20 : decode cX9_lays 20 = .ok (.iload_n 3, 1) := dk_29 (dk_at dksX9_lays_0 20 rfl rfl)
theorem dX9_lays_21 : decode cX9_lays 21 = .ok (.aaload, 1) := dk_50 (dk_at dksX9_lays_0 21 rfl rfl)
theorem dX9_lays_22 : decode cX9_lays 22 = .ok (.iload 4, 2) := dk_21 4 (dk_at dksX9_lays_0 22 rfl rfl)
theorem dX9_lays_24 : decode cX9_lays 24 = .ok (.aload_n 0, 1) := dk_42 (dk_at dksX9_lays_1 0 rfl rfl)
theorem dX9_lays_25 : decode cX9_lays 25 = .ok (.iload_n 3, 1) := dk_29 (dk_at dksX9_lays_1 1 rfl rfl)
theorem dX9_lays_26 : decode cX9_lays 26 = .ok (.aaload, 1) := dk_50 (dk_at dksX9_lays_1 2 rfl rfl)
theorem dX9_lays_27 : decode cX9_lays 27 = .ok (.iload 4, 2) := dk_21 4 (dk_at dksX9_lays_1 3 rfl rfl)
theorem dX9_lays_29 : decode cX9_lays 29 = .ok (.iaload, 1) := dk_46 (dk_at dksX9_lays_1 5 rfl rfl)
theorem dX9_lays_30 : decode cX9_lays 30 = .ok (.iastore, 1) := dk_79 (dk_at dksX9_lays_1 6 rfl rfl)
theorem dX9_lays_31 : decode cX9_lays 31 = .ok (.iinc 4 1, 3) := dk_132 4 1 (dk_at dksX9_lays_1 7 rfl rfl)
theorem dX9_lays_34 : decode cX9_lays 34 = .ok (.goto (-24), 3) := dk_167 255 232 (dk_at dksX9_lays_1 10 rfl rfl)
theorem dX9_lays_37 : decode cX9_lays 37 = .ok (.iinc 3 1, 3) := dk_132 3 1 (dk_at dksX9_lays_1 13 rfl rfl)
theorem dX9_lays_40 : decode cX9_lays 40 = .ok (.goto (-38), 3) := dk_167 255 218 (dk_at dksX9_lays_1 16 rfl rfl)
theorem dX9_lays_43 : decode cX9_lays 43 = .ok (.return_, 1) := dk_177 (dk_at dksX9_lays_1 19 rfl rfl)
theorem dX9_thrown_0 : decode cX9_thrown 0 = .ok (.aload_n 0, 1) := by decide +kernel
theorem dX9_thrown_1 : decode cX9_thrown 1 = .ok (.getfield 92, 3) := by decide +kernel
theorem dX9_thrown_4 : decode cX9_thrown 4 = .ok (.ireturn, 1) := by decide +kernel
def dkwX9_feed_5 : List UInt8 := [167, 255, 162, 42, 180, 0, 95, 172]
abbrev dktX9_feed_5 : List UInt8 := dkwX9_feed_5 ++ []
def dkwX9_feed_4 : List UInt8 := [112, 104, 100, 122, 17, 0, 255, 126, 79, 42, 89, 180, 0, 95, 4, 96, 181, 0, 95, 132, 6, 1]
abbrev dktX9_feed_4 : List UInt8 := dkwX9_feed_4 ++ dktX9_feed_5
def dkwX9_feed_3 : List UInt8 := [167, 0, 5, 21, 5, 54, 7, 42, 180, 0, 13, 42, 180, 0, 95, 21, 7, 16, 24, 16, 8, 21, 6, 7]
abbrev dktX9_feed_3 : List UInt8 := dkwX9_feed_3 ++ dktX9_feed_4
def dkwX9_feed_2 : List UInt8 := [28, 167, 0, 28, 21, 6, 16, 12, 162, 0, 7, 29, 167, 0, 17, 21, 6, 16, 16, 162, 0, 8, 21, 4]
abbrev dktX9_feed_2 : List UInt8 := dkwX9_feed_2 ++ dktX9_feed_3
def dkwX9_feed_1 : List UInt8 := [21, 6, 16, 20, 162, 0, 93, 21, 6, 7, 162, 0, 7, 27, 167, 0, 39, 21, 6, 16, 8, 162, 0, 7]
abbrev dktX9_feed_1 : List UInt8 := dkwX9_feed_1 ++ dktX9_feed_2
def dkwX9_feed_0 : List UInt8 := [42, 3, 181, 0, 92, 42, 180, 0, 95, 16, 20, 96, 17, 2, 88, 164, 0, 5, 2, 172, 3, 54, 6]
abbrev dktX9_feed_0 : List UInt8 := dkwX9_feed_0 ++ dktX9_feed_1
theorem dksX9_feed_0 : cX9_feed.data.toList.drop 0 = dktX9_feed_0 := by decide +kernel
theorem dksX9_feed_1 : cX9_feed.data.toList.drop 23 = dktX9_feed_1 := dk_seg dksX9_feed_0 23 rfl rfl
theorem dksX9_feed_2 : cX9_feed.data.toList.drop 47 = dktX9_feed_2 := dk_seg dksX9_feed_1 24 rfl rfl
theorem dksX9_feed_3 : cX9_feed.data.toList.drop 71 = dktX9_feed_3 := dk_seg dksX9_feed_2 24 rfl rfl
theorem dksX9_feed_4 : cX9_feed.data.toList.drop 95 = dktX9_feed_4 := dk_seg dksX9_feed_3 24 rfl rfl
theorem dksX9_feed_5 : cX9_feed.data.toList.drop 117 = dktX9_feed_5 := dk_seg dksX9_feed_4 22 rfl rfl
theorem dX9_feed_0 : decode cX9_feed 0 = .ok (.aload_n 0, 1) := dk_42 (dk_at dksX9_feed_0 0 rfl rfl)
theorem dX9_feed_1 : decode cX9_feed 1 = .ok (.iconst 0, 1) := dk_3 (dk_at dksX9_feed_0 1 rfl rfl)
theorem dX9_feed_2 : decode cX9_feed 2 = .ok (.putfield 92, 3) := dk_181 0 92 (dk_at dksX9_feed_0 2 rfl rfl)
theorem dX9_feed_5 : decode cX9_feed 5 = .ok (.aload_n 0, 1) := dk_42 (dk_at dksX9_feed_0 5 rfl rfl)
theorem dX9_feed_6 : decode cX9_feed 6 = .ok (.getfield 95, 3) := dk_180 0 95 (dk_at dksX9_feed_0 6 rfl rfl)
theorem dX9_feed_9 : decode cX9_feed 9 = .ok (.bipush 20, 2) := dk_16 20 (dk_at dksX9_feed_0 9 rfl rfl)
theorem dX9_feed_11 : decode cX9_feed 11 = .ok (.iadd, 1) := dk_96 (dk_at dksX9_feed_0 11 rfl rfl)
theorem dX9_feed_12 : decode cX9_feed 12 = .ok (.sipush 600, 3) := dk_17 2 88 (dk_at dksX9_feed_0 12 rfl rfl)
theorem dX9_feed_15 : decode cX9_feed 15 = .ok (.if_icmp .le 5, 3) := dk_164 0 5 (dk_at dksX9_feed_0 15 rfl rfl)
theorem dX9_feed_18 : decode cX9_feed 18 = .ok (.iconst (-1), 1) := dk_2 (dk_at dksX9_feed_0 18 rfl rfl)
theorem dX9_feed_19 : decode cX9_feed 19 = .ok (.ireturn, 1) := dk_172 (dk_at dksX9_feed_0 19 rfl rfl)
theorem dX9_feed_20 : decode cX9_feed 20 = .ok (.iconst 0, 1) := dk_3 (dk_at dksX9_feed_0 20 rfl rfl)
theorem dX9_feed_21 : decode cX9_feed 21 = .ok (.istore 6, 2) := dk_54 6 (dk_at dksX9_feed_0 21 rfl rfl)
theorem dX9_feed_23 : decode cX9_feed 23 = .ok (.iload 6, 2) := dk_21 6 (dk_at dksX9_feed_1 0 rfl rfl)
theorem dX9_feed_25 : decode cX9_feed 25 = .ok (.bipush 20, 2) := dk_16 20 (dk_at dksX9_feed_1 2 rfl rfl)
theorem dX9_feed_27 : decode cX9_feed 27 = .ok (.if_icmp .ge 93, 3) := dk_162 0 93 (dk_at dksX9_feed_1 4 rfl rfl)
theorem dX9_feed_30 : decode cX9_feed 30 = .ok (.iload 6, 2) := dk_21 6 (dk_at dksX9_feed_1 7 rfl rfl)
theorem dX9_feed_32 : decode cX9_feed 32 = .ok (.iconst 4, 1) := dk_7 (dk_at dksX9_feed_1 9 rfl rfl)
theorem dX9_feed_33 : decode cX9_feed 33 = .ok (.if_icmp .ge 7, 3) := dk_162 0 7 (dk_at dksX9_feed_1 10 rfl rfl)
theorem dX9_feed_36 : decode cX9_feed 36 = .ok (.iload_n 1, 1) := dk_27 (dk_at dksX9_feed_1 13 rfl rfl)
theorem dX9_feed_37 : decode cX9_feed 37 = .ok (.goto 39, 3) := dk_167 0 39 (dk_at dksX9_feed_1 14 rfl rfl)
theorem dX9_feed_40 : decode cX9_feed 40 = .ok (.iload 6, 2) := dk_21 6 (dk_at dksX9_feed_1 17 rfl rfl)
theorem dX9_feed_42 : decode cX9_feed 42 = .ok (.bipush 8, 2) := dk_16 8 (dk_at dksX9_feed_1 19 rfl rfl)
theorem dX9_feed_44 : decode cX9_feed 44 = .ok (.if_icmp .ge 7, 3) := dk_162 0 7 (dk_at dksX9_feed_1 21 rfl rfl)
theorem dX9_feed_47 : decode cX9_feed 47 = .ok (.iload_n 2, 1) := dk_28 (dk_at dksX9_feed_2 0 rfl rfl)
theorem dX9_feed_48 : decode cX9_feed 48 = .ok (.goto 28, 3) := dk_167 0 28 (dk_at dksX9_feed_2 1 rfl rfl)
theorem dX9_feed_51 : decode cX9_feed 51 = .ok (.iload 6, 2) := dk_21 6 (dk_at dksX9_feed_2 4 rfl rfl)
theorem dX9_feed_53 : decode cX9_feed 53 = .ok (.bipush 12, 2) := dk_16 12 (dk_at dksX9_feed_2 6 rfl rfl)
theorem dX9_feed_55 : decode cX9_feed 55 = .ok (.if_icmp .ge 7, 3) := dk_162 0 7 (dk_at dksX9_feed_2 8 rfl rfl)
theorem dX9_feed_58 : decode cX9_feed 58 = .ok (.iload_n 3, 1) := dk_29 (dk_at dksX9_feed_2 11 rfl rfl)
theorem dX9_feed_59 : decode cX9_feed 59 = .ok (.goto 17, 3) := dk_167 0 17 (dk_at dksX9_feed_2 12 rfl rfl)
theorem dX9_feed_62 : decode cX9_feed 62 = .ok (.iload 6, 2) := dk_21 6 (dk_at dksX9_feed_2 15 rfl rfl)
theorem dX9_feed_64 : decode cX9_feed 64 = .ok (.bipush 16, 2) := dk_16 16 (dk_at dksX9_feed_2 17 rfl rfl)
theorem dX9_feed_66 : decode cX9_feed 66 = .ok (.if_icmp .ge 8, 3) := dk_162 0 8 (dk_at dksX9_feed_2 19 rfl rfl)
theorem dX9_feed_69 : decode cX9_feed 69 = .ok (.iload 4, 2) := dk_21 4 (dk_at dksX9_feed_2 22 rfl rfl)
theorem dX9_feed_71 : decode cX9_feed 71 = .ok (.goto 5, 3) := dk_167 0 5 (dk_at dksX9_feed_3 0 rfl rfl)
theorem dX9_feed_74 : decode cX9_feed 74 = .ok (.iload 5, 2) := dk_21 5 (dk_at dksX9_feed_3 3 rfl rfl)
theorem dX9_feed_76 : decode cX9_feed 76 = .ok (.istore 7, 2) := dk_54 7 (dk_at dksX9_feed_3 5 rfl rfl)
theorem dX9_feed_78 : decode cX9_feed 78 = .ok (.aload_n 0, 1) := dk_42 (dk_at dksX9_feed_3 7 rfl rfl)
theorem dX9_feed_79 : decode cX9_feed 79 = .ok (.getfield 13, 3) := dk_180 0 13 (dk_at dksX9_feed_3 8 rfl rfl)
theorem dX9_feed_82 : decode cX9_feed 82 = .ok (.aload_n 0, 1) := dk_42 (dk_at dksX9_feed_3 11 rfl rfl)
theorem dX9_feed_83 : decode cX9_feed 83 = .ok (.getfield 95, 3) := dk_180 0 95 (dk_at dksX9_feed_3 12 rfl rfl)
theorem dX9_feed_86 : decode cX9_feed 86 = .ok (.iload 7, 2) := dk_21 7 (dk_at dksX9_feed_3 15 rfl rfl)
theorem dX9_feed_88 : decode cX9_feed 88 = .ok (.bipush 24, 2) := dk_16 24 (dk_at dksX9_feed_3 17 rfl rfl)
theorem dX9_feed_90 : decode cX9_feed 90 = .ok (.bipush 8, 2) := dk_16 8 (dk_at dksX9_feed_3 19 rfl rfl)
theorem dX9_feed_92 : decode cX9_feed 92 = .ok (.iload 6, 2) := dk_21 6 (dk_at dksX9_feed_3 21 rfl rfl)
theorem dX9_feed_94 : decode cX9_feed 94 = .ok (.iconst 4, 1) := dk_7 (dk_at dksX9_feed_3 23 rfl rfl)
theorem dX9_feed_95 : decode cX9_feed 95 = .ok (.irem, 1) := dk_112 (dk_at dksX9_feed_4 0 rfl rfl)
theorem dX9_feed_96 : decode cX9_feed 96 = .ok (.imul, 1) := dk_104 (dk_at dksX9_feed_4 1 rfl rfl)
theorem dX9_feed_97 : decode cX9_feed 97 = .ok (.isub, 1) := dk_100 (dk_at dksX9_feed_4 2 rfl rfl)
theorem dX9_feed_98 : decode cX9_feed 98 = .ok (.ishr, 1) := dk_122 (dk_at dksX9_feed_4 3 rfl rfl)
theorem dX9_feed_99 : decode cX9_feed 99 = .ok (.sipush 255, 3) := dk_17 0 255 (dk_at dksX9_feed_4 4 rfl rfl)
theorem dX9_feed_102 : decode cX9_feed 102 = .ok (.iand, 1) := dk_126 (dk_at dksX9_feed_4 7 rfl rfl)
theorem dX9_feed_103 : decode cX9_feed 103 = .ok (.iastore, 1) := dk_79 (dk_at dksX9_feed_4 8 rfl rfl)
theorem dX9_feed_104 : decode cX9_feed 104 = .ok (.aload_n 0, 1) := dk_42 (dk_at dksX9_feed_4 9 rfl rfl)
theorem dX9_feed_105 : decode cX9_feed 105 = .ok (.dup, 1) := dk_89 (dk_at dksX9_feed_4 10 rfl rfl)
theorem dX9_feed_106 : decode cX9_feed 106 = .ok (.getfield 95, 3) := dk_180 0 95 (dk_at dksX9_feed_4 11 rfl rfl)
theorem dX9_feed_109 : decode cX9_feed 109 = .ok (.iconst 1, 1) := dk_4 (dk_at dksX9_feed_4 14 rfl rfl)
theorem dX9_feed_110 : decode cX9_feed 110 = .ok (.iadd, 1) := dk_96 (dk_at dksX9_feed_4 15 rfl rfl)
theorem dX9_feed_111 : decode cX9_feed 111 = .ok (.putfield 95, 3) := dk_181 0 95 (dk_at dksX9_feed_4 16 rfl rfl)
theorem dX9_feed_114 : decode cX9_feed 114 = .ok (.iinc 6 1, 3) := dk_132 6 1 (dk_at dksX9_feed_4 19 rfl rfl)
theorem dX9_feed_117 : decode cX9_feed 117 = .ok (.goto (-94), 3) := dk_167 255 162 (dk_at dksX9_feed_5 0 rfl rfl)
theorem dX9_feed_120 : decode cX9_feed 120 = .ok (.aload_n 0, 1) := dk_42 (dk_at dksX9_feed_5 3 rfl rfl)
theorem dX9_feed_121 : decode cX9_feed 121 = .ok (.getfield 95, 3) := dk_180 0 95 (dk_at dksX9_feed_5 4 rfl rfl)
theorem dX9_feed_124 : decode cX9_feed 124 = .ok (.ireturn, 1) := dk_172 (dk_at dksX9_feed_5 7 rfl rfl)
def dkwX9_market_4 : List UInt8 := [42, 180, 0, 23, 3, 46, 172]
abbrev dktX9_market_4 : List UInt8 := dkwX9_market_4 ++ []
def dkwX9_market_3 : List UInt8 := [167, 255, 230, 42, 180, 0, 108, 153, 0, 8, 42, 182, 0, 181, 172, 42, 2, 181, 0, 9, 42, 182, 0, 89]
abbrev dktX9_market_3 : List UInt8 := dkwX9_market_3 ++ dktX9_market_4
def dkwX9_market_2 : List UInt8 := [154, 0, 25, 42, 180, 0, 101, 42, 180, 0, 98, 162, 0, 14, 42, 182, 0, 178, 42, 182, 0, 114]
abbrev dktX9_market_2 : List UInt8 := dkwX9_market_2 ++ dktX9_market_3
def dkwX9_market_1 : List UInt8 := [4, 182, 0, 171, 153, 0, 5, 3, 172, 42, 27, 182, 0, 175, 42, 182, 0, 86, 42, 180, 0, 108]
abbrev dktX9_market_1 : List UInt8 := dkwX9_market_1 ++ dktX9_market_2
def dkwX9_market_0 : List UInt8 := [42, 3, 181, 0, 92, 42, 27, 3, 42, 180, 0, 95, 184, 0, 126, 154, 0, 7, 4, 167, 0, 4, 3, 4]
abbrev dktX9_market_0 : List UInt8 := dkwX9_market_0 ++ dktX9_market_1
theorem dksX9_market_0 : cX9_market.data.toList.drop 0 = dktX9_market_0 := by decide +kernel
theorem dksX9_market_1 : cX9_market.data.toList.drop 24 = dktX9_market_1 := dk_seg dksX9_market_0 24 rfl rfl
theorem dksX9_market_2 : cX9_market.data.toList.drop 46 = dktX9_market_2 := dk_seg dksX9_market_1 22 rfl rfl
theorem dksX9_market_3 : cX9_market.data.toList.drop 68 = dktX9_market_3 := dk_seg dksX9_market_2 22 rfl rfl
theorem dksX9_market_4 : cX9_market.data.toList.drop 92 = dktX9_market_4 := dk_seg dksX9_market_3 24 rfl rfl
theorem dX9_market_0 : decode cX9_market 0 = .ok (.aload_n 0, 1) := dk_42 (dk_at dksX9_market_0 0 rfl rfl)
theorem dX9_market_1 : decode cX9_market 1 = .ok (.iconst 0, 1) := dk_3 (dk_at dksX9_market_0 1 rfl rfl)
theorem dX9_market_2 : decode cX9_market 2 = .ok (.putfield 92, 3) := dk_181 0 92 (dk_at dksX9_market_0 2 rfl rfl)
theorem dX9_market_5 : decode cX9_market 5 = .ok (.aload_n 0, 1) := dk_42 (dk_at dksX9_market_0 5 rfl rfl)
theorem dX9_market_6 : decode cX9_market 6 = .ok (.iload_n 1, 1) := dk_27 (dk_at dksX9_market_0 6 rfl rfl)
theorem dX9_market_7 : decode cX9_market 7 = .ok (.iconst 0, 1) := dk_3 (dk_at dksX9_market_0 7 rfl rfl)
theorem dX9_market_8 : decode cX9_market 8 = .ok (.aload_n 0, 1) := dk_42 (dk_at dksX9_market_0 8 rfl rfl)
theorem dX9_market_9 : decode cX9_market 9 = .ok (.getfield 95, 3) := dk_180 0 95 (dk_at dksX9_market_0 9 rfl rfl)
theorem dX9_market_12 : decode cX9_market 12 = .ok (.invokestatic 126, 3) := dk_184 0 126 (dk_at dksX9_market_0 12 rfl rfl)
theorem dX9_market_15 : decode cX9_market 15 = .ok (.ifCond .ne 7, 3) := dk_154 0 7 (dk_at dksX9_market_0 15 rfl rfl)
theorem dX9_market_18 : decode cX9_market 18 = .ok (.iconst 1, 1) := dk_4 (dk_at dksX9_market_0 18 rfl rfl)
theorem dX9_market_19 : decode cX9_market 19 = .ok (.goto 4, 3) := dk_167 0 4 (dk_at dksX9_market_0 19 rfl rfl)
theorem dX9_market_22 : decode cX9_market 22 = .ok (.iconst 0, 1) := dk_3 (dk_at dksX9_market_0 22 rfl rfl)
theorem dX9_market_23 : decode cX9_market 23 = .ok (.iconst 1, 1) := dk_4 (dk_at dksX9_market_0 23 rfl rfl)
theorem dX9_market_24 : decode cX9_market 24 = .ok (.iconst 1, 1) := dk_4 (dk_at dksX9_market_1 0 rfl rfl)
theorem dX9_market_25 : decode cX9_market 25 = .ok (.invokevirtual 171, 3) := dk_182 0 171 (dk_at dksX9_market_1 1 rfl rfl)
theorem dX9_market_28 : decode cX9_market 28 = .ok (.ifCond .eq 5, 3) := dk_153 0 5 (dk_at dksX9_market_1 4 rfl rfl)
theorem dX9_market_31 : decode cX9_market 31 = .ok (.iconst 0, 1) := dk_3 (dk_at dksX9_market_1 7 rfl rfl)
theorem dX9_market_32 : decode cX9_market 32 = .ok (.ireturn, 1) := dk_172 (dk_at dksX9_market_1 8 rfl rfl)
theorem dX9_market_33 : decode cX9_market 33 = .ok (.aload_n 0, 1) := dk_42 (dk_at dksX9_market_1 9 rfl rfl)
theorem dX9_market_34 : decode cX9_market 34 = .ok (.iload_n 1, 1) := dk_27 (dk_at dksX9_market_1 10 rfl rfl)
theorem dX9_market_35 : decode cX9_market 35 = .ok (.invokevirtual 175, 3) := dk_182 0 175 (dk_at dksX9_market_1 11 rfl rfl)
theorem dX9_market_38 : decode cX9_market 38 = .ok (.aload_n 0, 1) := dk_42 (dk_at dksX9_market_1 14 rfl rfl)
theorem dX9_market_39 : decode cX9_market 39 = .ok (.invokevirtual 86, 3) := dk_182 0 86 (dk_at dksX9_market_1 15 rfl rfl)
theorem dX9_market_42 : decode cX9_market 42 = .ok (.aload_n 0, 1) := dk_42 (dk_at dksX9_market_1 18 rfl rfl)
theorem dX9_market_43 : decode cX9_market 43 = .ok (.getfield 108, 3) := dk_180 0 108 (dk_at dksX9_market_1 19 rfl rfl)
theorem dX9_market_46 : decode cX9_market 46 = .ok (.ifCond .ne 25, 3) := dk_154 0 25 (dk_at dksX9_market_2 0 rfl rfl)
theorem dX9_market_49 : decode cX9_market 49 = .ok (.aload_n 0, 1) := dk_42 (dk_at dksX9_market_2 3 rfl rfl)
theorem dX9_market_50 : decode cX9_market 50 = .ok (.getfield 101, 3) := dk_180 0 101 (dk_at dksX9_market_2 4 rfl rfl)
theorem dX9_market_53 : decode cX9_market 53 = .ok (.aload_n 0, 1) := dk_42 (dk_at dksX9_market_2 7 rfl rfl)
theorem dX9_market_54 : decode cX9_market 54 = .ok (.getfield 98, 3) := dk_180 0 98 (dk_at dksX9_market_2 8 rfl rfl)
theorem dX9_market_57 : decode cX9_market 57 = .ok (.if_icmp .ge 14, 3) := dk_162 0 14 (dk_at dksX9_market_2 11 rfl rfl)
theorem dX9_market_60 : decode cX9_market 60 = .ok (.aload_n 0, 1) := dk_42 (dk_at dksX9_market_2 14 rfl rfl)
theorem dX9_market_61 : decode cX9_market 61 = .ok (.invokevirtual 178, 3) := dk_182 0 178 (dk_at dksX9_market_2 15 rfl rfl)
theorem dX9_market_64 : decode cX9_market 64 = .ok (.aload_n 0, 1) := dk_42 (dk_at dksX9_market_2 18 rfl rfl)
theorem dX9_market_65 : decode cX9_market 65 = .ok (.invokevirtual 114, 3) := dk_182 0 114 (dk_at dksX9_market_2 19 rfl rfl)
theorem dX9_market_68 : decode cX9_market 68 = .ok (.goto (-26), 3) := dk_167 255 230 (dk_at dksX9_market_3 0 rfl rfl)
theorem dX9_market_71 : decode cX9_market 71 = .ok (.aload_n 0, 1) := dk_42 (dk_at dksX9_market_3 3 rfl rfl)
theorem dX9_market_72 : decode cX9_market 72 = .ok (.getfield 108, 3) := dk_180 0 108 (dk_at dksX9_market_3 4 rfl rfl)
theorem dX9_market_75 : decode cX9_market 75 = .ok (.ifCond .eq 8, 3) := dk_153 0 8 (dk_at dksX9_market_3 7 rfl rfl)
theorem dX9_market_78 : decode cX9_market 78 = .ok (.aload_n 0, 1) := dk_42 (dk_at dksX9_market_3 10 rfl rfl)
theorem dX9_market_79 : decode cX9_market 79 = .ok (.invokevirtual 181, 3) := dk_182 0 181 (dk_at dksX9_market_3 11 rfl rfl)
theorem dX9_market_82 : decode cX9_market 82 = .ok (.ireturn, 1) := dk_172 (dk_at dksX9_market_3 14 rfl rfl)
theorem dX9_market_83 : decode cX9_market 83 = .ok (.aload_n 0, 1) := dk_42 (dk_at dksX9_market_3 15 rfl rfl)
theorem dX9_market_84 : decode cX9_market 84 = .ok (.iconst (-1), 1) := dk_2 (dk_at dksX9_market_3 16 rfl rfl)
theorem dX9_market_85 : decode cX9_market 85 = .ok (.putfield 9, 3) := dk_181 0 9 (dk_at dksX9_market_3 17 rfl rfl)
theorem dX9_market_88 : decode cX9_market 88 = .ok (.aload_n 0, 1) := dk_42 (dk_at dksX9_market_3 20 rfl rfl)
theorem dX9_market_89 : decode cX9_market 89 = .ok (.invokevirtual 89, 3) := dk_182 0 89 (dk_at dksX9_market_3 21 rfl rfl)
theorem dX9_market_92 : decode cX9_market 92 = .ok (.aload_n 0, 1) := dk_42 (dk_at dksX9_market_4 0 rfl rfl)
theorem dX9_market_93 : decode cX9_market 93 = .ok (.getfield 23, 3) := dk_180 0 23 (dk_at dksX9_market_4 1 rfl rfl)
theorem dX9_market_96 : decode cX9_market 96 = .ok (.iconst 0, 1) := dk_3 (dk_at dksX9_market_4 4 rfl rfl)
theorem dX9_market_97 : decode cX9_market 97 = .ok (.iaload, 1) := dk_46 (dk_at dksX9_market_4 5 rfl rfl)
theorem dX9_market_98 : decode cX9_market 98 = .ok (.ireturn, 1) := dk_172 (dk_at dksX9_market_4 6 rfl rfl)
def dkwX9_in_0 : List UInt8 := [26, 27, 161, 0, 12, 26, 28, 163, 0, 7, 4, 167, 0, 4, 3, 172]
abbrev dktX9_in_0 : List UInt8 := dkwX9_in_0 ++ []
theorem dksX9_in_0 : cX9_in.data.toList.drop 0 = dktX9_in_0 := by decide +kernel
theorem dX9_in_0 : decode cX9_in 0 = .ok (.iload_n 0, 1) := dk_26 (dk_at dksX9_in_0 0 rfl rfl)
theorem dX9_in_1 : decode cX9_in 1 = .ok (.iload_n 1, 1) := dk_27 (dk_at dksX9_in_0 1 rfl rfl)
theorem dX9_in_2 : decode cX9_in 2 = .ok (.if_icmp .lt 12, 3) := dk_161 0 12 (dk_at dksX9_in_0 2 rfl rfl)
theorem dX9_in_5 : decode cX9_in 5 = .ok (.iload_n 0, 1) := dk_26 (dk_at dksX9_in_0 5 rfl rfl)
theorem dX9_in_6 : decode cX9_in 6 = .ok (.iload_n 2, 1) := dk_28 (dk_at dksX9_in_0 6 rfl rfl)
theorem dX9_in_7 : decode cX9_in 7 = .ok (.if_icmp .gt 7, 3) := dk_163 0 7 (dk_at dksX9_in_0 7 rfl rfl)
theorem dX9_in_10 : decode cX9_in 10 = .ok (.iconst 1, 1) := dk_4 (dk_at dksX9_in_0 10 rfl rfl)
theorem dX9_in_11 : decode cX9_in 11 = .ok (.goto 4, 3) := dk_167 0 4 (dk_at dksX9_in_0 11 rfl rfl)
theorem dX9_in_14 : decode cX9_in 14 = .ok (.iconst 0, 1) := dk_3 (dk_at dksX9_in_0 14 rfl rfl)
theorem dX9_in_15 : decode cX9_in 15 = .ok (.ireturn, 1) := dk_172 (dk_at dksX9_in_0 15 rfl rfl)
def dkwX9_bad_1 : List UInt8 := [96, 79, 42, 180, 0, 92, 153, 0, 7, 4, 167, 0, 4, 3, 172]
abbrev dktX9_bad_1 : List UInt8 := dkwX9_bad_1 ++ []
def dkwX9_bad_0 : List UInt8 := [27, 153, 0, 25, 42, 180, 0, 92, 154, 0, 18, 42, 28, 181, 0, 92, 42, 180, 0, 17, 29, 92, 46, 4]
abbrev dktX9_bad_0 : List UInt8 := dkwX9_bad_0 ++ dktX9_bad_1
theorem dksX9_bad_0 : cX9_bad.data.toList.drop 0 = dktX9_bad_0 := by decide +kernel
theorem dksX9_bad_1 : cX9_bad.data.toList.drop 24 = dktX9_bad_1 := dk_seg dksX9_bad_0 24 rfl rfl
theorem dX9_bad_0 : decode cX9_bad 0 = .ok (.iload_n 1, 1) := dk_27 (dk_at dksX9_bad_0 0 rfl rfl)
theorem dX9_bad_1 : decode cX9_bad 1 = .ok (.ifCond .eq 25, 3) := dk_153 0 25 (dk_at dksX9_bad_0 1 rfl rfl)
theorem dX9_bad_4 : decode cX9_bad 4 = .ok (.aload_n 0, 1) := dk_42 (dk_at dksX9_bad_0 4 rfl rfl)
theorem dX9_bad_5 : decode cX9_bad 5 = .ok (.getfield 92, 3) := dk_180 0 92 (dk_at dksX9_bad_0 5 rfl rfl)
theorem dX9_bad_8 : decode cX9_bad 8 = .ok (.ifCond .ne 18, 3) := dk_154 0 18 (dk_at dksX9_bad_0 8 rfl rfl)
theorem dX9_bad_11 : decode cX9_bad 11 = .ok (.aload_n 0, 1) := dk_42 (dk_at dksX9_bad_0 11 rfl rfl)
theorem dX9_bad_12 : decode cX9_bad 12 = .ok (.iload_n 2, 1) := dk_28 (dk_at dksX9_bad_0 12 rfl rfl)
theorem dX9_bad_13 : decode cX9_bad 13 = .ok (.putfield 92, 3) := dk_181 0 92 (dk_at dksX9_bad_0 13 rfl rfl)
theorem dX9_bad_16 : decode cX9_bad 16 = .ok (.aload_n 0, 1) := dk_42 (dk_at dksX9_bad_0 16 rfl rfl)
theorem dX9_bad_17 : decode cX9_bad 17 = .ok (.getfield 17, 3) := dk_180 0 17 (dk_at dksX9_bad_0 17 rfl rfl)
theorem dX9_bad_20 : decode cX9_bad 20 = .ok (.iload_n 3, 1) := dk_29 (dk_at dksX9_bad_0 20 rfl rfl)
theorem dX9_bad_21 : decode cX9_bad 21 = .ok (.dup2, 1) := dk_92 (dk_at dksX9_bad_0 21 rfl rfl)
theorem dX9_bad_22 : decode cX9_bad 22 = .ok (.iaload, 1) := dk_46 (dk_at dksX9_bad_0 22 rfl rfl)
theorem dX9_bad_23 : decode cX9_bad 23 = .ok (.iconst 1, 1) := dk_4 (dk_at dksX9_bad_0 23 rfl rfl)
theorem dX9_bad_24 : decode cX9_bad 24 = .ok (.iadd, 1) := dk_96 (dk_at dksX9_bad_1 0 rfl rfl)
theorem dX9_bad_25 : decode cX9_bad 25 = .ok (.iastore, 1) := dk_79 (dk_at dksX9_bad_1 1 rfl rfl)
theorem dX9_bad_26 : decode cX9_bad 26 = .ok (.aload_n 0, 1) := dk_42 (dk_at dksX9_bad_1 2 rfl rfl)
theorem dX9_bad_27 : decode cX9_bad 27 = .ok (.getfield 92, 3) := dk_180 0 92 (dk_at dksX9_bad_1 3 rfl rfl)
theorem dX9_bad_30 : decode cX9_bad 30 = .ok (.ifCond .eq 7, 3) := dk_153 0 7 (dk_at dksX9_bad_1 6 rfl rfl)
theorem dX9_bad_33 : decode cX9_bad 33 = .ok (.iconst 1, 1) := dk_4 (dk_at dksX9_bad_1 9 rfl rfl)
theorem dX9_bad_34 : decode cX9_bad 34 = .ok (.goto 4, 3) := dk_167 0 4 (dk_at dksX9_bad_1 10 rfl rfl)
theorem dX9_bad_37 : decode cX9_bad 37 = .ok (.iconst 0, 1) := dk_3 (dk_at dksX9_bad_1 13 rfl rfl)
theorem dX9_bad_38 : decode cX9_bad 38 = .ok (.ireturn, 1) := dk_172 (dk_at dksX9_bad_1 14 rfl rfl)
def dkwX9_starts_1 : List UInt8 := [181, 0, 111, 42, 3, 181, 0, 148, 42, 3, 181, 0, 151, 42, 182, 0, 114, 177]
abbrev dktX9_starts_1 : List UInt8 := dkwX9_starts_1 ++ []
def dkwX9_starts_0 : List UInt8 := [42, 3, 181, 0, 95, 42, 27, 181, 0, 98, 42, 3, 181, 0, 101, 42, 3, 181, 0, 108, 42, 2]
abbrev dktX9_starts_0 : List UInt8 := dkwX9_starts_0 ++ dktX9_starts_1
theorem dksX9_starts_0 : cX9_starts.data.toList.drop 0 = dktX9_starts_0 := by decide +kernel
theorem dksX9_starts_1 : cX9_starts.data.toList.drop 22 = dktX9_starts_1 := dk_seg dksX9_starts_0 22 rfl rfl
theorem dX9_starts_0 : decode cX9_starts 0 = .ok (.aload_n 0, 1) := dk_42 (dk_at dksX9_starts_0 0 rfl rfl)
theorem dX9_starts_1 : decode cX9_starts 1 = .ok (.iconst 0, 1) := dk_3 (dk_at dksX9_starts_0 1 rfl rfl)
theorem dX9_starts_2 : decode cX9_starts 2 = .ok (.putfield 95, 3) := dk_181 0 95 (dk_at dksX9_starts_0 2 rfl rfl)
theorem dX9_starts_5 : decode cX9_starts 5 = .ok (.aload_n 0, 1) := dk_42 (dk_at dksX9_starts_0 5 rfl rfl)
theorem dX9_starts_6 : decode cX9_starts 6 = .ok (.iload_n 1, 1) := dk_27 (dk_at dksX9_starts_0 6 rfl rfl)
theorem dX9_starts_7 : decode cX9_starts 7 = .ok (.putfield 98, 3) := dk_181 0 98 (dk_at dksX9_starts_0 7 rfl rfl)
theorem dX9_starts_10 : decode cX9_starts 10 = .ok (.aload_n 0, 1) := dk_42 (dk_at dksX9_starts_0 10 rfl rfl)
theorem dX9_starts_11 : decode cX9_starts 11 = .ok (.iconst 0, 1) := dk_3 (dk_at dksX9_starts_0 11 rfl rfl)
theorem dX9_starts_12 : decode cX9_starts 12 = .ok (.putfield 101, 3) := dk_181 0 101 (dk_at dksX9_starts_0 12 rfl rfl)
theorem dX9_starts_15 : decode cX9_starts 15 = .ok (.aload_n 0, 1) := dk_42 (dk_at dksX9_starts_0 15 rfl rfl)
theorem dX9_starts_16 : decode cX9_starts 16 = .ok (.iconst 0, 1) := dk_3 (dk_at dksX9_starts_0 16 rfl rfl)
theorem dX9_starts_17 : decode cX9_starts 17 = .ok (.putfield 108, 3) := dk_181 0 108 (dk_at dksX9_starts_0 17 rfl rfl)
theorem dX9_starts_20 : decode cX9_starts 20 = .ok (.aload_n 0, 1) := dk_42 (dk_at dksX9_starts_0 20 rfl rfl)
theorem dX9_starts_21 : decode cX9_starts 21 = .ok (.iconst (-1), 1) := dk_2 (dk_at dksX9_starts_0 21 rfl rfl)
theorem dX9_starts_22 : decode cX9_starts 22 = .ok (.putfield 111, 3) := dk_181 0 111 (dk_at dksX9_starts_1 0 rfl rfl)
theorem dX9_starts_25 : decode cX9_starts 25 = .ok (.aload_n 0, 1) := dk_42 (dk_at dksX9_starts_1 3 rfl rfl)
theorem dX9_starts_26 : decode cX9_starts 26 = .ok (.iconst 0, 1) := dk_3 (dk_at dksX9_starts_1 4 rfl rfl)
theorem dX9_starts_27 : decode cX9_starts 27 = .ok (.putfield 148, 3) := dk_181 0 148 (dk_at dksX9_starts_1 5 rfl rfl)
theorem dX9_starts_30 : decode cX9_starts 30 = .ok (.aload_n 0, 1) := dk_42 (dk_at dksX9_starts_1 8 rfl rfl)
theorem dX9_starts_31 : decode cX9_starts 31 = .ok (.iconst 0, 1) := dk_3 (dk_at dksX9_starts_1 9 rfl rfl)
theorem dX9_starts_32 : decode cX9_starts 32 = .ok (.putfield 151, 3) := dk_181 0 151 (dk_at dksX9_starts_1 10 rfl rfl)
theorem dX9_starts_35 : decode cX9_starts 35 = .ok (.aload_n 0, 1) := dk_42 (dk_at dksX9_starts_1 13 rfl rfl)
theorem dX9_starts_36 : decode cX9_starts 36 = .ok (.invokevirtual 114, 3) := dk_182 0 114 (dk_at dksX9_starts_1 14 rfl rfl)
theorem dX9_starts_39 : decode cX9_starts 39 = .ok (.return_, 1) := dk_177 (dk_at dksX9_starts_1 17 rfl rfl)
def dkwX9_blanks_1 : List UInt8 := [167, 255, 233, 177]
abbrev dktX9_blanks_1 : List UInt8 := dkwX9_blanks_1 ++ []
def dkwX9_blanks_0 : List UInt8 := [42, 42, 180, 0, 101, 182, 0, 104, 16, 32, 160, 0, 16, 42, 89, 180, 0, 101, 4, 96, 181, 0, 101]
abbrev dktX9_blanks_0 : List UInt8 := dkwX9_blanks_0 ++ dktX9_blanks_1
theorem dksX9_blanks_0 : cX9_blanks.data.toList.drop 0 = dktX9_blanks_0 := by decide +kernel
theorem dksX9_blanks_1 : cX9_blanks.data.toList.drop 23 = dktX9_blanks_1 := dk_seg dksX9_blanks_0 23 rfl rfl
theorem dX9_blanks_0 : decode cX9_blanks 0 = .ok (.aload_n 0, 1) := dk_42 (dk_at dksX9_blanks_0 0 rfl rfl)
theorem dX9_blanks_1 : decode cX9_blanks 1 = .ok (.aload_n 0, 1) := dk_42 (dk_at dksX9_blanks_0 1 rfl rfl)
theorem dX9_blanks_2 : decode cX9_blanks 2 = .ok (.getfield 101, 3) := dk_180 0 101 (dk_at dksX9_blanks_0 2 rfl rfl)
theorem dX9_blanks_5 : decode cX9_blanks 5 = .ok (.invokevirtual 104, 3) := dk_182 0 104 (dk_at dksX9_blanks_0 5 rfl rfl)
theorem dX9_blanks_8 : decode cX9_blanks 8 = .ok (.bipush 32, 2) := dk_16 32 (dk_at dksX9_blanks_0 8 rfl rfl)
theorem dX9_blanks_10 : decode cX9_blanks 10 = .ok (.if_icmp .ne 16, 3) := dk_160 0 16 (dk_at dksX9_blanks_0 10 rfl rfl)
theorem dX9_blanks_13 : decode cX9_blanks 13 = .ok (.aload_n 0, 1) := dk_42 (dk_at dksX9_blanks_0 13 rfl rfl)
theorem dX9_blanks_14 : decode cX9_blanks 14 = .ok (.dup, 1) := dk_89 (dk_at dksX9_blanks_0 14 rfl rfl)
theorem dX9_blanks_15 : decode cX9_blanks 15 = .ok (.getfield 101, 3) := dk_180 0 101 (dk_at dksX9_blanks_0 15 rfl rfl)
theorem dX9_blanks_18 : decode cX9_blanks 18 = .ok (.iconst 1, 1) := dk_4 (dk_at dksX9_blanks_0 18 rfl rfl)
theorem dX9_blanks_19 : decode cX9_blanks 19 = .ok (.iadd, 1) := dk_96 (dk_at dksX9_blanks_0 19 rfl rfl)
theorem dX9_blanks_20 : decode cX9_blanks 20 = .ok (.putfield 101, 3) := dk_181 0 101 (dk_at dksX9_blanks_0 20 rfl rfl)
theorem dX9_blanks_23 : decode cX9_blanks 23 = .ok (.goto (-23), 3) := dk_167 255 233 (dk_at dksX9_blanks_1 0 rfl rfl)
theorem dX9_blanks_26 : decode cX9_blanks 26 = .ok (.return_, 1) := dk_177 (dk_at dksX9_blanks_1 3 rfl rfl)
def dkwX9_byteAt_0 : List UInt8 := [27, 42, 180, 0, 98, 161, 0, 7, 2, 167, 0, 9, 42, 180, 0, 13, 27, 46, 172]
abbrev dktX9_byteAt_0 : List UInt8 := dkwX9_byteAt_0 ++ []
theorem dksX9_byteAt_0 : cX9_byteAt.data.toList.drop 0 = dktX9_byteAt_0 := by decide +kernel
theorem dX9_byteAt_0 : decode cX9_byteAt 0 = .ok (.iload_n 1, 1) := dk_27 (dk_at dksX9_byteAt_0 0 rfl rfl)
theorem dX9_byteAt_1 : decode cX9_byteAt 1 = .ok (.aload_n 0, 1) := dk_42 (dk_at dksX9_byteAt_0 1 rfl rfl)
theorem dX9_byteAt_2 : decode cX9_byteAt 2 = .ok (.getfield 98, 3) := dk_180 0 98 (dk_at dksX9_byteAt_0 2 rfl rfl)
theorem dX9_byteAt_5 : decode cX9_byteAt 5 = .ok (.if_icmp .lt 7, 3) := dk_161 0 7 (dk_at dksX9_byteAt_0 5 rfl rfl)
theorem dX9_byteAt_8 : decode cX9_byteAt 8 = .ok (.iconst (-1), 1) := dk_2 (dk_at dksX9_byteAt_0 8 rfl rfl)
theorem dX9_byteAt_9 : decode cX9_byteAt 9 = .ok (.goto 9, 3) := dk_167 0 9 (dk_at dksX9_byteAt_0 9 rfl rfl)
theorem dX9_byteAt_12 : decode cX9_byteAt 12 = .ok (.aload_n 0, 1) := dk_42 (dk_at dksX9_byteAt_0 12 rfl rfl)
theorem dX9_byteAt_13 : decode cX9_byteAt 13 = .ok (.getfield 13, 3) := dk_180 0 13 (dk_at dksX9_byteAt_0 13 rfl rfl)
theorem dX9_byteAt_16 : decode cX9_byteAt 16 = .ok (.iload_n 1, 1) := dk_27 (dk_at dksX9_byteAt_0 16 rfl rfl)
theorem dX9_byteAt_17 : decode cX9_byteAt 17 = .ok (.iaload, 1) := dk_46 (dk_at dksX9_byteAt_0 17 rfl rfl)
theorem dX9_byteAt_18 : decode cX9_byteAt 18 = .ok (.ireturn, 1) := dk_172 (dk_at dksX9_byteAt_0 18 rfl rfl)
def dkwX9_clause_13 : List UInt8 := [167, 0, 4, 3, 96, 79, 177]
abbrev dktX9_clause_13 : List UInt8 := dkwX9_clause_13 ++ []
def dkwX9_clause_12 : List UInt8 := [182, 0, 167, 27, 5, 162, 0, 24, 42, 180, 0, 20, 27, 92, 46, 42, 180, 0, 108, 154, 0, 7, 4]
abbrev dktX9_clause_12 : List UInt8 := dkwX9_clause_12 ++ dktX9_clause_13
def dkwX9_clause_11 : List UInt8 := [177, 42, 180, 0, 20, 5, 29, 79, 42, 180, 0, 20, 6, 21, 4, 79, 167, 0, 3, 42, 16, 59]
abbrev dktX9_clause_11 : List UInt8 := dkwX9_clause_11 ++ dktX9_clause_12
def dkwX9_clause_10 : List UInt8 := [42, 3, 16, 18, 182, 0, 154, 62, 42, 3, 16, 9, 182, 0, 154, 54, 4, 42, 180, 0, 108, 153, 0, 4]
abbrev dktX9_clause_10 : List UInt8 := dkwX9_clause_10 ++ dktX9_clause_11
def dkwX9_clause_9 : List UInt8 := [3, 46, 182, 0, 164, 79, 42, 180, 0, 34, 28, 50, 6, 42, 4, 16, 9, 182, 0, 154, 79, 167, 0, 46]
abbrev dktX9_clause_9 : List UInt8 := dkwX9_clause_9 ++ dktX9_clause_10
def dkwX9_clause_8 : List UInt8 := [182, 0, 154, 79, 42, 180, 0, 34, 28, 50, 5, 42, 42, 180, 0, 34, 28, 50, 3, 46, 42, 180, 0, 20]
abbrev dktX9_clause_8 : List UInt8 := dkwX9_clause_8 ++ dktX9_clause_9
def dkwX9_clause_7 : List UInt8 := [3, 42, 180, 0, 20, 3, 46, 4, 100, 182, 0, 154, 79, 42, 180, 0, 34, 28, 50, 4, 42, 4, 16, 9]
abbrev dktX9_clause_7 : List UInt8 := dkwX9_clause_7 ++ dktX9_clause_8
def dkwX9_clause_6 : List UInt8 := [42, 180, 0, 26, 28, 42, 4, 16, 60, 182, 0, 154, 79, 167, 0, 126, 42, 180, 0, 34, 28, 50, 3, 42]
abbrev dktX9_clause_6 : List UInt8 := dkwX9_clause_6 ++ dktX9_clause_7
def dkwX9_clause_5 : List UInt8 := [171, 0, 0, 0, 0, 0, 123, 0, 0, 0, 2, 0, 0, 0, 0, 0, 0, 0, 27, 0, 0, 0, 1, 0, 0, 0, 43]
abbrev dktX9_clause_5 : List UInt8 := dkwX9_clause_5 ++ dktX9_clause_6
def dkwX9_clause_4 : List UInt8 := [3, 61, 27]
abbrev dktX9_clause_4 : List UInt8 := dkwX9_clause_4 ++ dktX9_clause_5
def dkwX9_clause_3 : List UInt8 := [42, 89, 180, 0, 148, 4, 96, 181, 0, 148, 27, 5, 162, 0, 12, 42, 180, 0, 20, 27, 46, 167, 0, 4]
abbrev dktX9_clause_3 : List UInt8 := dkwX9_clause_3 ++ dktX9_clause_4
def dkwX9_clause_2 : List UInt8 := [160, 0, 12, 42, 6, 42, 180, 0, 101, 182, 0, 121, 42, 180, 0, 108, 153, 0, 4, 177, 42, 182, 0, 145]
abbrev dktX9_clause_2 : List UInt8 := dkwX9_clause_2 ++ dktX9_clause_3
def dkwX9_clause_1 : List UInt8 := [180, 0, 148, 16, 60, 159, 0, 21, 27, 5, 162, 0, 25, 42, 180, 0, 20, 27, 46, 27, 184, 0, 161]
abbrev dktX9_clause_1 : List UInt8 := dkwX9_clause_1 ++ dktX9_clause_2
def dkwX9_clause_0 : List UInt8 := [42, 182, 0, 158, 60, 27, 2, 160, 0, 15, 42, 4, 42, 180, 0, 101, 182, 0, 121, 167, 0, 39, 42]
abbrev dktX9_clause_0 : List UInt8 := dkwX9_clause_0 ++ dktX9_clause_1
theorem dksX9_clause_0 : cX9_clause.data.toList.drop 0 = dktX9_clause_0 := by decide +kernel
theorem dksX9_clause_1 : cX9_clause.data.toList.drop 23 = dktX9_clause_1 := dk_seg dksX9_clause_0 23 rfl rfl
theorem dksX9_clause_2 : cX9_clause.data.toList.drop 46 = dktX9_clause_2 := dk_seg dksX9_clause_1 23 rfl rfl
theorem dksX9_clause_3 : cX9_clause.data.toList.drop 70 = dktX9_clause_3 := dk_seg dksX9_clause_2 24 rfl rfl
theorem dksX9_clause_4 : cX9_clause.data.toList.drop 94 = dktX9_clause_4 := dk_seg dksX9_clause_3 24 rfl rfl
theorem dksX9_clause_5 : cX9_clause.data.toList.drop 97 = dktX9_clause_5 := dk_seg dksX9_clause_4 3 rfl rfl
theorem dksX9_clause_6 : cX9_clause.data.toList.drop 124 = dktX9_clause_6 := dk_seg dksX9_clause_5 27 rfl rfl
theorem dksX9_clause_7 : cX9_clause.data.toList.drop 148 = dktX9_clause_7 := dk_seg dksX9_clause_6 24 rfl rfl
theorem dksX9_clause_8 : cX9_clause.data.toList.drop 172 = dktX9_clause_8 := dk_seg dksX9_clause_7 24 rfl rfl
theorem dksX9_clause_9 : cX9_clause.data.toList.drop 196 = dktX9_clause_9 := dk_seg dksX9_clause_8 24 rfl rfl
theorem dksX9_clause_10 : cX9_clause.data.toList.drop 220 = dktX9_clause_10 := dk_seg dksX9_clause_9 24 rfl rfl
theorem dksX9_clause_11 : cX9_clause.data.toList.drop 244 = dktX9_clause_11 := dk_seg dksX9_clause_10 24 rfl rfl
theorem dksX9_clause_12 : cX9_clause.data.toList.drop 266 = dktX9_clause_12 := dk_seg dksX9_clause_11 22 rfl rfl
theorem dksX9_clause_13 : cX9_clause.data.toList.drop 289 = dktX9_clause_13 := dk_seg dksX9_clause_12 23 rfl rfl
theorem dX9_clause_0 : decode cX9_clause 0 = .ok (.aload_n 0, 1) := dk_42 (dk_at dksX9_clause_0 0 rfl rfl)
theorem dX9_clause_1 : decode cX9_clause 1 = .ok (.invokevirtual 158, 3) := dk_182 0 158 (dk_at dksX9_clause_0 1 rfl rfl)
theorem dX9_clause_4 : decode cX9_clause 4 = .ok (.istore_n 1, 1) := dk_60 (dk_at dksX9_clause_0 4 rfl rfl)
theorem dX9_clause_5 : decode cX9_clause 5 = .ok (.iload_n 1, 1) := dk_27 (dk_at dksX9_clause_0 5 rfl rfl)
theorem dX9_clause_6 : decode cX9_clause 6 = .ok (.iconst (-1), 1) := dk_2 (dk_at dksX9_clause_0 6 rfl rfl)
theorem dX9_clause_7 : decode cX9_clause 7 = .ok (.if_icmp .ne 15, 3) := dk_160 0 15 (dk_at dksX9_clause_0 7 rfl rfl)
theorem dX9_clause_10 : decode cX9_clause 10 = .ok (.aload_n 0, 1) := dk_42 (dk_at dksX9_clause_0 10 rfl rfl)
theorem dX9_clause_11 : decode cX9_clause 11 = .ok (.iconst 1, 1) := dk_4 (dk_at dksX9_clause_0 11 rfl rfl)
theorem dX9_clause_12 : decode cX9_clause 12 = .ok (.aload_n 0, 1) := dk_42 (dk_at dksX9_clause_0 12 rfl rfl)
theorem dX9_clause_13 : decode cX9_clause 13 = .ok (.getfield 101, 3) := dk_180 0 101 (dk_at dksX9_clause_0 13 rfl rfl)
theorem dX9_clause_16 : decode cX9_clause 16 = .ok (.invokevirtual 121, 3) := dk_182 0 121 (dk_at dksX9_clause_0 16 rfl rfl)
theorem dX9_clause_19 : decode cX9_clause 19 = .ok (.goto 39, 3) := dk_167 0 39 (dk_at dksX9_clause_0 19 rfl rfl)
theorem dX9_clause_22 : decode cX9_clause 22 = .ok (.aload_n 0, 1) := dk_42 (dk_at dksX9_clause_0 22 rfl rfl)
theorem dX9_clause_23 : decode cX9_clause 23 = .ok (.getfield 148, 3) := dk_180 0 148 (dk_at dksX9_clause_1 0 rfl rfl)
theorem dX9_clause_26 : decode cX9_clause 26 = .ok (.bipush 60, 2) := dk_16 60 (dk_at dksX9_clause_1 3 rfl rfl)
theorem dX9_clause_28 : decode cX9_clause 28 = .ok (.if_icmp .eq 21, 3) := dk_159 0 21 (dk_at dksX9_clause_1 5 rfl rfl)
theorem dX9_clause_31 : decode cX9_clause 31 = .ok (.iload_n 1, 1) := dk_27 (dk_at dksX9_clause_1 8 rfl rfl)
theorem dX9_clause_32 : decode cX9_clause 32 = .ok (.iconst 2, 1) := dk_5 (dk_at dksX9_clause_1 9 rfl rfl)
theorem dX9_clause_33 : decode cX9_clause 33 = .ok (.if_icmp .ge 25, 3) := dk_162 0 25 (dk_at dksX9_clause_1 10 rfl rfl)
theorem dX9_clause_36 : decode cX9_clause 36 = .ok (.aload_n 0, 1) := dk_42 (dk_at dksX9_clause_1 13 rfl rfl)
theorem dX9_clause_37 : decode cX9_clause 37 = .ok (.getfield 20, 3) := dk_180 0 20 (dk_at dksX9_clause_1 14 rfl rfl)
theorem dX9_clause_40 : decode cX9_clause 40 = .ok (.iload_n 1, 1) := dk_27 (dk_at dksX9_clause_1 17 rfl rfl)
theorem dX9_clause_41 : decode cX9_clause 41 = .ok (.iaload, 1) := dk_46 (dk_at dksX9_clause_1 18 rfl rfl)
theorem dX9_clause_42 : decode cX9_clause 42 = .ok (.iload_n 1, 1) := dk_27 (dk_at dksX9_clause_1 19 rfl rfl)
theorem dX9_clause_43 : decode cX9_clause 43 = .ok (.invokestatic 161, 3) := dk_184 0 161 (dk_at dksX9_clause_1 20 rfl rfl)
theorem dX9_clause_46 : decode cX9_clause 46 = .ok (.if_icmp .ne 12, 3) := dk_160 0 12 (dk_at dksX9_clause_2 0 rfl rfl)
theorem dX9_clause_49 : decode cX9_clause 49 = .ok (.aload_n 0, 1) := dk_42 (dk_at dksX9_clause_2 3 rfl rfl)
theorem dX9_clause_50 : decode cX9_clause 50 = .ok (.iconst 3, 1) := dk_6 (dk_at dksX9_clause_2 4 rfl rfl)
theorem dX9_clause_51 : decode cX9_clause 51 = .ok (.aload_n 0, 1) := dk_42 (dk_at dksX9_clause_2 5 rfl rfl)
theorem dX9_clause_52 : decode cX9_clause 52 = .ok (.getfield 101, 3) := dk_180 0 101 (dk_at dksX9_clause_2 6 rfl rfl)
theorem dX9_clause_55 : decode cX9_clause 55 = .ok (.invokevirtual 121, 3) := dk_182 0 121 (dk_at dksX9_clause_2 9 rfl rfl)
theorem dX9_clause_58 : decode cX9_clause 58 = .ok (.aload_n 0, 1) := dk_42 (dk_at dksX9_clause_2 12 rfl rfl)
theorem dX9_clause_59 : decode cX9_clause 59 = .ok (.getfield 108, 3) := dk_180 0 108 (dk_at dksX9_clause_2 13 rfl rfl)
theorem dX9_clause_62 : decode cX9_clause 62 = .ok (.ifCond .eq 4, 3) := dk_153 0 4 (dk_at dksX9_clause_2 16 rfl rfl)
theorem dX9_clause_65 : decode cX9_clause 65 = .ok (.return_, 1) := dk_177 (dk_at dksX9_clause_2 19 rfl rfl)
theorem dX9_clause_66 : decode cX9_clause 66 = .ok (.aload_n 0, 1) := dk_42 (dk_at dksX9_clause_2 20 rfl rfl)
theorem dX9_clause_67 : decode cX9_clause 67 = .ok (.invokevirtual 145, 3) := dk_182 0 145 (dk_at dksX9_clause_2 21 rfl rfl)
theorem dX9_clause_70 : decode cX9_clause 70 = .ok (.aload_n 0, 1) := dk_42 (dk_at dksX9_clause_3 0 rfl rfl)
theorem dX9_clause_71 : decode cX9_clause 71 = .ok (.dup, 1) := dk_89 (dk_at dksX9_clause_3 1 rfl rfl)
theorem dX9_clause_72 : decode cX9_clause 72 = .ok (.getfield 148, 3) := dk_180 0 148 (dk_at dksX9_clause_3 2 rfl rfl)
theorem dX9_clause_75 : decode cX9_clause 75 = .ok (.iconst 1, 1) := dk_4 (dk_at dksX9_clause_3 5 rfl rfl)
theorem dX9_clause_76 : decode cX9_clause 76 = .ok (.iadd, 1) := dk_96 (dk_at dksX9_clause_3 6 rfl rfl)
theorem dX9_clause_77 : decode cX9_clause 77 = .ok (.putfield 148, 3) := dk_181 0 148 (dk_at dksX9_clause_3 7 rfl rfl)
theorem dX9_clause_80 : decode cX9_clause 80 = .ok (.iload_n 1, 1) := dk_27 (dk_at dksX9_clause_3 10 rfl rfl)
theorem dX9_clause_81 : decode cX9_clause 81 = .ok (.iconst 2, 1) := dk_5 (dk_at dksX9_clause_3 11 rfl rfl)
theorem dX9_clause_82 : decode cX9_clause 82 = .ok (.if_icmp .ge 12, 3) := dk_162 0 12 (dk_at dksX9_clause_3 12 rfl rfl)
theorem dX9_clause_85 : decode cX9_clause 85 = .ok (.aload_n 0, 1) := dk_42 (dk_at dksX9_clause_3 15 rfl rfl)
theorem dX9_clause_86 : decode cX9_clause 86 = .ok (.getfield 20, 3) := dk_180 0 20 (dk_at dksX9_clause_3 16 rfl rfl)
theorem dX9_clause_89 : decode cX9_clause 89 = .ok (.iload_n 1, 1) := dk_27 (dk_at dksX9_clause_3 19 rfl rfl)
theorem dX9_clause_90 : decode cX9_clause 90 = .ok (.iaload, 1) := dk_46 (dk_at dksX9_clause_3 20 rfl rfl)
theorem dX9_clause_91 : decode cX9_clause 91 = .ok (.goto 4, 3) := dk_167 0 4 (dk_at dksX9_clause_3 21 rfl rfl)
theorem dX9_clause_94 : decode cX9_clause 94 = .ok (.iconst 0, 1) := dk_3 (dk_at dksX9_clause_4 0 rfl rfl)
theorem dX9_clause_95 : decode cX9_clause 95 = .ok (.istore_n 2, 1) := dk_61 (dk_at dksX9_clause_4 1 rfl rfl)
theorem dX9_clause_96 : decode cX9_clause 96 = .ok (.iload_n 1, 1) := dk_27 (dk_at dksX9_clause_4 2 rfl rfl)
theorem dX9_clause_97 : decode cX9_clause 97 = .ok (.lookupswitch 123 #[(0, 27), (1, 43)], 27) := by decide +kernel
theorem dX9_clause_124 : decode cX9_clause 124 = .ok (.aload_n 0, 1) := dk_42 (dk_at dksX9_clause_6 0 rfl rfl)
theorem dX9_clause_125 : decode cX9_clause 125 = .ok (.getfield 26, 3) := dk_180 0 26 (dk_at dksX9_clause_6 1 rfl rfl)
theorem dX9_clause_128 : decode cX9_clause 128 = .ok (.iload_n 2, 1) := dk_28 (dk_at dksX9_clause_6 4 rfl rfl)
theorem dX9_clause_129 : decode cX9_clause 129 = .ok (.aload_n 0, 1) := dk_42 (dk_at dksX9_clause_6 5 rfl rfl)
theorem dX9_clause_130 : decode cX9_clause 130 = .ok (.iconst 1, 1) := dk_4 (dk_at dksX9_clause_6 6 rfl rfl)
theorem dX9_clause_131 : decode cX9_clause 131 = .ok (.bipush 60, 2) := dk_16 60 (dk_at dksX9_clause_6 7 rfl rfl)
theorem dX9_clause_133 : decode cX9_clause 133 = .ok (.invokevirtual 154, 3) := dk_182 0 154 (dk_at dksX9_clause_6 9 rfl rfl)
theorem dX9_clause_136 : decode cX9_clause 136 = .ok (.iastore, 1) := dk_79 (dk_at dksX9_clause_6 12 rfl rfl)
theorem dX9_clause_137 : decode cX9_clause 137 = .ok (.goto 126, 3) := dk_167 0 126 (dk_at dksX9_clause_6 13 rfl rfl)
theorem dX9_clause_140 : decode cX9_clause 140 = .ok (.aload_n 0, 1) := dk_42 (dk_at dksX9_clause_6 16 rfl rfl)
theorem dX9_clause_141 : decode cX9_clause 141 = .ok (.getfield 34, 3) := dk_180 0 34 (dk_at dksX9_clause_6 17 rfl rfl)
theorem dX9_clause_144 : decode cX9_clause 144 = .ok (.iload_n 2, 1) := dk_28 (dk_at dksX9_clause_6 20 rfl rfl)
theorem dX9_clause_145 : decode cX9_clause 145 = .ok (.aaload, 1) := dk_50 (dk_at dksX9_clause_6 21 rfl rfl)
theorem dX9_clause_146 : decode cX9_clause 146 = .ok (.iconst 0, 1) := dk_3 (dk_at dksX9_clause_6 22 rfl rfl)
theorem dX9_clause_147 : decode cX9_clause 147 = .ok (.aload_n 0, 1) := dk_42 (dk_at dksX9_clause_6 23 rfl rfl)
theorem dX9_clause_148 : decode cX9_clause 148 = .ok (.iconst 0, 1) := dk_3 (dk_at dksX9_clause_7 0 rfl rfl)
theorem dX9_clause_149 : decode cX9_clause 149 = .ok (.aload_n 0, 1) := dk_42 (dk_at dksX9_clause_7 1 rfl rfl)
theorem dX9_clause_150 : decode cX9_clause 150 = .ok (.getfield 20, 3) := dk_180 0 20 (dk_at dksX9_clause_7 2 rfl rfl)
theorem dX9_clause_153 : decode cX9_clause 153 = .ok (.iconst 0, 1) := dk_3 (dk_at dksX9_clause_7 5 rfl rfl)
theorem dX9_clause_154 : decode cX9_clause 154 = .ok (.iaload, 1) := dk_46 (dk_at dksX9_clause_7 6 rfl rfl)
theorem dX9_clause_155 : decode cX9_clause 155 = .ok (.iconst 1, 1) := dk_4 (dk_at dksX9_clause_7 7 rfl rfl)
theorem dX9_clause_156 : decode cX9_clause 156 = .ok (.isub, 1) := dk_100 (dk_at dksX9_clause_7 8 rfl rfl)
theorem dX9_clause_157 : decode cX9_clause 157 = .ok (.invokevirtual 154, 3) := dk_182 0 154 (dk_at dksX9_clause_7 9 rfl rfl)
theorem dX9_clause_160 : decode cX9_clause 160 = .ok (.iastore, 1) := dk_79 (dk_at dksX9_clause_7 12 rfl rfl)
theorem dX9_clause_161 : decode cX9_clause 161 = .ok (.aload_n 0, 1) := dk_42 (dk_at dksX9_clause_7 13 rfl rfl)
theorem dX9_clause_162 : decode cX9_clause 162 = .ok (.getfield 34, 3) := dk_180 0 34 (dk_at dksX9_clause_7 14 rfl rfl)
theorem dX9_clause_165 : decode cX9_clause 165 = .ok (.iload_n 2, 1) := dk_28 (dk_at dksX9_clause_7 17 rfl rfl)
theorem dX9_clause_166 : decode cX9_clause 166 = .ok (.aaload, 1) := dk_50 (dk_at dksX9_clause_7 18 rfl rfl)
theorem dX9_clause_167 : decode cX9_clause 167 = .ok (.iconst 1, 1) := dk_4 (dk_at dksX9_clause_7 19 rfl rfl)
theorem dX9_clause_168 : decode cX9_clause 168 = .ok (.aload_n 0, 1) := dk_42 (dk_at dksX9_clause_7 20 rfl rfl)
theorem dX9_clause_169 : decode cX9_clause 169 = .ok (.iconst 1, 1) := dk_4 (dk_at dksX9_clause_7 21 rfl rfl)
theorem dX9_clause_170 : decode cX9_clause 170 = .ok (.bipush 9, 2) := dk_16 9 (dk_at dksX9_clause_7 22 rfl rfl)
theorem dX9_clause_172 : decode cX9_clause 172 = .ok (.invokevirtual 154, 3) := dk_182 0 154 (dk_at dksX9_clause_8 0 rfl rfl)
theorem dX9_clause_175 : decode cX9_clause 175 = .ok (.iastore, 1) := dk_79 (dk_at dksX9_clause_8 3 rfl rfl)
theorem dX9_clause_176 : decode cX9_clause 176 = .ok (.aload_n 0, 1) := dk_42 (dk_at dksX9_clause_8 4 rfl rfl)
theorem dX9_clause_177 : decode cX9_clause 177 = .ok (.getfield 34, 3) := dk_180 0 34 (dk_at dksX9_clause_8 5 rfl rfl)
theorem dX9_clause_180 : decode cX9_clause 180 = .ok (.iload_n 2, 1) := dk_28 (dk_at dksX9_clause_8 8 rfl rfl)
theorem dX9_clause_181 : decode cX9_clause 181 = .ok (.aaload, 1) := dk_50 (dk_at dksX9_clause_8 9 rfl rfl)
theorem dX9_clause_182 : decode cX9_clause 182 = .ok (.iconst 2, 1) := dk_5 (dk_at dksX9_clause_8 10 rfl rfl)
theorem dX9_clause_183 : decode cX9_clause 183 = .ok (.aload_n 0, 1) := dk_42 (dk_at dksX9_clause_8 11 rfl rfl)
theorem dX9_clause_184 : decode cX9_clause 184 = .ok (.aload_n 0, 1) := dk_42 (dk_at dksX9_clause_8 12 rfl rfl)
theorem dX9_clause_185 : decode cX9_clause 185 = .ok (.getfield 34, 3) := dk_180 0 34 (dk_at dksX9_clause_8 13 rfl rfl)
theorem dX9_clause_188 : decode cX9_clause 188 = .ok (.iload_n 2, 1) := dk_28 (dk_at dksX9_clause_8 16 rfl rfl)
theorem dX9_clause_189 : decode cX9_clause 189 = .ok (.aaload, 1) := dk_50 (dk_at dksX9_clause_8 17 rfl rfl)
theorem dX9_clause_190 : decode cX9_clause 190 = .ok (.iconst 0, 1) := dk_3 (dk_at dksX9_clause_8 18 rfl rfl)
theorem dX9_clause_191 : decode cX9_clause 191 = .ok (.iaload, 1) := dk_46 (dk_at dksX9_clause_8 19 rfl rfl)
theorem dX9_clause_192 : decode cX9_clause 192 = .ok (.aload_n 0, 1) := dk_42 (dk_at dksX9_clause_8 20 rfl rfl)
theorem dX9_clause_193 : decode cX9_clause 193 = .ok (.getfield 20, 3) := dk_180 0 20 (dk_at dksX9_clause_8 21 rfl rfl)
theorem dX9_clause_196 : decode cX9_clause 196 = .ok (.iconst 0, 1) := dk_3 (dk_at dksX9_clause_9 0 rfl rfl)
theorem dX9_clause_197 : decode cX9_clause 197 = .ok (.iaload, 1) := dk_46 (dk_at dksX9_clause_9 1 rfl rfl)
theorem dX9_clause_198 : decode cX9_clause 198 = .ok (.invokevirtual 164, 3) := dk_182 0 164 (dk_at dksX9_clause_9 2 rfl rfl)
theorem dX9_clause_201 : decode cX9_clause 201 = .ok (.iastore, 1) := dk_79 (dk_at dksX9_clause_9 5 rfl rfl)
theorem dX9_clause_202 : decode cX9_clause 202 = .ok (.aload_n 0, 1) := dk_42 (dk_at dksX9_clause_9 6 rfl rfl)
theorem dX9_clause_203 : decode cX9_clause 203 = .ok (.getfield 34, 3) := dk_180 0 34 (dk_at dksX9_clause_9 7 rfl rfl)
theorem dX9_clause_206 : decode cX9_clause 206 = .ok (.iload_n 2, 1) := dk_28 (dk_at dksX9_clause_9 10 rfl rfl)
theorem dX9_clause_207 : decode cX9_clause 207 = .ok (.aaload, 1) := dk_50 (dk_at dksX9_clause_9 11 rfl rfl)
theorem dX9_clause_208 : decode cX9_clause 208 = .ok (.iconst 3, 1) := dk_6 (dk_at dksX9_clause_9 12 rfl rfl)
theorem dX9_clause_209 : decode cX9_clause 209 = .ok (.aload_n 0, 1) := dk_42 (dk_at dksX9_clause_9 13 rfl rfl)
theorem dX9_clause_210 : decode cX9_clause 210 = .ok (.iconst 1, 1) := dk_4 (dk_at dksX9_clause_9 14 rfl rfl)
theorem dX9_clause_211 : decode cX9_clause 211 = .ok (.bipush 9, 2) := dk_16 9 (dk_at dksX9_clause_9 15 rfl rfl)
theorem dX9_clause_213 : decode cX9_clause 213 = .ok (.invokevirtual 154, 3) := dk_182 0 154 (dk_at dksX9_clause_9 17 rfl rfl)
theorem dX9_clause_216 : decode cX9_clause 216 = .ok (.iastore, 1) := dk_79 (dk_at dksX9_clause_9 20 rfl rfl)
theorem dX9_clause_217 : decode cX9_clause 217 = .ok (.goto 46, 3) := dk_167 0 46 (dk_at dksX9_clause_9 21 rfl rfl)
theorem dX9_clause_220 : decode cX9_clause 220 = .ok (.aload_n 0, 1) := dk_42 (dk_at dksX9_clause_10 0 rfl rfl)
theorem dX9_clause_221 : decode cX9_clause 221 = .ok (.iconst 0, 1) := dk_3 (dk_at dksX9_clause_10 1 rfl rfl)
theorem dX9_clause_222 : decode cX9_clause 222 = .ok (.bipush 18, 2) := dk_16 18 (dk_at dksX9_clause_10 2 rfl rfl)
theorem dX9_clause_224 : decode cX9_clause 224 = .ok (.invokevirtual 154, 3) := dk_182 0 154 (dk_at dksX9_clause_10 4 rfl rfl)
theorem dX9_clause_227 : decode cX9_clause 227 = .ok (.istore_n 3, 1) := dk_62 (dk_at dksX9_clause_10 7 rfl rfl)
theorem dX9_clause_228 : decode cX9_clause 228 = .ok (.aload_n 0, 1) := dk_42 (dk_at dksX9_clause_10 8 rfl rfl)
theorem dX9_clause_229 : decode cX9_clause 229 = .ok (.iconst 0, 1) := dk_3 (dk_at dksX9_clause_10 9 rfl rfl)
theorem dX9_clause_230 : decode cX9_clause 230 = .ok (.bipush 9, 2) := dk_16 9 (dk_at dksX9_clause_10 10 rfl rfl)
theorem dX9_clause_232 : decode cX9_clause 232 = .ok (.invokevirtual 154, 3) := dk_182 0 154 (dk_at dksX9_clause_10 12 rfl rfl)
theorem dX9_clause_235 : decode cX9_clause 235 = .ok (.istore 4, 2) := dk_54 4 (dk_at dksX9_clause_10 15 rfl rfl)
theorem dX9_clause_237 : decode cX9_clause 237 = .ok (.aload_n 0, 1) := dk_42 (dk_at dksX9_clause_10 17 rfl rfl)
theorem dX9_clause_238 : decode cX9_clause 238 = .ok (.getfield 108, 3) := dk_180 0 108 (dk_at dksX9_clause_10 18 rfl rfl)
theorem dX9_clause_241 : decode cX9_clause 241 = .ok (.ifCond .eq 4, 3) := dk_153 0 4 (dk_at dksX9_clause_10 21 rfl rfl)
theorem dX9_clause_244 : decode cX9_clause 244 = .ok (.return_, 1) := dk_177 (dk_at dksX9_clause_11 0 rfl rfl)
theorem dX9_clause_245 : decode cX9_clause 245 = .ok (.aload_n 0, 1) := dk_42 (dk_at dksX9_clause_11 1 rfl rfl)
theorem dX9_clause_246 : decode cX9_clause 246 = .ok (.getfield 20, 3) := dk_180 0 20 (dk_at dksX9_clause_11 2 rfl rfl)
theorem dX9_clause_249 : decode cX9_clause 249 = .ok (.iconst 2, 1) := dk_5 (dk_at dksX9_clause_11 5 rfl rfl)
theorem dX9_clause_250 : decode cX9_clause 250 = .ok (.iload_n 3, 1) := dk_29 (dk_at dksX9_clause_11 6 rfl rfl)
theorem dX9_clause_251 : decode cX9_clause 251 = .ok (.iastore, 1) := dk_79 (dk_at dksX9_clause_11 7 rfl rfl)
theorem dX9_clause_252 : decode cX9_clause 252 = .ok (.aload_n 0, 1) := dk_42 (dk_at dksX9_clause_11 8 rfl rfl)
theorem dX9_clause_253 : decode cX9_clause 253 = .ok (.getfield 20, 3) := dk_180 0 20 (dk_at dksX9_clause_11 9 rfl rfl)
theorem dX9_clause_256 : decode cX9_clause 256 = .ok (.iconst 3, 1) := dk_6 (dk_at dksX9_clause_11 12 rfl rfl)
theorem dX9_clause_257 : decode cX9_clause 257 = .ok (.iload 4, 2) := dk_21 4 (dk_at dksX9_clause_11 13 rfl rfl)
theorem dX9_clause_259 : decode cX9_clause 259 = .ok (.iastore, 1) := dk_79 (dk_at dksX9_clause_11 15 rfl rfl)
theorem dX9_clause_260 : decode cX9_clause 260 = .ok (.goto 3, 3) := dk_167 0 3 (dk_at dksX9_clause_11 16 rfl rfl)
theorem dX9_clause_263 : decode cX9_clause 263 = .ok (.aload_n 0, 1) := dk_42 (dk_at dksX9_clause_11 19 rfl rfl)
theorem dX9_clause_264 : decode cX9_clause 264 = .ok (.bipush 59, 2) := dk_16 59 (dk_at dksX9_clause_11 20 rfl rfl)
theorem dX9_clause_266 : decode cX9_clause 266 = .ok (.invokevirtual 167, 3) := dk_182 0 167 (dk_at dksX9_clause_12 0 rfl rfl)
theorem dX9_clause_269 : decode cX9_clause 269 = .ok (.iload_n 1, 1) := dk_27 (dk_at dksX9_clause_12 3 rfl rfl)
theorem dX9_clause_270 : decode cX9_clause 270 = .ok (.iconst 2, 1) := dk_5 (dk_at dksX9_clause_12 4 rfl rfl)
theorem dX9_clause_271 : decode cX9_clause 271 = .ok (.if_icmp .ge 24, 3) := dk_162 0 24 (dk_at dksX9_clause_12 5 rfl rfl)
theorem dX9_clause_274 : decode cX9_clause 274 = .ok (.aload_n 0, 1) := dk_42 (dk_at dksX9_clause_12 8 rfl rfl)
theorem dX9_clause_275 : decode cX9_clause 275 = .ok (.getfield 20, 3) := dk_180 0 20 (dk_at dksX9_clause_12 9 rfl rfl)
theorem dX9_clause_278 : decode cX9_clause 278 = .ok (.iload_n 1, 1) := dk_27 (dk_at dksX9_clause_12 12 rfl rfl)
theorem dX9_clause_279 : decode cX9_clause 279 = .ok (.dup2, 1) := dk_92 (dk_at dksX9_clause_12 13 rfl rfl)
theorem dX9_clause_280 : decode cX9_clause 280 = .ok (.iaload, 1) := dk_46 (dk_at dksX9_clause_12 14 rfl rfl)
theorem dX9_clause_281 : decode cX9_clause 281 = .ok (.aload_n 0, 1) := dk_42 (dk_at dksX9_clause_12 15 rfl rfl)
theorem dX9_clause_282 : decode cX9_clause 282 = .ok (.getfield 108, 3) := dk_180 0 108 (dk_at dksX9_clause_12 16 rfl rfl)
theorem dX9_clause_285 : decode cX9_clause 285 = .ok (.ifCond .ne 7, 3) := dk_154 0 7 (dk_at dksX9_clause_12 19 rfl rfl)
theorem dX9_clause_288 : decode cX9_clause 288 = .ok (.iconst 1, 1) := dk_4 (dk_at dksX9_clause_12 22 rfl rfl)
theorem dX9_clause_289 : decode cX9_clause 289 = .ok (.goto 4, 3) := dk_167 0 4 (dk_at dksX9_clause_13 0 rfl rfl)
theorem dX9_clause_292 : decode cX9_clause 292 = .ok (.iconst 0, 1) := dk_3 (dk_at dksX9_clause_13 3 rfl rfl)
theorem dX9_clause_293 : decode cX9_clause 293 = .ok (.iadd, 1) := dk_96 (dk_at dksX9_clause_13 4 rfl rfl)
theorem dX9_clause_294 : decode cX9_clause 294 = .ok (.iastore, 1) := dk_79 (dk_at dksX9_clause_13 5 rfl rfl)
theorem dX9_clause_295 : decode cX9_clause 295 = .ok (.return_, 1) := dk_177 (dk_at dksX9_clause_13 6 rfl rfl)
def dkwX9_kindHere_2 : List UInt8 := [153, 0, 7, 5, 167, 0, 4, 2, 172]
abbrev dktX9_kindHere_2 : List UInt8 := dkwX9_kindHere_2 ++ []
def dkwX9_kindHere_1 : List UInt8 := [16, 25, 3, 3, 3, 182, 0, 141, 153, 0, 5, 4, 172, 42, 5, 8, 4, 16, 13, 3, 3, 182, 0, 141]
abbrev dktX9_kindHere_1 : List UInt8 := dkwX9_kindHere_1 ++ dktX9_kindHere_2
def dkwX9_kindHere_0 : List UInt8 := [42, 16, 20, 16, 8, 16, 9, 16, 14, 16, 7, 3, 182, 0, 141, 153, 0, 5, 3, 172, 42, 6, 16, 18]
abbrev dktX9_kindHere_0 : List UInt8 := dkwX9_kindHere_0 ++ dktX9_kindHere_1
theorem dksX9_kindHere_0 : cX9_kindHere.data.toList.drop 0 = dktX9_kindHere_0 := by decide +kernel
theorem dksX9_kindHere_1 : cX9_kindHere.data.toList.drop 24 = dktX9_kindHere_1 := dk_seg dksX9_kindHere_0 24 rfl rfl
theorem dksX9_kindHere_2 : cX9_kindHere.data.toList.drop 48 = dktX9_kindHere_2 := dk_seg dksX9_kindHere_1 24 rfl rfl
theorem dX9_kindHere_0 : decode cX9_kindHere 0 = .ok (.aload_n 0, 1) := dk_42 (dk_at dksX9_kindHere_0 0 rfl rfl)
theorem dX9_kindHere_1 : decode cX9_kindHere 1 = .ok (.bipush 20, 2) := dk_16 20 (dk_at dksX9_kindHere_0 1 rfl rfl)
theorem dX9_kindHere_3 : decode cX9_kindHere 3 = .ok (.bipush 8, 2) := dk_16 8 (dk_at dksX9_kindHere_0 3 rfl rfl)
theorem dX9_kindHere_5 : decode cX9_kindHere 5 = .ok (.bipush 9, 2) := dk_16 9 (dk_at dksX9_kindHere_0 5 rfl rfl)
theorem dX9_kindHere_7 : decode cX9_kindHere 7 = .ok (.bipush 14, 2) := dk_16 14 (dk_at dksX9_kindHere_0 7 rfl rfl)
theorem dX9_kindHere_9 : decode cX9_kindHere 9 = .ok (.bipush 7, 2) := dk_16 7 (dk_at dksX9_kindHere_0 9 rfl rfl)
theorem dX9_kindHere_11 : decode cX9_kindHere 11 = .ok (.iconst 0, 1) := dk_3 (dk_at dksX9_kindHere_0 11 rfl rfl)
theorem dX9_kindHere_12 : decode cX9_kindHere 12 = .ok (.invokevirtual 141, 3) := dk_182 0 141 (dk_at dksX9_kindHere_0 12 rfl rfl)
theorem dX9_kindHere_15 : decode cX9_kindHere 15 = .ok (.ifCond .eq 5, 3) := dk_153 0 5 (dk_at dksX9_kindHere_0 15 rfl rfl)
theorem dX9_kindHere_18 : decode cX9_kindHere 18 = .ok (.iconst 0, 1) := dk_3 (dk_at dksX9_kindHere_0 18 rfl rfl)
theorem dX9_kindHere_19 : decode cX9_kindHere 19 = .ok (.ireturn, 1) := dk_172 (dk_at dksX9_kindHere_0 19 rfl rfl)
theorem dX9_kindHere_20 : decode cX9_kindHere 20 = .ok (.aload_n 0, 1) := dk_42 (dk_at dksX9_kindHere_0 20 rfl rfl)
theorem dX9_kindHere_21 : decode cX9_kindHere 21 = .ok (.iconst 3, 1) := dk_6 (dk_at dksX9_kindHere_0 21 rfl rfl)
theorem dX9_kindHere_22 : decode cX9_kindHere 22 = .ok (.bipush 18, 2) := dk_16 18 (dk_at dksX9_kindHere_0 22 rfl rfl)
theorem dX9_kindHere_24 : decode cX9_kindHere 24 = .ok (.bipush 25, 2) := dk_16 25 (dk_at dksX9_kindHere_1 0 rfl rfl)
theorem dX9_kindHere_26 : decode cX9_kindHere 26 = .ok (.iconst 0, 1) := dk_3 (dk_at dksX9_kindHere_1 2 rfl rfl)
theorem dX9_kindHere_27 : decode cX9_kindHere 27 = .ok (.iconst 0, 1) := dk_3 (dk_at dksX9_kindHere_1 3 rfl rfl)
theorem dX9_kindHere_28 : decode cX9_kindHere 28 = .ok (.iconst 0, 1) := dk_3 (dk_at dksX9_kindHere_1 4 rfl rfl)
theorem dX9_kindHere_29 : decode cX9_kindHere 29 = .ok (.invokevirtual 141, 3) := dk_182 0 141 (dk_at dksX9_kindHere_1 5 rfl rfl)
theorem dX9_kindHere_32 : decode cX9_kindHere 32 = .ok (.ifCond .eq 5, 3) := dk_153 0 5 (dk_at dksX9_kindHere_1 8 rfl rfl)
theorem dX9_kindHere_35 : decode cX9_kindHere 35 = .ok (.iconst 1, 1) := dk_4 (dk_at dksX9_kindHere_1 11 rfl rfl)
theorem dX9_kindHere_36 : decode cX9_kindHere 36 = .ok (.ireturn, 1) := dk_172 (dk_at dksX9_kindHere_1 12 rfl rfl)
theorem dX9_kindHere_37 : decode cX9_kindHere 37 = .ok (.aload_n 0, 1) := dk_42 (dk_at dksX9_kindHere_1 13 rfl rfl)
theorem dX9_kindHere_38 : decode cX9_kindHere 38 = .ok (.iconst 2, 1) := dk_5 (dk_at dksX9_kindHere_1 14 rfl rfl)
theorem dX9_kindHere_39 : decode cX9_kindHere 39 = .ok (.iconst 5, 1) := dk_8 (dk_at dksX9_kindHere_1 15 rfl rfl)
theorem dX9_kindHere_40 : decode cX9_kindHere 40 = .ok (.iconst 1, 1) := dk_4 (dk_at dksX9_kindHere_1 16 rfl rfl)
theorem dX9_kindHere_41 : decode cX9_kindHere 41 = .ok (.bipush 13, 2) := dk_16 13 (dk_at dksX9_kindHere_1 17 rfl rfl)
theorem dX9_kindHere_43 : decode cX9_kindHere 43 = .ok (.iconst 0, 1) := dk_3 (dk_at dksX9_kindHere_1 19 rfl rfl)
theorem dX9_kindHere_44 : decode cX9_kindHere 44 = .ok (.iconst 0, 1) := dk_3 (dk_at dksX9_kindHere_1 20 rfl rfl)
theorem dX9_kindHere_45 : decode cX9_kindHere 45 = .ok (.invokevirtual 141, 3) := dk_182 0 141 (dk_at dksX9_kindHere_1 21 rfl rfl)
theorem dX9_kindHere_48 : decode cX9_kindHere 48 = .ok (.ifCond .eq 7, 3) := dk_153 0 7 (dk_at dksX9_kindHere_2 0 rfl rfl)
theorem dX9_kindHere_51 : decode cX9_kindHere 51 = .ok (.iconst 2, 1) := dk_5 (dk_at dksX9_kindHere_2 3 rfl rfl)
theorem dX9_kindHere_52 : decode cX9_kindHere 52 = .ok (.goto 4, 3) := dk_167 0 4 (dk_at dksX9_kindHere_2 4 rfl rfl)
theorem dX9_kindHere_55 : decode cX9_kindHere 55 = .ok (.iconst (-1), 1) := dk_2 (dk_at dksX9_kindHere_2 7 rfl rfl)
theorem dX9_kindHere_56 : decode cX9_kindHere 56 = .ok (.ireturn, 1) := dk_172 (dk_at dksX9_kindHere_2 8 rfl rfl)
def dkwX9_isWord_1 : List UInt8 := [160, 0, 7, 4, 167, 0, 4, 3, 172]
abbrev dktX9_isWord_1 : List UInt8 := dkwX9_isWord_1 ++ []
def dkwX9_isWord_0 : List UInt8 := [42, 180, 0, 108, 154, 0, 26, 42, 182, 0, 133, 27, 28, 29, 21, 4, 21, 5, 21, 6, 184, 0, 137]
abbrev dktX9_isWord_0 : List UInt8 := dkwX9_isWord_0 ++ dktX9_isWord_1
theorem dksX9_isWord_0 : cX9_isWord.data.toList.drop 0 = dktX9_isWord_0 := by decide +kernel
theorem dksX9_isWord_1 : cX9_isWord.data.toList.drop 23 = dktX9_isWord_1 := dk_seg dksX9_isWord_0 23 rfl rfl
theorem dX9_isWord_0 : decode cX9_isWord 0 = .ok (.aload_n 0, 1) := dk_42 (dk_at dksX9_isWord_0 0 rfl rfl)
theorem dX9_isWord_1 : decode cX9_isWord 1 = .ok (.getfield 108, 3) := dk_180 0 108 (dk_at dksX9_isWord_0 1 rfl rfl)
theorem dX9_isWord_4 : decode cX9_isWord 4 = .ok (.ifCond .ne 26, 3) := dk_154 0 26 (dk_at dksX9_isWord_0 4 rfl rfl)
theorem dX9_isWord_7 : decode cX9_isWord 7 = .ok (.aload_n 0, 1) := dk_42 (dk_at dksX9_isWord_0 7 rfl rfl)
theorem dX9_isWord_8 : decode cX9_isWord 8 = .ok (.invokevirtual 133, 3) := dk_182 0 133 (dk_at dksX9_isWord_0 8 rfl rfl)
theorem dX9_isWord_11 : decode cX9_isWord 11 = .ok (.iload_n 1, 1) := dk_27 (dk_at dksX9_isWord_0 11 rfl rfl)
theorem dX9_isWord_12 : decode cX9_isWord 12 = .ok (.iload_n 2, 1) := dk_28 (dk_at dksX9_isWord_0 12 rfl rfl)
theorem dX9_isWord_13 : decode cX9_isWord 13 = .ok (.iload_n 3, 1) := dk_29 (dk_at dksX9_isWord_0 13 rfl rfl)
theorem dX9_isWord_14 : decode cX9_isWord 14 = .ok (.iload 4, 2) := dk_21 4 (dk_at dksX9_isWord_0 14 rfl rfl)
theorem dX9_isWord_16 : decode cX9_isWord 16 = .ok (.iload 5, 2) := dk_21 5 (dk_at dksX9_isWord_0 16 rfl rfl)
theorem dX9_isWord_18 : decode cX9_isWord 18 = .ok (.iload 6, 2) := dk_21 6 (dk_at dksX9_isWord_0 18 rfl rfl)
theorem dX9_isWord_20 : decode cX9_isWord 20 = .ok (.invokestatic 137, 3) := dk_184 0 137 (dk_at dksX9_isWord_0 20 rfl rfl)
theorem dX9_isWord_23 : decode cX9_isWord 23 = .ok (.if_icmp .ne 7, 3) := dk_160 0 7 (dk_at dksX9_isWord_1 0 rfl rfl)
theorem dX9_isWord_26 : decode cX9_isWord 26 = .ok (.iconst 1, 1) := dk_4 (dk_at dksX9_isWord_1 3 rfl rfl)
theorem dX9_isWord_27 : decode cX9_isWord 27 = .ok (.goto 4, 3) := dk_167 0 4 (dk_at dksX9_isWord_1 4 rfl rfl)
theorem dX9_isWord_30 : decode cX9_isWord 30 = .ok (.iconst 0, 1) := dk_3 (dk_at dksX9_isWord_1 7 rfl rfl)
theorem dX9_isWord_31 : decode cX9_isWord 31 = .ok (.ireturn, 1) := dk_172 (dk_at dksX9_isWord_1 8 rfl rfl)
def dkwX9_wordHere_3 : List UInt8 := [172]
abbrev dktX9_wordHere_3 : List UInt8 := dkwX9_wordHere_3 ++ []
def dkwX9_wordHere_2 : List UInt8 := [4, 96, 167, 0, 4, 27, 60, 132, 2, 1, 167, 255, 206, 28, 16, 6, 164, 0, 7, 2, 167, 0, 4, 27]
abbrev dktX9_wordHere_2 : List UInt8 := dkwX9_wordHere_2 ++ dktX9_wordHere_3
def dkwX9_wordHere_1 : List UInt8 := [28, 16, 6, 162, 0, 26, 16, 27, 27, 104, 42, 42, 180, 0, 101, 28, 96, 182, 0, 104, 96, 16, 97, 100]
abbrev dktX9_wordHere_1 : List UInt8 := dkwX9_wordHere_1 ++ dktX9_wordHere_2
def dkwX9_wordHere_0 : List UInt8 := [42, 182, 0, 114, 3, 60, 3, 61, 42, 42, 180, 0, 101, 28, 96, 182, 0, 104, 184, 0, 130, 153, 0, 40]
abbrev dktX9_wordHere_0 : List UInt8 := dkwX9_wordHere_0 ++ dktX9_wordHere_1
theorem dksX9_wordHere_0 : cX9_wordHere.data.toList.drop 0 = dktX9_wordHere_0 := by decide +kernel
theorem dksX9_wordHere_1 : cX9_wordHere.data.toList.drop 24 = dktX9_wordHere_1 := dk_seg dksX9_wordHere_0 24 rfl rfl
theorem dksX9_wordHere_2 : cX9_wordHere.data.toList.drop 48 = dktX9_wordHere_2 := dk_seg dksX9_wordHere_1 24 rfl rfl
theorem dksX9_wordHere_3 : cX9_wordHere.data.toList.drop 72 = dktX9_wordHere_3 := dk_seg dksX9_wordHere_2 24 rfl rfl
theorem dX9_wordHere_0 : decode cX9_wordHere 0 = .ok (.aload_n 0, 1) := dk_42 (dk_at dksX9_wordHere_0 0 rfl rfl)
theorem dX9_wordHere_1 : decode cX9_wordHere 1 = .ok (.invokevirtual 114, 3) := dk_182 0 114 (dk_at dksX9_wordHere_0 1 rfl rfl)
theorem dX9_wordHere_4 : decode cX9_wordHere 4 = .ok (.iconst 0, 1) := dk_3 (dk_at dksX9_wordHere_0 4 rfl rfl)
theorem dX9_wordHere_5 : decode cX9_wordHere 5 = .ok (.istore_n 1, 1) := dk_60 (dk_at dksX9_wordHere_0 5 rfl rfl)
theorem dX9_wordHere_6 : decode cX9_wordHere 6 = .ok (.iconst 0, 1) := dk_3 (dk_at dksX9_wordHere_0 6 rfl rfl)
theorem dX9_wordHere_7 : decode cX9_wordHere 7 = .ok (.istore_n 2, 1) := dk_61 (dk_at dksX9_wordHere_0 7 rfl rfl)
theorem dX9_wordHere_8 : decode cX9_wordHere 8 = .ok (.aload_n 0, 1) := dk_42 (dk_at dksX9_wordHere_0 8 rfl rfl)
theorem dX9_wordHere_9 : decode cX9_wordHere 9 = .ok (.aload_n 0, 1) := dk_42 (dk_at dksX9_wordHere_0 9 rfl rfl)
theorem dX9_wordHere_10 : decode cX9_wordHere 10 = .ok (.getfield 101, 3) := dk_180 0 101 (dk_at dksX9_wordHere_0 10 rfl rfl)
theorem dX9_wordHere_13 : decode cX9_wordHere 13 = .ok (.iload_n 2, 1) := dk_28 (dk_at dksX9_wordHere_0 13 rfl rfl)
theorem dX9_wordHere_14 : decode cX9_wordHere 14 = .ok (.iadd, 1) := dk_96 (dk_at dksX9_wordHere_0 14 rfl rfl)
theorem dX9_wordHere_15 : decode cX9_wordHere 15 = .ok (.invokevirtual 104, 3) := dk_182 0 104 (dk_at dksX9_wordHere_0 15 rfl rfl)
theorem dX9_wordHere_18 : decode cX9_wordHere 18 = .ok (.invokestatic 130, 3) := dk_184 0 130 (dk_at dksX9_wordHere_0 18 rfl rfl)
theorem dX9_wordHere_21 : decode cX9_wordHere 21 = .ok (.ifCond .eq 40, 3) := dk_153 0 40 (dk_at dksX9_wordHere_0 21 rfl rfl)
theorem dX9_wordHere_24 : decode cX9_wordHere 24 = .ok (.iload_n 2, 1) := dk_28 (dk_at dksX9_wordHere_1 0 rfl rfl)
theorem dX9_wordHere_25 : decode cX9_wordHere 25 = .ok (.bipush 6, 2) := dk_16 6 (dk_at dksX9_wordHere_1 1 rfl rfl)
theorem dX9_wordHere_27 : decode cX9_wordHere 27 = .ok (.if_icmp .ge 26, 3) := dk_162 0 26 (dk_at dksX9_wordHere_1 3 rfl rfl)
theorem dX9_wordHere_30 : decode cX9_wordHere 30 = .ok (.bipush 27, 2) := dk_16 27 (dk_at dksX9_wordHere_1 6 rfl rfl)
theorem dX9_wordHere_32 : decode cX9_wordHere 32 = .ok (.iload_n 1, 1) := dk_27 (dk_at dksX9_wordHere_1 8 rfl rfl)
theorem dX9_wordHere_33 : decode cX9_wordHere 33 = .ok (.imul, 1) := dk_104 (dk_at dksX9_wordHere_1 9 rfl rfl)
theorem dX9_wordHere_34 : decode cX9_wordHere 34 = .ok (.aload_n 0, 1) := dk_42 (dk_at dksX9_wordHere_1 10 rfl rfl)
theorem dX9_wordHere_35 : decode cX9_wordHere 35 = .ok (.aload_n 0, 1) := dk_42 (dk_at dksX9_wordHere_1 11 rfl rfl)
theorem dX9_wordHere_36 : decode cX9_wordHere 36 = .ok (.getfield 101, 3) := dk_180 0 101 (dk_at dksX9_wordHere_1 12 rfl rfl)
theorem dX9_wordHere_39 : decode cX9_wordHere 39 = .ok (.iload_n 2, 1) := dk_28 (dk_at dksX9_wordHere_1 15 rfl rfl)
theorem dX9_wordHere_40 : decode cX9_wordHere 40 = .ok (.iadd, 1) := dk_96 (dk_at dksX9_wordHere_1 16 rfl rfl)
theorem dX9_wordHere_41 : decode cX9_wordHere 41 = .ok (.invokevirtual 104, 3) := dk_182 0 104 (dk_at dksX9_wordHere_1 17 rfl rfl)
theorem dX9_wordHere_44 : decode cX9_wordHere 44 = .ok (.iadd, 1) := dk_96 (dk_at dksX9_wordHere_1 20 rfl rfl)
theorem dX9_wordHere_45 : decode cX9_wordHere 45 = .ok (.bipush 97, 2) := dk_16 97 (dk_at dksX9_wordHere_1 21 rfl rfl)
theorem dX9_wordHere_47 : decode cX9_wordHere 47 = .ok (.isub, 1) := dk_100 (dk_at dksX9_wordHere_1 23 rfl rfl)
theorem dX9_wordHere_48 : decode cX9_wordHere 48 = .ok (.iconst 1, 1) := dk_4 (dk_at dksX9_wordHere_2 0 rfl rfl)
theorem dX9_wordHere_49 : decode cX9_wordHere 49 = .ok (.iadd, 1) := dk_96 (dk_at dksX9_wordHere_2 1 rfl rfl)
theorem dX9_wordHere_50 : decode cX9_wordHere 50 = .ok (.goto 4, 3) := dk_167 0 4 (dk_at dksX9_wordHere_2 2 rfl rfl)
theorem dX9_wordHere_53 : decode cX9_wordHere 53 = .ok (.iload_n 1, 1) := dk_27 (dk_at dksX9_wordHere_2 5 rfl rfl)
theorem dX9_wordHere_54 : decode cX9_wordHere 54 = .ok (.istore_n 1, 1) := dk_60 (dk_at dksX9_wordHere_2 6 rfl rfl)
theorem dX9_wordHere_55 : decode cX9_wordHere 55 = .ok (.iinc 2 1, 3) := dk_132 2 1 (dk_at dksX9_wordHere_2 7 rfl rfl)
theorem dX9_wordHere_58 : decode cX9_wordHere 58 = .ok (.goto (-50), 3) := dk_167 255 206 (dk_at dksX9_wordHere_2 10 rfl rfl)
theorem dX9_wordHere_61 : decode cX9_wordHere 61 = .ok (.iload_n 2, 1) := dk_28 (dk_at dksX9_wordHere_2 13 rfl rfl)
theorem dX9_wordHere_62 : decode cX9_wordHere 62 = .ok (.bipush 6, 2) := dk_16 6 (dk_at dksX9_wordHere_2 14 rfl rfl)
theorem dX9_wordHere_64 : decode cX9_wordHere 64 = .ok (.if_icmp .le 7, 3) := dk_164 0 7 (dk_at dksX9_wordHere_2 16 rfl rfl)
theorem dX9_wordHere_67 : decode cX9_wordHere 67 = .ok (.iconst (-1), 1) := dk_2 (dk_at dksX9_wordHere_2 19 rfl rfl)
theorem dX9_wordHere_68 : decode cX9_wordHere 68 = .ok (.goto 4, 3) := dk_167 0 4 (dk_at dksX9_wordHere_2 20 rfl rfl)
theorem dX9_wordHere_71 : decode cX9_wordHere 71 = .ok (.iload_n 1, 1) := dk_27 (dk_at dksX9_wordHere_2 23 rfl rfl)
theorem dX9_wordHere_72 : decode cX9_wordHere 72 = .ok (.ireturn, 1) := dk_172 (dk_at dksX9_wordHere_3 0 rfl rfl)
def dkwX9_isSmall_0 : List UInt8 := [26, 16, 97, 161, 0, 13, 26, 16, 122, 163, 0, 7, 4, 167, 0, 4, 3, 172]
abbrev dktX9_isSmall_0 : List UInt8 := dkwX9_isSmall_0 ++ []
theorem dksX9_isSmall_0 : cX9_isSmall.data.toList.drop 0 = dktX9_isSmall_0 := by decide +kernel
theorem dX9_isSmall_0 : decode cX9_isSmall 0 = .ok (.iload_n 0, 1) := dk_26 (dk_at dksX9_isSmall_0 0 rfl rfl)
theorem dX9_isSmall_1 : decode cX9_isSmall 1 = .ok (.bipush 97, 2) := dk_16 97 (dk_at dksX9_isSmall_0 1 rfl rfl)
theorem dX9_isSmall_3 : decode cX9_isSmall 3 = .ok (.if_icmp .lt 13, 3) := dk_161 0 13 (dk_at dksX9_isSmall_0 3 rfl rfl)
theorem dX9_isSmall_6 : decode cX9_isSmall 6 = .ok (.iload_n 0, 1) := dk_26 (dk_at dksX9_isSmall_0 6 rfl rfl)
theorem dX9_isSmall_7 : decode cX9_isSmall 7 = .ok (.bipush 122, 2) := dk_16 122 (dk_at dksX9_isSmall_0 7 rfl rfl)
theorem dX9_isSmall_9 : decode cX9_isSmall 9 = .ok (.if_icmp .gt 7, 3) := dk_163 0 7 (dk_at dksX9_isSmall_0 9 rfl rfl)
theorem dX9_isSmall_12 : decode cX9_isSmall 12 = .ok (.iconst 1, 1) := dk_4 (dk_at dksX9_isSmall_0 12 rfl rfl)
theorem dX9_isSmall_13 : decode cX9_isSmall 13 = .ok (.goto 4, 3) := dk_167 0 4 (dk_at dksX9_isSmall_0 13 rfl rfl)
theorem dX9_isSmall_16 : decode cX9_isSmall 16 = .ok (.iconst 0, 1) := dk_3 (dk_at dksX9_isSmall_0 16 rfl rfl)
theorem dX9_isSmall_17 : decode cX9_isSmall 17 = .ok (.ireturn, 1) := dk_172 (dk_at dksX9_isSmall_0 17 rfl rfl)
def dkwX9_six_2 : List UInt8 := [96, 54, 6, 21, 5, 154, 0, 8, 21, 6, 167, 0, 11, 16, 27, 21, 6, 104, 21, 5, 96, 172]
abbrev dktX9_six_2 : List UInt8 := dkwX9_six_2 ++ []
def dkwX9_six_1 : List UInt8 := [21, 6, 104, 29, 96, 54, 6, 21, 4, 154, 0, 8, 21, 6, 167, 0, 11, 16, 27, 21, 6, 104, 21, 4]
abbrev dktX9_six_1 : List UInt8 := dkwX9_six_1 ++ dktX9_six_2
def dkwX9_six_0 : List UInt8 := [16, 27, 16, 27, 26, 104, 27, 96, 104, 28, 96, 54, 6, 29, 154, 0, 8, 21, 6, 167, 0, 10, 16, 27]
abbrev dktX9_six_0 : List UInt8 := dkwX9_six_0 ++ dktX9_six_1
theorem dksX9_six_0 : cX9_six.data.toList.drop 0 = dktX9_six_0 := by decide +kernel
theorem dksX9_six_1 : cX9_six.data.toList.drop 24 = dktX9_six_1 := dk_seg dksX9_six_0 24 rfl rfl
theorem dksX9_six_2 : cX9_six.data.toList.drop 48 = dktX9_six_2 := dk_seg dksX9_six_1 24 rfl rfl
theorem dX9_six_0 : decode cX9_six 0 = .ok (.bipush 27, 2) := dk_16 27 (dk_at dksX9_six_0 0 rfl rfl)
theorem dX9_six_2 : decode cX9_six 2 = .ok (.bipush 27, 2) := dk_16 27 (dk_at dksX9_six_0 2 rfl rfl)
theorem dX9_six_4 : decode cX9_six 4 = .ok (.iload_n 0, 1) := dk_26 (dk_at dksX9_six_0 4 rfl rfl)
theorem dX9_six_5 : decode cX9_six 5 = .ok (.imul, 1) := dk_104 (dk_at dksX9_six_0 5 rfl rfl)
theorem dX9_six_6 : decode cX9_six 6 = .ok (.iload_n 1, 1) := dk_27 (dk_at dksX9_six_0 6 rfl rfl)
theorem dX9_six_7 : decode cX9_six 7 = .ok (.iadd, 1) := dk_96 (dk_at dksX9_six_0 7 rfl rfl)
theorem dX9_six_8 : decode cX9_six 8 = .ok (.imul, 1) := dk_104 (dk_at dksX9_six_0 8 rfl rfl)
theorem dX9_six_9 : decode cX9_six 9 = .ok (.iload_n 2, 1) := dk_28 (dk_at dksX9_six_0 9 rfl rfl)
theorem dX9_six_10 : decode cX9_six 10 = .ok (.iadd, 1) := dk_96 (dk_at dksX9_six_0 10 rfl rfl)
theorem dX9_six_11 : decode cX9_six 11 = .ok (.istore 6, 2) := dk_54 6 (dk_at dksX9_six_0 11 rfl rfl)
theorem dX9_six_13 : decode cX9_six 13 = .ok (.iload_n 3, 1) := dk_29 (dk_at dksX9_six_0 13 rfl rfl)
theorem dX9_six_14 : decode cX9_six 14 = .ok (.ifCond .ne 8, 3) := dk_154 0 8 (dk_at dksX9_six_0 14 rfl rfl)
theorem dX9_six_17 : decode cX9_six 17 = .ok (.iload 6, 2) := dk_21 6 (dk_at dksX9_six_0 17 rfl rfl)
theorem dX9_six_19 : decode cX9_six 19 = .ok (.goto 10, 3) := dk_167 0 10 (dk_at dksX9_six_0 19 rfl rfl)
theorem dX9_six_22 : decode cX9_six 22 = .ok (.bipush 27, 2) := dk_16 27 (dk_at dksX9_six_0 22 rfl rfl)
theorem dX9_six_24 : decode cX9_six 24 = .ok (.iload 6, 2) := dk_21 6 (dk_at dksX9_six_1 0 rfl rfl)
theorem dX9_six_26 : decode cX9_six 26 = .ok (.imul, 1) := dk_104 (dk_at dksX9_six_1 2 rfl rfl)
theorem dX9_six_27 : decode cX9_six 27 = .ok (.iload_n 3, 1) := dk_29 (dk_at dksX9_six_1 3 rfl rfl)
theorem dX9_six_28 : decode cX9_six 28 = .ok (.iadd, 1) := dk_96 (dk_at dksX9_six_1 4 rfl rfl)
theorem dX9_six_29 : decode cX9_six 29 = .ok (.istore 6, 2) := dk_54 6 (dk_at dksX9_six_1 5 rfl rfl)
theorem dX9_six_31 : decode cX9_six 31 = .ok (.iload 4, 2) := dk_21 4 (dk_at dksX9_six_1 7 rfl rfl)
theorem dX9_six_33 : decode cX9_six 33 = .ok (.ifCond .ne 8, 3) := dk_154 0 8 (dk_at dksX9_six_1 9 rfl rfl)
theorem dX9_six_36 : decode cX9_six 36 = .ok (.iload 6, 2) := dk_21 6 (dk_at dksX9_six_1 12 rfl rfl)
theorem dX9_six_38 : decode cX9_six 38 = .ok (.goto 11, 3) := dk_167 0 11 (dk_at dksX9_six_1 14 rfl rfl)
theorem dX9_six_41 : decode cX9_six 41 = .ok (.bipush 27, 2) := dk_16 27 (dk_at dksX9_six_1 17 rfl rfl)
theorem dX9_six_43 : decode cX9_six 43 = .ok (.iload 6, 2) := dk_21 6 (dk_at dksX9_six_1 19 rfl rfl)
theorem dX9_six_45 : decode cX9_six 45 = .ok (.imul, 1) := dk_104 (dk_at dksX9_six_1 21 rfl rfl)
theorem dX9_six_46 : decode cX9_six 46 = .ok (.iload 4, 2) := dk_21 4 (dk_at dksX9_six_1 22 rfl rfl)
theorem dX9_six_48 : decode cX9_six 48 = .ok (.iadd, 1) := dk_96 (dk_at dksX9_six_2 0 rfl rfl)
theorem dX9_six_49 : decode cX9_six 49 = .ok (.istore 6, 2) := dk_54 6 (dk_at dksX9_six_2 1 rfl rfl)
theorem dX9_six_51 : decode cX9_six 51 = .ok (.iload 5, 2) := dk_21 5 (dk_at dksX9_six_2 3 rfl rfl)
theorem dX9_six_53 : decode cX9_six 53 = .ok (.ifCond .ne 8, 3) := dk_154 0 8 (dk_at dksX9_six_2 5 rfl rfl)
theorem dX9_six_56 : decode cX9_six 56 = .ok (.iload 6, 2) := dk_21 6 (dk_at dksX9_six_2 8 rfl rfl)
theorem dX9_six_58 : decode cX9_six 58 = .ok (.goto 11, 3) := dk_167 0 11 (dk_at dksX9_six_2 10 rfl rfl)
theorem dX9_six_61 : decode cX9_six 61 = .ok (.bipush 27, 2) := dk_16 27 (dk_at dksX9_six_2 13 rfl rfl)
theorem dX9_six_63 : decode cX9_six 63 = .ok (.iload 6, 2) := dk_21 6 (dk_at dksX9_six_2 15 rfl rfl)
theorem dX9_six_65 : decode cX9_six 65 = .ok (.imul, 1) := dk_104 (dk_at dksX9_six_2 17 rfl rfl)
theorem dX9_six_66 : decode cX9_six 66 = .ok (.iload 5, 2) := dk_21 5 (dk_at dksX9_six_2 18 rfl rfl)
theorem dX9_six_68 : decode cX9_six 68 = .ok (.iadd, 1) := dk_96 (dk_at dksX9_six_2 20 rfl rfl)
theorem dX9_six_69 : decode cX9_six 69 = .ok (.ireturn, 1) := dk_172 (dk_at dksX9_six_2 21 rfl rfl)
def dkwX9_wrong_0 : List UInt8 := [42, 180, 0, 108, 154, 0, 13, 42, 27, 181, 0, 108, 42, 28, 181, 0, 111, 177]
abbrev dktX9_wrong_0 : List UInt8 := dkwX9_wrong_0 ++ []
theorem dksX9_wrong_0 : cX9_wrong.data.toList.drop 0 = dktX9_wrong_0 := by decide +kernel
theorem dX9_wrong_0 : decode cX9_wrong 0 = .ok (.aload_n 0, 1) := dk_42 (dk_at dksX9_wrong_0 0 rfl rfl)
theorem dX9_wrong_1 : decode cX9_wrong 1 = .ok (.getfield 108, 3) := dk_180 0 108 (dk_at dksX9_wrong_0 1 rfl rfl)
theorem dX9_wrong_4 : decode cX9_wrong 4 = .ok (.ifCond .ne 13, 3) := dk_154 0 13 (dk_at dksX9_wrong_0 4 rfl rfl)
theorem dX9_wrong_7 : decode cX9_wrong 7 = .ok (.aload_n 0, 1) := dk_42 (dk_at dksX9_wrong_0 7 rfl rfl)
theorem dX9_wrong_8 : decode cX9_wrong 8 = .ok (.iload_n 1, 1) := dk_27 (dk_at dksX9_wrong_0 8 rfl rfl)
theorem dX9_wrong_9 : decode cX9_wrong 9 = .ok (.putfield 108, 3) := dk_181 0 108 (dk_at dksX9_wrong_0 9 rfl rfl)
theorem dX9_wrong_12 : decode cX9_wrong 12 = .ok (.aload_n 0, 1) := dk_42 (dk_at dksX9_wrong_0 12 rfl rfl)
theorem dX9_wrong_13 : decode cX9_wrong 13 = .ok (.iload_n 2, 1) := dk_28 (dk_at dksX9_wrong_0 13 rfl rfl)
theorem dX9_wrong_14 : decode cX9_wrong 14 = .ok (.putfield 111, 3) := dk_181 0 111 (dk_at dksX9_wrong_0 14 rfl rfl)
theorem dX9_wrong_17 : decode cX9_wrong 17 = .ok (.return_, 1) := dk_177 (dk_at dksX9_wrong_0 17 rfl rfl)
def dkwX9_mostOf_0 : List UInt8 := [26, 154, 0, 8, 16, 8, 167, 0, 5, 16, 10, 172]
abbrev dktX9_mostOf_0 : List UInt8 := dkwX9_mostOf_0 ++ []
theorem dksX9_mostOf_0 : cX9_mostOf.data.toList.drop 0 = dktX9_mostOf_0 := by decide +kernel
theorem dX9_mostOf_0 : decode cX9_mostOf 0 = .ok (.iload_n 0, 1) := dk_26 (dk_at dksX9_mostOf_0 0 rfl rfl)
theorem dX9_mostOf_1 : decode cX9_mostOf 1 = .ok (.ifCond .ne 8, 3) := dk_154 0 8 (dk_at dksX9_mostOf_0 1 rfl rfl)
theorem dX9_mostOf_4 : decode cX9_mostOf 4 = .ok (.bipush 8, 2) := dk_16 8 (dk_at dksX9_mostOf_0 4 rfl rfl)
theorem dX9_mostOf_6 : decode cX9_mostOf 6 = .ok (.goto 5, 3) := dk_167 0 5 (dk_at dksX9_mostOf_0 6 rfl rfl)
theorem dX9_mostOf_9 : decode cX9_mostOf 9 = .ok (.bipush 10, 2) := dk_16 10 (dk_at dksX9_mostOf_0 9 rfl rfl)
theorem dX9_mostOf_11 : decode cX9_mostOf 11 = .ok (.ireturn, 1) := dk_172 (dk_at dksX9_mostOf_0 11 rfl rfl)
def dkwX9_skipWord_1 : List UInt8 := [167, 255, 232, 177]
abbrev dktX9_skipWord_1 : List UInt8 := dkwX9_skipWord_1 ++ []
def dkwX9_skipWord_0 : List UInt8 := [42, 42, 180, 0, 101, 182, 0, 104, 184, 0, 130, 153, 0, 16, 42, 89, 180, 0, 101, 4, 96, 181, 0, 101]
abbrev dktX9_skipWord_0 : List UInt8 := dkwX9_skipWord_0 ++ dktX9_skipWord_1
theorem dksX9_skipWord_0 : cX9_skipWord.data.toList.drop 0 = dktX9_skipWord_0 := by decide +kernel
theorem dksX9_skipWord_1 : cX9_skipWord.data.toList.drop 24 = dktX9_skipWord_1 := dk_seg dksX9_skipWord_0 24 rfl rfl
theorem dX9_skipWord_0 : decode cX9_skipWord 0 = .ok (.aload_n 0, 1) := dk_42 (dk_at dksX9_skipWord_0 0 rfl rfl)
theorem dX9_skipWord_1 : decode cX9_skipWord 1 = .ok (.aload_n 0, 1) := dk_42 (dk_at dksX9_skipWord_0 1 rfl rfl)
theorem dX9_skipWord_2 : decode cX9_skipWord 2 = .ok (.getfield 101, 3) := dk_180 0 101 (dk_at dksX9_skipWord_0 2 rfl rfl)
theorem dX9_skipWord_5 : decode cX9_skipWord 5 = .ok (.invokevirtual 104, 3) := dk_182 0 104 (dk_at dksX9_skipWord_0 5 rfl rfl)
theorem dX9_skipWord_8 : decode cX9_skipWord 8 = .ok (.invokestatic 130, 3) := dk_184 0 130 (dk_at dksX9_skipWord_0 8 rfl rfl)
theorem dX9_skipWord_11 : decode cX9_skipWord 11 = .ok (.ifCond .eq 16, 3) := dk_153 0 16 (dk_at dksX9_skipWord_0 11 rfl rfl)
theorem dX9_skipWord_14 : decode cX9_skipWord 14 = .ok (.aload_n 0, 1) := dk_42 (dk_at dksX9_skipWord_0 14 rfl rfl)
theorem dX9_skipWord_15 : decode cX9_skipWord 15 = .ok (.dup, 1) := dk_89 (dk_at dksX9_skipWord_0 15 rfl rfl)
theorem dX9_skipWord_16 : decode cX9_skipWord 16 = .ok (.getfield 101, 3) := dk_180 0 101 (dk_at dksX9_skipWord_0 16 rfl rfl)
theorem dX9_skipWord_19 : decode cX9_skipWord 19 = .ok (.iconst 1, 1) := dk_4 (dk_at dksX9_skipWord_0 19 rfl rfl)
theorem dX9_skipWord_20 : decode cX9_skipWord 20 = .ok (.iadd, 1) := dk_96 (dk_at dksX9_skipWord_0 20 rfl rfl)
theorem dX9_skipWord_21 : decode cX9_skipWord 21 = .ok (.putfield 101, 3) := dk_181 0 101 (dk_at dksX9_skipWord_0 21 rfl rfl)
theorem dX9_skipWord_24 : decode cX9_skipWord 24 = .ok (.goto (-24), 3) := dk_167 255 232 (dk_at dksX9_skipWord_1 0 rfl rfl)
theorem dX9_skipWord_27 : decode cX9_skipWord 27 = .ok (.return_, 1) := dk_177 (dk_at dksX9_skipWord_1 3 rfl rfl)
def dkwX9_number_5 : List UInt8 := [154, 0, 9, 42, 5, 29, 182, 0, 121, 42, 180, 0, 108, 154, 0, 8, 21, 4, 167, 0, 4, 3, 172]
abbrev dktX9_number_5 : List UInt8 := dkwX9_number_5 ++ []
def dkwX9_number_4 : List UInt8 := [54, 4, 42, 89, 180, 0, 101, 4, 96, 181, 0, 101, 167, 255, 197, 21, 4, 27, 28, 184, 0, 126]
abbrev dktX9_number_4 : List UInt8 := dkwX9_number_4 ++ dktX9_number_5
def dkwX9_number_3 : List UInt8 := [182, 0, 104, 96, 16, 48, 100, 54, 4, 21, 4, 18, 125, 164, 0, 8, 18, 125, 167, 0, 5, 21, 4]
abbrev dktX9_number_3 : List UInt8 := dkwX9_number_3 ++ dktX9_number_4
def dkwX9_number_2 : List UInt8 := [180, 0, 101, 182, 0, 104, 184, 0, 117, 153, 0, 51, 16, 10, 21, 4, 104, 42, 42, 180, 0, 101]
abbrev dktX9_number_2 : List UInt8 := dkwX9_number_2 ++ dktX9_number_3
def dkwX9_number_1 : List UInt8 := [180, 0, 101, 182, 0, 104, 184, 0, 117, 154, 0, 12, 42, 4, 42, 180, 0, 101, 182, 0, 121, 42, 42]
abbrev dktX9_number_1 : List UInt8 := dkwX9_number_1 ++ dktX9_number_2
def dkwX9_number_0 : List UInt8 := [42, 180, 0, 108, 153, 0, 5, 3, 172, 42, 182, 0, 114, 42, 180, 0, 101, 62, 3, 54, 4, 42, 42]
abbrev dktX9_number_0 : List UInt8 := dkwX9_number_0 ++ dktX9_number_1
theorem dksX9_number_0 : cX9_number.data.toList.drop 0 = dktX9_number_0 := by decide +kernel
theorem dksX9_number_1 : cX9_number.data.toList.drop 23 = dktX9_number_1 := dk_seg dksX9_number_0 23 rfl rfl
theorem dksX9_number_2 : cX9_number.data.toList.drop 46 = dktX9_number_2 := dk_seg dksX9_number_1 23 rfl rfl
theorem dksX9_number_3 : cX9_number.data.toList.drop 68 = dktX9_number_3 := dk_seg dksX9_number_2 22 rfl rfl
theorem dksX9_number_4 : cX9_number.data.toList.drop 91 = dktX9_number_4 := dk_seg dksX9_number_3 23 rfl rfl
theorem dksX9_number_5 : cX9_number.data.toList.drop 113 = dktX9_number_5 := dk_seg dksX9_number_4 22 rfl rfl
theorem dX9_number_0 : decode cX9_number 0 = .ok (.aload_n 0, 1) := dk_42 (dk_at dksX9_number_0 0 rfl rfl)
theorem dX9_number_1 : decode cX9_number 1 = .ok (.getfield 108, 3) := dk_180 0 108 (dk_at dksX9_number_0 1 rfl rfl)
theorem dX9_number_4 : decode cX9_number 4 = .ok (.ifCond .eq 5, 3) := dk_153 0 5 (dk_at dksX9_number_0 4 rfl rfl)
theorem dX9_number_7 : decode cX9_number 7 = .ok (.iconst 0, 1) := dk_3 (dk_at dksX9_number_0 7 rfl rfl)
theorem dX9_number_8 : decode cX9_number 8 = .ok (.ireturn, 1) := dk_172 (dk_at dksX9_number_0 8 rfl rfl)
theorem dX9_number_9 : decode cX9_number 9 = .ok (.aload_n 0, 1) := dk_42 (dk_at dksX9_number_0 9 rfl rfl)
theorem dX9_number_10 : decode cX9_number 10 = .ok (.invokevirtual 114, 3) := dk_182 0 114 (dk_at dksX9_number_0 10 rfl rfl)
theorem dX9_number_13 : decode cX9_number 13 = .ok (.aload_n 0, 1) := dk_42 (dk_at dksX9_number_0 13 rfl rfl)
theorem dX9_number_14 : decode cX9_number 14 = .ok (.getfield 101, 3) := dk_180 0 101 (dk_at dksX9_number_0 14 rfl rfl)
theorem dX9_number_17 : decode cX9_number 17 = .ok (.istore_n 3, 1) := dk_62 (dk_at dksX9_number_0 17 rfl rfl)
theorem dX9_number_18 : decode cX9_number 18 = .ok (.iconst 0, 1) := dk_3 (dk_at dksX9_number_0 18 rfl rfl)
theorem dX9_number_19 : decode cX9_number 19 = .ok (.istore 4, 2) := dk_54 4 (dk_at dksX9_number_0 19 rfl rfl)
theorem dX9_number_21 : decode cX9_number 21 = .ok (.aload_n 0, 1) := dk_42 (dk_at dksX9_number_0 21 rfl rfl)
theorem dX9_number_22 : decode cX9_number 22 = .ok (.aload_n 0, 1) := dk_42 (dk_at dksX9_number_0 22 rfl rfl)
theorem dX9_number_23 : decode cX9_number 23 = .ok (.getfield 101, 3) := dk_180 0 101 (dk_at dksX9_number_1 0 rfl rfl)
theorem dX9_number_26 : decode cX9_number 26 = .ok (.invokevirtual 104, 3) := dk_182 0 104 (dk_at dksX9_number_1 3 rfl rfl)
theorem dX9_number_29 : decode cX9_number 29 = .ok (.invokestatic 117, 3) := dk_184 0 117 (dk_at dksX9_number_1 6 rfl rfl)
theorem dX9_number_32 : decode cX9_number 32 = .ok (.ifCond .ne 12, 3) := dk_154 0 12 (dk_at dksX9_number_1 9 rfl rfl)
theorem dX9_number_35 : decode cX9_number 35 = .ok (.aload_n 0, 1) := dk_42 (dk_at dksX9_number_1 12 rfl rfl)
theorem dX9_number_36 : decode cX9_number 36 = .ok (.iconst 1, 1) := dk_4 (dk_at dksX9_number_1 13 rfl rfl)
theorem dX9_number_37 : decode cX9_number 37 = .ok (.aload_n 0, 1) := dk_42 (dk_at dksX9_number_1 14 rfl rfl)
theorem dX9_number_38 : decode cX9_number 38 = .ok (.getfield 101, 3) := dk_180 0 101 (dk_at dksX9_number_1 15 rfl rfl)
theorem dX9_number_41 : decode cX9_number 41 = .ok (.invokevirtual 121, 3) := dk_182 0 121 (dk_at dksX9_number_1 18 rfl rfl)
theorem dX9_number_44 : decode cX9_number 44 = .ok (.aload_n 0, 1) := dk_42 (dk_at dksX9_number_1 21 rfl rfl)
theorem dX9_number_45 : decode cX9_number 45 = .ok (.aload_n 0, 1) := dk_42 (dk_at dksX9_number_1 22 rfl rfl)
theorem dX9_number_46 : decode cX9_number 46 = .ok (.getfield 101, 3) := dk_180 0 101 (dk_at dksX9_number_2 0 rfl rfl)
theorem dX9_number_49 : decode cX9_number 49 = .ok (.invokevirtual 104, 3) := dk_182 0 104 (dk_at dksX9_number_2 3 rfl rfl)
theorem dX9_number_52 : decode cX9_number 52 = .ok (.invokestatic 117, 3) := dk_184 0 117 (dk_at dksX9_number_2 6 rfl rfl)
theorem dX9_number_55 : decode cX9_number 55 = .ok (.ifCond .eq 51, 3) := dk_153 0 51 (dk_at dksX9_number_2 9 rfl rfl)
theorem dX9_number_58 : decode cX9_number 58 = .ok (.bipush 10, 2) := dk_16 10 (dk_at dksX9_number_2 12 rfl rfl)
theorem dX9_number_60 : decode cX9_number 60 = .ok (.iload 4, 2) := dk_21 4 (dk_at dksX9_number_2 14 rfl rfl)
theorem dX9_number_62 : decode cX9_number 62 = .ok (.imul, 1) := dk_104 (dk_at dksX9_number_2 16 rfl rfl)
theorem dX9_number_63 : decode cX9_number 63 = .ok (.aload_n 0, 1) := dk_42 (dk_at dksX9_number_2 17 rfl rfl)
theorem dX9_number_64 : decode cX9_number 64 = .ok (.aload_n 0, 1) := dk_42 (dk_at dksX9_number_2 18 rfl rfl)
theorem dX9_number_65 : decode cX9_number 65 = .ok (.getfield 101, 3) := dk_180 0 101 (dk_at dksX9_number_2 19 rfl rfl)
theorem dX9_number_68 : decode cX9_number 68 = .ok (.invokevirtual 104, 3) := dk_182 0 104 (dk_at dksX9_number_3 0 rfl rfl)
theorem dX9_number_71 : decode cX9_number 71 = .ok (.iadd, 1) := dk_96 (dk_at dksX9_number_3 3 rfl rfl)
theorem dX9_number_72 : decode cX9_number 72 = .ok (.bipush 48, 2) := dk_16 48 (dk_at dksX9_number_3 4 rfl rfl)
theorem dX9_number_74 : decode cX9_number 74 = .ok (.isub, 1) := dk_100 (dk_at dksX9_number_3 6 rfl rfl)
theorem dX9_number_75 : decode cX9_number 75 = .ok (.istore 4, 2) := dk_54 4 (dk_at dksX9_number_3 7 rfl rfl)
theorem dX9_number_77 : decode cX9_number 77 = .ok (.iload 4, 2) := dk_21 4 (dk_at dksX9_number_3 9 rfl rfl)
theorem dX9_number_79 : decode cX9_number 79 = .ok (.ldc 125, 2) := dk_18 125 (dk_at dksX9_number_3 11 rfl rfl)
theorem dX9_number_81 : decode cX9_number 81 = .ok (.if_icmp .le 8, 3) := dk_164 0 8 (dk_at dksX9_number_3 13 rfl rfl)
theorem dX9_number_84 : decode cX9_number 84 = .ok (.ldc 125, 2) := dk_18 125 (dk_at dksX9_number_3 16 rfl rfl)
theorem dX9_number_86 : decode cX9_number 86 = .ok (.goto 5, 3) := dk_167 0 5 (dk_at dksX9_number_3 18 rfl rfl)
theorem dX9_number_89 : decode cX9_number 89 = .ok (.iload 4, 2) := dk_21 4 (dk_at dksX9_number_3 21 rfl rfl)
theorem dX9_number_91 : decode cX9_number 91 = .ok (.istore 4, 2) := dk_54 4 (dk_at dksX9_number_4 0 rfl rfl)
theorem dX9_number_93 : decode cX9_number 93 = .ok (.aload_n 0, 1) := dk_42 (dk_at dksX9_number_4 2 rfl rfl)
theorem dX9_number_94 : decode cX9_number 94 = .ok (.dup, 1) := dk_89 (dk_at dksX9_number_4 3 rfl rfl)
theorem dX9_number_95 : decode cX9_number 95 = .ok (.getfield 101, 3) := dk_180 0 101 (dk_at dksX9_number_4 4 rfl rfl)
theorem dX9_number_98 : decode cX9_number 98 = .ok (.iconst 1, 1) := dk_4 (dk_at dksX9_number_4 7 rfl rfl)
theorem dX9_number_99 : decode cX9_number 99 = .ok (.iadd, 1) := dk_96 (dk_at dksX9_number_4 8 rfl rfl)
theorem dX9_number_100 : decode cX9_number 100 = .ok (.putfield 101, 3) := dk_181 0 101 (dk_at dksX9_number_4 9 rfl rfl)
theorem dX9_number_103 : decode cX9_number 103 = .ok (.goto (-59), 3) := dk_167 255 197 (dk_at dksX9_number_4 12 rfl rfl)
theorem dX9_number_106 : decode cX9_number 106 = .ok (.iload 4, 2) := dk_21 4 (dk_at dksX9_number_4 15 rfl rfl)
theorem dX9_number_108 : decode cX9_number 108 = .ok (.iload_n 1, 1) := dk_27 (dk_at dksX9_number_4 17 rfl rfl)
theorem dX9_number_109 : decode cX9_number 109 = .ok (.iload_n 2, 1) := dk_28 (dk_at dksX9_number_4 18 rfl rfl)
theorem dX9_number_110 : decode cX9_number 110 = .ok (.invokestatic 126, 3) := dk_184 0 126 (dk_at dksX9_number_4 19 rfl rfl)
theorem dX9_number_113 : decode cX9_number 113 = .ok (.ifCond .ne 9, 3) := dk_154 0 9 (dk_at dksX9_number_5 0 rfl rfl)
theorem dX9_number_116 : decode cX9_number 116 = .ok (.aload_n 0, 1) := dk_42 (dk_at dksX9_number_5 3 rfl rfl)
theorem dX9_number_117 : decode cX9_number 117 = .ok (.iconst 2, 1) := dk_5 (dk_at dksX9_number_5 4 rfl rfl)
theorem dX9_number_118 : decode cX9_number 118 = .ok (.iload_n 3, 1) := dk_29 (dk_at dksX9_number_5 5 rfl rfl)
theorem dX9_number_119 : decode cX9_number 119 = .ok (.invokevirtual 121, 3) := dk_182 0 121 (dk_at dksX9_number_5 6 rfl rfl)
theorem dX9_number_122 : decode cX9_number 122 = .ok (.aload_n 0, 1) := dk_42 (dk_at dksX9_number_5 9 rfl rfl)
theorem dX9_number_123 : decode cX9_number 123 = .ok (.getfield 108, 3) := dk_180 0 108 (dk_at dksX9_number_5 10 rfl rfl)
theorem dX9_number_126 : decode cX9_number 126 = .ok (.ifCond .ne 8, 3) := dk_154 0 8 (dk_at dksX9_number_5 13 rfl rfl)
theorem dX9_number_129 : decode cX9_number 129 = .ok (.iload 4, 2) := dk_21 4 (dk_at dksX9_number_5 16 rfl rfl)
theorem dX9_number_131 : decode cX9_number 131 = .ok (.goto 4, 3) := dk_167 0 4 (dk_at dksX9_number_5 18 rfl rfl)
theorem dX9_number_134 : decode cX9_number 134 = .ok (.iconst 0, 1) := dk_3 (dk_at dksX9_number_5 21 rfl rfl)
theorem dX9_number_135 : decode cX9_number 135 = .ok (.ireturn, 1) := dk_172 (dk_at dksX9_number_5 22 rfl rfl)
def dkwX9_isDigit_0 : List UInt8 := [26, 16, 48, 161, 0, 13, 26, 16, 57, 163, 0, 7, 4, 167, 0, 4, 3, 172]
abbrev dktX9_isDigit_0 : List UInt8 := dkwX9_isDigit_0 ++ []
theorem dksX9_isDigit_0 : cX9_isDigit.data.toList.drop 0 = dktX9_isDigit_0 := by decide +kernel
theorem dX9_isDigit_0 : decode cX9_isDigit 0 = .ok (.iload_n 0, 1) := dk_26 (dk_at dksX9_isDigit_0 0 rfl rfl)
theorem dX9_isDigit_1 : decode cX9_isDigit 1 = .ok (.bipush 48, 2) := dk_16 48 (dk_at dksX9_isDigit_0 1 rfl rfl)
theorem dX9_isDigit_3 : decode cX9_isDigit 3 = .ok (.if_icmp .lt 13, 3) := dk_161 0 13 (dk_at dksX9_isDigit_0 3 rfl rfl)
theorem dX9_isDigit_6 : decode cX9_isDigit 6 = .ok (.iload_n 0, 1) := dk_26 (dk_at dksX9_isDigit_0 6 rfl rfl)
theorem dX9_isDigit_7 : decode cX9_isDigit 7 = .ok (.bipush 57, 2) := dk_16 57 (dk_at dksX9_isDigit_0 7 rfl rfl)
theorem dX9_isDigit_9 : decode cX9_isDigit 9 = .ok (.if_icmp .gt 7, 3) := dk_163 0 7 (dk_at dksX9_isDigit_0 9 rfl rfl)
theorem dX9_isDigit_12 : decode cX9_isDigit 12 = .ok (.iconst 1, 1) := dk_4 (dk_at dksX9_isDigit_0 12 rfl rfl)
theorem dX9_isDigit_13 : decode cX9_isDigit 13 = .ok (.goto 4, 3) := dk_167 0 4 (dk_at dksX9_isDigit_0 13 rfl rfl)
theorem dX9_isDigit_16 : decode cX9_isDigit 16 = .ok (.iconst 0, 1) := dk_3 (dk_at dksX9_isDigit_0 16 rfl rfl)
theorem dX9_isDigit_17 : decode cX9_isDigit 17 = .ok (.ireturn, 1) := dk_172 (dk_at dksX9_isDigit_0 17 rfl rfl)
def dkwX9_otherThing_1 : List UInt8 := [154, 0, 15, 27, 21, 4, 160, 0, 9, 42, 5, 29, 182, 0, 121, 21, 4, 172]
abbrev dktX9_otherThing_1 : List UInt8 := dkwX9_otherThing_1 ++ []
def dkwX9_otherThing_0 : List UInt8 := [42, 182, 0, 114, 42, 180, 0, 101, 62, 42, 3, 28, 4, 100, 182, 0, 154, 54, 4, 42, 180, 0, 108]
abbrev dktX9_otherThing_0 : List UInt8 := dkwX9_otherThing_0 ++ dktX9_otherThing_1
theorem dksX9_otherThing_0 : cX9_otherThing.data.toList.drop 0 = dktX9_otherThing_0 := by decide +kernel
theorem dksX9_otherThing_1 : cX9_otherThing.data.toList.drop 23 = dktX9_otherThing_1 := dk_seg dksX9_otherThing_0 23 rfl rfl
theorem dX9_otherThing_0 : decode cX9_otherThing 0 = .ok (.aload_n 0, 1) := dk_42 (dk_at dksX9_otherThing_0 0 rfl rfl)
theorem dX9_otherThing_1 : decode cX9_otherThing 1 = .ok (.invokevirtual 114, 3) := dk_182 0 114 (dk_at dksX9_otherThing_0 1 rfl rfl)
theorem dX9_otherThing_4 : decode cX9_otherThing 4 = .ok (.aload_n 0, 1) := dk_42 (dk_at dksX9_otherThing_0 4 rfl rfl)
theorem dX9_otherThing_5 : decode cX9_otherThing 5 = .ok (.getfield 101, 3) := dk_180 0 101 (dk_at dksX9_otherThing_0 5 rfl rfl)
theorem dX9_otherThing_8 : decode cX9_otherThing 8 = .ok (.istore_n 3, 1) := dk_62 (dk_at dksX9_otherThing_0 8 rfl rfl)
theorem dX9_otherThing_9 : decode cX9_otherThing 9 = .ok (.aload_n 0, 1) := dk_42 (dk_at dksX9_otherThing_0 9 rfl rfl)
theorem dX9_otherThing_10 : decode cX9_otherThing 10 = .ok (.iconst 0, 1) := dk_3 (dk_at dksX9_otherThing_0 10 rfl rfl)
theorem dX9_otherThing_11 : decode cX9_otherThing 11 = .ok (.iload_n 2, 1) := dk_28 (dk_at dksX9_otherThing_0 11 rfl rfl)
theorem dX9_otherThing_12 : decode cX9_otherThing 12 = .ok (.iconst 1, 1) := dk_4 (dk_at dksX9_otherThing_0 12 rfl rfl)
theorem dX9_otherThing_13 : decode cX9_otherThing 13 = .ok (.isub, 1) := dk_100 (dk_at dksX9_otherThing_0 13 rfl rfl)
theorem dX9_otherThing_14 : decode cX9_otherThing 14 = .ok (.invokevirtual 154, 3) := dk_182 0 154 (dk_at dksX9_otherThing_0 14 rfl rfl)
theorem dX9_otherThing_17 : decode cX9_otherThing 17 = .ok (.istore 4, 2) := dk_54 4 (dk_at dksX9_otherThing_0 17 rfl rfl)
theorem dX9_otherThing_19 : decode cX9_otherThing 19 = .ok (.aload_n 0, 1) := dk_42 (dk_at dksX9_otherThing_0 19 rfl rfl)
theorem dX9_otherThing_20 : decode cX9_otherThing 20 = .ok (.getfield 108, 3) := dk_180 0 108 (dk_at dksX9_otherThing_0 20 rfl rfl)
theorem dX9_otherThing_23 : decode cX9_otherThing 23 = .ok (.ifCond .ne 15, 3) := dk_154 0 15 (dk_at dksX9_otherThing_1 0 rfl rfl)
theorem dX9_otherThing_26 : decode cX9_otherThing 26 = .ok (.iload_n 1, 1) := dk_27 (dk_at dksX9_otherThing_1 3 rfl rfl)
theorem dX9_otherThing_27 : decode cX9_otherThing 27 = .ok (.iload 4, 2) := dk_21 4 (dk_at dksX9_otherThing_1 4 rfl rfl)
theorem dX9_otherThing_29 : decode cX9_otherThing 29 = .ok (.if_icmp .ne 9, 3) := dk_160 0 9 (dk_at dksX9_otherThing_1 6 rfl rfl)
theorem dX9_otherThing_32 : decode cX9_otherThing 32 = .ok (.aload_n 0, 1) := dk_42 (dk_at dksX9_otherThing_1 9 rfl rfl)
theorem dX9_otherThing_33 : decode cX9_otherThing 33 = .ok (.iconst 2, 1) := dk_5 (dk_at dksX9_otherThing_1 10 rfl rfl)
theorem dX9_otherThing_34 : decode cX9_otherThing 34 = .ok (.iload_n 3, 1) := dk_29 (dk_at dksX9_otherThing_1 11 rfl rfl)
theorem dX9_otherThing_35 : decode cX9_otherThing 35 = .ok (.invokevirtual 121, 3) := dk_182 0 121 (dk_at dksX9_otherThing_1 12 rfl rfl)
theorem dX9_otherThing_38 : decode cX9_otherThing 38 = .ok (.iload 4, 2) := dk_21 4 (dk_at dksX9_otherThing_1 15 rfl rfl)
theorem dX9_otherThing_40 : decode cX9_otherThing 40 = .ok (.ireturn, 1) := dk_172 (dk_at dksX9_otherThing_1 17 rfl rfl)
def dkwX9_sign_1 : List UInt8 := [42, 89, 180, 0, 101, 4, 96, 181, 0, 101, 167, 0, 12, 42, 4, 42, 180, 0, 101, 182, 0, 121, 177]
abbrev dktX9_sign_1 : List UInt8 := dkwX9_sign_1 ++ []
def dkwX9_sign_0 : List UInt8 := [42, 180, 0, 108, 153, 0, 4, 177, 42, 182, 0, 114, 42, 42, 180, 0, 101, 182, 0, 104, 27, 160, 0, 16]
abbrev dktX9_sign_0 : List UInt8 := dkwX9_sign_0 ++ dktX9_sign_1
theorem dksX9_sign_0 : cX9_sign.data.toList.drop 0 = dktX9_sign_0 := by decide +kernel
theorem dksX9_sign_1 : cX9_sign.data.toList.drop 24 = dktX9_sign_1 := dk_seg dksX9_sign_0 24 rfl rfl
theorem dX9_sign_0 : decode cX9_sign 0 = .ok (.aload_n 0, 1) := dk_42 (dk_at dksX9_sign_0 0 rfl rfl)
theorem dX9_sign_1 : decode cX9_sign 1 = .ok (.getfield 108, 3) := dk_180 0 108 (dk_at dksX9_sign_0 1 rfl rfl)
theorem dX9_sign_4 : decode cX9_sign 4 = .ok (.ifCond .eq 4, 3) := dk_153 0 4 (dk_at dksX9_sign_0 4 rfl rfl)
theorem dX9_sign_7 : decode cX9_sign 7 = .ok (.return_, 1) := dk_177 (dk_at dksX9_sign_0 7 rfl rfl)
theorem dX9_sign_8 : decode cX9_sign 8 = .ok (.aload_n 0, 1) := dk_42 (dk_at dksX9_sign_0 8 rfl rfl)
theorem dX9_sign_9 : decode cX9_sign 9 = .ok (.invokevirtual 114, 3) := dk_182 0 114 (dk_at dksX9_sign_0 9 rfl rfl)
theorem dX9_sign_12 : decode cX9_sign 12 = .ok (.aload_n 0, 1) := dk_42 (dk_at dksX9_sign_0 12 rfl rfl)
theorem dX9_sign_13 : decode cX9_sign 13 = .ok (.aload_n 0, 1) := dk_42 (dk_at dksX9_sign_0 13 rfl rfl)
theorem dX9_sign_14 : decode cX9_sign 14 = .ok (.getfield 101, 3) := dk_180 0 101 (dk_at dksX9_sign_0 14 rfl rfl)
theorem dX9_sign_17 : decode cX9_sign 17 = .ok (.invokevirtual 104, 3) := dk_182 0 104 (dk_at dksX9_sign_0 17 rfl rfl)
theorem dX9_sign_20 : decode cX9_sign 20 = .ok (.iload_n 1, 1) := dk_27 (dk_at dksX9_sign_0 20 rfl rfl)
theorem dX9_sign_21 : decode cX9_sign 21 = .ok (.if_icmp .ne 16, 3) := dk_160 0 16 (dk_at dksX9_sign_0 21 rfl rfl)
theorem dX9_sign_24 : decode cX9_sign 24 = .ok (.aload_n 0, 1) := dk_42 (dk_at dksX9_sign_1 0 rfl rfl)
theorem dX9_sign_25 : decode cX9_sign 25 = .ok (.dup, 1) := dk_89 (dk_at dksX9_sign_1 1 rfl rfl)
theorem dX9_sign_26 : decode cX9_sign 26 = .ok (.getfield 101, 3) := dk_180 0 101 (dk_at dksX9_sign_1 2 rfl rfl)
theorem dX9_sign_29 : decode cX9_sign 29 = .ok (.iconst 1, 1) := dk_4 (dk_at dksX9_sign_1 5 rfl rfl)
theorem dX9_sign_30 : decode cX9_sign 30 = .ok (.iadd, 1) := dk_96 (dk_at dksX9_sign_1 6 rfl rfl)
theorem dX9_sign_31 : decode cX9_sign 31 = .ok (.putfield 101, 3) := dk_181 0 101 (dk_at dksX9_sign_1 7 rfl rfl)
theorem dX9_sign_34 : decode cX9_sign 34 = .ok (.goto 12, 3) := dk_167 0 12 (dk_at dksX9_sign_1 10 rfl rfl)
theorem dX9_sign_37 : decode cX9_sign 37 = .ok (.aload_n 0, 1) := dk_42 (dk_at dksX9_sign_1 13 rfl rfl)
theorem dX9_sign_38 : decode cX9_sign 38 = .ok (.iconst 1, 1) := dk_4 (dk_at dksX9_sign_1 14 rfl rfl)
theorem dX9_sign_39 : decode cX9_sign 39 = .ok (.aload_n 0, 1) := dk_42 (dk_at dksX9_sign_1 15 rfl rfl)
theorem dX9_sign_40 : decode cX9_sign 40 = .ok (.getfield 101, 3) := dk_180 0 101 (dk_at dksX9_sign_1 16 rfl rfl)
theorem dX9_sign_43 : decode cX9_sign 43 = .ok (.invokevirtual 121, 3) := dk_182 0 121 (dk_at dksX9_sign_1 19 rfl rfl)
theorem dX9_sign_46 : decode cX9_sign 46 = .ok (.return_, 1) := dk_177 (dk_at dksX9_sign_1 22 rfl rfl)
def dkwX9_ends_0 : List UInt8 := [42, 42, 180, 0, 111, 181, 0, 9, 42, 180, 0, 108, 16, 10, 100, 172]
abbrev dktX9_ends_0 : List UInt8 := dkwX9_ends_0 ++ []
theorem dksX9_ends_0 : cX9_ends.data.toList.drop 0 = dktX9_ends_0 := by decide +kernel
theorem dX9_ends_0 : decode cX9_ends 0 = .ok (.aload_n 0, 1) := dk_42 (dk_at dksX9_ends_0 0 rfl rfl)
theorem dX9_ends_1 : decode cX9_ends 1 = .ok (.aload_n 0, 1) := dk_42 (dk_at dksX9_ends_0 1 rfl rfl)
theorem dX9_ends_2 : decode cX9_ends 2 = .ok (.getfield 111, 3) := dk_180 0 111 (dk_at dksX9_ends_0 2 rfl rfl)
theorem dX9_ends_5 : decode cX9_ends 5 = .ok (.putfield 9, 3) := dk_181 0 9 (dk_at dksX9_ends_0 5 rfl rfl)
theorem dX9_ends_8 : decode cX9_ends 8 = .ok (.aload_n 0, 1) := dk_42 (dk_at dksX9_ends_0 8 rfl rfl)
theorem dX9_ends_9 : decode cX9_ends 9 = .ok (.getfield 108, 3) := dk_180 0 108 (dk_at dksX9_ends_0 9 rfl rfl)
theorem dX9_ends_12 : decode cX9_ends 12 = .ok (.bipush 10, 2) := dk_16 10 (dk_at dksX9_ends_0 12 rfl rfl)
theorem dX9_ends_14 : decode cX9_ends 14 = .ok (.isub, 1) := dk_100 (dk_at dksX9_ends_0 14 rfl rfl)
theorem dX9_ends_15 : decode cX9_ends 15 = .ok (.ireturn, 1) := dk_172 (dk_at dksX9_ends_0 15 rfl rfl)
def dkwX9_law_5 : List UInt8 := [180, 0, 40, 42, 180, 0, 188, 184, 0, 184, 4, 172]
abbrev dktX9_law_5 : List UInt8 := dkwX9_law_5 ++ []
def dkwX9_law_4 : List UInt8 := [182, 0, 181, 172, 42, 2, 181, 0, 9, 42, 42, 180, 0, 203, 181, 0, 188, 42, 180, 0, 43, 42]
abbrev dktX9_law_4 : List UInt8 := dkwX9_law_4 ++ dktX9_law_5
def dkwX9_law_3 : List UInt8 := [180, 0, 98, 162, 0, 12, 42, 4, 42, 180, 0, 101, 182, 0, 121, 42, 180, 0, 108, 153, 0, 8, 42]
abbrev dktX9_law_3 : List UInt8 := dkwX9_law_3 ++ dktX9_law_4
def dkwX9_law_2 : List UInt8 := [3, 181, 0, 203, 42, 182, 0, 229, 42, 182, 0, 114, 42, 180, 0, 108, 154, 0, 23, 42, 180, 0, 101, 42]
abbrev dktX9_law_2 : List UInt8 := dkwX9_law_2 ++ dktX9_law_3
def dkwX9_law_1 : List UInt8 := [164, 0, 7, 4, 167, 0, 4, 3, 4, 4, 182, 0, 171, 153, 0, 5, 3, 172, 42, 27, 182, 0, 175, 42]
abbrev dktX9_law_1 : List UInt8 := dkwX9_law_1 ++ dktX9_law_2
def dkwX9_law_0 : List UInt8 := [42, 3, 181, 0, 92, 42, 27, 3, 42, 180, 0, 95, 184, 0, 126, 153, 0, 10, 27, 17, 0, 150]
abbrev dktX9_law_0 : List UInt8 := dkwX9_law_0 ++ dktX9_law_1
theorem dksX9_law_0 : cX9_law.data.toList.drop 0 = dktX9_law_0 := by decide +kernel
theorem dksX9_law_1 : cX9_law.data.toList.drop 22 = dktX9_law_1 := dk_seg dksX9_law_0 22 rfl rfl
theorem dksX9_law_2 : cX9_law.data.toList.drop 46 = dktX9_law_2 := dk_seg dksX9_law_1 24 rfl rfl
theorem dksX9_law_3 : cX9_law.data.toList.drop 70 = dktX9_law_3 := dk_seg dksX9_law_2 24 rfl rfl
theorem dksX9_law_4 : cX9_law.data.toList.drop 93 = dktX9_law_4 := dk_seg dksX9_law_3 23 rfl rfl
theorem dksX9_law_5 : cX9_law.data.toList.drop 115 = dktX9_law_5 := dk_seg dksX9_law_4 22 rfl rfl
theorem dX9_law_0 : decode cX9_law 0 = .ok (.aload_n 0, 1) := dk_42 (dk_at dksX9_law_0 0 rfl rfl)
theorem dX9_law_1 : decode cX9_law 1 = .ok (.iconst 0, 1) := dk_3 (dk_at dksX9_law_0 1 rfl rfl)
theorem dX9_law_2 : decode cX9_law 2 = .ok (.putfield 92, 3) := dk_181 0 92 (dk_at dksX9_law_0 2 rfl rfl)
theorem dX9_law_5 : decode cX9_law 5 = .ok (.aload_n 0, 1) := dk_42 (dk_at dksX9_law_0 5 rfl rfl)
theorem dX9_law_6 : decode cX9_law 6 = .ok (.iload_n 1, 1) := dk_27 (dk_at dksX9_law_0 6 rfl rfl)
theorem dX9_law_7 : decode cX9_law 7 = .ok (.iconst 0, 1) := dk_3 (dk_at dksX9_law_0 7 rfl rfl)
theorem dX9_law_8 : decode cX9_law 8 = .ok (.aload_n 0, 1) := dk_42 (dk_at dksX9_law_0 8 rfl rfl)
theorem dX9_law_9 : decode cX9_law 9 = .ok (.getfield 95, 3) := dk_180 0 95 (dk_at dksX9_law_0 9 rfl rfl)
theorem dX9_law_12 : decode cX9_law 12 = .ok (.invokestatic 126, 3) := dk_184 0 126 (dk_at dksX9_law_0 12 rfl rfl)
theorem dX9_law_15 : decode cX9_law 15 = .ok (.ifCond .eq 10, 3) := dk_153 0 10 (dk_at dksX9_law_0 15 rfl rfl)
theorem dX9_law_18 : decode cX9_law 18 = .ok (.iload_n 1, 1) := dk_27 (dk_at dksX9_law_0 18 rfl rfl)
theorem dX9_law_19 : decode cX9_law 19 = .ok (.sipush 150, 3) := dk_17 0 150 (dk_at dksX9_law_0 19 rfl rfl)
theorem dX9_law_22 : decode cX9_law 22 = .ok (.if_icmp .le 7, 3) := dk_164 0 7 (dk_at dksX9_law_1 0 rfl rfl)
theorem dX9_law_25 : decode cX9_law 25 = .ok (.iconst 1, 1) := dk_4 (dk_at dksX9_law_1 3 rfl rfl)
theorem dX9_law_26 : decode cX9_law 26 = .ok (.goto 4, 3) := dk_167 0 4 (dk_at dksX9_law_1 4 rfl rfl)
theorem dX9_law_29 : decode cX9_law 29 = .ok (.iconst 0, 1) := dk_3 (dk_at dksX9_law_1 7 rfl rfl)
theorem dX9_law_30 : decode cX9_law 30 = .ok (.iconst 1, 1) := dk_4 (dk_at dksX9_law_1 8 rfl rfl)
theorem dX9_law_31 : decode cX9_law 31 = .ok (.iconst 1, 1) := dk_4 (dk_at dksX9_law_1 9 rfl rfl)
theorem dX9_law_32 : decode cX9_law 32 = .ok (.invokevirtual 171, 3) := dk_182 0 171 (dk_at dksX9_law_1 10 rfl rfl)
theorem dX9_law_35 : decode cX9_law 35 = .ok (.ifCond .eq 5, 3) := dk_153 0 5 (dk_at dksX9_law_1 13 rfl rfl)
theorem dX9_law_38 : decode cX9_law 38 = .ok (.iconst 0, 1) := dk_3 (dk_at dksX9_law_1 16 rfl rfl)
theorem dX9_law_39 : decode cX9_law 39 = .ok (.ireturn, 1) := dk_172 (dk_at dksX9_law_1 17 rfl rfl)
theorem dX9_law_40 : decode cX9_law 40 = .ok (.aload_n 0, 1) := dk_42 (dk_at dksX9_law_1 18 rfl rfl)
theorem dX9_law_41 : decode cX9_law 41 = .ok (.iload_n 1, 1) := dk_27 (dk_at dksX9_law_1 19 rfl rfl)
theorem dX9_law_42 : decode cX9_law 42 = .ok (.invokevirtual 175, 3) := dk_182 0 175 (dk_at dksX9_law_1 20 rfl rfl)
theorem dX9_law_45 : decode cX9_law 45 = .ok (.aload_n 0, 1) := dk_42 (dk_at dksX9_law_1 23 rfl rfl)
theorem dX9_law_46 : decode cX9_law 46 = .ok (.iconst 0, 1) := dk_3 (dk_at dksX9_law_2 0 rfl rfl)
theorem dX9_law_47 : decode cX9_law 47 = .ok (.putfield 203, 3) := dk_181 0 203 (dk_at dksX9_law_2 1 rfl rfl)
theorem dX9_law_50 : decode cX9_law 50 = .ok (.aload_n 0, 1) := dk_42 (dk_at dksX9_law_2 4 rfl rfl)
theorem dX9_law_51 : decode cX9_law 51 = .ok (.invokevirtual 229, 3) := dk_182 0 229 (dk_at dksX9_law_2 5 rfl rfl)
theorem dX9_law_54 : decode cX9_law 54 = .ok (.aload_n 0, 1) := dk_42 (dk_at dksX9_law_2 8 rfl rfl)
theorem dX9_law_55 : decode cX9_law 55 = .ok (.invokevirtual 114, 3) := dk_182 0 114 (dk_at dksX9_law_2 9 rfl rfl)
theorem dX9_law_58 : decode cX9_law 58 = .ok (.aload_n 0, 1) := dk_42 (dk_at dksX9_law_2 12 rfl rfl)
theorem dX9_law_59 : decode cX9_law 59 = .ok (.getfield 108, 3) := dk_180 0 108 (dk_at dksX9_law_2 13 rfl rfl)
theorem dX9_law_62 : decode cX9_law 62 = .ok (.ifCond .ne 23, 3) := dk_154 0 23 (dk_at dksX9_law_2 16 rfl rfl)
theorem dX9_law_65 : decode cX9_law 65 = .ok (.aload_n 0, 1) := dk_42 (dk_at dksX9_law_2 19 rfl rfl)
theorem dX9_law_66 : decode cX9_law 66 = .ok (.getfield 101, 3) := dk_180 0 101 (dk_at dksX9_law_2 20 rfl rfl)
theorem dX9_law_69 : decode cX9_law 69 = .ok (.aload_n 0, 1) := dk_42 (dk_at dksX9_law_2 23 rfl rfl)
theorem dX9_law_70 : decode cX9_law 70 = .ok (.getfield 98, 3) := dk_180 0 98 (dk_at dksX9_law_3 0 rfl rfl)
theorem dX9_law_73 : decode cX9_law 73 = .ok (.if_icmp .ge 12, 3) := dk_162 0 12 (dk_at dksX9_law_3 3 rfl rfl)
theorem dX9_law_76 : decode cX9_law 76 = .ok (.aload_n 0, 1) := dk_42 (dk_at dksX9_law_3 6 rfl rfl)
theorem dX9_law_77 : decode cX9_law 77 = .ok (.iconst 1, 1) := dk_4 (dk_at dksX9_law_3 7 rfl rfl)
theorem dX9_law_78 : decode cX9_law 78 = .ok (.aload_n 0, 1) := dk_42 (dk_at dksX9_law_3 8 rfl rfl)
theorem dX9_law_79 : decode cX9_law 79 = .ok (.getfield 101, 3) := dk_180 0 101 (dk_at dksX9_law_3 9 rfl rfl)
theorem dX9_law_82 : decode cX9_law 82 = .ok (.invokevirtual 121, 3) := dk_182 0 121 (dk_at dksX9_law_3 12 rfl rfl)
theorem dX9_law_85 : decode cX9_law 85 = .ok (.aload_n 0, 1) := dk_42 (dk_at dksX9_law_3 15 rfl rfl)
theorem dX9_law_86 : decode cX9_law 86 = .ok (.getfield 108, 3) := dk_180 0 108 (dk_at dksX9_law_3 16 rfl rfl)
theorem dX9_law_89 : decode cX9_law 89 = .ok (.ifCond .eq 8, 3) := dk_153 0 8 (dk_at dksX9_law_3 19 rfl rfl)
theorem dX9_law_92 : decode cX9_law 92 = .ok (.aload_n 0, 1) := dk_42 (dk_at dksX9_law_3 22 rfl rfl)
theorem dX9_law_93 : decode cX9_law 93 = .ok (.invokevirtual 181, 3) := dk_182 0 181 (dk_at dksX9_law_4 0 rfl rfl)
theorem dX9_law_96 : decode cX9_law 96 = .ok (.ireturn, 1) := dk_172 (dk_at dksX9_law_4 3 rfl rfl)
theorem dX9_law_97 : decode cX9_law 97 = .ok (.aload_n 0, 1) := dk_42 (dk_at dksX9_law_4 4 rfl rfl)
theorem dX9_law_98 : decode cX9_law 98 = .ok (.iconst (-1), 1) := dk_2 (dk_at dksX9_law_4 5 rfl rfl)
theorem dX9_law_99 : decode cX9_law 99 = .ok (.putfield 9, 3) := dk_181 0 9 (dk_at dksX9_law_4 6 rfl rfl)
theorem dX9_law_102 : decode cX9_law 102 = .ok (.aload_n 0, 1) := dk_42 (dk_at dksX9_law_4 9 rfl rfl)
theorem dX9_law_103 : decode cX9_law 103 = .ok (.aload_n 0, 1) := dk_42 (dk_at dksX9_law_4 10 rfl rfl)
theorem dX9_law_104 : decode cX9_law 104 = .ok (.getfield 203, 3) := dk_180 0 203 (dk_at dksX9_law_4 11 rfl rfl)
theorem dX9_law_107 : decode cX9_law 107 = .ok (.putfield 188, 3) := dk_181 0 188 (dk_at dksX9_law_4 14 rfl rfl)
theorem dX9_law_110 : decode cX9_law 110 = .ok (.aload_n 0, 1) := dk_42 (dk_at dksX9_law_4 17 rfl rfl)
theorem dX9_law_111 : decode cX9_law 111 = .ok (.getfield 43, 3) := dk_180 0 43 (dk_at dksX9_law_4 18 rfl rfl)
theorem dX9_law_114 : decode cX9_law 114 = .ok (.aload_n 0, 1) := dk_42 (dk_at dksX9_law_4 21 rfl rfl)
theorem dX9_law_115 : decode cX9_law 115 = .ok (.getfield 40, 3) := dk_180 0 40 (dk_at dksX9_law_5 0 rfl rfl)
theorem dX9_law_118 : decode cX9_law 118 = .ok (.aload_n 0, 1) := dk_42 (dk_at dksX9_law_5 3 rfl rfl)
theorem dX9_law_119 : decode cX9_law 119 = .ok (.getfield 188, 3) := dk_180 0 188 (dk_at dksX9_law_5 4 rfl rfl)
theorem dX9_law_122 : decode cX9_law 122 = .ok (.invokestatic 184, 3) := dk_184 0 184 (dk_at dksX9_law_5 7 rfl rfl)
theorem dX9_law_125 : decode cX9_law 125 = .ok (.iconst 1, 1) := dk_4 (dk_at dksX9_law_5 10 rfl rfl)
theorem dX9_law_126 : decode cX9_law 126 = .ok (.ireturn, 1) := dk_172 (dk_at dksX9_law_5 11 rfl rfl)
def dkwX9_sum_2 : List UInt8 := [182, 0, 206, 42, 27, 3, 182, 0, 212, 167, 255, 205, 177]
abbrev dktX9_sum_2 : List UInt8 := dkwX9_sum_2 ++ []
def dkwX9_sum_1 : List UInt8 := [42, 16, 45, 182, 0, 209, 153, 0, 7, 6, 167, 0, 4, 2, 60, 27, 2, 160, 0, 4, 177, 42]
abbrev dktX9_sum_1 : List UInt8 := dkwX9_sum_1 ++ dktX9_sum_2
def dkwX9_sum_0 : List UInt8 := [42, 182, 0, 206, 42, 180, 0, 108, 154, 0, 50, 42, 16, 43, 182, 0, 209, 153, 0, 7, 5, 167, 0, 17]
abbrev dktX9_sum_0 : List UInt8 := dkwX9_sum_0 ++ dktX9_sum_1
theorem dksX9_sum_0 : cX9_sum.data.toList.drop 0 = dktX9_sum_0 := by decide +kernel
theorem dksX9_sum_1 : cX9_sum.data.toList.drop 24 = dktX9_sum_1 := dk_seg dksX9_sum_0 24 rfl rfl
theorem dksX9_sum_2 : cX9_sum.data.toList.drop 46 = dktX9_sum_2 := dk_seg dksX9_sum_1 22 rfl rfl
theorem dX9_sum_0 : decode cX9_sum 0 = .ok (.aload_n 0, 1) := dk_42 (dk_at dksX9_sum_0 0 rfl rfl)
theorem dX9_sum_1 : decode cX9_sum 1 = .ok (.invokevirtual 206, 3) := dk_182 0 206 (dk_at dksX9_sum_0 1 rfl rfl)
theorem dX9_sum_4 : decode cX9_sum 4 = .ok (.aload_n 0, 1) := dk_42 (dk_at dksX9_sum_0 4 rfl rfl)
theorem dX9_sum_5 : decode cX9_sum 5 = .ok (.getfield 108, 3) := dk_180 0 108 (dk_at dksX9_sum_0 5 rfl rfl)
theorem dX9_sum_8 : decode cX9_sum 8 = .ok (.ifCond .ne 50, 3) := dk_154 0 50 (dk_at dksX9_sum_0 8 rfl rfl)
theorem dX9_sum_11 : decode cX9_sum 11 = .ok (.aload_n 0, 1) := dk_42 (dk_at dksX9_sum_0 11 rfl rfl)
theorem dX9_sum_12 : decode cX9_sum 12 = .ok (.bipush 43, 2) := dk_16 43 (dk_at dksX9_sum_0 12 rfl rfl)
theorem dX9_sum_14 : decode cX9_sum 14 = .ok (.invokevirtual 209, 3) := dk_182 0 209 (dk_at dksX9_sum_0 14 rfl rfl)
theorem dX9_sum_17 : decode cX9_sum 17 = .ok (.ifCond .eq 7, 3) := dk_153 0 7 (dk_at dksX9_sum_0 17 rfl rfl)
theorem dX9_sum_20 : decode cX9_sum 20 = .ok (.iconst 2, 1) := dk_5 (dk_at dksX9_sum_0 20 rfl rfl)
theorem dX9_sum_21 : decode cX9_sum 21 = .ok (.goto 17, 3) := dk_167 0 17 (dk_at dksX9_sum_0 21 rfl rfl)
theorem dX9_sum_24 : decode cX9_sum 24 = .ok (.aload_n 0, 1) := dk_42 (dk_at dksX9_sum_1 0 rfl rfl)
theorem dX9_sum_25 : decode cX9_sum 25 = .ok (.bipush 45, 2) := dk_16 45 (dk_at dksX9_sum_1 1 rfl rfl)
theorem dX9_sum_27 : decode cX9_sum 27 = .ok (.invokevirtual 209, 3) := dk_182 0 209 (dk_at dksX9_sum_1 3 rfl rfl)
theorem dX9_sum_30 : decode cX9_sum 30 = .ok (.ifCond .eq 7, 3) := dk_153 0 7 (dk_at dksX9_sum_1 6 rfl rfl)
theorem dX9_sum_33 : decode cX9_sum 33 = .ok (.iconst 3, 1) := dk_6 (dk_at dksX9_sum_1 9 rfl rfl)
theorem dX9_sum_34 : decode cX9_sum 34 = .ok (.goto 4, 3) := dk_167 0 4 (dk_at dksX9_sum_1 10 rfl rfl)
theorem dX9_sum_37 : decode cX9_sum 37 = .ok (.iconst (-1), 1) := dk_2 (dk_at dksX9_sum_1 13 rfl rfl)
theorem dX9_sum_38 : decode cX9_sum 38 = .ok (.istore_n 1, 1) := dk_60 (dk_at dksX9_sum_1 14 rfl rfl)
theorem dX9_sum_39 : decode cX9_sum 39 = .ok (.iload_n 1, 1) := dk_27 (dk_at dksX9_sum_1 15 rfl rfl)
theorem dX9_sum_40 : decode cX9_sum 40 = .ok (.iconst (-1), 1) := dk_2 (dk_at dksX9_sum_1 16 rfl rfl)
theorem dX9_sum_41 : decode cX9_sum 41 = .ok (.if_icmp .ne 4, 3) := dk_160 0 4 (dk_at dksX9_sum_1 17 rfl rfl)
theorem dX9_sum_44 : decode cX9_sum 44 = .ok (.return_, 1) := dk_177 (dk_at dksX9_sum_1 20 rfl rfl)
theorem dX9_sum_45 : decode cX9_sum 45 = .ok (.aload_n 0, 1) := dk_42 (dk_at dksX9_sum_1 21 rfl rfl)
theorem dX9_sum_46 : decode cX9_sum 46 = .ok (.invokevirtual 206, 3) := dk_182 0 206 (dk_at dksX9_sum_2 0 rfl rfl)
theorem dX9_sum_49 : decode cX9_sum 49 = .ok (.aload_n 0, 1) := dk_42 (dk_at dksX9_sum_2 3 rfl rfl)
theorem dX9_sum_50 : decode cX9_sum 50 = .ok (.iload_n 1, 1) := dk_27 (dk_at dksX9_sum_2 4 rfl rfl)
theorem dX9_sum_51 : decode cX9_sum 51 = .ok (.iconst 0, 1) := dk_3 (dk_at dksX9_sum_2 5 rfl rfl)
theorem dX9_sum_52 : decode cX9_sum 52 = .ok (.invokevirtual 212, 3) := dk_182 0 212 (dk_at dksX9_sum_2 6 rfl rfl)
theorem dX9_sum_55 : decode cX9_sum 55 = .ok (.goto (-51), 3) := dk_167 255 205 (dk_at dksX9_sum_2 9 rfl rfl)
theorem dX9_sum_58 : decode cX9_sum 58 = .ok (.return_, 1) := dk_177 (dk_at dksX9_sum_2 12 rfl rfl)
def dkwX9_product_3 : List UInt8 := [177]
abbrev dktX9_product_3 : List UInt8 := dkwX9_product_3 ++ []
def dkwX9_product_2 : List UInt8 := [167, 0, 4, 2, 60, 27, 2, 160, 0, 4, 177, 42, 182, 0, 215, 42, 27, 3, 182, 0, 212, 167, 255, 191]
abbrev dktX9_product_2 : List UInt8 := dkwX9_product_2 ++ dktX9_product_3
def dkwX9_product_1 : List UInt8 := [42, 16, 47, 182, 0, 209, 153, 0, 7, 8, 167, 0, 18, 42, 16, 37, 182, 0, 209, 153, 0, 8, 16, 6]
abbrev dktX9_product_1 : List UInt8 := dkwX9_product_1 ++ dktX9_product_2
def dkwX9_product_0 : List UInt8 := [42, 182, 0, 215, 42, 180, 0, 108, 154, 0, 64, 42, 16, 42, 182, 0, 209, 153, 0, 7, 7, 167, 0, 31]
abbrev dktX9_product_0 : List UInt8 := dkwX9_product_0 ++ dktX9_product_1
theorem dksX9_product_0 : cX9_product.data.toList.drop 0 = dktX9_product_0 := by decide +kernel
theorem dksX9_product_1 : cX9_product.data.toList.drop 24 = dktX9_product_1 := dk_seg dksX9_product_0 24 rfl rfl
theorem dksX9_product_2 : cX9_product.data.toList.drop 48 = dktX9_product_2 := dk_seg dksX9_product_1 24 rfl rfl
theorem dksX9_product_3 : cX9_product.data.toList.drop 72 = dktX9_product_3 := dk_seg dksX9_product_2 24 rfl rfl
theorem dX9_product_0 : decode cX9_product 0 = .ok (.aload_n 0, 1) := dk_42 (dk_at dksX9_product_0 0 rfl rfl)
theorem dX9_product_1 : decode cX9_product 1 = .ok (.invokevirtual 215, 3) := dk_182 0 215 (dk_at dksX9_product_0 1 rfl rfl)
theorem dX9_product_4 : decode cX9_product 4 = .ok (.aload_n 0, 1) := dk_42 (dk_at dksX9_product_0 4 rfl rfl)
theorem dX9_product_5 : decode cX9_product 5 = .ok (.getfield 108, 3) := dk_180 0 108 (dk_at dksX9_product_0 5 rfl rfl)
theorem dX9_product_8 : decode cX9_product 8 = .ok (.ifCond .ne 64, 3) := dk_154 0 64 (dk_at dksX9_product_0 8 rfl rfl)
theorem dX9_product_11 : decode cX9_product 11 = .ok (.aload_n 0, 1) := dk_42 (dk_at dksX9_product_0 11 rfl rfl)
theorem dX9_product_12 : decode cX9_product 12 = .ok (.bipush 42, 2) := dk_16 42 (dk_at dksX9_product_0 12 rfl rfl)
theorem dX9_product_14 : decode cX9_product 14 = .ok (.invokevirtual 209, 3) := dk_182 0 209 (dk_at dksX9_product_0 14 rfl rfl)
theorem dX9_product_17 : decode cX9_product 17 = .ok (.ifCond .eq 7, 3) := dk_153 0 7 (dk_at dksX9_product_0 17 rfl rfl)
theorem dX9_product_20 : decode cX9_product 20 = .ok (.iconst 4, 1) := dk_7 (dk_at dksX9_product_0 20 rfl rfl)
theorem dX9_product_21 : decode cX9_product 21 = .ok (.goto 31, 3) := dk_167 0 31 (dk_at dksX9_product_0 21 rfl rfl)
theorem dX9_product_24 : decode cX9_product 24 = .ok (.aload_n 0, 1) := dk_42 (dk_at dksX9_product_1 0 rfl rfl)
theorem dX9_product_25 : decode cX9_product 25 = .ok (.bipush 47, 2) := dk_16 47 (dk_at dksX9_product_1 1 rfl rfl)
theorem dX9_product_27 : decode cX9_product 27 = .ok (.invokevirtual 209, 3) := dk_182 0 209 (dk_at dksX9_product_1 3 rfl rfl)
theorem dX9_product_30 : decode cX9_product 30 = .ok (.ifCond .eq 7, 3) := dk_153 0 7 (dk_at dksX9_product_1 6 rfl rfl)
theorem dX9_product_33 : decode cX9_product 33 = .ok (.iconst 5, 1) := dk_8 (dk_at dksX9_product_1 9 rfl rfl)
theorem dX9_product_34 : decode cX9_product 34 = .ok (.goto 18, 3) := dk_167 0 18 (dk_at dksX9_product_1 10 rfl rfl)
theorem dX9_product_37 : decode cX9_product 37 = .ok (.aload_n 0, 1) := dk_42 (dk_at dksX9_product_1 13 rfl rfl)
theorem dX9_product_38 : decode cX9_product 38 = .ok (.bipush 37, 2) := dk_16 37 (dk_at dksX9_product_1 14 rfl rfl)
theorem dX9_product_40 : decode cX9_product 40 = .ok (.invokevirtual 209, 3) := dk_182 0 209 (dk_at dksX9_product_1 16 rfl rfl)
theorem dX9_product_43 : decode cX9_product 43 = .ok (.ifCond .eq 8, 3) := dk_153 0 8 (dk_at dksX9_product_1 19 rfl rfl)
theorem dX9_product_46 : decode cX9_product 46 = .ok (.bipush 6, 2) := dk_16 6 (dk_at dksX9_product_1 22 rfl rfl)
theorem dX9_product_48 : decode cX9_product 48 = .ok (.goto 4, 3) := dk_167 0 4 (dk_at dksX9_product_2 0 rfl rfl)
theorem dX9_product_51 : decode cX9_product 51 = .ok (.iconst (-1), 1) := dk_2 (dk_at dksX9_product_2 3 rfl rfl)
theorem dX9_product_52 : decode cX9_product 52 = .ok (.istore_n 1, 1) := dk_60 (dk_at dksX9_product_2 4 rfl rfl)
theorem dX9_product_53 : decode cX9_product 53 = .ok (.iload_n 1, 1) := dk_27 (dk_at dksX9_product_2 5 rfl rfl)
theorem dX9_product_54 : decode cX9_product 54 = .ok (.iconst (-1), 1) := dk_2 (dk_at dksX9_product_2 6 rfl rfl)
theorem dX9_product_55 : decode cX9_product 55 = .ok (.if_icmp .ne 4, 3) := dk_160 0 4 (dk_at dksX9_product_2 7 rfl rfl)
theorem dX9_product_58 : decode cX9_product 58 = .ok (.return_, 1) := dk_177 (dk_at dksX9_product_2 10 rfl rfl)
theorem dX9_product_59 : decode cX9_product 59 = .ok (.aload_n 0, 1) := dk_42 (dk_at dksX9_product_2 11 rfl rfl)
theorem dX9_product_60 : decode cX9_product 60 = .ok (.invokevirtual 215, 3) := dk_182 0 215 (dk_at dksX9_product_2 12 rfl rfl)
theorem dX9_product_63 : decode cX9_product 63 = .ok (.aload_n 0, 1) := dk_42 (dk_at dksX9_product_2 15 rfl rfl)
theorem dX9_product_64 : decode cX9_product 64 = .ok (.iload_n 1, 1) := dk_27 (dk_at dksX9_product_2 16 rfl rfl)
theorem dX9_product_65 : decode cX9_product 65 = .ok (.iconst 0, 1) := dk_3 (dk_at dksX9_product_2 17 rfl rfl)
theorem dX9_product_66 : decode cX9_product 66 = .ok (.invokevirtual 212, 3) := dk_182 0 212 (dk_at dksX9_product_2 18 rfl rfl)
theorem dX9_product_69 : decode cX9_product 69 = .ok (.goto (-65), 3) := dk_167 255 191 (dk_at dksX9_product_2 21 rfl rfl)
theorem dX9_product_72 : decode cX9_product 72 = .ok (.return_, 1) := dk_177 (dk_at dksX9_product_3 0 rfl rfl)
def dkwX9_one_8 : List UInt8 := [182, 0, 212, 167, 0, 16, 42, 3, 42, 3, 17, 3, 231, 182, 0, 154, 182, 0, 212, 177]
abbrev dktX9_one_8 : List UInt8 := dkwX9_one_8 ++ []
def dkwX9_one_7 : List UInt8 := [180, 0, 151, 4, 100, 181, 0, 151, 177, 42, 182, 0, 232, 61, 28, 2, 159, 0, 12, 42, 4, 28]
abbrev dktX9_one_7 : List UInt8 := dkwX9_one_7 ++ dktX9_one_8
def dkwX9_one_6 : List UInt8 := [177, 42, 89, 180, 0, 101, 4, 96, 181, 0, 101, 42, 182, 0, 229, 42, 16, 41, 182, 0, 167, 42, 89]
abbrev dktX9_one_6 : List UInt8 := dkwX9_one_6 ++ dktX9_one_7
def dkwX9_one_5 : List UInt8 := [181, 0, 151, 177, 42, 42, 180, 0, 101, 182, 0, 104, 16, 40, 160, 0, 42, 42, 182, 0, 225, 154, 0, 4]
abbrev dktX9_one_5 : List UInt8 := dkwX9_one_5 ++ dktX9_one_6
def dkwX9_one_4 : List UInt8 := [42, 182, 0, 229, 42, 16, 93, 182, 0, 167, 42, 27, 3, 182, 0, 212, 42, 89, 180, 0, 151, 4, 100]
abbrev dktX9_one_4 : List UInt8 := dkwX9_one_4 ++ dktX9_one_5
def dkwX9_one_3 : List UInt8 := [154, 0, 4, 177, 42, 182, 0, 145, 42, 16, 91, 182, 0, 167, 42, 182, 0, 229, 42, 16, 44, 182, 0, 167]
abbrev dktX9_one_3 : List UInt8 := dkwX9_one_3 ++ dktX9_one_4
def dkwX9_one_2 : List UInt8 := [182, 0, 141, 153, 0, 8, 16, 8, 167, 0, 4, 2, 60, 27, 2, 159, 0, 58, 42, 182, 0, 225]
abbrev dktX9_one_2 : List UInt8 := dkwX9_one_2 ++ dktX9_one_3
def dkwX9_one_1 : List UInt8 := [182, 0, 141, 153, 0, 8, 16, 7, 167, 0, 26, 42, 16, 13, 16, 15, 16, 19, 16, 20, 3, 3]
abbrev dktX9_one_1 : List UInt8 := dkwX9_one_1 ++ dktX9_one_2
def dkwX9_one_0 : List UInt8 := [42, 180, 0, 108, 153, 0, 4, 177, 42, 182, 0, 114, 42, 16, 12, 8, 4, 16, 19, 16, 20, 3]
abbrev dktX9_one_0 : List UInt8 := dkwX9_one_0 ++ dktX9_one_1
theorem dksX9_one_0 : cX9_one.data.toList.drop 0 = dktX9_one_0 := by decide +kernel
theorem dksX9_one_1 : cX9_one.data.toList.drop 22 = dktX9_one_1 := dk_seg dksX9_one_0 22 rfl rfl
theorem dksX9_one_2 : cX9_one.data.toList.drop 44 = dktX9_one_2 := dk_seg dksX9_one_1 22 rfl rfl
theorem dksX9_one_3 : cX9_one.data.toList.drop 66 = dktX9_one_3 := dk_seg dksX9_one_2 22 rfl rfl
theorem dksX9_one_4 : cX9_one.data.toList.drop 90 = dktX9_one_4 := dk_seg dksX9_one_3 24 rfl rfl
theorem dksX9_one_5 : cX9_one.data.toList.drop 113 = dktX9_one_5 := dk_seg dksX9_one_4 23 rfl rfl
theorem dksX9_one_6 : cX9_one.data.toList.drop 137 = dktX9_one_6 := dk_seg dksX9_one_5 24 rfl rfl
theorem dksX9_one_7 : cX9_one.data.toList.drop 160 = dktX9_one_7 := dk_seg dksX9_one_6 23 rfl rfl
theorem dksX9_one_8 : cX9_one.data.toList.drop 182 = dktX9_one_8 := dk_seg dksX9_one_7 22 rfl rfl
theorem dX9_one_0 : decode cX9_one 0 = .ok (.aload_n 0, 1) := dk_42 (dk_at dksX9_one_0 0 rfl rfl)
theorem dX9_one_1 : decode cX9_one 1 = .ok (.getfield 108, 3) := dk_180 0 108 (dk_at dksX9_one_0 1 rfl rfl)
theorem dX9_one_4 : decode cX9_one 4 = .ok (.ifCond .eq 4, 3) := dk_153 0 4 (dk_at dksX9_one_0 4 rfl rfl)
theorem dX9_one_7 : decode cX9_one 7 = .ok (.return_, 1) := dk_177 (dk_at dksX9_one_0 7 rfl rfl)
theorem dX9_one_8 : decode cX9_one 8 = .ok (.aload_n 0, 1) := dk_42 (dk_at dksX9_one_0 8 rfl rfl)
theorem dX9_one_9 : decode cX9_one 9 = .ok (.invokevirtual 114, 3) := dk_182 0 114 (dk_at dksX9_one_0 9 rfl rfl)
theorem dX9_one_12 : decode cX9_one 12 = .ok (.aload_n 0, 1) := dk_42 (dk_at dksX9_one_0 12 rfl rfl)
theorem dX9_one_13 : decode cX9_one 13 = .ok (.bipush 12, 2) := dk_16 12 (dk_at dksX9_one_0 13 rfl rfl)
theorem dX9_one_15 : decode cX9_one 15 = .ok (.iconst 5, 1) := dk_8 (dk_at dksX9_one_0 15 rfl rfl)
theorem dX9_one_16 : decode cX9_one 16 = .ok (.iconst 1, 1) := dk_4 (dk_at dksX9_one_0 16 rfl rfl)
theorem dX9_one_17 : decode cX9_one 17 = .ok (.bipush 19, 2) := dk_16 19 (dk_at dksX9_one_0 17 rfl rfl)
theorem dX9_one_19 : decode cX9_one 19 = .ok (.bipush 20, 2) := dk_16 20 (dk_at dksX9_one_0 19 rfl rfl)
theorem dX9_one_21 : decode cX9_one 21 = .ok (.iconst 0, 1) := dk_3 (dk_at dksX9_one_0 21 rfl rfl)
theorem dX9_one_22 : decode cX9_one 22 = .ok (.invokevirtual 141, 3) := dk_182 0 141 (dk_at dksX9_one_1 0 rfl rfl)
theorem dX9_one_25 : decode cX9_one 25 = .ok (.ifCond .eq 8, 3) := dk_153 0 8 (dk_at dksX9_one_1 3 rfl rfl)
theorem dX9_one_28 : decode cX9_one 28 = .ok (.bipush 7, 2) := dk_16 7 (dk_at dksX9_one_1 6 rfl rfl)
theorem dX9_one_30 : decode cX9_one 30 = .ok (.goto 26, 3) := dk_167 0 26 (dk_at dksX9_one_1 8 rfl rfl)
theorem dX9_one_33 : decode cX9_one 33 = .ok (.aload_n 0, 1) := dk_42 (dk_at dksX9_one_1 11 rfl rfl)
theorem dX9_one_34 : decode cX9_one 34 = .ok (.bipush 13, 2) := dk_16 13 (dk_at dksX9_one_1 12 rfl rfl)
theorem dX9_one_36 : decode cX9_one 36 = .ok (.bipush 15, 2) := dk_16 15 (dk_at dksX9_one_1 14 rfl rfl)
theorem dX9_one_38 : decode cX9_one 38 = .ok (.bipush 19, 2) := dk_16 19 (dk_at dksX9_one_1 16 rfl rfl)
theorem dX9_one_40 : decode cX9_one 40 = .ok (.bipush 20, 2) := dk_16 20 (dk_at dksX9_one_1 18 rfl rfl)
theorem dX9_one_42 : decode cX9_one 42 = .ok (.iconst 0, 1) := dk_3 (dk_at dksX9_one_1 20 rfl rfl)
theorem dX9_one_43 : decode cX9_one 43 = .ok (.iconst 0, 1) := dk_3 (dk_at dksX9_one_1 21 rfl rfl)
theorem dX9_one_44 : decode cX9_one 44 = .ok (.invokevirtual 141, 3) := dk_182 0 141 (dk_at dksX9_one_2 0 rfl rfl)
theorem dX9_one_47 : decode cX9_one 47 = .ok (.ifCond .eq 8, 3) := dk_153 0 8 (dk_at dksX9_one_2 3 rfl rfl)
theorem dX9_one_50 : decode cX9_one 50 = .ok (.bipush 8, 2) := dk_16 8 (dk_at dksX9_one_2 6 rfl rfl)
theorem dX9_one_52 : decode cX9_one 52 = .ok (.goto 4, 3) := dk_167 0 4 (dk_at dksX9_one_2 8 rfl rfl)
theorem dX9_one_55 : decode cX9_one 55 = .ok (.iconst (-1), 1) := dk_2 (dk_at dksX9_one_2 11 rfl rfl)
theorem dX9_one_56 : decode cX9_one 56 = .ok (.istore_n 1, 1) := dk_60 (dk_at dksX9_one_2 12 rfl rfl)
theorem dX9_one_57 : decode cX9_one 57 = .ok (.iload_n 1, 1) := dk_27 (dk_at dksX9_one_2 13 rfl rfl)
theorem dX9_one_58 : decode cX9_one 58 = .ok (.iconst (-1), 1) := dk_2 (dk_at dksX9_one_2 14 rfl rfl)
theorem dX9_one_59 : decode cX9_one 59 = .ok (.if_icmp .eq 58, 3) := dk_159 0 58 (dk_at dksX9_one_2 15 rfl rfl)
theorem dX9_one_62 : decode cX9_one 62 = .ok (.aload_n 0, 1) := dk_42 (dk_at dksX9_one_2 18 rfl rfl)
theorem dX9_one_63 : decode cX9_one 63 = .ok (.invokevirtual 225, 3) := dk_182 0 225 (dk_at dksX9_one_2 19 rfl rfl)
theorem dX9_one_66 : decode cX9_one 66 = .ok (.ifCond .ne 4, 3) := dk_154 0 4 (dk_at dksX9_one_3 0 rfl rfl)
theorem dX9_one_69 : decode cX9_one 69 = .ok (.return_, 1) := dk_177 (dk_at dksX9_one_3 3 rfl rfl)
theorem dX9_one_70 : decode cX9_one 70 = .ok (.aload_n 0, 1) := dk_42 (dk_at dksX9_one_3 4 rfl rfl)
theorem dX9_one_71 : decode cX9_one 71 = .ok (.invokevirtual 145, 3) := dk_182 0 145 (dk_at dksX9_one_3 5 rfl rfl)
theorem dX9_one_74 : decode cX9_one 74 = .ok (.aload_n 0, 1) := dk_42 (dk_at dksX9_one_3 8 rfl rfl)
theorem dX9_one_75 : decode cX9_one 75 = .ok (.bipush 91, 2) := dk_16 91 (dk_at dksX9_one_3 9 rfl rfl)
theorem dX9_one_77 : decode cX9_one 77 = .ok (.invokevirtual 167, 3) := dk_182 0 167 (dk_at dksX9_one_3 11 rfl rfl)
theorem dX9_one_80 : decode cX9_one 80 = .ok (.aload_n 0, 1) := dk_42 (dk_at dksX9_one_3 14 rfl rfl)
theorem dX9_one_81 : decode cX9_one 81 = .ok (.invokevirtual 229, 3) := dk_182 0 229 (dk_at dksX9_one_3 15 rfl rfl)
theorem dX9_one_84 : decode cX9_one 84 = .ok (.aload_n 0, 1) := dk_42 (dk_at dksX9_one_3 18 rfl rfl)
theorem dX9_one_85 : decode cX9_one 85 = .ok (.bipush 44, 2) := dk_16 44 (dk_at dksX9_one_3 19 rfl rfl)
theorem dX9_one_87 : decode cX9_one 87 = .ok (.invokevirtual 167, 3) := dk_182 0 167 (dk_at dksX9_one_3 21 rfl rfl)
theorem dX9_one_90 : decode cX9_one 90 = .ok (.aload_n 0, 1) := dk_42 (dk_at dksX9_one_4 0 rfl rfl)
theorem dX9_one_91 : decode cX9_one 91 = .ok (.invokevirtual 229, 3) := dk_182 0 229 (dk_at dksX9_one_4 1 rfl rfl)
theorem dX9_one_94 : decode cX9_one 94 = .ok (.aload_n 0, 1) := dk_42 (dk_at dksX9_one_4 4 rfl rfl)
theorem dX9_one_95 : decode cX9_one 95 = .ok (.bipush 93, 2) := dk_16 93 (dk_at dksX9_one_4 5 rfl rfl)
theorem dX9_one_97 : decode cX9_one 97 = .ok (.invokevirtual 167, 3) := dk_182 0 167 (dk_at dksX9_one_4 7 rfl rfl)
theorem dX9_one_100 : decode cX9_one 100 = .ok (.aload_n 0, 1) := dk_42 (dk_at dksX9_one_4 10 rfl rfl)
theorem dX9_one_101 : decode cX9_one 101 = .ok (.iload_n 1, 1) := dk_27 (dk_at dksX9_one_4 11 rfl rfl)
theorem dX9_one_102 : decode cX9_one 102 = .ok (.iconst 0, 1) := dk_3 (dk_at dksX9_one_4 12 rfl rfl)
theorem dX9_one_103 : decode cX9_one 103 = .ok (.invokevirtual 212, 3) := dk_182 0 212 (dk_at dksX9_one_4 13 rfl rfl)
theorem dX9_one_106 : decode cX9_one 106 = .ok (.aload_n 0, 1) := dk_42 (dk_at dksX9_one_4 16 rfl rfl)
theorem dX9_one_107 : decode cX9_one 107 = .ok (.dup, 1) := dk_89 (dk_at dksX9_one_4 17 rfl rfl)
theorem dX9_one_108 : decode cX9_one 108 = .ok (.getfield 151, 3) := dk_180 0 151 (dk_at dksX9_one_4 18 rfl rfl)
theorem dX9_one_111 : decode cX9_one 111 = .ok (.iconst 1, 1) := dk_4 (dk_at dksX9_one_4 21 rfl rfl)
theorem dX9_one_112 : decode cX9_one 112 = .ok (.isub, 1) := dk_100 (dk_at dksX9_one_4 22 rfl rfl)
theorem dX9_one_113 : decode cX9_one 113 = .ok (.putfield 151, 3) := dk_181 0 151 (dk_at dksX9_one_5 0 rfl rfl)
theorem dX9_one_116 : decode cX9_one 116 = .ok (.return_, 1) := dk_177 (dk_at dksX9_one_5 3 rfl rfl)
theorem dX9_one_117 : decode cX9_one 117 = .ok (.aload_n 0, 1) := dk_42 (dk_at dksX9_one_5 4 rfl rfl)
theorem dX9_one_118 : decode cX9_one 118 = .ok (.aload_n 0, 1) := dk_42 (dk_at dksX9_one_5 5 rfl rfl)
theorem dX9_one_119 : decode cX9_one 119 = .ok (.getfield 101, 3) := dk_180 0 101 (dk_at dksX9_one_5 6 rfl rfl)
theorem dX9_one_122 : decode cX9_one 122 = .ok (.invokevirtual 104, 3) := dk_182 0 104 (dk_at dksX9_one_5 9 rfl rfl)
theorem dX9_one_125 : decode cX9_one 125 = .ok (.bipush 40, 2) := dk_16 40 (dk_at dksX9_one_5 12 rfl rfl)
theorem dX9_one_127 : decode cX9_one 127 = .ok (.if_icmp .ne 42, 3) := dk_160 0 42 (dk_at dksX9_one_5 14 rfl rfl)
theorem dX9_one_130 : decode cX9_one 130 = .ok (.aload_n 0, 1) := dk_42 (dk_at dksX9_one_5 17 rfl rfl)
theorem dX9_one_131 : decode cX9_one 131 = .ok (.invokevirtual 225, 3) := dk_182 0 225 (dk_at dksX9_one_5 18 rfl rfl)
theorem dX9_one_134 : decode cX9_one 134 = .ok (.ifCond .ne 4, 3) := dk_154 0 4 (dk_at dksX9_one_5 21 rfl rfl)
theorem dX9_one_137 : decode cX9_one 137 = .ok (.return_, 1) := dk_177 (dk_at dksX9_one_6 0 rfl rfl)
theorem dX9_one_138 : decode cX9_one 138 = .ok (.aload_n 0, 1) := dk_42 (dk_at dksX9_one_6 1 rfl rfl)
theorem dX9_one_139 : decode cX9_one 139 = .ok (.dup, 1) := dk_89 (dk_at dksX9_one_6 2 rfl rfl)
theorem dX9_one_140 : decode cX9_one 140 = .ok (.getfield 101, 3) := dk_180 0 101 (dk_at dksX9_one_6 3 rfl rfl)
theorem dX9_one_143 : decode cX9_one 143 = .ok (.iconst 1, 1) := dk_4 (dk_at dksX9_one_6 6 rfl rfl)
theorem dX9_one_144 : decode cX9_one 144 = .ok (.iadd, 1) := dk_96 (dk_at dksX9_one_6 7 rfl rfl)
theorem dX9_one_145 : decode cX9_one 145 = .ok (.putfield 101, 3) := dk_181 0 101 (dk_at dksX9_one_6 8 rfl rfl)
theorem dX9_one_148 : decode cX9_one 148 = .ok (.aload_n 0, 1) := dk_42 (dk_at dksX9_one_6 11 rfl rfl)
theorem dX9_one_149 : decode cX9_one 149 = .ok (.invokevirtual 229, 3) := dk_182 0 229 (dk_at dksX9_one_6 12 rfl rfl)
theorem dX9_one_152 : decode cX9_one 152 = .ok (.aload_n 0, 1) := dk_42 (dk_at dksX9_one_6 15 rfl rfl)
theorem dX9_one_153 : decode cX9_one 153 = .ok (.bipush 41, 2) := dk_16 41 (dk_at dksX9_one_6 16 rfl rfl)
theorem dX9_one_155 : decode cX9_one 155 = .ok (.invokevirtual 167, 3) := dk_182 0 167 (dk_at dksX9_one_6 18 rfl rfl)
theorem dX9_one_158 : decode cX9_one 158 = .ok (.aload_n 0, 1) := dk_42 (dk_at dksX9_one_6 21 rfl rfl)
theorem dX9_one_159 : decode cX9_one 159 = .ok (.dup, 1) := dk_89 (dk_at dksX9_one_6 22 rfl rfl)
theorem dX9_one_160 : decode cX9_one 160 = .ok (.getfield 151, 3) := dk_180 0 151 (dk_at dksX9_one_7 0 rfl rfl)
theorem dX9_one_163 : decode cX9_one 163 = .ok (.iconst 1, 1) := dk_4 (dk_at dksX9_one_7 3 rfl rfl)
theorem dX9_one_164 : decode cX9_one 164 = .ok (.isub, 1) := dk_100 (dk_at dksX9_one_7 4 rfl rfl)
theorem dX9_one_165 : decode cX9_one 165 = .ok (.putfield 151, 3) := dk_181 0 151 (dk_at dksX9_one_7 5 rfl rfl)
theorem dX9_one_168 : decode cX9_one 168 = .ok (.return_, 1) := dk_177 (dk_at dksX9_one_7 8 rfl rfl)
theorem dX9_one_169 : decode cX9_one 169 = .ok (.aload_n 0, 1) := dk_42 (dk_at dksX9_one_7 9 rfl rfl)
theorem dX9_one_170 : decode cX9_one 170 = .ok (.invokevirtual 232, 3) := dk_182 0 232 (dk_at dksX9_one_7 10 rfl rfl)
theorem dX9_one_173 : decode cX9_one 173 = .ok (.istore_n 2, 1) := dk_61 (dk_at dksX9_one_7 13 rfl rfl)
theorem dX9_one_174 : decode cX9_one 174 = .ok (.iload_n 2, 1) := dk_28 (dk_at dksX9_one_7 14 rfl rfl)
theorem dX9_one_175 : decode cX9_one 175 = .ok (.iconst (-1), 1) := dk_2 (dk_at dksX9_one_7 15 rfl rfl)
theorem dX9_one_176 : decode cX9_one 176 = .ok (.if_icmp .eq 12, 3) := dk_159 0 12 (dk_at dksX9_one_7 16 rfl rfl)
theorem dX9_one_179 : decode cX9_one 179 = .ok (.aload_n 0, 1) := dk_42 (dk_at dksX9_one_7 19 rfl rfl)
theorem dX9_one_180 : decode cX9_one 180 = .ok (.iconst 1, 1) := dk_4 (dk_at dksX9_one_7 20 rfl rfl)
theorem dX9_one_181 : decode cX9_one 181 = .ok (.iload_n 2, 1) := dk_28 (dk_at dksX9_one_7 21 rfl rfl)
theorem dX9_one_182 : decode cX9_one 182 = .ok (.invokevirtual 212, 3) := dk_182 0 212 (dk_at dksX9_one_8 0 rfl rfl)
theorem dX9_one_185 : decode cX9_one 185 = .ok (.goto 16, 3) := dk_167 0 16 (dk_at dksX9_one_8 3 rfl rfl)
theorem dX9_one_188 : decode cX9_one 188 = .ok (.aload_n 0, 1) := dk_42 (dk_at dksX9_one_8 6 rfl rfl)
theorem dX9_one_189 : decode cX9_one 189 = .ok (.iconst 0, 1) := dk_3 (dk_at dksX9_one_8 7 rfl rfl)
theorem dX9_one_190 : decode cX9_one 190 = .ok (.aload_n 0, 1) := dk_42 (dk_at dksX9_one_8 8 rfl rfl)
theorem dX9_one_191 : decode cX9_one 191 = .ok (.iconst 0, 1) := dk_3 (dk_at dksX9_one_8 9 rfl rfl)
theorem dX9_one_192 : decode cX9_one 192 = .ok (.sipush 999, 3) := dk_17 3 231 (dk_at dksX9_one_8 10 rfl rfl)
theorem dX9_one_195 : decode cX9_one 195 = .ok (.invokevirtual 154, 3) := dk_182 0 154 (dk_at dksX9_one_8 13 rfl rfl)
theorem dX9_one_198 : decode cX9_one 198 = .ok (.invokevirtual 212, 3) := dk_182 0 212 (dk_at dksX9_one_8 16 rfl rfl)
theorem dX9_one_201 : decode cX9_one 201 = .ok (.return_, 1) := dk_177 (dk_at dksX9_one_8 19 rfl rfl)
def dkwX9_opensOne_2 : List UInt8 := [180, 0, 108, 154, 0, 7, 4, 167, 0, 4, 3, 172]
abbrev dktX9_opensOne_2 : List UInt8 := dkwX9_opensOne_2 ++ []
def dkwX9_opensOne_1 : List UInt8 := [182, 0, 121, 167, 0, 20, 42, 180, 0, 108, 154, 0, 13, 42, 89, 180, 0, 151, 4, 96, 181, 0, 151, 42]
abbrev dktX9_opensOne_1 : List UInt8 := dkwX9_opensOne_1 ++ dktX9_opensOne_2
def dkwX9_opensOne_0 : List UInt8 := [42, 180, 0, 108, 154, 0, 24, 42, 180, 0, 151, 16, 6, 160, 0, 15, 42, 6, 42, 180, 0, 101]
abbrev dktX9_opensOne_0 : List UInt8 := dkwX9_opensOne_0 ++ dktX9_opensOne_1
theorem dksX9_opensOne_0 : cX9_opensOne.data.toList.drop 0 = dktX9_opensOne_0 := by decide +kernel
theorem dksX9_opensOne_1 : cX9_opensOne.data.toList.drop 22 = dktX9_opensOne_1 := dk_seg dksX9_opensOne_0 22 rfl rfl
theorem dksX9_opensOne_2 : cX9_opensOne.data.toList.drop 46 = dktX9_opensOne_2 := dk_seg dksX9_opensOne_1 24 rfl rfl
theorem dX9_opensOne_0 : decode cX9_opensOne 0 = .ok (.aload_n 0, 1) := dk_42 (dk_at dksX9_opensOne_0 0 rfl rfl)
theorem dX9_opensOne_1 : decode cX9_opensOne 1 = .ok (.getfield 108, 3) := dk_180 0 108 (dk_at dksX9_opensOne_0 1 rfl rfl)
theorem dX9_opensOne_4 : decode cX9_opensOne 4 = .ok (.ifCond .ne 24, 3) := dk_154 0 24 (dk_at dksX9_opensOne_0 4 rfl rfl)
theorem dX9_opensOne_7 : decode cX9_opensOne 7 = .ok (.aload_n 0, 1) := dk_42 (dk_at dksX9_opensOne_0 7 rfl rfl)
theorem dX9_opensOne_8 : decode cX9_opensOne 8 = .ok (.getfield 151, 3) := dk_180 0 151 (dk_at dksX9_opensOne_0 8 rfl rfl)
theorem dX9_opensOne_11 : decode cX9_opensOne 11 = .ok (.bipush 6, 2) := dk_16 6 (dk_at dksX9_opensOne_0 11 rfl rfl)
theorem dX9_opensOne_13 : decode cX9_opensOne 13 = .ok (.if_icmp .ne 15, 3) := dk_160 0 15 (dk_at dksX9_opensOne_0 13 rfl rfl)
theorem dX9_opensOne_16 : decode cX9_opensOne 16 = .ok (.aload_n 0, 1) := dk_42 (dk_at dksX9_opensOne_0 16 rfl rfl)
theorem dX9_opensOne_17 : decode cX9_opensOne 17 = .ok (.iconst 3, 1) := dk_6 (dk_at dksX9_opensOne_0 17 rfl rfl)
theorem dX9_opensOne_18 : decode cX9_opensOne 18 = .ok (.aload_n 0, 1) := dk_42 (dk_at dksX9_opensOne_0 18 rfl rfl)
theorem dX9_opensOne_19 : decode cX9_opensOne 19 = .ok (.getfield 101, 3) := dk_180 0 101 (dk_at dksX9_opensOne_0 19 rfl rfl)
theorem dX9_opensOne_22 : decode cX9_opensOne 22 = .ok (.invokevirtual 121, 3) := dk_182 0 121 (dk_at dksX9_opensOne_1 0 rfl rfl)
theorem dX9_opensOne_25 : decode cX9_opensOne 25 = .ok (.goto 20, 3) := dk_167 0 20 (dk_at dksX9_opensOne_1 3 rfl rfl)
theorem dX9_opensOne_28 : decode cX9_opensOne 28 = .ok (.aload_n 0, 1) := dk_42 (dk_at dksX9_opensOne_1 6 rfl rfl)
theorem dX9_opensOne_29 : decode cX9_opensOne 29 = .ok (.getfield 108, 3) := dk_180 0 108 (dk_at dksX9_opensOne_1 7 rfl rfl)
theorem dX9_opensOne_32 : decode cX9_opensOne 32 = .ok (.ifCond .ne 13, 3) := dk_154 0 13 (dk_at dksX9_opensOne_1 10 rfl rfl)
theorem dX9_opensOne_35 : decode cX9_opensOne 35 = .ok (.aload_n 0, 1) := dk_42 (dk_at dksX9_opensOne_1 13 rfl rfl)
theorem dX9_opensOne_36 : decode cX9_opensOne 36 = .ok (.dup, 1) := dk_89 (dk_at dksX9_opensOne_1 14 rfl rfl)
theorem dX9_opensOne_37 : decode cX9_opensOne 37 = .ok (.getfield 151, 3) := dk_180 0 151 (dk_at dksX9_opensOne_1 15 rfl rfl)
theorem dX9_opensOne_40 : decode cX9_opensOne 40 = .ok (.iconst 1, 1) := dk_4 (dk_at dksX9_opensOne_1 18 rfl rfl)
theorem dX9_opensOne_41 : decode cX9_opensOne 41 = .ok (.iadd, 1) := dk_96 (dk_at dksX9_opensOne_1 19 rfl rfl)
theorem dX9_opensOne_42 : decode cX9_opensOne 42 = .ok (.putfield 151, 3) := dk_181 0 151 (dk_at dksX9_opensOne_1 20 rfl rfl)
theorem dX9_opensOne_45 : decode cX9_opensOne 45 = .ok (.aload_n 0, 1) := dk_42 (dk_at dksX9_opensOne_1 23 rfl rfl)
theorem dX9_opensOne_46 : decode cX9_opensOne 46 = .ok (.getfield 108, 3) := dk_180 0 108 (dk_at dksX9_opensOne_2 0 rfl rfl)
theorem dX9_opensOne_49 : decode cX9_opensOne 49 = .ok (.ifCond .ne 7, 3) := dk_154 0 7 (dk_at dksX9_opensOne_2 3 rfl rfl)
theorem dX9_opensOne_52 : decode cX9_opensOne 52 = .ok (.iconst 1, 1) := dk_4 (dk_at dksX9_opensOne_2 6 rfl rfl)
theorem dX9_opensOne_53 : decode cX9_opensOne 53 = .ok (.goto 4, 3) := dk_167 0 4 (dk_at dksX9_opensOne_2 7 rfl rfl)
theorem dX9_opensOne_56 : decode cX9_opensOne 56 = .ok (.iconst 0, 1) := dk_3 (dk_at dksX9_opensOne_2 10 rfl rfl)
theorem dX9_opensOne_57 : decode cX9_opensOne 57 = .ok (.ireturn, 1) := dk_172 (dk_at dksX9_opensOne_2 11 rfl rfl)
def dkwX9_notes_1 : List UInt8 := [42, 180, 0, 203, 50, 4, 28, 79, 42, 89, 180, 0, 203, 4, 96, 181, 0, 203, 177]
abbrev dktX9_notes_1 : List UInt8 := dkwX9_notes_1 ++ []
def dkwX9_notes_0 : List UInt8 := [42, 180, 0, 108, 153, 0, 4, 177, 42, 180, 0, 43, 42, 180, 0, 203, 50, 3, 27, 79, 42, 180, 0, 43]
abbrev dktX9_notes_0 : List UInt8 := dkwX9_notes_0 ++ dktX9_notes_1
theorem dksX9_notes_0 : cX9_notes.data.toList.drop 0 = dktX9_notes_0 := by decide +kernel
theorem dksX9_notes_1 : cX9_notes.data.toList.drop 24 = dktX9_notes_1 := dk_seg dksX9_notes_0 24 rfl rfl
theorem dX9_notes_0 : decode cX9_notes 0 = .ok (.aload_n 0, 1) := dk_42 (dk_at dksX9_notes_0 0 rfl rfl)
theorem dX9_notes_1 : decode cX9_notes 1 = .ok (.getfield 108, 3) := dk_180 0 108 (dk_at dksX9_notes_0 1 rfl rfl)
theorem dX9_notes_4 : decode cX9_notes 4 = .ok (.ifCond .eq 4, 3) := dk_153 0 4 (dk_at dksX9_notes_0 4 rfl rfl)
theorem dX9_notes_7 : decode cX9_notes 7 = .ok (.return_, 1) := dk_177 (dk_at dksX9_notes_0 7 rfl rfl)
theorem dX9_notes_8 : decode cX9_notes 8 = .ok (.aload_n 0, 1) := dk_42 (dk_at dksX9_notes_0 8 rfl rfl)
theorem dX9_notes_9 : decode cX9_notes 9 = .ok (.getfield 43, 3) := dk_180 0 43 (dk_at dksX9_notes_0 9 rfl rfl)
theorem dX9_notes_12 : decode cX9_notes 12 = .ok (.aload_n 0, 1) := dk_42 (dk_at dksX9_notes_0 12 rfl rfl)
theorem dX9_notes_13 : decode cX9_notes 13 = .ok (.getfield 203, 3) := dk_180 0 203 (dk_at dksX9_notes_0 13 rfl rfl)
theorem dX9_notes_16 : decode cX9_notes 16 = .ok (.aaload, 1) := dk_50 (dk_at dksX9_notes_0 16 rfl rfl)
theorem dX9_notes_17 : decode cX9_notes 17 = .ok (.iconst 0, 1) := dk_3 (dk_at dksX9_notes_0 17 rfl rfl)
theorem dX9_notes_18 : decode cX9_notes 18 = .ok (.iload_n 1, 1) := dk_27 (dk_at dksX9_notes_0 18 rfl rfl)
theorem dX9_notes_19 : decode cX9_notes 19 = .ok (.iastore, 1) := dk_79 (dk_at dksX9_notes_0 19 rfl rfl)
theorem dX9_notes_20 : decode cX9_notes 20 = .ok (.aload_n 0, 1) := dk_42 (dk_at dksX9_notes_0 20 rfl rfl)
theorem dX9_notes_21 : decode cX9_notes 21 = .ok (.getfield 43, 3) := dk_180 0 43 (dk_at dksX9_notes_0 21 rfl rfl)
theorem dX9_notes_24 : decode cX9_notes 24 = .ok (.aload_n 0, 1) := dk_42 (dk_at dksX9_notes_1 0 rfl rfl)
theorem dX9_notes_25 : decode cX9_notes 25 = .ok (.getfield 203, 3) := dk_180 0 203 (dk_at dksX9_notes_1 1 rfl rfl)
theorem dX9_notes_28 : decode cX9_notes 28 = .ok (.aaload, 1) := dk_50 (dk_at dksX9_notes_1 4 rfl rfl)
theorem dX9_notes_29 : decode cX9_notes 29 = .ok (.iconst 1, 1) := dk_4 (dk_at dksX9_notes_1 5 rfl rfl)
theorem dX9_notes_30 : decode cX9_notes 30 = .ok (.iload_n 2, 1) := dk_28 (dk_at dksX9_notes_1 6 rfl rfl)
theorem dX9_notes_31 : decode cX9_notes 31 = .ok (.iastore, 1) := dk_79 (dk_at dksX9_notes_1 7 rfl rfl)
theorem dX9_notes_32 : decode cX9_notes 32 = .ok (.aload_n 0, 1) := dk_42 (dk_at dksX9_notes_1 8 rfl rfl)
theorem dX9_notes_33 : decode cX9_notes 33 = .ok (.dup, 1) := dk_89 (dk_at dksX9_notes_1 9 rfl rfl)
theorem dX9_notes_34 : decode cX9_notes 34 = .ok (.getfield 203, 3) := dk_180 0 203 (dk_at dksX9_notes_1 10 rfl rfl)
theorem dX9_notes_37 : decode cX9_notes 37 = .ok (.iconst 1, 1) := dk_4 (dk_at dksX9_notes_1 13 rfl rfl)
theorem dX9_notes_38 : decode cX9_notes 38 = .ok (.iadd, 1) := dk_96 (dk_at dksX9_notes_1 14 rfl rfl)
theorem dX9_notes_39 : decode cX9_notes 39 = .ok (.putfield 203, 3) := dk_181 0 203 (dk_at dksX9_notes_1 15 rfl rfl)
theorem dX9_notes_42 : decode cX9_notes 42 = .ok (.return_, 1) := dk_177 (dk_at dksX9_notes_1 18 rfl rfl)
def dkwX9_knownHere_5 : List UInt8 := [16, 25, 3, 3, 182, 0, 218, 153, 0, 8, 16, 6, 167, 0, 4, 2, 172]
abbrev dktX9_knownHere_5 : List UInt8 := dkwX9_knownHere_5 ++ []
def dkwX9_knownHere_4 : List UInt8 := [172, 42, 16, 12, 8, 4, 16, 14, 3, 3, 182, 0, 218, 153, 0, 5, 8, 172, 42, 16, 16, 16, 12, 4]
abbrev dktX9_knownHere_4 : List UInt8 := dkwX9_knownHere_4 ++ dktX9_knownHere_5
def dkwX9_knownHere_3 : List UInt8 := [3, 182, 0, 218, 153, 0, 5, 6, 172, 42, 7, 4, 16, 25, 3, 3, 3, 182, 0, 218, 153, 0, 5, 7]
abbrev dktX9_knownHere_3 : List UInt8 := dkwX9_knownHere_3 ++ dktX9_knownHere_4
def dkwX9_knownHere_2 : List UInt8 := [16, 9, 8, 7, 3, 182, 0, 218, 153, 0, 5, 5, 172, 42, 16, 20, 16, 8, 16, 9, 16, 14, 16, 7]
abbrev dktX9_knownHere_2 : List UInt8 := dkwX9_knownHere_2 ++ dktX9_knownHere_3
def dkwX9_knownHere_1 : List UInt8 := [16, 9, 16, 7, 16, 8, 8, 184, 0, 137, 16, 100, 182, 0, 221, 153, 0, 5, 4, 172, 42, 6, 16, 18]
abbrev dktX9_knownHere_1 : List UInt8 := dkwX9_knownHere_1 ++ dktX9_knownHere_2
def dkwX9_knownHere_0 : List UInt8 := [42, 16, 23, 8, 16, 9, 16, 7, 16, 8, 16, 20, 182, 0, 218, 153, 0, 5, 3, 172, 42, 16, 23, 8]
abbrev dktX9_knownHere_0 : List UInt8 := dkwX9_knownHere_0 ++ dktX9_knownHere_1
theorem dksX9_knownHere_0 : cX9_knownHere.data.toList.drop 0 = dktX9_knownHere_0 := by decide +kernel
theorem dksX9_knownHere_1 : cX9_knownHere.data.toList.drop 24 = dktX9_knownHere_1 := dk_seg dksX9_knownHere_0 24 rfl rfl
theorem dksX9_knownHere_2 : cX9_knownHere.data.toList.drop 48 = dktX9_knownHere_2 := dk_seg dksX9_knownHere_1 24 rfl rfl
theorem dksX9_knownHere_3 : cX9_knownHere.data.toList.drop 72 = dktX9_knownHere_3 := dk_seg dksX9_knownHere_2 24 rfl rfl
theorem dksX9_knownHere_4 : cX9_knownHere.data.toList.drop 96 = dktX9_knownHere_4 := dk_seg dksX9_knownHere_3 24 rfl rfl
theorem dksX9_knownHere_5 : cX9_knownHere.data.toList.drop 120 = dktX9_knownHere_5 := dk_seg dksX9_knownHere_4 24 rfl rfl
theorem dX9_knownHere_0 : decode cX9_knownHere 0 = .ok (.aload_n 0, 1) := dk_42 (dk_at dksX9_knownHere_0 0 rfl rfl)
theorem dX9_knownHere_1 : decode cX9_knownHere 1 = .ok (.bipush 23, 2) := dk_16 23 (dk_at dksX9_knownHere_0 1 rfl rfl)
theorem dX9_knownHere_3 : decode cX9_knownHere 3 = .ok (.iconst 5, 1) := dk_8 (dk_at dksX9_knownHere_0 3 rfl rfl)
theorem dX9_knownHere_4 : decode cX9_knownHere 4 = .ok (.bipush 9, 2) := dk_16 9 (dk_at dksX9_knownHere_0 4 rfl rfl)
theorem dX9_knownHere_6 : decode cX9_knownHere 6 = .ok (.bipush 7, 2) := dk_16 7 (dk_at dksX9_knownHere_0 6 rfl rfl)
theorem dX9_knownHere_8 : decode cX9_knownHere 8 = .ok (.bipush 8, 2) := dk_16 8 (dk_at dksX9_knownHere_0 8 rfl rfl)
theorem dX9_knownHere_10 : decode cX9_knownHere 10 = .ok (.bipush 20, 2) := dk_16 20 (dk_at dksX9_knownHere_0 10 rfl rfl)
theorem dX9_knownHere_12 : decode cX9_knownHere 12 = .ok (.invokevirtual 218, 3) := dk_182 0 218 (dk_at dksX9_knownHere_0 12 rfl rfl)
theorem dX9_knownHere_15 : decode cX9_knownHere 15 = .ok (.ifCond .eq 5, 3) := dk_153 0 5 (dk_at dksX9_knownHere_0 15 rfl rfl)
theorem dX9_knownHere_18 : decode cX9_knownHere 18 = .ok (.iconst 0, 1) := dk_3 (dk_at dksX9_knownHere_0 18 rfl rfl)
theorem dX9_knownHere_19 : decode cX9_knownHere 19 = .ok (.ireturn, 1) := dk_172 (dk_at dksX9_knownHere_0 19 rfl rfl)
theorem dX9_knownHere_20 : decode cX9_knownHere 20 = .ok (.aload_n 0, 1) := dk_42 (dk_at dksX9_knownHere_0 20 rfl rfl)
theorem dX9_knownHere_21 : decode cX9_knownHere 21 = .ok (.bipush 23, 2) := dk_16 23 (dk_at dksX9_knownHere_0 21 rfl rfl)
theorem dX9_knownHere_23 : decode cX9_knownHere 23 = .ok (.iconst 5, 1) := dk_8 (dk_at dksX9_knownHere_0 23 rfl rfl)
theorem dX9_knownHere_24 : decode cX9_knownHere 24 = .ok (.bipush 9, 2) := dk_16 9 (dk_at dksX9_knownHere_1 0 rfl rfl)
theorem dX9_knownHere_26 : decode cX9_knownHere 26 = .ok (.bipush 7, 2) := dk_16 7 (dk_at dksX9_knownHere_1 2 rfl rfl)
theorem dX9_knownHere_28 : decode cX9_knownHere 28 = .ok (.bipush 8, 2) := dk_16 8 (dk_at dksX9_knownHere_1 4 rfl rfl)
theorem dX9_knownHere_30 : decode cX9_knownHere 30 = .ok (.iconst 5, 1) := dk_8 (dk_at dksX9_knownHere_1 6 rfl rfl)
theorem dX9_knownHere_31 : decode cX9_knownHere 31 = .ok (.invokestatic 137, 3) := dk_184 0 137 (dk_at dksX9_knownHere_1 7 rfl rfl)
theorem dX9_knownHere_34 : decode cX9_knownHere 34 = .ok (.bipush 100, 2) := dk_16 100 (dk_at dksX9_knownHere_1 10 rfl rfl)
theorem dX9_knownHere_36 : decode cX9_knownHere 36 = .ok (.invokevirtual 221, 3) := dk_182 0 221 (dk_at dksX9_knownHere_1 12 rfl rfl)
theorem dX9_knownHere_39 : decode cX9_knownHere 39 = .ok (.ifCond .eq 5, 3) := dk_153 0 5 (dk_at dksX9_knownHere_1 15 rfl rfl)
theorem dX9_knownHere_42 : decode cX9_knownHere 42 = .ok (.iconst 1, 1) := dk_4 (dk_at dksX9_knownHere_1 18 rfl rfl)
theorem dX9_knownHere_43 : decode cX9_knownHere 43 = .ok (.ireturn, 1) := dk_172 (dk_at dksX9_knownHere_1 19 rfl rfl)
theorem dX9_knownHere_44 : decode cX9_knownHere 44 = .ok (.aload_n 0, 1) := dk_42 (dk_at dksX9_knownHere_1 20 rfl rfl)
theorem dX9_knownHere_45 : decode cX9_knownHere 45 = .ok (.iconst 3, 1) := dk_6 (dk_at dksX9_knownHere_1 21 rfl rfl)
theorem dX9_knownHere_46 : decode cX9_knownHere 46 = .ok (.bipush 18, 2) := dk_16 18 (dk_at dksX9_knownHere_1 22 rfl rfl)
theorem dX9_knownHere_48 : decode cX9_knownHere 48 = .ok (.bipush 9, 2) := dk_16 9 (dk_at dksX9_knownHere_2 0 rfl rfl)
theorem dX9_knownHere_50 : decode cX9_knownHere 50 = .ok (.iconst 5, 1) := dk_8 (dk_at dksX9_knownHere_2 2 rfl rfl)
theorem dX9_knownHere_51 : decode cX9_knownHere 51 = .ok (.iconst 4, 1) := dk_7 (dk_at dksX9_knownHere_2 3 rfl rfl)
theorem dX9_knownHere_52 : decode cX9_knownHere 52 = .ok (.iconst 0, 1) := dk_3 (dk_at dksX9_knownHere_2 4 rfl rfl)
theorem dX9_knownHere_53 : decode cX9_knownHere 53 = .ok (.invokevirtual 218, 3) := dk_182 0 218 (dk_at dksX9_knownHere_2 5 rfl rfl)
theorem dX9_knownHere_56 : decode cX9_knownHere 56 = .ok (.ifCond .eq 5, 3) := dk_153 0 5 (dk_at dksX9_knownHere_2 8 rfl rfl)
theorem dX9_knownHere_59 : decode cX9_knownHere 59 = .ok (.iconst 2, 1) := dk_5 (dk_at dksX9_knownHere_2 11 rfl rfl)
theorem dX9_knownHere_60 : decode cX9_knownHere 60 = .ok (.ireturn, 1) := dk_172 (dk_at dksX9_knownHere_2 12 rfl rfl)
theorem dX9_knownHere_61 : decode cX9_knownHere 61 = .ok (.aload_n 0, 1) := dk_42 (dk_at dksX9_knownHere_2 13 rfl rfl)
theorem dX9_knownHere_62 : decode cX9_knownHere 62 = .ok (.bipush 20, 2) := dk_16 20 (dk_at dksX9_knownHere_2 14 rfl rfl)
theorem dX9_knownHere_64 : decode cX9_knownHere 64 = .ok (.bipush 8, 2) := dk_16 8 (dk_at dksX9_knownHere_2 16 rfl rfl)
theorem dX9_knownHere_66 : decode cX9_knownHere 66 = .ok (.bipush 9, 2) := dk_16 9 (dk_at dksX9_knownHere_2 18 rfl rfl)
theorem dX9_knownHere_68 : decode cX9_knownHere 68 = .ok (.bipush 14, 2) := dk_16 14 (dk_at dksX9_knownHere_2 20 rfl rfl)
theorem dX9_knownHere_70 : decode cX9_knownHere 70 = .ok (.bipush 7, 2) := dk_16 7 (dk_at dksX9_knownHere_2 22 rfl rfl)
theorem dX9_knownHere_72 : decode cX9_knownHere 72 = .ok (.iconst 0, 1) := dk_3 (dk_at dksX9_knownHere_3 0 rfl rfl)
theorem dX9_knownHere_73 : decode cX9_knownHere 73 = .ok (.invokevirtual 218, 3) := dk_182 0 218 (dk_at dksX9_knownHere_3 1 rfl rfl)
theorem dX9_knownHere_76 : decode cX9_knownHere 76 = .ok (.ifCond .eq 5, 3) := dk_153 0 5 (dk_at dksX9_knownHere_3 4 rfl rfl)
theorem dX9_knownHere_79 : decode cX9_knownHere 79 = .ok (.iconst 3, 1) := dk_6 (dk_at dksX9_knownHere_3 7 rfl rfl)
theorem dX9_knownHere_80 : decode cX9_knownHere 80 = .ok (.ireturn, 1) := dk_172 (dk_at dksX9_knownHere_3 8 rfl rfl)
theorem dX9_knownHere_81 : decode cX9_knownHere 81 = .ok (.aload_n 0, 1) := dk_42 (dk_at dksX9_knownHere_3 9 rfl rfl)
theorem dX9_knownHere_82 : decode cX9_knownHere 82 = .ok (.iconst 4, 1) := dk_7 (dk_at dksX9_knownHere_3 10 rfl rfl)
theorem dX9_knownHere_83 : decode cX9_knownHere 83 = .ok (.iconst 1, 1) := dk_4 (dk_at dksX9_knownHere_3 11 rfl rfl)
theorem dX9_knownHere_84 : decode cX9_knownHere 84 = .ok (.bipush 25, 2) := dk_16 25 (dk_at dksX9_knownHere_3 12 rfl rfl)
theorem dX9_knownHere_86 : decode cX9_knownHere 86 = .ok (.iconst 0, 1) := dk_3 (dk_at dksX9_knownHere_3 14 rfl rfl)
theorem dX9_knownHere_87 : decode cX9_knownHere 87 = .ok (.iconst 0, 1) := dk_3 (dk_at dksX9_knownHere_3 15 rfl rfl)
theorem dX9_knownHere_88 : decode cX9_knownHere 88 = .ok (.iconst 0, 1) := dk_3 (dk_at dksX9_knownHere_3 16 rfl rfl)
theorem dX9_knownHere_89 : decode cX9_knownHere 89 = .ok (.invokevirtual 218, 3) := dk_182 0 218 (dk_at dksX9_knownHere_3 17 rfl rfl)
theorem dX9_knownHere_92 : decode cX9_knownHere 92 = .ok (.ifCond .eq 5, 3) := dk_153 0 5 (dk_at dksX9_knownHere_3 20 rfl rfl)
theorem dX9_knownHere_95 : decode cX9_knownHere 95 = .ok (.iconst 4, 1) := dk_7 (dk_at dksX9_knownHere_3 23 rfl rfl)
theorem dX9_knownHere_96 : decode cX9_knownHere 96 = .ok (.ireturn, 1) := dk_172 (dk_at dksX9_knownHere_4 0 rfl rfl)
theorem dX9_knownHere_97 : decode cX9_knownHere 97 = .ok (.aload_n 0, 1) := dk_42 (dk_at dksX9_knownHere_4 1 rfl rfl)
theorem dX9_knownHere_98 : decode cX9_knownHere 98 = .ok (.bipush 12, 2) := dk_16 12 (dk_at dksX9_knownHere_4 2 rfl rfl)
theorem dX9_knownHere_100 : decode cX9_knownHere 100 = .ok (.iconst 5, 1) := dk_8 (dk_at dksX9_knownHere_4 4 rfl rfl)
theorem dX9_knownHere_101 : decode cX9_knownHere 101 = .ok (.iconst 1, 1) := dk_4 (dk_at dksX9_knownHere_4 5 rfl rfl)
theorem dX9_knownHere_102 : decode cX9_knownHere 102 = .ok (.bipush 14, 2) := dk_16 14 (dk_at dksX9_knownHere_4 6 rfl rfl)
theorem dX9_knownHere_104 : decode cX9_knownHere 104 = .ok (.iconst 0, 1) := dk_3 (dk_at dksX9_knownHere_4 8 rfl rfl)
theorem dX9_knownHere_105 : decode cX9_knownHere 105 = .ok (.iconst 0, 1) := dk_3 (dk_at dksX9_knownHere_4 9 rfl rfl)
theorem dX9_knownHere_106 : decode cX9_knownHere 106 = .ok (.invokevirtual 218, 3) := dk_182 0 218 (dk_at dksX9_knownHere_4 10 rfl rfl)
theorem dX9_knownHere_109 : decode cX9_knownHere 109 = .ok (.ifCond .eq 5, 3) := dk_153 0 5 (dk_at dksX9_knownHere_4 13 rfl rfl)
theorem dX9_knownHere_112 : decode cX9_knownHere 112 = .ok (.iconst 5, 1) := dk_8 (dk_at dksX9_knownHere_4 16 rfl rfl)
theorem dX9_knownHere_113 : decode cX9_knownHere 113 = .ok (.ireturn, 1) := dk_172 (dk_at dksX9_knownHere_4 17 rfl rfl)
theorem dX9_knownHere_114 : decode cX9_knownHere 114 = .ok (.aload_n 0, 1) := dk_42 (dk_at dksX9_knownHere_4 18 rfl rfl)
theorem dX9_knownHere_115 : decode cX9_knownHere 115 = .ok (.bipush 16, 2) := dk_16 16 (dk_at dksX9_knownHere_4 19 rfl rfl)
theorem dX9_knownHere_117 : decode cX9_knownHere 117 = .ok (.bipush 12, 2) := dk_16 12 (dk_at dksX9_knownHere_4 21 rfl rfl)
theorem dX9_knownHere_119 : decode cX9_knownHere 119 = .ok (.iconst 1, 1) := dk_4 (dk_at dksX9_knownHere_4 23 rfl rfl)
theorem dX9_knownHere_120 : decode cX9_knownHere 120 = .ok (.bipush 25, 2) := dk_16 25 (dk_at dksX9_knownHere_5 0 rfl rfl)
theorem dX9_knownHere_122 : decode cX9_knownHere 122 = .ok (.iconst 0, 1) := dk_3 (dk_at dksX9_knownHere_5 2 rfl rfl)
theorem dX9_knownHere_123 : decode cX9_knownHere 123 = .ok (.iconst 0, 1) := dk_3 (dk_at dksX9_knownHere_5 3 rfl rfl)
theorem dX9_knownHere_124 : decode cX9_knownHere 124 = .ok (.invokevirtual 218, 3) := dk_182 0 218 (dk_at dksX9_knownHere_5 4 rfl rfl)
theorem dX9_knownHere_127 : decode cX9_knownHere 127 = .ok (.ifCond .eq 8, 3) := dk_153 0 8 (dk_at dksX9_knownHere_5 7 rfl rfl)
theorem dX9_knownHere_130 : decode cX9_knownHere 130 = .ok (.bipush 6, 2) := dk_16 6 (dk_at dksX9_knownHere_5 10 rfl rfl)
theorem dX9_knownHere_132 : decode cX9_knownHere 132 = .ok (.goto 4, 3) := dk_167 0 4 (dk_at dksX9_knownHere_5 12 rfl rfl)
theorem dX9_knownHere_135 : decode cX9_knownHere 135 = .ok (.iconst (-1), 1) := dk_2 (dk_at dksX9_knownHere_5 15 rfl rfl)
theorem dX9_knownHere_136 : decode cX9_knownHere 136 = .ok (.ireturn, 1) := dk_172 (dk_at dksX9_knownHere_5 16 rfl rfl)
def dkwX9_takes_1 : List UInt8 := [21, 7, 172]
abbrev dktX9_takes_1 : List UInt8 := dkwX9_takes_1 ++ []
def dkwX9_takes_0 : List UInt8 := [42, 27, 28, 29, 21, 4, 21, 5, 21, 6, 182, 0, 141, 54, 7, 21, 7, 153, 0, 7, 42, 182, 0, 145]
abbrev dktX9_takes_0 : List UInt8 := dkwX9_takes_0 ++ dktX9_takes_1
theorem dksX9_takes_0 : cX9_takes.data.toList.drop 0 = dktX9_takes_0 := by decide +kernel
theorem dksX9_takes_1 : cX9_takes.data.toList.drop 24 = dktX9_takes_1 := dk_seg dksX9_takes_0 24 rfl rfl
theorem dX9_takes_0 : decode cX9_takes 0 = .ok (.aload_n 0, 1) := dk_42 (dk_at dksX9_takes_0 0 rfl rfl)
theorem dX9_takes_1 : decode cX9_takes 1 = .ok (.iload_n 1, 1) := dk_27 (dk_at dksX9_takes_0 1 rfl rfl)
theorem dX9_takes_2 : decode cX9_takes 2 = .ok (.iload_n 2, 1) := dk_28 (dk_at dksX9_takes_0 2 rfl rfl)
theorem dX9_takes_3 : decode cX9_takes 3 = .ok (.iload_n 3, 1) := dk_29 (dk_at dksX9_takes_0 3 rfl rfl)
theorem dX9_takes_4 : decode cX9_takes 4 = .ok (.iload 4, 2) := dk_21 4 (dk_at dksX9_takes_0 4 rfl rfl)
theorem dX9_takes_6 : decode cX9_takes 6 = .ok (.iload 5, 2) := dk_21 5 (dk_at dksX9_takes_0 6 rfl rfl)
theorem dX9_takes_8 : decode cX9_takes 8 = .ok (.iload 6, 2) := dk_21 6 (dk_at dksX9_takes_0 8 rfl rfl)
theorem dX9_takes_10 : decode cX9_takes 10 = .ok (.invokevirtual 141, 3) := dk_182 0 141 (dk_at dksX9_takes_0 10 rfl rfl)
theorem dX9_takes_13 : decode cX9_takes 13 = .ok (.istore 7, 2) := dk_54 7 (dk_at dksX9_takes_0 13 rfl rfl)
theorem dX9_takes_15 : decode cX9_takes 15 = .ok (.iload 7, 2) := dk_21 7 (dk_at dksX9_takes_0 15 rfl rfl)
theorem dX9_takes_17 : decode cX9_takes 17 = .ok (.ifCond .eq 7, 3) := dk_153 0 7 (dk_at dksX9_takes_0 17 rfl rfl)
theorem dX9_takes_20 : decode cX9_takes 20 = .ok (.aload_n 0, 1) := dk_42 (dk_at dksX9_takes_0 20 rfl rfl)
theorem dX9_takes_21 : decode cX9_takes 21 = .ok (.invokevirtual 145, 3) := dk_182 0 145 (dk_at dksX9_takes_0 21 rfl rfl)
theorem dX9_takes_24 : decode cX9_takes 24 = .ok (.iload 7, 2) := dk_21 7 (dk_at dksX9_takes_1 0 rfl rfl)
theorem dX9_takes_26 : decode cX9_takes 26 = .ok (.ireturn, 1) := dk_172 (dk_at dksX9_takes_1 2 rfl rfl)
def dkwX9_isSeven_5 : List UInt8 := [21, 5, 172]
abbrev dktX9_isSeven_5 : List UInt8 := dkwX9_isSeven_5 ++ []
def dkwX9_isSeven_4 : List UInt8 := [182, 0, 104, 28, 160, 0, 7, 4, 167, 0, 4, 3, 54, 5, 21, 5, 153, 0, 7, 42, 182, 0, 145]
abbrev dktX9_isSeven_4 : List UInt8 := dkwX9_isSeven_4 ++ dktX9_isSeven_5
def dkwX9_isSeven_3 : List UInt8 := [167, 255, 203, 21, 4, 16, 7, 160, 0, 27, 29, 27, 160, 0, 22, 42, 42, 180, 0, 101, 16, 6, 96]
abbrev dktX9_isSeven_3 : List UInt8 := dkwX9_isSeven_3 ++ dktX9_isSeven_4
def dkwX9_isSeven_2 : List UInt8 := [42, 180, 0, 101, 21, 4, 96, 182, 0, 104, 96, 16, 97, 100, 4, 96, 167, 0, 4, 29, 62, 132, 4, 1]
abbrev dktX9_isSeven_2 : List UInt8 := dkwX9_isSeven_2 ++ dktX9_isSeven_3
def dkwX9_isSeven_1 : List UInt8 := [21, 4, 96, 182, 0, 104, 184, 0, 130, 153, 0, 42, 21, 4, 16, 6, 162, 0, 27, 16, 27, 29, 104, 42]
abbrev dktX9_isSeven_1 : List UInt8 := dkwX9_isSeven_1 ++ dktX9_isSeven_2
def dkwX9_isSeven_0 : List UInt8 := [42, 180, 0, 108, 153, 0, 5, 3, 172, 42, 182, 0, 114, 3, 62, 3, 54, 4, 42, 42, 180, 0, 101]
abbrev dktX9_isSeven_0 : List UInt8 := dkwX9_isSeven_0 ++ dktX9_isSeven_1
theorem dksX9_isSeven_0 : cX9_isSeven.data.toList.drop 0 = dktX9_isSeven_0 := by decide +kernel
theorem dksX9_isSeven_1 : cX9_isSeven.data.toList.drop 23 = dktX9_isSeven_1 := dk_seg dksX9_isSeven_0 23 rfl rfl
theorem dksX9_isSeven_2 : cX9_isSeven.data.toList.drop 47 = dktX9_isSeven_2 := dk_seg dksX9_isSeven_1 24 rfl rfl
theorem dksX9_isSeven_3 : cX9_isSeven.data.toList.drop 71 = dktX9_isSeven_3 := dk_seg dksX9_isSeven_2 24 rfl rfl
theorem dksX9_isSeven_4 : cX9_isSeven.data.toList.drop 94 = dktX9_isSeven_4 := dk_seg dksX9_isSeven_3 23 rfl rfl
theorem dksX9_isSeven_5 : cX9_isSeven.data.toList.drop 117 = dktX9_isSeven_5 := dk_seg dksX9_isSeven_4 23 rfl rfl
theorem dX9_isSeven_0 : decode cX9_isSeven 0 = .ok (.aload_n 0, 1) := dk_42 (dk_at dksX9_isSeven_0 0 rfl rfl)
theorem dX9_isSeven_1 : decode cX9_isSeven 1 = .ok (.getfield 108, 3) := dk_180 0 108 (dk_at dksX9_isSeven_0 1 rfl rfl)
theorem dX9_isSeven_4 : decode cX9_isSeven 4 = .ok (.ifCond .eq 5, 3) := dk_153 0 5 (dk_at dksX9_isSeven_0 4 rfl rfl)
theorem dX9_isSeven_7 : decode cX9_isSeven 7 = .ok (.iconst 0, 1) := dk_3 (dk_at dksX9_isSeven_0 7 rfl rfl)
theorem dX9_isSeven_8 : decode cX9_isSeven 8 = .ok (.ireturn, 1) := dk_172 (dk_at dksX9_isSeven_0 8 rfl rfl)
theorem dX9_isSeven_9 : decode cX9_isSeven 9 = .ok (.aload_n 0, 1) := dk_42 (dk_at dksX9_isSeven_0 9 rfl rfl)
theorem dX9_isSeven_10 : decode cX9_isSeven 10 = .ok (.invokevirtual 114, 3) := dk_182 0 114 (dk_at dksX9_isSeven_0 10 rfl rfl)
theorem dX9_isSeven_13 : decode cX9_isSeven 13 = .ok (.iconst 0, 1) := dk_3 (dk_at dksX9_isSeven_0 13 rfl rfl)
theorem dX9_isSeven_14 : decode cX9_isSeven 14 = .ok (.istore_n 3, 1) := dk_62 (dk_at dksX9_isSeven_0 14 rfl rfl)
theorem dX9_isSeven_15 : decode cX9_isSeven 15 = .ok (.iconst 0, 1) := dk_3 (dk_at dksX9_isSeven_0 15 rfl rfl)
theorem dX9_isSeven_16 : decode cX9_isSeven 16 = .ok (.istore 4, 2) := dk_54 4 (dk_at dksX9_isSeven_0 16 rfl rfl)
theorem dX9_isSeven_18 : decode cX9_isSeven 18 = .ok (.aload_n 0, 1) := dk_42 (dk_at dksX9_isSeven_0 18 rfl rfl)
theorem dX9_isSeven_19 : decode cX9_isSeven 19 = .ok (.aload_n 0, 1) := dk_42 (dk_at dksX9_isSeven_0 19 rfl rfl)
theorem dX9_isSeven_20 : decode cX9_isSeven 20 = .ok (.getfield 101, 3) := dk_180 0 101 (dk_at dksX9_isSeven_0 20 rfl rfl)
theorem dX9_isSeven_23 : decode cX9_isSeven 23 = .ok (.iload 4, 2) := dk_21 4 (dk_at dksX9_isSeven_1 0 rfl rfl)
theorem dX9_isSeven_25 : decode cX9_isSeven 25 = .ok (.iadd, 1) := dk_96 (dk_at dksX9_isSeven_1 2 rfl rfl)
theorem dX9_isSeven_26 : decode cX9_isSeven 26 = .ok (.invokevirtual 104, 3) := dk_182 0 104 (dk_at dksX9_isSeven_1 3 rfl rfl)
theorem dX9_isSeven_29 : decode cX9_isSeven 29 = .ok (.invokestatic 130, 3) := dk_184 0 130 (dk_at dksX9_isSeven_1 6 rfl rfl)
theorem dX9_isSeven_32 : decode cX9_isSeven 32 = .ok (.ifCond .eq 42, 3) := dk_153 0 42 (dk_at dksX9_isSeven_1 9 rfl rfl)
theorem dX9_isSeven_35 : decode cX9_isSeven 35 = .ok (.iload 4, 2) := dk_21 4 (dk_at dksX9_isSeven_1 12 rfl rfl)
theorem dX9_isSeven_37 : decode cX9_isSeven 37 = .ok (.bipush 6, 2) := dk_16 6 (dk_at dksX9_isSeven_1 14 rfl rfl)
theorem dX9_isSeven_39 : decode cX9_isSeven 39 = .ok (.if_icmp .ge 27, 3) := dk_162 0 27 (dk_at dksX9_isSeven_1 16 rfl rfl)
theorem dX9_isSeven_42 : decode cX9_isSeven 42 = .ok (.bipush 27, 2) := dk_16 27 (dk_at dksX9_isSeven_1 19 rfl rfl)
theorem dX9_isSeven_44 : decode cX9_isSeven 44 = .ok (.iload_n 3, 1) := dk_29 (dk_at dksX9_isSeven_1 21 rfl rfl)
theorem dX9_isSeven_45 : decode cX9_isSeven 45 = .ok (.imul, 1) := dk_104 (dk_at dksX9_isSeven_1 22 rfl rfl)
theorem dX9_isSeven_46 : decode cX9_isSeven 46 = .ok (.aload_n 0, 1) := dk_42 (dk_at dksX9_isSeven_1 23 rfl rfl)
theorem dX9_isSeven_47 : decode cX9_isSeven 47 = .ok (.aload_n 0, 1) := dk_42 (dk_at dksX9_isSeven_2 0 rfl rfl)
theorem dX9_isSeven_48 : decode cX9_isSeven 48 = .ok (.getfield 101, 3) := dk_180 0 101 (dk_at dksX9_isSeven_2 1 rfl rfl)
theorem dX9_isSeven_51 : decode cX9_isSeven 51 = .ok (.iload 4, 2) := dk_21 4 (dk_at dksX9_isSeven_2 4 rfl rfl)
theorem dX9_isSeven_53 : decode cX9_isSeven 53 = .ok (.iadd, 1) := dk_96 (dk_at dksX9_isSeven_2 6 rfl rfl)
theorem dX9_isSeven_54 : decode cX9_isSeven 54 = .ok (.invokevirtual 104, 3) := dk_182 0 104 (dk_at dksX9_isSeven_2 7 rfl rfl)
theorem dX9_isSeven_57 : decode cX9_isSeven 57 = .ok (.iadd, 1) := dk_96 (dk_at dksX9_isSeven_2 10 rfl rfl)
theorem dX9_isSeven_58 : decode cX9_isSeven 58 = .ok (.bipush 97, 2) := dk_16 97 (dk_at dksX9_isSeven_2 11 rfl rfl)
theorem dX9_isSeven_60 : decode cX9_isSeven 60 = .ok (.isub, 1) := dk_100 (dk_at dksX9_isSeven_2 13 rfl rfl)
theorem dX9_isSeven_61 : decode cX9_isSeven 61 = .ok (.iconst 1, 1) := dk_4 (dk_at dksX9_isSeven_2 14 rfl rfl)
theorem dX9_isSeven_62 : decode cX9_isSeven 62 = .ok (.iadd, 1) := dk_96 (dk_at dksX9_isSeven_2 15 rfl rfl)
theorem dX9_isSeven_63 : decode cX9_isSeven 63 = .ok (.goto 4, 3) := dk_167 0 4 (dk_at dksX9_isSeven_2 16 rfl rfl)
theorem dX9_isSeven_66 : decode cX9_isSeven 66 = .ok (.iload_n 3, 1) := dk_29 (dk_at dksX9_isSeven_2 19 rfl rfl)
theorem dX9_isSeven_67 : decode cX9_isSeven 67 = .ok (.istore_n 3, 1) := dk_62 (dk_at dksX9_isSeven_2 20 rfl rfl)
theorem dX9_isSeven_68 : decode cX9_isSeven 68 = .ok (.iinc 4 1, 3) := dk_132 4 1 (dk_at dksX9_isSeven_2 21 rfl rfl)
theorem dX9_isSeven_71 : decode cX9_isSeven 71 = .ok (.goto (-53), 3) := dk_167 255 203 (dk_at dksX9_isSeven_3 0 rfl rfl)
theorem dX9_isSeven_74 : decode cX9_isSeven 74 = .ok (.iload 4, 2) := dk_21 4 (dk_at dksX9_isSeven_3 3 rfl rfl)
theorem dX9_isSeven_76 : decode cX9_isSeven 76 = .ok (.bipush 7, 2) := dk_16 7 (dk_at dksX9_isSeven_3 5 rfl rfl)
theorem dX9_isSeven_78 : decode cX9_isSeven 78 = .ok (.if_icmp .ne 27, 3) := dk_160 0 27 (dk_at dksX9_isSeven_3 7 rfl rfl)
theorem dX9_isSeven_81 : decode cX9_isSeven 81 = .ok (.iload_n 3, 1) := dk_29 (dk_at dksX9_isSeven_3 10 rfl rfl)
theorem dX9_isSeven_82 : decode cX9_isSeven 82 = .ok (.iload_n 1, 1) := dk_27 (dk_at dksX9_isSeven_3 11 rfl rfl)
theorem dX9_isSeven_83 : decode cX9_isSeven 83 = .ok (.if_icmp .ne 22, 3) := dk_160 0 22 (dk_at dksX9_isSeven_3 12 rfl rfl)
theorem dX9_isSeven_86 : decode cX9_isSeven 86 = .ok (.aload_n 0, 1) := dk_42 (dk_at dksX9_isSeven_3 15 rfl rfl)
theorem dX9_isSeven_87 : decode cX9_isSeven 87 = .ok (.aload_n 0, 1) := dk_42 (dk_at dksX9_isSeven_3 16 rfl rfl)
theorem dX9_isSeven_88 : decode cX9_isSeven 88 = .ok (.getfield 101, 3) := dk_180 0 101 (dk_at dksX9_isSeven_3 17 rfl rfl)
theorem dX9_isSeven_91 : decode cX9_isSeven 91 = .ok (.bipush 6, 2) := dk_16 6 (dk_at dksX9_isSeven_3 20 rfl rfl)
theorem dX9_isSeven_93 : decode cX9_isSeven 93 = .ok (.iadd, 1) := dk_96 (dk_at dksX9_isSeven_3 22 rfl rfl)
theorem dX9_isSeven_94 : decode cX9_isSeven 94 = .ok (.invokevirtual 104, 3) := dk_182 0 104 (dk_at dksX9_isSeven_4 0 rfl rfl)
theorem dX9_isSeven_97 : decode cX9_isSeven 97 = .ok (.iload_n 2, 1) := dk_28 (dk_at dksX9_isSeven_4 3 rfl rfl)
theorem dX9_isSeven_98 : decode cX9_isSeven 98 = .ok (.if_icmp .ne 7, 3) := dk_160 0 7 (dk_at dksX9_isSeven_4 4 rfl rfl)
theorem dX9_isSeven_101 : decode cX9_isSeven 101 = .ok (.iconst 1, 1) := dk_4 (dk_at dksX9_isSeven_4 7 rfl rfl)
theorem dX9_isSeven_102 : decode cX9_isSeven 102 = .ok (.goto 4, 3) := dk_167 0 4 (dk_at dksX9_isSeven_4 8 rfl rfl)
theorem dX9_isSeven_105 : decode cX9_isSeven 105 = .ok (.iconst 0, 1) := dk_3 (dk_at dksX9_isSeven_4 11 rfl rfl)
theorem dX9_isSeven_106 : decode cX9_isSeven 106 = .ok (.istore 5, 2) := dk_54 5 (dk_at dksX9_isSeven_4 12 rfl rfl)
theorem dX9_isSeven_108 : decode cX9_isSeven 108 = .ok (.iload 5, 2) := dk_21 5 (dk_at dksX9_isSeven_4 14 rfl rfl)
theorem dX9_isSeven_110 : decode cX9_isSeven 110 = .ok (.ifCond .eq 7, 3) := dk_153 0 7 (dk_at dksX9_isSeven_4 16 rfl rfl)
theorem dX9_isSeven_113 : decode cX9_isSeven 113 = .ok (.aload_n 0, 1) := dk_42 (dk_at dksX9_isSeven_4 19 rfl rfl)
theorem dX9_isSeven_114 : decode cX9_isSeven 114 = .ok (.invokevirtual 145, 3) := dk_182 0 145 (dk_at dksX9_isSeven_4 20 rfl rfl)
theorem dX9_isSeven_117 : decode cX9_isSeven 117 = .ok (.iload 5, 2) := dk_21 5 (dk_at dksX9_isSeven_5 0 rfl rfl)
theorem dX9_isSeven_119 : decode cX9_isSeven 119 = .ok (.ireturn, 1) := dk_172 (dk_at dksX9_isSeven_5 2 rfl rfl)
def dkwX9_takesSign_2 : List UInt8 := [172]
abbrev dktX9_takesSign_2 : List UInt8 := dkwX9_takesSign_2 ++ []
def dkwX9_takesSign_1 : List UInt8 := [160, 0, 7, 4, 167, 0, 4, 3, 61, 28, 153, 0, 13, 42, 89, 180, 0, 101, 4, 96, 181, 0, 101, 28]
abbrev dktX9_takesSign_1 : List UInt8 := dkwX9_takesSign_1 ++ dktX9_takesSign_2
def dkwX9_takesSign_0 : List UInt8 := [42, 180, 0, 108, 153, 0, 5, 3, 172, 42, 182, 0, 114, 42, 42, 180, 0, 101, 182, 0, 104, 27]
abbrev dktX9_takesSign_0 : List UInt8 := dkwX9_takesSign_0 ++ dktX9_takesSign_1
theorem dksX9_takesSign_0 : cX9_takesSign.data.toList.drop 0 = dktX9_takesSign_0 := by decide +kernel
theorem dksX9_takesSign_1 : cX9_takesSign.data.toList.drop 22 = dktX9_takesSign_1 := dk_seg dksX9_takesSign_0 22 rfl rfl
theorem dksX9_takesSign_2 : cX9_takesSign.data.toList.drop 46 = dktX9_takesSign_2 := dk_seg dksX9_takesSign_1 24 rfl rfl
theorem dX9_takesSign_0 : decode cX9_takesSign 0 = .ok (.aload_n 0, 1) := dk_42 (dk_at dksX9_takesSign_0 0 rfl rfl)
theorem dX9_takesSign_1 : decode cX9_takesSign 1 = .ok (.getfield 108, 3) := dk_180 0 108 (dk_at dksX9_takesSign_0 1 rfl rfl)
theorem dX9_takesSign_4 : decode cX9_takesSign 4 = .ok (.ifCond .eq 5, 3) := dk_153 0 5 (dk_at dksX9_takesSign_0 4 rfl rfl)
theorem dX9_takesSign_7 : decode cX9_takesSign 7 = .ok (.iconst 0, 1) := dk_3 (dk_at dksX9_takesSign_0 7 rfl rfl)
theorem dX9_takesSign_8 : decode cX9_takesSign 8 = .ok (.ireturn, 1) := dk_172 (dk_at dksX9_takesSign_0 8 rfl rfl)
theorem dX9_takesSign_9 : decode cX9_takesSign 9 = .ok (.aload_n 0, 1) := dk_42 (dk_at dksX9_takesSign_0 9 rfl rfl)
theorem dX9_takesSign_10 : decode cX9_takesSign 10 = .ok (.invokevirtual 114, 3) := dk_182 0 114 (dk_at dksX9_takesSign_0 10 rfl rfl)
theorem dX9_takesSign_13 : decode cX9_takesSign 13 = .ok (.aload_n 0, 1) := dk_42 (dk_at dksX9_takesSign_0 13 rfl rfl)
theorem dX9_takesSign_14 : decode cX9_takesSign 14 = .ok (.aload_n 0, 1) := dk_42 (dk_at dksX9_takesSign_0 14 rfl rfl)
theorem dX9_takesSign_15 : decode cX9_takesSign 15 = .ok (.getfield 101, 3) := dk_180 0 101 (dk_at dksX9_takesSign_0 15 rfl rfl)
theorem dX9_takesSign_18 : decode cX9_takesSign 18 = .ok (.invokevirtual 104, 3) := dk_182 0 104 (dk_at dksX9_takesSign_0 18 rfl rfl)
theorem dX9_takesSign_21 : decode cX9_takesSign 21 = .ok (.iload_n 1, 1) := dk_27 (dk_at dksX9_takesSign_0 21 rfl rfl)
theorem dX9_takesSign_22 : decode cX9_takesSign 22 = .ok (.if_icmp .ne 7, 3) := dk_160 0 7 (dk_at dksX9_takesSign_1 0 rfl rfl)
theorem dX9_takesSign_25 : decode cX9_takesSign 25 = .ok (.iconst 1, 1) := dk_4 (dk_at dksX9_takesSign_1 3 rfl rfl)
theorem dX9_takesSign_26 : decode cX9_takesSign 26 = .ok (.goto 4, 3) := dk_167 0 4 (dk_at dksX9_takesSign_1 4 rfl rfl)
theorem dX9_takesSign_29 : decode cX9_takesSign 29 = .ok (.iconst 0, 1) := dk_3 (dk_at dksX9_takesSign_1 7 rfl rfl)
theorem dX9_takesSign_30 : decode cX9_takesSign 30 = .ok (.istore_n 2, 1) := dk_61 (dk_at dksX9_takesSign_1 8 rfl rfl)
theorem dX9_takesSign_31 : decode cX9_takesSign 31 = .ok (.iload_n 2, 1) := dk_28 (dk_at dksX9_takesSign_1 9 rfl rfl)
theorem dX9_takesSign_32 : decode cX9_takesSign 32 = .ok (.ifCond .eq 13, 3) := dk_153 0 13 (dk_at dksX9_takesSign_1 10 rfl rfl)
theorem dX9_takesSign_35 : decode cX9_takesSign 35 = .ok (.aload_n 0, 1) := dk_42 (dk_at dksX9_takesSign_1 13 rfl rfl)
theorem dX9_takesSign_36 : decode cX9_takesSign 36 = .ok (.dup, 1) := dk_89 (dk_at dksX9_takesSign_1 14 rfl rfl)
theorem dX9_takesSign_37 : decode cX9_takesSign 37 = .ok (.getfield 101, 3) := dk_180 0 101 (dk_at dksX9_takesSign_1 15 rfl rfl)
theorem dX9_takesSign_40 : decode cX9_takesSign 40 = .ok (.iconst 1, 1) := dk_4 (dk_at dksX9_takesSign_1 18 rfl rfl)
theorem dX9_takesSign_41 : decode cX9_takesSign 41 = .ok (.iadd, 1) := dk_96 (dk_at dksX9_takesSign_1 19 rfl rfl)
theorem dX9_takesSign_42 : decode cX9_takesSign 42 = .ok (.putfield 101, 3) := dk_181 0 101 (dk_at dksX9_takesSign_1 20 rfl rfl)
theorem dX9_takesSign_45 : decode cX9_takesSign 45 = .ok (.iload_n 2, 1) := dk_28 (dk_at dksX9_takesSign_1 23 rfl rfl)
theorem dX9_takesSign_46 : decode cX9_takesSign 46 = .ok (.ireturn, 1) := dk_172 (dk_at dksX9_takesSign_2 0 rfl rfl)
def dkwX9_book_9 : List UInt8 := [172]
abbrev dktX9_book_9 : List UInt8 := dkwX9_book_9 ++ []
def dkwX9_book_8 : List UInt8 := [172, 42, 2, 181, 0, 9, 42, 28, 181, 0, 191, 42, 180, 0, 49, 42, 180, 0, 46, 28, 184, 0, 184, 28]
abbrev dktX9_book_8 : List UInt8 := dkwX9_book_8 ++ dktX9_book_9
def dkwX9_book_7 : List UInt8 := [21, 6, 79, 132, 2, 1, 42, 182, 0, 114, 167, 255, 127, 42, 180, 0, 108, 153, 0, 8, 42, 182, 0, 181]
abbrev dktX9_book_7 : List UInt8 := dkwX9_book_7 ++ dktX9_book_8
def dkwX9_book_6 : List UInt8 := [28, 50, 3, 21, 4, 79, 42, 180, 0, 49, 28, 50, 4, 21, 5, 79, 42, 180, 0, 49, 28, 50, 5]
abbrev dktX9_book_6 : List UInt8 := dkwX9_book_6 ++ dktX9_book_7
def dkwX9_book_5 : List UInt8 := [3, 5, 182, 0, 154, 54, 6, 42, 16, 59, 182, 0, 167, 42, 180, 0, 108, 154, 0, 36, 42, 180, 0, 49]
abbrev dktX9_book_5 : List UInt8 := dkwX9_book_5 ++ dktX9_book_6
def dkwX9_book_4 : List UInt8 := [160, 0, 9, 42, 6, 29, 182, 0, 121, 42, 21, 4, 42, 180, 0, 23, 3, 46, 182, 0, 164, 54, 5, 42]
abbrev dktX9_book_4 : List UInt8 := dkwX9_book_4 ++ dktX9_book_5
def dkwX9_book_3 : List UInt8 := [42, 180, 0, 23, 3, 46, 4, 100, 182, 0, 154, 54, 4, 42, 180, 0, 108, 154, 0, 15, 28, 16, 6]
abbrev dktX9_book_3 : List UInt8 := dkwX9_book_3 ++ dktX9_book_4
def dkwX9_book_2 : List UInt8 := [180, 0, 108, 154, 0, 128, 42, 180, 0, 101, 42, 180, 0, 98, 162, 0, 117, 42, 180, 0, 101, 62, 42, 3]
abbrev dktX9_book_2 : List UInt8 := dkwX9_book_2 ++ dktX9_book_3
def dkwX9_book_1 : List UInt8 := [4, 167, 0, 4, 3, 4, 4, 182, 0, 171, 153, 0, 5, 3, 172, 42, 27, 182, 0, 175, 3, 61, 42]
abbrev dktX9_book_1 : List UInt8 := dkwX9_book_1 ++ dktX9_book_2
def dkwX9_book_0 : List UInt8 := [42, 3, 181, 0, 92, 42, 27, 3, 42, 180, 0, 95, 184, 0, 126, 153, 0, 9, 27, 16, 60, 164, 0, 7]
abbrev dktX9_book_0 : List UInt8 := dkwX9_book_0 ++ dktX9_book_1
theorem dksX9_book_0 : cX9_book.data.toList.drop 0 = dktX9_book_0 := by decide +kernel
theorem dksX9_book_1 : cX9_book.data.toList.drop 24 = dktX9_book_1 := dk_seg dksX9_book_0 24 rfl rfl
theorem dksX9_book_2 : cX9_book.data.toList.drop 47 = dktX9_book_2 := dk_seg dksX9_book_1 23 rfl rfl
theorem dksX9_book_3 : cX9_book.data.toList.drop 71 = dktX9_book_3 := dk_seg dksX9_book_2 24 rfl rfl
theorem dksX9_book_4 : cX9_book.data.toList.drop 94 = dktX9_book_4 := dk_seg dksX9_book_3 23 rfl rfl
theorem dksX9_book_5 : cX9_book.data.toList.drop 118 = dktX9_book_5 := dk_seg dksX9_book_4 24 rfl rfl
theorem dksX9_book_6 : cX9_book.data.toList.drop 142 = dktX9_book_6 := dk_seg dksX9_book_5 24 rfl rfl
theorem dksX9_book_7 : cX9_book.data.toList.drop 165 = dktX9_book_7 := dk_seg dksX9_book_6 23 rfl rfl
theorem dksX9_book_8 : cX9_book.data.toList.drop 189 = dktX9_book_8 := dk_seg dksX9_book_7 24 rfl rfl
theorem dksX9_book_9 : cX9_book.data.toList.drop 213 = dktX9_book_9 := dk_seg dksX9_book_8 24 rfl rfl
theorem dX9_book_0 : decode cX9_book 0 = .ok (.aload_n 0, 1) := dk_42 (dk_at dksX9_book_0 0 rfl rfl)
theorem dX9_book_1 : decode cX9_book 1 = .ok (.iconst 0, 1) := dk_3 (dk_at dksX9_book_0 1 rfl rfl)
theorem dX9_book_2 : decode cX9_book 2 = .ok (.putfield 92, 3) := dk_181 0 92 (dk_at dksX9_book_0 2 rfl rfl)
theorem dX9_book_5 : decode cX9_book 5 = .ok (.aload_n 0, 1) := dk_42 (dk_at dksX9_book_0 5 rfl rfl)
theorem dX9_book_6 : decode cX9_book 6 = .ok (.iload_n 1, 1) := dk_27 (dk_at dksX9_book_0 6 rfl rfl)
theorem dX9_book_7 : decode cX9_book 7 = .ok (.iconst 0, 1) := dk_3 (dk_at dksX9_book_0 7 rfl rfl)
theorem dX9_book_8 : decode cX9_book 8 = .ok (.aload_n 0, 1) := dk_42 (dk_at dksX9_book_0 8 rfl rfl)
theorem dX9_book_9 : decode cX9_book 9 = .ok (.getfield 95, 3) := dk_180 0 95 (dk_at dksX9_book_0 9 rfl rfl)
theorem dX9_book_12 : decode cX9_book 12 = .ok (.invokestatic 126, 3) := dk_184 0 126 (dk_at dksX9_book_0 12 rfl rfl)
theorem dX9_book_15 : decode cX9_book 15 = .ok (.ifCond .eq 9, 3) := dk_153 0 9 (dk_at dksX9_book_0 15 rfl rfl)
theorem dX9_book_18 : decode cX9_book 18 = .ok (.iload_n 1, 1) := dk_27 (dk_at dksX9_book_0 18 rfl rfl)
theorem dX9_book_19 : decode cX9_book 19 = .ok (.bipush 60, 2) := dk_16 60 (dk_at dksX9_book_0 19 rfl rfl)
theorem dX9_book_21 : decode cX9_book 21 = .ok (.if_icmp .le 7, 3) := dk_164 0 7 (dk_at dksX9_book_0 21 rfl rfl)
theorem dX9_book_24 : decode cX9_book 24 = .ok (.iconst 1, 1) := dk_4 (dk_at dksX9_book_1 0 rfl rfl)
theorem dX9_book_25 : decode cX9_book 25 = .ok (.goto 4, 3) := dk_167 0 4 (dk_at dksX9_book_1 1 rfl rfl)
theorem dX9_book_28 : decode cX9_book 28 = .ok (.iconst 0, 1) := dk_3 (dk_at dksX9_book_1 4 rfl rfl)
theorem dX9_book_29 : decode cX9_book 29 = .ok (.iconst 1, 1) := dk_4 (dk_at dksX9_book_1 5 rfl rfl)
theorem dX9_book_30 : decode cX9_book 30 = .ok (.iconst 1, 1) := dk_4 (dk_at dksX9_book_1 6 rfl rfl)
theorem dX9_book_31 : decode cX9_book 31 = .ok (.invokevirtual 171, 3) := dk_182 0 171 (dk_at dksX9_book_1 7 rfl rfl)
theorem dX9_book_34 : decode cX9_book 34 = .ok (.ifCond .eq 5, 3) := dk_153 0 5 (dk_at dksX9_book_1 10 rfl rfl)
theorem dX9_book_37 : decode cX9_book 37 = .ok (.iconst 0, 1) := dk_3 (dk_at dksX9_book_1 13 rfl rfl)
theorem dX9_book_38 : decode cX9_book 38 = .ok (.ireturn, 1) := dk_172 (dk_at dksX9_book_1 14 rfl rfl)
theorem dX9_book_39 : decode cX9_book 39 = .ok (.aload_n 0, 1) := dk_42 (dk_at dksX9_book_1 15 rfl rfl)
theorem dX9_book_40 : decode cX9_book 40 = .ok (.iload_n 1, 1) := dk_27 (dk_at dksX9_book_1 16 rfl rfl)
theorem dX9_book_41 : decode cX9_book 41 = .ok (.invokevirtual 175, 3) := dk_182 0 175 (dk_at dksX9_book_1 17 rfl rfl)
theorem dX9_book_44 : decode cX9_book 44 = .ok (.iconst 0, 1) := dk_3 (dk_at dksX9_book_1 20 rfl rfl)
theorem dX9_book_45 : decode cX9_book 45 = .ok (.istore_n 2, 1) := dk_61 (dk_at dksX9_book_1 21 rfl rfl)
theorem dX9_book_46 : decode cX9_book 46 = .ok (.aload_n 0, 1) := dk_42 (dk_at dksX9_book_1 22 rfl rfl)
theorem dX9_book_47 : decode cX9_book 47 = .ok (.getfield 108, 3) := dk_180 0 108 (dk_at dksX9_book_2 0 rfl rfl)
theorem dX9_book_50 : decode cX9_book 50 = .ok (.ifCond .ne 128, 3) := dk_154 0 128 (dk_at dksX9_book_2 3 rfl rfl)
theorem dX9_book_53 : decode cX9_book 53 = .ok (.aload_n 0, 1) := dk_42 (dk_at dksX9_book_2 6 rfl rfl)
theorem dX9_book_54 : decode cX9_book 54 = .ok (.getfield 101, 3) := dk_180 0 101 (dk_at dksX9_book_2 7 rfl rfl)
theorem dX9_book_57 : decode cX9_book 57 = .ok (.aload_n 0, 1) := dk_42 (dk_at dksX9_book_2 10 rfl rfl)
theorem dX9_book_58 : decode cX9_book 58 = .ok (.getfield 98, 3) := dk_180 0 98 (dk_at dksX9_book_2 11 rfl rfl)
theorem dX9_book_61 : decode cX9_book 61 = .ok (.if_icmp .ge 117, 3) := dk_162 0 117 (dk_at dksX9_book_2 14 rfl rfl)
theorem dX9_book_64 : decode cX9_book 64 = .ok (.aload_n 0, 1) := dk_42 (dk_at dksX9_book_2 17 rfl rfl)
theorem dX9_book_65 : decode cX9_book 65 = .ok (.getfield 101, 3) := dk_180 0 101 (dk_at dksX9_book_2 18 rfl rfl)
theorem dX9_book_68 : decode cX9_book 68 = .ok (.istore_n 3, 1) := dk_62 (dk_at dksX9_book_2 21 rfl rfl)
theorem dX9_book_69 : decode cX9_book 69 = .ok (.aload_n 0, 1) := dk_42 (dk_at dksX9_book_2 22 rfl rfl)
theorem dX9_book_70 : decode cX9_book 70 = .ok (.iconst 0, 1) := dk_3 (dk_at dksX9_book_2 23 rfl rfl)
theorem dX9_book_71 : decode cX9_book 71 = .ok (.aload_n 0, 1) := dk_42 (dk_at dksX9_book_3 0 rfl rfl)
theorem dX9_book_72 : decode cX9_book 72 = .ok (.getfield 23, 3) := dk_180 0 23 (dk_at dksX9_book_3 1 rfl rfl)
theorem dX9_book_75 : decode cX9_book 75 = .ok (.iconst 0, 1) := dk_3 (dk_at dksX9_book_3 4 rfl rfl)
theorem dX9_book_76 : decode cX9_book 76 = .ok (.iaload, 1) := dk_46 (dk_at dksX9_book_3 5 rfl rfl)
theorem dX9_book_77 : decode cX9_book 77 = .ok (.iconst 1, 1) := dk_4 (dk_at dksX9_book_3 6 rfl rfl)
theorem dX9_book_78 : decode cX9_book 78 = .ok (.isub, 1) := dk_100 (dk_at dksX9_book_3 7 rfl rfl)
theorem dX9_book_79 : decode cX9_book 79 = .ok (.invokevirtual 154, 3) := dk_182 0 154 (dk_at dksX9_book_3 8 rfl rfl)
theorem dX9_book_82 : decode cX9_book 82 = .ok (.istore 4, 2) := dk_54 4 (dk_at dksX9_book_3 11 rfl rfl)
theorem dX9_book_84 : decode cX9_book 84 = .ok (.aload_n 0, 1) := dk_42 (dk_at dksX9_book_3 13 rfl rfl)
theorem dX9_book_85 : decode cX9_book 85 = .ok (.getfield 108, 3) := dk_180 0 108 (dk_at dksX9_book_3 14 rfl rfl)
theorem dX9_book_88 : decode cX9_book 88 = .ok (.ifCond .ne 15, 3) := dk_154 0 15 (dk_at dksX9_book_3 17 rfl rfl)
theorem dX9_book_91 : decode cX9_book 91 = .ok (.iload_n 2, 1) := dk_28 (dk_at dksX9_book_3 20 rfl rfl)
theorem dX9_book_92 : decode cX9_book 92 = .ok (.bipush 6, 2) := dk_16 6 (dk_at dksX9_book_3 21 rfl rfl)
theorem dX9_book_94 : decode cX9_book 94 = .ok (.if_icmp .ne 9, 3) := dk_160 0 9 (dk_at dksX9_book_4 0 rfl rfl)
theorem dX9_book_97 : decode cX9_book 97 = .ok (.aload_n 0, 1) := dk_42 (dk_at dksX9_book_4 3 rfl rfl)
theorem dX9_book_98 : decode cX9_book 98 = .ok (.iconst 3, 1) := dk_6 (dk_at dksX9_book_4 4 rfl rfl)
theorem dX9_book_99 : decode cX9_book 99 = .ok (.iload_n 3, 1) := dk_29 (dk_at dksX9_book_4 5 rfl rfl)
theorem dX9_book_100 : decode cX9_book 100 = .ok (.invokevirtual 121, 3) := dk_182 0 121 (dk_at dksX9_book_4 6 rfl rfl)
theorem dX9_book_103 : decode cX9_book 103 = .ok (.aload_n 0, 1) := dk_42 (dk_at dksX9_book_4 9 rfl rfl)
theorem dX9_book_104 : decode cX9_book 104 = .ok (.iload 4, 2) := dk_21 4 (dk_at dksX9_book_4 10 rfl rfl)
theorem dX9_book_106 : decode cX9_book 106 = .ok (.aload_n 0, 1) := dk_42 (dk_at dksX9_book_4 12 rfl rfl)
theorem dX9_book_107 : decode cX9_book 107 = .ok (.getfield 23, 3) := dk_180 0 23 (dk_at dksX9_book_4 13 rfl rfl)
theorem dX9_book_110 : decode cX9_book 110 = .ok (.iconst 0, 1) := dk_3 (dk_at dksX9_book_4 16 rfl rfl)
theorem dX9_book_111 : decode cX9_book 111 = .ok (.iaload, 1) := dk_46 (dk_at dksX9_book_4 17 rfl rfl)
theorem dX9_book_112 : decode cX9_book 112 = .ok (.invokevirtual 164, 3) := dk_182 0 164 (dk_at dksX9_book_4 18 rfl rfl)
theorem dX9_book_115 : decode cX9_book 115 = .ok (.istore 5, 2) := dk_54 5 (dk_at dksX9_book_4 21 rfl rfl)
theorem dX9_book_117 : decode cX9_book 117 = .ok (.aload_n 0, 1) := dk_42 (dk_at dksX9_book_4 23 rfl rfl)
theorem dX9_book_118 : decode cX9_book 118 = .ok (.iconst 0, 1) := dk_3 (dk_at dksX9_book_5 0 rfl rfl)
theorem dX9_book_119 : decode cX9_book 119 = .ok (.iconst 2, 1) := dk_5 (dk_at dksX9_book_5 1 rfl rfl)
theorem dX9_book_120 : decode cX9_book 120 = .ok (.invokevirtual 154, 3) := dk_182 0 154 (dk_at dksX9_book_5 2 rfl rfl)
theorem dX9_book_123 : decode cX9_book 123 = .ok (.istore 6, 2) := dk_54 6 (dk_at dksX9_book_5 5 rfl rfl)
theorem dX9_book_125 : decode cX9_book 125 = .ok (.aload_n 0, 1) := dk_42 (dk_at dksX9_book_5 7 rfl rfl)
theorem dX9_book_126 : decode cX9_book 126 = .ok (.bipush 59, 2) := dk_16 59 (dk_at dksX9_book_5 8 rfl rfl)
theorem dX9_book_128 : decode cX9_book 128 = .ok (.invokevirtual 167, 3) := dk_182 0 167 (dk_at dksX9_book_5 10 rfl rfl)
theorem dX9_book_131 : decode cX9_book 131 = .ok (.aload_n 0, 1) := dk_42 (dk_at dksX9_book_5 13 rfl rfl)
theorem dX9_book_132 : decode cX9_book 132 = .ok (.getfield 108, 3) := dk_180 0 108 (dk_at dksX9_book_5 14 rfl rfl)
theorem dX9_book_135 : decode cX9_book 135 = .ok (.ifCond .ne 36, 3) := dk_154 0 36 (dk_at dksX9_book_5 17 rfl rfl)
theorem dX9_book_138 : decode cX9_book 138 = .ok (.aload_n 0, 1) := dk_42 (dk_at dksX9_book_5 20 rfl rfl)
theorem dX9_book_139 : decode cX9_book 139 = .ok (.getfield 49, 3) := dk_180 0 49 (dk_at dksX9_book_5 21 rfl rfl)
theorem dX9_book_142 : decode cX9_book 142 = .ok (.iload_n 2, 1) := dk_28 (dk_at dksX9_book_6 0 rfl rfl)
theorem dX9_book_143 : decode cX9_book 143 = .ok (.aaload, 1) := dk_50 (dk_at dksX9_book_6 1 rfl rfl)
theorem dX9_book_144 : decode cX9_book 144 = .ok (.iconst 0, 1) := dk_3 (dk_at dksX9_book_6 2 rfl rfl)
theorem dX9_book_145 : decode cX9_book 145 = .ok (.iload 4, 2) := dk_21 4 (dk_at dksX9_book_6 3 rfl rfl)
theorem dX9_book_147 : decode cX9_book 147 = .ok (.iastore, 1) := dk_79 (dk_at dksX9_book_6 5 rfl rfl)
theorem dX9_book_148 : decode cX9_book 148 = .ok (.aload_n 0, 1) := dk_42 (dk_at dksX9_book_6 6 rfl rfl)
theorem dX9_book_149 : decode cX9_book 149 = .ok (.getfield 49, 3) := dk_180 0 49 (dk_at dksX9_book_6 7 rfl rfl)
theorem dX9_book_152 : decode cX9_book 152 = .ok (.iload_n 2, 1) := dk_28 (dk_at dksX9_book_6 10 rfl rfl)
theorem dX9_book_153 : decode cX9_book 153 = .ok (.aaload, 1) := dk_50 (dk_at dksX9_book_6 11 rfl rfl)
theorem dX9_book_154 : decode cX9_book 154 = .ok (.iconst 1, 1) := dk_4 (dk_at dksX9_book_6 12 rfl rfl)
theorem dX9_book_155 : decode cX9_book 155 = .ok (.iload 5, 2) := dk_21 5 (dk_at dksX9_book_6 13 rfl rfl)
theorem dX9_book_157 : decode cX9_book 157 = .ok (.iastore, 1) := dk_79 (dk_at dksX9_book_6 15 rfl rfl)
theorem dX9_book_158 : decode cX9_book 158 = .ok (.aload_n 0, 1) := dk_42 (dk_at dksX9_book_6 16 rfl rfl)
theorem dX9_book_159 : decode cX9_book 159 = .ok (.getfield 49, 3) := dk_180 0 49 (dk_at dksX9_book_6 17 rfl rfl)
theorem dX9_book_162 : decode cX9_book 162 = .ok (.iload_n 2, 1) := dk_28 (dk_at dksX9_book_6 20 rfl rfl)
theorem dX9_book_163 : decode cX9_book 163 = .ok (.aaload, 1) := dk_50 (dk_at dksX9_book_6 21 rfl rfl)
theorem dX9_book_164 : decode cX9_book 164 = .ok (.iconst 2, 1) := dk_5 (dk_at dksX9_book_6 22 rfl rfl)
theorem dX9_book_165 : decode cX9_book 165 = .ok (.iload 6, 2) := dk_21 6 (dk_at dksX9_book_7 0 rfl rfl)
theorem dX9_book_167 : decode cX9_book 167 = .ok (.iastore, 1) := dk_79 (dk_at dksX9_book_7 2 rfl rfl)
theorem dX9_book_168 : decode cX9_book 168 = .ok (.iinc 2 1, 3) := dk_132 2 1 (dk_at dksX9_book_7 3 rfl rfl)
theorem dX9_book_171 : decode cX9_book 171 = .ok (.aload_n 0, 1) := dk_42 (dk_at dksX9_book_7 6 rfl rfl)
theorem dX9_book_172 : decode cX9_book 172 = .ok (.invokevirtual 114, 3) := dk_182 0 114 (dk_at dksX9_book_7 7 rfl rfl)
theorem dX9_book_175 : decode cX9_book 175 = .ok (.goto (-129), 3) := dk_167 255 127 (dk_at dksX9_book_7 10 rfl rfl)
theorem dX9_book_178 : decode cX9_book 178 = .ok (.aload_n 0, 1) := dk_42 (dk_at dksX9_book_7 13 rfl rfl)
theorem dX9_book_179 : decode cX9_book 179 = .ok (.getfield 108, 3) := dk_180 0 108 (dk_at dksX9_book_7 14 rfl rfl)
theorem dX9_book_182 : decode cX9_book 182 = .ok (.ifCond .eq 8, 3) := dk_153 0 8 (dk_at dksX9_book_7 17 rfl rfl)
theorem dX9_book_185 : decode cX9_book 185 = .ok (.aload_n 0, 1) := dk_42 (dk_at dksX9_book_7 20 rfl rfl)
theorem dX9_book_186 : decode cX9_book 186 = .ok (.invokevirtual 181, 3) := dk_182 0 181 (dk_at dksX9_book_7 21 rfl rfl)
theorem dX9_book_189 : decode cX9_book 189 = .ok (.ireturn, 1) := dk_172 (dk_at dksX9_book_8 0 rfl rfl)
theorem dX9_book_190 : decode cX9_book 190 = .ok (.aload_n 0, 1) := dk_42 (dk_at dksX9_book_8 1 rfl rfl)
theorem dX9_book_191 : decode cX9_book 191 = .ok (.iconst (-1), 1) := dk_2 (dk_at dksX9_book_8 2 rfl rfl)
theorem dX9_book_192 : decode cX9_book 192 = .ok (.putfield 9, 3) := dk_181 0 9 (dk_at dksX9_book_8 3 rfl rfl)
theorem dX9_book_195 : decode cX9_book 195 = .ok (.aload_n 0, 1) := dk_42 (dk_at dksX9_book_8 6 rfl rfl)
theorem dX9_book_196 : decode cX9_book 196 = .ok (.iload_n 2, 1) := dk_28 (dk_at dksX9_book_8 7 rfl rfl)
theorem dX9_book_197 : decode cX9_book 197 = .ok (.putfield 191, 3) := dk_181 0 191 (dk_at dksX9_book_8 8 rfl rfl)
theorem dX9_book_200 : decode cX9_book 200 = .ok (.aload_n 0, 1) := dk_42 (dk_at dksX9_book_8 11 rfl rfl)
theorem dX9_book_201 : decode cX9_book 201 = .ok (.getfield 49, 3) := dk_180 0 49 (dk_at dksX9_book_8 12 rfl rfl)
theorem dX9_book_204 : decode cX9_book 204 = .ok (.aload_n 0, 1) := dk_42 (dk_at dksX9_book_8 15 rfl rfl)
theorem dX9_book_205 : decode cX9_book 205 = .ok (.getfield 46, 3) := dk_180 0 46 (dk_at dksX9_book_8 16 rfl rfl)
theorem dX9_book_208 : decode cX9_book 208 = .ok (.iload_n 2, 1) := dk_28 (dk_at dksX9_book_8 19 rfl rfl)
theorem dX9_book_209 : decode cX9_book 209 = .ok (.invokestatic 184, 3) := dk_184 0 184 (dk_at dksX9_book_8 20 rfl rfl)
theorem dX9_book_212 : decode cX9_book 212 = .ok (.iload_n 2, 1) := dk_28 (dk_at dksX9_book_8 23 rfl rfl)
theorem dX9_book_213 : decode cX9_book 213 = .ok (.ireturn, 1) := dk_172 (dk_at dksX9_book_9 0 rfl rfl)
def dkwX9_fault_0 : List UInt8 := [42, 3, 181, 0, 92, 42, 180, 0, 9, 172]
abbrev dktX9_fault_0 : List UInt8 := dkwX9_fault_0 ++ []
theorem dksX9_fault_0 : cX9_fault.data.toList.drop 0 = dktX9_fault_0 := by decide +kernel
theorem dX9_fault_0 : decode cX9_fault 0 = .ok (.aload_n 0, 1) := dk_42 (dk_at dksX9_fault_0 0 rfl rfl)
theorem dX9_fault_1 : decode cX9_fault 1 = .ok (.iconst 0, 1) := dk_3 (dk_at dksX9_fault_0 1 rfl rfl)
theorem dX9_fault_2 : decode cX9_fault 2 = .ok (.putfield 92, 3) := dk_181 0 92 (dk_at dksX9_fault_0 2 rfl rfl)
theorem dX9_fault_5 : decode cX9_fault 5 = .ok (.aload_n 0, 1) := dk_42 (dk_at dksX9_fault_0 5 rfl rfl)
theorem dX9_fault_6 : decode cX9_fault 6 = .ok (.getfield 9, 3) := dk_180 0 9 (dk_at dksX9_fault_0 6 rfl rfl)
theorem dX9_fault_9 : decode cX9_fault 9 = .ok (.ireturn, 1) := dk_172 (dk_at dksX9_fault_0 9 rfl rfl)
def dkwX9_work_7 : List UInt8 := [180, 0, 247, 182, 1, 48, 42, 180, 1, 55, 172]
abbrev dktX9_work_7 : List UInt8 := dkwX9_work_7 ++ []
def dkwX9_work_6 : List UInt8 := [4, 96, 181, 0, 194, 42, 3, 181, 1, 45, 42, 3, 181, 1, 55, 42, 3, 181, 0, 197, 42, 3, 42]
abbrev dktX9_work_6 : List UInt8 := dkwX9_work_6 ++ dktX9_work_7
def dkwX9_work_5 : List UInt8 := [181, 0, 9, 42, 180, 0, 61, 42, 180, 0, 70, 42, 180, 0, 194, 50, 184, 1, 58, 42, 89, 180, 0, 194]
abbrev dktX9_work_5 : List UInt8 := dkwX9_work_5 ++ dktX9_work_6
def dkwX9_work_4 : List UInt8 := [182, 0, 250, 42, 182, 0, 114, 167, 255, 230, 42, 180, 0, 108, 153, 0, 8, 42, 182, 0, 181, 172, 42, 2]
abbrev dktX9_work_4 : List UInt8 := dkwX9_work_4 ++ dktX9_work_5
def dkwX9_work_3 : List UInt8 := [181, 0, 247, 42, 180, 0, 108, 154, 0, 25, 42, 180, 0, 101, 42, 180, 0, 98, 162, 0, 14, 42]
abbrev dktX9_work_3 : List UInt8 := dkwX9_work_3 ++ dktX9_work_4
def dkwX9_work_2 : List UInt8 := [160, 0, 16, 42, 3, 181, 0, 95, 42, 2, 181, 0, 9, 16, 236, 172, 42, 27, 182, 0, 175, 42, 3]
abbrev dktX9_work_2 : List UInt8 := dkwX9_work_2 ++ dktX9_work_3
def dkwX9_work_1 : List UInt8 := [164, 0, 7, 4, 167, 0, 4, 3, 4, 4, 182, 0, 171, 153, 0, 5, 3, 172, 42, 180, 0, 194, 16, 16]
abbrev dktX9_work_1 : List UInt8 := dkwX9_work_1 ++ dktX9_work_2
def dkwX9_work_0 : List UInt8 := [42, 3, 181, 0, 92, 42, 27, 3, 42, 180, 0, 95, 184, 0, 126, 153, 0, 10, 27, 17, 0, 150]
abbrev dktX9_work_0 : List UInt8 := dkwX9_work_0 ++ dktX9_work_1
theorem dksX9_work_0 : cX9_work.data.toList.drop 0 = dktX9_work_0 := by decide +kernel
theorem dksX9_work_1 : cX9_work.data.toList.drop 22 = dktX9_work_1 := dk_seg dksX9_work_0 22 rfl rfl
theorem dksX9_work_2 : cX9_work.data.toList.drop 46 = dktX9_work_2 := dk_seg dksX9_work_1 24 rfl rfl
theorem dksX9_work_3 : cX9_work.data.toList.drop 69 = dktX9_work_3 := dk_seg dksX9_work_2 23 rfl rfl
theorem dksX9_work_4 : cX9_work.data.toList.drop 91 = dktX9_work_4 := dk_seg dksX9_work_3 22 rfl rfl
theorem dksX9_work_5 : cX9_work.data.toList.drop 115 = dktX9_work_5 := dk_seg dksX9_work_4 24 rfl rfl
theorem dksX9_work_6 : cX9_work.data.toList.drop 139 = dktX9_work_6 := dk_seg dksX9_work_5 24 rfl rfl
theorem dksX9_work_7 : cX9_work.data.toList.drop 162 = dktX9_work_7 := dk_seg dksX9_work_6 23 rfl rfl
theorem dX9_work_0 : decode cX9_work 0 = .ok (.aload_n 0, 1) := dk_42 (dk_at dksX9_work_0 0 rfl rfl)
theorem dX9_work_1 : decode cX9_work 1 = .ok (.iconst 0, 1) := dk_3 (dk_at dksX9_work_0 1 rfl rfl)
theorem dX9_work_2 : decode cX9_work 2 = .ok (.putfield 92, 3) := dk_181 0 92 (dk_at dksX9_work_0 2 rfl rfl)
theorem dX9_work_5 : decode cX9_work 5 = .ok (.aload_n 0, 1) := dk_42 (dk_at dksX9_work_0 5 rfl rfl)
theorem dX9_work_6 : decode cX9_work 6 = .ok (.iload_n 1, 1) := dk_27 (dk_at dksX9_work_0 6 rfl rfl)
theorem dX9_work_7 : decode cX9_work 7 = .ok (.iconst 0, 1) := dk_3 (dk_at dksX9_work_0 7 rfl rfl)
theorem dX9_work_8 : decode cX9_work 8 = .ok (.aload_n 0, 1) := dk_42 (dk_at dksX9_work_0 8 rfl rfl)
theorem dX9_work_9 : decode cX9_work 9 = .ok (.getfield 95, 3) := dk_180 0 95 (dk_at dksX9_work_0 9 rfl rfl)
theorem dX9_work_12 : decode cX9_work 12 = .ok (.invokestatic 126, 3) := dk_184 0 126 (dk_at dksX9_work_0 12 rfl rfl)
theorem dX9_work_15 : decode cX9_work 15 = .ok (.ifCond .eq 10, 3) := dk_153 0 10 (dk_at dksX9_work_0 15 rfl rfl)
theorem dX9_work_18 : decode cX9_work 18 = .ok (.iload_n 1, 1) := dk_27 (dk_at dksX9_work_0 18 rfl rfl)
theorem dX9_work_19 : decode cX9_work 19 = .ok (.sipush 150, 3) := dk_17 0 150 (dk_at dksX9_work_0 19 rfl rfl)
theorem dX9_work_22 : decode cX9_work 22 = .ok (.if_icmp .le 7, 3) := dk_164 0 7 (dk_at dksX9_work_1 0 rfl rfl)
theorem dX9_work_25 : decode cX9_work 25 = .ok (.iconst 1, 1) := dk_4 (dk_at dksX9_work_1 3 rfl rfl)
theorem dX9_work_26 : decode cX9_work 26 = .ok (.goto 4, 3) := dk_167 0 4 (dk_at dksX9_work_1 4 rfl rfl)
theorem dX9_work_29 : decode cX9_work 29 = .ok (.iconst 0, 1) := dk_3 (dk_at dksX9_work_1 7 rfl rfl)
theorem dX9_work_30 : decode cX9_work 30 = .ok (.iconst 1, 1) := dk_4 (dk_at dksX9_work_1 8 rfl rfl)
theorem dX9_work_31 : decode cX9_work 31 = .ok (.iconst 1, 1) := dk_4 (dk_at dksX9_work_1 9 rfl rfl)
theorem dX9_work_32 : decode cX9_work 32 = .ok (.invokevirtual 171, 3) := dk_182 0 171 (dk_at dksX9_work_1 10 rfl rfl)
theorem dX9_work_35 : decode cX9_work 35 = .ok (.ifCond .eq 5, 3) := dk_153 0 5 (dk_at dksX9_work_1 13 rfl rfl)
theorem dX9_work_38 : decode cX9_work 38 = .ok (.iconst 0, 1) := dk_3 (dk_at dksX9_work_1 16 rfl rfl)
theorem dX9_work_39 : decode cX9_work 39 = .ok (.ireturn, 1) := dk_172 (dk_at dksX9_work_1 17 rfl rfl)
theorem dX9_work_40 : decode cX9_work 40 = .ok (.aload_n 0, 1) := dk_42 (dk_at dksX9_work_1 18 rfl rfl)
theorem dX9_work_41 : decode cX9_work 41 = .ok (.getfield 194, 3) := dk_180 0 194 (dk_at dksX9_work_1 19 rfl rfl)
theorem dX9_work_44 : decode cX9_work 44 = .ok (.bipush 16, 2) := dk_16 16 (dk_at dksX9_work_1 22 rfl rfl)
theorem dX9_work_46 : decode cX9_work 46 = .ok (.if_icmp .ne 16, 3) := dk_160 0 16 (dk_at dksX9_work_2 0 rfl rfl)
theorem dX9_work_49 : decode cX9_work 49 = .ok (.aload_n 0, 1) := dk_42 (dk_at dksX9_work_2 3 rfl rfl)
theorem dX9_work_50 : decode cX9_work 50 = .ok (.iconst 0, 1) := dk_3 (dk_at dksX9_work_2 4 rfl rfl)
theorem dX9_work_51 : decode cX9_work 51 = .ok (.putfield 95, 3) := dk_181 0 95 (dk_at dksX9_work_2 5 rfl rfl)
theorem dX9_work_54 : decode cX9_work 54 = .ok (.aload_n 0, 1) := dk_42 (dk_at dksX9_work_2 8 rfl rfl)
theorem dX9_work_55 : decode cX9_work 55 = .ok (.iconst (-1), 1) := dk_2 (dk_at dksX9_work_2 9 rfl rfl)
theorem dX9_work_56 : decode cX9_work 56 = .ok (.putfield 9, 3) := dk_181 0 9 (dk_at dksX9_work_2 10 rfl rfl)
theorem dX9_work_59 : decode cX9_work 59 = .ok (.bipush (-20), 2) := dk_16 236 (dk_at dksX9_work_2 13 rfl rfl)
theorem dX9_work_61 : decode cX9_work 61 = .ok (.ireturn, 1) := dk_172 (dk_at dksX9_work_2 15 rfl rfl)
theorem dX9_work_62 : decode cX9_work 62 = .ok (.aload_n 0, 1) := dk_42 (dk_at dksX9_work_2 16 rfl rfl)
theorem dX9_work_63 : decode cX9_work 63 = .ok (.iload_n 1, 1) := dk_27 (dk_at dksX9_work_2 17 rfl rfl)
theorem dX9_work_64 : decode cX9_work 64 = .ok (.invokevirtual 175, 3) := dk_182 0 175 (dk_at dksX9_work_2 18 rfl rfl)
theorem dX9_work_67 : decode cX9_work 67 = .ok (.aload_n 0, 1) := dk_42 (dk_at dksX9_work_2 21 rfl rfl)
theorem dX9_work_68 : decode cX9_work 68 = .ok (.iconst 0, 1) := dk_3 (dk_at dksX9_work_2 22 rfl rfl)
theorem dX9_work_69 : decode cX9_work 69 = .ok (.putfield 247, 3) := dk_181 0 247 (dk_at dksX9_work_3 0 rfl rfl)
theorem dX9_work_72 : decode cX9_work 72 = .ok (.aload_n 0, 1) := dk_42 (dk_at dksX9_work_3 3 rfl rfl)
theorem dX9_work_73 : decode cX9_work 73 = .ok (.getfield 108, 3) := dk_180 0 108 (dk_at dksX9_work_3 4 rfl rfl)
theorem dX9_work_76 : decode cX9_work 76 = .ok (.ifCond .ne 25, 3) := dk_154 0 25 (dk_at dksX9_work_3 7 rfl rfl)
theorem dX9_work_79 : decode cX9_work 79 = .ok (.aload_n 0, 1) := dk_42 (dk_at dksX9_work_3 10 rfl rfl)
theorem dX9_work_80 : decode cX9_work 80 = .ok (.getfield 101, 3) := dk_180 0 101 (dk_at dksX9_work_3 11 rfl rfl)
theorem dX9_work_83 : decode cX9_work 83 = .ok (.aload_n 0, 1) := dk_42 (dk_at dksX9_work_3 14 rfl rfl)
theorem dX9_work_84 : decode cX9_work 84 = .ok (.getfield 98, 3) := dk_180 0 98 (dk_at dksX9_work_3 15 rfl rfl)
theorem dX9_work_87 : decode cX9_work 87 = .ok (.if_icmp .ge 14, 3) := dk_162 0 14 (dk_at dksX9_work_3 18 rfl rfl)
theorem dX9_work_90 : decode cX9_work 90 = .ok (.aload_n 0, 1) := dk_42 (dk_at dksX9_work_3 21 rfl rfl)
theorem dX9_work_91 : decode cX9_work 91 = .ok (.invokevirtual 250, 3) := dk_182 0 250 (dk_at dksX9_work_4 0 rfl rfl)
theorem dX9_work_94 : decode cX9_work 94 = .ok (.aload_n 0, 1) := dk_42 (dk_at dksX9_work_4 3 rfl rfl)
theorem dX9_work_95 : decode cX9_work 95 = .ok (.invokevirtual 114, 3) := dk_182 0 114 (dk_at dksX9_work_4 4 rfl rfl)
theorem dX9_work_98 : decode cX9_work 98 = .ok (.goto (-26), 3) := dk_167 255 230 (dk_at dksX9_work_4 7 rfl rfl)
theorem dX9_work_101 : decode cX9_work 101 = .ok (.aload_n 0, 1) := dk_42 (dk_at dksX9_work_4 10 rfl rfl)
theorem dX9_work_102 : decode cX9_work 102 = .ok (.getfield 108, 3) := dk_180 0 108 (dk_at dksX9_work_4 11 rfl rfl)
theorem dX9_work_105 : decode cX9_work 105 = .ok (.ifCond .eq 8, 3) := dk_153 0 8 (dk_at dksX9_work_4 14 rfl rfl)
theorem dX9_work_108 : decode cX9_work 108 = .ok (.aload_n 0, 1) := dk_42 (dk_at dksX9_work_4 17 rfl rfl)
theorem dX9_work_109 : decode cX9_work 109 = .ok (.invokevirtual 181, 3) := dk_182 0 181 (dk_at dksX9_work_4 18 rfl rfl)
theorem dX9_work_112 : decode cX9_work 112 = .ok (.ireturn, 1) := dk_172 (dk_at dksX9_work_4 21 rfl rfl)
theorem dX9_work_113 : decode cX9_work 113 = .ok (.aload_n 0, 1) := dk_42 (dk_at dksX9_work_4 22 rfl rfl)
theorem dX9_work_114 : decode cX9_work 114 = .ok (.iconst (-1), 1) := dk_2 (dk_at dksX9_work_4 23 rfl rfl)
theorem dX9_work_115 : decode cX9_work 115 = .ok (.putfield 9, 3) := dk_181 0 9 (dk_at dksX9_work_5 0 rfl rfl)
theorem dX9_work_118 : decode cX9_work 118 = .ok (.aload_n 0, 1) := dk_42 (dk_at dksX9_work_5 3 rfl rfl)
theorem dX9_work_119 : decode cX9_work 119 = .ok (.getfield 61, 3) := dk_180 0 61 (dk_at dksX9_work_5 4 rfl rfl)
theorem dX9_work_122 : decode cX9_work 122 = .ok (.aload_n 0, 1) := dk_42 (dk_at dksX9_work_5 7 rfl rfl)
theorem dX9_work_123 : decode cX9_work 123 = .ok (.getfield 70, 3) := dk_180 0 70 (dk_at dksX9_work_5 8 rfl rfl)
theorem dX9_work_126 : decode cX9_work 126 = .ok (.aload_n 0, 1) := dk_42 (dk_at dksX9_work_5 11 rfl rfl)
theorem dX9_work_127 : decode cX9_work 127 = .ok (.getfield 194, 3) := dk_180 0 194 (dk_at dksX9_work_5 12 rfl rfl)
theorem dX9_work_130 : decode cX9_work 130 = .ok (.aaload, 1) := dk_50 (dk_at dksX9_work_5 15 rfl rfl)
theorem dX9_work_131 : decode cX9_work 131 = .ok (.invokestatic 314, 3) := dk_184 1 58 (dk_at dksX9_work_5 16 rfl rfl)
theorem dX9_work_134 : decode cX9_work 134 = .ok (.aload_n 0, 1) := dk_42 (dk_at dksX9_work_5 19 rfl rfl)
theorem dX9_work_135 : decode cX9_work 135 = .ok (.dup, 1) := dk_89 (dk_at dksX9_work_5 20 rfl rfl)
theorem dX9_work_136 : decode cX9_work 136 = .ok (.getfield 194, 3) := dk_180 0 194 (dk_at dksX9_work_5 21 rfl rfl)
theorem dX9_work_139 : decode cX9_work 139 = .ok (.iconst 1, 1) := dk_4 (dk_at dksX9_work_6 0 rfl rfl)
theorem dX9_work_140 : decode cX9_work 140 = .ok (.iadd, 1) := dk_96 (dk_at dksX9_work_6 1 rfl rfl)
theorem dX9_work_141 : decode cX9_work 141 = .ok (.putfield 194, 3) := dk_181 0 194 (dk_at dksX9_work_6 2 rfl rfl)
theorem dX9_work_144 : decode cX9_work 144 = .ok (.aload_n 0, 1) := dk_42 (dk_at dksX9_work_6 5 rfl rfl)
theorem dX9_work_145 : decode cX9_work 145 = .ok (.iconst 0, 1) := dk_3 (dk_at dksX9_work_6 6 rfl rfl)
theorem dX9_work_146 : decode cX9_work 146 = .ok (.putfield 301, 3) := dk_181 1 45 (dk_at dksX9_work_6 7 rfl rfl)
theorem dX9_work_149 : decode cX9_work 149 = .ok (.aload_n 0, 1) := dk_42 (dk_at dksX9_work_6 10 rfl rfl)
theorem dX9_work_150 : decode cX9_work 150 = .ok (.iconst 0, 1) := dk_3 (dk_at dksX9_work_6 11 rfl rfl)
theorem dX9_work_151 : decode cX9_work 151 = .ok (.putfield 311, 3) := dk_181 1 55 (dk_at dksX9_work_6 12 rfl rfl)
theorem dX9_work_154 : decode cX9_work 154 = .ok (.aload_n 0, 1) := dk_42 (dk_at dksX9_work_6 15 rfl rfl)
theorem dX9_work_155 : decode cX9_work 155 = .ok (.iconst 0, 1) := dk_3 (dk_at dksX9_work_6 16 rfl rfl)
theorem dX9_work_156 : decode cX9_work 156 = .ok (.putfield 197, 3) := dk_181 0 197 (dk_at dksX9_work_6 17 rfl rfl)
theorem dX9_work_159 : decode cX9_work 159 = .ok (.aload_n 0, 1) := dk_42 (dk_at dksX9_work_6 20 rfl rfl)
theorem dX9_work_160 : decode cX9_work 160 = .ok (.iconst 0, 1) := dk_3 (dk_at dksX9_work_6 21 rfl rfl)
theorem dX9_work_161 : decode cX9_work 161 = .ok (.aload_n 0, 1) := dk_42 (dk_at dksX9_work_6 22 rfl rfl)
theorem dX9_work_162 : decode cX9_work 162 = .ok (.getfield 247, 3) := dk_180 0 247 (dk_at dksX9_work_7 0 rfl rfl)
theorem dX9_work_165 : decode cX9_work 165 = .ok (.invokevirtual 304, 3) := dk_182 1 48 (dk_at dksX9_work_7 3 rfl rfl)
theorem dX9_work_168 : decode cX9_work 168 = .ok (.aload_n 0, 1) := dk_42 (dk_at dksX9_work_7 6 rfl rfl)
theorem dX9_work_169 : decode cX9_work 169 = .ok (.getfield 311, 3) := dk_180 1 55 (dk_at dksX9_work_7 7 rfl rfl)
theorem dX9_work_172 : decode cX9_work 172 = .ok (.ireturn, 1) := dk_172 (dk_at dksX9_work_7 10 rfl rfl)
def dkwX9_readsStep_10 : List UInt8 := [16, 59, 182, 0, 167, 177]
abbrev dktX9_readsStep_10 : List UInt8 := dkwX9_readsStep_10 ++ []
def dkwX9_readsStep_9 : List UInt8 := [16, 93, 182, 0, 167, 42, 89, 180, 0, 151, 4, 100, 181, 0, 151, 44, 8, 42, 180, 0, 247, 79, 42]
abbrev dktX9_readsStep_9 : List UInt8 := dkwX9_readsStep_9 ++ dktX9_readsStep_10
def dkwX9_readsStep_8 : List UInt8 := [180, 0, 101, 182, 0, 104, 16, 93, 159, 0, 14, 42, 182, 0, 250, 42, 182, 0, 114, 167, 255, 228, 42]
abbrev dktX9_readsStep_8 : List UInt8 := dkwX9_readsStep_8 ++ dktX9_readsStep_9
def dkwX9_readsStep_7 : List UInt8 := [182, 0, 154, 79, 42, 16, 91, 182, 0, 167, 42, 182, 0, 114, 42, 180, 0, 108, 154, 0, 27, 42, 42]
abbrev dktX9_readsStep_7 : List UInt8 := dkwX9_readsStep_7 ++ dktX9_readsStep_8
def dkwX9_readsStep_6 : List UInt8 := [160, 0, 13, 44, 4, 42, 3, 16, 9, 182, 0, 154, 79, 27, 8, 160, 0, 70, 44, 4, 42, 3, 16, 60]
abbrev dktX9_readsStep_6 : List UInt8 := dkwX9_readsStep_6 ++ dktX9_readsStep_7
def dkwX9_readsStep_5 : List UInt8 := [4, 46, 42, 180, 0, 23, 3, 46, 182, 0, 164, 79, 44, 7, 42, 4, 16, 9, 182, 0, 154, 79, 27, 4]
abbrev dktX9_readsStep_5 : List UInt8 := dkwX9_readsStep_5 ++ dktX9_readsStep_6
def dkwX9_readsStep_4 : List UInt8 := [4, 27, 154, 0, 8, 16, 9, 167, 0, 5, 16, 30, 182, 0, 154, 79, 27, 154, 0, 29, 44, 6, 42, 44]
abbrev dktX9_readsStep_4 : List UInt8 := dkwX9_readsStep_4 ++ dktX9_readsStep_5
def dkwX9_readsStep_3 : List UInt8 := [27, 5, 160, 0, 38, 44, 4, 42, 3, 42, 180, 0, 23, 3, 46, 4, 100, 182, 0, 154, 79, 44, 5, 42]
abbrev dktX9_readsStep_3 : List UInt8 := dkwX9_readsStep_3 ++ dktX9_readsStep_4
def dkwX9_readsStep_2 : List UInt8 := [42, 180, 0, 247, 50, 77, 42, 89, 180, 0, 247, 4, 96, 181, 0, 247, 44, 3, 27, 79, 27, 153, 0, 8]
abbrev dktX9_readsStep_2 : List UInt8 := dkwX9_readsStep_2 ++ dktX9_readsStep_3
def dkwX9_readsStep_1 : List UInt8 := [42, 182, 0, 225, 154, 0, 4, 177, 42, 180, 0, 108, 153, 0, 4, 177, 42, 182, 0, 145, 42, 180, 0, 58]
abbrev dktX9_readsStep_1 : List UInt8 := dkwX9_readsStep_1 ++ dktX9_readsStep_2
def dkwX9_readsStep_0 : List UInt8 := [42, 182, 0, 244, 60, 27, 2, 160, 0, 12, 42, 4, 42, 180, 0, 101, 182, 0, 121, 27, 8, 160, 0, 11]
abbrev dktX9_readsStep_0 : List UInt8 := dkwX9_readsStep_0 ++ dktX9_readsStep_1
theorem dksX9_readsStep_0 : cX9_readsStep.data.toList.drop 0 = dktX9_readsStep_0 := by decide +kernel
theorem dksX9_readsStep_1 : cX9_readsStep.data.toList.drop 24 = dktX9_readsStep_1 := dk_seg dksX9_readsStep_0 24 rfl rfl
theorem dksX9_readsStep_2 : cX9_readsStep.data.toList.drop 48 = dktX9_readsStep_2 := dk_seg dksX9_readsStep_1 24 rfl rfl
theorem dksX9_readsStep_3 : cX9_readsStep.data.toList.drop 72 = dktX9_readsStep_3 := dk_seg dksX9_readsStep_2 24 rfl rfl
theorem dksX9_readsStep_4 : cX9_readsStep.data.toList.drop 96 = dktX9_readsStep_4 := dk_seg dksX9_readsStep_3 24 rfl rfl
theorem dksX9_readsStep_5 : cX9_readsStep.data.toList.drop 120 = dktX9_readsStep_5 := dk_seg dksX9_readsStep_4 24 rfl rfl
theorem dksX9_readsStep_6 : cX9_readsStep.data.toList.drop 144 = dktX9_readsStep_6 := dk_seg dksX9_readsStep_5 24 rfl rfl
theorem dksX9_readsStep_7 : cX9_readsStep.data.toList.drop 168 = dktX9_readsStep_7 := dk_seg dksX9_readsStep_6 24 rfl rfl
theorem dksX9_readsStep_8 : cX9_readsStep.data.toList.drop 191 = dktX9_readsStep_8 := dk_seg dksX9_readsStep_7 23 rfl rfl
theorem dksX9_readsStep_9 : cX9_readsStep.data.toList.drop 214 = dktX9_readsStep_9 := dk_seg dksX9_readsStep_8 23 rfl rfl
theorem dksX9_readsStep_10 : cX9_readsStep.data.toList.drop 237 = dktX9_readsStep_10 := dk_seg dksX9_readsStep_9 23 rfl rfl
theorem dX9_readsStep_0 : decode cX9_readsStep 0 = .ok (.aload_n 0, 1) := dk_42 (dk_at dksX9_readsStep_0 0 rfl rfl)
theorem dX9_readsStep_1 : decode cX9_readsStep 1 = .ok (.invokevirtual 244, 3) := dk_182 0 244 (dk_at dksX9_readsStep_0 1 rfl rfl)
theorem dX9_readsStep_4 : decode cX9_readsStep 4 = .ok (.istore_n 1, 1) := dk_60 (dk_at dksX9_readsStep_0 4 rfl rfl)
theorem dX9_readsStep_5 : decode cX9_readsStep 5 = .ok (.iload_n 1, 1) := dk_27 (dk_at dksX9_readsStep_0 5 rfl rfl)
theorem dX9_readsStep_6 : decode cX9_readsStep 6 = .ok (.iconst (-1), 1) := dk_2 (dk_at dksX9_readsStep_0 6 rfl rfl)
theorem dX9_readsStep_7 : decode cX9_readsStep 7 = .ok (.if_icmp .ne 12, 3) := dk_160 0 12 (dk_at dksX9_readsStep_0 7 rfl rfl)
theorem dX9_readsStep_10 : decode cX9_readsStep 10 = .ok (.aload_n 0, 1) := dk_42 (dk_at dksX9_readsStep_0 10 rfl rfl)
theorem dX9_readsStep_11 : decode cX9_readsStep 11 = .ok (.iconst 1, 1) := dk_4 (dk_at dksX9_readsStep_0 11 rfl rfl)
theorem dX9_readsStep_12 : decode cX9_readsStep 12 = .ok (.aload_n 0, 1) := dk_42 (dk_at dksX9_readsStep_0 12 rfl rfl)
theorem dX9_readsStep_13 : decode cX9_readsStep 13 = .ok (.getfield 101, 3) := dk_180 0 101 (dk_at dksX9_readsStep_0 13 rfl rfl)
theorem dX9_readsStep_16 : decode cX9_readsStep 16 = .ok (.invokevirtual 121, 3) := dk_182 0 121 (dk_at dksX9_readsStep_0 16 rfl rfl)
theorem dX9_readsStep_19 : decode cX9_readsStep 19 = .ok (.iload_n 1, 1) := dk_27 (dk_at dksX9_readsStep_0 19 rfl rfl)
theorem dX9_readsStep_20 : decode cX9_readsStep 20 = .ok (.iconst 5, 1) := dk_8 (dk_at dksX9_readsStep_0 20 rfl rfl)
theorem dX9_readsStep_21 : decode cX9_readsStep 21 = .ok (.if_icmp .ne 11, 3) := dk_160 0 11 (dk_at dksX9_readsStep_0 21 rfl rfl)
theorem dX9_readsStep_24 : decode cX9_readsStep 24 = .ok (.aload_n 0, 1) := dk_42 (dk_at dksX9_readsStep_1 0 rfl rfl)
theorem dX9_readsStep_25 : decode cX9_readsStep 25 = .ok (.invokevirtual 225, 3) := dk_182 0 225 (dk_at dksX9_readsStep_1 1 rfl rfl)
theorem dX9_readsStep_28 : decode cX9_readsStep 28 = .ok (.ifCond .ne 4, 3) := dk_154 0 4 (dk_at dksX9_readsStep_1 4 rfl rfl)
theorem dX9_readsStep_31 : decode cX9_readsStep 31 = .ok (.return_, 1) := dk_177 (dk_at dksX9_readsStep_1 7 rfl rfl)
theorem dX9_readsStep_32 : decode cX9_readsStep 32 = .ok (.aload_n 0, 1) := dk_42 (dk_at dksX9_readsStep_1 8 rfl rfl)
theorem dX9_readsStep_33 : decode cX9_readsStep 33 = .ok (.getfield 108, 3) := dk_180 0 108 (dk_at dksX9_readsStep_1 9 rfl rfl)
theorem dX9_readsStep_36 : decode cX9_readsStep 36 = .ok (.ifCond .eq 4, 3) := dk_153 0 4 (dk_at dksX9_readsStep_1 12 rfl rfl)
theorem dX9_readsStep_39 : decode cX9_readsStep 39 = .ok (.return_, 1) := dk_177 (dk_at dksX9_readsStep_1 15 rfl rfl)
theorem dX9_readsStep_40 : decode cX9_readsStep 40 = .ok (.aload_n 0, 1) := dk_42 (dk_at dksX9_readsStep_1 16 rfl rfl)
theorem dX9_readsStep_41 : decode cX9_readsStep 41 = .ok (.invokevirtual 145, 3) := dk_182 0 145 (dk_at dksX9_readsStep_1 17 rfl rfl)
theorem dX9_readsStep_44 : decode cX9_readsStep 44 = .ok (.aload_n 0, 1) := dk_42 (dk_at dksX9_readsStep_1 20 rfl rfl)
theorem dX9_readsStep_45 : decode cX9_readsStep 45 = .ok (.getfield 58, 3) := dk_180 0 58 (dk_at dksX9_readsStep_1 21 rfl rfl)
theorem dX9_readsStep_48 : decode cX9_readsStep 48 = .ok (.aload_n 0, 1) := dk_42 (dk_at dksX9_readsStep_2 0 rfl rfl)
theorem dX9_readsStep_49 : decode cX9_readsStep 49 = .ok (.getfield 247, 3) := dk_180 0 247 (dk_at dksX9_readsStep_2 1 rfl rfl)
theorem dX9_readsStep_52 : decode cX9_readsStep 52 = .ok (.aaload, 1) := dk_50 (dk_at dksX9_readsStep_2 4 rfl rfl)
theorem dX9_readsStep_53 : decode cX9_readsStep 53 = .ok (.astore_n 2, 1) := dk_77 (dk_at dksX9_readsStep_2 5 rfl rfl)
theorem dX9_readsStep_54 : decode cX9_readsStep 54 = .ok (.aload_n 0, 1) := dk_42 (dk_at dksX9_readsStep_2 6 rfl rfl)
theorem dX9_readsStep_55 : decode cX9_readsStep 55 = .ok (.dup, 1) := dk_89 (dk_at dksX9_readsStep_2 7 rfl rfl)
theorem dX9_readsStep_56 : decode cX9_readsStep 56 = .ok (.getfield 247, 3) := dk_180 0 247 (dk_at dksX9_readsStep_2 8 rfl rfl)
theorem dX9_readsStep_59 : decode cX9_readsStep 59 = .ok (.iconst 1, 1) := dk_4 (dk_at dksX9_readsStep_2 11 rfl rfl)
theorem dX9_readsStep_60 : decode cX9_readsStep 60 = .ok (.iadd, 1) := dk_96 (dk_at dksX9_readsStep_2 12 rfl rfl)
theorem dX9_readsStep_61 : decode cX9_readsStep 61 = .ok (.putfield 247, 3) := dk_181 0 247 (dk_at dksX9_readsStep_2 13 rfl rfl)
theorem dX9_readsStep_64 : decode cX9_readsStep 64 = .ok (.aload_n 2, 1) := dk_44 (dk_at dksX9_readsStep_2 16 rfl rfl)
theorem dX9_readsStep_65 : decode cX9_readsStep 65 = .ok (.iconst 0, 1) := dk_3 (dk_at dksX9_readsStep_2 17 rfl rfl)
theorem dX9_readsStep_66 : decode cX9_readsStep 66 = .ok (.iload_n 1, 1) := dk_27 (dk_at dksX9_readsStep_2 18 rfl rfl)
theorem dX9_readsStep_67 : decode cX9_readsStep 67 = .ok (.iastore, 1) := dk_79 (dk_at dksX9_readsStep_2 19 rfl rfl)
theorem dX9_readsStep_68 : decode cX9_readsStep 68 = .ok (.iload_n 1, 1) := dk_27 (dk_at dksX9_readsStep_2 20 rfl rfl)
theorem dX9_readsStep_69 : decode cX9_readsStep 69 = .ok (.ifCond .eq 8, 3) := dk_153 0 8 (dk_at dksX9_readsStep_2 21 rfl rfl)
theorem dX9_readsStep_72 : decode cX9_readsStep 72 = .ok (.iload_n 1, 1) := dk_27 (dk_at dksX9_readsStep_3 0 rfl rfl)
theorem dX9_readsStep_73 : decode cX9_readsStep 73 = .ok (.iconst 2, 1) := dk_5 (dk_at dksX9_readsStep_3 1 rfl rfl)
theorem dX9_readsStep_74 : decode cX9_readsStep 74 = .ok (.if_icmp .ne 38, 3) := dk_160 0 38 (dk_at dksX9_readsStep_3 2 rfl rfl)
theorem dX9_readsStep_77 : decode cX9_readsStep 77 = .ok (.aload_n 2, 1) := dk_44 (dk_at dksX9_readsStep_3 5 rfl rfl)
theorem dX9_readsStep_78 : decode cX9_readsStep 78 = .ok (.iconst 1, 1) := dk_4 (dk_at dksX9_readsStep_3 6 rfl rfl)
theorem dX9_readsStep_79 : decode cX9_readsStep 79 = .ok (.aload_n 0, 1) := dk_42 (dk_at dksX9_readsStep_3 7 rfl rfl)
theorem dX9_readsStep_80 : decode cX9_readsStep 80 = .ok (.iconst 0, 1) := dk_3 (dk_at dksX9_readsStep_3 8 rfl rfl)
theorem dX9_readsStep_81 : decode cX9_readsStep 81 = .ok (.aload_n 0, 1) := dk_42 (dk_at dksX9_readsStep_3 9 rfl rfl)
theorem dX9_readsStep_82 : decode cX9_readsStep 82 = .ok (.getfield 23, 3) := dk_180 0 23 (dk_at dksX9_readsStep_3 10 rfl rfl)
theorem dX9_readsStep_85 : decode cX9_readsStep 85 = .ok (.iconst 0, 1) := dk_3 (dk_at dksX9_readsStep_3 13 rfl rfl)
theorem dX9_readsStep_86 : decode cX9_readsStep 86 = .ok (.iaload, 1) := dk_46 (dk_at dksX9_readsStep_3 14 rfl rfl)
theorem dX9_readsStep_87 : decode cX9_readsStep 87 = .ok (.iconst 1, 1) := dk_4 (dk_at dksX9_readsStep_3 15 rfl rfl)
theorem dX9_readsStep_88 : decode cX9_readsStep 88 = .ok (.isub, 1) := dk_100 (dk_at dksX9_readsStep_3 16 rfl rfl)
theorem dX9_readsStep_89 : decode cX9_readsStep 89 = .ok (.invokevirtual 154, 3) := dk_182 0 154 (dk_at dksX9_readsStep_3 17 rfl rfl)
theorem dX9_readsStep_92 : decode cX9_readsStep 92 = .ok (.iastore, 1) := dk_79 (dk_at dksX9_readsStep_3 20 rfl rfl)
theorem dX9_readsStep_93 : decode cX9_readsStep 93 = .ok (.aload_n 2, 1) := dk_44 (dk_at dksX9_readsStep_3 21 rfl rfl)
theorem dX9_readsStep_94 : decode cX9_readsStep 94 = .ok (.iconst 2, 1) := dk_5 (dk_at dksX9_readsStep_3 22 rfl rfl)
theorem dX9_readsStep_95 : decode cX9_readsStep 95 = .ok (.aload_n 0, 1) := dk_42 (dk_at dksX9_readsStep_3 23 rfl rfl)
theorem dX9_readsStep_96 : decode cX9_readsStep 96 = .ok (.iconst 1, 1) := dk_4 (dk_at dksX9_readsStep_4 0 rfl rfl)
theorem dX9_readsStep_97 : decode cX9_readsStep 97 = .ok (.iload_n 1, 1) := dk_27 (dk_at dksX9_readsStep_4 1 rfl rfl)
theorem dX9_readsStep_98 : decode cX9_readsStep 98 = .ok (.ifCond .ne 8, 3) := dk_154 0 8 (dk_at dksX9_readsStep_4 2 rfl rfl)
theorem dX9_readsStep_101 : decode cX9_readsStep 101 = .ok (.bipush 9, 2) := dk_16 9 (dk_at dksX9_readsStep_4 5 rfl rfl)
theorem dX9_readsStep_103 : decode cX9_readsStep 103 = .ok (.goto 5, 3) := dk_167 0 5 (dk_at dksX9_readsStep_4 7 rfl rfl)
theorem dX9_readsStep_106 : decode cX9_readsStep 106 = .ok (.bipush 30, 2) := dk_16 30 (dk_at dksX9_readsStep_4 10 rfl rfl)
theorem dX9_readsStep_108 : decode cX9_readsStep 108 = .ok (.invokevirtual 154, 3) := dk_182 0 154 (dk_at dksX9_readsStep_4 12 rfl rfl)
theorem dX9_readsStep_111 : decode cX9_readsStep 111 = .ok (.iastore, 1) := dk_79 (dk_at dksX9_readsStep_4 15 rfl rfl)
theorem dX9_readsStep_112 : decode cX9_readsStep 112 = .ok (.iload_n 1, 1) := dk_27 (dk_at dksX9_readsStep_4 16 rfl rfl)
theorem dX9_readsStep_113 : decode cX9_readsStep 113 = .ok (.ifCond .ne 29, 3) := dk_154 0 29 (dk_at dksX9_readsStep_4 17 rfl rfl)
theorem dX9_readsStep_116 : decode cX9_readsStep 116 = .ok (.aload_n 2, 1) := dk_44 (dk_at dksX9_readsStep_4 20 rfl rfl)
theorem dX9_readsStep_117 : decode cX9_readsStep 117 = .ok (.iconst 3, 1) := dk_6 (dk_at dksX9_readsStep_4 21 rfl rfl)
theorem dX9_readsStep_118 : decode cX9_readsStep 118 = .ok (.aload_n 0, 1) := dk_42 (dk_at dksX9_readsStep_4 22 rfl rfl)
theorem dX9_readsStep_119 : decode cX9_readsStep 119 = .ok (.aload_n 2, 1) := dk_44 (dk_at dksX9_readsStep_4 23 rfl rfl)
theorem dX9_readsStep_120 : decode cX9_readsStep 120 = .ok (.iconst 1, 1) := dk_4 (dk_at dksX9_readsStep_5 0 rfl rfl)
theorem dX9_readsStep_121 : decode cX9_readsStep 121 = .ok (.iaload, 1) := dk_46 (dk_at dksX9_readsStep_5 1 rfl rfl)
theorem dX9_readsStep_122 : decode cX9_readsStep 122 = .ok (.aload_n 0, 1) := dk_42 (dk_at dksX9_readsStep_5 2 rfl rfl)
theorem dX9_readsStep_123 : decode cX9_readsStep 123 = .ok (.getfield 23, 3) := dk_180 0 23 (dk_at dksX9_readsStep_5 3 rfl rfl)
theorem dX9_readsStep_126 : decode cX9_readsStep 126 = .ok (.iconst 0, 1) := dk_3 (dk_at dksX9_readsStep_5 6 rfl rfl)
theorem dX9_readsStep_127 : decode cX9_readsStep 127 = .ok (.iaload, 1) := dk_46 (dk_at dksX9_readsStep_5 7 rfl rfl)
theorem dX9_readsStep_128 : decode cX9_readsStep 128 = .ok (.invokevirtual 164, 3) := dk_182 0 164 (dk_at dksX9_readsStep_5 8 rfl rfl)
theorem dX9_readsStep_131 : decode cX9_readsStep 131 = .ok (.iastore, 1) := dk_79 (dk_at dksX9_readsStep_5 11 rfl rfl)
theorem dX9_readsStep_132 : decode cX9_readsStep 132 = .ok (.aload_n 2, 1) := dk_44 (dk_at dksX9_readsStep_5 12 rfl rfl)
theorem dX9_readsStep_133 : decode cX9_readsStep 133 = .ok (.iconst 4, 1) := dk_7 (dk_at dksX9_readsStep_5 13 rfl rfl)
theorem dX9_readsStep_134 : decode cX9_readsStep 134 = .ok (.aload_n 0, 1) := dk_42 (dk_at dksX9_readsStep_5 14 rfl rfl)
theorem dX9_readsStep_135 : decode cX9_readsStep 135 = .ok (.iconst 1, 1) := dk_4 (dk_at dksX9_readsStep_5 15 rfl rfl)
theorem dX9_readsStep_136 : decode cX9_readsStep 136 = .ok (.bipush 9, 2) := dk_16 9 (dk_at dksX9_readsStep_5 16 rfl rfl)
theorem dX9_readsStep_138 : decode cX9_readsStep 138 = .ok (.invokevirtual 154, 3) := dk_182 0 154 (dk_at dksX9_readsStep_5 18 rfl rfl)
theorem dX9_readsStep_141 : decode cX9_readsStep 141 = .ok (.iastore, 1) := dk_79 (dk_at dksX9_readsStep_5 21 rfl rfl)
theorem dX9_readsStep_142 : decode cX9_readsStep 142 = .ok (.iload_n 1, 1) := dk_27 (dk_at dksX9_readsStep_5 22 rfl rfl)
theorem dX9_readsStep_143 : decode cX9_readsStep 143 = .ok (.iconst 1, 1) := dk_4 (dk_at dksX9_readsStep_5 23 rfl rfl)
theorem dX9_readsStep_144 : decode cX9_readsStep 144 = .ok (.if_icmp .ne 13, 3) := dk_160 0 13 (dk_at dksX9_readsStep_6 0 rfl rfl)
theorem dX9_readsStep_147 : decode cX9_readsStep 147 = .ok (.aload_n 2, 1) := dk_44 (dk_at dksX9_readsStep_6 3 rfl rfl)
theorem dX9_readsStep_148 : decode cX9_readsStep 148 = .ok (.iconst 1, 1) := dk_4 (dk_at dksX9_readsStep_6 4 rfl rfl)
theorem dX9_readsStep_149 : decode cX9_readsStep 149 = .ok (.aload_n 0, 1) := dk_42 (dk_at dksX9_readsStep_6 5 rfl rfl)
theorem dX9_readsStep_150 : decode cX9_readsStep 150 = .ok (.iconst 0, 1) := dk_3 (dk_at dksX9_readsStep_6 6 rfl rfl)
theorem dX9_readsStep_151 : decode cX9_readsStep 151 = .ok (.bipush 9, 2) := dk_16 9 (dk_at dksX9_readsStep_6 7 rfl rfl)
theorem dX9_readsStep_153 : decode cX9_readsStep 153 = .ok (.invokevirtual 154, 3) := dk_182 0 154 (dk_at dksX9_readsStep_6 9 rfl rfl)
theorem dX9_readsStep_156 : decode cX9_readsStep 156 = .ok (.iastore, 1) := dk_79 (dk_at dksX9_readsStep_6 12 rfl rfl)
theorem dX9_readsStep_157 : decode cX9_readsStep 157 = .ok (.iload_n 1, 1) := dk_27 (dk_at dksX9_readsStep_6 13 rfl rfl)
theorem dX9_readsStep_158 : decode cX9_readsStep 158 = .ok (.iconst 5, 1) := dk_8 (dk_at dksX9_readsStep_6 14 rfl rfl)
theorem dX9_readsStep_159 : decode cX9_readsStep 159 = .ok (.if_icmp .ne 70, 3) := dk_160 0 70 (dk_at dksX9_readsStep_6 15 rfl rfl)
theorem dX9_readsStep_162 : decode cX9_readsStep 162 = .ok (.aload_n 2, 1) := dk_44 (dk_at dksX9_readsStep_6 18 rfl rfl)
theorem dX9_readsStep_163 : decode cX9_readsStep 163 = .ok (.iconst 1, 1) := dk_4 (dk_at dksX9_readsStep_6 19 rfl rfl)
theorem dX9_readsStep_164 : decode cX9_readsStep 164 = .ok (.aload_n 0, 1) := dk_42 (dk_at dksX9_readsStep_6 20 rfl rfl)
theorem dX9_readsStep_165 : decode cX9_readsStep 165 = .ok (.iconst 0, 1) := dk_3 (dk_at dksX9_readsStep_6 21 rfl rfl)
theorem dX9_readsStep_166 : decode cX9_readsStep 166 = .ok (.bipush 60, 2) := dk_16 60 (dk_at dksX9_readsStep_6 22 rfl rfl)
theorem dX9_readsStep_168 : decode cX9_readsStep 168 = .ok (.invokevirtual 154, 3) := dk_182 0 154 (dk_at dksX9_readsStep_7 0 rfl rfl)
theorem dX9_readsStep_171 : decode cX9_readsStep 171 = .ok (.iastore, 1) := dk_79 (dk_at dksX9_readsStep_7 3 rfl rfl)
theorem dX9_readsStep_172 : decode cX9_readsStep 172 = .ok (.aload_n 0, 1) := dk_42 (dk_at dksX9_readsStep_7 4 rfl rfl)
theorem dX9_readsStep_173 : decode cX9_readsStep 173 = .ok (.bipush 91, 2) := dk_16 91 (dk_at dksX9_readsStep_7 5 rfl rfl)
theorem dX9_readsStep_175 : decode cX9_readsStep 175 = .ok (.invokevirtual 167, 3) := dk_182 0 167 (dk_at dksX9_readsStep_7 7 rfl rfl)
theorem dX9_readsStep_178 : decode cX9_readsStep 178 = .ok (.aload_n 0, 1) := dk_42 (dk_at dksX9_readsStep_7 10 rfl rfl)
theorem dX9_readsStep_179 : decode cX9_readsStep 179 = .ok (.invokevirtual 114, 3) := dk_182 0 114 (dk_at dksX9_readsStep_7 11 rfl rfl)
theorem dX9_readsStep_182 : decode cX9_readsStep 182 = .ok (.aload_n 0, 1) := dk_42 (dk_at dksX9_readsStep_7 14 rfl rfl)
theorem dX9_readsStep_183 : decode cX9_readsStep 183 = .ok (.getfield 108, 3) := dk_180 0 108 (dk_at dksX9_readsStep_7 15 rfl rfl)
theorem dX9_readsStep_186 : decode cX9_readsStep 186 = .ok (.ifCond .ne 27, 3) := dk_154 0 27 (dk_at dksX9_readsStep_7 18 rfl rfl)
theorem dX9_readsStep_189 : decode cX9_readsStep 189 = .ok (.aload_n 0, 1) := dk_42 (dk_at dksX9_readsStep_7 21 rfl rfl)
theorem dX9_readsStep_190 : decode cX9_readsStep 190 = .ok (.aload_n 0, 1) := dk_42 (dk_at dksX9_readsStep_7 22 rfl rfl)
theorem dX9_readsStep_191 : decode cX9_readsStep 191 = .ok (.getfield 101, 3) := dk_180 0 101 (dk_at dksX9_readsStep_8 0 rfl rfl)
theorem dX9_readsStep_194 : decode cX9_readsStep 194 = .ok (.invokevirtual 104, 3) := dk_182 0 104 (dk_at dksX9_readsStep_8 3 rfl rfl)
theorem dX9_readsStep_197 : decode cX9_readsStep 197 = .ok (.bipush 93, 2) := dk_16 93 (dk_at dksX9_readsStep_8 6 rfl rfl)
theorem dX9_readsStep_199 : decode cX9_readsStep 199 = .ok (.if_icmp .eq 14, 3) := dk_159 0 14 (dk_at dksX9_readsStep_8 8 rfl rfl)
theorem dX9_readsStep_202 : decode cX9_readsStep 202 = .ok (.aload_n 0, 1) := dk_42 (dk_at dksX9_readsStep_8 11 rfl rfl)
theorem dX9_readsStep_203 : decode cX9_readsStep 203 = .ok (.invokevirtual 250, 3) := dk_182 0 250 (dk_at dksX9_readsStep_8 12 rfl rfl)
theorem dX9_readsStep_206 : decode cX9_readsStep 206 = .ok (.aload_n 0, 1) := dk_42 (dk_at dksX9_readsStep_8 15 rfl rfl)
theorem dX9_readsStep_207 : decode cX9_readsStep 207 = .ok (.invokevirtual 114, 3) := dk_182 0 114 (dk_at dksX9_readsStep_8 16 rfl rfl)
theorem dX9_readsStep_210 : decode cX9_readsStep 210 = .ok (.goto (-28), 3) := dk_167 255 228 (dk_at dksX9_readsStep_8 19 rfl rfl)
theorem dX9_readsStep_213 : decode cX9_readsStep 213 = .ok (.aload_n 0, 1) := dk_42 (dk_at dksX9_readsStep_8 22 rfl rfl)
theorem dX9_readsStep_214 : decode cX9_readsStep 214 = .ok (.bipush 93, 2) := dk_16 93 (dk_at dksX9_readsStep_9 0 rfl rfl)
theorem dX9_readsStep_216 : decode cX9_readsStep 216 = .ok (.invokevirtual 167, 3) := dk_182 0 167 (dk_at dksX9_readsStep_9 2 rfl rfl)
theorem dX9_readsStep_219 : decode cX9_readsStep 219 = .ok (.aload_n 0, 1) := dk_42 (dk_at dksX9_readsStep_9 5 rfl rfl)
theorem dX9_readsStep_220 : decode cX9_readsStep 220 = .ok (.dup, 1) := dk_89 (dk_at dksX9_readsStep_9 6 rfl rfl)
theorem dX9_readsStep_221 : decode cX9_readsStep 221 = .ok (.getfield 151, 3) := dk_180 0 151 (dk_at dksX9_readsStep_9 7 rfl rfl)
theorem dX9_readsStep_224 : decode cX9_readsStep 224 = .ok (.iconst 1, 1) := dk_4 (dk_at dksX9_readsStep_9 10 rfl rfl)
theorem dX9_readsStep_225 : decode cX9_readsStep 225 = .ok (.isub, 1) := dk_100 (dk_at dksX9_readsStep_9 11 rfl rfl)
theorem dX9_readsStep_226 : decode cX9_readsStep 226 = .ok (.putfield 151, 3) := dk_181 0 151 (dk_at dksX9_readsStep_9 12 rfl rfl)
theorem dX9_readsStep_229 : decode cX9_readsStep 229 = .ok (.aload_n 2, 1) := dk_44 (dk_at dksX9_readsStep_9 15 rfl rfl)
theorem dX9_readsStep_230 : decode cX9_readsStep 230 = .ok (.iconst 5, 1) := dk_8 (dk_at dksX9_readsStep_9 16 rfl rfl)
theorem dX9_readsStep_231 : decode cX9_readsStep 231 = .ok (.aload_n 0, 1) := dk_42 (dk_at dksX9_readsStep_9 17 rfl rfl)
theorem dX9_readsStep_232 : decode cX9_readsStep 232 = .ok (.getfield 247, 3) := dk_180 0 247 (dk_at dksX9_readsStep_9 18 rfl rfl)
theorem dX9_readsStep_235 : decode cX9_readsStep 235 = .ok (.iastore, 1) := dk_79 (dk_at dksX9_readsStep_9 21 rfl rfl)
theorem dX9_readsStep_236 : decode cX9_readsStep 236 = .ok (.aload_n 0, 1) := dk_42 (dk_at dksX9_readsStep_9 22 rfl rfl)
theorem dX9_readsStep_237 : decode cX9_readsStep 237 = .ok (.bipush 59, 2) := dk_16 59 (dk_at dksX9_readsStep_10 0 rfl rfl)
theorem dX9_readsStep_239 : decode cX9_readsStep 239 = .ok (.invokevirtual 167, 3) := dk_182 0 167 (dk_at dksX9_readsStep_10 2 rfl rfl)
theorem dX9_readsStep_242 : decode cX9_readsStep 242 = .ok (.return_, 1) := dk_177 (dk_at dksX9_readsStep_10 5 rfl rfl)
def dkwX9_stepHere_4 : List UInt8 := [16, 14, 3, 182, 0, 141, 153, 0, 7, 8, 167, 0, 4, 2, 172]
abbrev dktX9_stepHere_4 : List UInt8 := dkwX9_stepHere_4 ++ []
def dkwX9_stepHere_3 : List UInt8 := [42, 7, 4, 16, 25, 3, 3, 3, 182, 0, 141, 153, 0, 5, 7, 172, 42, 4, 16, 7, 4, 16, 9]
abbrev dktX9_stepHere_3 : List UInt8 := dkwX9_stepHere_3 ++ dktX9_stepHere_4
def dkwX9_stepHere_2 : List UInt8 := [153, 0, 5, 5, 172, 42, 16, 20, 16, 21, 16, 18, 16, 14, 3, 3, 182, 0, 141, 153, 0, 5, 6, 172]
abbrev dktX9_stepHere_2 : List UInt8 := dkwX9_stepHere_2 ++ dktX9_stepHere_3
def dkwX9_stepHere_1 : List UInt8 := [16, 16, 3, 3, 3, 182, 0, 141, 153, 0, 5, 4, 172, 42, 16, 6, 8, 8, 7, 3, 3, 182, 0, 141]
abbrev dktX9_stepHere_1 : List UInt8 := dkwX9_stepHere_1 ++ dktX9_stepHere_2
def dkwX9_stepHere_0 : List UInt8 := [42, 16, 23, 8, 16, 9, 16, 7, 16, 8, 3, 182, 0, 141, 153, 0, 5, 3, 172, 42, 16, 20, 16, 9]
abbrev dktX9_stepHere_0 : List UInt8 := dkwX9_stepHere_0 ++ dktX9_stepHere_1
theorem dksX9_stepHere_0 : cX9_stepHere.data.toList.drop 0 = dktX9_stepHere_0 := by decide +kernel
theorem dksX9_stepHere_1 : cX9_stepHere.data.toList.drop 24 = dktX9_stepHere_1 := dk_seg dksX9_stepHere_0 24 rfl rfl
theorem dksX9_stepHere_2 : cX9_stepHere.data.toList.drop 48 = dktX9_stepHere_2 := dk_seg dksX9_stepHere_1 24 rfl rfl
theorem dksX9_stepHere_3 : cX9_stepHere.data.toList.drop 72 = dktX9_stepHere_3 := dk_seg dksX9_stepHere_2 24 rfl rfl
theorem dksX9_stepHere_4 : cX9_stepHere.data.toList.drop 95 = dktX9_stepHere_4 := dk_seg dksX9_stepHere_3 23 rfl rfl
theorem dX9_stepHere_0 : decode cX9_stepHere 0 = .ok (.aload_n 0, 1) := dk_42 (dk_at dksX9_stepHere_0 0 rfl rfl)
theorem dX9_stepHere_1 : decode cX9_stepHere 1 = .ok (.bipush 23, 2) := dk_16 23 (dk_at dksX9_stepHere_0 1 rfl rfl)
theorem dX9_stepHere_3 : decode cX9_stepHere 3 = .ok (.iconst 5, 1) := dk_8 (dk_at dksX9_stepHere_0 3 rfl rfl)
theorem dX9_stepHere_4 : decode cX9_stepHere 4 = .ok (.bipush 9, 2) := dk_16 9 (dk_at dksX9_stepHere_0 4 rfl rfl)
theorem dX9_stepHere_6 : decode cX9_stepHere 6 = .ok (.bipush 7, 2) := dk_16 7 (dk_at dksX9_stepHere_0 6 rfl rfl)
theorem dX9_stepHere_8 : decode cX9_stepHere 8 = .ok (.bipush 8, 2) := dk_16 8 (dk_at dksX9_stepHere_0 8 rfl rfl)
theorem dX9_stepHere_10 : decode cX9_stepHere 10 = .ok (.iconst 0, 1) := dk_3 (dk_at dksX9_stepHere_0 10 rfl rfl)
theorem dX9_stepHere_11 : decode cX9_stepHere 11 = .ok (.invokevirtual 141, 3) := dk_182 0 141 (dk_at dksX9_stepHere_0 11 rfl rfl)
theorem dX9_stepHere_14 : decode cX9_stepHere 14 = .ok (.ifCond .eq 5, 3) := dk_153 0 5 (dk_at dksX9_stepHere_0 14 rfl rfl)
theorem dX9_stepHere_17 : decode cX9_stepHere 17 = .ok (.iconst 0, 1) := dk_3 (dk_at dksX9_stepHere_0 17 rfl rfl)
theorem dX9_stepHere_18 : decode cX9_stepHere 18 = .ok (.ireturn, 1) := dk_172 (dk_at dksX9_stepHere_0 18 rfl rfl)
theorem dX9_stepHere_19 : decode cX9_stepHere 19 = .ok (.aload_n 0, 1) := dk_42 (dk_at dksX9_stepHere_0 19 rfl rfl)
theorem dX9_stepHere_20 : decode cX9_stepHere 20 = .ok (.bipush 20, 2) := dk_16 20 (dk_at dksX9_stepHere_0 20 rfl rfl)
theorem dX9_stepHere_22 : decode cX9_stepHere 22 = .ok (.bipush 9, 2) := dk_16 9 (dk_at dksX9_stepHere_0 22 rfl rfl)
theorem dX9_stepHere_24 : decode cX9_stepHere 24 = .ok (.bipush 16, 2) := dk_16 16 (dk_at dksX9_stepHere_1 0 rfl rfl)
theorem dX9_stepHere_26 : decode cX9_stepHere 26 = .ok (.iconst 0, 1) := dk_3 (dk_at dksX9_stepHere_1 2 rfl rfl)
theorem dX9_stepHere_27 : decode cX9_stepHere 27 = .ok (.iconst 0, 1) := dk_3 (dk_at dksX9_stepHere_1 3 rfl rfl)
theorem dX9_stepHere_28 : decode cX9_stepHere 28 = .ok (.iconst 0, 1) := dk_3 (dk_at dksX9_stepHere_1 4 rfl rfl)
theorem dX9_stepHere_29 : decode cX9_stepHere 29 = .ok (.invokevirtual 141, 3) := dk_182 0 141 (dk_at dksX9_stepHere_1 5 rfl rfl)
theorem dX9_stepHere_32 : decode cX9_stepHere 32 = .ok (.ifCond .eq 5, 3) := dk_153 0 5 (dk_at dksX9_stepHere_1 8 rfl rfl)
theorem dX9_stepHere_35 : decode cX9_stepHere 35 = .ok (.iconst 1, 1) := dk_4 (dk_at dksX9_stepHere_1 11 rfl rfl)
theorem dX9_stepHere_36 : decode cX9_stepHere 36 = .ok (.ireturn, 1) := dk_172 (dk_at dksX9_stepHere_1 12 rfl rfl)
theorem dX9_stepHere_37 : decode cX9_stepHere 37 = .ok (.aload_n 0, 1) := dk_42 (dk_at dksX9_stepHere_1 13 rfl rfl)
theorem dX9_stepHere_38 : decode cX9_stepHere 38 = .ok (.bipush 6, 2) := dk_16 6 (dk_at dksX9_stepHere_1 14 rfl rfl)
theorem dX9_stepHere_40 : decode cX9_stepHere 40 = .ok (.iconst 5, 1) := dk_8 (dk_at dksX9_stepHere_1 16 rfl rfl)
theorem dX9_stepHere_41 : decode cX9_stepHere 41 = .ok (.iconst 5, 1) := dk_8 (dk_at dksX9_stepHere_1 17 rfl rfl)
theorem dX9_stepHere_42 : decode cX9_stepHere 42 = .ok (.iconst 4, 1) := dk_7 (dk_at dksX9_stepHere_1 18 rfl rfl)
theorem dX9_stepHere_43 : decode cX9_stepHere 43 = .ok (.iconst 0, 1) := dk_3 (dk_at dksX9_stepHere_1 19 rfl rfl)
theorem dX9_stepHere_44 : decode cX9_stepHere 44 = .ok (.iconst 0, 1) := dk_3 (dk_at dksX9_stepHere_1 20 rfl rfl)
theorem dX9_stepHere_45 : decode cX9_stepHere 45 = .ok (.invokevirtual 141, 3) := dk_182 0 141 (dk_at dksX9_stepHere_1 21 rfl rfl)
theorem dX9_stepHere_48 : decode cX9_stepHere 48 = .ok (.ifCond .eq 5, 3) := dk_153 0 5 (dk_at dksX9_stepHere_2 0 rfl rfl)
theorem dX9_stepHere_51 : decode cX9_stepHere 51 = .ok (.iconst 2, 1) := dk_5 (dk_at dksX9_stepHere_2 3 rfl rfl)
theorem dX9_stepHere_52 : decode cX9_stepHere 52 = .ok (.ireturn, 1) := dk_172 (dk_at dksX9_stepHere_2 4 rfl rfl)
theorem dX9_stepHere_53 : decode cX9_stepHere 53 = .ok (.aload_n 0, 1) := dk_42 (dk_at dksX9_stepHere_2 5 rfl rfl)
theorem dX9_stepHere_54 : decode cX9_stepHere 54 = .ok (.bipush 20, 2) := dk_16 20 (dk_at dksX9_stepHere_2 6 rfl rfl)
theorem dX9_stepHere_56 : decode cX9_stepHere 56 = .ok (.bipush 21, 2) := dk_16 21 (dk_at dksX9_stepHere_2 8 rfl rfl)
theorem dX9_stepHere_58 : decode cX9_stepHere 58 = .ok (.bipush 18, 2) := dk_16 18 (dk_at dksX9_stepHere_2 10 rfl rfl)
theorem dX9_stepHere_60 : decode cX9_stepHere 60 = .ok (.bipush 14, 2) := dk_16 14 (dk_at dksX9_stepHere_2 12 rfl rfl)
theorem dX9_stepHere_62 : decode cX9_stepHere 62 = .ok (.iconst 0, 1) := dk_3 (dk_at dksX9_stepHere_2 14 rfl rfl)
theorem dX9_stepHere_63 : decode cX9_stepHere 63 = .ok (.iconst 0, 1) := dk_3 (dk_at dksX9_stepHere_2 15 rfl rfl)
theorem dX9_stepHere_64 : decode cX9_stepHere 64 = .ok (.invokevirtual 141, 3) := dk_182 0 141 (dk_at dksX9_stepHere_2 16 rfl rfl)
theorem dX9_stepHere_67 : decode cX9_stepHere 67 = .ok (.ifCond .eq 5, 3) := dk_153 0 5 (dk_at dksX9_stepHere_2 19 rfl rfl)
theorem dX9_stepHere_70 : decode cX9_stepHere 70 = .ok (.iconst 3, 1) := dk_6 (dk_at dksX9_stepHere_2 22 rfl rfl)
theorem dX9_stepHere_71 : decode cX9_stepHere 71 = .ok (.ireturn, 1) := dk_172 (dk_at dksX9_stepHere_2 23 rfl rfl)
theorem dX9_stepHere_72 : decode cX9_stepHere 72 = .ok (.aload_n 0, 1) := dk_42 (dk_at dksX9_stepHere_3 0 rfl rfl)
theorem dX9_stepHere_73 : decode cX9_stepHere 73 = .ok (.iconst 4, 1) := dk_7 (dk_at dksX9_stepHere_3 1 rfl rfl)
theorem dX9_stepHere_74 : decode cX9_stepHere 74 = .ok (.iconst 1, 1) := dk_4 (dk_at dksX9_stepHere_3 2 rfl rfl)
theorem dX9_stepHere_75 : decode cX9_stepHere 75 = .ok (.bipush 25, 2) := dk_16 25 (dk_at dksX9_stepHere_3 3 rfl rfl)
theorem dX9_stepHere_77 : decode cX9_stepHere 77 = .ok (.iconst 0, 1) := dk_3 (dk_at dksX9_stepHere_3 5 rfl rfl)
theorem dX9_stepHere_78 : decode cX9_stepHere 78 = .ok (.iconst 0, 1) := dk_3 (dk_at dksX9_stepHere_3 6 rfl rfl)
theorem dX9_stepHere_79 : decode cX9_stepHere 79 = .ok (.iconst 0, 1) := dk_3 (dk_at dksX9_stepHere_3 7 rfl rfl)
theorem dX9_stepHere_80 : decode cX9_stepHere 80 = .ok (.invokevirtual 141, 3) := dk_182 0 141 (dk_at dksX9_stepHere_3 8 rfl rfl)
theorem dX9_stepHere_83 : decode cX9_stepHere 83 = .ok (.ifCond .eq 5, 3) := dk_153 0 5 (dk_at dksX9_stepHere_3 11 rfl rfl)
theorem dX9_stepHere_86 : decode cX9_stepHere 86 = .ok (.iconst 4, 1) := dk_7 (dk_at dksX9_stepHere_3 14 rfl rfl)
theorem dX9_stepHere_87 : decode cX9_stepHere 87 = .ok (.ireturn, 1) := dk_172 (dk_at dksX9_stepHere_3 15 rfl rfl)
theorem dX9_stepHere_88 : decode cX9_stepHere 88 = .ok (.aload_n 0, 1) := dk_42 (dk_at dksX9_stepHere_3 16 rfl rfl)
theorem dX9_stepHere_89 : decode cX9_stepHere 89 = .ok (.iconst 1, 1) := dk_4 (dk_at dksX9_stepHere_3 17 rfl rfl)
theorem dX9_stepHere_90 : decode cX9_stepHere 90 = .ok (.bipush 7, 2) := dk_16 7 (dk_at dksX9_stepHere_3 18 rfl rfl)
theorem dX9_stepHere_92 : decode cX9_stepHere 92 = .ok (.iconst 1, 1) := dk_4 (dk_at dksX9_stepHere_3 20 rfl rfl)
theorem dX9_stepHere_93 : decode cX9_stepHere 93 = .ok (.bipush 9, 2) := dk_16 9 (dk_at dksX9_stepHere_3 21 rfl rfl)
theorem dX9_stepHere_95 : decode cX9_stepHere 95 = .ok (.bipush 14, 2) := dk_16 14 (dk_at dksX9_stepHere_4 0 rfl rfl)
theorem dX9_stepHere_97 : decode cX9_stepHere 97 = .ok (.iconst 0, 1) := dk_3 (dk_at dksX9_stepHere_4 2 rfl rfl)
theorem dX9_stepHere_98 : decode cX9_stepHere 98 = .ok (.invokevirtual 141, 3) := dk_182 0 141 (dk_at dksX9_stepHere_4 3 rfl rfl)
theorem dX9_stepHere_101 : decode cX9_stepHere 101 = .ok (.ifCond .eq 7, 3) := dk_153 0 7 (dk_at dksX9_stepHere_4 6 rfl rfl)
theorem dX9_stepHere_104 : decode cX9_stepHere 104 = .ok (.iconst 5, 1) := dk_8 (dk_at dksX9_stepHere_4 9 rfl rfl)
theorem dX9_stepHere_105 : decode cX9_stepHere 105 = .ok (.goto 4, 3) := dk_167 0 4 (dk_at dksX9_stepHere_4 10 rfl rfl)
theorem dX9_stepHere_108 : decode cX9_stepHere 108 = .ok (.iconst (-1), 1) := dk_2 (dk_at dksX9_stepHere_4 13 rfl rfl)
theorem dX9_stepHere_109 : decode cX9_stepHere 109 = .ok (.ireturn, 1) := dk_172 (dk_at dksX9_stepHere_4 14 rfl rfl)
def dkwX9_copies_0 : List UInt8 := [3, 61, 28, 16, 60, 162, 0, 15, 43, 28, 42, 28, 46, 79, 132, 2, 1, 167, 255, 241, 177]
abbrev dktX9_copies_0 : List UInt8 := dkwX9_copies_0 ++ []
theorem dksX9_copies_0 : cX9_copies.data.toList.drop 0 = dktX9_copies_0 := by decide +kernel
theorem dX9_copies_0 : decode cX9_copies 0 = .ok (.iconst 0, 1) := dk_3 (dk_at dksX9_copies_0 0 rfl rfl)
theorem dX9_copies_1 : decode cX9_copies 1 = .ok (.istore_n 2, 1) := dk_61 (dk_at dksX9_copies_0 1 rfl rfl)
theorem dX9_copies_2 : decode cX9_copies 2 = .ok (.iload_n 2, 1) := dk_28 (dk_at dksX9_copies_0 2 rfl rfl)
theorem dX9_copies_3 : decode cX9_copies 3 = .ok (.bipush 60, 2) := dk_16 60 (dk_at dksX9_copies_0 3 rfl rfl)
theorem dX9_copies_5 : decode cX9_copies 5 = .ok (.if_icmp .ge 15, 3) := dk_162 0 15 (dk_at dksX9_copies_0 5 rfl rfl)
theorem dX9_copies_8 : decode cX9_copies 8 = .ok (.aload_n 1, 1) := dk_43 (dk_at dksX9_copies_0 8 rfl rfl)
theorem dX9_copies_9 : decode cX9_copies 9 = .ok (.iload_n 2, 1) := dk_28 (dk_at dksX9_copies_0 9 rfl rfl)
theorem dX9_copies_10 : decode cX9_copies 10 = .ok (.aload_n 0, 1) := dk_42 (dk_at dksX9_copies_0 10 rfl rfl)
theorem dX9_copies_11 : decode cX9_copies 11 = .ok (.iload_n 2, 1) := dk_28 (dk_at dksX9_copies_0 11 rfl rfl)
theorem dX9_copies_12 : decode cX9_copies 12 = .ok (.iaload, 1) := dk_46 (dk_at dksX9_copies_0 12 rfl rfl)
theorem dX9_copies_13 : decode cX9_copies 13 = .ok (.iastore, 1) := dk_79 (dk_at dksX9_copies_0 13 rfl rfl)
theorem dX9_copies_14 : decode cX9_copies 14 = .ok (.iinc 2 1, 3) := dk_132 2 1 (dk_at dksX9_copies_0 14 rfl rfl)
theorem dX9_copies_17 : decode cX9_copies 17 = .ok (.goto (-15), 3) := dk_167 255 241 (dk_at dksX9_copies_0 17 rfl rfl)
theorem dX9_copies_20 : decode cX9_copies 20 = .ok (.return_, 1) := dk_177 (dk_at dksX9_copies_0 20 rfl rfl)
def dkwX9_goes_6 : List UInt8 := [181, 0, 197, 42, 180, 0, 58, 29, 50, 8, 46, 62, 167, 255, 106, 177]
abbrev dktX9_goes_6 : List UInt8 := dkwX9_goes_6 ++ []
def dkwX9_goes_5 : List UInt8 := [167, 0, 4, 3, 96, 181, 1, 55, 42, 89, 180, 0, 197, 21, 4, 153, 0, 7, 3, 167, 0, 4, 4, 96]
abbrev dktX9_goes_5 : List UInt8 := dkwX9_goes_5 ++ dktX9_goes_6
def dkwX9_goes_4 : List UInt8 := [42, 180, 0, 58, 29, 50, 182, 1, 51, 54, 4, 42, 89, 180, 1, 55, 21, 4, 153, 0, 7, 4]
abbrev dktX9_goes_4 : List UInt8 := dkwX9_goes_4 ++ dktX9_goes_5
def dkwX9_goes_3 : List UInt8 := [180, 0, 58, 29, 50, 8, 46, 182, 1, 48, 132, 4, 1, 167, 255, 215, 167, 0, 57, 42, 42, 180, 0, 61]
abbrev dktX9_goes_3 : List UInt8 := dkwX9_goes_3 ++ dktX9_goes_4
def dkwX9_goes_2 : List UInt8 := [29, 50, 4, 46, 162, 0, 34, 42, 180, 1, 45, 17, 0, 200, 162, 0, 24, 42, 29, 4, 96, 42]
abbrev dktX9_goes_2 : List UInt8 := dkwX9_goes_2 ++ dktX9_goes_3
def dkwX9_goes_1 : List UInt8 := [181, 1, 45, 42, 180, 0, 58, 29, 50, 3, 46, 8, 160, 0, 53, 3, 54, 4, 21, 4, 42, 180, 0, 58]
abbrev dktX9_goes_1 : List UInt8 := dkwX9_goes_1 ++ dktX9_goes_2
def dkwX9_goes_0 : List UInt8 := [27, 62, 29, 28, 162, 0, 151, 42, 180, 1, 45, 17, 0, 200, 162, 0, 141, 42, 89, 180, 1, 45, 4, 96]
abbrev dktX9_goes_0 : List UInt8 := dkwX9_goes_0 ++ dktX9_goes_1
theorem dksX9_goes_0 : cX9_goes.data.toList.drop 0 = dktX9_goes_0 := by decide +kernel
theorem dksX9_goes_1 : cX9_goes.data.toList.drop 24 = dktX9_goes_1 := dk_seg dksX9_goes_0 24 rfl rfl
theorem dksX9_goes_2 : cX9_goes.data.toList.drop 48 = dktX9_goes_2 := dk_seg dksX9_goes_1 24 rfl rfl
theorem dksX9_goes_3 : cX9_goes.data.toList.drop 70 = dktX9_goes_3 := dk_seg dksX9_goes_2 22 rfl rfl
theorem dksX9_goes_4 : cX9_goes.data.toList.drop 94 = dktX9_goes_4 := dk_seg dksX9_goes_3 24 rfl rfl
theorem dksX9_goes_5 : cX9_goes.data.toList.drop 116 = dktX9_goes_5 := dk_seg dksX9_goes_4 22 rfl rfl
theorem dksX9_goes_6 : cX9_goes.data.toList.drop 140 = dktX9_goes_6 := dk_seg dksX9_goes_5 24 rfl rfl
theorem dX9_goes_0 : decode cX9_goes 0 = .ok (.iload_n 1, 1) := dk_27 (dk_at dksX9_goes_0 0 rfl rfl)
theorem dX9_goes_1 : decode cX9_goes 1 = .ok (.istore_n 3, 1) := dk_62 (dk_at dksX9_goes_0 1 rfl rfl)
theorem dX9_goes_2 : decode cX9_goes 2 = .ok (.iload_n 3, 1) := dk_29 (dk_at dksX9_goes_0 2 rfl rfl)
theorem dX9_goes_3 : decode cX9_goes 3 = .ok (.iload_n 2, 1) := dk_28 (dk_at dksX9_goes_0 3 rfl rfl)
theorem dX9_goes_4 : decode cX9_goes 4 = .ok (.if_icmp .ge 151, 3) := dk_162 0 151 (dk_at dksX9_goes_0 4 rfl rfl)
theorem dX9_goes_7 : decode cX9_goes 7 = .ok (.aload_n 0, 1) := dk_42 (dk_at dksX9_goes_0 7 rfl rfl)
theorem dX9_goes_8 : decode cX9_goes 8 = .ok (.getfield 301, 3) := dk_180 1 45 (dk_at dksX9_goes_0 8 rfl rfl)
theorem dX9_goes_11 : decode cX9_goes 11 = .ok (.sipush 200, 3) := dk_17 0 200 (dk_at dksX9_goes_0 11 rfl rfl)
theorem dX9_goes_14 : decode cX9_goes 14 = .ok (.if_icmp .ge 141, 3) := dk_162 0 141 (dk_at dksX9_goes_0 14 rfl rfl)
theorem dX9_goes_17 : decode cX9_goes 17 = .ok (.aload_n 0, 1) := dk_42 (dk_at dksX9_goes_0 17 rfl rfl)
theorem dX9_goes_18 : decode cX9_goes 18 = .ok (.dup, 1) := dk_89 (dk_at dksX9_goes_0 18 rfl rfl)
theorem dX9_goes_19 : decode cX9_goes 19 = .ok (.getfield 301, 3) := dk_180 1 45 (dk_at dksX9_goes_0 19 rfl rfl)
theorem dX9_goes_22 : decode cX9_goes 22 = .ok (.iconst 1, 1) := dk_4 (dk_at dksX9_goes_0 22 rfl rfl)
theorem dX9_goes_23 : decode cX9_goes 23 = .ok (.iadd, 1) := dk_96 (dk_at dksX9_goes_0 23 rfl rfl)
theorem dX9_goes_24 : decode cX9_goes 24 = .ok (.putfield 301, 3) := dk_181 1 45 (dk_at dksX9_goes_1 0 rfl rfl)
theorem dX9_goes_27 : decode cX9_goes 27 = .ok (.aload_n 0, 1) := dk_42 (dk_at dksX9_goes_1 3 rfl rfl)
theorem dX9_goes_28 : decode cX9_goes 28 = .ok (.getfield 58, 3) := dk_180 0 58 (dk_at dksX9_goes_1 4 rfl rfl)
theorem dX9_goes_31 : decode cX9_goes 31 = .ok (.iload_n 3, 1) := dk_29 (dk_at dksX9_goes_1 7 rfl rfl)
theorem dX9_goes_32 : decode cX9_goes 32 = .ok (.aaload, 1) := dk_50 (dk_at dksX9_goes_1 8 rfl rfl)
theorem dX9_goes_33 : decode cX9_goes 33 = .ok (.iconst 0, 1) := dk_3 (dk_at dksX9_goes_1 9 rfl rfl)
theorem dX9_goes_34 : decode cX9_goes 34 = .ok (.iaload, 1) := dk_46 (dk_at dksX9_goes_1 10 rfl rfl)
theorem dX9_goes_35 : decode cX9_goes 35 = .ok (.iconst 5, 1) := dk_8 (dk_at dksX9_goes_1 11 rfl rfl)
theorem dX9_goes_36 : decode cX9_goes 36 = .ok (.if_icmp .ne 53, 3) := dk_160 0 53 (dk_at dksX9_goes_1 12 rfl rfl)
theorem dX9_goes_39 : decode cX9_goes 39 = .ok (.iconst 0, 1) := dk_3 (dk_at dksX9_goes_1 15 rfl rfl)
theorem dX9_goes_40 : decode cX9_goes 40 = .ok (.istore 4, 2) := dk_54 4 (dk_at dksX9_goes_1 16 rfl rfl)
theorem dX9_goes_42 : decode cX9_goes 42 = .ok (.iload 4, 2) := dk_21 4 (dk_at dksX9_goes_1 18 rfl rfl)
theorem dX9_goes_44 : decode cX9_goes 44 = .ok (.aload_n 0, 1) := dk_42 (dk_at dksX9_goes_1 20 rfl rfl)
theorem dX9_goes_45 : decode cX9_goes 45 = .ok (.getfield 58, 3) := dk_180 0 58 (dk_at dksX9_goes_1 21 rfl rfl)
theorem dX9_goes_48 : decode cX9_goes 48 = .ok (.iload_n 3, 1) := dk_29 (dk_at dksX9_goes_2 0 rfl rfl)
theorem dX9_goes_49 : decode cX9_goes 49 = .ok (.aaload, 1) := dk_50 (dk_at dksX9_goes_2 1 rfl rfl)
theorem dX9_goes_50 : decode cX9_goes 50 = .ok (.iconst 1, 1) := dk_4 (dk_at dksX9_goes_2 2 rfl rfl)
theorem dX9_goes_51 : decode cX9_goes 51 = .ok (.iaload, 1) := dk_46 (dk_at dksX9_goes_2 3 rfl rfl)
theorem dX9_goes_52 : decode cX9_goes 52 = .ok (.if_icmp .ge 34, 3) := dk_162 0 34 (dk_at dksX9_goes_2 4 rfl rfl)
theorem dX9_goes_55 : decode cX9_goes 55 = .ok (.aload_n 0, 1) := dk_42 (dk_at dksX9_goes_2 7 rfl rfl)
theorem dX9_goes_56 : decode cX9_goes 56 = .ok (.getfield 301, 3) := dk_180 1 45 (dk_at dksX9_goes_2 8 rfl rfl)
theorem dX9_goes_59 : decode cX9_goes 59 = .ok (.sipush 200, 3) := dk_17 0 200 (dk_at dksX9_goes_2 11 rfl rfl)
theorem dX9_goes_62 : decode cX9_goes 62 = .ok (.if_icmp .ge 24, 3) := dk_162 0 24 (dk_at dksX9_goes_2 14 rfl rfl)
theorem dX9_goes_65 : decode cX9_goes 65 = .ok (.aload_n 0, 1) := dk_42 (dk_at dksX9_goes_2 17 rfl rfl)
theorem dX9_goes_66 : decode cX9_goes 66 = .ok (.iload_n 3, 1) := dk_29 (dk_at dksX9_goes_2 18 rfl rfl)
theorem dX9_goes_67 : decode cX9_goes 67 = .ok (.iconst 1, 1) := dk_4 (dk_at dksX9_goes_2 19 rfl rfl)
theorem dX9_goes_68 : decode cX9_goes 68 = .ok (.iadd, 1) := dk_96 (dk_at dksX9_goes_2 20 rfl rfl)
theorem dX9_goes_69 : decode cX9_goes 69 = .ok (.aload_n 0, 1) := dk_42 (dk_at dksX9_goes_2 21 rfl rfl)
theorem dX9_goes_70 : decode cX9_goes 70 = .ok (.getfield 58, 3) := dk_180 0 58 (dk_at dksX9_goes_3 0 rfl rfl)
theorem dX9_goes_73 : decode cX9_goes 73 = .ok (.iload_n 3, 1) := dk_29 (dk_at dksX9_goes_3 3 rfl rfl)
theorem dX9_goes_74 : decode cX9_goes 74 = .ok (.aaload, 1) := dk_50 (dk_at dksX9_goes_3 4 rfl rfl)
theorem dX9_goes_75 : decode cX9_goes 75 = .ok (.iconst 5, 1) := dk_8 (dk_at dksX9_goes_3 5 rfl rfl)
theorem dX9_goes_76 : decode cX9_goes 76 = .ok (.iaload, 1) := dk_46 (dk_at dksX9_goes_3 6 rfl rfl)
theorem dX9_goes_77 : decode cX9_goes 77 = .ok (.invokevirtual 304, 3) := dk_182 1 48 (dk_at dksX9_goes_3 7 rfl rfl)
theorem dX9_goes_80 : decode cX9_goes 80 = .ok (.iinc 4 1, 3) := dk_132 4 1 (dk_at dksX9_goes_3 10 rfl rfl)
theorem dX9_goes_83 : decode cX9_goes 83 = .ok (.goto (-41), 3) := dk_167 255 215 (dk_at dksX9_goes_3 13 rfl rfl)
theorem dX9_goes_86 : decode cX9_goes 86 = .ok (.goto 57, 3) := dk_167 0 57 (dk_at dksX9_goes_3 16 rfl rfl)
theorem dX9_goes_89 : decode cX9_goes 89 = .ok (.aload_n 0, 1) := dk_42 (dk_at dksX9_goes_3 19 rfl rfl)
theorem dX9_goes_90 : decode cX9_goes 90 = .ok (.aload_n 0, 1) := dk_42 (dk_at dksX9_goes_3 20 rfl rfl)
theorem dX9_goes_91 : decode cX9_goes 91 = .ok (.getfield 61, 3) := dk_180 0 61 (dk_at dksX9_goes_3 21 rfl rfl)
theorem dX9_goes_94 : decode cX9_goes 94 = .ok (.aload_n 0, 1) := dk_42 (dk_at dksX9_goes_4 0 rfl rfl)
theorem dX9_goes_95 : decode cX9_goes 95 = .ok (.getfield 58, 3) := dk_180 0 58 (dk_at dksX9_goes_4 1 rfl rfl)
theorem dX9_goes_98 : decode cX9_goes 98 = .ok (.iload_n 3, 1) := dk_29 (dk_at dksX9_goes_4 4 rfl rfl)
theorem dX9_goes_99 : decode cX9_goes 99 = .ok (.aaload, 1) := dk_50 (dk_at dksX9_goes_4 5 rfl rfl)
theorem dX9_goes_100 : decode cX9_goes 100 = .ok (.invokevirtual 307, 3) := dk_182 1 51 (dk_at dksX9_goes_4 6 rfl rfl)
theorem dX9_goes_103 : decode cX9_goes 103 = .ok (.istore 4, 2) := dk_54 4 (dk_at dksX9_goes_4 9 rfl rfl)
theorem dX9_goes_105 : decode cX9_goes 105 = .ok (.aload_n 0, 1) := dk_42 (dk_at dksX9_goes_4 11 rfl rfl)
theorem dX9_goes_106 : decode cX9_goes 106 = .ok (.dup, 1) := dk_89 (dk_at dksX9_goes_4 12 rfl rfl)
theorem dX9_goes_107 : decode cX9_goes 107 = .ok (.getfield 311, 3) := dk_180 1 55 (dk_at dksX9_goes_4 13 rfl rfl)
theorem dX9_goes_110 : decode cX9_goes 110 = .ok (.iload 4, 2) := dk_21 4 (dk_at dksX9_goes_4 16 rfl rfl)
theorem dX9_goes_112 : decode cX9_goes 112 = .ok (.ifCond .eq 7, 3) := dk_153 0 7 (dk_at dksX9_goes_4 18 rfl rfl)
theorem dX9_goes_115 : decode cX9_goes 115 = .ok (.iconst 1, 1) := dk_4 (dk_at dksX9_goes_4 21 rfl rfl)
theorem dX9_goes_116 : decode cX9_goes 116 = .ok (.goto 4, 3) := dk_167 0 4 (dk_at dksX9_goes_5 0 rfl rfl)
theorem dX9_goes_119 : decode cX9_goes 119 = .ok (.iconst 0, 1) := dk_3 (dk_at dksX9_goes_5 3 rfl rfl)
theorem dX9_goes_120 : decode cX9_goes 120 = .ok (.iadd, 1) := dk_96 (dk_at dksX9_goes_5 4 rfl rfl)
theorem dX9_goes_121 : decode cX9_goes 121 = .ok (.putfield 311, 3) := dk_181 1 55 (dk_at dksX9_goes_5 5 rfl rfl)
theorem dX9_goes_124 : decode cX9_goes 124 = .ok (.aload_n 0, 1) := dk_42 (dk_at dksX9_goes_5 8 rfl rfl)
theorem dX9_goes_125 : decode cX9_goes 125 = .ok (.dup, 1) := dk_89 (dk_at dksX9_goes_5 9 rfl rfl)
theorem dX9_goes_126 : decode cX9_goes 126 = .ok (.getfield 197, 3) := dk_180 0 197 (dk_at dksX9_goes_5 10 rfl rfl)
theorem dX9_goes_129 : decode cX9_goes 129 = .ok (.iload 4, 2) := dk_21 4 (dk_at dksX9_goes_5 13 rfl rfl)
theorem dX9_goes_131 : decode cX9_goes 131 = .ok (.ifCond .eq 7, 3) := dk_153 0 7 (dk_at dksX9_goes_5 15 rfl rfl)
theorem dX9_goes_134 : decode cX9_goes 134 = .ok (.iconst 0, 1) := dk_3 (dk_at dksX9_goes_5 18 rfl rfl)
theorem dX9_goes_135 : decode cX9_goes 135 = .ok (.goto 4, 3) := dk_167 0 4 (dk_at dksX9_goes_5 19 rfl rfl)
theorem dX9_goes_138 : decode cX9_goes 138 = .ok (.iconst 1, 1) := dk_4 (dk_at dksX9_goes_5 22 rfl rfl)
theorem dX9_goes_139 : decode cX9_goes 139 = .ok (.iadd, 1) := dk_96 (dk_at dksX9_goes_5 23 rfl rfl)
theorem dX9_goes_140 : decode cX9_goes 140 = .ok (.putfield 197, 3) := dk_181 0 197 (dk_at dksX9_goes_6 0 rfl rfl)
theorem dX9_goes_143 : decode cX9_goes 143 = .ok (.aload_n 0, 1) := dk_42 (dk_at dksX9_goes_6 3 rfl rfl)
theorem dX9_goes_144 : decode cX9_goes 144 = .ok (.getfield 58, 3) := dk_180 0 58 (dk_at dksX9_goes_6 4 rfl rfl)
theorem dX9_goes_147 : decode cX9_goes 147 = .ok (.iload_n 3, 1) := dk_29 (dk_at dksX9_goes_6 7 rfl rfl)
theorem dX9_goes_148 : decode cX9_goes 148 = .ok (.aaload, 1) := dk_50 (dk_at dksX9_goes_6 8 rfl rfl)
theorem dX9_goes_149 : decode cX9_goes 149 = .ok (.iconst 5, 1) := dk_8 (dk_at dksX9_goes_6 9 rfl rfl)
theorem dX9_goes_150 : decode cX9_goes 150 = .ok (.iaload, 1) := dk_46 (dk_at dksX9_goes_6 10 rfl rfl)
theorem dX9_goes_151 : decode cX9_goes 151 = .ok (.istore_n 3, 1) := dk_62 (dk_at dksX9_goes_6 11 rfl rfl)
theorem dX9_goes_152 : decode cX9_goes 152 = .ok (.goto (-150), 3) := dk_167 255 106 (dk_at dksX9_goes_6 12 rfl rfl)
theorem dX9_goes_155 : decode cX9_goes 155 = .ok (.return_, 1) := dk_177 (dk_at dksX9_goes_6 15 rfl rfl)
def dkwX9_does_5 : List UInt8 := [161, 0, 5, 3, 172, 42, 43, 182, 1, 41, 4, 172]
abbrev dktX9_does_5 : List UInt8 := dkwX9_does_5 ++ []
def dkwX9_does_4 : List UInt8 := [3, 172, 43, 16, 57, 16, 18, 43, 16, 57, 46, 100, 79, 4, 172, 43, 16, 59, 46, 17, 1, 44]
abbrev dktX9_does_4 : List UInt8 := dkwX9_does_4 ++ dktX9_does_5
def dkwX9_does_3 : List UInt8 := [184, 1, 33, 172, 43, 44, 4, 46, 44, 5, 46, 184, 1, 37, 172, 43, 16, 57, 46, 16, 9, 160, 0, 5]
abbrev dktX9_does_3 : List UInt8 := dkwX9_does_3 ++ dktX9_does_4
def dkwX9_does_2 : List UInt8 := [42, 43, 44, 4, 46, 44, 5, 46, 44, 6, 46, 44, 7, 46, 182, 1, 30, 172, 43, 44, 4, 46]
abbrev dktX9_does_2 : List UInt8 := dkwX9_does_2 ++ dktX9_does_3
def dkwX9_does_1 : List UInt8 := [170, 0, 0, 0, 90, 0, 0, 0, 0, 0, 0, 0, 3, 0, 0, 0, 29, 0, 0, 0, 47, 0, 0, 0, 55, 0, 0, 0, 66]
abbrev dktX9_does_1 : List UInt8 := dkwX9_does_1 ++ dktX9_does_2
def dkwX9_does_0 : List UInt8 := [44, 3, 46]
abbrev dktX9_does_0 : List UInt8 := dkwX9_does_0 ++ dktX9_does_1
theorem dksX9_does_0 : cX9_does.data.toList.drop 0 = dktX9_does_0 := by decide +kernel
theorem dksX9_does_1 : cX9_does.data.toList.drop 3 = dktX9_does_1 := dk_seg dksX9_does_0 3 rfl rfl
theorem dksX9_does_2 : cX9_does.data.toList.drop 32 = dktX9_does_2 := dk_seg dksX9_does_1 29 rfl rfl
theorem dksX9_does_3 : cX9_does.data.toList.drop 54 = dktX9_does_3 := dk_seg dksX9_does_2 22 rfl rfl
theorem dksX9_does_4 : cX9_does.data.toList.drop 78 = dktX9_does_4 := dk_seg dksX9_does_3 24 rfl rfl
theorem dksX9_does_5 : cX9_does.data.toList.drop 100 = dktX9_does_5 := dk_seg dksX9_does_4 22 rfl rfl
theorem dX9_does_0 : decode cX9_does 0 = .ok (.aload_n 2, 1) := dk_44 (dk_at dksX9_does_0 0 rfl rfl)
theorem dX9_does_1 : decode cX9_does 1 = .ok (.iconst 0, 1) := dk_3 (dk_at dksX9_does_0 1 rfl rfl)
theorem dX9_does_2 : decode cX9_does 2 = .ok (.iaload, 1) := dk_46 (dk_at dksX9_does_0 2 rfl rfl)
theorem dX9_does_3 : decode cX9_does 3 = .ok (.tableswitch 90 0 3 #[29, 47, 55, 66], 29) := by decide +kernel
theorem dX9_does_32 : decode cX9_does 32 = .ok (.aload_n 0, 1) := dk_42 (dk_at dksX9_does_2 0 rfl rfl)
theorem dX9_does_33 : decode cX9_does 33 = .ok (.aload_n 1, 1) := dk_43 (dk_at dksX9_does_2 1 rfl rfl)
theorem dX9_does_34 : decode cX9_does 34 = .ok (.aload_n 2, 1) := dk_44 (dk_at dksX9_does_2 2 rfl rfl)
theorem dX9_does_35 : decode cX9_does 35 = .ok (.iconst 1, 1) := dk_4 (dk_at dksX9_does_2 3 rfl rfl)
theorem dX9_does_36 : decode cX9_does 36 = .ok (.iaload, 1) := dk_46 (dk_at dksX9_does_2 4 rfl rfl)
theorem dX9_does_37 : decode cX9_does 37 = .ok (.aload_n 2, 1) := dk_44 (dk_at dksX9_does_2 5 rfl rfl)
theorem dX9_does_38 : decode cX9_does 38 = .ok (.iconst 2, 1) := dk_5 (dk_at dksX9_does_2 6 rfl rfl)
theorem dX9_does_39 : decode cX9_does 39 = .ok (.iaload, 1) := dk_46 (dk_at dksX9_does_2 7 rfl rfl)
theorem dX9_does_40 : decode cX9_does 40 = .ok (.aload_n 2, 1) := dk_44 (dk_at dksX9_does_2 8 rfl rfl)
theorem dX9_does_41 : decode cX9_does 41 = .ok (.iconst 3, 1) := dk_6 (dk_at dksX9_does_2 9 rfl rfl)
theorem dX9_does_42 : decode cX9_does 42 = .ok (.iaload, 1) := dk_46 (dk_at dksX9_does_2 10 rfl rfl)
theorem dX9_does_43 : decode cX9_does 43 = .ok (.aload_n 2, 1) := dk_44 (dk_at dksX9_does_2 11 rfl rfl)
theorem dX9_does_44 : decode cX9_does 44 = .ok (.iconst 4, 1) := dk_7 (dk_at dksX9_does_2 12 rfl rfl)
theorem dX9_does_45 : decode cX9_does 45 = .ok (.iaload, 1) := dk_46 (dk_at dksX9_does_2 13 rfl rfl)
theorem dX9_does_46 : decode cX9_does 46 = .ok (.invokevirtual 286, 3) := dk_182 1 30 (dk_at dksX9_does_2 14 rfl rfl)
theorem dX9_does_49 : decode cX9_does 49 = .ok (.ireturn, 1) := dk_172 (dk_at dksX9_does_2 17 rfl rfl)
theorem dX9_does_50 : decode cX9_does 50 = .ok (.aload_n 1, 1) := dk_43 (dk_at dksX9_does_2 18 rfl rfl)
theorem dX9_does_51 : decode cX9_does 51 = .ok (.aload_n 2, 1) := dk_44 (dk_at dksX9_does_2 19 rfl rfl)
theorem dX9_does_52 : decode cX9_does 52 = .ok (.iconst 1, 1) := dk_4 (dk_at dksX9_does_2 20 rfl rfl)
theorem dX9_does_53 : decode cX9_does 53 = .ok (.iaload, 1) := dk_46 (dk_at dksX9_does_2 21 rfl rfl)
theorem dX9_does_54 : decode cX9_does 54 = .ok (.invokestatic 289, 3) := dk_184 1 33 (dk_at dksX9_does_3 0 rfl rfl)
theorem dX9_does_57 : decode cX9_does 57 = .ok (.ireturn, 1) := dk_172 (dk_at dksX9_does_3 3 rfl rfl)
theorem dX9_does_58 : decode cX9_does 58 = .ok (.aload_n 1, 1) := dk_43 (dk_at dksX9_does_3 4 rfl rfl)
theorem dX9_does_59 : decode cX9_does 59 = .ok (.aload_n 2, 1) := dk_44 (dk_at dksX9_does_3 5 rfl rfl)
theorem dX9_does_60 : decode cX9_does 60 = .ok (.iconst 1, 1) := dk_4 (dk_at dksX9_does_3 6 rfl rfl)
theorem dX9_does_61 : decode cX9_does 61 = .ok (.iaload, 1) := dk_46 (dk_at dksX9_does_3 7 rfl rfl)
theorem dX9_does_62 : decode cX9_does 62 = .ok (.aload_n 2, 1) := dk_44 (dk_at dksX9_does_3 8 rfl rfl)
theorem dX9_does_63 : decode cX9_does 63 = .ok (.iconst 2, 1) := dk_5 (dk_at dksX9_does_3 9 rfl rfl)
theorem dX9_does_64 : decode cX9_does 64 = .ok (.iaload, 1) := dk_46 (dk_at dksX9_does_3 10 rfl rfl)
theorem dX9_does_65 : decode cX9_does 65 = .ok (.invokestatic 293, 3) := dk_184 1 37 (dk_at dksX9_does_3 11 rfl rfl)
theorem dX9_does_68 : decode cX9_does 68 = .ok (.ireturn, 1) := dk_172 (dk_at dksX9_does_3 14 rfl rfl)
theorem dX9_does_69 : decode cX9_does 69 = .ok (.aload_n 1, 1) := dk_43 (dk_at dksX9_does_3 15 rfl rfl)
theorem dX9_does_70 : decode cX9_does 70 = .ok (.bipush 57, 2) := dk_16 57 (dk_at dksX9_does_3 16 rfl rfl)
theorem dX9_does_72 : decode cX9_does 72 = .ok (.iaload, 1) := dk_46 (dk_at dksX9_does_3 18 rfl rfl)
theorem dX9_does_73 : decode cX9_does 73 = .ok (.bipush 9, 2) := dk_16 9 (dk_at dksX9_does_3 19 rfl rfl)
theorem dX9_does_75 : decode cX9_does 75 = .ok (.if_icmp .ne 5, 3) := dk_160 0 5 (dk_at dksX9_does_3 21 rfl rfl)
theorem dX9_does_78 : decode cX9_does 78 = .ok (.iconst 0, 1) := dk_3 (dk_at dksX9_does_4 0 rfl rfl)
theorem dX9_does_79 : decode cX9_does 79 = .ok (.ireturn, 1) := dk_172 (dk_at dksX9_does_4 1 rfl rfl)
theorem dX9_does_80 : decode cX9_does 80 = .ok (.aload_n 1, 1) := dk_43 (dk_at dksX9_does_4 2 rfl rfl)
theorem dX9_does_81 : decode cX9_does 81 = .ok (.bipush 57, 2) := dk_16 57 (dk_at dksX9_does_4 3 rfl rfl)
theorem dX9_does_83 : decode cX9_does 83 = .ok (.bipush 18, 2) := dk_16 18 (dk_at dksX9_does_4 5 rfl rfl)
theorem dX9_does_85 : decode cX9_does 85 = .ok (.aload_n 1, 1) := dk_43 (dk_at dksX9_does_4 7 rfl rfl)
theorem dX9_does_86 : decode cX9_does 86 = .ok (.bipush 57, 2) := dk_16 57 (dk_at dksX9_does_4 8 rfl rfl)
theorem dX9_does_88 : decode cX9_does 88 = .ok (.iaload, 1) := dk_46 (dk_at dksX9_does_4 10 rfl rfl)
theorem dX9_does_89 : decode cX9_does 89 = .ok (.isub, 1) := dk_100 (dk_at dksX9_does_4 11 rfl rfl)
theorem dX9_does_90 : decode cX9_does 90 = .ok (.iastore, 1) := dk_79 (dk_at dksX9_does_4 12 rfl rfl)
theorem dX9_does_91 : decode cX9_does 91 = .ok (.iconst 1, 1) := dk_4 (dk_at dksX9_does_4 13 rfl rfl)
theorem dX9_does_92 : decode cX9_does 92 = .ok (.ireturn, 1) := dk_172 (dk_at dksX9_does_4 14 rfl rfl)
theorem dX9_does_93 : decode cX9_does 93 = .ok (.aload_n 1, 1) := dk_43 (dk_at dksX9_does_4 15 rfl rfl)
theorem dX9_does_94 : decode cX9_does 94 = .ok (.bipush 59, 2) := dk_16 59 (dk_at dksX9_does_4 16 rfl rfl)
theorem dX9_does_96 : decode cX9_does 96 = .ok (.iaload, 1) := dk_46 (dk_at dksX9_does_4 18 rfl rfl)
theorem dX9_does_97 : decode cX9_does 97 = .ok (.sipush 300, 3) := dk_17 1 44 (dk_at dksX9_does_4 19 rfl rfl)
theorem dX9_does_100 : decode cX9_does 100 = .ok (.if_icmp .lt 5, 3) := dk_161 0 5 (dk_at dksX9_does_5 0 rfl rfl)
theorem dX9_does_103 : decode cX9_does 103 = .ok (.iconst 0, 1) := dk_3 (dk_at dksX9_does_5 3 rfl rfl)
theorem dX9_does_104 : decode cX9_does 104 = .ok (.ireturn, 1) := dk_172 (dk_at dksX9_does_5 4 rfl rfl)
theorem dX9_does_105 : decode cX9_does 105 = .ok (.aload_n 0, 1) := dk_42 (dk_at dksX9_does_5 5 rfl rfl)
theorem dX9_does_106 : decode cX9_does 106 = .ok (.aload_n 1, 1) := dk_43 (dk_at dksX9_does_5 6 rfl rfl)
theorem dX9_does_107 : decode cX9_does 107 = .ok (.invokevirtual 297, 3) := dk_182 1 41 (dk_at dksX9_does_5 7 rfl rfl)
theorem dX9_does_110 : decode cX9_does 110 = .ok (.iconst 1, 1) := dk_4 (dk_at dksX9_does_5 10 rfl rfl)
theorem dX9_does_111 : decode cX9_does 111 = .ok (.ireturn, 1) := dk_172 (dk_at dksX9_does_5 11 rfl rfl)
def dkwX9_weighs_5 : List UInt8 := [43, 21, 4, 21, 5, 28, 29, 184, 1, 23, 4, 172]
abbrev dktX9_weighs_5 : List UInt8 := dkwX9_weighs_5 ++ []
def dkwX9_weighs_4 : List UInt8 := [96, 79, 21, 6, 4, 160, 0, 13, 43, 28, 29, 21, 4, 21, 5, 184, 1, 23, 21, 6, 5, 160, 0, 13]
abbrev dktX9_weighs_4 : List UInt8 := dkwX9_weighs_4 ++ dktX9_weighs_5
def dkwX9_weighs_3 : List UInt8 := [28, 96, 92, 46, 4, 96, 79, 43, 16, 8, 21, 4, 96, 92, 46, 4, 96, 79, 43, 16, 58, 92, 46, 4]
abbrev dktX9_weighs_3 : List UInt8 := dkwX9_weighs_3 ++ dktX9_weighs_4
def dkwX9_weighs_2 : List UInt8 := [21, 6, 5, 160, 0, 18, 43, 21, 4, 21, 5, 28, 29, 184, 1, 19, 153, 0, 5, 3, 172, 43, 16, 8]
abbrev dktX9_weighs_2 : List UInt8 := dkwX9_weighs_2 ++ dktX9_weighs_3
def dkwX9_weighs_1 : List UInt8 := [16, 10, 159, 0, 41, 21, 6, 4, 160, 0, 16, 43, 28, 29, 21, 4, 21, 5, 184, 1, 19, 154, 0, 22]
abbrev dktX9_weighs_1 : List UInt8 := dkwX9_weighs_1 ++ dktX9_weighs_2
def dkwX9_weighs_0 : List UInt8 := [42, 43, 28, 29, 21, 4, 21, 5, 182, 1, 15, 54, 6, 28, 21, 4, 159, 0, 50, 43, 16, 56, 46]
abbrev dktX9_weighs_0 : List UInt8 := dkwX9_weighs_0 ++ dktX9_weighs_1
theorem dksX9_weighs_0 : cX9_weighs.data.toList.drop 0 = dktX9_weighs_0 := by decide +kernel
theorem dksX9_weighs_1 : cX9_weighs.data.toList.drop 23 = dktX9_weighs_1 := dk_seg dksX9_weighs_0 23 rfl rfl
theorem dksX9_weighs_2 : cX9_weighs.data.toList.drop 47 = dktX9_weighs_2 := dk_seg dksX9_weighs_1 24 rfl rfl
theorem dksX9_weighs_3 : cX9_weighs.data.toList.drop 71 = dktX9_weighs_3 := dk_seg dksX9_weighs_2 24 rfl rfl
theorem dksX9_weighs_4 : cX9_weighs.data.toList.drop 95 = dktX9_weighs_4 := dk_seg dksX9_weighs_3 24 rfl rfl
theorem dksX9_weighs_5 : cX9_weighs.data.toList.drop 119 = dktX9_weighs_5 := dk_seg dksX9_weighs_4 24 rfl rfl
theorem dX9_weighs_0 : decode cX9_weighs 0 = .ok (.aload_n 0, 1) := dk_42 (dk_at dksX9_weighs_0 0 rfl rfl)
theorem dX9_weighs_1 : decode cX9_weighs 1 = .ok (.aload_n 1, 1) := dk_43 (dk_at dksX9_weighs_0 1 rfl rfl)
theorem dX9_weighs_2 : decode cX9_weighs 2 = .ok (.iload_n 2, 1) := dk_28 (dk_at dksX9_weighs_0 2 rfl rfl)
theorem dX9_weighs_3 : decode cX9_weighs 3 = .ok (.iload_n 3, 1) := dk_29 (dk_at dksX9_weighs_0 3 rfl rfl)
theorem dX9_weighs_4 : decode cX9_weighs 4 = .ok (.iload 4, 2) := dk_21 4 (dk_at dksX9_weighs_0 4 rfl rfl)
theorem dX9_weighs_6 : decode cX9_weighs 6 = .ok (.iload 5, 2) := dk_21 5 (dk_at dksX9_weighs_0 6 rfl rfl)
theorem dX9_weighs_8 : decode cX9_weighs 8 = .ok (.invokevirtual 271, 3) := dk_182 1 15 (dk_at dksX9_weighs_0 8 rfl rfl)
theorem dX9_weighs_11 : decode cX9_weighs 11 = .ok (.istore 6, 2) := dk_54 6 (dk_at dksX9_weighs_0 11 rfl rfl)
theorem dX9_weighs_13 : decode cX9_weighs 13 = .ok (.iload_n 2, 1) := dk_28 (dk_at dksX9_weighs_0 13 rfl rfl)
theorem dX9_weighs_14 : decode cX9_weighs 14 = .ok (.iload 4, 2) := dk_21 4 (dk_at dksX9_weighs_0 14 rfl rfl)
theorem dX9_weighs_16 : decode cX9_weighs 16 = .ok (.if_icmp .eq 50, 3) := dk_159 0 50 (dk_at dksX9_weighs_0 16 rfl rfl)
theorem dX9_weighs_19 : decode cX9_weighs 19 = .ok (.aload_n 1, 1) := dk_43 (dk_at dksX9_weighs_0 19 rfl rfl)
theorem dX9_weighs_20 : decode cX9_weighs 20 = .ok (.bipush 56, 2) := dk_16 56 (dk_at dksX9_weighs_0 20 rfl rfl)
theorem dX9_weighs_22 : decode cX9_weighs 22 = .ok (.iaload, 1) := dk_46 (dk_at dksX9_weighs_0 22 rfl rfl)
theorem dX9_weighs_23 : decode cX9_weighs 23 = .ok (.bipush 10, 2) := dk_16 10 (dk_at dksX9_weighs_1 0 rfl rfl)
theorem dX9_weighs_25 : decode cX9_weighs 25 = .ok (.if_icmp .eq 41, 3) := dk_159 0 41 (dk_at dksX9_weighs_1 2 rfl rfl)
theorem dX9_weighs_28 : decode cX9_weighs 28 = .ok (.iload 6, 2) := dk_21 6 (dk_at dksX9_weighs_1 5 rfl rfl)
theorem dX9_weighs_30 : decode cX9_weighs 30 = .ok (.iconst 1, 1) := dk_4 (dk_at dksX9_weighs_1 7 rfl rfl)
theorem dX9_weighs_31 : decode cX9_weighs 31 = .ok (.if_icmp .ne 16, 3) := dk_160 0 16 (dk_at dksX9_weighs_1 8 rfl rfl)
theorem dX9_weighs_34 : decode cX9_weighs 34 = .ok (.aload_n 1, 1) := dk_43 (dk_at dksX9_weighs_1 11 rfl rfl)
theorem dX9_weighs_35 : decode cX9_weighs 35 = .ok (.iload_n 2, 1) := dk_28 (dk_at dksX9_weighs_1 12 rfl rfl)
theorem dX9_weighs_36 : decode cX9_weighs 36 = .ok (.iload_n 3, 1) := dk_29 (dk_at dksX9_weighs_1 13 rfl rfl)
theorem dX9_weighs_37 : decode cX9_weighs 37 = .ok (.iload 4, 2) := dk_21 4 (dk_at dksX9_weighs_1 14 rfl rfl)
theorem dX9_weighs_39 : decode cX9_weighs 39 = .ok (.iload 5, 2) := dk_21 5 (dk_at dksX9_weighs_1 16 rfl rfl)
theorem dX9_weighs_41 : decode cX9_weighs 41 = .ok (.invokestatic 275, 3) := dk_184 1 19 (dk_at dksX9_weighs_1 18 rfl rfl)
theorem dX9_weighs_44 : decode cX9_weighs 44 = .ok (.ifCond .ne 22, 3) := dk_154 0 22 (dk_at dksX9_weighs_1 21 rfl rfl)
theorem dX9_weighs_47 : decode cX9_weighs 47 = .ok (.iload 6, 2) := dk_21 6 (dk_at dksX9_weighs_2 0 rfl rfl)
theorem dX9_weighs_49 : decode cX9_weighs 49 = .ok (.iconst 2, 1) := dk_5 (dk_at dksX9_weighs_2 2 rfl rfl)
theorem dX9_weighs_50 : decode cX9_weighs 50 = .ok (.if_icmp .ne 18, 3) := dk_160 0 18 (dk_at dksX9_weighs_2 3 rfl rfl)
theorem dX9_weighs_53 : decode cX9_weighs 53 = .ok (.aload_n 1, 1) := dk_43 (dk_at dksX9_weighs_2 6 rfl rfl)
theorem dX9_weighs_54 : decode cX9_weighs 54 = .ok (.iload 4, 2) := dk_21 4 (dk_at dksX9_weighs_2 7 rfl rfl)
theorem dX9_weighs_56 : decode cX9_weighs 56 = .ok (.iload 5, 2) := dk_21 5 (dk_at dksX9_weighs_2 9 rfl rfl)
theorem dX9_weighs_58 : decode cX9_weighs 58 = .ok (.iload_n 2, 1) := dk_28 (dk_at dksX9_weighs_2 11 rfl rfl)
theorem dX9_weighs_59 : decode cX9_weighs 59 = .ok (.iload_n 3, 1) := dk_29 (dk_at dksX9_weighs_2 12 rfl rfl)
theorem dX9_weighs_60 : decode cX9_weighs 60 = .ok (.invokestatic 275, 3) := dk_184 1 19 (dk_at dksX9_weighs_2 13 rfl rfl)
theorem dX9_weighs_63 : decode cX9_weighs 63 = .ok (.ifCond .eq 5, 3) := dk_153 0 5 (dk_at dksX9_weighs_2 16 rfl rfl)
theorem dX9_weighs_66 : decode cX9_weighs 66 = .ok (.iconst 0, 1) := dk_3 (dk_at dksX9_weighs_2 19 rfl rfl)
theorem dX9_weighs_67 : decode cX9_weighs 67 = .ok (.ireturn, 1) := dk_172 (dk_at dksX9_weighs_2 20 rfl rfl)
theorem dX9_weighs_68 : decode cX9_weighs 68 = .ok (.aload_n 1, 1) := dk_43 (dk_at dksX9_weighs_2 21 rfl rfl)
theorem dX9_weighs_69 : decode cX9_weighs 69 = .ok (.bipush 8, 2) := dk_16 8 (dk_at dksX9_weighs_2 22 rfl rfl)
theorem dX9_weighs_71 : decode cX9_weighs 71 = .ok (.iload_n 2, 1) := dk_28 (dk_at dksX9_weighs_3 0 rfl rfl)
theorem dX9_weighs_72 : decode cX9_weighs 72 = .ok (.iadd, 1) := dk_96 (dk_at dksX9_weighs_3 1 rfl rfl)
theorem dX9_weighs_73 : decode cX9_weighs 73 = .ok (.dup2, 1) := dk_92 (dk_at dksX9_weighs_3 2 rfl rfl)
theorem dX9_weighs_74 : decode cX9_weighs 74 = .ok (.iaload, 1) := dk_46 (dk_at dksX9_weighs_3 3 rfl rfl)
theorem dX9_weighs_75 : decode cX9_weighs 75 = .ok (.iconst 1, 1) := dk_4 (dk_at dksX9_weighs_3 4 rfl rfl)
theorem dX9_weighs_76 : decode cX9_weighs 76 = .ok (.iadd, 1) := dk_96 (dk_at dksX9_weighs_3 5 rfl rfl)
theorem dX9_weighs_77 : decode cX9_weighs 77 = .ok (.iastore, 1) := dk_79 (dk_at dksX9_weighs_3 6 rfl rfl)
theorem dX9_weighs_78 : decode cX9_weighs 78 = .ok (.aload_n 1, 1) := dk_43 (dk_at dksX9_weighs_3 7 rfl rfl)
theorem dX9_weighs_79 : decode cX9_weighs 79 = .ok (.bipush 8, 2) := dk_16 8 (dk_at dksX9_weighs_3 8 rfl rfl)
theorem dX9_weighs_81 : decode cX9_weighs 81 = .ok (.iload 4, 2) := dk_21 4 (dk_at dksX9_weighs_3 10 rfl rfl)
theorem dX9_weighs_83 : decode cX9_weighs 83 = .ok (.iadd, 1) := dk_96 (dk_at dksX9_weighs_3 12 rfl rfl)
theorem dX9_weighs_84 : decode cX9_weighs 84 = .ok (.dup2, 1) := dk_92 (dk_at dksX9_weighs_3 13 rfl rfl)
theorem dX9_weighs_85 : decode cX9_weighs 85 = .ok (.iaload, 1) := dk_46 (dk_at dksX9_weighs_3 14 rfl rfl)
theorem dX9_weighs_86 : decode cX9_weighs 86 = .ok (.iconst 1, 1) := dk_4 (dk_at dksX9_weighs_3 15 rfl rfl)
theorem dX9_weighs_87 : decode cX9_weighs 87 = .ok (.iadd, 1) := dk_96 (dk_at dksX9_weighs_3 16 rfl rfl)
theorem dX9_weighs_88 : decode cX9_weighs 88 = .ok (.iastore, 1) := dk_79 (dk_at dksX9_weighs_3 17 rfl rfl)
theorem dX9_weighs_89 : decode cX9_weighs 89 = .ok (.aload_n 1, 1) := dk_43 (dk_at dksX9_weighs_3 18 rfl rfl)
theorem dX9_weighs_90 : decode cX9_weighs 90 = .ok (.bipush 58, 2) := dk_16 58 (dk_at dksX9_weighs_3 19 rfl rfl)
theorem dX9_weighs_92 : decode cX9_weighs 92 = .ok (.dup2, 1) := dk_92 (dk_at dksX9_weighs_3 21 rfl rfl)
theorem dX9_weighs_93 : decode cX9_weighs 93 = .ok (.iaload, 1) := dk_46 (dk_at dksX9_weighs_3 22 rfl rfl)
theorem dX9_weighs_94 : decode cX9_weighs 94 = .ok (.iconst 1, 1) := dk_4 (dk_at dksX9_weighs_3 23 rfl rfl)
theorem dX9_weighs_95 : decode cX9_weighs 95 = .ok (.iadd, 1) := dk_96 (dk_at dksX9_weighs_4 0 rfl rfl)
theorem dX9_weighs_96 : decode cX9_weighs 96 = .ok (.iastore, 1) := dk_79 (dk_at dksX9_weighs_4 1 rfl rfl)
theorem dX9_weighs_97 : decode cX9_weighs 97 = .ok (.iload 6, 2) := dk_21 6 (dk_at dksX9_weighs_4 2 rfl rfl)
theorem dX9_weighs_99 : decode cX9_weighs 99 = .ok (.iconst 1, 1) := dk_4 (dk_at dksX9_weighs_4 4 rfl rfl)
theorem dX9_weighs_100 : decode cX9_weighs 100 = .ok (.if_icmp .ne 13, 3) := dk_160 0 13 (dk_at dksX9_weighs_4 5 rfl rfl)
theorem dX9_weighs_103 : decode cX9_weighs 103 = .ok (.aload_n 1, 1) := dk_43 (dk_at dksX9_weighs_4 8 rfl rfl)
theorem dX9_weighs_104 : decode cX9_weighs 104 = .ok (.iload_n 2, 1) := dk_28 (dk_at dksX9_weighs_4 9 rfl rfl)
theorem dX9_weighs_105 : decode cX9_weighs 105 = .ok (.iload_n 3, 1) := dk_29 (dk_at dksX9_weighs_4 10 rfl rfl)
theorem dX9_weighs_106 : decode cX9_weighs 106 = .ok (.iload 4, 2) := dk_21 4 (dk_at dksX9_weighs_4 11 rfl rfl)
theorem dX9_weighs_108 : decode cX9_weighs 108 = .ok (.iload 5, 2) := dk_21 5 (dk_at dksX9_weighs_4 13 rfl rfl)
theorem dX9_weighs_110 : decode cX9_weighs 110 = .ok (.invokestatic 279, 3) := dk_184 1 23 (dk_at dksX9_weighs_4 15 rfl rfl)
theorem dX9_weighs_113 : decode cX9_weighs 113 = .ok (.iload 6, 2) := dk_21 6 (dk_at dksX9_weighs_4 18 rfl rfl)
theorem dX9_weighs_115 : decode cX9_weighs 115 = .ok (.iconst 2, 1) := dk_5 (dk_at dksX9_weighs_4 20 rfl rfl)
theorem dX9_weighs_116 : decode cX9_weighs 116 = .ok (.if_icmp .ne 13, 3) := dk_160 0 13 (dk_at dksX9_weighs_4 21 rfl rfl)
theorem dX9_weighs_119 : decode cX9_weighs 119 = .ok (.aload_n 1, 1) := dk_43 (dk_at dksX9_weighs_5 0 rfl rfl)
theorem dX9_weighs_120 : decode cX9_weighs 120 = .ok (.iload 4, 2) := dk_21 4 (dk_at dksX9_weighs_5 1 rfl rfl)
theorem dX9_weighs_122 : decode cX9_weighs 122 = .ok (.iload 5, 2) := dk_21 5 (dk_at dksX9_weighs_5 3 rfl rfl)
theorem dX9_weighs_124 : decode cX9_weighs 124 = .ok (.iload_n 2, 1) := dk_28 (dk_at dksX9_weighs_5 5 rfl rfl)
theorem dX9_weighs_125 : decode cX9_weighs 125 = .ok (.iload_n 3, 1) := dk_29 (dk_at dksX9_weighs_5 6 rfl rfl)
theorem dX9_weighs_126 : decode cX9_weighs 126 = .ok (.invokestatic 279, 3) := dk_184 1 23 (dk_at dksX9_weighs_5 7 rfl rfl)
theorem dX9_weighs_129 : decode cX9_weighs 129 = .ok (.iconst 1, 1) := dk_4 (dk_at dksX9_weighs_5 10 rfl rfl)
theorem dX9_weighs_130 : decode cX9_weighs 130 = .ok (.ireturn, 1) := dk_172 (dk_at dksX9_weighs_5 11 rfl rfl)
def dkwX9_standsIn_1 : List UInt8 := [6, 46, 184, 1, 11, 172]
abbrev dktX9_standsIn_1 : List UInt8 := dkwX9_standsIn_1 ++ []
def dkwX9_standsIn_0 : List UInt8 := [43, 3, 28, 96, 46, 29, 104, 43, 3, 21, 4, 96, 46, 21, 5, 104, 43, 16, 57, 46, 42, 180, 0, 23]
abbrev dktX9_standsIn_0 : List UInt8 := dkwX9_standsIn_0 ++ dktX9_standsIn_1
theorem dksX9_standsIn_0 : cX9_standsIn.data.toList.drop 0 = dktX9_standsIn_0 := by decide +kernel
theorem dksX9_standsIn_1 : cX9_standsIn.data.toList.drop 24 = dktX9_standsIn_1 := dk_seg dksX9_standsIn_0 24 rfl rfl
theorem dX9_standsIn_0 : decode cX9_standsIn 0 = .ok (.aload_n 1, 1) := dk_43 (dk_at dksX9_standsIn_0 0 rfl rfl)
theorem dX9_standsIn_1 : decode cX9_standsIn 1 = .ok (.iconst 0, 1) := dk_3 (dk_at dksX9_standsIn_0 1 rfl rfl)
theorem dX9_standsIn_2 : decode cX9_standsIn 2 = .ok (.iload_n 2, 1) := dk_28 (dk_at dksX9_standsIn_0 2 rfl rfl)
theorem dX9_standsIn_3 : decode cX9_standsIn 3 = .ok (.iadd, 1) := dk_96 (dk_at dksX9_standsIn_0 3 rfl rfl)
theorem dX9_standsIn_4 : decode cX9_standsIn 4 = .ok (.iaload, 1) := dk_46 (dk_at dksX9_standsIn_0 4 rfl rfl)
theorem dX9_standsIn_5 : decode cX9_standsIn 5 = .ok (.iload_n 3, 1) := dk_29 (dk_at dksX9_standsIn_0 5 rfl rfl)
theorem dX9_standsIn_6 : decode cX9_standsIn 6 = .ok (.imul, 1) := dk_104 (dk_at dksX9_standsIn_0 6 rfl rfl)
theorem dX9_standsIn_7 : decode cX9_standsIn 7 = .ok (.aload_n 1, 1) := dk_43 (dk_at dksX9_standsIn_0 7 rfl rfl)
theorem dX9_standsIn_8 : decode cX9_standsIn 8 = .ok (.iconst 0, 1) := dk_3 (dk_at dksX9_standsIn_0 8 rfl rfl)
theorem dX9_standsIn_9 : decode cX9_standsIn 9 = .ok (.iload 4, 2) := dk_21 4 (dk_at dksX9_standsIn_0 9 rfl rfl)
theorem dX9_standsIn_11 : decode cX9_standsIn 11 = .ok (.iadd, 1) := dk_96 (dk_at dksX9_standsIn_0 11 rfl rfl)
theorem dX9_standsIn_12 : decode cX9_standsIn 12 = .ok (.iaload, 1) := dk_46 (dk_at dksX9_standsIn_0 12 rfl rfl)
theorem dX9_standsIn_13 : decode cX9_standsIn 13 = .ok (.iload 5, 2) := dk_21 5 (dk_at dksX9_standsIn_0 13 rfl rfl)
theorem dX9_standsIn_15 : decode cX9_standsIn 15 = .ok (.imul, 1) := dk_104 (dk_at dksX9_standsIn_0 15 rfl rfl)
theorem dX9_standsIn_16 : decode cX9_standsIn 16 = .ok (.aload_n 1, 1) := dk_43 (dk_at dksX9_standsIn_0 16 rfl rfl)
theorem dX9_standsIn_17 : decode cX9_standsIn 17 = .ok (.bipush 57, 2) := dk_16 57 (dk_at dksX9_standsIn_0 17 rfl rfl)
theorem dX9_standsIn_19 : decode cX9_standsIn 19 = .ok (.iaload, 1) := dk_46 (dk_at dksX9_standsIn_0 19 rfl rfl)
theorem dX9_standsIn_20 : decode cX9_standsIn 20 = .ok (.aload_n 0, 1) := dk_42 (dk_at dksX9_standsIn_0 20 rfl rfl)
theorem dX9_standsIn_21 : decode cX9_standsIn 21 = .ok (.getfield 23, 3) := dk_180 0 23 (dk_at dksX9_standsIn_0 21 rfl rfl)
theorem dX9_standsIn_24 : decode cX9_standsIn 24 = .ok (.iconst 3, 1) := dk_6 (dk_at dksX9_standsIn_1 0 rfl rfl)
theorem dX9_standsIn_25 : decode cX9_standsIn 25 = .ok (.iaload, 1) := dk_46 (dk_at dksX9_standsIn_1 1 rfl rfl)
theorem dX9_standsIn_26 : decode cX9_standsIn 26 = .ok (.invokestatic 267, 3) := dk_184 1 11 (dk_at dksX9_standsIn_1 2 rfl rfl)
theorem dX9_standsIn_29 : decode cX9_standsIn 29 = .ok (.ireturn, 1) := dk_172 (dk_at dksX9_standsIn_1 5 rfl rfl)
def dkwX9_standsBy_1 : List UInt8 := [164, 0, 7, 5, 167, 0, 4, 3, 172]
abbrev dktX9_standsBy_1 : List UInt8 := dkwX9_standsBy_1 ++ []
def dkwX9_standsBy_0 : List UInt8 := [26, 28, 96, 16, 9, 100, 27, 100, 54, 4, 21, 4, 29, 164, 0, 7, 4, 167, 0, 15, 21, 4, 116, 29]
abbrev dktX9_standsBy_0 : List UInt8 := dkwX9_standsBy_0 ++ dktX9_standsBy_1
theorem dksX9_standsBy_0 : cX9_standsBy.data.toList.drop 0 = dktX9_standsBy_0 := by decide +kernel
theorem dksX9_standsBy_1 : cX9_standsBy.data.toList.drop 24 = dktX9_standsBy_1 := dk_seg dksX9_standsBy_0 24 rfl rfl
theorem dX9_standsBy_0 : decode cX9_standsBy 0 = .ok (.iload_n 0, 1) := dk_26 (dk_at dksX9_standsBy_0 0 rfl rfl)
theorem dX9_standsBy_1 : decode cX9_standsBy 1 = .ok (.iload_n 2, 1) := dk_28 (dk_at dksX9_standsBy_0 1 rfl rfl)
theorem dX9_standsBy_2 : decode cX9_standsBy 2 = .ok (.iadd, 1) := dk_96 (dk_at dksX9_standsBy_0 2 rfl rfl)
theorem dX9_standsBy_3 : decode cX9_standsBy 3 = .ok (.bipush 9, 2) := dk_16 9 (dk_at dksX9_standsBy_0 3 rfl rfl)
theorem dX9_standsBy_5 : decode cX9_standsBy 5 = .ok (.isub, 1) := dk_100 (dk_at dksX9_standsBy_0 5 rfl rfl)
theorem dX9_standsBy_6 : decode cX9_standsBy 6 = .ok (.iload_n 1, 1) := dk_27 (dk_at dksX9_standsBy_0 6 rfl rfl)
theorem dX9_standsBy_7 : decode cX9_standsBy 7 = .ok (.isub, 1) := dk_100 (dk_at dksX9_standsBy_0 7 rfl rfl)
theorem dX9_standsBy_8 : decode cX9_standsBy 8 = .ok (.istore 4, 2) := dk_54 4 (dk_at dksX9_standsBy_0 8 rfl rfl)
theorem dX9_standsBy_10 : decode cX9_standsBy 10 = .ok (.iload 4, 2) := dk_21 4 (dk_at dksX9_standsBy_0 10 rfl rfl)
theorem dX9_standsBy_12 : decode cX9_standsBy 12 = .ok (.iload_n 3, 1) := dk_29 (dk_at dksX9_standsBy_0 12 rfl rfl)
theorem dX9_standsBy_13 : decode cX9_standsBy 13 = .ok (.if_icmp .le 7, 3) := dk_164 0 7 (dk_at dksX9_standsBy_0 13 rfl rfl)
theorem dX9_standsBy_16 : decode cX9_standsBy 16 = .ok (.iconst 1, 1) := dk_4 (dk_at dksX9_standsBy_0 16 rfl rfl)
theorem dX9_standsBy_17 : decode cX9_standsBy 17 = .ok (.goto 15, 3) := dk_167 0 15 (dk_at dksX9_standsBy_0 17 rfl rfl)
theorem dX9_standsBy_20 : decode cX9_standsBy 20 = .ok (.iload 4, 2) := dk_21 4 (dk_at dksX9_standsBy_0 20 rfl rfl)
theorem dX9_standsBy_22 : decode cX9_standsBy 22 = .ok (.ineg, 1) := dk_116 (dk_at dksX9_standsBy_0 22 rfl rfl)
theorem dX9_standsBy_23 : decode cX9_standsBy 23 = .ok (.iload_n 3, 1) := dk_29 (dk_at dksX9_standsBy_0 23 rfl rfl)
theorem dX9_standsBy_24 : decode cX9_standsBy 24 = .ok (.if_icmp .le 7, 3) := dk_164 0 7 (dk_at dksX9_standsBy_1 0 rfl rfl)
theorem dX9_standsBy_27 : decode cX9_standsBy 27 = .ok (.iconst 2, 1) := dk_5 (dk_at dksX9_standsBy_1 3 rfl rfl)
theorem dX9_standsBy_28 : decode cX9_standsBy 28 = .ok (.goto 4, 3) := dk_167 0 4 (dk_at dksX9_standsBy_1 4 rfl rfl)
theorem dX9_standsBy_31 : decode cX9_standsBy 31 = .ok (.iconst 0, 1) := dk_3 (dk_at dksX9_standsBy_1 7 rfl rfl)
theorem dX9_standsBy_32 : decode cX9_standsBy 32 = .ok (.ireturn, 1) := dk_172 (dk_at dksX9_standsBy_1 8 rfl rfl)
def dkwX9_isCry_3 : List UInt8 := [160, 0, 5, 4, 172, 132, 5, 1, 167, 255, 183, 3, 172]
abbrev dktX9_isCry_3 : List UInt8 := dkwX9_isCry_3 ++ []
def dkwX9_isCry_2 : List UInt8 := [104, 96, 5, 96, 46, 29, 160, 0, 21, 42, 16, 16, 7, 21, 5, 104, 96, 6, 96, 46, 21, 4]
abbrev dktX9_isCry_2 : List UInt8 := dkwX9_isCry_2 ++ dktX9_isCry_3
def dkwX9_isCry_1 : List UInt8 := [160, 0, 51, 42, 16, 16, 7, 21, 5, 104, 96, 4, 96, 46, 28, 160, 0, 36, 42, 16, 16, 7, 21, 5]
abbrev dktX9_isCry_1 : List UInt8 := dkwX9_isCry_1 ++ dktX9_isCry_2
def dkwX9_isCry_0 : List UInt8 := [3, 54, 5, 21, 5, 42, 16, 56, 46, 162, 0, 70, 42, 16, 16, 7, 21, 5, 104, 96, 46, 27]
abbrev dktX9_isCry_0 : List UInt8 := dkwX9_isCry_0 ++ dktX9_isCry_1
theorem dksX9_isCry_0 : cX9_isCry.data.toList.drop 0 = dktX9_isCry_0 := by decide +kernel
theorem dksX9_isCry_1 : cX9_isCry.data.toList.drop 22 = dktX9_isCry_1 := dk_seg dksX9_isCry_0 22 rfl rfl
theorem dksX9_isCry_2 : cX9_isCry.data.toList.drop 46 = dktX9_isCry_2 := dk_seg dksX9_isCry_1 24 rfl rfl
theorem dksX9_isCry_3 : cX9_isCry.data.toList.drop 68 = dktX9_isCry_3 := dk_seg dksX9_isCry_2 22 rfl rfl
theorem dX9_isCry_0 : decode cX9_isCry 0 = .ok (.iconst 0, 1) := dk_3 (dk_at dksX9_isCry_0 0 rfl rfl)
theorem dX9_isCry_1 : decode cX9_isCry 1 = .ok (.istore 5, 2) := dk_54 5 (dk_at dksX9_isCry_0 1 rfl rfl)
theorem dX9_isCry_3 : decode cX9_isCry 3 = .ok (.iload 5, 2) := dk_21 5 (dk_at dksX9_isCry_0 3 rfl rfl)
theorem dX9_isCry_5 : decode cX9_isCry 5 = .ok (.aload_n 0, 1) := dk_42 (dk_at dksX9_isCry_0 5 rfl rfl)
theorem dX9_isCry_6 : decode cX9_isCry 6 = .ok (.bipush 56, 2) := dk_16 56 (dk_at dksX9_isCry_0 6 rfl rfl)
theorem dX9_isCry_8 : decode cX9_isCry 8 = .ok (.iaload, 1) := dk_46 (dk_at dksX9_isCry_0 8 rfl rfl)
theorem dX9_isCry_9 : decode cX9_isCry 9 = .ok (.if_icmp .ge 70, 3) := dk_162 0 70 (dk_at dksX9_isCry_0 9 rfl rfl)
theorem dX9_isCry_12 : decode cX9_isCry 12 = .ok (.aload_n 0, 1) := dk_42 (dk_at dksX9_isCry_0 12 rfl rfl)
theorem dX9_isCry_13 : decode cX9_isCry 13 = .ok (.bipush 16, 2) := dk_16 16 (dk_at dksX9_isCry_0 13 rfl rfl)
theorem dX9_isCry_15 : decode cX9_isCry 15 = .ok (.iconst 4, 1) := dk_7 (dk_at dksX9_isCry_0 15 rfl rfl)
theorem dX9_isCry_16 : decode cX9_isCry 16 = .ok (.iload 5, 2) := dk_21 5 (dk_at dksX9_isCry_0 16 rfl rfl)
theorem dX9_isCry_18 : decode cX9_isCry 18 = .ok (.imul, 1) := dk_104 (dk_at dksX9_isCry_0 18 rfl rfl)
theorem dX9_isCry_19 : decode cX9_isCry 19 = .ok (.iadd, 1) := dk_96 (dk_at dksX9_isCry_0 19 rfl rfl)
theorem dX9_isCry_20 : decode cX9_isCry 20 = .ok (.iaload, 1) := dk_46 (dk_at dksX9_isCry_0 20 rfl rfl)
theorem dX9_isCry_21 : decode cX9_isCry 21 = .ok (.iload_n 1, 1) := dk_27 (dk_at dksX9_isCry_0 21 rfl rfl)
theorem dX9_isCry_22 : decode cX9_isCry 22 = .ok (.if_icmp .ne 51, 3) := dk_160 0 51 (dk_at dksX9_isCry_1 0 rfl rfl)
theorem dX9_isCry_25 : decode cX9_isCry 25 = .ok (.aload_n 0, 1) := dk_42 (dk_at dksX9_isCry_1 3 rfl rfl)
theorem dX9_isCry_26 : decode cX9_isCry 26 = .ok (.bipush 16, 2) := dk_16 16 (dk_at dksX9_isCry_1 4 rfl rfl)
theorem dX9_isCry_28 : decode cX9_isCry 28 = .ok (.iconst 4, 1) := dk_7 (dk_at dksX9_isCry_1 6 rfl rfl)
theorem dX9_isCry_29 : decode cX9_isCry 29 = .ok (.iload 5, 2) := dk_21 5 (dk_at dksX9_isCry_1 7 rfl rfl)
theorem dX9_isCry_31 : decode cX9_isCry 31 = .ok (.imul, 1) := dk_104 (dk_at dksX9_isCry_1 9 rfl rfl)
theorem dX9_isCry_32 : decode cX9_isCry 32 = .ok (.iadd, 1) := dk_96 (dk_at dksX9_isCry_1 10 rfl rfl)
theorem dX9_isCry_33 : decode cX9_isCry 33 = .ok (.iconst 1, 1) := dk_4 (dk_at dksX9_isCry_1 11 rfl rfl)
theorem dX9_isCry_34 : decode cX9_isCry 34 = .ok (.iadd, 1) := dk_96 (dk_at dksX9_isCry_1 12 rfl rfl)
theorem dX9_isCry_35 : decode cX9_isCry 35 = .ok (.iaload, 1) := dk_46 (dk_at dksX9_isCry_1 13 rfl rfl)
theorem dX9_isCry_36 : decode cX9_isCry 36 = .ok (.iload_n 2, 1) := dk_28 (dk_at dksX9_isCry_1 14 rfl rfl)
theorem dX9_isCry_37 : decode cX9_isCry 37 = .ok (.if_icmp .ne 36, 3) := dk_160 0 36 (dk_at dksX9_isCry_1 15 rfl rfl)
theorem dX9_isCry_40 : decode cX9_isCry 40 = .ok (.aload_n 0, 1) := dk_42 (dk_at dksX9_isCry_1 18 rfl rfl)
theorem dX9_isCry_41 : decode cX9_isCry 41 = .ok (.bipush 16, 2) := dk_16 16 (dk_at dksX9_isCry_1 19 rfl rfl)
theorem dX9_isCry_43 : decode cX9_isCry 43 = .ok (.iconst 4, 1) := dk_7 (dk_at dksX9_isCry_1 21 rfl rfl)
theorem dX9_isCry_44 : decode cX9_isCry 44 = .ok (.iload 5, 2) := dk_21 5 (dk_at dksX9_isCry_1 22 rfl rfl)
theorem dX9_isCry_46 : decode cX9_isCry 46 = .ok (.imul, 1) := dk_104 (dk_at dksX9_isCry_2 0 rfl rfl)
theorem dX9_isCry_47 : decode cX9_isCry 47 = .ok (.iadd, 1) := dk_96 (dk_at dksX9_isCry_2 1 rfl rfl)
theorem dX9_isCry_48 : decode cX9_isCry 48 = .ok (.iconst 2, 1) := dk_5 (dk_at dksX9_isCry_2 2 rfl rfl)
theorem dX9_isCry_49 : decode cX9_isCry 49 = .ok (.iadd, 1) := dk_96 (dk_at dksX9_isCry_2 3 rfl rfl)
theorem dX9_isCry_50 : decode cX9_isCry 50 = .ok (.iaload, 1) := dk_46 (dk_at dksX9_isCry_2 4 rfl rfl)
theorem dX9_isCry_51 : decode cX9_isCry 51 = .ok (.iload_n 3, 1) := dk_29 (dk_at dksX9_isCry_2 5 rfl rfl)
theorem dX9_isCry_52 : decode cX9_isCry 52 = .ok (.if_icmp .ne 21, 3) := dk_160 0 21 (dk_at dksX9_isCry_2 6 rfl rfl)
theorem dX9_isCry_55 : decode cX9_isCry 55 = .ok (.aload_n 0, 1) := dk_42 (dk_at dksX9_isCry_2 9 rfl rfl)
theorem dX9_isCry_56 : decode cX9_isCry 56 = .ok (.bipush 16, 2) := dk_16 16 (dk_at dksX9_isCry_2 10 rfl rfl)
theorem dX9_isCry_58 : decode cX9_isCry 58 = .ok (.iconst 4, 1) := dk_7 (dk_at dksX9_isCry_2 12 rfl rfl)
theorem dX9_isCry_59 : decode cX9_isCry 59 = .ok (.iload 5, 2) := dk_21 5 (dk_at dksX9_isCry_2 13 rfl rfl)
theorem dX9_isCry_61 : decode cX9_isCry 61 = .ok (.imul, 1) := dk_104 (dk_at dksX9_isCry_2 15 rfl rfl)
theorem dX9_isCry_62 : decode cX9_isCry 62 = .ok (.iadd, 1) := dk_96 (dk_at dksX9_isCry_2 16 rfl rfl)
theorem dX9_isCry_63 : decode cX9_isCry 63 = .ok (.iconst 3, 1) := dk_6 (dk_at dksX9_isCry_2 17 rfl rfl)
theorem dX9_isCry_64 : decode cX9_isCry 64 = .ok (.iadd, 1) := dk_96 (dk_at dksX9_isCry_2 18 rfl rfl)
theorem dX9_isCry_65 : decode cX9_isCry 65 = .ok (.iaload, 1) := dk_46 (dk_at dksX9_isCry_2 19 rfl rfl)
theorem dX9_isCry_66 : decode cX9_isCry 66 = .ok (.iload 4, 2) := dk_21 4 (dk_at dksX9_isCry_2 20 rfl rfl)
theorem dX9_isCry_68 : decode cX9_isCry 68 = .ok (.if_icmp .ne 5, 3) := dk_160 0 5 (dk_at dksX9_isCry_3 0 rfl rfl)
theorem dX9_isCry_71 : decode cX9_isCry 71 = .ok (.iconst 1, 1) := dk_4 (dk_at dksX9_isCry_3 3 rfl rfl)
theorem dX9_isCry_72 : decode cX9_isCry 72 = .ok (.ireturn, 1) := dk_172 (dk_at dksX9_isCry_3 4 rfl rfl)
theorem dX9_isCry_73 : decode cX9_isCry 73 = .ok (.iinc 5 1, 3) := dk_132 5 1 (dk_at dksX9_isCry_3 5 rfl rfl)
theorem dX9_isCry_76 : decode cX9_isCry 76 = .ok (.goto (-73), 3) := dk_167 255 183 (dk_at dksX9_isCry_3 8 rfl rfl)
theorem dX9_isCry_79 : decode cX9_isCry 79 = .ok (.iconst 0, 1) := dk_3 (dk_at dksX9_isCry_3 11 rfl rfl)
theorem dX9_isCry_80 : decode cX9_isCry 80 = .ok (.ireturn, 1) := dk_172 (dk_at dksX9_isCry_3 12 rfl rfl)
def dkwX9_cries_1 : List UInt8 := [21, 5, 5, 96, 29, 79, 42, 21, 5, 6, 96, 21, 4, 79, 42, 16, 56, 92, 46, 4, 96, 79, 177]
abbrev dktX9_cries_1 : List UInt8 := dkwX9_cries_1 ++ []
def dkwX9_cries_0 : List UInt8 := [16, 16, 7, 42, 16, 56, 46, 104, 96, 54, 5, 42, 21, 5, 27, 79, 42, 21, 5, 4, 96, 28, 79, 42]
abbrev dktX9_cries_0 : List UInt8 := dkwX9_cries_0 ++ dktX9_cries_1
theorem dksX9_cries_0 : cX9_cries.data.toList.drop 0 = dktX9_cries_0 := by decide +kernel
theorem dksX9_cries_1 : cX9_cries.data.toList.drop 24 = dktX9_cries_1 := dk_seg dksX9_cries_0 24 rfl rfl
theorem dX9_cries_0 : decode cX9_cries 0 = .ok (.bipush 16, 2) := dk_16 16 (dk_at dksX9_cries_0 0 rfl rfl)
theorem dX9_cries_2 : decode cX9_cries 2 = .ok (.iconst 4, 1) := dk_7 (dk_at dksX9_cries_0 2 rfl rfl)
theorem dX9_cries_3 : decode cX9_cries 3 = .ok (.aload_n 0, 1) := dk_42 (dk_at dksX9_cries_0 3 rfl rfl)
theorem dX9_cries_4 : decode cX9_cries 4 = .ok (.bipush 56, 2) := dk_16 56 (dk_at dksX9_cries_0 4 rfl rfl)
theorem dX9_cries_6 : decode cX9_cries 6 = .ok (.iaload, 1) := dk_46 (dk_at dksX9_cries_0 6 rfl rfl)
theorem dX9_cries_7 : decode cX9_cries 7 = .ok (.imul, 1) := dk_104 (dk_at dksX9_cries_0 7 rfl rfl)
theorem dX9_cries_8 : decode cX9_cries 8 = .ok (.iadd, 1) := dk_96 (dk_at dksX9_cries_0 8 rfl rfl)
theorem dX9_cries_9 : decode cX9_cries 9 = .ok (.istore 5, 2) := dk_54 5 (dk_at dksX9_cries_0 9 rfl rfl)
theorem dX9_cries_11 : decode cX9_cries 11 = .ok (.aload_n 0, 1) := dk_42 (dk_at dksX9_cries_0 11 rfl rfl)
theorem dX9_cries_12 : decode cX9_cries 12 = .ok (.iload 5, 2) := dk_21 5 (dk_at dksX9_cries_0 12 rfl rfl)
theorem dX9_cries_14 : decode cX9_cries 14 = .ok (.iload_n 1, 1) := dk_27 (dk_at dksX9_cries_0 14 rfl rfl)
theorem dX9_cries_15 : decode cX9_cries 15 = .ok (.iastore, 1) := dk_79 (dk_at dksX9_cries_0 15 rfl rfl)
theorem dX9_cries_16 : decode cX9_cries 16 = .ok (.aload_n 0, 1) := dk_42 (dk_at dksX9_cries_0 16 rfl rfl)
theorem dX9_cries_17 : decode cX9_cries 17 = .ok (.iload 5, 2) := dk_21 5 (dk_at dksX9_cries_0 17 rfl rfl)
theorem dX9_cries_19 : decode cX9_cries 19 = .ok (.iconst 1, 1) := dk_4 (dk_at dksX9_cries_0 19 rfl rfl)
theorem dX9_cries_20 : decode cX9_cries 20 = .ok (.iadd, 1) := dk_96 (dk_at dksX9_cries_0 20 rfl rfl)
theorem dX9_cries_21 : decode cX9_cries 21 = .ok (.iload_n 2, 1) := dk_28 (dk_at dksX9_cries_0 21 rfl rfl)
theorem dX9_cries_22 : decode cX9_cries 22 = .ok (.iastore, 1) := dk_79 (dk_at dksX9_cries_0 22 rfl rfl)
theorem dX9_cries_23 : decode cX9_cries 23 = .ok (.aload_n 0, 1) := dk_42 (dk_at dksX9_cries_0 23 rfl rfl)
theorem dX9_cries_24 : decode cX9_cries 24 = .ok (.iload 5, 2) := dk_21 5 (dk_at dksX9_cries_1 0 rfl rfl)
theorem dX9_cries_26 : decode cX9_cries 26 = .ok (.iconst 2, 1) := dk_5 (dk_at dksX9_cries_1 2 rfl rfl)
theorem dX9_cries_27 : decode cX9_cries 27 = .ok (.iadd, 1) := dk_96 (dk_at dksX9_cries_1 3 rfl rfl)
theorem dX9_cries_28 : decode cX9_cries 28 = .ok (.iload_n 3, 1) := dk_29 (dk_at dksX9_cries_1 4 rfl rfl)
theorem dX9_cries_29 : decode cX9_cries 29 = .ok (.iastore, 1) := dk_79 (dk_at dksX9_cries_1 5 rfl rfl)
theorem dX9_cries_30 : decode cX9_cries 30 = .ok (.aload_n 0, 1) := dk_42 (dk_at dksX9_cries_1 6 rfl rfl)
theorem dX9_cries_31 : decode cX9_cries 31 = .ok (.iload 5, 2) := dk_21 5 (dk_at dksX9_cries_1 7 rfl rfl)
theorem dX9_cries_33 : decode cX9_cries 33 = .ok (.iconst 3, 1) := dk_6 (dk_at dksX9_cries_1 9 rfl rfl)
theorem dX9_cries_34 : decode cX9_cries 34 = .ok (.iadd, 1) := dk_96 (dk_at dksX9_cries_1 10 rfl rfl)
theorem dX9_cries_35 : decode cX9_cries 35 = .ok (.iload 4, 2) := dk_21 4 (dk_at dksX9_cries_1 11 rfl rfl)
theorem dX9_cries_37 : decode cX9_cries 37 = .ok (.iastore, 1) := dk_79 (dk_at dksX9_cries_1 13 rfl rfl)
theorem dX9_cries_38 : decode cX9_cries 38 = .ok (.aload_n 0, 1) := dk_42 (dk_at dksX9_cries_1 14 rfl rfl)
theorem dX9_cries_39 : decode cX9_cries 39 = .ok (.bipush 56, 2) := dk_16 56 (dk_at dksX9_cries_1 15 rfl rfl)
theorem dX9_cries_41 : decode cX9_cries 41 = .ok (.dup2, 1) := dk_92 (dk_at dksX9_cries_1 17 rfl rfl)
theorem dX9_cries_42 : decode cX9_cries 42 = .ok (.iaload, 1) := dk_46 (dk_at dksX9_cries_1 18 rfl rfl)
theorem dX9_cries_43 : decode cX9_cries 43 = .ok (.iconst 1, 1) := dk_4 (dk_at dksX9_cries_1 19 rfl rfl)
theorem dX9_cries_44 : decode cX9_cries 44 = .ok (.iadd, 1) := dk_96 (dk_at dksX9_cries_1 20 rfl rfl)
theorem dX9_cries_45 : decode cX9_cries 45 = .ok (.iastore, 1) := dk_79 (dk_at dksX9_cries_1 21 rfl rfl)
theorem dX9_cries_46 : decode cX9_cries 46 = .ok (.return_, 1) := dk_177 (dk_at dksX9_cries_1 22 rfl rfl)
def dkwX9_tips_3 : List UInt8 := [96, 3, 79, 132, 2, 1, 167, 255, 234, 4, 172]
abbrev dktX9_tips_3 : List UInt8 := dkwX9_tips_3 ++ []
def dkwX9_tips_2 : List UInt8 := [132, 2, 1, 167, 255, 229, 3, 61, 28, 7, 162, 0, 23, 42, 16, 16, 7, 42, 16, 56, 46, 104, 96, 28]
abbrev dktX9_tips_2 : List UInt8 := dkwX9_tips_2 ++ dktX9_tips_3
def dkwX9_tips_1 : List UInt8 := [42, 16, 56, 46, 104, 162, 0, 23, 42, 16, 16, 28, 96, 42, 16, 16, 28, 96, 7, 96, 46, 79]
abbrev dktX9_tips_1 : List UInt8 := dkwX9_tips_1 ++ dktX9_tips_2
def dkwX9_tips_0 : List UInt8 := [27, 42, 16, 56, 46, 161, 0, 5, 3, 172, 42, 16, 56, 92, 46, 4, 100, 79, 7, 27, 104, 61, 28, 7]
abbrev dktX9_tips_0 : List UInt8 := dkwX9_tips_0 ++ dktX9_tips_1
theorem dksX9_tips_0 : cX9_tips.data.toList.drop 0 = dktX9_tips_0 := by decide +kernel
theorem dksX9_tips_1 : cX9_tips.data.toList.drop 24 = dktX9_tips_1 := dk_seg dksX9_tips_0 24 rfl rfl
theorem dksX9_tips_2 : cX9_tips.data.toList.drop 46 = dktX9_tips_2 := dk_seg dksX9_tips_1 22 rfl rfl
theorem dksX9_tips_3 : cX9_tips.data.toList.drop 70 = dktX9_tips_3 := dk_seg dksX9_tips_2 24 rfl rfl
theorem dX9_tips_0 : decode cX9_tips 0 = .ok (.iload_n 1, 1) := dk_27 (dk_at dksX9_tips_0 0 rfl rfl)
theorem dX9_tips_1 : decode cX9_tips 1 = .ok (.aload_n 0, 1) := dk_42 (dk_at dksX9_tips_0 1 rfl rfl)
theorem dX9_tips_2 : decode cX9_tips 2 = .ok (.bipush 56, 2) := dk_16 56 (dk_at dksX9_tips_0 2 rfl rfl)
theorem dX9_tips_4 : decode cX9_tips 4 = .ok (.iaload, 1) := dk_46 (dk_at dksX9_tips_0 4 rfl rfl)
theorem dX9_tips_5 : decode cX9_tips 5 = .ok (.if_icmp .lt 5, 3) := dk_161 0 5 (dk_at dksX9_tips_0 5 rfl rfl)
theorem dX9_tips_8 : decode cX9_tips 8 = .ok (.iconst 0, 1) := dk_3 (dk_at dksX9_tips_0 8 rfl rfl)
theorem dX9_tips_9 : decode cX9_tips 9 = .ok (.ireturn, 1) := dk_172 (dk_at dksX9_tips_0 9 rfl rfl)
theorem dX9_tips_10 : decode cX9_tips 10 = .ok (.aload_n 0, 1) := dk_42 (dk_at dksX9_tips_0 10 rfl rfl)
theorem dX9_tips_11 : decode cX9_tips 11 = .ok (.bipush 56, 2) := dk_16 56 (dk_at dksX9_tips_0 11 rfl rfl)
theorem dX9_tips_13 : decode cX9_tips 13 = .ok (.dup2, 1) := dk_92 (dk_at dksX9_tips_0 13 rfl rfl)
theorem dX9_tips_14 : decode cX9_tips 14 = .ok (.iaload, 1) := dk_46 (dk_at dksX9_tips_0 14 rfl rfl)
theorem dX9_tips_15 : decode cX9_tips 15 = .ok (.iconst 1, 1) := dk_4 (dk_at dksX9_tips_0 15 rfl rfl)
theorem dX9_tips_16 : decode cX9_tips 16 = .ok (.isub, 1) := dk_100 (dk_at dksX9_tips_0 16 rfl rfl)
theorem dX9_tips_17 : decode cX9_tips 17 = .ok (.iastore, 1) := dk_79 (dk_at dksX9_tips_0 17 rfl rfl)
theorem dX9_tips_18 : decode cX9_tips 18 = .ok (.iconst 4, 1) := dk_7 (dk_at dksX9_tips_0 18 rfl rfl)
theorem dX9_tips_19 : decode cX9_tips 19 = .ok (.iload_n 1, 1) := dk_27 (dk_at dksX9_tips_0 19 rfl rfl)
theorem dX9_tips_20 : decode cX9_tips 20 = .ok (.imul, 1) := dk_104 (dk_at dksX9_tips_0 20 rfl rfl)
theorem dX9_tips_21 : decode cX9_tips 21 = .ok (.istore_n 2, 1) := dk_61 (dk_at dksX9_tips_0 21 rfl rfl)
theorem dX9_tips_22 : decode cX9_tips 22 = .ok (.iload_n 2, 1) := dk_28 (dk_at dksX9_tips_0 22 rfl rfl)
theorem dX9_tips_23 : decode cX9_tips 23 = .ok (.iconst 4, 1) := dk_7 (dk_at dksX9_tips_0 23 rfl rfl)
theorem dX9_tips_24 : decode cX9_tips 24 = .ok (.aload_n 0, 1) := dk_42 (dk_at dksX9_tips_1 0 rfl rfl)
theorem dX9_tips_25 : decode cX9_tips 25 = .ok (.bipush 56, 2) := dk_16 56 (dk_at dksX9_tips_1 1 rfl rfl)
theorem dX9_tips_27 : decode cX9_tips 27 = .ok (.iaload, 1) := dk_46 (dk_at dksX9_tips_1 3 rfl rfl)
theorem dX9_tips_28 : decode cX9_tips 28 = .ok (.imul, 1) := dk_104 (dk_at dksX9_tips_1 4 rfl rfl)
theorem dX9_tips_29 : decode cX9_tips 29 = .ok (.if_icmp .ge 23, 3) := dk_162 0 23 (dk_at dksX9_tips_1 5 rfl rfl)
theorem dX9_tips_32 : decode cX9_tips 32 = .ok (.aload_n 0, 1) := dk_42 (dk_at dksX9_tips_1 8 rfl rfl)
theorem dX9_tips_33 : decode cX9_tips 33 = .ok (.bipush 16, 2) := dk_16 16 (dk_at dksX9_tips_1 9 rfl rfl)
theorem dX9_tips_35 : decode cX9_tips 35 = .ok (.iload_n 2, 1) := dk_28 (dk_at dksX9_tips_1 11 rfl rfl)
theorem dX9_tips_36 : decode cX9_tips 36 = .ok (.iadd, 1) := dk_96 (dk_at dksX9_tips_1 12 rfl rfl)
theorem dX9_tips_37 : decode cX9_tips 37 = .ok (.aload_n 0, 1) := dk_42 (dk_at dksX9_tips_1 13 rfl rfl)
theorem dX9_tips_38 : decode cX9_tips 38 = .ok (.bipush 16, 2) := dk_16 16 (dk_at dksX9_tips_1 14 rfl rfl)
theorem dX9_tips_40 : decode cX9_tips 40 = .ok (.iload_n 2, 1) := dk_28 (dk_at dksX9_tips_1 16 rfl rfl)
theorem dX9_tips_41 : decode cX9_tips 41 = .ok (.iadd, 1) := dk_96 (dk_at dksX9_tips_1 17 rfl rfl)
theorem dX9_tips_42 : decode cX9_tips 42 = .ok (.iconst 4, 1) := dk_7 (dk_at dksX9_tips_1 18 rfl rfl)
theorem dX9_tips_43 : decode cX9_tips 43 = .ok (.iadd, 1) := dk_96 (dk_at dksX9_tips_1 19 rfl rfl)
theorem dX9_tips_44 : decode cX9_tips 44 = .ok (.iaload, 1) := dk_46 (dk_at dksX9_tips_1 20 rfl rfl)
theorem dX9_tips_45 : decode cX9_tips 45 = .ok (.iastore, 1) := dk_79 (dk_at dksX9_tips_1 21 rfl rfl)
theorem dX9_tips_46 : decode cX9_tips 46 = .ok (.iinc 2 1, 3) := dk_132 2 1 (dk_at dksX9_tips_2 0 rfl rfl)
theorem dX9_tips_49 : decode cX9_tips 49 = .ok (.goto (-27), 3) := dk_167 255 229 (dk_at dksX9_tips_2 3 rfl rfl)
theorem dX9_tips_52 : decode cX9_tips 52 = .ok (.iconst 0, 1) := dk_3 (dk_at dksX9_tips_2 6 rfl rfl)
theorem dX9_tips_53 : decode cX9_tips 53 = .ok (.istore_n 2, 1) := dk_61 (dk_at dksX9_tips_2 7 rfl rfl)
theorem dX9_tips_54 : decode cX9_tips 54 = .ok (.iload_n 2, 1) := dk_28 (dk_at dksX9_tips_2 8 rfl rfl)
theorem dX9_tips_55 : decode cX9_tips 55 = .ok (.iconst 4, 1) := dk_7 (dk_at dksX9_tips_2 9 rfl rfl)
theorem dX9_tips_56 : decode cX9_tips 56 = .ok (.if_icmp .ge 23, 3) := dk_162 0 23 (dk_at dksX9_tips_2 10 rfl rfl)
theorem dX9_tips_59 : decode cX9_tips 59 = .ok (.aload_n 0, 1) := dk_42 (dk_at dksX9_tips_2 13 rfl rfl)
theorem dX9_tips_60 : decode cX9_tips 60 = .ok (.bipush 16, 2) := dk_16 16 (dk_at dksX9_tips_2 14 rfl rfl)
theorem dX9_tips_62 : decode cX9_tips 62 = .ok (.iconst 4, 1) := dk_7 (dk_at dksX9_tips_2 16 rfl rfl)
theorem dX9_tips_63 : decode cX9_tips 63 = .ok (.aload_n 0, 1) := dk_42 (dk_at dksX9_tips_2 17 rfl rfl)
theorem dX9_tips_64 : decode cX9_tips 64 = .ok (.bipush 56, 2) := dk_16 56 (dk_at dksX9_tips_2 18 rfl rfl)
theorem dX9_tips_66 : decode cX9_tips 66 = .ok (.iaload, 1) := dk_46 (dk_at dksX9_tips_2 20 rfl rfl)
theorem dX9_tips_67 : decode cX9_tips 67 = .ok (.imul, 1) := dk_104 (dk_at dksX9_tips_2 21 rfl rfl)
theorem dX9_tips_68 : decode cX9_tips 68 = .ok (.iadd, 1) := dk_96 (dk_at dksX9_tips_2 22 rfl rfl)
theorem dX9_tips_69 : decode cX9_tips 69 = .ok (.iload_n 2, 1) := dk_28 (dk_at dksX9_tips_2 23 rfl rfl)
theorem dX9_tips_70 : decode cX9_tips 70 = .ok (.iadd, 1) := dk_96 (dk_at dksX9_tips_3 0 rfl rfl)
theorem dX9_tips_71 : decode cX9_tips 71 = .ok (.iconst 0, 1) := dk_3 (dk_at dksX9_tips_3 1 rfl rfl)
theorem dX9_tips_72 : decode cX9_tips 72 = .ok (.iastore, 1) := dk_79 (dk_at dksX9_tips_3 2 rfl rfl)
theorem dX9_tips_73 : decode cX9_tips 73 = .ok (.iinc 2 1, 3) := dk_132 2 1 (dk_at dksX9_tips_3 3 rfl rfl)
theorem dX9_tips_76 : decode cX9_tips 76 = .ok (.goto (-22), 3) := dk_167 255 234 (dk_at dksX9_tips_3 6 rfl rfl)
theorem dX9_tips_79 : decode cX9_tips 79 = .ok (.iconst 1, 1) := dk_4 (dk_at dksX9_tips_3 9 rfl rfl)
theorem dX9_tips_80 : decode cX9_tips 80 = .ok (.ireturn, 1) := dk_172 (dk_at dksX9_tips_3 10 rfl rfl)
def dkwX9_feeds_1 : List UInt8 := [96, 184, 0, 235, 79, 4, 172]
abbrev dktX9_feeds_1 : List UInt8 := dkwX9_feeds_1 ++ []
def dkwX9_feeds_0 : List UInt8 := [42, 3, 27, 96, 46, 16, 60, 160, 0, 5, 3, 172, 42, 3, 27, 96, 16, 60, 42, 3, 27, 96, 46, 28]
abbrev dktX9_feeds_0 : List UInt8 := dkwX9_feeds_0 ++ dktX9_feeds_1
theorem dksX9_feeds_0 : cX9_feeds.data.toList.drop 0 = dktX9_feeds_0 := by decide +kernel
theorem dksX9_feeds_1 : cX9_feeds.data.toList.drop 24 = dktX9_feeds_1 := dk_seg dksX9_feeds_0 24 rfl rfl
theorem dX9_feeds_0 : decode cX9_feeds 0 = .ok (.aload_n 0, 1) := dk_42 (dk_at dksX9_feeds_0 0 rfl rfl)
theorem dX9_feeds_1 : decode cX9_feeds 1 = .ok (.iconst 0, 1) := dk_3 (dk_at dksX9_feeds_0 1 rfl rfl)
theorem dX9_feeds_2 : decode cX9_feeds 2 = .ok (.iload_n 1, 1) := dk_27 (dk_at dksX9_feeds_0 2 rfl rfl)
theorem dX9_feeds_3 : decode cX9_feeds 3 = .ok (.iadd, 1) := dk_96 (dk_at dksX9_feeds_0 3 rfl rfl)
theorem dX9_feeds_4 : decode cX9_feeds 4 = .ok (.iaload, 1) := dk_46 (dk_at dksX9_feeds_0 4 rfl rfl)
theorem dX9_feeds_5 : decode cX9_feeds 5 = .ok (.bipush 60, 2) := dk_16 60 (dk_at dksX9_feeds_0 5 rfl rfl)
theorem dX9_feeds_7 : decode cX9_feeds 7 = .ok (.if_icmp .ne 5, 3) := dk_160 0 5 (dk_at dksX9_feeds_0 7 rfl rfl)
theorem dX9_feeds_10 : decode cX9_feeds 10 = .ok (.iconst 0, 1) := dk_3 (dk_at dksX9_feeds_0 10 rfl rfl)
theorem dX9_feeds_11 : decode cX9_feeds 11 = .ok (.ireturn, 1) := dk_172 (dk_at dksX9_feeds_0 11 rfl rfl)
theorem dX9_feeds_12 : decode cX9_feeds 12 = .ok (.aload_n 0, 1) := dk_42 (dk_at dksX9_feeds_0 12 rfl rfl)
theorem dX9_feeds_13 : decode cX9_feeds 13 = .ok (.iconst 0, 1) := dk_3 (dk_at dksX9_feeds_0 13 rfl rfl)
theorem dX9_feeds_14 : decode cX9_feeds 14 = .ok (.iload_n 1, 1) := dk_27 (dk_at dksX9_feeds_0 14 rfl rfl)
theorem dX9_feeds_15 : decode cX9_feeds 15 = .ok (.iadd, 1) := dk_96 (dk_at dksX9_feeds_0 15 rfl rfl)
theorem dX9_feeds_16 : decode cX9_feeds 16 = .ok (.bipush 60, 2) := dk_16 60 (dk_at dksX9_feeds_0 16 rfl rfl)
theorem dX9_feeds_18 : decode cX9_feeds 18 = .ok (.aload_n 0, 1) := dk_42 (dk_at dksX9_feeds_0 18 rfl rfl)
theorem dX9_feeds_19 : decode cX9_feeds 19 = .ok (.iconst 0, 1) := dk_3 (dk_at dksX9_feeds_0 19 rfl rfl)
theorem dX9_feeds_20 : decode cX9_feeds 20 = .ok (.iload_n 1, 1) := dk_27 (dk_at dksX9_feeds_0 20 rfl rfl)
theorem dX9_feeds_21 : decode cX9_feeds 21 = .ok (.iadd, 1) := dk_96 (dk_at dksX9_feeds_0 21 rfl rfl)
theorem dX9_feeds_22 : decode cX9_feeds 22 = .ok (.iaload, 1) := dk_46 (dk_at dksX9_feeds_0 22 rfl rfl)
theorem dX9_feeds_23 : decode cX9_feeds 23 = .ok (.iload_n 2, 1) := dk_28 (dk_at dksX9_feeds_0 23 rfl rfl)
theorem dX9_feeds_24 : decode cX9_feeds 24 = .ok (.iadd, 1) := dk_96 (dk_at dksX9_feeds_1 0 rfl rfl)
theorem dX9_feeds_25 : decode cX9_feeds 25 = .ok (.invokestatic 235, 3) := dk_184 0 235 (dk_at dksX9_feeds_1 1 rfl rfl)
theorem dX9_feeds_28 : decode cX9_feeds 28 = .ok (.iastore, 1) := dk_79 (dk_at dksX9_feeds_1 4 rfl rfl)
theorem dX9_feeds_29 : decode cX9_feeds 29 = .ok (.iconst 1, 1) := dk_4 (dk_at dksX9_feeds_1 5 rfl rfl)
theorem dX9_feeds_30 : decode cX9_feeds 30 = .ok (.ireturn, 1) := dk_172 (dk_at dksX9_feeds_1 6 rfl rfl)
def dkwX9_less_0 : List UInt8 := [26, 27, 162, 0, 7, 26, 167, 0, 4, 27, 172]
abbrev dktX9_less_0 : List UInt8 := dkwX9_less_0 ++ []
theorem dksX9_less_0 : cX9_less.data.toList.drop 0 = dktX9_less_0 := by decide +kernel
theorem dX9_less_0 : decode cX9_less 0 = .ok (.iload_n 0, 1) := dk_26 (dk_at dksX9_less_0 0 rfl rfl)
theorem dX9_less_1 : decode cX9_less 1 = .ok (.iload_n 1, 1) := dk_27 (dk_at dksX9_less_0 1 rfl rfl)
theorem dX9_less_2 : decode cX9_less 2 = .ok (.if_icmp .ge 7, 3) := dk_162 0 7 (dk_at dksX9_less_0 2 rfl rfl)
theorem dX9_less_5 : decode cX9_less 5 = .ok (.iload_n 0, 1) := dk_26 (dk_at dksX9_less_0 5 rfl rfl)
theorem dX9_less_6 : decode cX9_less 6 = .ok (.goto 4, 3) := dk_167 0 4 (dk_at dksX9_less_0 6 rfl rfl)
theorem dX9_less_9 : decode cX9_less 9 = .ok (.iload_n 1, 1) := dk_27 (dk_at dksX9_less_0 9 rfl rfl)
theorem dX9_less_10 : decode cX9_less 10 = .ok (.ireturn, 1) := dk_172 (dk_at dksX9_less_0 10 rfl rfl)
def dkwX9_dayEnds_3 : List UInt8 := [92, 46, 4, 96, 79, 177]
abbrev dktX9_dayEnds_3 : List UInt8 := dkwX9_dayEnds_3 ++ []
def dkwX9_dayEnds_2 : List UInt8 := [3, 28, 96, 46, 42, 180, 0, 67, 28, 46, 100, 184, 0, 238, 79, 132, 2, 1, 167, 255, 222, 43, 16, 59]
abbrev dktX9_dayEnds_2 : List UInt8 := dkwX9_dayEnds_2 ++ dktX9_dayEnds_3
def dkwX9_dayEnds_1 : List UInt8 := [132, 2, 1, 167, 255, 231, 3, 61, 28, 42, 180, 0, 23, 3, 46, 162, 0, 30, 43, 3, 28, 96, 4, 43]
abbrev dktX9_dayEnds_1 : List UInt8 := dkwX9_dayEnds_1 ++ dktX9_dayEnds_2
def dkwX9_dayEnds_0 : List UInt8 := [3, 61, 28, 42, 180, 0, 23, 3, 46, 162, 0, 21, 42, 180, 0, 67, 28, 42, 43, 28, 182, 1, 27, 79]
abbrev dktX9_dayEnds_0 : List UInt8 := dkwX9_dayEnds_0 ++ dktX9_dayEnds_1
theorem dksX9_dayEnds_0 : cX9_dayEnds.data.toList.drop 0 = dktX9_dayEnds_0 := by decide +kernel
theorem dksX9_dayEnds_1 : cX9_dayEnds.data.toList.drop 24 = dktX9_dayEnds_1 := dk_seg dksX9_dayEnds_0 24 rfl rfl
theorem dksX9_dayEnds_2 : cX9_dayEnds.data.toList.drop 48 = dktX9_dayEnds_2 := dk_seg dksX9_dayEnds_1 24 rfl rfl
theorem dksX9_dayEnds_3 : cX9_dayEnds.data.toList.drop 72 = dktX9_dayEnds_3 := dk_seg dksX9_dayEnds_2 24 rfl rfl
theorem dX9_dayEnds_0 : decode cX9_dayEnds 0 = .ok (.iconst 0, 1) := dk_3 (dk_at dksX9_dayEnds_0 0 rfl rfl)
theorem dX9_dayEnds_1 : decode cX9_dayEnds 1 = .ok (.istore_n 2, 1) := dk_61 (dk_at dksX9_dayEnds_0 1 rfl rfl)
theorem dX9_dayEnds_2 : decode cX9_dayEnds 2 = .ok (.iload_n 2, 1) := dk_28 (dk_at dksX9_dayEnds_0 2 rfl rfl)
theorem dX9_dayEnds_3 : decode cX9_dayEnds 3 = .ok (.aload_n 0, 1) := dk_42 (dk_at dksX9_dayEnds_0 3 rfl rfl)
theorem dX9_dayEnds_4 : decode cX9_dayEnds 4 = .ok (.getfield 23, 3) := dk_180 0 23 (dk_at dksX9_dayEnds_0 4 rfl rfl)
theorem dX9_dayEnds_7 : decode cX9_dayEnds 7 = .ok (.iconst 0, 1) := dk_3 (dk_at dksX9_dayEnds_0 7 rfl rfl)
theorem dX9_dayEnds_8 : decode cX9_dayEnds 8 = .ok (.iaload, 1) := dk_46 (dk_at dksX9_dayEnds_0 8 rfl rfl)
theorem dX9_dayEnds_9 : decode cX9_dayEnds 9 = .ok (.if_icmp .ge 21, 3) := dk_162 0 21 (dk_at dksX9_dayEnds_0 9 rfl rfl)
theorem dX9_dayEnds_12 : decode cX9_dayEnds 12 = .ok (.aload_n 0, 1) := dk_42 (dk_at dksX9_dayEnds_0 12 rfl rfl)
theorem dX9_dayEnds_13 : decode cX9_dayEnds 13 = .ok (.getfield 67, 3) := dk_180 0 67 (dk_at dksX9_dayEnds_0 13 rfl rfl)
theorem dX9_dayEnds_16 : decode cX9_dayEnds 16 = .ok (.iload_n 2, 1) := dk_28 (dk_at dksX9_dayEnds_0 16 rfl rfl)
theorem dX9_dayEnds_17 : decode cX9_dayEnds 17 = .ok (.aload_n 0, 1) := dk_42 (dk_at dksX9_dayEnds_0 17 rfl rfl)
theorem dX9_dayEnds_18 : decode cX9_dayEnds 18 = .ok (.aload_n 1, 1) := dk_43 (dk_at dksX9_dayEnds_0 18 rfl rfl)
theorem dX9_dayEnds_19 : decode cX9_dayEnds 19 = .ok (.iload_n 2, 1) := dk_28 (dk_at dksX9_dayEnds_0 19 rfl rfl)
theorem dX9_dayEnds_20 : decode cX9_dayEnds 20 = .ok (.invokevirtual 283, 3) := dk_182 1 27 (dk_at dksX9_dayEnds_0 20 rfl rfl)
theorem dX9_dayEnds_23 : decode cX9_dayEnds 23 = .ok (.iastore, 1) := dk_79 (dk_at dksX9_dayEnds_0 23 rfl rfl)
theorem dX9_dayEnds_24 : decode cX9_dayEnds 24 = .ok (.iinc 2 1, 3) := dk_132 2 1 (dk_at dksX9_dayEnds_1 0 rfl rfl)
theorem dX9_dayEnds_27 : decode cX9_dayEnds 27 = .ok (.goto (-25), 3) := dk_167 255 231 (dk_at dksX9_dayEnds_1 3 rfl rfl)
theorem dX9_dayEnds_30 : decode cX9_dayEnds 30 = .ok (.iconst 0, 1) := dk_3 (dk_at dksX9_dayEnds_1 6 rfl rfl)
theorem dX9_dayEnds_31 : decode cX9_dayEnds 31 = .ok (.istore_n 2, 1) := dk_61 (dk_at dksX9_dayEnds_1 7 rfl rfl)
theorem dX9_dayEnds_32 : decode cX9_dayEnds 32 = .ok (.iload_n 2, 1) := dk_28 (dk_at dksX9_dayEnds_1 8 rfl rfl)
theorem dX9_dayEnds_33 : decode cX9_dayEnds 33 = .ok (.aload_n 0, 1) := dk_42 (dk_at dksX9_dayEnds_1 9 rfl rfl)
theorem dX9_dayEnds_34 : decode cX9_dayEnds 34 = .ok (.getfield 23, 3) := dk_180 0 23 (dk_at dksX9_dayEnds_1 10 rfl rfl)
theorem dX9_dayEnds_37 : decode cX9_dayEnds 37 = .ok (.iconst 0, 1) := dk_3 (dk_at dksX9_dayEnds_1 13 rfl rfl)
theorem dX9_dayEnds_38 : decode cX9_dayEnds 38 = .ok (.iaload, 1) := dk_46 (dk_at dksX9_dayEnds_1 14 rfl rfl)
theorem dX9_dayEnds_39 : decode cX9_dayEnds 39 = .ok (.if_icmp .ge 30, 3) := dk_162 0 30 (dk_at dksX9_dayEnds_1 15 rfl rfl)
theorem dX9_dayEnds_42 : decode cX9_dayEnds 42 = .ok (.aload_n 1, 1) := dk_43 (dk_at dksX9_dayEnds_1 18 rfl rfl)
theorem dX9_dayEnds_43 : decode cX9_dayEnds 43 = .ok (.iconst 0, 1) := dk_3 (dk_at dksX9_dayEnds_1 19 rfl rfl)
theorem dX9_dayEnds_44 : decode cX9_dayEnds 44 = .ok (.iload_n 2, 1) := dk_28 (dk_at dksX9_dayEnds_1 20 rfl rfl)
theorem dX9_dayEnds_45 : decode cX9_dayEnds 45 = .ok (.iadd, 1) := dk_96 (dk_at dksX9_dayEnds_1 21 rfl rfl)
theorem dX9_dayEnds_46 : decode cX9_dayEnds 46 = .ok (.iconst 1, 1) := dk_4 (dk_at dksX9_dayEnds_1 22 rfl rfl)
theorem dX9_dayEnds_47 : decode cX9_dayEnds 47 = .ok (.aload_n 1, 1) := dk_43 (dk_at dksX9_dayEnds_1 23 rfl rfl)
theorem dX9_dayEnds_48 : decode cX9_dayEnds 48 = .ok (.iconst 0, 1) := dk_3 (dk_at dksX9_dayEnds_2 0 rfl rfl)
theorem dX9_dayEnds_49 : decode cX9_dayEnds 49 = .ok (.iload_n 2, 1) := dk_28 (dk_at dksX9_dayEnds_2 1 rfl rfl)
theorem dX9_dayEnds_50 : decode cX9_dayEnds 50 = .ok (.iadd, 1) := dk_96 (dk_at dksX9_dayEnds_2 2 rfl rfl)
theorem dX9_dayEnds_51 : decode cX9_dayEnds 51 = .ok (.iaload, 1) := dk_46 (dk_at dksX9_dayEnds_2 3 rfl rfl)
theorem dX9_dayEnds_52 : decode cX9_dayEnds 52 = .ok (.aload_n 0, 1) := dk_42 (dk_at dksX9_dayEnds_2 4 rfl rfl)
theorem dX9_dayEnds_53 : decode cX9_dayEnds 53 = .ok (.getfield 67, 3) := dk_180 0 67 (dk_at dksX9_dayEnds_2 5 rfl rfl)
theorem dX9_dayEnds_56 : decode cX9_dayEnds 56 = .ok (.iload_n 2, 1) := dk_28 (dk_at dksX9_dayEnds_2 8 rfl rfl)
theorem dX9_dayEnds_57 : decode cX9_dayEnds 57 = .ok (.iaload, 1) := dk_46 (dk_at dksX9_dayEnds_2 9 rfl rfl)
theorem dX9_dayEnds_58 : decode cX9_dayEnds 58 = .ok (.isub, 1) := dk_100 (dk_at dksX9_dayEnds_2 10 rfl rfl)
theorem dX9_dayEnds_59 : decode cX9_dayEnds 59 = .ok (.invokestatic 238, 3) := dk_184 0 238 (dk_at dksX9_dayEnds_2 11 rfl rfl)
theorem dX9_dayEnds_62 : decode cX9_dayEnds 62 = .ok (.iastore, 1) := dk_79 (dk_at dksX9_dayEnds_2 14 rfl rfl)
theorem dX9_dayEnds_63 : decode cX9_dayEnds 63 = .ok (.iinc 2 1, 3) := dk_132 2 1 (dk_at dksX9_dayEnds_2 15 rfl rfl)
theorem dX9_dayEnds_66 : decode cX9_dayEnds 66 = .ok (.goto (-34), 3) := dk_167 255 222 (dk_at dksX9_dayEnds_2 18 rfl rfl)
theorem dX9_dayEnds_69 : decode cX9_dayEnds 69 = .ok (.aload_n 1, 1) := dk_43 (dk_at dksX9_dayEnds_2 21 rfl rfl)
theorem dX9_dayEnds_70 : decode cX9_dayEnds 70 = .ok (.bipush 59, 2) := dk_16 59 (dk_at dksX9_dayEnds_2 22 rfl rfl)
theorem dX9_dayEnds_72 : decode cX9_dayEnds 72 = .ok (.dup2, 1) := dk_92 (dk_at dksX9_dayEnds_3 0 rfl rfl)
theorem dX9_dayEnds_73 : decode cX9_dayEnds 73 = .ok (.iaload, 1) := dk_46 (dk_at dksX9_dayEnds_3 1 rfl rfl)
theorem dX9_dayEnds_74 : decode cX9_dayEnds 74 = .ok (.iconst 1, 1) := dk_4 (dk_at dksX9_dayEnds_3 2 rfl rfl)
theorem dX9_dayEnds_75 : decode cX9_dayEnds 75 = .ok (.iadd, 1) := dk_96 (dk_at dksX9_dayEnds_3 3 rfl rfl)
theorem dX9_dayEnds_76 : decode cX9_dayEnds 76 = .ok (.iastore, 1) := dk_79 (dk_at dksX9_dayEnds_3 4 rfl rfl)
theorem dX9_dayEnds_77 : decode cX9_dayEnds 77 = .ok (.return_, 1) := dk_177 (dk_at dksX9_dayEnds_3 5 rfl rfl)
def dkwX9_wearOf_1 : List UInt8 := [46, 43, 16, 57, 46, 42, 180, 0, 23, 6, 46, 182, 1, 7, 172]
abbrev dktX9_wearOf_1 : List UInt8 := dkwX9_wearOf_1 ++ []
def dkwX9_wearOf_0 : List UInt8 := [42, 43, 3, 28, 96, 46, 43, 16, 8, 28, 96, 46, 43, 28, 184, 1, 0, 184, 1, 4, 28, 43, 16, 59]
abbrev dktX9_wearOf_0 : List UInt8 := dkwX9_wearOf_0 ++ dktX9_wearOf_1
theorem dksX9_wearOf_0 : cX9_wearOf.data.toList.drop 0 = dktX9_wearOf_0 := by decide +kernel
theorem dksX9_wearOf_1 : cX9_wearOf.data.toList.drop 24 = dktX9_wearOf_1 := dk_seg dksX9_wearOf_0 24 rfl rfl
theorem dX9_wearOf_0 : decode cX9_wearOf 0 = .ok (.aload_n 0, 1) := dk_42 (dk_at dksX9_wearOf_0 0 rfl rfl)
theorem dX9_wearOf_1 : decode cX9_wearOf 1 = .ok (.aload_n 1, 1) := dk_43 (dk_at dksX9_wearOf_0 1 rfl rfl)
theorem dX9_wearOf_2 : decode cX9_wearOf 2 = .ok (.iconst 0, 1) := dk_3 (dk_at dksX9_wearOf_0 2 rfl rfl)
theorem dX9_wearOf_3 : decode cX9_wearOf 3 = .ok (.iload_n 2, 1) := dk_28 (dk_at dksX9_wearOf_0 3 rfl rfl)
theorem dX9_wearOf_4 : decode cX9_wearOf 4 = .ok (.iadd, 1) := dk_96 (dk_at dksX9_wearOf_0 4 rfl rfl)
theorem dX9_wearOf_5 : decode cX9_wearOf 5 = .ok (.iaload, 1) := dk_46 (dk_at dksX9_wearOf_0 5 rfl rfl)
theorem dX9_wearOf_6 : decode cX9_wearOf 6 = .ok (.aload_n 1, 1) := dk_43 (dk_at dksX9_wearOf_0 6 rfl rfl)
theorem dX9_wearOf_7 : decode cX9_wearOf 7 = .ok (.bipush 8, 2) := dk_16 8 (dk_at dksX9_wearOf_0 7 rfl rfl)
theorem dX9_wearOf_9 : decode cX9_wearOf 9 = .ok (.iload_n 2, 1) := dk_28 (dk_at dksX9_wearOf_0 9 rfl rfl)
theorem dX9_wearOf_10 : decode cX9_wearOf 10 = .ok (.iadd, 1) := dk_96 (dk_at dksX9_wearOf_0 10 rfl rfl)
theorem dX9_wearOf_11 : decode cX9_wearOf 11 = .ok (.iaload, 1) := dk_46 (dk_at dksX9_wearOf_0 11 rfl rfl)
theorem dX9_wearOf_12 : decode cX9_wearOf 12 = .ok (.aload_n 1, 1) := dk_43 (dk_at dksX9_wearOf_0 12 rfl rfl)
theorem dX9_wearOf_13 : decode cX9_wearOf 13 = .ok (.iload_n 2, 1) := dk_28 (dk_at dksX9_wearOf_0 13 rfl rfl)
theorem dX9_wearOf_14 : decode cX9_wearOf 14 = .ok (.invokestatic 256, 3) := dk_184 1 0 (dk_at dksX9_wearOf_0 14 rfl rfl)
theorem dX9_wearOf_17 : decode cX9_wearOf 17 = .ok (.invokestatic 260, 3) := dk_184 1 4 (dk_at dksX9_wearOf_0 17 rfl rfl)
theorem dX9_wearOf_20 : decode cX9_wearOf 20 = .ok (.iload_n 2, 1) := dk_28 (dk_at dksX9_wearOf_0 20 rfl rfl)
theorem dX9_wearOf_21 : decode cX9_wearOf 21 = .ok (.aload_n 1, 1) := dk_43 (dk_at dksX9_wearOf_0 21 rfl rfl)
theorem dX9_wearOf_22 : decode cX9_wearOf 22 = .ok (.bipush 59, 2) := dk_16 59 (dk_at dksX9_wearOf_0 22 rfl rfl)
theorem dX9_wearOf_24 : decode cX9_wearOf 24 = .ok (.iaload, 1) := dk_46 (dk_at dksX9_wearOf_1 0 rfl rfl)
theorem dX9_wearOf_25 : decode cX9_wearOf 25 = .ok (.aload_n 1, 1) := dk_43 (dk_at dksX9_wearOf_1 1 rfl rfl)
theorem dX9_wearOf_26 : decode cX9_wearOf 26 = .ok (.bipush 57, 2) := dk_16 57 (dk_at dksX9_wearOf_1 2 rfl rfl)
theorem dX9_wearOf_28 : decode cX9_wearOf 28 = .ok (.iaload, 1) := dk_46 (dk_at dksX9_wearOf_1 4 rfl rfl)
theorem dX9_wearOf_29 : decode cX9_wearOf 29 = .ok (.aload_n 0, 1) := dk_42 (dk_at dksX9_wearOf_1 5 rfl rfl)
theorem dX9_wearOf_30 : decode cX9_wearOf 30 = .ok (.getfield 23, 3) := dk_180 0 23 (dk_at dksX9_wearOf_1 6 rfl rfl)
theorem dX9_wearOf_33 : decode cX9_wearOf 33 = .ok (.iconst 3, 1) := dk_6 (dk_at dksX9_wearOf_1 9 rfl rfl)
theorem dX9_wearOf_34 : decode cX9_wearOf 34 = .ok (.iaload, 1) := dk_46 (dk_at dksX9_wearOf_1 10 rfl rfl)
theorem dX9_wearOf_35 : decode cX9_wearOf 35 = .ok (.invokevirtual 263, 3) := dk_182 1 7 (dk_at dksX9_wearOf_1 11 rfl rfl)
theorem dX9_wearOf_38 : decode cX9_wearOf 38 = .ok (.ireturn, 1) := dk_172 (dk_at dksX9_wearOf_1 14 rfl rfl)
def dkwX9_criesOf_2 : List UInt8 := [128, 61, 132, 3, 1, 167, 255, 209, 28, 172]
abbrev dktX9_criesOf_2 : List UInt8 := dkwX9_criesOf_2 ++ []
def dkwX9_criesOf_1 : List UInt8 := [159, 0, 17, 42, 16, 16, 7, 29, 104, 96, 5, 96, 46, 27, 160, 0, 9, 4, 29, 120, 167, 0, 4, 3]
abbrev dktX9_criesOf_1 : List UInt8 := dkwX9_criesOf_1 ++ dktX9_criesOf_2
def dkwX9_criesOf_0 : List UInt8 := [3, 61, 3, 62, 29, 42, 16, 56, 46, 162, 0, 45, 28, 42, 16, 16, 7, 29, 104, 96, 46, 27]
abbrev dktX9_criesOf_0 : List UInt8 := dkwX9_criesOf_0 ++ dktX9_criesOf_1
theorem dksX9_criesOf_0 : cX9_criesOf.data.toList.drop 0 = dktX9_criesOf_0 := by decide +kernel
theorem dksX9_criesOf_1 : cX9_criesOf.data.toList.drop 22 = dktX9_criesOf_1 := dk_seg dksX9_criesOf_0 22 rfl rfl
theorem dksX9_criesOf_2 : cX9_criesOf.data.toList.drop 46 = dktX9_criesOf_2 := dk_seg dksX9_criesOf_1 24 rfl rfl
theorem dX9_criesOf_0 : decode cX9_criesOf 0 = .ok (.iconst 0, 1) := dk_3 (dk_at dksX9_criesOf_0 0 rfl rfl)
theorem dX9_criesOf_1 : decode cX9_criesOf 1 = .ok (.istore_n 2, 1) := dk_61 (dk_at dksX9_criesOf_0 1 rfl rfl)
theorem dX9_criesOf_2 : decode cX9_criesOf 2 = .ok (.iconst 0, 1) := dk_3 (dk_at dksX9_criesOf_0 2 rfl rfl)
theorem dX9_criesOf_3 : decode cX9_criesOf 3 = .ok (.istore_n 3, 1) := dk_62 (dk_at dksX9_criesOf_0 3 rfl rfl)
theorem dX9_criesOf_4 : decode cX9_criesOf 4 = .ok (.iload_n 3, 1) := dk_29 (dk_at dksX9_criesOf_0 4 rfl rfl)
theorem dX9_criesOf_5 : decode cX9_criesOf 5 = .ok (.aload_n 0, 1) := dk_42 (dk_at dksX9_criesOf_0 5 rfl rfl)
theorem dX9_criesOf_6 : decode cX9_criesOf 6 = .ok (.bipush 56, 2) := dk_16 56 (dk_at dksX9_criesOf_0 6 rfl rfl)
theorem dX9_criesOf_8 : decode cX9_criesOf 8 = .ok (.iaload, 1) := dk_46 (dk_at dksX9_criesOf_0 8 rfl rfl)
theorem dX9_criesOf_9 : decode cX9_criesOf 9 = .ok (.if_icmp .ge 45, 3) := dk_162 0 45 (dk_at dksX9_criesOf_0 9 rfl rfl)
theorem dX9_criesOf_12 : decode cX9_criesOf 12 = .ok (.iload_n 2, 1) := dk_28 (dk_at dksX9_criesOf_0 12 rfl rfl)
theorem dX9_criesOf_13 : decode cX9_criesOf 13 = .ok (.aload_n 0, 1) := dk_42 (dk_at dksX9_criesOf_0 13 rfl rfl)
theorem dX9_criesOf_14 : decode cX9_criesOf 14 = .ok (.bipush 16, 2) := dk_16 16 (dk_at dksX9_criesOf_0 14 rfl rfl)
theorem dX9_criesOf_16 : decode cX9_criesOf 16 = .ok (.iconst 4, 1) := dk_7 (dk_at dksX9_criesOf_0 16 rfl rfl)
theorem dX9_criesOf_17 : decode cX9_criesOf 17 = .ok (.iload_n 3, 1) := dk_29 (dk_at dksX9_criesOf_0 17 rfl rfl)
theorem dX9_criesOf_18 : decode cX9_criesOf 18 = .ok (.imul, 1) := dk_104 (dk_at dksX9_criesOf_0 18 rfl rfl)
theorem dX9_criesOf_19 : decode cX9_criesOf 19 = .ok (.iadd, 1) := dk_96 (dk_at dksX9_criesOf_0 19 rfl rfl)
theorem dX9_criesOf_20 : decode cX9_criesOf 20 = .ok (.iaload, 1) := dk_46 (dk_at dksX9_criesOf_0 20 rfl rfl)
theorem dX9_criesOf_21 : decode cX9_criesOf 21 = .ok (.iload_n 1, 1) := dk_27 (dk_at dksX9_criesOf_0 21 rfl rfl)
theorem dX9_criesOf_22 : decode cX9_criesOf 22 = .ok (.if_icmp .eq 17, 3) := dk_159 0 17 (dk_at dksX9_criesOf_1 0 rfl rfl)
theorem dX9_criesOf_25 : decode cX9_criesOf 25 = .ok (.aload_n 0, 1) := dk_42 (dk_at dksX9_criesOf_1 3 rfl rfl)
theorem dX9_criesOf_26 : decode cX9_criesOf 26 = .ok (.bipush 16, 2) := dk_16 16 (dk_at dksX9_criesOf_1 4 rfl rfl)
theorem dX9_criesOf_28 : decode cX9_criesOf 28 = .ok (.iconst 4, 1) := dk_7 (dk_at dksX9_criesOf_1 6 rfl rfl)
theorem dX9_criesOf_29 : decode cX9_criesOf 29 = .ok (.iload_n 3, 1) := dk_29 (dk_at dksX9_criesOf_1 7 rfl rfl)
theorem dX9_criesOf_30 : decode cX9_criesOf 30 = .ok (.imul, 1) := dk_104 (dk_at dksX9_criesOf_1 8 rfl rfl)
theorem dX9_criesOf_31 : decode cX9_criesOf 31 = .ok (.iadd, 1) := dk_96 (dk_at dksX9_criesOf_1 9 rfl rfl)
theorem dX9_criesOf_32 : decode cX9_criesOf 32 = .ok (.iconst 2, 1) := dk_5 (dk_at dksX9_criesOf_1 10 rfl rfl)
theorem dX9_criesOf_33 : decode cX9_criesOf 33 = .ok (.iadd, 1) := dk_96 (dk_at dksX9_criesOf_1 11 rfl rfl)
theorem dX9_criesOf_34 : decode cX9_criesOf 34 = .ok (.iaload, 1) := dk_46 (dk_at dksX9_criesOf_1 12 rfl rfl)
theorem dX9_criesOf_35 : decode cX9_criesOf 35 = .ok (.iload_n 1, 1) := dk_27 (dk_at dksX9_criesOf_1 13 rfl rfl)
theorem dX9_criesOf_36 : decode cX9_criesOf 36 = .ok (.if_icmp .ne 9, 3) := dk_160 0 9 (dk_at dksX9_criesOf_1 14 rfl rfl)
theorem dX9_criesOf_39 : decode cX9_criesOf 39 = .ok (.iconst 1, 1) := dk_4 (dk_at dksX9_criesOf_1 17 rfl rfl)
theorem dX9_criesOf_40 : decode cX9_criesOf 40 = .ok (.iload_n 3, 1) := dk_29 (dk_at dksX9_criesOf_1 18 rfl rfl)
theorem dX9_criesOf_41 : decode cX9_criesOf 41 = .ok (.ishl, 1) := dk_120 (dk_at dksX9_criesOf_1 19 rfl rfl)
theorem dX9_criesOf_42 : decode cX9_criesOf 42 = .ok (.goto 4, 3) := dk_167 0 4 (dk_at dksX9_criesOf_1 20 rfl rfl)
theorem dX9_criesOf_45 : decode cX9_criesOf 45 = .ok (.iconst 0, 1) := dk_3 (dk_at dksX9_criesOf_1 23 rfl rfl)
theorem dX9_criesOf_46 : decode cX9_criesOf 46 = .ok (.ior, 1) := dk_128 (dk_at dksX9_criesOf_2 0 rfl rfl)
theorem dX9_criesOf_47 : decode cX9_criesOf 47 = .ok (.istore_n 2, 1) := dk_61 (dk_at dksX9_criesOf_2 1 rfl rfl)
theorem dX9_criesOf_48 : decode cX9_criesOf 48 = .ok (.iinc 3 1, 3) := dk_132 3 1 (dk_at dksX9_criesOf_2 2 rfl rfl)
theorem dX9_criesOf_51 : decode cX9_criesOf 51 = .ok (.goto (-47), 3) := dk_167 255 209 (dk_at dksX9_criesOf_2 5 rfl rfl)
theorem dX9_criesOf_54 : decode cX9_criesOf 54 = .ok (.iload_n 2, 1) := dk_28 (dk_at dksX9_criesOf_2 8 rfl rfl)
theorem dX9_criesOf_55 : decode cX9_criesOf 55 = .ok (.ireturn, 1) := dk_172 (dk_at dksX9_criesOf_2 9 rfl rfl)
def dkwX9_ones_1 : List UInt8 := [27, 172]
abbrev dktX9_ones_1 : List UInt8 := dkwX9_ones_1 ++ []
def dkwX9_ones_0 : List UInt8 := [3, 60, 3, 61, 28, 16, 10, 162, 0, 17, 27, 26, 28, 122, 4, 126, 96, 60, 132, 2, 1, 167, 255, 239]
abbrev dktX9_ones_0 : List UInt8 := dkwX9_ones_0 ++ dktX9_ones_1
theorem dksX9_ones_0 : cX9_ones.data.toList.drop 0 = dktX9_ones_0 := by decide +kernel
theorem dksX9_ones_1 : cX9_ones.data.toList.drop 24 = dktX9_ones_1 := dk_seg dksX9_ones_0 24 rfl rfl
theorem dX9_ones_0 : decode cX9_ones 0 = .ok (.iconst 0, 1) := dk_3 (dk_at dksX9_ones_0 0 rfl rfl)
theorem dX9_ones_1 : decode cX9_ones 1 = .ok (.istore_n 1, 1) := dk_60 (dk_at dksX9_ones_0 1 rfl rfl)
theorem dX9_ones_2 : decode cX9_ones 2 = .ok (.iconst 0, 1) := dk_3 (dk_at dksX9_ones_0 2 rfl rfl)
theorem dX9_ones_3 : decode cX9_ones 3 = .ok (.istore_n 2, 1) := dk_61 (dk_at dksX9_ones_0 3 rfl rfl)
theorem dX9_ones_4 : decode cX9_ones 4 = .ok (.iload_n 2, 1) := dk_28 (dk_at dksX9_ones_0 4 rfl rfl)
theorem dX9_ones_5 : decode cX9_ones 5 = .ok (.bipush 10, 2) := dk_16 10 (dk_at dksX9_ones_0 5 rfl rfl)
theorem dX9_ones_7 : decode cX9_ones 7 = .ok (.if_icmp .ge 17, 3) := dk_162 0 17 (dk_at dksX9_ones_0 7 rfl rfl)
theorem dX9_ones_10 : decode cX9_ones 10 = .ok (.iload_n 1, 1) := dk_27 (dk_at dksX9_ones_0 10 rfl rfl)
theorem dX9_ones_11 : decode cX9_ones 11 = .ok (.iload_n 0, 1) := dk_26 (dk_at dksX9_ones_0 11 rfl rfl)
theorem dX9_ones_12 : decode cX9_ones 12 = .ok (.iload_n 2, 1) := dk_28 (dk_at dksX9_ones_0 12 rfl rfl)
theorem dX9_ones_13 : decode cX9_ones 13 = .ok (.ishr, 1) := dk_122 (dk_at dksX9_ones_0 13 rfl rfl)
theorem dX9_ones_14 : decode cX9_ones 14 = .ok (.iconst 1, 1) := dk_4 (dk_at dksX9_ones_0 14 rfl rfl)
theorem dX9_ones_15 : decode cX9_ones 15 = .ok (.iand, 1) := dk_126 (dk_at dksX9_ones_0 15 rfl rfl)
theorem dX9_ones_16 : decode cX9_ones 16 = .ok (.iadd, 1) := dk_96 (dk_at dksX9_ones_0 16 rfl rfl)
theorem dX9_ones_17 : decode cX9_ones 17 = .ok (.istore_n 1, 1) := dk_60 (dk_at dksX9_ones_0 17 rfl rfl)
theorem dX9_ones_18 : decode cX9_ones 18 = .ok (.iinc 2 1, 3) := dk_132 2 1 (dk_at dksX9_ones_0 18 rfl rfl)
theorem dX9_ones_21 : decode cX9_ones 21 = .ok (.goto (-17), 3) := dk_167 255 239 (dk_at dksX9_ones_0 21 rfl rfl)
theorem dX9_ones_24 : decode cX9_ones 24 = .ok (.iload_n 1, 1) := dk_27 (dk_at dksX9_ones_1 0 rfl rfl)
theorem dX9_ones_25 : decode cX9_ones 25 = .ok (.ireturn, 1) := dk_172 (dk_at dksX9_ones_1 1 rfl rfl)
def dkwX9_wearBy_2 : List UInt8 := [180, 0, 55, 16, 6, 21, 7, 79, 42, 182, 0, 253, 172]
abbrev dktX9_wearBy_2 : List UInt8 := dkwX9_wearBy_2 ++ []
def dkwX9_wearBy_1 : List UInt8 := [180, 0, 55, 6, 21, 4, 79, 42, 180, 0, 55, 7, 21, 5, 79, 42, 180, 0, 55, 8, 21, 6, 79, 42]
abbrev dktX9_wearBy_1 : List UInt8 := dkwX9_wearBy_1 ++ dktX9_wearBy_2
def dkwX9_wearBy_0 : List UInt8 := [42, 180, 0, 55, 3, 27, 79, 42, 180, 0, 55, 4, 28, 79, 42, 180, 0, 55, 5, 29, 79, 42]
abbrev dktX9_wearBy_0 : List UInt8 := dkwX9_wearBy_0 ++ dktX9_wearBy_1
theorem dksX9_wearBy_0 : cX9_wearBy.data.toList.drop 0 = dktX9_wearBy_0 := by decide +kernel
theorem dksX9_wearBy_1 : cX9_wearBy.data.toList.drop 22 = dktX9_wearBy_1 := dk_seg dksX9_wearBy_0 22 rfl rfl
theorem dksX9_wearBy_2 : cX9_wearBy.data.toList.drop 46 = dktX9_wearBy_2 := dk_seg dksX9_wearBy_1 24 rfl rfl
theorem dX9_wearBy_0 : decode cX9_wearBy 0 = .ok (.aload_n 0, 1) := dk_42 (dk_at dksX9_wearBy_0 0 rfl rfl)
theorem dX9_wearBy_1 : decode cX9_wearBy 1 = .ok (.getfield 55, 3) := dk_180 0 55 (dk_at dksX9_wearBy_0 1 rfl rfl)
theorem dX9_wearBy_4 : decode cX9_wearBy 4 = .ok (.iconst 0, 1) := dk_3 (dk_at dksX9_wearBy_0 4 rfl rfl)
theorem dX9_wearBy_5 : decode cX9_wearBy 5 = .ok (.iload_n 1, 1) := dk_27 (dk_at dksX9_wearBy_0 5 rfl rfl)
theorem dX9_wearBy_6 : decode cX9_wearBy 6 = .ok (.iastore, 1) := dk_79 (dk_at dksX9_wearBy_0 6 rfl rfl)
theorem dX9_wearBy_7 : decode cX9_wearBy 7 = .ok (.aload_n 0, 1) := dk_42 (dk_at dksX9_wearBy_0 7 rfl rfl)
theorem dX9_wearBy_8 : decode cX9_wearBy 8 = .ok (.getfield 55, 3) := dk_180 0 55 (dk_at dksX9_wearBy_0 8 rfl rfl)
theorem dX9_wearBy_11 : decode cX9_wearBy 11 = .ok (.iconst 1, 1) := dk_4 (dk_at dksX9_wearBy_0 11 rfl rfl)
theorem dX9_wearBy_12 : decode cX9_wearBy 12 = .ok (.iload_n 2, 1) := dk_28 (dk_at dksX9_wearBy_0 12 rfl rfl)
theorem dX9_wearBy_13 : decode cX9_wearBy 13 = .ok (.iastore, 1) := dk_79 (dk_at dksX9_wearBy_0 13 rfl rfl)
theorem dX9_wearBy_14 : decode cX9_wearBy 14 = .ok (.aload_n 0, 1) := dk_42 (dk_at dksX9_wearBy_0 14 rfl rfl)
theorem dX9_wearBy_15 : decode cX9_wearBy 15 = .ok (.getfield 55, 3) := dk_180 0 55 (dk_at dksX9_wearBy_0 15 rfl rfl)
theorem dX9_wearBy_18 : decode cX9_wearBy 18 = .ok (.iconst 2, 1) := dk_5 (dk_at dksX9_wearBy_0 18 rfl rfl)
theorem dX9_wearBy_19 : decode cX9_wearBy 19 = .ok (.iload_n 3, 1) := dk_29 (dk_at dksX9_wearBy_0 19 rfl rfl)
theorem dX9_wearBy_20 : decode cX9_wearBy 20 = .ok (.iastore, 1) := dk_79 (dk_at dksX9_wearBy_0 20 rfl rfl)
theorem dX9_wearBy_21 : decode cX9_wearBy 21 = .ok (.aload_n 0, 1) := dk_42 (dk_at dksX9_wearBy_0 21 rfl rfl)
theorem dX9_wearBy_22 : decode cX9_wearBy 22 = .ok (.getfield 55, 3) := dk_180 0 55 (dk_at dksX9_wearBy_1 0 rfl rfl)
theorem dX9_wearBy_25 : decode cX9_wearBy 25 = .ok (.iconst 3, 1) := dk_6 (dk_at dksX9_wearBy_1 3 rfl rfl)
theorem dX9_wearBy_26 : decode cX9_wearBy 26 = .ok (.iload 4, 2) := dk_21 4 (dk_at dksX9_wearBy_1 4 rfl rfl)
theorem dX9_wearBy_28 : decode cX9_wearBy 28 = .ok (.iastore, 1) := dk_79 (dk_at dksX9_wearBy_1 6 rfl rfl)
theorem dX9_wearBy_29 : decode cX9_wearBy 29 = .ok (.aload_n 0, 1) := dk_42 (dk_at dksX9_wearBy_1 7 rfl rfl)
theorem dX9_wearBy_30 : decode cX9_wearBy 30 = .ok (.getfield 55, 3) := dk_180 0 55 (dk_at dksX9_wearBy_1 8 rfl rfl)
theorem dX9_wearBy_33 : decode cX9_wearBy 33 = .ok (.iconst 4, 1) := dk_7 (dk_at dksX9_wearBy_1 11 rfl rfl)
theorem dX9_wearBy_34 : decode cX9_wearBy 34 = .ok (.iload 5, 2) := dk_21 5 (dk_at dksX9_wearBy_1 12 rfl rfl)
theorem dX9_wearBy_36 : decode cX9_wearBy 36 = .ok (.iastore, 1) := dk_79 (dk_at dksX9_wearBy_1 14 rfl rfl)
theorem dX9_wearBy_37 : decode cX9_wearBy 37 = .ok (.aload_n 0, 1) := dk_42 (dk_at dksX9_wearBy_1 15 rfl rfl)
theorem dX9_wearBy_38 : decode cX9_wearBy 38 = .ok (.getfield 55, 3) := dk_180 0 55 (dk_at dksX9_wearBy_1 16 rfl rfl)
theorem dX9_wearBy_41 : decode cX9_wearBy 41 = .ok (.iconst 5, 1) := dk_8 (dk_at dksX9_wearBy_1 19 rfl rfl)
theorem dX9_wearBy_42 : decode cX9_wearBy 42 = .ok (.iload 6, 2) := dk_21 6 (dk_at dksX9_wearBy_1 20 rfl rfl)
theorem dX9_wearBy_44 : decode cX9_wearBy 44 = .ok (.iastore, 1) := dk_79 (dk_at dksX9_wearBy_1 22 rfl rfl)
theorem dX9_wearBy_45 : decode cX9_wearBy 45 = .ok (.aload_n 0, 1) := dk_42 (dk_at dksX9_wearBy_1 23 rfl rfl)
theorem dX9_wearBy_46 : decode cX9_wearBy 46 = .ok (.getfield 55, 3) := dk_180 0 55 (dk_at dksX9_wearBy_2 0 rfl rfl)
theorem dX9_wearBy_49 : decode cX9_wearBy 49 = .ok (.bipush 6, 2) := dk_16 6 (dk_at dksX9_wearBy_2 3 rfl rfl)
theorem dX9_wearBy_51 : decode cX9_wearBy 51 = .ok (.iload 7, 2) := dk_21 7 (dk_at dksX9_wearBy_2 5 rfl rfl)
theorem dX9_wearBy_53 : decode cX9_wearBy 53 = .ok (.iastore, 1) := dk_79 (dk_at dksX9_wearBy_2 7 rfl rfl)
theorem dX9_wearBy_54 : decode cX9_wearBy 54 = .ok (.aload_n 0, 1) := dk_42 (dk_at dksX9_wearBy_2 8 rfl rfl)
theorem dX9_wearBy_55 : decode cX9_wearBy 55 = .ok (.invokevirtual 253, 3) := dk_182 0 253 (dk_at dksX9_wearBy_2 9 rfl rfl)
theorem dX9_wearBy_58 : decode cX9_wearBy 58 = .ok (.ireturn, 1) := dk_172 (dk_at dksX9_wearBy_2 12 rfl rfl)
def dkwX9_byLaw_6 : List UInt8 := [184, 0, 235, 172]
abbrev dktX9_byLaw_6 : List UInt8 := dkwX9_byLaw_6 ++ []
def dkwX9_byLaw_5 : List UInt8 := [184, 0, 241, 79, 132, 2, 1, 167, 255, 150, 16, 20, 3, 42, 180, 0, 52, 3, 46, 184, 0, 238]
abbrev dktX9_byLaw_5 : List UInt8 := dkwX9_byLaw_5 ++ dktX9_byLaw_6
def dkwX9_byLaw_4 : List UInt8 := [100, 42, 180, 0, 40, 28, 50, 3, 46, 42, 180, 0, 52, 27, 4, 100, 46, 42, 180, 0, 52, 27, 46]
abbrev dktX9_byLaw_4 : List UInt8 := dkwX9_byLaw_4 ++ dktX9_byLaw_5
def dkwX9_byLaw_3 : List UInt8 := [180, 0, 40, 28, 50, 4, 46, 46, 79, 132, 1, 1, 167, 0, 39, 132, 1, 255, 42, 180, 0, 52, 27, 4]
abbrev dktX9_byLaw_3 : List UInt8 := dkwX9_byLaw_3 ++ dktX9_byLaw_4
def dkwX9_byLaw_2 : List UInt8 := [28, 50, 3, 46, 154, 0, 14, 42, 180, 0, 40, 28, 50, 4, 46, 167, 0, 16, 42, 180, 0, 55, 42]
abbrev dktX9_byLaw_2 : List UInt8 := dkwX9_byLaw_2 ++ dktX9_byLaw_3
def dkwX9_byLaw_1 : List UInt8 := [162, 0, 104, 42, 180, 0, 40, 28, 50, 3, 46, 5, 162, 0, 50, 42, 180, 0, 52, 27, 42, 180, 0, 40]
abbrev dktX9_byLaw_1 : List UInt8 := dkwX9_byLaw_1 ++ dktX9_byLaw_2
def dkwX9_byLaw_0 : List UInt8 := [3, 60, 42, 180, 0, 52, 3, 42, 180, 0, 55, 4, 46, 7, 108, 79, 3, 61, 28, 42, 180, 0, 188]
abbrev dktX9_byLaw_0 : List UInt8 := dkwX9_byLaw_0 ++ dktX9_byLaw_1
theorem dksX9_byLaw_0 : cX9_byLaw.data.toList.drop 0 = dktX9_byLaw_0 := by decide +kernel
theorem dksX9_byLaw_1 : cX9_byLaw.data.toList.drop 23 = dktX9_byLaw_1 := dk_seg dksX9_byLaw_0 23 rfl rfl
theorem dksX9_byLaw_2 : cX9_byLaw.data.toList.drop 47 = dktX9_byLaw_2 := dk_seg dksX9_byLaw_1 24 rfl rfl
theorem dksX9_byLaw_3 : cX9_byLaw.data.toList.drop 70 = dktX9_byLaw_3 := dk_seg dksX9_byLaw_2 23 rfl rfl
theorem dksX9_byLaw_4 : cX9_byLaw.data.toList.drop 94 = dktX9_byLaw_4 := dk_seg dksX9_byLaw_3 24 rfl rfl
theorem dksX9_byLaw_5 : cX9_byLaw.data.toList.drop 117 = dktX9_byLaw_5 := dk_seg dksX9_byLaw_4 23 rfl rfl
theorem dksX9_byLaw_6 : cX9_byLaw.data.toList.drop 139 = dktX9_byLaw_6 := dk_seg dksX9_byLaw_5 22 rfl rfl
theorem dX9_byLaw_0 : decode cX9_byLaw 0 = .ok (.iconst 0, 1) := dk_3 (dk_at dksX9_byLaw_0 0 rfl rfl)
theorem dX9_byLaw_1 : decode cX9_byLaw 1 = .ok (.istore_n 1, 1) := dk_60 (dk_at dksX9_byLaw_0 1 rfl rfl)
theorem dX9_byLaw_2 : decode cX9_byLaw 2 = .ok (.aload_n 0, 1) := dk_42 (dk_at dksX9_byLaw_0 2 rfl rfl)
theorem dX9_byLaw_3 : decode cX9_byLaw 3 = .ok (.getfield 52, 3) := dk_180 0 52 (dk_at dksX9_byLaw_0 3 rfl rfl)
theorem dX9_byLaw_6 : decode cX9_byLaw 6 = .ok (.iconst 0, 1) := dk_3 (dk_at dksX9_byLaw_0 6 rfl rfl)
theorem dX9_byLaw_7 : decode cX9_byLaw 7 = .ok (.aload_n 0, 1) := dk_42 (dk_at dksX9_byLaw_0 7 rfl rfl)
theorem dX9_byLaw_8 : decode cX9_byLaw 8 = .ok (.getfield 55, 3) := dk_180 0 55 (dk_at dksX9_byLaw_0 8 rfl rfl)
theorem dX9_byLaw_11 : decode cX9_byLaw 11 = .ok (.iconst 1, 1) := dk_4 (dk_at dksX9_byLaw_0 11 rfl rfl)
theorem dX9_byLaw_12 : decode cX9_byLaw 12 = .ok (.iaload, 1) := dk_46 (dk_at dksX9_byLaw_0 12 rfl rfl)
theorem dX9_byLaw_13 : decode cX9_byLaw 13 = .ok (.iconst 4, 1) := dk_7 (dk_at dksX9_byLaw_0 13 rfl rfl)
theorem dX9_byLaw_14 : decode cX9_byLaw 14 = .ok (.idiv, 1) := dk_108 (dk_at dksX9_byLaw_0 14 rfl rfl)
theorem dX9_byLaw_15 : decode cX9_byLaw 15 = .ok (.iastore, 1) := dk_79 (dk_at dksX9_byLaw_0 15 rfl rfl)
theorem dX9_byLaw_16 : decode cX9_byLaw 16 = .ok (.iconst 0, 1) := dk_3 (dk_at dksX9_byLaw_0 16 rfl rfl)
theorem dX9_byLaw_17 : decode cX9_byLaw 17 = .ok (.istore_n 2, 1) := dk_61 (dk_at dksX9_byLaw_0 17 rfl rfl)
theorem dX9_byLaw_18 : decode cX9_byLaw 18 = .ok (.iload_n 2, 1) := dk_28 (dk_at dksX9_byLaw_0 18 rfl rfl)
theorem dX9_byLaw_19 : decode cX9_byLaw 19 = .ok (.aload_n 0, 1) := dk_42 (dk_at dksX9_byLaw_0 19 rfl rfl)
theorem dX9_byLaw_20 : decode cX9_byLaw 20 = .ok (.getfield 188, 3) := dk_180 0 188 (dk_at dksX9_byLaw_0 20 rfl rfl)
theorem dX9_byLaw_23 : decode cX9_byLaw 23 = .ok (.if_icmp .ge 104, 3) := dk_162 0 104 (dk_at dksX9_byLaw_1 0 rfl rfl)
theorem dX9_byLaw_26 : decode cX9_byLaw 26 = .ok (.aload_n 0, 1) := dk_42 (dk_at dksX9_byLaw_1 3 rfl rfl)
theorem dX9_byLaw_27 : decode cX9_byLaw 27 = .ok (.getfield 40, 3) := dk_180 0 40 (dk_at dksX9_byLaw_1 4 rfl rfl)
theorem dX9_byLaw_30 : decode cX9_byLaw 30 = .ok (.iload_n 2, 1) := dk_28 (dk_at dksX9_byLaw_1 7 rfl rfl)
theorem dX9_byLaw_31 : decode cX9_byLaw 31 = .ok (.aaload, 1) := dk_50 (dk_at dksX9_byLaw_1 8 rfl rfl)
theorem dX9_byLaw_32 : decode cX9_byLaw 32 = .ok (.iconst 0, 1) := dk_3 (dk_at dksX9_byLaw_1 9 rfl rfl)
theorem dX9_byLaw_33 : decode cX9_byLaw 33 = .ok (.iaload, 1) := dk_46 (dk_at dksX9_byLaw_1 10 rfl rfl)
theorem dX9_byLaw_34 : decode cX9_byLaw 34 = .ok (.iconst 2, 1) := dk_5 (dk_at dksX9_byLaw_1 11 rfl rfl)
theorem dX9_byLaw_35 : decode cX9_byLaw 35 = .ok (.if_icmp .ge 50, 3) := dk_162 0 50 (dk_at dksX9_byLaw_1 12 rfl rfl)
theorem dX9_byLaw_38 : decode cX9_byLaw 38 = .ok (.aload_n 0, 1) := dk_42 (dk_at dksX9_byLaw_1 15 rfl rfl)
theorem dX9_byLaw_39 : decode cX9_byLaw 39 = .ok (.getfield 52, 3) := dk_180 0 52 (dk_at dksX9_byLaw_1 16 rfl rfl)
theorem dX9_byLaw_42 : decode cX9_byLaw 42 = .ok (.iload_n 1, 1) := dk_27 (dk_at dksX9_byLaw_1 19 rfl rfl)
theorem dX9_byLaw_43 : decode cX9_byLaw 43 = .ok (.aload_n 0, 1) := dk_42 (dk_at dksX9_byLaw_1 20 rfl rfl)
theorem dX9_byLaw_44 : decode cX9_byLaw 44 = .ok (.getfield 40, 3) := dk_180 0 40 (dk_at dksX9_byLaw_1 21 rfl rfl)
theorem dX9_byLaw_47 : decode cX9_byLaw 47 = .ok (.iload_n 2, 1) := dk_28 (dk_at dksX9_byLaw_2 0 rfl rfl)
theorem dX9_byLaw_48 : decode cX9_byLaw 48 = .ok (.aaload, 1) := dk_50 (dk_at dksX9_byLaw_2 1 rfl rfl)
theorem dX9_byLaw_49 : decode cX9_byLaw 49 = .ok (.iconst 0, 1) := dk_3 (dk_at dksX9_byLaw_2 2 rfl rfl)
theorem dX9_byLaw_50 : decode cX9_byLaw 50 = .ok (.iaload, 1) := dk_46 (dk_at dksX9_byLaw_2 3 rfl rfl)
theorem dX9_byLaw_51 : decode cX9_byLaw 51 = .ok (.ifCond .ne 14, 3) := dk_154 0 14 (dk_at dksX9_byLaw_2 4 rfl rfl)
theorem dX9_byLaw_54 : decode cX9_byLaw 54 = .ok (.aload_n 0, 1) := dk_42 (dk_at dksX9_byLaw_2 7 rfl rfl)
theorem dX9_byLaw_55 : decode cX9_byLaw 55 = .ok (.getfield 40, 3) := dk_180 0 40 (dk_at dksX9_byLaw_2 8 rfl rfl)
theorem dX9_byLaw_58 : decode cX9_byLaw 58 = .ok (.iload_n 2, 1) := dk_28 (dk_at dksX9_byLaw_2 11 rfl rfl)
theorem dX9_byLaw_59 : decode cX9_byLaw 59 = .ok (.aaload, 1) := dk_50 (dk_at dksX9_byLaw_2 12 rfl rfl)
theorem dX9_byLaw_60 : decode cX9_byLaw 60 = .ok (.iconst 1, 1) := dk_4 (dk_at dksX9_byLaw_2 13 rfl rfl)
theorem dX9_byLaw_61 : decode cX9_byLaw 61 = .ok (.iaload, 1) := dk_46 (dk_at dksX9_byLaw_2 14 rfl rfl)
theorem dX9_byLaw_62 : decode cX9_byLaw 62 = .ok (.goto 16, 3) := dk_167 0 16 (dk_at dksX9_byLaw_2 15 rfl rfl)
theorem dX9_byLaw_65 : decode cX9_byLaw 65 = .ok (.aload_n 0, 1) := dk_42 (dk_at dksX9_byLaw_2 18 rfl rfl)
theorem dX9_byLaw_66 : decode cX9_byLaw 66 = .ok (.getfield 55, 3) := dk_180 0 55 (dk_at dksX9_byLaw_2 19 rfl rfl)
theorem dX9_byLaw_69 : decode cX9_byLaw 69 = .ok (.aload_n 0, 1) := dk_42 (dk_at dksX9_byLaw_2 22 rfl rfl)
theorem dX9_byLaw_70 : decode cX9_byLaw 70 = .ok (.getfield 40, 3) := dk_180 0 40 (dk_at dksX9_byLaw_3 0 rfl rfl)
theorem dX9_byLaw_73 : decode cX9_byLaw 73 = .ok (.iload_n 2, 1) := dk_28 (dk_at dksX9_byLaw_3 3 rfl rfl)
theorem dX9_byLaw_74 : decode cX9_byLaw 74 = .ok (.aaload, 1) := dk_50 (dk_at dksX9_byLaw_3 4 rfl rfl)
theorem dX9_byLaw_75 : decode cX9_byLaw 75 = .ok (.iconst 1, 1) := dk_4 (dk_at dksX9_byLaw_3 5 rfl rfl)
theorem dX9_byLaw_76 : decode cX9_byLaw 76 = .ok (.iaload, 1) := dk_46 (dk_at dksX9_byLaw_3 6 rfl rfl)
theorem dX9_byLaw_77 : decode cX9_byLaw 77 = .ok (.iaload, 1) := dk_46 (dk_at dksX9_byLaw_3 7 rfl rfl)
theorem dX9_byLaw_78 : decode cX9_byLaw 78 = .ok (.iastore, 1) := dk_79 (dk_at dksX9_byLaw_3 8 rfl rfl)
theorem dX9_byLaw_79 : decode cX9_byLaw 79 = .ok (.iinc 1 1, 3) := dk_132 1 1 (dk_at dksX9_byLaw_3 9 rfl rfl)
theorem dX9_byLaw_82 : decode cX9_byLaw 82 = .ok (.goto 39, 3) := dk_167 0 39 (dk_at dksX9_byLaw_3 12 rfl rfl)
theorem dX9_byLaw_85 : decode cX9_byLaw 85 = .ok (.iinc 1 (-1), 3) := dk_132 1 255 (dk_at dksX9_byLaw_3 15 rfl rfl)
theorem dX9_byLaw_88 : decode cX9_byLaw 88 = .ok (.aload_n 0, 1) := dk_42 (dk_at dksX9_byLaw_3 18 rfl rfl)
theorem dX9_byLaw_89 : decode cX9_byLaw 89 = .ok (.getfield 52, 3) := dk_180 0 52 (dk_at dksX9_byLaw_3 19 rfl rfl)
theorem dX9_byLaw_92 : decode cX9_byLaw 92 = .ok (.iload_n 1, 1) := dk_27 (dk_at dksX9_byLaw_3 22 rfl rfl)
theorem dX9_byLaw_93 : decode cX9_byLaw 93 = .ok (.iconst 1, 1) := dk_4 (dk_at dksX9_byLaw_3 23 rfl rfl)
theorem dX9_byLaw_94 : decode cX9_byLaw 94 = .ok (.isub, 1) := dk_100 (dk_at dksX9_byLaw_4 0 rfl rfl)
theorem dX9_byLaw_95 : decode cX9_byLaw 95 = .ok (.aload_n 0, 1) := dk_42 (dk_at dksX9_byLaw_4 1 rfl rfl)
theorem dX9_byLaw_96 : decode cX9_byLaw 96 = .ok (.getfield 40, 3) := dk_180 0 40 (dk_at dksX9_byLaw_4 2 rfl rfl)
theorem dX9_byLaw_99 : decode cX9_byLaw 99 = .ok (.iload_n 2, 1) := dk_28 (dk_at dksX9_byLaw_4 5 rfl rfl)
theorem dX9_byLaw_100 : decode cX9_byLaw 100 = .ok (.aaload, 1) := dk_50 (dk_at dksX9_byLaw_4 6 rfl rfl)
theorem dX9_byLaw_101 : decode cX9_byLaw 101 = .ok (.iconst 0, 1) := dk_3 (dk_at dksX9_byLaw_4 7 rfl rfl)
theorem dX9_byLaw_102 : decode cX9_byLaw 102 = .ok (.iaload, 1) := dk_46 (dk_at dksX9_byLaw_4 8 rfl rfl)
theorem dX9_byLaw_103 : decode cX9_byLaw 103 = .ok (.aload_n 0, 1) := dk_42 (dk_at dksX9_byLaw_4 9 rfl rfl)
theorem dX9_byLaw_104 : decode cX9_byLaw 104 = .ok (.getfield 52, 3) := dk_180 0 52 (dk_at dksX9_byLaw_4 10 rfl rfl)
theorem dX9_byLaw_107 : decode cX9_byLaw 107 = .ok (.iload_n 1, 1) := dk_27 (dk_at dksX9_byLaw_4 13 rfl rfl)
theorem dX9_byLaw_108 : decode cX9_byLaw 108 = .ok (.iconst 1, 1) := dk_4 (dk_at dksX9_byLaw_4 14 rfl rfl)
theorem dX9_byLaw_109 : decode cX9_byLaw 109 = .ok (.isub, 1) := dk_100 (dk_at dksX9_byLaw_4 15 rfl rfl)
theorem dX9_byLaw_110 : decode cX9_byLaw 110 = .ok (.iaload, 1) := dk_46 (dk_at dksX9_byLaw_4 16 rfl rfl)
theorem dX9_byLaw_111 : decode cX9_byLaw 111 = .ok (.aload_n 0, 1) := dk_42 (dk_at dksX9_byLaw_4 17 rfl rfl)
theorem dX9_byLaw_112 : decode cX9_byLaw 112 = .ok (.getfield 52, 3) := dk_180 0 52 (dk_at dksX9_byLaw_4 18 rfl rfl)
theorem dX9_byLaw_115 : decode cX9_byLaw 115 = .ok (.iload_n 1, 1) := dk_27 (dk_at dksX9_byLaw_4 21 rfl rfl)
theorem dX9_byLaw_116 : decode cX9_byLaw 116 = .ok (.iaload, 1) := dk_46 (dk_at dksX9_byLaw_4 22 rfl rfl)
theorem dX9_byLaw_117 : decode cX9_byLaw 117 = .ok (.invokestatic 241, 3) := dk_184 0 241 (dk_at dksX9_byLaw_5 0 rfl rfl)
theorem dX9_byLaw_120 : decode cX9_byLaw 120 = .ok (.iastore, 1) := dk_79 (dk_at dksX9_byLaw_5 3 rfl rfl)
theorem dX9_byLaw_121 : decode cX9_byLaw 121 = .ok (.iinc 2 1, 3) := dk_132 2 1 (dk_at dksX9_byLaw_5 4 rfl rfl)
theorem dX9_byLaw_124 : decode cX9_byLaw 124 = .ok (.goto (-106), 3) := dk_167 255 150 (dk_at dksX9_byLaw_5 7 rfl rfl)
theorem dX9_byLaw_127 : decode cX9_byLaw 127 = .ok (.bipush 20, 2) := dk_16 20 (dk_at dksX9_byLaw_5 10 rfl rfl)
theorem dX9_byLaw_129 : decode cX9_byLaw 129 = .ok (.iconst 0, 1) := dk_3 (dk_at dksX9_byLaw_5 12 rfl rfl)
theorem dX9_byLaw_130 : decode cX9_byLaw 130 = .ok (.aload_n 0, 1) := dk_42 (dk_at dksX9_byLaw_5 13 rfl rfl)
theorem dX9_byLaw_131 : decode cX9_byLaw 131 = .ok (.getfield 52, 3) := dk_180 0 52 (dk_at dksX9_byLaw_5 14 rfl rfl)
theorem dX9_byLaw_134 : decode cX9_byLaw 134 = .ok (.iconst 0, 1) := dk_3 (dk_at dksX9_byLaw_5 17 rfl rfl)
theorem dX9_byLaw_135 : decode cX9_byLaw 135 = .ok (.iaload, 1) := dk_46 (dk_at dksX9_byLaw_5 18 rfl rfl)
theorem dX9_byLaw_136 : decode cX9_byLaw 136 = .ok (.invokestatic 238, 3) := dk_184 0 238 (dk_at dksX9_byLaw_5 19 rfl rfl)
theorem dX9_byLaw_139 : decode cX9_byLaw 139 = .ok (.invokestatic 235, 3) := dk_184 0 235 (dk_at dksX9_byLaw_6 0 rfl rfl)
theorem dX9_byLaw_142 : decode cX9_byLaw 142 = .ok (.ireturn, 1) := dk_172 (dk_at dksX9_byLaw_6 3 rfl rfl)
def dkwX9_by_4 : List UInt8 := [167, 0, 6, 27, 28, 112, 172, 27, 28, 184, 0, 235, 172, 27, 28, 184, 0, 238, 172]
abbrev dktX9_by_4 : List UInt8 := dkwX9_by_4 ++ []
def dkwX9_by_3 : List UInt8 := [160, 0, 8, 27, 116, 167, 0, 6, 27, 28, 108, 172, 28, 153, 0, 8, 28, 2, 160, 0, 7, 3]
abbrev dktX9_by_3 : List UInt8 := dkwX9_by_3 ++ dktX9_by_4
def dkwX9_by_2 : List UInt8 := [27, 28, 96, 172, 27, 28, 100, 172, 27, 28, 104, 172, 28, 154, 0, 7, 3, 167, 0, 16, 28, 2]
abbrev dktX9_by_2 : List UInt8 := dkwX9_by_2 ++ dktX9_by_3
def dkwX9_by_1 : List UInt8 := [170, 0, 0, 0, 0, 0, 96, 0, 0, 0, 2, 0, 0, 0, 7, 0, 0, 0, 39, 0, 0, 0, 43, 0, 0, 0, 47, 0, 0, 0, 51, 0, 0, 0, 73, 0, 0, 0, 90]
abbrev dktX9_by_1 : List UInt8 := dkwX9_by_1 ++ dktX9_by_2
def dkwX9_by_0 : List UInt8 := [26]
abbrev dktX9_by_0 : List UInt8 := dkwX9_by_0 ++ dktX9_by_1
theorem dksX9_by_0 : cX9_by.data.toList.drop 0 = dktX9_by_0 := by decide +kernel
theorem dksX9_by_1 : cX9_by.data.toList.drop 1 = dktX9_by_1 := dk_seg dksX9_by_0 1 rfl rfl
theorem dksX9_by_2 : cX9_by.data.toList.drop 40 = dktX9_by_2 := dk_seg dksX9_by_1 39 rfl rfl
theorem dksX9_by_3 : cX9_by.data.toList.drop 62 = dktX9_by_3 := dk_seg dksX9_by_2 22 rfl rfl
theorem dksX9_by_4 : cX9_by.data.toList.drop 84 = dktX9_by_4 := dk_seg dksX9_by_3 22 rfl rfl
theorem dX9_by_0 : decode cX9_by 0 = .ok (.iload_n 0, 1) := dk_26 (dk_at dksX9_by_0 0 rfl rfl)
theorem dX9_by_1 : decode cX9_by 1 = .ok (.tableswitch 96 2 7 #[39, 43, 47, 51, 73, 90], 39) := by decide +kernel
theorem dX9_by_40 : decode cX9_by 40 = .ok (.iload_n 1, 1) := dk_27 (dk_at dksX9_by_2 0 rfl rfl)
theorem dX9_by_41 : decode cX9_by 41 = .ok (.iload_n 2, 1) := dk_28 (dk_at dksX9_by_2 1 rfl rfl)
theorem dX9_by_42 : decode cX9_by 42 = .ok (.iadd, 1) := dk_96 (dk_at dksX9_by_2 2 rfl rfl)
theorem dX9_by_43 : decode cX9_by 43 = .ok (.ireturn, 1) := dk_172 (dk_at dksX9_by_2 3 rfl rfl)
theorem dX9_by_44 : decode cX9_by 44 = .ok (.iload_n 1, 1) := dk_27 (dk_at dksX9_by_2 4 rfl rfl)
theorem dX9_by_45 : decode cX9_by 45 = .ok (.iload_n 2, 1) := dk_28 (dk_at dksX9_by_2 5 rfl rfl)
theorem dX9_by_46 : decode cX9_by 46 = .ok (.isub, 1) := dk_100 (dk_at dksX9_by_2 6 rfl rfl)
theorem dX9_by_47 : decode cX9_by 47 = .ok (.ireturn, 1) := dk_172 (dk_at dksX9_by_2 7 rfl rfl)
theorem dX9_by_48 : decode cX9_by 48 = .ok (.iload_n 1, 1) := dk_27 (dk_at dksX9_by_2 8 rfl rfl)
theorem dX9_by_49 : decode cX9_by 49 = .ok (.iload_n 2, 1) := dk_28 (dk_at dksX9_by_2 9 rfl rfl)
theorem dX9_by_50 : decode cX9_by 50 = .ok (.imul, 1) := dk_104 (dk_at dksX9_by_2 10 rfl rfl)
theorem dX9_by_51 : decode cX9_by 51 = .ok (.ireturn, 1) := dk_172 (dk_at dksX9_by_2 11 rfl rfl)
theorem dX9_by_52 : decode cX9_by 52 = .ok (.iload_n 2, 1) := dk_28 (dk_at dksX9_by_2 12 rfl rfl)
theorem dX9_by_53 : decode cX9_by 53 = .ok (.ifCond .ne 7, 3) := dk_154 0 7 (dk_at dksX9_by_2 13 rfl rfl)
theorem dX9_by_56 : decode cX9_by 56 = .ok (.iconst 0, 1) := dk_3 (dk_at dksX9_by_2 16 rfl rfl)
theorem dX9_by_57 : decode cX9_by 57 = .ok (.goto 16, 3) := dk_167 0 16 (dk_at dksX9_by_2 17 rfl rfl)
theorem dX9_by_60 : decode cX9_by 60 = .ok (.iload_n 2, 1) := dk_28 (dk_at dksX9_by_2 20 rfl rfl)
theorem dX9_by_61 : decode cX9_by 61 = .ok (.iconst (-1), 1) := dk_2 (dk_at dksX9_by_2 21 rfl rfl)
theorem dX9_by_62 : decode cX9_by 62 = .ok (.if_icmp .ne 8, 3) := dk_160 0 8 (dk_at dksX9_by_3 0 rfl rfl)
theorem dX9_by_65 : decode cX9_by 65 = .ok (.iload_n 1, 1) := dk_27 (dk_at dksX9_by_3 3 rfl rfl)
theorem dX9_by_66 : decode cX9_by 66 = .ok (.ineg, 1) := dk_116 (dk_at dksX9_by_3 4 rfl rfl)
theorem dX9_by_67 : decode cX9_by 67 = .ok (.goto 6, 3) := dk_167 0 6 (dk_at dksX9_by_3 5 rfl rfl)
theorem dX9_by_70 : decode cX9_by 70 = .ok (.iload_n 1, 1) := dk_27 (dk_at dksX9_by_3 8 rfl rfl)
theorem dX9_by_71 : decode cX9_by 71 = .ok (.iload_n 2, 1) := dk_28 (dk_at dksX9_by_3 9 rfl rfl)
theorem dX9_by_72 : decode cX9_by 72 = .ok (.idiv, 1) := dk_108 (dk_at dksX9_by_3 10 rfl rfl)
theorem dX9_by_73 : decode cX9_by 73 = .ok (.ireturn, 1) := dk_172 (dk_at dksX9_by_3 11 rfl rfl)
theorem dX9_by_74 : decode cX9_by 74 = .ok (.iload_n 2, 1) := dk_28 (dk_at dksX9_by_3 12 rfl rfl)
theorem dX9_by_75 : decode cX9_by 75 = .ok (.ifCond .eq 8, 3) := dk_153 0 8 (dk_at dksX9_by_3 13 rfl rfl)
theorem dX9_by_78 : decode cX9_by 78 = .ok (.iload_n 2, 1) := dk_28 (dk_at dksX9_by_3 16 rfl rfl)
theorem dX9_by_79 : decode cX9_by 79 = .ok (.iconst (-1), 1) := dk_2 (dk_at dksX9_by_3 17 rfl rfl)
theorem dX9_by_80 : decode cX9_by 80 = .ok (.if_icmp .ne 7, 3) := dk_160 0 7 (dk_at dksX9_by_3 18 rfl rfl)
theorem dX9_by_83 : decode cX9_by 83 = .ok (.iconst 0, 1) := dk_3 (dk_at dksX9_by_3 21 rfl rfl)
theorem dX9_by_84 : decode cX9_by 84 = .ok (.goto 6, 3) := dk_167 0 6 (dk_at dksX9_by_4 0 rfl rfl)
theorem dX9_by_87 : decode cX9_by 87 = .ok (.iload_n 1, 1) := dk_27 (dk_at dksX9_by_4 3 rfl rfl)
theorem dX9_by_88 : decode cX9_by 88 = .ok (.iload_n 2, 1) := dk_28 (dk_at dksX9_by_4 4 rfl rfl)
theorem dX9_by_89 : decode cX9_by 89 = .ok (.irem, 1) := dk_112 (dk_at dksX9_by_4 5 rfl rfl)
theorem dX9_by_90 : decode cX9_by 90 = .ok (.ireturn, 1) := dk_172 (dk_at dksX9_by_4 6 rfl rfl)
theorem dX9_by_91 : decode cX9_by 91 = .ok (.iload_n 1, 1) := dk_27 (dk_at dksX9_by_4 7 rfl rfl)
theorem dX9_by_92 : decode cX9_by 92 = .ok (.iload_n 2, 1) := dk_28 (dk_at dksX9_by_4 8 rfl rfl)
theorem dX9_by_93 : decode cX9_by 93 = .ok (.invokestatic 235, 3) := dk_184 0 235 (dk_at dksX9_by_4 9 rfl rfl)
theorem dX9_by_96 : decode cX9_by 96 = .ok (.ireturn, 1) := dk_172 (dk_at dksX9_by_4 12 rfl rfl)
theorem dX9_by_97 : decode cX9_by 97 = .ok (.iload_n 1, 1) := dk_27 (dk_at dksX9_by_4 13 rfl rfl)
theorem dX9_by_98 : decode cX9_by 98 = .ok (.iload_n 2, 1) := dk_28 (dk_at dksX9_by_4 14 rfl rfl)
theorem dX9_by_99 : decode cX9_by 99 = .ok (.invokestatic 238, 3) := dk_184 0 238 (dk_at dksX9_by_4 15 rfl rfl)
theorem dX9_by_102 : decode cX9_by 102 = .ok (.ireturn, 1) := dk_172 (dk_at dksX9_by_4 18 rfl rfl)
def dkwX9_more_0 : List UInt8 := [26, 27, 164, 0, 7, 26, 167, 0, 4, 27, 172]
abbrev dktX9_more_0 : List UInt8 := dkwX9_more_0 ++ []
theorem dksX9_more_0 : cX9_more.data.toList.drop 0 = dktX9_more_0 := by decide +kernel
theorem dX9_more_0 : decode cX9_more 0 = .ok (.iload_n 0, 1) := dk_26 (dk_at dksX9_more_0 0 rfl rfl)
theorem dX9_more_1 : decode cX9_more 1 = .ok (.iload_n 1, 1) := dk_27 (dk_at dksX9_more_0 1 rfl rfl)
theorem dX9_more_2 : decode cX9_more 2 = .ok (.if_icmp .le 7, 3) := dk_164 0 7 (dk_at dksX9_more_0 2 rfl rfl)
theorem dX9_more_5 : decode cX9_more 5 = .ok (.iload_n 0, 1) := dk_26 (dk_at dksX9_more_0 5 rfl rfl)
theorem dX9_more_6 : decode cX9_more 6 = .ok (.goto 4, 3) := dk_167 0 4 (dk_at dksX9_more_0 6 rfl rfl)
theorem dX9_more_9 : decode cX9_more 9 = .ok (.iload_n 1, 1) := dk_27 (dk_at dksX9_more_0 9 rfl rfl)
theorem dX9_more_10 : decode cX9_more 10 = .ok (.ireturn, 1) := dk_172 (dk_at dksX9_more_0 10 rfl rfl)
def dkwX9_undo_2 : List UInt8 := [180, 0, 194, 172]
abbrev dktX9_undo_2 : List UInt8 := dkwX9_undo_2 ++ []
def dkwX9_undo_1 : List UInt8 := [42, 180, 0, 70, 42, 180, 0, 194, 50, 42, 180, 0, 61, 184, 1, 58, 42, 3, 181, 0, 197, 42]
abbrev dktX9_undo_1 : List UInt8 := dkwX9_undo_1 ++ dktX9_undo_2
def dkwX9_undo_0 : List UInt8 := [42, 3, 181, 0, 92, 42, 180, 0, 194, 154, 0, 5, 2, 172, 42, 89, 180, 0, 194, 4, 100, 181, 0, 194]
abbrev dktX9_undo_0 : List UInt8 := dkwX9_undo_0 ++ dktX9_undo_1
theorem dksX9_undo_0 : cX9_undo.data.toList.drop 0 = dktX9_undo_0 := by decide +kernel
theorem dksX9_undo_1 : cX9_undo.data.toList.drop 24 = dktX9_undo_1 := dk_seg dksX9_undo_0 24 rfl rfl
theorem dksX9_undo_2 : cX9_undo.data.toList.drop 46 = dktX9_undo_2 := dk_seg dksX9_undo_1 22 rfl rfl
theorem dX9_undo_0 : decode cX9_undo 0 = .ok (.aload_n 0, 1) := dk_42 (dk_at dksX9_undo_0 0 rfl rfl)
theorem dX9_undo_1 : decode cX9_undo 1 = .ok (.iconst 0, 1) := dk_3 (dk_at dksX9_undo_0 1 rfl rfl)
theorem dX9_undo_2 : decode cX9_undo 2 = .ok (.putfield 92, 3) := dk_181 0 92 (dk_at dksX9_undo_0 2 rfl rfl)
theorem dX9_undo_5 : decode cX9_undo 5 = .ok (.aload_n 0, 1) := dk_42 (dk_at dksX9_undo_0 5 rfl rfl)
theorem dX9_undo_6 : decode cX9_undo 6 = .ok (.getfield 194, 3) := dk_180 0 194 (dk_at dksX9_undo_0 6 rfl rfl)
theorem dX9_undo_9 : decode cX9_undo 9 = .ok (.ifCond .ne 5, 3) := dk_154 0 5 (dk_at dksX9_undo_0 9 rfl rfl)
theorem dX9_undo_12 : decode cX9_undo 12 = .ok (.iconst (-1), 1) := dk_2 (dk_at dksX9_undo_0 12 rfl rfl)
theorem dX9_undo_13 : decode cX9_undo 13 = .ok (.ireturn, 1) := dk_172 (dk_at dksX9_undo_0 13 rfl rfl)
theorem dX9_undo_14 : decode cX9_undo 14 = .ok (.aload_n 0, 1) := dk_42 (dk_at dksX9_undo_0 14 rfl rfl)
theorem dX9_undo_15 : decode cX9_undo 15 = .ok (.dup, 1) := dk_89 (dk_at dksX9_undo_0 15 rfl rfl)
theorem dX9_undo_16 : decode cX9_undo 16 = .ok (.getfield 194, 3) := dk_180 0 194 (dk_at dksX9_undo_0 16 rfl rfl)
theorem dX9_undo_19 : decode cX9_undo 19 = .ok (.iconst 1, 1) := dk_4 (dk_at dksX9_undo_0 19 rfl rfl)
theorem dX9_undo_20 : decode cX9_undo 20 = .ok (.isub, 1) := dk_100 (dk_at dksX9_undo_0 20 rfl rfl)
theorem dX9_undo_21 : decode cX9_undo 21 = .ok (.putfield 194, 3) := dk_181 0 194 (dk_at dksX9_undo_0 21 rfl rfl)
theorem dX9_undo_24 : decode cX9_undo 24 = .ok (.aload_n 0, 1) := dk_42 (dk_at dksX9_undo_1 0 rfl rfl)
theorem dX9_undo_25 : decode cX9_undo 25 = .ok (.getfield 70, 3) := dk_180 0 70 (dk_at dksX9_undo_1 1 rfl rfl)
theorem dX9_undo_28 : decode cX9_undo 28 = .ok (.aload_n 0, 1) := dk_42 (dk_at dksX9_undo_1 4 rfl rfl)
theorem dX9_undo_29 : decode cX9_undo 29 = .ok (.getfield 194, 3) := dk_180 0 194 (dk_at dksX9_undo_1 5 rfl rfl)
theorem dX9_undo_32 : decode cX9_undo 32 = .ok (.aaload, 1) := dk_50 (dk_at dksX9_undo_1 8 rfl rfl)
theorem dX9_undo_33 : decode cX9_undo 33 = .ok (.aload_n 0, 1) := dk_42 (dk_at dksX9_undo_1 9 rfl rfl)
theorem dX9_undo_34 : decode cX9_undo 34 = .ok (.getfield 61, 3) := dk_180 0 61 (dk_at dksX9_undo_1 10 rfl rfl)
theorem dX9_undo_37 : decode cX9_undo 37 = .ok (.invokestatic 314, 3) := dk_184 1 58 (dk_at dksX9_undo_1 13 rfl rfl)
theorem dX9_undo_40 : decode cX9_undo 40 = .ok (.aload_n 0, 1) := dk_42 (dk_at dksX9_undo_1 16 rfl rfl)
theorem dX9_undo_41 : decode cX9_undo 41 = .ok (.iconst 0, 1) := dk_3 (dk_at dksX9_undo_1 17 rfl rfl)
theorem dX9_undo_42 : decode cX9_undo 42 = .ok (.putfield 197, 3) := dk_181 0 197 (dk_at dksX9_undo_1 18 rfl rfl)
theorem dX9_undo_45 : decode cX9_undo 45 = .ok (.aload_n 0, 1) := dk_42 (dk_at dksX9_undo_1 21 rfl rfl)
theorem dX9_undo_46 : decode cX9_undo 46 = .ok (.getfield 194, 3) := dk_180 0 194 (dk_at dksX9_undo_2 0 rfl rfl)
theorem dX9_undo_49 : decode cX9_undo 49 = .ok (.ireturn, 1) := dk_172 (dk_at dksX9_undo_2 3 rfl rfl)
def dkwX9_told_6 : List UInt8 := [180, 0, 197, 172, 42, 180, 0, 61, 16, 58, 46, 172]
abbrev dktX9_told_6 : List UInt8 := dkwX9_told_6 ++ []
def dkwX9_told_5 : List UInt8 := [180, 0, 61, 184, 1, 66, 172, 42, 42, 180, 0, 61, 182, 1, 69, 172, 42, 180, 0, 191, 172, 42]
abbrev dktX9_told_5 : List UInt8 := dkwX9_told_5 ++ dktX9_told_6
def dkwX9_told_4 : List UInt8 := [180, 0, 61, 16, 57, 46, 172, 42, 180, 0, 23, 6, 46, 172, 42, 42, 180, 0, 61, 182, 1, 62, 172, 42]
abbrev dktX9_told_4 : List UInt8 := dkwX9_told_4 ++ dktX9_told_5
def dkwX9_told_3 : List UInt8 := [42, 180, 0, 23, 3, 46, 172, 42, 180, 0, 61, 16, 56, 46, 172, 42, 180, 0, 61, 16, 59, 46, 172, 42]
abbrev dktX9_told_3 : List UInt8 := dkwX9_told_3 ++ dktX9_told_4
def dkwX9_told_2 : List UInt8 := [170, 0, 0, 0, 0, 0, 0, 130, 0, 0, 0, 0, 0, 0, 0, 9, 0, 0, 0, 56, 0, 0, 0, 63, 0, 0, 0, 71, 0, 0, 0, 79, 0, 0, 0, 87, 0, 0, 0, 94, 0, 0, 0, 103, 0, 0, 0, 111, 0, 0, 0, 120, 0, 0, 0, 125]
abbrev dktX9_told_2 : List UInt8 := dkwX9_told_2 ++ dktX9_told_3
def dkwX9_told_1 : List UInt8 := [182, 0, 171, 153, 0, 5, 3, 172, 27]
abbrev dktX9_told_1 : List UInt8 := dkwX9_told_1 ++ dktX9_told_2
def dkwX9_told_0 : List UInt8 := [42, 3, 181, 0, 92, 42, 27, 3, 16, 10, 184, 0, 126, 154, 0, 7, 4, 167, 0, 4, 3, 4, 4]
abbrev dktX9_told_0 : List UInt8 := dkwX9_told_0 ++ dktX9_told_1
theorem dksX9_told_0 : cX9_told.data.toList.drop 0 = dktX9_told_0 := by decide +kernel
theorem dksX9_told_1 : cX9_told.data.toList.drop 23 = dktX9_told_1 := dk_seg dksX9_told_0 23 rfl rfl
theorem dksX9_told_2 : cX9_told.data.toList.drop 32 = dktX9_told_2 := dk_seg dksX9_told_1 9 rfl rfl
theorem dksX9_told_3 : cX9_told.data.toList.drop 88 = dktX9_told_3 := dk_seg dksX9_told_2 56 rfl rfl
theorem dksX9_told_4 : cX9_told.data.toList.drop 112 = dktX9_told_4 := dk_seg dksX9_told_3 24 rfl rfl
theorem dksX9_told_5 : cX9_told.data.toList.drop 136 = dktX9_told_5 := dk_seg dksX9_told_4 24 rfl rfl
theorem dksX9_told_6 : cX9_told.data.toList.drop 158 = dktX9_told_6 := dk_seg dksX9_told_5 22 rfl rfl
theorem dX9_told_0 : decode cX9_told 0 = .ok (.aload_n 0, 1) := dk_42 (dk_at dksX9_told_0 0 rfl rfl)
theorem dX9_told_1 : decode cX9_told 1 = .ok (.iconst 0, 1) := dk_3 (dk_at dksX9_told_0 1 rfl rfl)
theorem dX9_told_2 : decode cX9_told 2 = .ok (.putfield 92, 3) := dk_181 0 92 (dk_at dksX9_told_0 2 rfl rfl)
theorem dX9_told_5 : decode cX9_told 5 = .ok (.aload_n 0, 1) := dk_42 (dk_at dksX9_told_0 5 rfl rfl)
theorem dX9_told_6 : decode cX9_told 6 = .ok (.iload_n 1, 1) := dk_27 (dk_at dksX9_told_0 6 rfl rfl)
theorem dX9_told_7 : decode cX9_told 7 = .ok (.iconst 0, 1) := dk_3 (dk_at dksX9_told_0 7 rfl rfl)
theorem dX9_told_8 : decode cX9_told 8 = .ok (.bipush 10, 2) := dk_16 10 (dk_at dksX9_told_0 8 rfl rfl)
theorem dX9_told_10 : decode cX9_told 10 = .ok (.invokestatic 126, 3) := dk_184 0 126 (dk_at dksX9_told_0 10 rfl rfl)
theorem dX9_told_13 : decode cX9_told 13 = .ok (.ifCond .ne 7, 3) := dk_154 0 7 (dk_at dksX9_told_0 13 rfl rfl)
theorem dX9_told_16 : decode cX9_told 16 = .ok (.iconst 1, 1) := dk_4 (dk_at dksX9_told_0 16 rfl rfl)
theorem dX9_told_17 : decode cX9_told 17 = .ok (.goto 4, 3) := dk_167 0 4 (dk_at dksX9_told_0 17 rfl rfl)
theorem dX9_told_20 : decode cX9_told 20 = .ok (.iconst 0, 1) := dk_3 (dk_at dksX9_told_0 20 rfl rfl)
theorem dX9_told_21 : decode cX9_told 21 = .ok (.iconst 1, 1) := dk_4 (dk_at dksX9_told_0 21 rfl rfl)
theorem dX9_told_22 : decode cX9_told 22 = .ok (.iconst 1, 1) := dk_4 (dk_at dksX9_told_0 22 rfl rfl)
theorem dX9_told_23 : decode cX9_told 23 = .ok (.invokevirtual 171, 3) := dk_182 0 171 (dk_at dksX9_told_1 0 rfl rfl)
theorem dX9_told_26 : decode cX9_told 26 = .ok (.ifCond .eq 5, 3) := dk_153 0 5 (dk_at dksX9_told_1 3 rfl rfl)
theorem dX9_told_29 : decode cX9_told 29 = .ok (.iconst 0, 1) := dk_3 (dk_at dksX9_told_1 6 rfl rfl)
theorem dX9_told_30 : decode cX9_told 30 = .ok (.ireturn, 1) := dk_172 (dk_at dksX9_told_1 7 rfl rfl)
theorem dX9_told_31 : decode cX9_told 31 = .ok (.iload_n 1, 1) := dk_27 (dk_at dksX9_told_1 8 rfl rfl)
theorem dX9_told_32 : decode cX9_told 32 = .ok (.tableswitch 130 0 9 #[56, 63, 71, 79, 87, 94, 103, 111, 120, 125], 56) := by decide +kernel
theorem dX9_told_88 : decode cX9_told 88 = .ok (.aload_n 0, 1) := dk_42 (dk_at dksX9_told_3 0 rfl rfl)
theorem dX9_told_89 : decode cX9_told 89 = .ok (.getfield 23, 3) := dk_180 0 23 (dk_at dksX9_told_3 1 rfl rfl)
theorem dX9_told_92 : decode cX9_told 92 = .ok (.iconst 0, 1) := dk_3 (dk_at dksX9_told_3 4 rfl rfl)
theorem dX9_told_93 : decode cX9_told 93 = .ok (.iaload, 1) := dk_46 (dk_at dksX9_told_3 5 rfl rfl)
theorem dX9_told_94 : decode cX9_told 94 = .ok (.ireturn, 1) := dk_172 (dk_at dksX9_told_3 6 rfl rfl)
theorem dX9_told_95 : decode cX9_told 95 = .ok (.aload_n 0, 1) := dk_42 (dk_at dksX9_told_3 7 rfl rfl)
theorem dX9_told_96 : decode cX9_told 96 = .ok (.getfield 61, 3) := dk_180 0 61 (dk_at dksX9_told_3 8 rfl rfl)
theorem dX9_told_99 : decode cX9_told 99 = .ok (.bipush 56, 2) := dk_16 56 (dk_at dksX9_told_3 11 rfl rfl)
theorem dX9_told_101 : decode cX9_told 101 = .ok (.iaload, 1) := dk_46 (dk_at dksX9_told_3 13 rfl rfl)
theorem dX9_told_102 : decode cX9_told 102 = .ok (.ireturn, 1) := dk_172 (dk_at dksX9_told_3 14 rfl rfl)
theorem dX9_told_103 : decode cX9_told 103 = .ok (.aload_n 0, 1) := dk_42 (dk_at dksX9_told_3 15 rfl rfl)
theorem dX9_told_104 : decode cX9_told 104 = .ok (.getfield 61, 3) := dk_180 0 61 (dk_at dksX9_told_3 16 rfl rfl)
theorem dX9_told_107 : decode cX9_told 107 = .ok (.bipush 59, 2) := dk_16 59 (dk_at dksX9_told_3 19 rfl rfl)
theorem dX9_told_109 : decode cX9_told 109 = .ok (.iaload, 1) := dk_46 (dk_at dksX9_told_3 21 rfl rfl)
theorem dX9_told_110 : decode cX9_told 110 = .ok (.ireturn, 1) := dk_172 (dk_at dksX9_told_3 22 rfl rfl)
theorem dX9_told_111 : decode cX9_told 111 = .ok (.aload_n 0, 1) := dk_42 (dk_at dksX9_told_3 23 rfl rfl)
theorem dX9_told_112 : decode cX9_told 112 = .ok (.getfield 61, 3) := dk_180 0 61 (dk_at dksX9_told_4 0 rfl rfl)
theorem dX9_told_115 : decode cX9_told 115 = .ok (.bipush 57, 2) := dk_16 57 (dk_at dksX9_told_4 3 rfl rfl)
theorem dX9_told_117 : decode cX9_told 117 = .ok (.iaload, 1) := dk_46 (dk_at dksX9_told_4 5 rfl rfl)
theorem dX9_told_118 : decode cX9_told 118 = .ok (.ireturn, 1) := dk_172 (dk_at dksX9_told_4 6 rfl rfl)
theorem dX9_told_119 : decode cX9_told 119 = .ok (.aload_n 0, 1) := dk_42 (dk_at dksX9_told_4 7 rfl rfl)
theorem dX9_told_120 : decode cX9_told 120 = .ok (.getfield 23, 3) := dk_180 0 23 (dk_at dksX9_told_4 8 rfl rfl)
theorem dX9_told_123 : decode cX9_told 123 = .ok (.iconst 3, 1) := dk_6 (dk_at dksX9_told_4 11 rfl rfl)
theorem dX9_told_124 : decode cX9_told 124 = .ok (.iaload, 1) := dk_46 (dk_at dksX9_told_4 12 rfl rfl)
theorem dX9_told_125 : decode cX9_told 125 = .ok (.ireturn, 1) := dk_172 (dk_at dksX9_told_4 13 rfl rfl)
theorem dX9_told_126 : decode cX9_told 126 = .ok (.aload_n 0, 1) := dk_42 (dk_at dksX9_told_4 14 rfl rfl)
theorem dX9_told_127 : decode cX9_told 127 = .ok (.aload_n 0, 1) := dk_42 (dk_at dksX9_told_4 15 rfl rfl)
theorem dX9_told_128 : decode cX9_told 128 = .ok (.getfield 61, 3) := dk_180 0 61 (dk_at dksX9_told_4 16 rfl rfl)
theorem dX9_told_131 : decode cX9_told 131 = .ok (.invokevirtual 318, 3) := dk_182 1 62 (dk_at dksX9_told_4 19 rfl rfl)
theorem dX9_told_134 : decode cX9_told 134 = .ok (.ireturn, 1) := dk_172 (dk_at dksX9_told_4 22 rfl rfl)
theorem dX9_told_135 : decode cX9_told 135 = .ok (.aload_n 0, 1) := dk_42 (dk_at dksX9_told_4 23 rfl rfl)
theorem dX9_told_136 : decode cX9_told 136 = .ok (.getfield 61, 3) := dk_180 0 61 (dk_at dksX9_told_5 0 rfl rfl)
theorem dX9_told_139 : decode cX9_told 139 = .ok (.invokestatic 322, 3) := dk_184 1 66 (dk_at dksX9_told_5 3 rfl rfl)
theorem dX9_told_142 : decode cX9_told 142 = .ok (.ireturn, 1) := dk_172 (dk_at dksX9_told_5 6 rfl rfl)
theorem dX9_told_143 : decode cX9_told 143 = .ok (.aload_n 0, 1) := dk_42 (dk_at dksX9_told_5 7 rfl rfl)
theorem dX9_told_144 : decode cX9_told 144 = .ok (.aload_n 0, 1) := dk_42 (dk_at dksX9_told_5 8 rfl rfl)
theorem dX9_told_145 : decode cX9_told 145 = .ok (.getfield 61, 3) := dk_180 0 61 (dk_at dksX9_told_5 9 rfl rfl)
theorem dX9_told_148 : decode cX9_told 148 = .ok (.invokevirtual 325, 3) := dk_182 1 69 (dk_at dksX9_told_5 12 rfl rfl)
theorem dX9_told_151 : decode cX9_told 151 = .ok (.ireturn, 1) := dk_172 (dk_at dksX9_told_5 15 rfl rfl)
theorem dX9_told_152 : decode cX9_told 152 = .ok (.aload_n 0, 1) := dk_42 (dk_at dksX9_told_5 16 rfl rfl)
theorem dX9_told_153 : decode cX9_told 153 = .ok (.getfield 191, 3) := dk_180 0 191 (dk_at dksX9_told_5 17 rfl rfl)
theorem dX9_told_156 : decode cX9_told 156 = .ok (.ireturn, 1) := dk_172 (dk_at dksX9_told_5 20 rfl rfl)
theorem dX9_told_157 : decode cX9_told 157 = .ok (.aload_n 0, 1) := dk_42 (dk_at dksX9_told_5 21 rfl rfl)
theorem dX9_told_158 : decode cX9_told 158 = .ok (.getfield 197, 3) := dk_180 0 197 (dk_at dksX9_told_6 0 rfl rfl)
theorem dX9_told_161 : decode cX9_told 161 = .ok (.ireturn, 1) := dk_172 (dk_at dksX9_told_6 3 rfl rfl)
theorem dX9_told_162 : decode cX9_told 162 = .ok (.aload_n 0, 1) := dk_42 (dk_at dksX9_told_6 4 rfl rfl)
theorem dX9_told_163 : decode cX9_told 163 = .ok (.getfield 61, 3) := dk_180 0 61 (dk_at dksX9_told_6 5 rfl rfl)
theorem dX9_told_166 : decode cX9_told 166 = .ok (.bipush 58, 2) := dk_16 58 (dk_at dksX9_told_6 8 rfl rfl)
theorem dX9_told_168 : decode cX9_told 168 = .ok (.iaload, 1) := dk_46 (dk_at dksX9_told_6 10 rfl rfl)
theorem dX9_told_169 : decode cX9_told 169 = .ok (.ireturn, 1) := dk_172 (dk_at dksX9_told_6 11 rfl rfl)
def dkwX9_weightIn_1 : List UInt8 := [132, 3, 1, 167, 255, 235, 28, 172]
abbrev dktX9_weightIn_1 : List UInt8 := dkwX9_weightIn_1 ++ []
def dkwX9_weightIn_0 : List UInt8 := [3, 61, 3, 62, 29, 42, 180, 0, 23, 3, 46, 162, 0, 17, 28, 43, 3, 29, 96, 46, 96, 61]
abbrev dktX9_weightIn_0 : List UInt8 := dkwX9_weightIn_0 ++ dktX9_weightIn_1
theorem dksX9_weightIn_0 : cX9_weightIn.data.toList.drop 0 = dktX9_weightIn_0 := by decide +kernel
theorem dksX9_weightIn_1 : cX9_weightIn.data.toList.drop 22 = dktX9_weightIn_1 := dk_seg dksX9_weightIn_0 22 rfl rfl
theorem dX9_weightIn_0 : decode cX9_weightIn 0 = .ok (.iconst 0, 1) := dk_3 (dk_at dksX9_weightIn_0 0 rfl rfl)
theorem dX9_weightIn_1 : decode cX9_weightIn 1 = .ok (.istore_n 2, 1) := dk_61 (dk_at dksX9_weightIn_0 1 rfl rfl)
theorem dX9_weightIn_2 : decode cX9_weightIn 2 = .ok (.iconst 0, 1) := dk_3 (dk_at dksX9_weightIn_0 2 rfl rfl)
theorem dX9_weightIn_3 : decode cX9_weightIn 3 = .ok (.istore_n 3, 1) := dk_62 (dk_at dksX9_weightIn_0 3 rfl rfl)
theorem dX9_weightIn_4 : decode cX9_weightIn 4 = .ok (.iload_n 3, 1) := dk_29 (dk_at dksX9_weightIn_0 4 rfl rfl)
theorem dX9_weightIn_5 : decode cX9_weightIn 5 = .ok (.aload_n 0, 1) := dk_42 (dk_at dksX9_weightIn_0 5 rfl rfl)
theorem dX9_weightIn_6 : decode cX9_weightIn 6 = .ok (.getfield 23, 3) := dk_180 0 23 (dk_at dksX9_weightIn_0 6 rfl rfl)
theorem dX9_weightIn_9 : decode cX9_weightIn 9 = .ok (.iconst 0, 1) := dk_3 (dk_at dksX9_weightIn_0 9 rfl rfl)
theorem dX9_weightIn_10 : decode cX9_weightIn 10 = .ok (.iaload, 1) := dk_46 (dk_at dksX9_weightIn_0 10 rfl rfl)
theorem dX9_weightIn_11 : decode cX9_weightIn 11 = .ok (.if_icmp .ge 17, 3) := dk_162 0 17 (dk_at dksX9_weightIn_0 11 rfl rfl)
theorem dX9_weightIn_14 : decode cX9_weightIn 14 = .ok (.iload_n 2, 1) := dk_28 (dk_at dksX9_weightIn_0 14 rfl rfl)
theorem dX9_weightIn_15 : decode cX9_weightIn 15 = .ok (.aload_n 1, 1) := dk_43 (dk_at dksX9_weightIn_0 15 rfl rfl)
theorem dX9_weightIn_16 : decode cX9_weightIn 16 = .ok (.iconst 0, 1) := dk_3 (dk_at dksX9_weightIn_0 16 rfl rfl)
theorem dX9_weightIn_17 : decode cX9_weightIn 17 = .ok (.iload_n 3, 1) := dk_29 (dk_at dksX9_weightIn_0 17 rfl rfl)
theorem dX9_weightIn_18 : decode cX9_weightIn 18 = .ok (.iadd, 1) := dk_96 (dk_at dksX9_weightIn_0 18 rfl rfl)
theorem dX9_weightIn_19 : decode cX9_weightIn 19 = .ok (.iaload, 1) := dk_46 (dk_at dksX9_weightIn_0 19 rfl rfl)
theorem dX9_weightIn_20 : decode cX9_weightIn 20 = .ok (.iadd, 1) := dk_96 (dk_at dksX9_weightIn_0 20 rfl rfl)
theorem dX9_weightIn_21 : decode cX9_weightIn 21 = .ok (.istore_n 2, 1) := dk_61 (dk_at dksX9_weightIn_0 21 rfl rfl)
theorem dX9_weightIn_22 : decode cX9_weightIn 22 = .ok (.iinc 3 1, 3) := dk_132 3 1 (dk_at dksX9_weightIn_1 0 rfl rfl)
theorem dX9_weightIn_25 : decode cX9_weightIn 25 = .ok (.goto (-21), 3) := dk_167 255 235 (dk_at dksX9_weightIn_1 3 rfl rfl)
theorem dX9_weightIn_28 : decode cX9_weightIn 28 = .ok (.iload_n 2, 1) := dk_28 (dk_at dksX9_weightIn_1 6 rfl rfl)
theorem dX9_weightIn_29 : decode cX9_weightIn 29 = .ok (.ireturn, 1) := dk_172 (dk_at dksX9_weightIn_1 7 rfl rfl)
def dkwX9_notSo_2 : List UInt8 := [162, 0, 9, 4, 28, 120, 167, 0, 4, 3, 128, 60, 132, 2, 1, 167, 255, 197, 27, 172]
abbrev dktX9_notSo_2 : List UInt8 := dkwX9_notSo_2 ++ []
def dkwX9_notSo_1 : List UInt8 := [46, 96, 46, 42, 29, 4, 96, 46, 104, 42, 3, 42, 29, 5, 96, 46, 96, 46, 42, 29, 6, 96, 46, 104]
abbrev dktX9_notSo_1 : List UInt8 := dkwX9_notSo_1 ++ dktX9_notSo_2
def dkwX9_notSo_0 : List UInt8 := [3, 60, 3, 61, 28, 42, 16, 56, 46, 162, 0, 57, 16, 16, 7, 28, 104, 96, 62, 27, 42, 3, 42, 29]
abbrev dktX9_notSo_0 : List UInt8 := dkwX9_notSo_0 ++ dktX9_notSo_1
theorem dksX9_notSo_0 : cX9_notSo.data.toList.drop 0 = dktX9_notSo_0 := by decide +kernel
theorem dksX9_notSo_1 : cX9_notSo.data.toList.drop 24 = dktX9_notSo_1 := dk_seg dksX9_notSo_0 24 rfl rfl
theorem dksX9_notSo_2 : cX9_notSo.data.toList.drop 48 = dktX9_notSo_2 := dk_seg dksX9_notSo_1 24 rfl rfl
theorem dX9_notSo_0 : decode cX9_notSo 0 = .ok (.iconst 0, 1) := dk_3 (dk_at dksX9_notSo_0 0 rfl rfl)
theorem dX9_notSo_1 : decode cX9_notSo 1 = .ok (.istore_n 1, 1) := dk_60 (dk_at dksX9_notSo_0 1 rfl rfl)
theorem dX9_notSo_2 : decode cX9_notSo 2 = .ok (.iconst 0, 1) := dk_3 (dk_at dksX9_notSo_0 2 rfl rfl)
theorem dX9_notSo_3 : decode cX9_notSo 3 = .ok (.istore_n 2, 1) := dk_61 (dk_at dksX9_notSo_0 3 rfl rfl)
theorem dX9_notSo_4 : decode cX9_notSo 4 = .ok (.iload_n 2, 1) := dk_28 (dk_at dksX9_notSo_0 4 rfl rfl)
theorem dX9_notSo_5 : decode cX9_notSo 5 = .ok (.aload_n 0, 1) := dk_42 (dk_at dksX9_notSo_0 5 rfl rfl)
theorem dX9_notSo_6 : decode cX9_notSo 6 = .ok (.bipush 56, 2) := dk_16 56 (dk_at dksX9_notSo_0 6 rfl rfl)
theorem dX9_notSo_8 : decode cX9_notSo 8 = .ok (.iaload, 1) := dk_46 (dk_at dksX9_notSo_0 8 rfl rfl)
theorem dX9_notSo_9 : decode cX9_notSo 9 = .ok (.if_icmp .ge 57, 3) := dk_162 0 57 (dk_at dksX9_notSo_0 9 rfl rfl)
theorem dX9_notSo_12 : decode cX9_notSo 12 = .ok (.bipush 16, 2) := dk_16 16 (dk_at dksX9_notSo_0 12 rfl rfl)
theorem dX9_notSo_14 : decode cX9_notSo 14 = .ok (.iconst 4, 1) := dk_7 (dk_at dksX9_notSo_0 14 rfl rfl)
theorem dX9_notSo_15 : decode cX9_notSo 15 = .ok (.iload_n 2, 1) := dk_28 (dk_at dksX9_notSo_0 15 rfl rfl)
theorem dX9_notSo_16 : decode cX9_notSo 16 = .ok (.imul, 1) := dk_104 (dk_at dksX9_notSo_0 16 rfl rfl)
theorem dX9_notSo_17 : decode cX9_notSo 17 = .ok (.iadd, 1) := dk_96 (dk_at dksX9_notSo_0 17 rfl rfl)
theorem dX9_notSo_18 : decode cX9_notSo 18 = .ok (.istore_n 3, 1) := dk_62 (dk_at dksX9_notSo_0 18 rfl rfl)
theorem dX9_notSo_19 : decode cX9_notSo 19 = .ok (.iload_n 1, 1) := dk_27 (dk_at dksX9_notSo_0 19 rfl rfl)
theorem dX9_notSo_20 : decode cX9_notSo 20 = .ok (.aload_n 0, 1) := dk_42 (dk_at dksX9_notSo_0 20 rfl rfl)
theorem dX9_notSo_21 : decode cX9_notSo 21 = .ok (.iconst 0, 1) := dk_3 (dk_at dksX9_notSo_0 21 rfl rfl)
theorem dX9_notSo_22 : decode cX9_notSo 22 = .ok (.aload_n 0, 1) := dk_42 (dk_at dksX9_notSo_0 22 rfl rfl)
theorem dX9_notSo_23 : decode cX9_notSo 23 = .ok (.iload_n 3, 1) := dk_29 (dk_at dksX9_notSo_0 23 rfl rfl)
theorem dX9_notSo_24 : decode cX9_notSo 24 = .ok (.iaload, 1) := dk_46 (dk_at dksX9_notSo_1 0 rfl rfl)
theorem dX9_notSo_25 : decode cX9_notSo 25 = .ok (.iadd, 1) := dk_96 (dk_at dksX9_notSo_1 1 rfl rfl)
theorem dX9_notSo_26 : decode cX9_notSo 26 = .ok (.iaload, 1) := dk_46 (dk_at dksX9_notSo_1 2 rfl rfl)
theorem dX9_notSo_27 : decode cX9_notSo 27 = .ok (.aload_n 0, 1) := dk_42 (dk_at dksX9_notSo_1 3 rfl rfl)
theorem dX9_notSo_28 : decode cX9_notSo 28 = .ok (.iload_n 3, 1) := dk_29 (dk_at dksX9_notSo_1 4 rfl rfl)
theorem dX9_notSo_29 : decode cX9_notSo 29 = .ok (.iconst 1, 1) := dk_4 (dk_at dksX9_notSo_1 5 rfl rfl)
theorem dX9_notSo_30 : decode cX9_notSo 30 = .ok (.iadd, 1) := dk_96 (dk_at dksX9_notSo_1 6 rfl rfl)
theorem dX9_notSo_31 : decode cX9_notSo 31 = .ok (.iaload, 1) := dk_46 (dk_at dksX9_notSo_1 7 rfl rfl)
theorem dX9_notSo_32 : decode cX9_notSo 32 = .ok (.imul, 1) := dk_104 (dk_at dksX9_notSo_1 8 rfl rfl)
theorem dX9_notSo_33 : decode cX9_notSo 33 = .ok (.aload_n 0, 1) := dk_42 (dk_at dksX9_notSo_1 9 rfl rfl)
theorem dX9_notSo_34 : decode cX9_notSo 34 = .ok (.iconst 0, 1) := dk_3 (dk_at dksX9_notSo_1 10 rfl rfl)
theorem dX9_notSo_35 : decode cX9_notSo 35 = .ok (.aload_n 0, 1) := dk_42 (dk_at dksX9_notSo_1 11 rfl rfl)
theorem dX9_notSo_36 : decode cX9_notSo 36 = .ok (.iload_n 3, 1) := dk_29 (dk_at dksX9_notSo_1 12 rfl rfl)
theorem dX9_notSo_37 : decode cX9_notSo 37 = .ok (.iconst 2, 1) := dk_5 (dk_at dksX9_notSo_1 13 rfl rfl)
theorem dX9_notSo_38 : decode cX9_notSo 38 = .ok (.iadd, 1) := dk_96 (dk_at dksX9_notSo_1 14 rfl rfl)
theorem dX9_notSo_39 : decode cX9_notSo 39 = .ok (.iaload, 1) := dk_46 (dk_at dksX9_notSo_1 15 rfl rfl)
theorem dX9_notSo_40 : decode cX9_notSo 40 = .ok (.iadd, 1) := dk_96 (dk_at dksX9_notSo_1 16 rfl rfl)
theorem dX9_notSo_41 : decode cX9_notSo 41 = .ok (.iaload, 1) := dk_46 (dk_at dksX9_notSo_1 17 rfl rfl)
theorem dX9_notSo_42 : decode cX9_notSo 42 = .ok (.aload_n 0, 1) := dk_42 (dk_at dksX9_notSo_1 18 rfl rfl)
theorem dX9_notSo_43 : decode cX9_notSo 43 = .ok (.iload_n 3, 1) := dk_29 (dk_at dksX9_notSo_1 19 rfl rfl)
theorem dX9_notSo_44 : decode cX9_notSo 44 = .ok (.iconst 3, 1) := dk_6 (dk_at dksX9_notSo_1 20 rfl rfl)
theorem dX9_notSo_45 : decode cX9_notSo 45 = .ok (.iadd, 1) := dk_96 (dk_at dksX9_notSo_1 21 rfl rfl)
theorem dX9_notSo_46 : decode cX9_notSo 46 = .ok (.iaload, 1) := dk_46 (dk_at dksX9_notSo_1 22 rfl rfl)
theorem dX9_notSo_47 : decode cX9_notSo 47 = .ok (.imul, 1) := dk_104 (dk_at dksX9_notSo_1 23 rfl rfl)
theorem dX9_notSo_48 : decode cX9_notSo 48 = .ok (.if_icmp .ge 9, 3) := dk_162 0 9 (dk_at dksX9_notSo_2 0 rfl rfl)
theorem dX9_notSo_51 : decode cX9_notSo 51 = .ok (.iconst 1, 1) := dk_4 (dk_at dksX9_notSo_2 3 rfl rfl)
theorem dX9_notSo_52 : decode cX9_notSo 52 = .ok (.iload_n 2, 1) := dk_28 (dk_at dksX9_notSo_2 4 rfl rfl)
theorem dX9_notSo_53 : decode cX9_notSo 53 = .ok (.ishl, 1) := dk_120 (dk_at dksX9_notSo_2 5 rfl rfl)
theorem dX9_notSo_54 : decode cX9_notSo 54 = .ok (.goto 4, 3) := dk_167 0 4 (dk_at dksX9_notSo_2 6 rfl rfl)
theorem dX9_notSo_57 : decode cX9_notSo 57 = .ok (.iconst 0, 1) := dk_3 (dk_at dksX9_notSo_2 9 rfl rfl)
theorem dX9_notSo_58 : decode cX9_notSo 58 = .ok (.ior, 1) := dk_128 (dk_at dksX9_notSo_2 10 rfl rfl)
theorem dX9_notSo_59 : decode cX9_notSo 59 = .ok (.istore_n 1, 1) := dk_60 (dk_at dksX9_notSo_2 11 rfl rfl)
theorem dX9_notSo_60 : decode cX9_notSo 60 = .ok (.iinc 2 1, 3) := dk_132 2 1 (dk_at dksX9_notSo_2 12 rfl rfl)
theorem dX9_notSo_63 : decode cX9_notSo 63 = .ok (.goto (-59), 3) := dk_167 255 197 (dk_at dksX9_notSo_2 15 rfl rfl)
theorem dX9_notSo_66 : decode cX9_notSo 66 = .ok (.iload_n 1, 1) := dk_27 (dk_at dksX9_notSo_2 18 rfl rfl)
theorem dX9_notSo_67 : decode cX9_notSo 67 = .ok (.ireturn, 1) := dk_172 (dk_at dksX9_notSo_2 19 rfl rfl)
def dkwX9_criedIn_1 : List UInt8 := [167, 0, 6, 4, 29, 120, 128, 61, 132, 3, 1, 167, 255, 225, 28, 172]
abbrev dktX9_criedIn_1 : List UInt8 := dkwX9_criedIn_1 ++ []
def dkwX9_criedIn_0 : List UInt8 := [3, 61, 3, 62, 29, 42, 180, 0, 23, 3, 46, 162, 0, 27, 28, 43, 29, 184, 1, 0, 154, 0, 7, 3]
abbrev dktX9_criedIn_0 : List UInt8 := dkwX9_criedIn_0 ++ dktX9_criedIn_1
theorem dksX9_criedIn_0 : cX9_criedIn.data.toList.drop 0 = dktX9_criedIn_0 := by decide +kernel
theorem dksX9_criedIn_1 : cX9_criedIn.data.toList.drop 24 = dktX9_criedIn_1 := dk_seg dksX9_criedIn_0 24 rfl rfl
theorem dX9_criedIn_0 : decode cX9_criedIn 0 = .ok (.iconst 0, 1) := dk_3 (dk_at dksX9_criedIn_0 0 rfl rfl)
theorem dX9_criedIn_1 : decode cX9_criedIn 1 = .ok (.istore_n 2, 1) := dk_61 (dk_at dksX9_criedIn_0 1 rfl rfl)
theorem dX9_criedIn_2 : decode cX9_criedIn 2 = .ok (.iconst 0, 1) := dk_3 (dk_at dksX9_criedIn_0 2 rfl rfl)
theorem dX9_criedIn_3 : decode cX9_criedIn 3 = .ok (.istore_n 3, 1) := dk_62 (dk_at dksX9_criedIn_0 3 rfl rfl)
theorem dX9_criedIn_4 : decode cX9_criedIn 4 = .ok (.iload_n 3, 1) := dk_29 (dk_at dksX9_criedIn_0 4 rfl rfl)
theorem dX9_criedIn_5 : decode cX9_criedIn 5 = .ok (.aload_n 0, 1) := dk_42 (dk_at dksX9_criedIn_0 5 rfl rfl)
theorem dX9_criedIn_6 : decode cX9_criedIn 6 = .ok (.getfield 23, 3) := dk_180 0 23 (dk_at dksX9_criedIn_0 6 rfl rfl)
theorem dX9_criedIn_9 : decode cX9_criedIn 9 = .ok (.iconst 0, 1) := dk_3 (dk_at dksX9_criedIn_0 9 rfl rfl)
theorem dX9_criedIn_10 : decode cX9_criedIn 10 = .ok (.iaload, 1) := dk_46 (dk_at dksX9_criedIn_0 10 rfl rfl)
theorem dX9_criedIn_11 : decode cX9_criedIn 11 = .ok (.if_icmp .ge 27, 3) := dk_162 0 27 (dk_at dksX9_criedIn_0 11 rfl rfl)
theorem dX9_criedIn_14 : decode cX9_criedIn 14 = .ok (.iload_n 2, 1) := dk_28 (dk_at dksX9_criedIn_0 14 rfl rfl)
theorem dX9_criedIn_15 : decode cX9_criedIn 15 = .ok (.aload_n 1, 1) := dk_43 (dk_at dksX9_criedIn_0 15 rfl rfl)
theorem dX9_criedIn_16 : decode cX9_criedIn 16 = .ok (.iload_n 3, 1) := dk_29 (dk_at dksX9_criedIn_0 16 rfl rfl)
theorem dX9_criedIn_17 : decode cX9_criedIn 17 = .ok (.invokestatic 256, 3) := dk_184 1 0 (dk_at dksX9_criedIn_0 17 rfl rfl)
theorem dX9_criedIn_20 : decode cX9_criedIn 20 = .ok (.ifCond .ne 7, 3) := dk_154 0 7 (dk_at dksX9_criedIn_0 20 rfl rfl)
theorem dX9_criedIn_23 : decode cX9_criedIn 23 = .ok (.iconst 0, 1) := dk_3 (dk_at dksX9_criedIn_0 23 rfl rfl)
theorem dX9_criedIn_24 : decode cX9_criedIn 24 = .ok (.goto 6, 3) := dk_167 0 6 (dk_at dksX9_criedIn_1 0 rfl rfl)
theorem dX9_criedIn_27 : decode cX9_criedIn 27 = .ok (.iconst 1, 1) := dk_4 (dk_at dksX9_criedIn_1 3 rfl rfl)
theorem dX9_criedIn_28 : decode cX9_criedIn 28 = .ok (.iload_n 3, 1) := dk_29 (dk_at dksX9_criedIn_1 4 rfl rfl)
theorem dX9_criedIn_29 : decode cX9_criedIn 29 = .ok (.ishl, 1) := dk_120 (dk_at dksX9_criedIn_1 5 rfl rfl)
theorem dX9_criedIn_30 : decode cX9_criedIn 30 = .ok (.ior, 1) := dk_128 (dk_at dksX9_criedIn_1 6 rfl rfl)
theorem dX9_criedIn_31 : decode cX9_criedIn 31 = .ok (.istore_n 2, 1) := dk_61 (dk_at dksX9_criedIn_1 7 rfl rfl)
theorem dX9_criedIn_32 : decode cX9_criedIn 32 = .ok (.iinc 3 1, 3) := dk_132 3 1 (dk_at dksX9_criedIn_1 8 rfl rfl)
theorem dX9_criedIn_35 : decode cX9_criedIn 35 = .ok (.goto (-31), 3) := dk_167 255 225 (dk_at dksX9_criedIn_1 11 rfl rfl)
theorem dX9_criedIn_38 : decode cX9_criedIn 38 = .ok (.iload_n 2, 1) := dk_28 (dk_at dksX9_criedIn_1 14 rfl rfl)
theorem dX9_criedIn_39 : decode cX9_criedIn 39 = .ok (.ireturn, 1) := dk_172 (dk_at dksX9_criedIn_1 15 rfl rfl)
def dkwX9_thing_5 : List UInt8 := [46, 172, 42, 180, 0, 61, 27, 184, 1, 0, 172, 42, 42, 180, 0, 61, 27, 182, 1, 27, 172]
abbrev dktX9_thing_5 : List UInt8 := dkwX9_thing_5 ++ []
def dkwX9_thing_4 : List UInt8 := [42, 180, 0, 61, 3, 27, 96, 46, 172, 42, 180, 0, 29, 27, 46, 172, 42, 180, 0, 61, 16, 8, 27, 96]
abbrev dktX9_thing_4 : List UInt8 := dkwX9_thing_4 ++ dktX9_thing_5
def dkwX9_thing_3 : List UInt8 := [170, 0, 0, 0, 0, 0, 66, 0, 0, 0, 0, 0, 0, 0, 3, 0, 0, 0, 31, 0, 0, 0, 40, 0, 0, 0, 47, 0, 0, 0, 57]
abbrev dktX9_thing_3 : List UInt8 := dkwX9_thing_3 ++ dktX9_thing_4
def dkwX9_thing_2 : List UInt8 := [153, 0, 5, 3, 172, 28]
abbrev dktX9_thing_2 : List UInt8 := dkwX9_thing_2 ++ dktX9_thing_3
def dkwX9_thing_1 : List UInt8 := [154, 0, 26, 42, 28, 3, 7, 184, 0, 126, 154, 0, 7, 4, 167, 0, 4, 3, 5, 4, 182, 0, 171]
abbrev dktX9_thing_1 : List UInt8 := dkwX9_thing_1 ++ dktX9_thing_2
def dkwX9_thing_0 : List UInt8 := [42, 3, 181, 0, 92, 42, 42, 27, 182, 1, 72, 154, 0, 7, 4, 167, 0, 4, 3, 4, 3, 182, 0, 171]
abbrev dktX9_thing_0 : List UInt8 := dkwX9_thing_0 ++ dktX9_thing_1
theorem dksX9_thing_0 : cX9_thing.data.toList.drop 0 = dktX9_thing_0 := by decide +kernel
theorem dksX9_thing_1 : cX9_thing.data.toList.drop 24 = dktX9_thing_1 := dk_seg dksX9_thing_0 24 rfl rfl
theorem dksX9_thing_2 : cX9_thing.data.toList.drop 47 = dktX9_thing_2 := dk_seg dksX9_thing_1 23 rfl rfl
theorem dksX9_thing_3 : cX9_thing.data.toList.drop 53 = dktX9_thing_3 := dk_seg dksX9_thing_2 6 rfl rfl
theorem dksX9_thing_4 : cX9_thing.data.toList.drop 84 = dktX9_thing_4 := dk_seg dksX9_thing_3 31 rfl rfl
theorem dksX9_thing_5 : cX9_thing.data.toList.drop 108 = dktX9_thing_5 := dk_seg dksX9_thing_4 24 rfl rfl
theorem dX9_thing_0 : decode cX9_thing 0 = .ok (.aload_n 0, 1) := dk_42 (dk_at dksX9_thing_0 0 rfl rfl)
theorem dX9_thing_1 : decode cX9_thing 1 = .ok (.iconst 0, 1) := dk_3 (dk_at dksX9_thing_0 1 rfl rfl)
theorem dX9_thing_2 : decode cX9_thing 2 = .ok (.putfield 92, 3) := dk_181 0 92 (dk_at dksX9_thing_0 2 rfl rfl)
theorem dX9_thing_5 : decode cX9_thing 5 = .ok (.aload_n 0, 1) := dk_42 (dk_at dksX9_thing_0 5 rfl rfl)
theorem dX9_thing_6 : decode cX9_thing 6 = .ok (.aload_n 0, 1) := dk_42 (dk_at dksX9_thing_0 6 rfl rfl)
theorem dX9_thing_7 : decode cX9_thing 7 = .ok (.iload_n 1, 1) := dk_27 (dk_at dksX9_thing_0 7 rfl rfl)
theorem dX9_thing_8 : decode cX9_thing 8 = .ok (.invokevirtual 328, 3) := dk_182 1 72 (dk_at dksX9_thing_0 8 rfl rfl)
theorem dX9_thing_11 : decode cX9_thing 11 = .ok (.ifCond .ne 7, 3) := dk_154 0 7 (dk_at dksX9_thing_0 11 rfl rfl)
theorem dX9_thing_14 : decode cX9_thing 14 = .ok (.iconst 1, 1) := dk_4 (dk_at dksX9_thing_0 14 rfl rfl)
theorem dX9_thing_15 : decode cX9_thing 15 = .ok (.goto 4, 3) := dk_167 0 4 (dk_at dksX9_thing_0 15 rfl rfl)
theorem dX9_thing_18 : decode cX9_thing 18 = .ok (.iconst 0, 1) := dk_3 (dk_at dksX9_thing_0 18 rfl rfl)
theorem dX9_thing_19 : decode cX9_thing 19 = .ok (.iconst 1, 1) := dk_4 (dk_at dksX9_thing_0 19 rfl rfl)
theorem dX9_thing_20 : decode cX9_thing 20 = .ok (.iconst 0, 1) := dk_3 (dk_at dksX9_thing_0 20 rfl rfl)
theorem dX9_thing_21 : decode cX9_thing 21 = .ok (.invokevirtual 171, 3) := dk_182 0 171 (dk_at dksX9_thing_0 21 rfl rfl)
theorem dX9_thing_24 : decode cX9_thing 24 = .ok (.ifCond .ne 26, 3) := dk_154 0 26 (dk_at dksX9_thing_1 0 rfl rfl)
theorem dX9_thing_27 : decode cX9_thing 27 = .ok (.aload_n 0, 1) := dk_42 (dk_at dksX9_thing_1 3 rfl rfl)
theorem dX9_thing_28 : decode cX9_thing 28 = .ok (.iload_n 2, 1) := dk_28 (dk_at dksX9_thing_1 4 rfl rfl)
theorem dX9_thing_29 : decode cX9_thing 29 = .ok (.iconst 0, 1) := dk_3 (dk_at dksX9_thing_1 5 rfl rfl)
theorem dX9_thing_30 : decode cX9_thing 30 = .ok (.iconst 4, 1) := dk_7 (dk_at dksX9_thing_1 6 rfl rfl)
theorem dX9_thing_31 : decode cX9_thing 31 = .ok (.invokestatic 126, 3) := dk_184 0 126 (dk_at dksX9_thing_1 7 rfl rfl)
theorem dX9_thing_34 : decode cX9_thing 34 = .ok (.ifCond .ne 7, 3) := dk_154 0 7 (dk_at dksX9_thing_1 10 rfl rfl)
theorem dX9_thing_37 : decode cX9_thing 37 = .ok (.iconst 1, 1) := dk_4 (dk_at dksX9_thing_1 13 rfl rfl)
theorem dX9_thing_38 : decode cX9_thing 38 = .ok (.goto 4, 3) := dk_167 0 4 (dk_at dksX9_thing_1 14 rfl rfl)
theorem dX9_thing_41 : decode cX9_thing 41 = .ok (.iconst 0, 1) := dk_3 (dk_at dksX9_thing_1 17 rfl rfl)
theorem dX9_thing_42 : decode cX9_thing 42 = .ok (.iconst 2, 1) := dk_5 (dk_at dksX9_thing_1 18 rfl rfl)
theorem dX9_thing_43 : decode cX9_thing 43 = .ok (.iconst 1, 1) := dk_4 (dk_at dksX9_thing_1 19 rfl rfl)
theorem dX9_thing_44 : decode cX9_thing 44 = .ok (.invokevirtual 171, 3) := dk_182 0 171 (dk_at dksX9_thing_1 20 rfl rfl)
theorem dX9_thing_47 : decode cX9_thing 47 = .ok (.ifCond .eq 5, 3) := dk_153 0 5 (dk_at dksX9_thing_2 0 rfl rfl)
theorem dX9_thing_50 : decode cX9_thing 50 = .ok (.iconst 0, 1) := dk_3 (dk_at dksX9_thing_2 3 rfl rfl)
theorem dX9_thing_51 : decode cX9_thing 51 = .ok (.ireturn, 1) := dk_172 (dk_at dksX9_thing_2 4 rfl rfl)
theorem dX9_thing_52 : decode cX9_thing 52 = .ok (.iload_n 2, 1) := dk_28 (dk_at dksX9_thing_2 5 rfl rfl)
theorem dX9_thing_53 : decode cX9_thing 53 = .ok (.tableswitch 66 0 3 #[31, 40, 47, 57], 31) := by decide +kernel
theorem dX9_thing_84 : decode cX9_thing 84 = .ok (.aload_n 0, 1) := dk_42 (dk_at dksX9_thing_4 0 rfl rfl)
theorem dX9_thing_85 : decode cX9_thing 85 = .ok (.getfield 61, 3) := dk_180 0 61 (dk_at dksX9_thing_4 1 rfl rfl)
theorem dX9_thing_88 : decode cX9_thing 88 = .ok (.iconst 0, 1) := dk_3 (dk_at dksX9_thing_4 4 rfl rfl)
theorem dX9_thing_89 : decode cX9_thing 89 = .ok (.iload_n 1, 1) := dk_27 (dk_at dksX9_thing_4 5 rfl rfl)
theorem dX9_thing_90 : decode cX9_thing 90 = .ok (.iadd, 1) := dk_96 (dk_at dksX9_thing_4 6 rfl rfl)
theorem dX9_thing_91 : decode cX9_thing 91 = .ok (.iaload, 1) := dk_46 (dk_at dksX9_thing_4 7 rfl rfl)
theorem dX9_thing_92 : decode cX9_thing 92 = .ok (.ireturn, 1) := dk_172 (dk_at dksX9_thing_4 8 rfl rfl)
theorem dX9_thing_93 : decode cX9_thing 93 = .ok (.aload_n 0, 1) := dk_42 (dk_at dksX9_thing_4 9 rfl rfl)
theorem dX9_thing_94 : decode cX9_thing 94 = .ok (.getfield 29, 3) := dk_180 0 29 (dk_at dksX9_thing_4 10 rfl rfl)
theorem dX9_thing_97 : decode cX9_thing 97 = .ok (.iload_n 1, 1) := dk_27 (dk_at dksX9_thing_4 13 rfl rfl)
theorem dX9_thing_98 : decode cX9_thing 98 = .ok (.iaload, 1) := dk_46 (dk_at dksX9_thing_4 14 rfl rfl)
theorem dX9_thing_99 : decode cX9_thing 99 = .ok (.ireturn, 1) := dk_172 (dk_at dksX9_thing_4 15 rfl rfl)
theorem dX9_thing_100 : decode cX9_thing 100 = .ok (.aload_n 0, 1) := dk_42 (dk_at dksX9_thing_4 16 rfl rfl)
theorem dX9_thing_101 : decode cX9_thing 101 = .ok (.getfield 61, 3) := dk_180 0 61 (dk_at dksX9_thing_4 17 rfl rfl)
theorem dX9_thing_104 : decode cX9_thing 104 = .ok (.bipush 8, 2) := dk_16 8 (dk_at dksX9_thing_4 20 rfl rfl)
theorem dX9_thing_106 : decode cX9_thing 106 = .ok (.iload_n 1, 1) := dk_27 (dk_at dksX9_thing_4 22 rfl rfl)
theorem dX9_thing_107 : decode cX9_thing 107 = .ok (.iadd, 1) := dk_96 (dk_at dksX9_thing_4 23 rfl rfl)
theorem dX9_thing_108 : decode cX9_thing 108 = .ok (.iaload, 1) := dk_46 (dk_at dksX9_thing_5 0 rfl rfl)
theorem dX9_thing_109 : decode cX9_thing 109 = .ok (.ireturn, 1) := dk_172 (dk_at dksX9_thing_5 1 rfl rfl)
theorem dX9_thing_110 : decode cX9_thing 110 = .ok (.aload_n 0, 1) := dk_42 (dk_at dksX9_thing_5 2 rfl rfl)
theorem dX9_thing_111 : decode cX9_thing 111 = .ok (.getfield 61, 3) := dk_180 0 61 (dk_at dksX9_thing_5 3 rfl rfl)
theorem dX9_thing_114 : decode cX9_thing 114 = .ok (.iload_n 1, 1) := dk_27 (dk_at dksX9_thing_5 6 rfl rfl)
theorem dX9_thing_115 : decode cX9_thing 115 = .ok (.invokestatic 256, 3) := dk_184 1 0 (dk_at dksX9_thing_5 7 rfl rfl)
theorem dX9_thing_118 : decode cX9_thing 118 = .ok (.ireturn, 1) := dk_172 (dk_at dksX9_thing_5 10 rfl rfl)
theorem dX9_thing_119 : decode cX9_thing 119 = .ok (.aload_n 0, 1) := dk_42 (dk_at dksX9_thing_5 11 rfl rfl)
theorem dX9_thing_120 : decode cX9_thing 120 = .ok (.aload_n 0, 1) := dk_42 (dk_at dksX9_thing_5 12 rfl rfl)
theorem dX9_thing_121 : decode cX9_thing 121 = .ok (.getfield 61, 3) := dk_180 0 61 (dk_at dksX9_thing_5 13 rfl rfl)
theorem dX9_thing_124 : decode cX9_thing 124 = .ok (.iload_n 1, 1) := dk_27 (dk_at dksX9_thing_5 16 rfl rfl)
theorem dX9_thing_125 : decode cX9_thing 125 = .ok (.invokevirtual 283, 3) := dk_182 1 27 (dk_at dksX9_thing_5 17 rfl rfl)
theorem dX9_thing_128 : decode cX9_thing 128 = .ok (.ireturn, 1) := dk_172 (dk_at dksX9_thing_5 20 rfl rfl)
def dkwX9_isThing_0 : List UInt8 := [27, 3, 42, 180, 0, 23, 3, 46, 4, 100, 184, 0, 126, 172]
abbrev dktX9_isThing_0 : List UInt8 := dkwX9_isThing_0 ++ []
theorem dksX9_isThing_0 : cX9_isThing.data.toList.drop 0 = dktX9_isThing_0 := by decide +kernel
theorem dX9_isThing_0 : decode cX9_isThing 0 = .ok (.iload_n 1, 1) := dk_27 (dk_at dksX9_isThing_0 0 rfl rfl)
theorem dX9_isThing_1 : decode cX9_isThing 1 = .ok (.iconst 0, 1) := dk_3 (dk_at dksX9_isThing_0 1 rfl rfl)
theorem dX9_isThing_2 : decode cX9_isThing 2 = .ok (.aload_n 0, 1) := dk_42 (dk_at dksX9_isThing_0 2 rfl rfl)
theorem dX9_isThing_3 : decode cX9_isThing 3 = .ok (.getfield 23, 3) := dk_180 0 23 (dk_at dksX9_isThing_0 3 rfl rfl)
theorem dX9_isThing_6 : decode cX9_isThing 6 = .ok (.iconst 0, 1) := dk_3 (dk_at dksX9_isThing_0 6 rfl rfl)
theorem dX9_isThing_7 : decode cX9_isThing 7 = .ok (.iaload, 1) := dk_46 (dk_at dksX9_isThing_0 7 rfl rfl)
theorem dX9_isThing_8 : decode cX9_isThing 8 = .ok (.iconst 1, 1) := dk_4 (dk_at dksX9_isThing_0 8 rfl rfl)
theorem dX9_isThing_9 : decode cX9_isThing 9 = .ok (.isub, 1) := dk_100 (dk_at dksX9_isThing_0 9 rfl rfl)
theorem dX9_isThing_10 : decode cX9_isThing 10 = .ok (.invokestatic 126, 3) := dk_184 0 126 (dk_at dksX9_isThing_0 10 rfl rfl)
theorem dX9_isThing_13 : decode cX9_isThing 13 = .ok (.ireturn, 1) := dk_172 (dk_at dksX9_isThing_0 13 rfl rfl)
def dkwX9_cry_3 : List UInt8 := [28, 96, 46, 172]
abbrev dktX9_cry_3 : List UInt8 := dkwX9_cry_3 ++ []
def dkwX9_cry_2 : List UInt8 := [167, 0, 4, 3, 5, 4, 182, 0, 171, 153, 0, 5, 3, 172, 42, 180, 0, 61, 16, 16, 7, 27, 104, 96]
abbrev dktX9_cry_2 : List UInt8 := dkwX9_cry_2 ++ dktX9_cry_3
def dkwX9_cry_1 : List UInt8 := [167, 0, 4, 3, 4, 3, 182, 0, 171, 154, 0, 26, 42, 28, 3, 6, 184, 0, 126, 154, 0, 7, 4]
abbrev dktX9_cry_1 : List UInt8 := dkwX9_cry_1 ++ dktX9_cry_2
def dkwX9_cry_0 : List UInt8 := [42, 3, 181, 0, 92, 42, 27, 3, 42, 180, 0, 61, 16, 56, 46, 4, 100, 184, 0, 126, 154, 0, 7, 4]
abbrev dktX9_cry_0 : List UInt8 := dkwX9_cry_0 ++ dktX9_cry_1
theorem dksX9_cry_0 : cX9_cry.data.toList.drop 0 = dktX9_cry_0 := by decide +kernel
theorem dksX9_cry_1 : cX9_cry.data.toList.drop 24 = dktX9_cry_1 := dk_seg dksX9_cry_0 24 rfl rfl
theorem dksX9_cry_2 : cX9_cry.data.toList.drop 47 = dktX9_cry_2 := dk_seg dksX9_cry_1 23 rfl rfl
theorem dksX9_cry_3 : cX9_cry.data.toList.drop 71 = dktX9_cry_3 := dk_seg dksX9_cry_2 24 rfl rfl
theorem dX9_cry_0 : decode cX9_cry 0 = .ok (.aload_n 0, 1) := dk_42 (dk_at dksX9_cry_0 0 rfl rfl)
theorem dX9_cry_1 : decode cX9_cry 1 = .ok (.iconst 0, 1) := dk_3 (dk_at dksX9_cry_0 1 rfl rfl)
theorem dX9_cry_2 : decode cX9_cry 2 = .ok (.putfield 92, 3) := dk_181 0 92 (dk_at dksX9_cry_0 2 rfl rfl)
theorem dX9_cry_5 : decode cX9_cry 5 = .ok (.aload_n 0, 1) := dk_42 (dk_at dksX9_cry_0 5 rfl rfl)
theorem dX9_cry_6 : decode cX9_cry 6 = .ok (.iload_n 1, 1) := dk_27 (dk_at dksX9_cry_0 6 rfl rfl)
theorem dX9_cry_7 : decode cX9_cry 7 = .ok (.iconst 0, 1) := dk_3 (dk_at dksX9_cry_0 7 rfl rfl)
theorem dX9_cry_8 : decode cX9_cry 8 = .ok (.aload_n 0, 1) := dk_42 (dk_at dksX9_cry_0 8 rfl rfl)
theorem dX9_cry_9 : decode cX9_cry 9 = .ok (.getfield 61, 3) := dk_180 0 61 (dk_at dksX9_cry_0 9 rfl rfl)
theorem dX9_cry_12 : decode cX9_cry 12 = .ok (.bipush 56, 2) := dk_16 56 (dk_at dksX9_cry_0 12 rfl rfl)
theorem dX9_cry_14 : decode cX9_cry 14 = .ok (.iaload, 1) := dk_46 (dk_at dksX9_cry_0 14 rfl rfl)
theorem dX9_cry_15 : decode cX9_cry 15 = .ok (.iconst 1, 1) := dk_4 (dk_at dksX9_cry_0 15 rfl rfl)
theorem dX9_cry_16 : decode cX9_cry 16 = .ok (.isub, 1) := dk_100 (dk_at dksX9_cry_0 16 rfl rfl)
theorem dX9_cry_17 : decode cX9_cry 17 = .ok (.invokestatic 126, 3) := dk_184 0 126 (dk_at dksX9_cry_0 17 rfl rfl)
theorem dX9_cry_20 : decode cX9_cry 20 = .ok (.ifCond .ne 7, 3) := dk_154 0 7 (dk_at dksX9_cry_0 20 rfl rfl)
theorem dX9_cry_23 : decode cX9_cry 23 = .ok (.iconst 1, 1) := dk_4 (dk_at dksX9_cry_0 23 rfl rfl)
theorem dX9_cry_24 : decode cX9_cry 24 = .ok (.goto 4, 3) := dk_167 0 4 (dk_at dksX9_cry_1 0 rfl rfl)
theorem dX9_cry_27 : decode cX9_cry 27 = .ok (.iconst 0, 1) := dk_3 (dk_at dksX9_cry_1 3 rfl rfl)
theorem dX9_cry_28 : decode cX9_cry 28 = .ok (.iconst 1, 1) := dk_4 (dk_at dksX9_cry_1 4 rfl rfl)
theorem dX9_cry_29 : decode cX9_cry 29 = .ok (.iconst 0, 1) := dk_3 (dk_at dksX9_cry_1 5 rfl rfl)
theorem dX9_cry_30 : decode cX9_cry 30 = .ok (.invokevirtual 171, 3) := dk_182 0 171 (dk_at dksX9_cry_1 6 rfl rfl)
theorem dX9_cry_33 : decode cX9_cry 33 = .ok (.ifCond .ne 26, 3) := dk_154 0 26 (dk_at dksX9_cry_1 9 rfl rfl)
theorem dX9_cry_36 : decode cX9_cry 36 = .ok (.aload_n 0, 1) := dk_42 (dk_at dksX9_cry_1 12 rfl rfl)
theorem dX9_cry_37 : decode cX9_cry 37 = .ok (.iload_n 2, 1) := dk_28 (dk_at dksX9_cry_1 13 rfl rfl)
theorem dX9_cry_38 : decode cX9_cry 38 = .ok (.iconst 0, 1) := dk_3 (dk_at dksX9_cry_1 14 rfl rfl)
theorem dX9_cry_39 : decode cX9_cry 39 = .ok (.iconst 3, 1) := dk_6 (dk_at dksX9_cry_1 15 rfl rfl)
theorem dX9_cry_40 : decode cX9_cry 40 = .ok (.invokestatic 126, 3) := dk_184 0 126 (dk_at dksX9_cry_1 16 rfl rfl)
theorem dX9_cry_43 : decode cX9_cry 43 = .ok (.ifCond .ne 7, 3) := dk_154 0 7 (dk_at dksX9_cry_1 19 rfl rfl)
theorem dX9_cry_46 : decode cX9_cry 46 = .ok (.iconst 1, 1) := dk_4 (dk_at dksX9_cry_1 22 rfl rfl)
theorem dX9_cry_47 : decode cX9_cry 47 = .ok (.goto 4, 3) := dk_167 0 4 (dk_at dksX9_cry_2 0 rfl rfl)
theorem dX9_cry_50 : decode cX9_cry 50 = .ok (.iconst 0, 1) := dk_3 (dk_at dksX9_cry_2 3 rfl rfl)
theorem dX9_cry_51 : decode cX9_cry 51 = .ok (.iconst 2, 1) := dk_5 (dk_at dksX9_cry_2 4 rfl rfl)
theorem dX9_cry_52 : decode cX9_cry 52 = .ok (.iconst 1, 1) := dk_4 (dk_at dksX9_cry_2 5 rfl rfl)
theorem dX9_cry_53 : decode cX9_cry 53 = .ok (.invokevirtual 171, 3) := dk_182 0 171 (dk_at dksX9_cry_2 6 rfl rfl)
theorem dX9_cry_56 : decode cX9_cry 56 = .ok (.ifCond .eq 5, 3) := dk_153 0 5 (dk_at dksX9_cry_2 9 rfl rfl)
theorem dX9_cry_59 : decode cX9_cry 59 = .ok (.iconst 0, 1) := dk_3 (dk_at dksX9_cry_2 12 rfl rfl)
theorem dX9_cry_60 : decode cX9_cry 60 = .ok (.ireturn, 1) := dk_172 (dk_at dksX9_cry_2 13 rfl rfl)
theorem dX9_cry_61 : decode cX9_cry 61 = .ok (.aload_n 0, 1) := dk_42 (dk_at dksX9_cry_2 14 rfl rfl)
theorem dX9_cry_62 : decode cX9_cry 62 = .ok (.getfield 61, 3) := dk_180 0 61 (dk_at dksX9_cry_2 15 rfl rfl)
theorem dX9_cry_65 : decode cX9_cry 65 = .ok (.bipush 16, 2) := dk_16 16 (dk_at dksX9_cry_2 18 rfl rfl)
theorem dX9_cry_67 : decode cX9_cry 67 = .ok (.iconst 4, 1) := dk_7 (dk_at dksX9_cry_2 20 rfl rfl)
theorem dX9_cry_68 : decode cX9_cry 68 = .ok (.iload_n 1, 1) := dk_27 (dk_at dksX9_cry_2 21 rfl rfl)
theorem dX9_cry_69 : decode cX9_cry 69 = .ok (.imul, 1) := dk_104 (dk_at dksX9_cry_2 22 rfl rfl)
theorem dX9_cry_70 : decode cX9_cry 70 = .ok (.iadd, 1) := dk_96 (dk_at dksX9_cry_2 23 rfl rfl)
theorem dX9_cry_71 : decode cX9_cry 71 = .ok (.iload_n 2, 1) := dk_28 (dk_at dksX9_cry_3 0 rfl rfl)
theorem dX9_cry_72 : decode cX9_cry 72 = .ok (.iadd, 1) := dk_96 (dk_at dksX9_cry_3 1 rfl rfl)
theorem dX9_cry_73 : decode cX9_cry 73 = .ok (.iaload, 1) := dk_46 (dk_at dksX9_cry_3 2 rfl rfl)
theorem dX9_cry_74 : decode cX9_cry 74 = .ok (.ireturn, 1) := dk_172 (dk_at dksX9_cry_3 3 rfl rfl)
def dkwX9_stands_3 : List UInt8 := [3, 172, 42, 42, 180, 0, 61, 27, 28, 29, 21, 4, 182, 1, 15, 172]
abbrev dktX9_stands_3 : List UInt8 := dkwX9_stands_3 ++ []
def dkwX9_stands_2 : List UInt8 := [21, 4, 4, 16, 9, 184, 0, 126, 154, 0, 7, 4, 167, 0, 4, 3, 5, 4, 182, 0, 171, 153, 0, 5]
abbrev dktX9_stands_2 : List UInt8 := dkwX9_stands_2 ++ dktX9_stands_3
def dkwX9_stands_1 : List UInt8 := [167, 0, 4, 3, 4, 3, 182, 0, 171, 154, 0, 38, 42, 28, 4, 16, 9, 184, 0, 126, 153, 0, 14]
abbrev dktX9_stands_1 : List UInt8 := dkwX9_stands_1 ++ dktX9_stands_2
def dkwX9_stands_0 : List UInt8 := [42, 3, 181, 0, 92, 42, 42, 27, 182, 1, 72, 153, 0, 11, 42, 29, 182, 1, 72, 154, 0, 7, 4]
abbrev dktX9_stands_0 : List UInt8 := dkwX9_stands_0 ++ dktX9_stands_1
theorem dksX9_stands_0 : cX9_stands.data.toList.drop 0 = dktX9_stands_0 := by decide +kernel
theorem dksX9_stands_1 : cX9_stands.data.toList.drop 23 = dktX9_stands_1 := dk_seg dksX9_stands_0 23 rfl rfl
theorem dksX9_stands_2 : cX9_stands.data.toList.drop 46 = dktX9_stands_2 := dk_seg dksX9_stands_1 23 rfl rfl
theorem dksX9_stands_3 : cX9_stands.data.toList.drop 70 = dktX9_stands_3 := dk_seg dksX9_stands_2 24 rfl rfl
theorem dX9_stands_0 : decode cX9_stands 0 = .ok (.aload_n 0, 1) := dk_42 (dk_at dksX9_stands_0 0 rfl rfl)
theorem dX9_stands_1 : decode cX9_stands 1 = .ok (.iconst 0, 1) := dk_3 (dk_at dksX9_stands_0 1 rfl rfl)
theorem dX9_stands_2 : decode cX9_stands 2 = .ok (.putfield 92, 3) := dk_181 0 92 (dk_at dksX9_stands_0 2 rfl rfl)
theorem dX9_stands_5 : decode cX9_stands 5 = .ok (.aload_n 0, 1) := dk_42 (dk_at dksX9_stands_0 5 rfl rfl)
theorem dX9_stands_6 : decode cX9_stands 6 = .ok (.aload_n 0, 1) := dk_42 (dk_at dksX9_stands_0 6 rfl rfl)
theorem dX9_stands_7 : decode cX9_stands 7 = .ok (.iload_n 1, 1) := dk_27 (dk_at dksX9_stands_0 7 rfl rfl)
theorem dX9_stands_8 : decode cX9_stands 8 = .ok (.invokevirtual 328, 3) := dk_182 1 72 (dk_at dksX9_stands_0 8 rfl rfl)
theorem dX9_stands_11 : decode cX9_stands 11 = .ok (.ifCond .eq 11, 3) := dk_153 0 11 (dk_at dksX9_stands_0 11 rfl rfl)
theorem dX9_stands_14 : decode cX9_stands 14 = .ok (.aload_n 0, 1) := dk_42 (dk_at dksX9_stands_0 14 rfl rfl)
theorem dX9_stands_15 : decode cX9_stands 15 = .ok (.iload_n 3, 1) := dk_29 (dk_at dksX9_stands_0 15 rfl rfl)
theorem dX9_stands_16 : decode cX9_stands 16 = .ok (.invokevirtual 328, 3) := dk_182 1 72 (dk_at dksX9_stands_0 16 rfl rfl)
theorem dX9_stands_19 : decode cX9_stands 19 = .ok (.ifCond .ne 7, 3) := dk_154 0 7 (dk_at dksX9_stands_0 19 rfl rfl)
theorem dX9_stands_22 : decode cX9_stands 22 = .ok (.iconst 1, 1) := dk_4 (dk_at dksX9_stands_0 22 rfl rfl)
theorem dX9_stands_23 : decode cX9_stands 23 = .ok (.goto 4, 3) := dk_167 0 4 (dk_at dksX9_stands_1 0 rfl rfl)
theorem dX9_stands_26 : decode cX9_stands 26 = .ok (.iconst 0, 1) := dk_3 (dk_at dksX9_stands_1 3 rfl rfl)
theorem dX9_stands_27 : decode cX9_stands 27 = .ok (.iconst 1, 1) := dk_4 (dk_at dksX9_stands_1 4 rfl rfl)
theorem dX9_stands_28 : decode cX9_stands 28 = .ok (.iconst 0, 1) := dk_3 (dk_at dksX9_stands_1 5 rfl rfl)
theorem dX9_stands_29 : decode cX9_stands 29 = .ok (.invokevirtual 171, 3) := dk_182 0 171 (dk_at dksX9_stands_1 6 rfl rfl)
theorem dX9_stands_32 : decode cX9_stands 32 = .ok (.ifCond .ne 38, 3) := dk_154 0 38 (dk_at dksX9_stands_1 9 rfl rfl)
theorem dX9_stands_35 : decode cX9_stands 35 = .ok (.aload_n 0, 1) := dk_42 (dk_at dksX9_stands_1 12 rfl rfl)
theorem dX9_stands_36 : decode cX9_stands 36 = .ok (.iload_n 2, 1) := dk_28 (dk_at dksX9_stands_1 13 rfl rfl)
theorem dX9_stands_37 : decode cX9_stands 37 = .ok (.iconst 1, 1) := dk_4 (dk_at dksX9_stands_1 14 rfl rfl)
theorem dX9_stands_38 : decode cX9_stands 38 = .ok (.bipush 9, 2) := dk_16 9 (dk_at dksX9_stands_1 15 rfl rfl)
theorem dX9_stands_40 : decode cX9_stands 40 = .ok (.invokestatic 126, 3) := dk_184 0 126 (dk_at dksX9_stands_1 17 rfl rfl)
theorem dX9_stands_43 : decode cX9_stands 43 = .ok (.ifCond .eq 14, 3) := dk_153 0 14 (dk_at dksX9_stands_1 20 rfl rfl)
theorem dX9_stands_46 : decode cX9_stands 46 = .ok (.iload 4, 2) := dk_21 4 (dk_at dksX9_stands_2 0 rfl rfl)
theorem dX9_stands_48 : decode cX9_stands 48 = .ok (.iconst 1, 1) := dk_4 (dk_at dksX9_stands_2 2 rfl rfl)
theorem dX9_stands_49 : decode cX9_stands 49 = .ok (.bipush 9, 2) := dk_16 9 (dk_at dksX9_stands_2 3 rfl rfl)
theorem dX9_stands_51 : decode cX9_stands 51 = .ok (.invokestatic 126, 3) := dk_184 0 126 (dk_at dksX9_stands_2 5 rfl rfl)
theorem dX9_stands_54 : decode cX9_stands 54 = .ok (.ifCond .ne 7, 3) := dk_154 0 7 (dk_at dksX9_stands_2 8 rfl rfl)
theorem dX9_stands_57 : decode cX9_stands 57 = .ok (.iconst 1, 1) := dk_4 (dk_at dksX9_stands_2 11 rfl rfl)
theorem dX9_stands_58 : decode cX9_stands 58 = .ok (.goto 4, 3) := dk_167 0 4 (dk_at dksX9_stands_2 12 rfl rfl)
theorem dX9_stands_61 : decode cX9_stands 61 = .ok (.iconst 0, 1) := dk_3 (dk_at dksX9_stands_2 15 rfl rfl)
theorem dX9_stands_62 : decode cX9_stands 62 = .ok (.iconst 2, 1) := dk_5 (dk_at dksX9_stands_2 16 rfl rfl)
theorem dX9_stands_63 : decode cX9_stands 63 = .ok (.iconst 1, 1) := dk_4 (dk_at dksX9_stands_2 17 rfl rfl)
theorem dX9_stands_64 : decode cX9_stands 64 = .ok (.invokevirtual 171, 3) := dk_182 0 171 (dk_at dksX9_stands_2 18 rfl rfl)
theorem dX9_stands_67 : decode cX9_stands 67 = .ok (.ifCond .eq 5, 3) := dk_153 0 5 (dk_at dksX9_stands_2 21 rfl rfl)
theorem dX9_stands_70 : decode cX9_stands 70 = .ok (.iconst 0, 1) := dk_3 (dk_at dksX9_stands_3 0 rfl rfl)
theorem dX9_stands_71 : decode cX9_stands 71 = .ok (.ireturn, 1) := dk_172 (dk_at dksX9_stands_3 1 rfl rfl)
theorem dX9_stands_72 : decode cX9_stands 72 = .ok (.aload_n 0, 1) := dk_42 (dk_at dksX9_stands_3 2 rfl rfl)
theorem dX9_stands_73 : decode cX9_stands 73 = .ok (.aload_n 0, 1) := dk_42 (dk_at dksX9_stands_3 3 rfl rfl)
theorem dX9_stands_74 : decode cX9_stands 74 = .ok (.getfield 61, 3) := dk_180 0 61 (dk_at dksX9_stands_3 4 rfl rfl)
theorem dX9_stands_77 : decode cX9_stands 77 = .ok (.iload_n 1, 1) := dk_27 (dk_at dksX9_stands_3 7 rfl rfl)
theorem dX9_stands_78 : decode cX9_stands 78 = .ok (.iload_n 2, 1) := dk_28 (dk_at dksX9_stands_3 8 rfl rfl)
theorem dX9_stands_79 : decode cX9_stands 79 = .ok (.iload_n 3, 1) := dk_29 (dk_at dksX9_stands_3 9 rfl rfl)
theorem dX9_stands_80 : decode cX9_stands 80 = .ok (.iload 4, 2) := dk_21 4 (dk_at dksX9_stands_3 10 rfl rfl)
theorem dX9_stands_82 : decode cX9_stands 82 = .ok (.invokevirtual 271, 3) := dk_182 1 15 (dk_at dksX9_stands_3 12 rfl rfl)
theorem dX9_stands_85 : decode cX9_stands 85 = .ok (.ireturn, 1) := dk_172 (dk_at dksX9_stands_3 15 rfl rfl)
def dkwX9_would_4 : List UInt8 := [3, 172, 42, 27, 28, 29, 21, 4, 21, 5, 21, 6, 21, 7, 182, 1, 7, 172]
abbrev dktX9_would_4 : List UInt8 := dkwX9_would_4 ++ []
def dkwX9_would_3 : List UInt8 := [21, 7, 3, 16, 9, 184, 0, 126, 154, 0, 7, 4, 167, 0, 4, 3, 4, 4, 182, 0, 171, 153, 0, 5]
abbrev dktX9_would_3 : List UInt8 := dkwX9_would_3 ++ dktX9_would_4
def dkwX9_would_2 : List UInt8 := [21, 5, 3, 17, 1, 44, 184, 0, 126, 153, 0, 25, 21, 6, 3, 16, 18, 184, 0, 126, 153, 0, 14]
abbrev dktX9_would_2 : List UInt8 := dkwX9_would_2 ++ dktX9_would_3
def dkwX9_would_1 : List UInt8 := [153, 0, 58, 29, 3, 16, 10, 184, 0, 126, 153, 0, 48, 21, 4, 3, 16, 7, 184, 0, 126, 153, 0, 37]
abbrev dktX9_would_1 : List UInt8 := dkwX9_would_1 ++ dktX9_would_2
def dkwX9_would_0 : List UInt8 := [42, 3, 181, 0, 92, 42, 27, 4, 16, 60, 184, 0, 126, 153, 0, 69, 28, 3, 17, 3, 231, 184, 0, 126]
abbrev dktX9_would_0 : List UInt8 := dkwX9_would_0 ++ dktX9_would_1
theorem dksX9_would_0 : cX9_would.data.toList.drop 0 = dktX9_would_0 := by decide +kernel
theorem dksX9_would_1 : cX9_would.data.toList.drop 24 = dktX9_would_1 := dk_seg dksX9_would_0 24 rfl rfl
theorem dksX9_would_2 : cX9_would.data.toList.drop 48 = dktX9_would_2 := dk_seg dksX9_would_1 24 rfl rfl
theorem dksX9_would_3 : cX9_would.data.toList.drop 71 = dktX9_would_3 := dk_seg dksX9_would_2 23 rfl rfl
theorem dksX9_would_4 : cX9_would.data.toList.drop 95 = dktX9_would_4 := dk_seg dksX9_would_3 24 rfl rfl
theorem dX9_would_0 : decode cX9_would 0 = .ok (.aload_n 0, 1) := dk_42 (dk_at dksX9_would_0 0 rfl rfl)
theorem dX9_would_1 : decode cX9_would 1 = .ok (.iconst 0, 1) := dk_3 (dk_at dksX9_would_0 1 rfl rfl)
theorem dX9_would_2 : decode cX9_would 2 = .ok (.putfield 92, 3) := dk_181 0 92 (dk_at dksX9_would_0 2 rfl rfl)
theorem dX9_would_5 : decode cX9_would 5 = .ok (.aload_n 0, 1) := dk_42 (dk_at dksX9_would_0 5 rfl rfl)
theorem dX9_would_6 : decode cX9_would 6 = .ok (.iload_n 1, 1) := dk_27 (dk_at dksX9_would_0 6 rfl rfl)
theorem dX9_would_7 : decode cX9_would 7 = .ok (.iconst 1, 1) := dk_4 (dk_at dksX9_would_0 7 rfl rfl)
theorem dX9_would_8 : decode cX9_would 8 = .ok (.bipush 60, 2) := dk_16 60 (dk_at dksX9_would_0 8 rfl rfl)
theorem dX9_would_10 : decode cX9_would 10 = .ok (.invokestatic 126, 3) := dk_184 0 126 (dk_at dksX9_would_0 10 rfl rfl)
theorem dX9_would_13 : decode cX9_would 13 = .ok (.ifCond .eq 69, 3) := dk_153 0 69 (dk_at dksX9_would_0 13 rfl rfl)
theorem dX9_would_16 : decode cX9_would 16 = .ok (.iload_n 2, 1) := dk_28 (dk_at dksX9_would_0 16 rfl rfl)
theorem dX9_would_17 : decode cX9_would 17 = .ok (.iconst 0, 1) := dk_3 (dk_at dksX9_would_0 17 rfl rfl)
theorem dX9_would_18 : decode cX9_would 18 = .ok (.sipush 999, 3) := dk_17 3 231 (dk_at dksX9_would_0 18 rfl rfl)
theorem dX9_would_21 : decode cX9_would 21 = .ok (.invokestatic 126, 3) := dk_184 0 126 (dk_at dksX9_would_0 21 rfl rfl)
theorem dX9_would_24 : decode cX9_would 24 = .ok (.ifCond .eq 58, 3) := dk_153 0 58 (dk_at dksX9_would_1 0 rfl rfl)
theorem dX9_would_27 : decode cX9_would 27 = .ok (.iload_n 3, 1) := dk_29 (dk_at dksX9_would_1 3 rfl rfl)
theorem dX9_would_28 : decode cX9_would 28 = .ok (.iconst 0, 1) := dk_3 (dk_at dksX9_would_1 4 rfl rfl)
theorem dX9_would_29 : decode cX9_would 29 = .ok (.bipush 10, 2) := dk_16 10 (dk_at dksX9_would_1 5 rfl rfl)
theorem dX9_would_31 : decode cX9_would 31 = .ok (.invokestatic 126, 3) := dk_184 0 126 (dk_at dksX9_would_1 7 rfl rfl)
theorem dX9_would_34 : decode cX9_would 34 = .ok (.ifCond .eq 48, 3) := dk_153 0 48 (dk_at dksX9_would_1 10 rfl rfl)
theorem dX9_would_37 : decode cX9_would 37 = .ok (.iload 4, 2) := dk_21 4 (dk_at dksX9_would_1 13 rfl rfl)
theorem dX9_would_39 : decode cX9_would 39 = .ok (.iconst 0, 1) := dk_3 (dk_at dksX9_would_1 15 rfl rfl)
theorem dX9_would_40 : decode cX9_would 40 = .ok (.bipush 7, 2) := dk_16 7 (dk_at dksX9_would_1 16 rfl rfl)
theorem dX9_would_42 : decode cX9_would 42 = .ok (.invokestatic 126, 3) := dk_184 0 126 (dk_at dksX9_would_1 18 rfl rfl)
theorem dX9_would_45 : decode cX9_would 45 = .ok (.ifCond .eq 37, 3) := dk_153 0 37 (dk_at dksX9_would_1 21 rfl rfl)
theorem dX9_would_48 : decode cX9_would 48 = .ok (.iload 5, 2) := dk_21 5 (dk_at dksX9_would_2 0 rfl rfl)
theorem dX9_would_50 : decode cX9_would 50 = .ok (.iconst 0, 1) := dk_3 (dk_at dksX9_would_2 2 rfl rfl)
theorem dX9_would_51 : decode cX9_would 51 = .ok (.sipush 300, 3) := dk_17 1 44 (dk_at dksX9_would_2 3 rfl rfl)
theorem dX9_would_54 : decode cX9_would 54 = .ok (.invokestatic 126, 3) := dk_184 0 126 (dk_at dksX9_would_2 6 rfl rfl)
theorem dX9_would_57 : decode cX9_would 57 = .ok (.ifCond .eq 25, 3) := dk_153 0 25 (dk_at dksX9_would_2 9 rfl rfl)
theorem dX9_would_60 : decode cX9_would 60 = .ok (.iload 6, 2) := dk_21 6 (dk_at dksX9_would_2 12 rfl rfl)
theorem dX9_would_62 : decode cX9_would 62 = .ok (.iconst 0, 1) := dk_3 (dk_at dksX9_would_2 14 rfl rfl)
theorem dX9_would_63 : decode cX9_would 63 = .ok (.bipush 18, 2) := dk_16 18 (dk_at dksX9_would_2 15 rfl rfl)
theorem dX9_would_65 : decode cX9_would 65 = .ok (.invokestatic 126, 3) := dk_184 0 126 (dk_at dksX9_would_2 17 rfl rfl)
theorem dX9_would_68 : decode cX9_would 68 = .ok (.ifCond .eq 14, 3) := dk_153 0 14 (dk_at dksX9_would_2 20 rfl rfl)
theorem dX9_would_71 : decode cX9_would 71 = .ok (.iload 7, 2) := dk_21 7 (dk_at dksX9_would_3 0 rfl rfl)
theorem dX9_would_73 : decode cX9_would 73 = .ok (.iconst 0, 1) := dk_3 (dk_at dksX9_would_3 2 rfl rfl)
theorem dX9_would_74 : decode cX9_would 74 = .ok (.bipush 9, 2) := dk_16 9 (dk_at dksX9_would_3 3 rfl rfl)
theorem dX9_would_76 : decode cX9_would 76 = .ok (.invokestatic 126, 3) := dk_184 0 126 (dk_at dksX9_would_3 5 rfl rfl)
theorem dX9_would_79 : decode cX9_would 79 = .ok (.ifCond .ne 7, 3) := dk_154 0 7 (dk_at dksX9_would_3 8 rfl rfl)
theorem dX9_would_82 : decode cX9_would 82 = .ok (.iconst 1, 1) := dk_4 (dk_at dksX9_would_3 11 rfl rfl)
theorem dX9_would_83 : decode cX9_would 83 = .ok (.goto 4, 3) := dk_167 0 4 (dk_at dksX9_would_3 12 rfl rfl)
theorem dX9_would_86 : decode cX9_would 86 = .ok (.iconst 0, 1) := dk_3 (dk_at dksX9_would_3 15 rfl rfl)
theorem dX9_would_87 : decode cX9_would 87 = .ok (.iconst 1, 1) := dk_4 (dk_at dksX9_would_3 16 rfl rfl)
theorem dX9_would_88 : decode cX9_would 88 = .ok (.iconst 1, 1) := dk_4 (dk_at dksX9_would_3 17 rfl rfl)
theorem dX9_would_89 : decode cX9_would 89 = .ok (.invokevirtual 171, 3) := dk_182 0 171 (dk_at dksX9_would_3 18 rfl rfl)
theorem dX9_would_92 : decode cX9_would 92 = .ok (.ifCond .eq 5, 3) := dk_153 0 5 (dk_at dksX9_would_3 21 rfl rfl)
theorem dX9_would_95 : decode cX9_would 95 = .ok (.iconst 0, 1) := dk_3 (dk_at dksX9_would_4 0 rfl rfl)
theorem dX9_would_96 : decode cX9_would 96 = .ok (.ireturn, 1) := dk_172 (dk_at dksX9_would_4 1 rfl rfl)
theorem dX9_would_97 : decode cX9_would 97 = .ok (.aload_n 0, 1) := dk_42 (dk_at dksX9_would_4 2 rfl rfl)
theorem dX9_would_98 : decode cX9_would 98 = .ok (.iload_n 1, 1) := dk_27 (dk_at dksX9_would_4 3 rfl rfl)
theorem dX9_would_99 : decode cX9_would 99 = .ok (.iload_n 2, 1) := dk_28 (dk_at dksX9_would_4 4 rfl rfl)
theorem dX9_would_100 : decode cX9_would 100 = .ok (.iload_n 3, 1) := dk_29 (dk_at dksX9_would_4 5 rfl rfl)
theorem dX9_would_101 : decode cX9_would 101 = .ok (.iload 4, 2) := dk_21 4 (dk_at dksX9_would_4 6 rfl rfl)
theorem dX9_would_103 : decode cX9_would 103 = .ok (.iload 5, 2) := dk_21 5 (dk_at dksX9_would_4 8 rfl rfl)
theorem dX9_would_105 : decode cX9_would 105 = .ok (.iload 6, 2) := dk_21 6 (dk_at dksX9_would_4 10 rfl rfl)
theorem dX9_would_107 : decode cX9_would 107 = .ok (.iload 7, 2) := dk_21 7 (dk_at dksX9_would_4 12 rfl rfl)
theorem dX9_would_109 : decode cX9_would 109 = .ok (.invokevirtual 263, 3) := dk_182 1 7 (dk_at dksX9_would_4 14 rfl rfl)
theorem dX9_would_112 : decode cX9_would 112 = .ok (.ireturn, 1) := dk_172 (dk_at dksX9_would_4 17 rfl rfl)
def dkwX9_ahead_4 : List UInt8 := [42, 180, 0, 64, 182, 1, 75, 167, 0, 10, 42, 180, 0, 64, 184, 1, 66, 172]
abbrev dktX9_ahead_4 : List UInt8 := dkwX9_ahead_4 ++ []
def dkwX9_ahead_3 : List UInt8 := [167, 255, 240, 28, 154, 0, 14, 42, 42, 180, 0, 64, 182, 1, 62, 167, 0, 26, 28, 4, 160, 0, 14, 42]
abbrev dktX9_ahead_3 : List UInt8 := dkwX9_ahead_3 ++ dktX9_ahead_4
def dkwX9_ahead_2 : List UInt8 := [180, 0, 64, 184, 1, 58, 3, 62, 29, 27, 162, 0, 17, 42, 42, 180, 0, 64, 182, 1, 41, 132, 3, 1]
abbrev dktX9_ahead_2 : List UInt8 := dkwX9_ahead_2 ++ dktX9_ahead_3
def dkwX9_ahead_1 : List UInt8 := [154, 0, 7, 4, 167, 0, 4, 3, 4, 4, 182, 0, 171, 153, 0, 5, 3, 172, 42, 180, 0, 61, 42]
abbrev dktX9_ahead_1 : List UInt8 := dkwX9_ahead_1 ++ dktX9_ahead_2
def dkwX9_ahead_0 : List UInt8 := [42, 3, 181, 0, 92, 42, 27, 3, 16, 99, 184, 0, 126, 153, 0, 12, 28, 3, 5, 184, 0, 126]
abbrev dktX9_ahead_0 : List UInt8 := dkwX9_ahead_0 ++ dktX9_ahead_1
theorem dksX9_ahead_0 : cX9_ahead.data.toList.drop 0 = dktX9_ahead_0 := by decide +kernel
theorem dksX9_ahead_1 : cX9_ahead.data.toList.drop 22 = dktX9_ahead_1 := dk_seg dksX9_ahead_0 22 rfl rfl
theorem dksX9_ahead_2 : cX9_ahead.data.toList.drop 45 = dktX9_ahead_2 := dk_seg dksX9_ahead_1 23 rfl rfl
theorem dksX9_ahead_3 : cX9_ahead.data.toList.drop 69 = dktX9_ahead_3 := dk_seg dksX9_ahead_2 24 rfl rfl
theorem dksX9_ahead_4 : cX9_ahead.data.toList.drop 93 = dktX9_ahead_4 := dk_seg dksX9_ahead_3 24 rfl rfl
theorem dX9_ahead_0 : decode cX9_ahead 0 = .ok (.aload_n 0, 1) := dk_42 (dk_at dksX9_ahead_0 0 rfl rfl)
theorem dX9_ahead_1 : decode cX9_ahead 1 = .ok (.iconst 0, 1) := dk_3 (dk_at dksX9_ahead_0 1 rfl rfl)
theorem dX9_ahead_2 : decode cX9_ahead 2 = .ok (.putfield 92, 3) := dk_181 0 92 (dk_at dksX9_ahead_0 2 rfl rfl)
theorem dX9_ahead_5 : decode cX9_ahead 5 = .ok (.aload_n 0, 1) := dk_42 (dk_at dksX9_ahead_0 5 rfl rfl)
theorem dX9_ahead_6 : decode cX9_ahead 6 = .ok (.iload_n 1, 1) := dk_27 (dk_at dksX9_ahead_0 6 rfl rfl)
theorem dX9_ahead_7 : decode cX9_ahead 7 = .ok (.iconst 0, 1) := dk_3 (dk_at dksX9_ahead_0 7 rfl rfl)
theorem dX9_ahead_8 : decode cX9_ahead 8 = .ok (.bipush 99, 2) := dk_16 99 (dk_at dksX9_ahead_0 8 rfl rfl)
theorem dX9_ahead_10 : decode cX9_ahead 10 = .ok (.invokestatic 126, 3) := dk_184 0 126 (dk_at dksX9_ahead_0 10 rfl rfl)
theorem dX9_ahead_13 : decode cX9_ahead 13 = .ok (.ifCond .eq 12, 3) := dk_153 0 12 (dk_at dksX9_ahead_0 13 rfl rfl)
theorem dX9_ahead_16 : decode cX9_ahead 16 = .ok (.iload_n 2, 1) := dk_28 (dk_at dksX9_ahead_0 16 rfl rfl)
theorem dX9_ahead_17 : decode cX9_ahead 17 = .ok (.iconst 0, 1) := dk_3 (dk_at dksX9_ahead_0 17 rfl rfl)
theorem dX9_ahead_18 : decode cX9_ahead 18 = .ok (.iconst 2, 1) := dk_5 (dk_at dksX9_ahead_0 18 rfl rfl)
theorem dX9_ahead_19 : decode cX9_ahead 19 = .ok (.invokestatic 126, 3) := dk_184 0 126 (dk_at dksX9_ahead_0 19 rfl rfl)
theorem dX9_ahead_22 : decode cX9_ahead 22 = .ok (.ifCond .ne 7, 3) := dk_154 0 7 (dk_at dksX9_ahead_1 0 rfl rfl)
theorem dX9_ahead_25 : decode cX9_ahead 25 = .ok (.iconst 1, 1) := dk_4 (dk_at dksX9_ahead_1 3 rfl rfl)
theorem dX9_ahead_26 : decode cX9_ahead 26 = .ok (.goto 4, 3) := dk_167 0 4 (dk_at dksX9_ahead_1 4 rfl rfl)
theorem dX9_ahead_29 : decode cX9_ahead 29 = .ok (.iconst 0, 1) := dk_3 (dk_at dksX9_ahead_1 7 rfl rfl)
theorem dX9_ahead_30 : decode cX9_ahead 30 = .ok (.iconst 1, 1) := dk_4 (dk_at dksX9_ahead_1 8 rfl rfl)
theorem dX9_ahead_31 : decode cX9_ahead 31 = .ok (.iconst 1, 1) := dk_4 (dk_at dksX9_ahead_1 9 rfl rfl)
theorem dX9_ahead_32 : decode cX9_ahead 32 = .ok (.invokevirtual 171, 3) := dk_182 0 171 (dk_at dksX9_ahead_1 10 rfl rfl)
theorem dX9_ahead_35 : decode cX9_ahead 35 = .ok (.ifCond .eq 5, 3) := dk_153 0 5 (dk_at dksX9_ahead_1 13 rfl rfl)
theorem dX9_ahead_38 : decode cX9_ahead 38 = .ok (.iconst 0, 1) := dk_3 (dk_at dksX9_ahead_1 16 rfl rfl)
theorem dX9_ahead_39 : decode cX9_ahead 39 = .ok (.ireturn, 1) := dk_172 (dk_at dksX9_ahead_1 17 rfl rfl)
theorem dX9_ahead_40 : decode cX9_ahead 40 = .ok (.aload_n 0, 1) := dk_42 (dk_at dksX9_ahead_1 18 rfl rfl)
theorem dX9_ahead_41 : decode cX9_ahead 41 = .ok (.getfield 61, 3) := dk_180 0 61 (dk_at dksX9_ahead_1 19 rfl rfl)
theorem dX9_ahead_44 : decode cX9_ahead 44 = .ok (.aload_n 0, 1) := dk_42 (dk_at dksX9_ahead_1 22 rfl rfl)
theorem dX9_ahead_45 : decode cX9_ahead 45 = .ok (.getfield 64, 3) := dk_180 0 64 (dk_at dksX9_ahead_2 0 rfl rfl)
theorem dX9_ahead_48 : decode cX9_ahead 48 = .ok (.invokestatic 314, 3) := dk_184 1 58 (dk_at dksX9_ahead_2 3 rfl rfl)
theorem dX9_ahead_51 : decode cX9_ahead 51 = .ok (.iconst 0, 1) := dk_3 (dk_at dksX9_ahead_2 6 rfl rfl)
theorem dX9_ahead_52 : decode cX9_ahead 52 = .ok (.istore_n 3, 1) := dk_62 (dk_at dksX9_ahead_2 7 rfl rfl)
theorem dX9_ahead_53 : decode cX9_ahead 53 = .ok (.iload_n 3, 1) := dk_29 (dk_at dksX9_ahead_2 8 rfl rfl)
theorem dX9_ahead_54 : decode cX9_ahead 54 = .ok (.iload_n 1, 1) := dk_27 (dk_at dksX9_ahead_2 9 rfl rfl)
theorem dX9_ahead_55 : decode cX9_ahead 55 = .ok (.if_icmp .ge 17, 3) := dk_162 0 17 (dk_at dksX9_ahead_2 10 rfl rfl)
theorem dX9_ahead_58 : decode cX9_ahead 58 = .ok (.aload_n 0, 1) := dk_42 (dk_at dksX9_ahead_2 13 rfl rfl)
theorem dX9_ahead_59 : decode cX9_ahead 59 = .ok (.aload_n 0, 1) := dk_42 (dk_at dksX9_ahead_2 14 rfl rfl)
theorem dX9_ahead_60 : decode cX9_ahead 60 = .ok (.getfield 64, 3) := dk_180 0 64 (dk_at dksX9_ahead_2 15 rfl rfl)
theorem dX9_ahead_63 : decode cX9_ahead 63 = .ok (.invokevirtual 297, 3) := dk_182 1 41 (dk_at dksX9_ahead_2 18 rfl rfl)
theorem dX9_ahead_66 : decode cX9_ahead 66 = .ok (.iinc 3 1, 3) := dk_132 3 1 (dk_at dksX9_ahead_2 21 rfl rfl)
theorem dX9_ahead_69 : decode cX9_ahead 69 = .ok (.goto (-16), 3) := dk_167 255 240 (dk_at dksX9_ahead_3 0 rfl rfl)
theorem dX9_ahead_72 : decode cX9_ahead 72 = .ok (.iload_n 2, 1) := dk_28 (dk_at dksX9_ahead_3 3 rfl rfl)
theorem dX9_ahead_73 : decode cX9_ahead 73 = .ok (.ifCond .ne 14, 3) := dk_154 0 14 (dk_at dksX9_ahead_3 4 rfl rfl)
theorem dX9_ahead_76 : decode cX9_ahead 76 = .ok (.aload_n 0, 1) := dk_42 (dk_at dksX9_ahead_3 7 rfl rfl)
theorem dX9_ahead_77 : decode cX9_ahead 77 = .ok (.aload_n 0, 1) := dk_42 (dk_at dksX9_ahead_3 8 rfl rfl)
theorem dX9_ahead_78 : decode cX9_ahead 78 = .ok (.getfield 64, 3) := dk_180 0 64 (dk_at dksX9_ahead_3 9 rfl rfl)
theorem dX9_ahead_81 : decode cX9_ahead 81 = .ok (.invokevirtual 318, 3) := dk_182 1 62 (dk_at dksX9_ahead_3 12 rfl rfl)
theorem dX9_ahead_84 : decode cX9_ahead 84 = .ok (.goto 26, 3) := dk_167 0 26 (dk_at dksX9_ahead_3 15 rfl rfl)
theorem dX9_ahead_87 : decode cX9_ahead 87 = .ok (.iload_n 2, 1) := dk_28 (dk_at dksX9_ahead_3 18 rfl rfl)
theorem dX9_ahead_88 : decode cX9_ahead 88 = .ok (.iconst 1, 1) := dk_4 (dk_at dksX9_ahead_3 19 rfl rfl)
theorem dX9_ahead_89 : decode cX9_ahead 89 = .ok (.if_icmp .ne 14, 3) := dk_160 0 14 (dk_at dksX9_ahead_3 20 rfl rfl)
theorem dX9_ahead_92 : decode cX9_ahead 92 = .ok (.aload_n 0, 1) := dk_42 (dk_at dksX9_ahead_3 23 rfl rfl)
theorem dX9_ahead_93 : decode cX9_ahead 93 = .ok (.aload_n 0, 1) := dk_42 (dk_at dksX9_ahead_4 0 rfl rfl)
theorem dX9_ahead_94 : decode cX9_ahead 94 = .ok (.getfield 64, 3) := dk_180 0 64 (dk_at dksX9_ahead_4 1 rfl rfl)
theorem dX9_ahead_97 : decode cX9_ahead 97 = .ok (.invokevirtual 331, 3) := dk_182 1 75 (dk_at dksX9_ahead_4 4 rfl rfl)
theorem dX9_ahead_100 : decode cX9_ahead 100 = .ok (.goto 10, 3) := dk_167 0 10 (dk_at dksX9_ahead_4 7 rfl rfl)
theorem dX9_ahead_103 : decode cX9_ahead 103 = .ok (.aload_n 0, 1) := dk_42 (dk_at dksX9_ahead_4 10 rfl rfl)
theorem dX9_ahead_104 : decode cX9_ahead 104 = .ok (.getfield 64, 3) := dk_180 0 64 (dk_at dksX9_ahead_4 11 rfl rfl)
theorem dX9_ahead_107 : decode cX9_ahead 107 = .ok (.invokestatic 322, 3) := dk_184 1 66 (dk_at dksX9_ahead_4 14 rfl rfl)
theorem dX9_ahead_110 : decode cX9_ahead 110 = .ok (.ireturn, 1) := dk_172 (dk_at dksX9_ahead_4 17 rfl rfl)
def dkwX9_heaviestIn_1 : List UInt8 := [43, 3, 28, 96, 46, 164, 0, 7, 29, 167, 0, 4, 28, 61, 132, 3, 1, 167, 255, 219, 28, 172]
abbrev dktX9_heaviestIn_1 : List UInt8 := dkwX9_heaviestIn_1 ++ []
def dkwX9_heaviestIn_0 : List UInt8 := [2, 61, 3, 62, 29, 42, 180, 0, 23, 3, 46, 162, 0, 33, 28, 2, 159, 0, 16, 43, 3, 29, 96, 46]
abbrev dktX9_heaviestIn_0 : List UInt8 := dkwX9_heaviestIn_0 ++ dktX9_heaviestIn_1
theorem dksX9_heaviestIn_0 : cX9_heaviestIn.data.toList.drop 0 = dktX9_heaviestIn_0 := by decide +kernel
theorem dksX9_heaviestIn_1 : cX9_heaviestIn.data.toList.drop 24 = dktX9_heaviestIn_1 := dk_seg dksX9_heaviestIn_0 24 rfl rfl
theorem dX9_heaviestIn_0 : decode cX9_heaviestIn 0 = .ok (.iconst (-1), 1) := dk_2 (dk_at dksX9_heaviestIn_0 0 rfl rfl)
theorem dX9_heaviestIn_1 : decode cX9_heaviestIn 1 = .ok (.istore_n 2, 1) := dk_61 (dk_at dksX9_heaviestIn_0 1 rfl rfl)
theorem dX9_heaviestIn_2 : decode cX9_heaviestIn 2 = .ok (.iconst 0, 1) := dk_3 (dk_at dksX9_heaviestIn_0 2 rfl rfl)
theorem dX9_heaviestIn_3 : decode cX9_heaviestIn 3 = .ok (.istore_n 3, 1) := dk_62 (dk_at dksX9_heaviestIn_0 3 rfl rfl)
theorem dX9_heaviestIn_4 : decode cX9_heaviestIn 4 = .ok (.iload_n 3, 1) := dk_29 (dk_at dksX9_heaviestIn_0 4 rfl rfl)
theorem dX9_heaviestIn_5 : decode cX9_heaviestIn 5 = .ok (.aload_n 0, 1) := dk_42 (dk_at dksX9_heaviestIn_0 5 rfl rfl)
theorem dX9_heaviestIn_6 : decode cX9_heaviestIn 6 = .ok (.getfield 23, 3) := dk_180 0 23 (dk_at dksX9_heaviestIn_0 6 rfl rfl)
theorem dX9_heaviestIn_9 : decode cX9_heaviestIn 9 = .ok (.iconst 0, 1) := dk_3 (dk_at dksX9_heaviestIn_0 9 rfl rfl)
theorem dX9_heaviestIn_10 : decode cX9_heaviestIn 10 = .ok (.iaload, 1) := dk_46 (dk_at dksX9_heaviestIn_0 10 rfl rfl)
theorem dX9_heaviestIn_11 : decode cX9_heaviestIn 11 = .ok (.if_icmp .ge 33, 3) := dk_162 0 33 (dk_at dksX9_heaviestIn_0 11 rfl rfl)
theorem dX9_heaviestIn_14 : decode cX9_heaviestIn 14 = .ok (.iload_n 2, 1) := dk_28 (dk_at dksX9_heaviestIn_0 14 rfl rfl)
theorem dX9_heaviestIn_15 : decode cX9_heaviestIn 15 = .ok (.iconst (-1), 1) := dk_2 (dk_at dksX9_heaviestIn_0 15 rfl rfl)
theorem dX9_heaviestIn_16 : decode cX9_heaviestIn 16 = .ok (.if_icmp .eq 16, 3) := dk_159 0 16 (dk_at dksX9_heaviestIn_0 16 rfl rfl)
theorem dX9_heaviestIn_19 : decode cX9_heaviestIn 19 = .ok (.aload_n 1, 1) := dk_43 (dk_at dksX9_heaviestIn_0 19 rfl rfl)
theorem dX9_heaviestIn_20 : decode cX9_heaviestIn 20 = .ok (.iconst 0, 1) := dk_3 (dk_at dksX9_heaviestIn_0 20 rfl rfl)
theorem dX9_heaviestIn_21 : decode cX9_heaviestIn 21 = .ok (.iload_n 3, 1) := dk_29 (dk_at dksX9_heaviestIn_0 21 rfl rfl)
theorem dX9_heaviestIn_22 : decode cX9_heaviestIn 22 = .ok (.iadd, 1) := dk_96 (dk_at dksX9_heaviestIn_0 22 rfl rfl)
theorem dX9_heaviestIn_23 : decode cX9_heaviestIn 23 = .ok (.iaload, 1) := dk_46 (dk_at dksX9_heaviestIn_0 23 rfl rfl)
theorem dX9_heaviestIn_24 : decode cX9_heaviestIn 24 = .ok (.aload_n 1, 1) := dk_43 (dk_at dksX9_heaviestIn_1 0 rfl rfl)
theorem dX9_heaviestIn_25 : decode cX9_heaviestIn 25 = .ok (.iconst 0, 1) := dk_3 (dk_at dksX9_heaviestIn_1 1 rfl rfl)
theorem dX9_heaviestIn_26 : decode cX9_heaviestIn 26 = .ok (.iload_n 2, 1) := dk_28 (dk_at dksX9_heaviestIn_1 2 rfl rfl)
theorem dX9_heaviestIn_27 : decode cX9_heaviestIn 27 = .ok (.iadd, 1) := dk_96 (dk_at dksX9_heaviestIn_1 3 rfl rfl)
theorem dX9_heaviestIn_28 : decode cX9_heaviestIn 28 = .ok (.iaload, 1) := dk_46 (dk_at dksX9_heaviestIn_1 4 rfl rfl)
theorem dX9_heaviestIn_29 : decode cX9_heaviestIn 29 = .ok (.if_icmp .le 7, 3) := dk_164 0 7 (dk_at dksX9_heaviestIn_1 5 rfl rfl)
theorem dX9_heaviestIn_32 : decode cX9_heaviestIn 32 = .ok (.iload_n 3, 1) := dk_29 (dk_at dksX9_heaviestIn_1 8 rfl rfl)
theorem dX9_heaviestIn_33 : decode cX9_heaviestIn 33 = .ok (.goto 4, 3) := dk_167 0 4 (dk_at dksX9_heaviestIn_1 9 rfl rfl)
theorem dX9_heaviestIn_36 : decode cX9_heaviestIn 36 = .ok (.iload_n 2, 1) := dk_28 (dk_at dksX9_heaviestIn_1 12 rfl rfl)
theorem dX9_heaviestIn_37 : decode cX9_heaviestIn 37 = .ok (.istore_n 2, 1) := dk_61 (dk_at dksX9_heaviestIn_1 13 rfl rfl)
theorem dX9_heaviestIn_38 : decode cX9_heaviestIn 38 = .ok (.iinc 3 1, 3) := dk_132 3 1 (dk_at dksX9_heaviestIn_1 14 rfl rfl)
theorem dX9_heaviestIn_41 : decode cX9_heaviestIn 41 = .ok (.goto (-37), 3) := dk_167 255 219 (dk_at dksX9_heaviestIn_1 17 rfl rfl)
theorem dX9_heaviestIn_44 : decode cX9_heaviestIn 44 = .ok (.iload_n 2, 1) := dk_28 (dk_at dksX9_heaviestIn_1 20 rfl rfl)
theorem dX9_heaviestIn_45 : decode cX9_heaviestIn 45 = .ok (.ireturn, 1) := dk_172 (dk_at dksX9_heaviestIn_1 21 rfl rfl)
def dkwX9_worth_3 : List UInt8 := [42, 180, 1, 82, 42, 180, 1, 78, 29, 184, 1, 106, 173]
abbrev dktX9_worth_3 : List UInt8 := dkwX9_worth_3 ++ []
def dkwX9_worth_2 : List UInt8 := [154, 0, 7, 4, 167, 0, 4, 3, 5, 4, 182, 0, 171, 153, 0, 5, 9, 173, 42, 27, 28, 182, 1, 103]
abbrev dktX9_worth_2 : List UInt8 := dkwX9_worth_2 ++ dktX9_worth_3
def dkwX9_worth_1 : List UInt8 := [167, 0, 4, 3, 4, 3, 182, 0, 171, 154, 0, 31, 42, 27, 28, 159, 0, 12, 29, 3, 4, 184, 0, 126]
abbrev dktX9_worth_1 : List UInt8 := dkwX9_worth_1 ++ dktX9_worth_2
def dkwX9_worth_0 : List UInt8 := [42, 3, 181, 0, 92, 42, 42, 27, 182, 1, 72, 153, 0, 11, 42, 28, 182, 1, 72, 154, 0, 7, 4]
abbrev dktX9_worth_0 : List UInt8 := dkwX9_worth_0 ++ dktX9_worth_1
theorem dksX9_worth_0 : cX9_worth.data.toList.drop 0 = dktX9_worth_0 := by decide +kernel
theorem dksX9_worth_1 : cX9_worth.data.toList.drop 23 = dktX9_worth_1 := dk_seg dksX9_worth_0 23 rfl rfl
theorem dksX9_worth_2 : cX9_worth.data.toList.drop 47 = dktX9_worth_2 := dk_seg dksX9_worth_1 24 rfl rfl
theorem dksX9_worth_3 : cX9_worth.data.toList.drop 71 = dktX9_worth_3 := dk_seg dksX9_worth_2 24 rfl rfl
theorem dX9_worth_0 : decode cX9_worth 0 = .ok (.aload_n 0, 1) := dk_42 (dk_at dksX9_worth_0 0 rfl rfl)
theorem dX9_worth_1 : decode cX9_worth 1 = .ok (.iconst 0, 1) := dk_3 (dk_at dksX9_worth_0 1 rfl rfl)
theorem dX9_worth_2 : decode cX9_worth 2 = .ok (.putfield 92, 3) := dk_181 0 92 (dk_at dksX9_worth_0 2 rfl rfl)
theorem dX9_worth_5 : decode cX9_worth 5 = .ok (.aload_n 0, 1) := dk_42 (dk_at dksX9_worth_0 5 rfl rfl)
theorem dX9_worth_6 : decode cX9_worth 6 = .ok (.aload_n 0, 1) := dk_42 (dk_at dksX9_worth_0 6 rfl rfl)
theorem dX9_worth_7 : decode cX9_worth 7 = .ok (.iload_n 1, 1) := dk_27 (dk_at dksX9_worth_0 7 rfl rfl)
theorem dX9_worth_8 : decode cX9_worth 8 = .ok (.invokevirtual 328, 3) := dk_182 1 72 (dk_at dksX9_worth_0 8 rfl rfl)
theorem dX9_worth_11 : decode cX9_worth 11 = .ok (.ifCond .eq 11, 3) := dk_153 0 11 (dk_at dksX9_worth_0 11 rfl rfl)
theorem dX9_worth_14 : decode cX9_worth 14 = .ok (.aload_n 0, 1) := dk_42 (dk_at dksX9_worth_0 14 rfl rfl)
theorem dX9_worth_15 : decode cX9_worth 15 = .ok (.iload_n 2, 1) := dk_28 (dk_at dksX9_worth_0 15 rfl rfl)
theorem dX9_worth_16 : decode cX9_worth 16 = .ok (.invokevirtual 328, 3) := dk_182 1 72 (dk_at dksX9_worth_0 16 rfl rfl)
theorem dX9_worth_19 : decode cX9_worth 19 = .ok (.ifCond .ne 7, 3) := dk_154 0 7 (dk_at dksX9_worth_0 19 rfl rfl)
theorem dX9_worth_22 : decode cX9_worth 22 = .ok (.iconst 1, 1) := dk_4 (dk_at dksX9_worth_0 22 rfl rfl)
theorem dX9_worth_23 : decode cX9_worth 23 = .ok (.goto 4, 3) := dk_167 0 4 (dk_at dksX9_worth_1 0 rfl rfl)
theorem dX9_worth_26 : decode cX9_worth 26 = .ok (.iconst 0, 1) := dk_3 (dk_at dksX9_worth_1 3 rfl rfl)
theorem dX9_worth_27 : decode cX9_worth 27 = .ok (.iconst 1, 1) := dk_4 (dk_at dksX9_worth_1 4 rfl rfl)
theorem dX9_worth_28 : decode cX9_worth 28 = .ok (.iconst 0, 1) := dk_3 (dk_at dksX9_worth_1 5 rfl rfl)
theorem dX9_worth_29 : decode cX9_worth 29 = .ok (.invokevirtual 171, 3) := dk_182 0 171 (dk_at dksX9_worth_1 6 rfl rfl)
theorem dX9_worth_32 : decode cX9_worth 32 = .ok (.ifCond .ne 31, 3) := dk_154 0 31 (dk_at dksX9_worth_1 9 rfl rfl)
theorem dX9_worth_35 : decode cX9_worth 35 = .ok (.aload_n 0, 1) := dk_42 (dk_at dksX9_worth_1 12 rfl rfl)
theorem dX9_worth_36 : decode cX9_worth 36 = .ok (.iload_n 1, 1) := dk_27 (dk_at dksX9_worth_1 13 rfl rfl)
theorem dX9_worth_37 : decode cX9_worth 37 = .ok (.iload_n 2, 1) := dk_28 (dk_at dksX9_worth_1 14 rfl rfl)
theorem dX9_worth_38 : decode cX9_worth 38 = .ok (.if_icmp .eq 12, 3) := dk_159 0 12 (dk_at dksX9_worth_1 15 rfl rfl)
theorem dX9_worth_41 : decode cX9_worth 41 = .ok (.iload_n 3, 1) := dk_29 (dk_at dksX9_worth_1 18 rfl rfl)
theorem dX9_worth_42 : decode cX9_worth 42 = .ok (.iconst 0, 1) := dk_3 (dk_at dksX9_worth_1 19 rfl rfl)
theorem dX9_worth_43 : decode cX9_worth 43 = .ok (.iconst 1, 1) := dk_4 (dk_at dksX9_worth_1 20 rfl rfl)
theorem dX9_worth_44 : decode cX9_worth 44 = .ok (.invokestatic 126, 3) := dk_184 0 126 (dk_at dksX9_worth_1 21 rfl rfl)
theorem dX9_worth_47 : decode cX9_worth 47 = .ok (.ifCond .ne 7, 3) := dk_154 0 7 (dk_at dksX9_worth_2 0 rfl rfl)
theorem dX9_worth_50 : decode cX9_worth 50 = .ok (.iconst 1, 1) := dk_4 (dk_at dksX9_worth_2 3 rfl rfl)
theorem dX9_worth_51 : decode cX9_worth 51 = .ok (.goto 4, 3) := dk_167 0 4 (dk_at dksX9_worth_2 4 rfl rfl)
theorem dX9_worth_54 : decode cX9_worth 54 = .ok (.iconst 0, 1) := dk_3 (dk_at dksX9_worth_2 7 rfl rfl)
theorem dX9_worth_55 : decode cX9_worth 55 = .ok (.iconst 2, 1) := dk_5 (dk_at dksX9_worth_2 8 rfl rfl)
theorem dX9_worth_56 : decode cX9_worth 56 = .ok (.iconst 1, 1) := dk_4 (dk_at dksX9_worth_2 9 rfl rfl)
theorem dX9_worth_57 : decode cX9_worth 57 = .ok (.invokevirtual 171, 3) := dk_182 0 171 (dk_at dksX9_worth_2 10 rfl rfl)
theorem dX9_worth_60 : decode cX9_worth 60 = .ok (.ifCond .eq 5, 3) := dk_153 0 5 (dk_at dksX9_worth_2 13 rfl rfl)
theorem dX9_worth_63 : decode cX9_worth 63 = .ok (.lconst 0, 1) := dk_9 (dk_at dksX9_worth_2 16 rfl rfl)
theorem dX9_worth_64 : decode cX9_worth 64 = .ok (.lreturn, 1) := dk_173 (dk_at dksX9_worth_2 17 rfl rfl)
theorem dX9_worth_65 : decode cX9_worth 65 = .ok (.aload_n 0, 1) := dk_42 (dk_at dksX9_worth_2 18 rfl rfl)
theorem dX9_worth_66 : decode cX9_worth 66 = .ok (.iload_n 1, 1) := dk_27 (dk_at dksX9_worth_2 19 rfl rfl)
theorem dX9_worth_67 : decode cX9_worth 67 = .ok (.iload_n 2, 1) := dk_28 (dk_at dksX9_worth_2 20 rfl rfl)
theorem dX9_worth_68 : decode cX9_worth 68 = .ok (.invokevirtual 359, 3) := dk_182 1 103 (dk_at dksX9_worth_2 21 rfl rfl)
theorem dX9_worth_71 : decode cX9_worth 71 = .ok (.aload_n 0, 1) := dk_42 (dk_at dksX9_worth_3 0 rfl rfl)
theorem dX9_worth_72 : decode cX9_worth 72 = .ok (.getfield 338, 3) := dk_180 1 82 (dk_at dksX9_worth_3 1 rfl rfl)
theorem dX9_worth_75 : decode cX9_worth 75 = .ok (.aload_n 0, 1) := dk_42 (dk_at dksX9_worth_3 4 rfl rfl)
theorem dX9_worth_76 : decode cX9_worth 76 = .ok (.getfield 334, 3) := dk_180 1 78 (dk_at dksX9_worth_3 5 rfl rfl)
theorem dX9_worth_79 : decode cX9_worth 79 = .ok (.iload_n 3, 1) := dk_29 (dk_at dksX9_worth_3 8 rfl rfl)
theorem dX9_worth_80 : decode cX9_worth 80 = .ok (.invokestatic 362, 3) := dk_184 1 106 (dk_at dksX9_worth_3 9 rfl rfl)
theorem dX9_worth_83 : decode cX9_worth 83 = .ok (.lreturn, 1) := dk_173 (dk_at dksX9_worth_3 12 rfl rfl)
def dkwX9_worths_0 : List UInt8 := [42, 9, 181, 1, 82, 42, 10, 181, 1, 78, 42, 27, 28, 4, 27, 120, 10, 10, 182, 1, 92, 177]
abbrev dktX9_worths_0 : List UInt8 := dkwX9_worths_0 ++ []
theorem dksX9_worths_0 : cX9_worths.data.toList.drop 0 = dktX9_worths_0 := by decide +kernel
theorem dX9_worths_0 : decode cX9_worths 0 = .ok (.aload_n 0, 1) := dk_42 (dk_at dksX9_worths_0 0 rfl rfl)
theorem dX9_worths_1 : decode cX9_worths 1 = .ok (.lconst 0, 1) := dk_9 (dk_at dksX9_worths_0 1 rfl rfl)
theorem dX9_worths_2 : decode cX9_worths 2 = .ok (.putfield 338, 3) := dk_181 1 82 (dk_at dksX9_worths_0 2 rfl rfl)
theorem dX9_worths_5 : decode cX9_worths 5 = .ok (.aload_n 0, 1) := dk_42 (dk_at dksX9_worths_0 5 rfl rfl)
theorem dX9_worths_6 : decode cX9_worths 6 = .ok (.lconst 1, 1) := dk_10 (dk_at dksX9_worths_0 6 rfl rfl)
theorem dX9_worths_7 : decode cX9_worths 7 = .ok (.putfield 334, 3) := dk_181 1 78 (dk_at dksX9_worths_0 7 rfl rfl)
theorem dX9_worths_10 : decode cX9_worths 10 = .ok (.aload_n 0, 1) := dk_42 (dk_at dksX9_worths_0 10 rfl rfl)
theorem dX9_worths_11 : decode cX9_worths 11 = .ok (.iload_n 1, 1) := dk_27 (dk_at dksX9_worths_0 11 rfl rfl)
theorem dX9_worths_12 : decode cX9_worths 12 = .ok (.iload_n 2, 1) := dk_28 (dk_at dksX9_worths_0 12 rfl rfl)
theorem dX9_worths_13 : decode cX9_worths 13 = .ok (.iconst 1, 1) := dk_4 (dk_at dksX9_worths_0 13 rfl rfl)
theorem dX9_worths_14 : decode cX9_worths 14 = .ok (.iload_n 1, 1) := dk_27 (dk_at dksX9_worths_0 14 rfl rfl)
theorem dX9_worths_15 : decode cX9_worths 15 = .ok (.ishl, 1) := dk_120 (dk_at dksX9_worths_0 15 rfl rfl)
theorem dX9_worths_16 : decode cX9_worths 16 = .ok (.lconst 1, 1) := dk_10 (dk_at dksX9_worths_0 16 rfl rfl)
theorem dX9_worths_17 : decode cX9_worths 17 = .ok (.lconst 1, 1) := dk_10 (dk_at dksX9_worths_0 17 rfl rfl)
theorem dX9_worths_18 : decode cX9_worths 18 = .ok (.invokevirtual 348, 3) := dk_182 1 92 (dk_at dksX9_worths_0 18 rfl rfl)
theorem dX9_worths_21 : decode cX9_worths 21 = .ok (.return_, 1) := dk_177 (dk_at dksX9_worths_0 21 rfl rfl)
def dkwX9_chains_5 : List UInt8 := [177]
abbrev dktX9_chains_5 : List UInt8 := dkwX9_chains_5 ++ []
def dkwX9_chains_4 : List UInt8 := [133, 105, 22, 6, 42, 180, 0, 61, 21, 9, 4, 96, 46, 133, 105, 182, 1, 92, 132, 8, 1, 167, 255, 159]
abbrev dktX9_chains_4 : List UInt8 := dkwX9_chains_4 ++ dktX9_chains_5
def dkwX9_chains_3 : List UInt8 := [167, 0, 42, 42, 21, 10, 28, 29, 4, 21, 10, 120, 128, 22, 4, 42, 180, 0, 61, 21, 9, 6, 96, 46]
abbrev dktX9_chains_3 : List UInt8 := dkwX9_chains_3 ++ dktX9_chains_4
def dkwX9_chains_2 : List UInt8 := [54, 10, 42, 180, 0, 61, 21, 9, 46, 27, 160, 0, 54, 29, 21, 10, 184, 1, 89, 153, 0, 6]
abbrev dktX9_chains_2 : List UInt8 := dkwX9_chains_2 ++ dktX9_chains_3
def dkwX9_chains_1 : List UInt8 := [16, 56, 46, 162, 0, 91, 16, 16, 7, 21, 8, 104, 96, 54, 9, 42, 180, 0, 61, 21, 9, 5, 96, 46]
abbrev dktX9_chains_1 : List UInt8 := dkwX9_chains_1 ++ dktX9_chains_2
def dkwX9_chains_0 : List UInt8 := [27, 28, 160, 0, 12, 42, 22, 4, 22, 6, 182, 1, 85, 177, 3, 54, 8, 21, 8, 42, 180, 0, 61]
abbrev dktX9_chains_0 : List UInt8 := dkwX9_chains_0 ++ dktX9_chains_1
theorem dksX9_chains_0 : cX9_chains.data.toList.drop 0 = dktX9_chains_0 := by decide +kernel
theorem dksX9_chains_1 : cX9_chains.data.toList.drop 23 = dktX9_chains_1 := dk_seg dksX9_chains_0 23 rfl rfl
theorem dksX9_chains_2 : cX9_chains.data.toList.drop 47 = dktX9_chains_2 := dk_seg dksX9_chains_1 24 rfl rfl
theorem dksX9_chains_3 : cX9_chains.data.toList.drop 69 = dktX9_chains_3 := dk_seg dksX9_chains_2 22 rfl rfl
theorem dksX9_chains_4 : cX9_chains.data.toList.drop 93 = dktX9_chains_4 := dk_seg dksX9_chains_3 24 rfl rfl
theorem dksX9_chains_5 : cX9_chains.data.toList.drop 117 = dktX9_chains_5 := dk_seg dksX9_chains_4 24 rfl rfl
theorem dX9_chains_0 : decode cX9_chains 0 = .ok (.iload_n 1, 1) := dk_27 (dk_at dksX9_chains_0 0 rfl rfl)
theorem dX9_chains_1 : decode cX9_chains 1 = .ok (.iload_n 2, 1) := dk_28 (dk_at dksX9_chains_0 1 rfl rfl)
theorem dX9_chains_2 : decode cX9_chains 2 = .ok (.if_icmp .ne 12, 3) := dk_160 0 12 (dk_at dksX9_chains_0 2 rfl rfl)
theorem dX9_chains_5 : decode cX9_chains 5 = .ok (.aload_n 0, 1) := dk_42 (dk_at dksX9_chains_0 5 rfl rfl)
theorem dX9_chains_6 : decode cX9_chains 6 = .ok (.lload 4, 2) := dk_22 4 (dk_at dksX9_chains_0 6 rfl rfl)
theorem dX9_chains_8 : decode cX9_chains 8 = .ok (.lload 6, 2) := dk_22 6 (dk_at dksX9_chains_0 8 rfl rfl)
theorem dX9_chains_10 : decode cX9_chains 10 = .ok (.invokevirtual 341, 3) := dk_182 1 85 (dk_at dksX9_chains_0 10 rfl rfl)
theorem dX9_chains_13 : decode cX9_chains 13 = .ok (.return_, 1) := dk_177 (dk_at dksX9_chains_0 13 rfl rfl)
theorem dX9_chains_14 : decode cX9_chains 14 = .ok (.iconst 0, 1) := dk_3 (dk_at dksX9_chains_0 14 rfl rfl)
theorem dX9_chains_15 : decode cX9_chains 15 = .ok (.istore 8, 2) := dk_54 8 (dk_at dksX9_chains_0 15 rfl rfl)
theorem dX9_chains_17 : decode cX9_chains 17 = .ok (.iload 8, 2) := dk_21 8 (dk_at dksX9_chains_0 17 rfl rfl)
theorem dX9_chains_19 : decode cX9_chains 19 = .ok (.aload_n 0, 1) := dk_42 (dk_at dksX9_chains_0 19 rfl rfl)
theorem dX9_chains_20 : decode cX9_chains 20 = .ok (.getfield 61, 3) := dk_180 0 61 (dk_at dksX9_chains_0 20 rfl rfl)
theorem dX9_chains_23 : decode cX9_chains 23 = .ok (.bipush 56, 2) := dk_16 56 (dk_at dksX9_chains_1 0 rfl rfl)
theorem dX9_chains_25 : decode cX9_chains 25 = .ok (.iaload, 1) := dk_46 (dk_at dksX9_chains_1 2 rfl rfl)
theorem dX9_chains_26 : decode cX9_chains 26 = .ok (.if_icmp .ge 91, 3) := dk_162 0 91 (dk_at dksX9_chains_1 3 rfl rfl)
theorem dX9_chains_29 : decode cX9_chains 29 = .ok (.bipush 16, 2) := dk_16 16 (dk_at dksX9_chains_1 6 rfl rfl)
theorem dX9_chains_31 : decode cX9_chains 31 = .ok (.iconst 4, 1) := dk_7 (dk_at dksX9_chains_1 8 rfl rfl)
theorem dX9_chains_32 : decode cX9_chains 32 = .ok (.iload 8, 2) := dk_21 8 (dk_at dksX9_chains_1 9 rfl rfl)
theorem dX9_chains_34 : decode cX9_chains 34 = .ok (.imul, 1) := dk_104 (dk_at dksX9_chains_1 11 rfl rfl)
theorem dX9_chains_35 : decode cX9_chains 35 = .ok (.iadd, 1) := dk_96 (dk_at dksX9_chains_1 12 rfl rfl)
theorem dX9_chains_36 : decode cX9_chains 36 = .ok (.istore 9, 2) := dk_54 9 (dk_at dksX9_chains_1 13 rfl rfl)
theorem dX9_chains_38 : decode cX9_chains 38 = .ok (.aload_n 0, 1) := dk_42 (dk_at dksX9_chains_1 15 rfl rfl)
theorem dX9_chains_39 : decode cX9_chains 39 = .ok (.getfield 61, 3) := dk_180 0 61 (dk_at dksX9_chains_1 16 rfl rfl)
theorem dX9_chains_42 : decode cX9_chains 42 = .ok (.iload 9, 2) := dk_21 9 (dk_at dksX9_chains_1 19 rfl rfl)
theorem dX9_chains_44 : decode cX9_chains 44 = .ok (.iconst 2, 1) := dk_5 (dk_at dksX9_chains_1 21 rfl rfl)
theorem dX9_chains_45 : decode cX9_chains 45 = .ok (.iadd, 1) := dk_96 (dk_at dksX9_chains_1 22 rfl rfl)
theorem dX9_chains_46 : decode cX9_chains 46 = .ok (.iaload, 1) := dk_46 (dk_at dksX9_chains_1 23 rfl rfl)
theorem dX9_chains_47 : decode cX9_chains 47 = .ok (.istore 10, 2) := dk_54 10 (dk_at dksX9_chains_2 0 rfl rfl)
theorem dX9_chains_49 : decode cX9_chains 49 = .ok (.aload_n 0, 1) := dk_42 (dk_at dksX9_chains_2 2 rfl rfl)
theorem dX9_chains_50 : decode cX9_chains 50 = .ok (.getfield 61, 3) := dk_180 0 61 (dk_at dksX9_chains_2 3 rfl rfl)
theorem dX9_chains_53 : decode cX9_chains 53 = .ok (.iload 9, 2) := dk_21 9 (dk_at dksX9_chains_2 6 rfl rfl)
theorem dX9_chains_55 : decode cX9_chains 55 = .ok (.iaload, 1) := dk_46 (dk_at dksX9_chains_2 8 rfl rfl)
theorem dX9_chains_56 : decode cX9_chains 56 = .ok (.iload_n 1, 1) := dk_27 (dk_at dksX9_chains_2 9 rfl rfl)
theorem dX9_chains_57 : decode cX9_chains 57 = .ok (.if_icmp .ne 54, 3) := dk_160 0 54 (dk_at dksX9_chains_2 10 rfl rfl)
theorem dX9_chains_60 : decode cX9_chains 60 = .ok (.iload_n 3, 1) := dk_29 (dk_at dksX9_chains_2 13 rfl rfl)
theorem dX9_chains_61 : decode cX9_chains 61 = .ok (.iload 10, 2) := dk_21 10 (dk_at dksX9_chains_2 14 rfl rfl)
theorem dX9_chains_63 : decode cX9_chains 63 = .ok (.invokestatic 345, 3) := dk_184 1 89 (dk_at dksX9_chains_2 16 rfl rfl)
theorem dX9_chains_66 : decode cX9_chains 66 = .ok (.ifCond .eq 6, 3) := dk_153 0 6 (dk_at dksX9_chains_2 19 rfl rfl)
theorem dX9_chains_69 : decode cX9_chains 69 = .ok (.goto 42, 3) := dk_167 0 42 (dk_at dksX9_chains_3 0 rfl rfl)
theorem dX9_chains_72 : decode cX9_chains 72 = .ok (.aload_n 0, 1) := dk_42 (dk_at dksX9_chains_3 3 rfl rfl)
theorem dX9_chains_73 : decode cX9_chains 73 = .ok (.iload 10, 2) := dk_21 10 (dk_at dksX9_chains_3 4 rfl rfl)
theorem dX9_chains_75 : decode cX9_chains 75 = .ok (.iload_n 2, 1) := dk_28 (dk_at dksX9_chains_3 6 rfl rfl)
theorem dX9_chains_76 : decode cX9_chains 76 = .ok (.iload_n 3, 1) := dk_29 (dk_at dksX9_chains_3 7 rfl rfl)
theorem dX9_chains_77 : decode cX9_chains 77 = .ok (.iconst 1, 1) := dk_4 (dk_at dksX9_chains_3 8 rfl rfl)
theorem dX9_chains_78 : decode cX9_chains 78 = .ok (.iload 10, 2) := dk_21 10 (dk_at dksX9_chains_3 9 rfl rfl)
theorem dX9_chains_80 : decode cX9_chains 80 = .ok (.ishl, 1) := dk_120 (dk_at dksX9_chains_3 11 rfl rfl)
theorem dX9_chains_81 : decode cX9_chains 81 = .ok (.ior, 1) := dk_128 (dk_at dksX9_chains_3 12 rfl rfl)
theorem dX9_chains_82 : decode cX9_chains 82 = .ok (.lload 4, 2) := dk_22 4 (dk_at dksX9_chains_3 13 rfl rfl)
theorem dX9_chains_84 : decode cX9_chains 84 = .ok (.aload_n 0, 1) := dk_42 (dk_at dksX9_chains_3 15 rfl rfl)
theorem dX9_chains_85 : decode cX9_chains 85 = .ok (.getfield 61, 3) := dk_180 0 61 (dk_at dksX9_chains_3 16 rfl rfl)
theorem dX9_chains_88 : decode cX9_chains 88 = .ok (.iload 9, 2) := dk_21 9 (dk_at dksX9_chains_3 19 rfl rfl)
theorem dX9_chains_90 : decode cX9_chains 90 = .ok (.iconst 3, 1) := dk_6 (dk_at dksX9_chains_3 21 rfl rfl)
theorem dX9_chains_91 : decode cX9_chains 91 = .ok (.iadd, 1) := dk_96 (dk_at dksX9_chains_3 22 rfl rfl)
theorem dX9_chains_92 : decode cX9_chains 92 = .ok (.iaload, 1) := dk_46 (dk_at dksX9_chains_3 23 rfl rfl)
theorem dX9_chains_93 : decode cX9_chains 93 = .ok (.i2l, 1) := dk_133 (dk_at dksX9_chains_4 0 rfl rfl)
theorem dX9_chains_94 : decode cX9_chains 94 = .ok (.lmul, 1) := dk_105 (dk_at dksX9_chains_4 1 rfl rfl)
theorem dX9_chains_95 : decode cX9_chains 95 = .ok (.lload 6, 2) := dk_22 6 (dk_at dksX9_chains_4 2 rfl rfl)
theorem dX9_chains_97 : decode cX9_chains 97 = .ok (.aload_n 0, 1) := dk_42 (dk_at dksX9_chains_4 4 rfl rfl)
theorem dX9_chains_98 : decode cX9_chains 98 = .ok (.getfield 61, 3) := dk_180 0 61 (dk_at dksX9_chains_4 5 rfl rfl)
theorem dX9_chains_101 : decode cX9_chains 101 = .ok (.iload 9, 2) := dk_21 9 (dk_at dksX9_chains_4 8 rfl rfl)
theorem dX9_chains_103 : decode cX9_chains 103 = .ok (.iconst 1, 1) := dk_4 (dk_at dksX9_chains_4 10 rfl rfl)
theorem dX9_chains_104 : decode cX9_chains 104 = .ok (.iadd, 1) := dk_96 (dk_at dksX9_chains_4 11 rfl rfl)
theorem dX9_chains_105 : decode cX9_chains 105 = .ok (.iaload, 1) := dk_46 (dk_at dksX9_chains_4 12 rfl rfl)
theorem dX9_chains_106 : decode cX9_chains 106 = .ok (.i2l, 1) := dk_133 (dk_at dksX9_chains_4 13 rfl rfl)
theorem dX9_chains_107 : decode cX9_chains 107 = .ok (.lmul, 1) := dk_105 (dk_at dksX9_chains_4 14 rfl rfl)
theorem dX9_chains_108 : decode cX9_chains 108 = .ok (.invokevirtual 348, 3) := dk_182 1 92 (dk_at dksX9_chains_4 15 rfl rfl)
theorem dX9_chains_111 : decode cX9_chains 111 = .ok (.iinc 8 1, 3) := dk_132 8 1 (dk_at dksX9_chains_4 18 rfl rfl)
theorem dX9_chains_114 : decode cX9_chains 114 = .ok (.goto (-97), 3) := dk_167 255 159 (dk_at dksX9_chains_4 21 rfl rfl)
theorem dX9_chains_117 : decode cX9_chains 117 = .ok (.return_, 1) := dk_177 (dk_at dksX9_chains_5 0 rfl rfl)
def dkwX9_keeps_1 : List UInt8 := [181, 1, 78, 177]
abbrev dktX9_keeps_1 : List UInt8 := dkwX9_keeps_1 ++ []
def dkwX9_keeps_0 : List UInt8 := [31, 42, 180, 1, 78, 105, 42, 180, 1, 82, 33, 105, 148, 157, 0, 4, 177, 42, 31, 181, 1, 82, 42, 33]
abbrev dktX9_keeps_0 : List UInt8 := dkwX9_keeps_0 ++ dktX9_keeps_1
theorem dksX9_keeps_0 : cX9_keeps.data.toList.drop 0 = dktX9_keeps_0 := by decide +kernel
theorem dksX9_keeps_1 : cX9_keeps.data.toList.drop 24 = dktX9_keeps_1 := dk_seg dksX9_keeps_0 24 rfl rfl
theorem dX9_keeps_0 : decode cX9_keeps 0 = .ok (.lload_n 1, 1) := dk_31 (dk_at dksX9_keeps_0 0 rfl rfl)
theorem dX9_keeps_1 : decode cX9_keeps 1 = .ok (.aload_n 0, 1) := dk_42 (dk_at dksX9_keeps_0 1 rfl rfl)
theorem dX9_keeps_2 : decode cX9_keeps 2 = .ok (.getfield 334, 3) := dk_180 1 78 (dk_at dksX9_keeps_0 2 rfl rfl)
theorem dX9_keeps_5 : decode cX9_keeps 5 = .ok (.lmul, 1) := dk_105 (dk_at dksX9_keeps_0 5 rfl rfl)
theorem dX9_keeps_6 : decode cX9_keeps 6 = .ok (.aload_n 0, 1) := dk_42 (dk_at dksX9_keeps_0 6 rfl rfl)
theorem dX9_keeps_7 : decode cX9_keeps 7 = .ok (.getfield 338, 3) := dk_180 1 82 (dk_at dksX9_keeps_0 7 rfl rfl)
theorem dX9_keeps_10 : decode cX9_keeps 10 = .ok (.lload_n 3, 1) := dk_33 (dk_at dksX9_keeps_0 10 rfl rfl)
theorem dX9_keeps_11 : decode cX9_keeps 11 = .ok (.lmul, 1) := dk_105 (dk_at dksX9_keeps_0 11 rfl rfl)
theorem dX9_keeps_12 : decode cX9_keeps 12 = .ok (.lcmp, 1) := dk_148 (dk_at dksX9_keeps_0 12 rfl rfl)
theorem dX9_keeps_13 : decode cX9_keeps 13 = .ok (.ifCond .gt 4, 3) := dk_157 0 4 (dk_at dksX9_keeps_0 13 rfl rfl)
theorem dX9_keeps_16 : decode cX9_keeps 16 = .ok (.return_, 1) := dk_177 (dk_at dksX9_keeps_0 16 rfl rfl)
theorem dX9_keeps_17 : decode cX9_keeps 17 = .ok (.aload_n 0, 1) := dk_42 (dk_at dksX9_keeps_0 17 rfl rfl)
theorem dX9_keeps_18 : decode cX9_keeps 18 = .ok (.lload_n 1, 1) := dk_31 (dk_at dksX9_keeps_0 18 rfl rfl)
theorem dX9_keeps_19 : decode cX9_keeps 19 = .ok (.putfield 338, 3) := dk_181 1 82 (dk_at dksX9_keeps_0 19 rfl rfl)
theorem dX9_keeps_22 : decode cX9_keeps 22 = .ok (.aload_n 0, 1) := dk_42 (dk_at dksX9_keeps_0 22 rfl rfl)
theorem dX9_keeps_23 : decode cX9_keeps 23 = .ok (.lload_n 3, 1) := dk_33 (dk_at dksX9_keeps_0 23 rfl rfl)
theorem dX9_keeps_24 : decode cX9_keeps 24 = .ok (.putfield 334, 3) := dk_181 1 78 (dk_at dksX9_keeps_1 0 rfl rfl)
theorem dX9_keeps_27 : decode cX9_keeps 27 = .ok (.return_, 1) := dk_177 (dk_at dksX9_keeps_1 3 rfl rfl)
def dkwX9_has_0 : List UInt8 := [26, 27, 122, 4, 126, 4, 160, 0, 7, 4, 167, 0, 4, 3, 172]
abbrev dktX9_has_0 : List UInt8 := dkwX9_has_0 ++ []
theorem dksX9_has_0 : cX9_has.data.toList.drop 0 = dktX9_has_0 := by decide +kernel
theorem dX9_has_0 : decode cX9_has 0 = .ok (.iload_n 0, 1) := dk_26 (dk_at dksX9_has_0 0 rfl rfl)
theorem dX9_has_1 : decode cX9_has 1 = .ok (.iload_n 1, 1) := dk_27 (dk_at dksX9_has_0 1 rfl rfl)
theorem dX9_has_2 : decode cX9_has 2 = .ok (.ishr, 1) := dk_122 (dk_at dksX9_has_0 2 rfl rfl)
theorem dX9_has_3 : decode cX9_has 3 = .ok (.iconst 1, 1) := dk_4 (dk_at dksX9_has_0 3 rfl rfl)
theorem dX9_has_4 : decode cX9_has 4 = .ok (.iand, 1) := dk_126 (dk_at dksX9_has_0 4 rfl rfl)
theorem dX9_has_5 : decode cX9_has 5 = .ok (.iconst 1, 1) := dk_4 (dk_at dksX9_has_0 5 rfl rfl)
theorem dX9_has_6 : decode cX9_has 6 = .ok (.if_icmp .ne 7, 3) := dk_160 0 7 (dk_at dksX9_has_0 6 rfl rfl)
theorem dX9_has_9 : decode cX9_has 9 = .ok (.iconst 1, 1) := dk_4 (dk_at dksX9_has_0 9 rfl rfl)
theorem dX9_has_10 : decode cX9_has 10 = .ok (.goto 4, 3) := dk_167 0 4 (dk_at dksX9_has_0 10 rfl rfl)
theorem dX9_has_13 : decode cX9_has 13 = .ok (.iconst 0, 1) := dk_3 (dk_at dksX9_has_0 13 rfl rfl)
theorem dX9_has_14 : decode cX9_has 14 = .ok (.ireturn, 1) := dk_172 (dk_at dksX9_has_0 14 rfl rfl)
def dkwX9_partOf_1 : List UInt8 := [22, 9, 55, 7, 167, 255, 234, 21, 4, 154, 0, 10, 30, 22, 5, 109, 167, 0, 7, 32, 22, 5, 109, 173]
abbrev dktX9_partOf_1 : List UInt8 := dkwX9_partOf_1 ++ []
def dkwX9_partOf_0 : List UInt8 := [32, 55, 5, 30, 55, 7, 22, 7, 9, 148, 153, 0, 21, 22, 5, 22, 7, 113, 55, 9, 22, 7, 55, 5]
abbrev dktX9_partOf_0 : List UInt8 := dkwX9_partOf_0 ++ dktX9_partOf_1
theorem dksX9_partOf_0 : cX9_partOf.data.toList.drop 0 = dktX9_partOf_0 := by decide +kernel
theorem dksX9_partOf_1 : cX9_partOf.data.toList.drop 24 = dktX9_partOf_1 := dk_seg dksX9_partOf_0 24 rfl rfl
theorem dX9_partOf_0 : decode cX9_partOf 0 = .ok (.lload_n 2, 1) := dk_32 (dk_at dksX9_partOf_0 0 rfl rfl)
theorem dX9_partOf_1 : decode cX9_partOf 1 = .ok (.lstore 5, 2) := dk_55 5 (dk_at dksX9_partOf_0 1 rfl rfl)
theorem dX9_partOf_3 : decode cX9_partOf 3 = .ok (.lload_n 0, 1) := dk_30 (dk_at dksX9_partOf_0 3 rfl rfl)
theorem dX9_partOf_4 : decode cX9_partOf 4 = .ok (.lstore 7, 2) := dk_55 7 (dk_at dksX9_partOf_0 4 rfl rfl)
theorem dX9_partOf_6 : decode cX9_partOf 6 = .ok (.lload 7, 2) := dk_22 7 (dk_at dksX9_partOf_0 6 rfl rfl)
theorem dX9_partOf_8 : decode cX9_partOf 8 = .ok (.lconst 0, 1) := dk_9 (dk_at dksX9_partOf_0 8 rfl rfl)
theorem dX9_partOf_9 : decode cX9_partOf 9 = .ok (.lcmp, 1) := dk_148 (dk_at dksX9_partOf_0 9 rfl rfl)
theorem dX9_partOf_10 : decode cX9_partOf 10 = .ok (.ifCond .eq 21, 3) := dk_153 0 21 (dk_at dksX9_partOf_0 10 rfl rfl)
theorem dX9_partOf_13 : decode cX9_partOf 13 = .ok (.lload 5, 2) := dk_22 5 (dk_at dksX9_partOf_0 13 rfl rfl)
theorem dX9_partOf_15 : decode cX9_partOf 15 = .ok (.lload 7, 2) := dk_22 7 (dk_at dksX9_partOf_0 15 rfl rfl)
theorem dX9_partOf_17 : decode cX9_partOf 17 = .ok (.lrem, 1) := dk_113 (dk_at dksX9_partOf_0 17 rfl rfl)
theorem dX9_partOf_18 : decode cX9_partOf 18 = .ok (.lstore 9, 2) := dk_55 9 (dk_at dksX9_partOf_0 18 rfl rfl)
theorem dX9_partOf_20 : decode cX9_partOf 20 = .ok (.lload 7, 2) := dk_22 7 (dk_at dksX9_partOf_0 20 rfl rfl)
theorem dX9_partOf_22 : decode cX9_partOf 22 = .ok (.lstore 5, 2) := dk_55 5 (dk_at dksX9_partOf_0 22 rfl rfl)
theorem dX9_partOf_24 : decode cX9_partOf 24 = .ok (.lload 9, 2) := dk_22 9 (dk_at dksX9_partOf_1 0 rfl rfl)
theorem dX9_partOf_26 : decode cX9_partOf 26 = .ok (.lstore 7, 2) := dk_55 7 (dk_at dksX9_partOf_1 2 rfl rfl)
theorem dX9_partOf_28 : decode cX9_partOf 28 = .ok (.goto (-22), 3) := dk_167 255 234 (dk_at dksX9_partOf_1 4 rfl rfl)
theorem dX9_partOf_31 : decode cX9_partOf 31 = .ok (.iload 4, 2) := dk_21 4 (dk_at dksX9_partOf_1 7 rfl rfl)
theorem dX9_partOf_33 : decode cX9_partOf 33 = .ok (.ifCond .ne 10, 3) := dk_154 0 10 (dk_at dksX9_partOf_1 9 rfl rfl)
theorem dX9_partOf_36 : decode cX9_partOf 36 = .ok (.lload_n 0, 1) := dk_30 (dk_at dksX9_partOf_1 12 rfl rfl)
theorem dX9_partOf_37 : decode cX9_partOf 37 = .ok (.lload 5, 2) := dk_22 5 (dk_at dksX9_partOf_1 13 rfl rfl)
theorem dX9_partOf_39 : decode cX9_partOf 39 = .ok (.ldiv, 1) := dk_109 (dk_at dksX9_partOf_1 15 rfl rfl)
theorem dX9_partOf_40 : decode cX9_partOf 40 = .ok (.goto 7, 3) := dk_167 0 7 (dk_at dksX9_partOf_1 16 rfl rfl)
theorem dX9_partOf_43 : decode cX9_partOf 43 = .ok (.lload_n 2, 1) := dk_32 (dk_at dksX9_partOf_1 19 rfl rfl)
theorem dX9_partOf_44 : decode cX9_partOf 44 = .ok (.lload 5, 2) := dk_22 5 (dk_at dksX9_partOf_1 20 rfl rfl)
theorem dX9_partOf_46 : decode cX9_partOf 46 = .ok (.ldiv, 1) := dk_109 (dk_at dksX9_partOf_1 22 rfl rfl)
theorem dX9_partOf_47 : decode cX9_partOf 47 = .ok (.lreturn, 1) := dk_173 (dk_at dksX9_partOf_1 23 rfl rfl)
def dkwX9_fattest_2 : List UInt8 := [173]
abbrev dktX9_fattest_2 : List UInt8 := dkwX9_fattest_2 ++ []
def dkwX9_fattest_1 : List UInt8 := [182, 0, 171, 153, 0, 5, 9, 173, 42, 182, 1, 110, 42, 180, 1, 82, 42, 180, 1, 78, 27, 184, 1, 106]
abbrev dktX9_fattest_1 : List UInt8 := dkwX9_fattest_1 ++ dktX9_fattest_2
def dkwX9_fattest_0 : List UInt8 := [42, 3, 181, 0, 92, 42, 27, 3, 4, 184, 0, 126, 154, 0, 7, 4, 167, 0, 4, 3, 4, 4]
abbrev dktX9_fattest_0 : List UInt8 := dkwX9_fattest_0 ++ dktX9_fattest_1
theorem dksX9_fattest_0 : cX9_fattest.data.toList.drop 0 = dktX9_fattest_0 := by decide +kernel
theorem dksX9_fattest_1 : cX9_fattest.data.toList.drop 22 = dktX9_fattest_1 := dk_seg dksX9_fattest_0 22 rfl rfl
theorem dksX9_fattest_2 : cX9_fattest.data.toList.drop 46 = dktX9_fattest_2 := dk_seg dksX9_fattest_1 24 rfl rfl
theorem dX9_fattest_0 : decode cX9_fattest 0 = .ok (.aload_n 0, 1) := dk_42 (dk_at dksX9_fattest_0 0 rfl rfl)
theorem dX9_fattest_1 : decode cX9_fattest 1 = .ok (.iconst 0, 1) := dk_3 (dk_at dksX9_fattest_0 1 rfl rfl)
theorem dX9_fattest_2 : decode cX9_fattest 2 = .ok (.putfield 92, 3) := dk_181 0 92 (dk_at dksX9_fattest_0 2 rfl rfl)
theorem dX9_fattest_5 : decode cX9_fattest 5 = .ok (.aload_n 0, 1) := dk_42 (dk_at dksX9_fattest_0 5 rfl rfl)
theorem dX9_fattest_6 : decode cX9_fattest 6 = .ok (.iload_n 1, 1) := dk_27 (dk_at dksX9_fattest_0 6 rfl rfl)
theorem dX9_fattest_7 : decode cX9_fattest 7 = .ok (.iconst 0, 1) := dk_3 (dk_at dksX9_fattest_0 7 rfl rfl)
theorem dX9_fattest_8 : decode cX9_fattest 8 = .ok (.iconst 1, 1) := dk_4 (dk_at dksX9_fattest_0 8 rfl rfl)
theorem dX9_fattest_9 : decode cX9_fattest 9 = .ok (.invokestatic 126, 3) := dk_184 0 126 (dk_at dksX9_fattest_0 9 rfl rfl)
theorem dX9_fattest_12 : decode cX9_fattest 12 = .ok (.ifCond .ne 7, 3) := dk_154 0 7 (dk_at dksX9_fattest_0 12 rfl rfl)
theorem dX9_fattest_15 : decode cX9_fattest 15 = .ok (.iconst 1, 1) := dk_4 (dk_at dksX9_fattest_0 15 rfl rfl)
theorem dX9_fattest_16 : decode cX9_fattest 16 = .ok (.goto 4, 3) := dk_167 0 4 (dk_at dksX9_fattest_0 16 rfl rfl)
theorem dX9_fattest_19 : decode cX9_fattest 19 = .ok (.iconst 0, 1) := dk_3 (dk_at dksX9_fattest_0 19 rfl rfl)
theorem dX9_fattest_20 : decode cX9_fattest 20 = .ok (.iconst 1, 1) := dk_4 (dk_at dksX9_fattest_0 20 rfl rfl)
theorem dX9_fattest_21 : decode cX9_fattest 21 = .ok (.iconst 1, 1) := dk_4 (dk_at dksX9_fattest_0 21 rfl rfl)
theorem dX9_fattest_22 : decode cX9_fattest 22 = .ok (.invokevirtual 171, 3) := dk_182 0 171 (dk_at dksX9_fattest_1 0 rfl rfl)
theorem dX9_fattest_25 : decode cX9_fattest 25 = .ok (.ifCond .eq 5, 3) := dk_153 0 5 (dk_at dksX9_fattest_1 3 rfl rfl)
theorem dX9_fattest_28 : decode cX9_fattest 28 = .ok (.lconst 0, 1) := dk_9 (dk_at dksX9_fattest_1 6 rfl rfl)
theorem dX9_fattest_29 : decode cX9_fattest 29 = .ok (.lreturn, 1) := dk_173 (dk_at dksX9_fattest_1 7 rfl rfl)
theorem dX9_fattest_30 : decode cX9_fattest 30 = .ok (.aload_n 0, 1) := dk_42 (dk_at dksX9_fattest_1 8 rfl rfl)
theorem dX9_fattest_31 : decode cX9_fattest 31 = .ok (.invokevirtual 366, 3) := dk_182 1 110 (dk_at dksX9_fattest_1 9 rfl rfl)
theorem dX9_fattest_34 : decode cX9_fattest 34 = .ok (.aload_n 0, 1) := dk_42 (dk_at dksX9_fattest_1 12 rfl rfl)
theorem dX9_fattest_35 : decode cX9_fattest 35 = .ok (.getfield 338, 3) := dk_180 1 82 (dk_at dksX9_fattest_1 13 rfl rfl)
theorem dX9_fattest_38 : decode cX9_fattest 38 = .ok (.aload_n 0, 1) := dk_42 (dk_at dksX9_fattest_1 16 rfl rfl)
theorem dX9_fattest_39 : decode cX9_fattest 39 = .ok (.getfield 334, 3) := dk_180 1 78 (dk_at dksX9_fattest_1 17 rfl rfl)
theorem dX9_fattest_42 : decode cX9_fattest 42 = .ok (.iload_n 1, 1) := dk_27 (dk_at dksX9_fattest_1 20 rfl rfl)
theorem dX9_fattest_43 : decode cX9_fattest 43 = .ok (.invokestatic 362, 3) := dk_184 1 106 (dk_at dksX9_fattest_1 21 rfl rfl)
theorem dX9_fattest_46 : decode cX9_fattest 46 = .ok (.lreturn, 1) := dk_173 (dk_at dksX9_fattest_2 0 rfl rfl)
def dkwX9_allRings_2 : List UInt8 := [46, 162, 0, 21, 42, 27, 27, 4, 27, 120, 3, 10, 10, 182, 1, 96, 132, 1, 1, 167, 255, 231, 177]
abbrev dktX9_allRings_2 : List UInt8 := dkwX9_allRings_2 ++ []
def dkwX9_allRings_1 : List UInt8 := [162, 0, 16, 42, 180, 0, 76, 27, 3, 84, 132, 1, 1, 167, 255, 237, 3, 60, 27, 42, 180, 0, 23, 3]
abbrev dktX9_allRings_1 : List UInt8 := dkwX9_allRings_1 ++ dktX9_allRings_2
def dkwX9_allRings_0 : List UInt8 := [42, 9, 181, 1, 82, 42, 10, 181, 1, 78, 42, 2, 181, 1, 100, 3, 60, 27, 42, 180, 0, 76, 190]
abbrev dktX9_allRings_0 : List UInt8 := dkwX9_allRings_0 ++ dktX9_allRings_1
theorem dksX9_allRings_0 : cX9_allRings.data.toList.drop 0 = dktX9_allRings_0 := by decide +kernel
theorem dksX9_allRings_1 : cX9_allRings.data.toList.drop 23 = dktX9_allRings_1 := dk_seg dksX9_allRings_0 23 rfl rfl
theorem dksX9_allRings_2 : cX9_allRings.data.toList.drop 47 = dktX9_allRings_2 := dk_seg dksX9_allRings_1 24 rfl rfl
theorem dX9_allRings_0 : decode cX9_allRings 0 = .ok (.aload_n 0, 1) := dk_42 (dk_at dksX9_allRings_0 0 rfl rfl)
theorem dX9_allRings_1 : decode cX9_allRings 1 = .ok (.lconst 0, 1) := dk_9 (dk_at dksX9_allRings_0 1 rfl rfl)
theorem dX9_allRings_2 : decode cX9_allRings 2 = .ok (.putfield 338, 3) := dk_181 1 82 (dk_at dksX9_allRings_0 2 rfl rfl)
theorem dX9_allRings_5 : decode cX9_allRings 5 = .ok (.aload_n 0, 1) := dk_42 (dk_at dksX9_allRings_0 5 rfl rfl)
theorem dX9_allRings_6 : decode cX9_allRings 6 = .ok (.lconst 1, 1) := dk_10 (dk_at dksX9_allRings_0 6 rfl rfl)
theorem dX9_allRings_7 : decode cX9_allRings 7 = .ok (.putfield 334, 3) := dk_181 1 78 (dk_at dksX9_allRings_0 7 rfl rfl)
theorem dX9_allRings_10 : decode cX9_allRings 10 = .ok (.aload_n 0, 1) := dk_42 (dk_at dksX9_allRings_0 10 rfl rfl)
theorem dX9_allRings_11 : decode cX9_allRings 11 = .ok (.iconst (-1), 1) := dk_2 (dk_at dksX9_allRings_0 11 rfl rfl)
theorem dX9_allRings_12 : decode cX9_allRings 12 = .ok (.putfield 356, 3) := dk_181 1 100 (dk_at dksX9_allRings_0 12 rfl rfl)
theorem dX9_allRings_15 : decode cX9_allRings 15 = .ok (.iconst 0, 1) := dk_3 (dk_at dksX9_allRings_0 15 rfl rfl)
theorem dX9_allRings_16 : decode cX9_allRings 16 = .ok (.istore_n 1, 1) := dk_60 (dk_at dksX9_allRings_0 16 rfl rfl)
theorem dX9_allRings_17 : decode cX9_allRings 17 = .ok (.iload_n 1, 1) := dk_27 (dk_at dksX9_allRings_0 17 rfl rfl)
theorem dX9_allRings_18 : decode cX9_allRings 18 = .ok (.aload_n 0, 1) := dk_42 (dk_at dksX9_allRings_0 18 rfl rfl)
theorem dX9_allRings_19 : decode cX9_allRings 19 = .ok (.getfield 76, 3) := dk_180 0 76 (dk_at dksX9_allRings_0 19 rfl rfl)
theorem dX9_allRings_22 : decode cX9_allRings 22 = .ok (.arraylength, 1) := dk_190 (dk_at dksX9_allRings_0 22 rfl rfl)
theorem dX9_allRings_23 : decode cX9_allRings 23 = .ok (.if_icmp .ge 16, 3) := dk_162 0 16 (dk_at dksX9_allRings_1 0 rfl rfl)
theorem dX9_allRings_26 : decode cX9_allRings 26 = .ok (.aload_n 0, 1) := dk_42 (dk_at dksX9_allRings_1 3 rfl rfl)
theorem dX9_allRings_27 : decode cX9_allRings 27 = .ok (.getfield 76, 3) := dk_180 0 76 (dk_at dksX9_allRings_1 4 rfl rfl)
theorem dX9_allRings_30 : decode cX9_allRings 30 = .ok (.iload_n 1, 1) := dk_27 (dk_at dksX9_allRings_1 7 rfl rfl)
theorem dX9_allRings_31 : decode cX9_allRings 31 = .ok (.iconst 0, 1) := dk_3 (dk_at dksX9_allRings_1 8 rfl rfl)
theorem dX9_allRings_32 : decode cX9_allRings 32 = .ok (.bastore, 1) := dk_84 (dk_at dksX9_allRings_1 9 rfl rfl)
theorem dX9_allRings_33 : decode cX9_allRings 33 = .ok (.iinc 1 1, 3) := dk_132 1 1 (dk_at dksX9_allRings_1 10 rfl rfl)
theorem dX9_allRings_36 : decode cX9_allRings 36 = .ok (.goto (-19), 3) := dk_167 255 237 (dk_at dksX9_allRings_1 13 rfl rfl)
theorem dX9_allRings_39 : decode cX9_allRings 39 = .ok (.iconst 0, 1) := dk_3 (dk_at dksX9_allRings_1 16 rfl rfl)
theorem dX9_allRings_40 : decode cX9_allRings 40 = .ok (.istore_n 1, 1) := dk_60 (dk_at dksX9_allRings_1 17 rfl rfl)
theorem dX9_allRings_41 : decode cX9_allRings 41 = .ok (.iload_n 1, 1) := dk_27 (dk_at dksX9_allRings_1 18 rfl rfl)
theorem dX9_allRings_42 : decode cX9_allRings 42 = .ok (.aload_n 0, 1) := dk_42 (dk_at dksX9_allRings_1 19 rfl rfl)
theorem dX9_allRings_43 : decode cX9_allRings 43 = .ok (.getfield 23, 3) := dk_180 0 23 (dk_at dksX9_allRings_1 20 rfl rfl)
theorem dX9_allRings_46 : decode cX9_allRings 46 = .ok (.iconst 0, 1) := dk_3 (dk_at dksX9_allRings_1 23 rfl rfl)
theorem dX9_allRings_47 : decode cX9_allRings 47 = .ok (.iaload, 1) := dk_46 (dk_at dksX9_allRings_2 0 rfl rfl)
theorem dX9_allRings_48 : decode cX9_allRings 48 = .ok (.if_icmp .ge 21, 3) := dk_162 0 21 (dk_at dksX9_allRings_2 1 rfl rfl)
theorem dX9_allRings_51 : decode cX9_allRings 51 = .ok (.aload_n 0, 1) := dk_42 (dk_at dksX9_allRings_2 4 rfl rfl)
theorem dX9_allRings_52 : decode cX9_allRings 52 = .ok (.iload_n 1, 1) := dk_27 (dk_at dksX9_allRings_2 5 rfl rfl)
theorem dX9_allRings_53 : decode cX9_allRings 53 = .ok (.iload_n 1, 1) := dk_27 (dk_at dksX9_allRings_2 6 rfl rfl)
theorem dX9_allRings_54 : decode cX9_allRings 54 = .ok (.iconst 1, 1) := dk_4 (dk_at dksX9_allRings_2 7 rfl rfl)
theorem dX9_allRings_55 : decode cX9_allRings 55 = .ok (.iload_n 1, 1) := dk_27 (dk_at dksX9_allRings_2 8 rfl rfl)
theorem dX9_allRings_56 : decode cX9_allRings 56 = .ok (.ishl, 1) := dk_120 (dk_at dksX9_allRings_2 9 rfl rfl)
theorem dX9_allRings_57 : decode cX9_allRings 57 = .ok (.iconst 0, 1) := dk_3 (dk_at dksX9_allRings_2 10 rfl rfl)
theorem dX9_allRings_58 : decode cX9_allRings 58 = .ok (.lconst 1, 1) := dk_10 (dk_at dksX9_allRings_2 11 rfl rfl)
theorem dX9_allRings_59 : decode cX9_allRings 59 = .ok (.lconst 1, 1) := dk_10 (dk_at dksX9_allRings_2 12 rfl rfl)
theorem dX9_allRings_60 : decode cX9_allRings 60 = .ok (.invokevirtual 352, 3) := dk_182 1 96 (dk_at dksX9_allRings_2 13 rfl rfl)
theorem dX9_allRings_63 : decode cX9_allRings 63 = .ok (.iinc 1 1, 3) := dk_132 1 1 (dk_at dksX9_allRings_2 16 rfl rfl)
theorem dX9_allRings_66 : decode cX9_allRings 66 = .ok (.goto (-25), 3) := dk_167 255 231 (dk_at dksX9_allRings_2 19 rfl rfl)
theorem dX9_allRings_69 : decode cX9_allRings 69 = .ok (.return_, 1) := dk_177 (dk_at dksX9_allRings_2 22 rfl rfl)
def dkwX9_rings_8 : List UInt8 := [184, 1, 4, 4, 96, 184, 0, 235, 181, 1, 100, 132, 9, 1, 167, 255, 55, 177]
abbrev dktX9_rings_8 : List UInt8 := dkwX9_rings_8 ++ []
def dkwX9_rings_7 : List UInt8 := [180, 1, 100, 2, 160, 0, 13, 21, 4, 184, 1, 4, 4, 96, 167, 0, 17, 42, 180, 1, 100, 21, 4]
abbrev dktX9_rings_7 : List UInt8 := dkwX9_rings_7 ++ dktX9_rings_8
def dkwX9_rings_6 : List UInt8 := [22, 14, 148, 157, 0, 6, 167, 0, 52, 42, 180, 0, 76, 21, 4, 4, 21, 9, 120, 128, 4, 84, 42, 42]
abbrev dktX9_rings_6 : List UInt8 := dkwX9_rings_6 ++ dktX9_rings_7
def dkwX9_rings_5 : List UInt8 := [21, 9, 120, 128, 22, 12, 22, 14, 182, 1, 96, 167, 0, 71, 42, 22, 12, 22, 14, 182, 1, 85, 22, 12]
abbrev dktX9_rings_5 : List UInt8 := dkwX9_rings_5 ++ dktX9_rings_6
def dkwX9_rings_4 : List UInt8 := [133, 105, 55, 14, 21, 11, 27, 159, 0, 30, 42, 27, 21, 11, 29, 4, 21, 11, 120, 128, 21, 4, 4]
abbrev dktX9_rings_4 : List UInt8 := dkwX9_rings_4 ++ dktX9_rings_5
def dkwX9_rings_3 : List UInt8 := [42, 180, 0, 61, 21, 10, 6, 96, 46, 133, 105, 55, 12, 22, 7, 42, 180, 0, 61, 21, 10, 4, 96, 46]
abbrev dktX9_rings_3 : List UInt8 := dkwX9_rings_3 ++ dktX9_rings_4
def dkwX9_rings_2 : List UInt8 := [27, 161, 0, 152, 21, 11, 27, 159, 0, 15, 29, 21, 11, 184, 1, 89, 153, 0, 6, 167, 0, 134, 22, 5]
abbrev dktX9_rings_2 : List UInt8 := dkwX9_rings_2 ++ dktX9_rings_3
def dkwX9_rings_1 : List UInt8 := [42, 180, 0, 61, 21, 10, 5, 96, 46, 54, 11, 42, 180, 0, 61, 21, 10, 46, 28, 160, 0, 158, 21, 11]
abbrev dktX9_rings_1 : List UInt8 := dkwX9_rings_1 ++ dktX9_rings_2
def dkwX9_rings_0 : List UInt8 := [3, 54, 9, 21, 9, 42, 180, 0, 61, 16, 56, 46, 162, 0, 195, 16, 16, 7, 21, 9, 104, 96, 54, 10]
abbrev dktX9_rings_0 : List UInt8 := dkwX9_rings_0 ++ dktX9_rings_1
theorem dksX9_rings_0 : cX9_rings.data.toList.drop 0 = dktX9_rings_0 := by decide +kernel
theorem dksX9_rings_1 : cX9_rings.data.toList.drop 24 = dktX9_rings_1 := dk_seg dksX9_rings_0 24 rfl rfl
theorem dksX9_rings_2 : cX9_rings.data.toList.drop 48 = dktX9_rings_2 := dk_seg dksX9_rings_1 24 rfl rfl
theorem dksX9_rings_3 : cX9_rings.data.toList.drop 72 = dktX9_rings_3 := dk_seg dksX9_rings_2 24 rfl rfl
theorem dksX9_rings_4 : cX9_rings.data.toList.drop 96 = dktX9_rings_4 := dk_seg dksX9_rings_3 24 rfl rfl
theorem dksX9_rings_5 : cX9_rings.data.toList.drop 119 = dktX9_rings_5 := dk_seg dksX9_rings_4 23 rfl rfl
theorem dksX9_rings_6 : cX9_rings.data.toList.drop 143 = dktX9_rings_6 := dk_seg dksX9_rings_5 24 rfl rfl
theorem dksX9_rings_7 : cX9_rings.data.toList.drop 167 = dktX9_rings_7 := dk_seg dksX9_rings_6 24 rfl rfl
theorem dksX9_rings_8 : cX9_rings.data.toList.drop 190 = dktX9_rings_8 := dk_seg dksX9_rings_7 23 rfl rfl
theorem dX9_rings_0 : decode cX9_rings 0 = .ok (.iconst 0, 1) := dk_3 (dk_at dksX9_rings_0 0 rfl rfl)
theorem dX9_rings_1 : decode cX9_rings 1 = .ok (.istore 9, 2) := dk_54 9 (dk_at dksX9_rings_0 1 rfl rfl)
theorem dX9_rings_3 : decode cX9_rings 3 = .ok (.iload 9, 2) := dk_21 9 (dk_at dksX9_rings_0 3 rfl rfl)
theorem dX9_rings_5 : decode cX9_rings 5 = .ok (.aload_n 0, 1) := dk_42 (dk_at dksX9_rings_0 5 rfl rfl)
theorem dX9_rings_6 : decode cX9_rings 6 = .ok (.getfield 61, 3) := dk_180 0 61 (dk_at dksX9_rings_0 6 rfl rfl)
theorem dX9_rings_9 : decode cX9_rings 9 = .ok (.bipush 56, 2) := dk_16 56 (dk_at dksX9_rings_0 9 rfl rfl)
theorem dX9_rings_11 : decode cX9_rings 11 = .ok (.iaload, 1) := dk_46 (dk_at dksX9_rings_0 11 rfl rfl)
theorem dX9_rings_12 : decode cX9_rings 12 = .ok (.if_icmp .ge 195, 3) := dk_162 0 195 (dk_at dksX9_rings_0 12 rfl rfl)
theorem dX9_rings_15 : decode cX9_rings 15 = .ok (.bipush 16, 2) := dk_16 16 (dk_at dksX9_rings_0 15 rfl rfl)
theorem dX9_rings_17 : decode cX9_rings 17 = .ok (.iconst 4, 1) := dk_7 (dk_at dksX9_rings_0 17 rfl rfl)
theorem dX9_rings_18 : decode cX9_rings 18 = .ok (.iload 9, 2) := dk_21 9 (dk_at dksX9_rings_0 18 rfl rfl)
theorem dX9_rings_20 : decode cX9_rings 20 = .ok (.imul, 1) := dk_104 (dk_at dksX9_rings_0 20 rfl rfl)
theorem dX9_rings_21 : decode cX9_rings 21 = .ok (.iadd, 1) := dk_96 (dk_at dksX9_rings_0 21 rfl rfl)
theorem dX9_rings_22 : decode cX9_rings 22 = .ok (.istore 10, 2) := dk_54 10 (dk_at dksX9_rings_0 22 rfl rfl)
theorem dX9_rings_24 : decode cX9_rings 24 = .ok (.aload_n 0, 1) := dk_42 (dk_at dksX9_rings_1 0 rfl rfl)
theorem dX9_rings_25 : decode cX9_rings 25 = .ok (.getfield 61, 3) := dk_180 0 61 (dk_at dksX9_rings_1 1 rfl rfl)
theorem dX9_rings_28 : decode cX9_rings 28 = .ok (.iload 10, 2) := dk_21 10 (dk_at dksX9_rings_1 4 rfl rfl)
theorem dX9_rings_30 : decode cX9_rings 30 = .ok (.iconst 2, 1) := dk_5 (dk_at dksX9_rings_1 6 rfl rfl)
theorem dX9_rings_31 : decode cX9_rings 31 = .ok (.iadd, 1) := dk_96 (dk_at dksX9_rings_1 7 rfl rfl)
theorem dX9_rings_32 : decode cX9_rings 32 = .ok (.iaload, 1) := dk_46 (dk_at dksX9_rings_1 8 rfl rfl)
theorem dX9_rings_33 : decode cX9_rings 33 = .ok (.istore 11, 2) := dk_54 11 (dk_at dksX9_rings_1 9 rfl rfl)
theorem dX9_rings_35 : decode cX9_rings 35 = .ok (.aload_n 0, 1) := dk_42 (dk_at dksX9_rings_1 11 rfl rfl)
theorem dX9_rings_36 : decode cX9_rings 36 = .ok (.getfield 61, 3) := dk_180 0 61 (dk_at dksX9_rings_1 12 rfl rfl)
theorem dX9_rings_39 : decode cX9_rings 39 = .ok (.iload 10, 2) := dk_21 10 (dk_at dksX9_rings_1 15 rfl rfl)
theorem dX9_rings_41 : decode cX9_rings 41 = .ok (.iaload, 1) := dk_46 (dk_at dksX9_rings_1 17 rfl rfl)
theorem dX9_rings_42 : decode cX9_rings 42 = .ok (.iload_n 2, 1) := dk_28 (dk_at dksX9_rings_1 18 rfl rfl)
theorem dX9_rings_43 : decode cX9_rings 43 = .ok (.if_icmp .ne 158, 3) := dk_160 0 158 (dk_at dksX9_rings_1 19 rfl rfl)
theorem dX9_rings_46 : decode cX9_rings 46 = .ok (.iload 11, 2) := dk_21 11 (dk_at dksX9_rings_1 22 rfl rfl)
theorem dX9_rings_48 : decode cX9_rings 48 = .ok (.iload_n 1, 1) := dk_27 (dk_at dksX9_rings_2 0 rfl rfl)
theorem dX9_rings_49 : decode cX9_rings 49 = .ok (.if_icmp .lt 152, 3) := dk_161 0 152 (dk_at dksX9_rings_2 1 rfl rfl)
theorem dX9_rings_52 : decode cX9_rings 52 = .ok (.iload 11, 2) := dk_21 11 (dk_at dksX9_rings_2 4 rfl rfl)
theorem dX9_rings_54 : decode cX9_rings 54 = .ok (.iload_n 1, 1) := dk_27 (dk_at dksX9_rings_2 6 rfl rfl)
theorem dX9_rings_55 : decode cX9_rings 55 = .ok (.if_icmp .eq 15, 3) := dk_159 0 15 (dk_at dksX9_rings_2 7 rfl rfl)
theorem dX9_rings_58 : decode cX9_rings 58 = .ok (.iload_n 3, 1) := dk_29 (dk_at dksX9_rings_2 10 rfl rfl)
theorem dX9_rings_59 : decode cX9_rings 59 = .ok (.iload 11, 2) := dk_21 11 (dk_at dksX9_rings_2 11 rfl rfl)
theorem dX9_rings_61 : decode cX9_rings 61 = .ok (.invokestatic 345, 3) := dk_184 1 89 (dk_at dksX9_rings_2 13 rfl rfl)
theorem dX9_rings_64 : decode cX9_rings 64 = .ok (.ifCond .eq 6, 3) := dk_153 0 6 (dk_at dksX9_rings_2 16 rfl rfl)
theorem dX9_rings_67 : decode cX9_rings 67 = .ok (.goto 134, 3) := dk_167 0 134 (dk_at dksX9_rings_2 19 rfl rfl)
theorem dX9_rings_70 : decode cX9_rings 70 = .ok (.lload 5, 2) := dk_22 5 (dk_at dksX9_rings_2 22 rfl rfl)
theorem dX9_rings_72 : decode cX9_rings 72 = .ok (.aload_n 0, 1) := dk_42 (dk_at dksX9_rings_3 0 rfl rfl)
theorem dX9_rings_73 : decode cX9_rings 73 = .ok (.getfield 61, 3) := dk_180 0 61 (dk_at dksX9_rings_3 1 rfl rfl)
theorem dX9_rings_76 : decode cX9_rings 76 = .ok (.iload 10, 2) := dk_21 10 (dk_at dksX9_rings_3 4 rfl rfl)
theorem dX9_rings_78 : decode cX9_rings 78 = .ok (.iconst 3, 1) := dk_6 (dk_at dksX9_rings_3 6 rfl rfl)
theorem dX9_rings_79 : decode cX9_rings 79 = .ok (.iadd, 1) := dk_96 (dk_at dksX9_rings_3 7 rfl rfl)
theorem dX9_rings_80 : decode cX9_rings 80 = .ok (.iaload, 1) := dk_46 (dk_at dksX9_rings_3 8 rfl rfl)
theorem dX9_rings_81 : decode cX9_rings 81 = .ok (.i2l, 1) := dk_133 (dk_at dksX9_rings_3 9 rfl rfl)
theorem dX9_rings_82 : decode cX9_rings 82 = .ok (.lmul, 1) := dk_105 (dk_at dksX9_rings_3 10 rfl rfl)
theorem dX9_rings_83 : decode cX9_rings 83 = .ok (.lstore 12, 2) := dk_55 12 (dk_at dksX9_rings_3 11 rfl rfl)
theorem dX9_rings_85 : decode cX9_rings 85 = .ok (.lload 7, 2) := dk_22 7 (dk_at dksX9_rings_3 13 rfl rfl)
theorem dX9_rings_87 : decode cX9_rings 87 = .ok (.aload_n 0, 1) := dk_42 (dk_at dksX9_rings_3 15 rfl rfl)
theorem dX9_rings_88 : decode cX9_rings 88 = .ok (.getfield 61, 3) := dk_180 0 61 (dk_at dksX9_rings_3 16 rfl rfl)
theorem dX9_rings_91 : decode cX9_rings 91 = .ok (.iload 10, 2) := dk_21 10 (dk_at dksX9_rings_3 19 rfl rfl)
theorem dX9_rings_93 : decode cX9_rings 93 = .ok (.iconst 1, 1) := dk_4 (dk_at dksX9_rings_3 21 rfl rfl)
theorem dX9_rings_94 : decode cX9_rings 94 = .ok (.iadd, 1) := dk_96 (dk_at dksX9_rings_3 22 rfl rfl)
theorem dX9_rings_95 : decode cX9_rings 95 = .ok (.iaload, 1) := dk_46 (dk_at dksX9_rings_3 23 rfl rfl)
theorem dX9_rings_96 : decode cX9_rings 96 = .ok (.i2l, 1) := dk_133 (dk_at dksX9_rings_4 0 rfl rfl)
theorem dX9_rings_97 : decode cX9_rings 97 = .ok (.lmul, 1) := dk_105 (dk_at dksX9_rings_4 1 rfl rfl)
theorem dX9_rings_98 : decode cX9_rings 98 = .ok (.lstore 14, 2) := dk_55 14 (dk_at dksX9_rings_4 2 rfl rfl)
theorem dX9_rings_100 : decode cX9_rings 100 = .ok (.iload 11, 2) := dk_21 11 (dk_at dksX9_rings_4 4 rfl rfl)
theorem dX9_rings_102 : decode cX9_rings 102 = .ok (.iload_n 1, 1) := dk_27 (dk_at dksX9_rings_4 6 rfl rfl)
theorem dX9_rings_103 : decode cX9_rings 103 = .ok (.if_icmp .eq 30, 3) := dk_159 0 30 (dk_at dksX9_rings_4 7 rfl rfl)
theorem dX9_rings_106 : decode cX9_rings 106 = .ok (.aload_n 0, 1) := dk_42 (dk_at dksX9_rings_4 10 rfl rfl)
theorem dX9_rings_107 : decode cX9_rings 107 = .ok (.iload_n 1, 1) := dk_27 (dk_at dksX9_rings_4 11 rfl rfl)
theorem dX9_rings_108 : decode cX9_rings 108 = .ok (.iload 11, 2) := dk_21 11 (dk_at dksX9_rings_4 12 rfl rfl)
theorem dX9_rings_110 : decode cX9_rings 110 = .ok (.iload_n 3, 1) := dk_29 (dk_at dksX9_rings_4 14 rfl rfl)
theorem dX9_rings_111 : decode cX9_rings 111 = .ok (.iconst 1, 1) := dk_4 (dk_at dksX9_rings_4 15 rfl rfl)
theorem dX9_rings_112 : decode cX9_rings 112 = .ok (.iload 11, 2) := dk_21 11 (dk_at dksX9_rings_4 16 rfl rfl)
theorem dX9_rings_114 : decode cX9_rings 114 = .ok (.ishl, 1) := dk_120 (dk_at dksX9_rings_4 18 rfl rfl)
theorem dX9_rings_115 : decode cX9_rings 115 = .ok (.ior, 1) := dk_128 (dk_at dksX9_rings_4 19 rfl rfl)
theorem dX9_rings_116 : decode cX9_rings 116 = .ok (.iload 4, 2) := dk_21 4 (dk_at dksX9_rings_4 20 rfl rfl)
theorem dX9_rings_118 : decode cX9_rings 118 = .ok (.iconst 1, 1) := dk_4 (dk_at dksX9_rings_4 22 rfl rfl)
theorem dX9_rings_119 : decode cX9_rings 119 = .ok (.iload 9, 2) := dk_21 9 (dk_at dksX9_rings_5 0 rfl rfl)
theorem dX9_rings_121 : decode cX9_rings 121 = .ok (.ishl, 1) := dk_120 (dk_at dksX9_rings_5 2 rfl rfl)
theorem dX9_rings_122 : decode cX9_rings 122 = .ok (.ior, 1) := dk_128 (dk_at dksX9_rings_5 3 rfl rfl)
theorem dX9_rings_123 : decode cX9_rings 123 = .ok (.lload 12, 2) := dk_22 12 (dk_at dksX9_rings_5 4 rfl rfl)
theorem dX9_rings_125 : decode cX9_rings 125 = .ok (.lload 14, 2) := dk_22 14 (dk_at dksX9_rings_5 6 rfl rfl)
theorem dX9_rings_127 : decode cX9_rings 127 = .ok (.invokevirtual 352, 3) := dk_182 1 96 (dk_at dksX9_rings_5 8 rfl rfl)
theorem dX9_rings_130 : decode cX9_rings 130 = .ok (.goto 71, 3) := dk_167 0 71 (dk_at dksX9_rings_5 11 rfl rfl)
theorem dX9_rings_133 : decode cX9_rings 133 = .ok (.aload_n 0, 1) := dk_42 (dk_at dksX9_rings_5 14 rfl rfl)
theorem dX9_rings_134 : decode cX9_rings 134 = .ok (.lload 12, 2) := dk_22 12 (dk_at dksX9_rings_5 15 rfl rfl)
theorem dX9_rings_136 : decode cX9_rings 136 = .ok (.lload 14, 2) := dk_22 14 (dk_at dksX9_rings_5 17 rfl rfl)
theorem dX9_rings_138 : decode cX9_rings 138 = .ok (.invokevirtual 341, 3) := dk_182 1 85 (dk_at dksX9_rings_5 19 rfl rfl)
theorem dX9_rings_141 : decode cX9_rings 141 = .ok (.lload 12, 2) := dk_22 12 (dk_at dksX9_rings_5 22 rfl rfl)
theorem dX9_rings_143 : decode cX9_rings 143 = .ok (.lload 14, 2) := dk_22 14 (dk_at dksX9_rings_6 0 rfl rfl)
theorem dX9_rings_145 : decode cX9_rings 145 = .ok (.lcmp, 1) := dk_148 (dk_at dksX9_rings_6 2 rfl rfl)
theorem dX9_rings_146 : decode cX9_rings 146 = .ok (.ifCond .gt 6, 3) := dk_157 0 6 (dk_at dksX9_rings_6 3 rfl rfl)
theorem dX9_rings_149 : decode cX9_rings 149 = .ok (.goto 52, 3) := dk_167 0 52 (dk_at dksX9_rings_6 6 rfl rfl)
theorem dX9_rings_152 : decode cX9_rings 152 = .ok (.aload_n 0, 1) := dk_42 (dk_at dksX9_rings_6 9 rfl rfl)
theorem dX9_rings_153 : decode cX9_rings 153 = .ok (.getfield 76, 3) := dk_180 0 76 (dk_at dksX9_rings_6 10 rfl rfl)
theorem dX9_rings_156 : decode cX9_rings 156 = .ok (.iload 4, 2) := dk_21 4 (dk_at dksX9_rings_6 13 rfl rfl)
theorem dX9_rings_158 : decode cX9_rings 158 = .ok (.iconst 1, 1) := dk_4 (dk_at dksX9_rings_6 15 rfl rfl)
theorem dX9_rings_159 : decode cX9_rings 159 = .ok (.iload 9, 2) := dk_21 9 (dk_at dksX9_rings_6 16 rfl rfl)
theorem dX9_rings_161 : decode cX9_rings 161 = .ok (.ishl, 1) := dk_120 (dk_at dksX9_rings_6 18 rfl rfl)
theorem dX9_rings_162 : decode cX9_rings 162 = .ok (.ior, 1) := dk_128 (dk_at dksX9_rings_6 19 rfl rfl)
theorem dX9_rings_163 : decode cX9_rings 163 = .ok (.iconst 1, 1) := dk_4 (dk_at dksX9_rings_6 20 rfl rfl)
theorem dX9_rings_164 : decode cX9_rings 164 = .ok (.bastore, 1) := dk_84 (dk_at dksX9_rings_6 21 rfl rfl)
theorem dX9_rings_165 : decode cX9_rings 165 = .ok (.aload_n 0, 1) := dk_42 (dk_at dksX9_rings_6 22 rfl rfl)
theorem dX9_rings_166 : decode cX9_rings 166 = .ok (.aload_n 0, 1) := dk_42 (dk_at dksX9_rings_6 23 rfl rfl)
theorem dX9_rings_167 : decode cX9_rings 167 = .ok (.getfield 356, 3) := dk_180 1 100 (dk_at dksX9_rings_7 0 rfl rfl)
theorem dX9_rings_170 : decode cX9_rings 170 = .ok (.iconst (-1), 1) := dk_2 (dk_at dksX9_rings_7 3 rfl rfl)
theorem dX9_rings_171 : decode cX9_rings 171 = .ok (.if_icmp .ne 13, 3) := dk_160 0 13 (dk_at dksX9_rings_7 4 rfl rfl)
theorem dX9_rings_174 : decode cX9_rings 174 = .ok (.iload 4, 2) := dk_21 4 (dk_at dksX9_rings_7 7 rfl rfl)
theorem dX9_rings_176 : decode cX9_rings 176 = .ok (.invokestatic 260, 3) := dk_184 1 4 (dk_at dksX9_rings_7 9 rfl rfl)
theorem dX9_rings_179 : decode cX9_rings 179 = .ok (.iconst 1, 1) := dk_4 (dk_at dksX9_rings_7 12 rfl rfl)
theorem dX9_rings_180 : decode cX9_rings 180 = .ok (.iadd, 1) := dk_96 (dk_at dksX9_rings_7 13 rfl rfl)
theorem dX9_rings_181 : decode cX9_rings 181 = .ok (.goto 17, 3) := dk_167 0 17 (dk_at dksX9_rings_7 14 rfl rfl)
theorem dX9_rings_184 : decode cX9_rings 184 = .ok (.aload_n 0, 1) := dk_42 (dk_at dksX9_rings_7 17 rfl rfl)
theorem dX9_rings_185 : decode cX9_rings 185 = .ok (.getfield 356, 3) := dk_180 1 100 (dk_at dksX9_rings_7 18 rfl rfl)
theorem dX9_rings_188 : decode cX9_rings 188 = .ok (.iload 4, 2) := dk_21 4 (dk_at dksX9_rings_7 21 rfl rfl)
theorem dX9_rings_190 : decode cX9_rings 190 = .ok (.invokestatic 260, 3) := dk_184 1 4 (dk_at dksX9_rings_8 0 rfl rfl)
theorem dX9_rings_193 : decode cX9_rings 193 = .ok (.iconst 1, 1) := dk_4 (dk_at dksX9_rings_8 3 rfl rfl)
theorem dX9_rings_194 : decode cX9_rings 194 = .ok (.iadd, 1) := dk_96 (dk_at dksX9_rings_8 4 rfl rfl)
theorem dX9_rings_195 : decode cX9_rings 195 = .ok (.invokestatic 235, 3) := dk_184 0 235 (dk_at dksX9_rings_8 5 rfl rfl)
theorem dX9_rings_198 : decode cX9_rings 198 = .ok (.putfield 356, 3) := dk_181 1 100 (dk_at dksX9_rings_8 8 rfl rfl)
theorem dX9_rings_201 : decode cX9_rings 201 = .ok (.iinc 9 1, 3) := dk_132 9 1 (dk_at dksX9_rings_8 11 rfl rfl)
theorem dX9_rings_204 : decode cX9_rings 204 = .ok (.goto (-201), 3) := dk_167 255 55 (dk_at dksX9_rings_8 14 rfl rfl)
theorem dX9_rings_207 : decode cX9_rings 207 = .ok (.return_, 1) := dk_177 (dk_at dksX9_rings_8 17 rfl rfl)
def dkwX9_fat_0 : List UInt8 := [42, 3, 181, 0, 92, 42, 182, 1, 110, 42, 180, 1, 100, 172]
abbrev dktX9_fat_0 : List UInt8 := dkwX9_fat_0 ++ []
theorem dksX9_fat_0 : cX9_fat.data.toList.drop 0 = dktX9_fat_0 := by decide +kernel
theorem dX9_fat_0 : decode cX9_fat 0 = .ok (.aload_n 0, 1) := dk_42 (dk_at dksX9_fat_0 0 rfl rfl)
theorem dX9_fat_1 : decode cX9_fat 1 = .ok (.iconst 0, 1) := dk_3 (dk_at dksX9_fat_0 1 rfl rfl)
theorem dX9_fat_2 : decode cX9_fat 2 = .ok (.putfield 92, 3) := dk_181 0 92 (dk_at dksX9_fat_0 2 rfl rfl)
theorem dX9_fat_5 : decode cX9_fat 5 = .ok (.aload_n 0, 1) := dk_42 (dk_at dksX9_fat_0 5 rfl rfl)
theorem dX9_fat_6 : decode cX9_fat 6 = .ok (.invokevirtual 366, 3) := dk_182 1 110 (dk_at dksX9_fat_0 6 rfl rfl)
theorem dX9_fat_9 : decode cX9_fat 9 = .ok (.aload_n 0, 1) := dk_42 (dk_at dksX9_fat_0 9 rfl rfl)
theorem dX9_fat_10 : decode cX9_fat 10 = .ok (.getfield 356, 3) := dk_180 1 100 (dk_at dksX9_fat_0 10 rfl rfl)
theorem dX9_fat_13 : decode cX9_fat 13 = .ok (.ireturn, 1) := dk_172 (dk_at dksX9_fat_0 13 rfl rfl)
def dkwX9_mend_2 : List UInt8 := [167, 0, 4, 27, 60, 132, 2, 255, 167, 255, 224, 27, 172]
abbrev dktX9_mend_2 : List UInt8 := dkwX9_mend_2 ++ []
def dkwX9_mend_1 : List UInt8 := [155, 0, 34, 28, 184, 1, 4, 27, 184, 1, 4, 163, 0, 15, 42, 28, 182, 1, 113, 153, 0, 7, 28]
abbrev dktX9_mend_1 : List UInt8 := dkwX9_mend_1 ++ dktX9_mend_2
def dkwX9_mend_0 : List UInt8 := [42, 3, 181, 0, 92, 42, 182, 1, 110, 4, 42, 180, 0, 61, 16, 56, 46, 120, 4, 100, 60, 27, 61, 28]
abbrev dktX9_mend_0 : List UInt8 := dkwX9_mend_0 ++ dktX9_mend_1
theorem dksX9_mend_0 : cX9_mend.data.toList.drop 0 = dktX9_mend_0 := by decide +kernel
theorem dksX9_mend_1 : cX9_mend.data.toList.drop 24 = dktX9_mend_1 := dk_seg dksX9_mend_0 24 rfl rfl
theorem dksX9_mend_2 : cX9_mend.data.toList.drop 47 = dktX9_mend_2 := dk_seg dksX9_mend_1 23 rfl rfl
theorem dX9_mend_0 : decode cX9_mend 0 = .ok (.aload_n 0, 1) := dk_42 (dk_at dksX9_mend_0 0 rfl rfl)
theorem dX9_mend_1 : decode cX9_mend 1 = .ok (.iconst 0, 1) := dk_3 (dk_at dksX9_mend_0 1 rfl rfl)
theorem dX9_mend_2 : decode cX9_mend 2 = .ok (.putfield 92, 3) := dk_181 0 92 (dk_at dksX9_mend_0 2 rfl rfl)
theorem dX9_mend_5 : decode cX9_mend 5 = .ok (.aload_n 0, 1) := dk_42 (dk_at dksX9_mend_0 5 rfl rfl)
theorem dX9_mend_6 : decode cX9_mend 6 = .ok (.invokevirtual 366, 3) := dk_182 1 110 (dk_at dksX9_mend_0 6 rfl rfl)
theorem dX9_mend_9 : decode cX9_mend 9 = .ok (.iconst 1, 1) := dk_4 (dk_at dksX9_mend_0 9 rfl rfl)
theorem dX9_mend_10 : decode cX9_mend 10 = .ok (.aload_n 0, 1) := dk_42 (dk_at dksX9_mend_0 10 rfl rfl)
theorem dX9_mend_11 : decode cX9_mend 11 = .ok (.getfield 61, 3) := dk_180 0 61 (dk_at dksX9_mend_0 11 rfl rfl)
theorem dX9_mend_14 : decode cX9_mend 14 = .ok (.bipush 56, 2) := dk_16 56 (dk_at dksX9_mend_0 14 rfl rfl)
theorem dX9_mend_16 : decode cX9_mend 16 = .ok (.iaload, 1) := dk_46 (dk_at dksX9_mend_0 16 rfl rfl)
theorem dX9_mend_17 : decode cX9_mend 17 = .ok (.ishl, 1) := dk_120 (dk_at dksX9_mend_0 17 rfl rfl)
theorem dX9_mend_18 : decode cX9_mend 18 = .ok (.iconst 1, 1) := dk_4 (dk_at dksX9_mend_0 18 rfl rfl)
theorem dX9_mend_19 : decode cX9_mend 19 = .ok (.isub, 1) := dk_100 (dk_at dksX9_mend_0 19 rfl rfl)
theorem dX9_mend_20 : decode cX9_mend 20 = .ok (.istore_n 1, 1) := dk_60 (dk_at dksX9_mend_0 20 rfl rfl)
theorem dX9_mend_21 : decode cX9_mend 21 = .ok (.iload_n 1, 1) := dk_27 (dk_at dksX9_mend_0 21 rfl rfl)
theorem dX9_mend_22 : decode cX9_mend 22 = .ok (.istore_n 2, 1) := dk_61 (dk_at dksX9_mend_0 22 rfl rfl)
theorem dX9_mend_23 : decode cX9_mend 23 = .ok (.iload_n 2, 1) := dk_28 (dk_at dksX9_mend_0 23 rfl rfl)
theorem dX9_mend_24 : decode cX9_mend 24 = .ok (.ifCond .lt 34, 3) := dk_155 0 34 (dk_at dksX9_mend_1 0 rfl rfl)
theorem dX9_mend_27 : decode cX9_mend 27 = .ok (.iload_n 2, 1) := dk_28 (dk_at dksX9_mend_1 3 rfl rfl)
theorem dX9_mend_28 : decode cX9_mend 28 = .ok (.invokestatic 260, 3) := dk_184 1 4 (dk_at dksX9_mend_1 4 rfl rfl)
theorem dX9_mend_31 : decode cX9_mend 31 = .ok (.iload_n 1, 1) := dk_27 (dk_at dksX9_mend_1 7 rfl rfl)
theorem dX9_mend_32 : decode cX9_mend 32 = .ok (.invokestatic 260, 3) := dk_184 1 4 (dk_at dksX9_mend_1 8 rfl rfl)
theorem dX9_mend_35 : decode cX9_mend 35 = .ok (.if_icmp .gt 15, 3) := dk_163 0 15 (dk_at dksX9_mend_1 11 rfl rfl)
theorem dX9_mend_38 : decode cX9_mend 38 = .ok (.aload_n 0, 1) := dk_42 (dk_at dksX9_mend_1 14 rfl rfl)
theorem dX9_mend_39 : decode cX9_mend 39 = .ok (.iload_n 2, 1) := dk_28 (dk_at dksX9_mend_1 15 rfl rfl)
theorem dX9_mend_40 : decode cX9_mend 40 = .ok (.invokevirtual 369, 3) := dk_182 1 113 (dk_at dksX9_mend_1 16 rfl rfl)
theorem dX9_mend_43 : decode cX9_mend 43 = .ok (.ifCond .eq 7, 3) := dk_153 0 7 (dk_at dksX9_mend_1 19 rfl rfl)
theorem dX9_mend_46 : decode cX9_mend 46 = .ok (.iload_n 2, 1) := dk_28 (dk_at dksX9_mend_1 22 rfl rfl)
theorem dX9_mend_47 : decode cX9_mend 47 = .ok (.goto 4, 3) := dk_167 0 4 (dk_at dksX9_mend_2 0 rfl rfl)
theorem dX9_mend_50 : decode cX9_mend 50 = .ok (.iload_n 1, 1) := dk_27 (dk_at dksX9_mend_2 3 rfl rfl)
theorem dX9_mend_51 : decode cX9_mend 51 = .ok (.istore_n 1, 1) := dk_60 (dk_at dksX9_mend_2 4 rfl rfl)
theorem dX9_mend_52 : decode cX9_mend 52 = .ok (.iinc 2 (-1), 3) := dk_132 2 255 (dk_at dksX9_mend_2 5 rfl rfl)
theorem dX9_mend_55 : decode cX9_mend 55 = .ok (.goto (-32), 3) := dk_167 255 224 (dk_at dksX9_mend_2 8 rfl rfl)
theorem dX9_mend_58 : decode cX9_mend 58 = .ok (.iload_n 1, 1) := dk_27 (dk_at dksX9_mend_2 11 rfl rfl)
theorem dX9_mend_59 : decode cX9_mend 59 = .ok (.ireturn, 1) := dk_172 (dk_at dksX9_mend_2 12 rfl rfl)
def dkwX9_isMended_1 : List UInt8 := [28, 27, 126, 154, 0, 5, 3, 172, 132, 2, 1, 167, 255, 223, 4, 172]
abbrev dktX9_isMended_1 : List UInt8 := dkwX9_isMended_1 ++ []
def dkwX9_isMended_0 : List UInt8 := [4, 61, 28, 4, 42, 180, 0, 61, 16, 56, 46, 120, 162, 0, 26, 42, 180, 0, 76, 28, 51, 153, 0, 11]
abbrev dktX9_isMended_0 : List UInt8 := dkwX9_isMended_0 ++ dktX9_isMended_1
theorem dksX9_isMended_0 : cX9_isMended.data.toList.drop 0 = dktX9_isMended_0 := by decide +kernel
theorem dksX9_isMended_1 : cX9_isMended.data.toList.drop 24 = dktX9_isMended_1 := dk_seg dksX9_isMended_0 24 rfl rfl
theorem dX9_isMended_0 : decode cX9_isMended 0 = .ok (.iconst 1, 1) := dk_4 (dk_at dksX9_isMended_0 0 rfl rfl)
theorem dX9_isMended_1 : decode cX9_isMended 1 = .ok (.istore_n 2, 1) := dk_61 (dk_at dksX9_isMended_0 1 rfl rfl)
theorem dX9_isMended_2 : decode cX9_isMended 2 = .ok (.iload_n 2, 1) := dk_28 (dk_at dksX9_isMended_0 2 rfl rfl)
theorem dX9_isMended_3 : decode cX9_isMended 3 = .ok (.iconst 1, 1) := dk_4 (dk_at dksX9_isMended_0 3 rfl rfl)
theorem dX9_isMended_4 : decode cX9_isMended 4 = .ok (.aload_n 0, 1) := dk_42 (dk_at dksX9_isMended_0 4 rfl rfl)
theorem dX9_isMended_5 : decode cX9_isMended 5 = .ok (.getfield 61, 3) := dk_180 0 61 (dk_at dksX9_isMended_0 5 rfl rfl)
theorem dX9_isMended_8 : decode cX9_isMended 8 = .ok (.bipush 56, 2) := dk_16 56 (dk_at dksX9_isMended_0 8 rfl rfl)
theorem dX9_isMended_10 : decode cX9_isMended 10 = .ok (.iaload, 1) := dk_46 (dk_at dksX9_isMended_0 10 rfl rfl)
theorem dX9_isMended_11 : decode cX9_isMended 11 = .ok (.ishl, 1) := dk_120 (dk_at dksX9_isMended_0 11 rfl rfl)
theorem dX9_isMended_12 : decode cX9_isMended 12 = .ok (.if_icmp .ge 26, 3) := dk_162 0 26 (dk_at dksX9_isMended_0 12 rfl rfl)
theorem dX9_isMended_15 : decode cX9_isMended 15 = .ok (.aload_n 0, 1) := dk_42 (dk_at dksX9_isMended_0 15 rfl rfl)
theorem dX9_isMended_16 : decode cX9_isMended 16 = .ok (.getfield 76, 3) := dk_180 0 76 (dk_at dksX9_isMended_0 16 rfl rfl)
theorem dX9_isMended_19 : decode cX9_isMended 19 = .ok (.iload_n 2, 1) := dk_28 (dk_at dksX9_isMended_0 19 rfl rfl)
theorem dX9_isMended_20 : decode cX9_isMended 20 = .ok (.baload, 1) := dk_51 (dk_at dksX9_isMended_0 20 rfl rfl)
theorem dX9_isMended_21 : decode cX9_isMended 21 = .ok (.ifCond .eq 11, 3) := dk_153 0 11 (dk_at dksX9_isMended_0 21 rfl rfl)
theorem dX9_isMended_24 : decode cX9_isMended 24 = .ok (.iload_n 2, 1) := dk_28 (dk_at dksX9_isMended_1 0 rfl rfl)
theorem dX9_isMended_25 : decode cX9_isMended 25 = .ok (.iload_n 1, 1) := dk_27 (dk_at dksX9_isMended_1 1 rfl rfl)
theorem dX9_isMended_26 : decode cX9_isMended 26 = .ok (.iand, 1) := dk_126 (dk_at dksX9_isMended_1 2 rfl rfl)
theorem dX9_isMended_27 : decode cX9_isMended 27 = .ok (.ifCond .ne 5, 3) := dk_154 0 5 (dk_at dksX9_isMended_1 3 rfl rfl)
theorem dX9_isMended_30 : decode cX9_isMended 30 = .ok (.iconst 0, 1) := dk_3 (dk_at dksX9_isMended_1 6 rfl rfl)
theorem dX9_isMended_31 : decode cX9_isMended 31 = .ok (.ireturn, 1) := dk_172 (dk_at dksX9_isMended_1 7 rfl rfl)
theorem dX9_isMended_32 : decode cX9_isMended 32 = .ok (.iinc 2 1, 3) := dk_132 2 1 (dk_at dksX9_isMended_1 8 rfl rfl)
theorem dX9_isMended_35 : decode cX9_isMended 35 = .ok (.goto (-33), 3) := dk_167 255 223 (dk_at dksX9_isMended_1 11 rfl rfl)
theorem dX9_isMended_38 : decode cX9_isMended 38 = .ok (.iconst 1, 1) := dk_4 (dk_at dksX9_isMended_1 14 rfl rfl)
theorem dX9_isMended_39 : decode cX9_isMended 39 = .ok (.ireturn, 1) := dk_172 (dk_at dksX9_isMended_1 15 rfl rfl)
def dkwX9_above_3 : List UInt8 := [120, 167, 0, 4, 3, 128, 61, 132, 3, 1, 167, 255, 207, 28, 172]
abbrev dktX9_above_3 : List UInt8 := dkwX9_above_3 ++ []
def dkwX9_above_2 : List UInt8 := [167, 0, 31, 42, 29, 27, 182, 1, 103, 28, 42, 180, 1, 82, 42, 180, 1, 78, 148, 155, 0, 9, 4, 29]
abbrev dktX9_above_2 : List UInt8 := dkwX9_above_2 ++ dktX9_above_3
def dkwX9_above_1 : List UInt8 := [153, 0, 5, 3, 172, 3, 61, 3, 62, 29, 42, 180, 0, 23, 3, 46, 162, 0, 45, 27, 29, 160, 0, 6]
abbrev dktX9_above_1 : List UInt8 := dkwX9_above_1 ++ dktX9_above_2
def dkwX9_above_0 : List UInt8 := [42, 3, 181, 0, 92, 42, 42, 27, 182, 1, 72, 154, 0, 7, 4, 167, 0, 4, 3, 4, 3, 182, 0, 171]
abbrev dktX9_above_0 : List UInt8 := dkwX9_above_0 ++ dktX9_above_1
theorem dksX9_above_0 : cX9_above.data.toList.drop 0 = dktX9_above_0 := by decide +kernel
theorem dksX9_above_1 : cX9_above.data.toList.drop 24 = dktX9_above_1 := dk_seg dksX9_above_0 24 rfl rfl
theorem dksX9_above_2 : cX9_above.data.toList.drop 48 = dktX9_above_2 := dk_seg dksX9_above_1 24 rfl rfl
theorem dksX9_above_3 : cX9_above.data.toList.drop 72 = dktX9_above_3 := dk_seg dksX9_above_2 24 rfl rfl
theorem dX9_above_0 : decode cX9_above 0 = .ok (.aload_n 0, 1) := dk_42 (dk_at dksX9_above_0 0 rfl rfl)
theorem dX9_above_1 : decode cX9_above 1 = .ok (.iconst 0, 1) := dk_3 (dk_at dksX9_above_0 1 rfl rfl)
theorem dX9_above_2 : decode cX9_above 2 = .ok (.putfield 92, 3) := dk_181 0 92 (dk_at dksX9_above_0 2 rfl rfl)
theorem dX9_above_5 : decode cX9_above 5 = .ok (.aload_n 0, 1) := dk_42 (dk_at dksX9_above_0 5 rfl rfl)
theorem dX9_above_6 : decode cX9_above 6 = .ok (.aload_n 0, 1) := dk_42 (dk_at dksX9_above_0 6 rfl rfl)
theorem dX9_above_7 : decode cX9_above 7 = .ok (.iload_n 1, 1) := dk_27 (dk_at dksX9_above_0 7 rfl rfl)
theorem dX9_above_8 : decode cX9_above 8 = .ok (.invokevirtual 328, 3) := dk_182 1 72 (dk_at dksX9_above_0 8 rfl rfl)
theorem dX9_above_11 : decode cX9_above 11 = .ok (.ifCond .ne 7, 3) := dk_154 0 7 (dk_at dksX9_above_0 11 rfl rfl)
theorem dX9_above_14 : decode cX9_above 14 = .ok (.iconst 1, 1) := dk_4 (dk_at dksX9_above_0 14 rfl rfl)
theorem dX9_above_15 : decode cX9_above 15 = .ok (.goto 4, 3) := dk_167 0 4 (dk_at dksX9_above_0 15 rfl rfl)
theorem dX9_above_18 : decode cX9_above 18 = .ok (.iconst 0, 1) := dk_3 (dk_at dksX9_above_0 18 rfl rfl)
theorem dX9_above_19 : decode cX9_above 19 = .ok (.iconst 1, 1) := dk_4 (dk_at dksX9_above_0 19 rfl rfl)
theorem dX9_above_20 : decode cX9_above 20 = .ok (.iconst 0, 1) := dk_3 (dk_at dksX9_above_0 20 rfl rfl)
theorem dX9_above_21 : decode cX9_above 21 = .ok (.invokevirtual 171, 3) := dk_182 0 171 (dk_at dksX9_above_0 21 rfl rfl)
theorem dX9_above_24 : decode cX9_above 24 = .ok (.ifCond .eq 5, 3) := dk_153 0 5 (dk_at dksX9_above_1 0 rfl rfl)
theorem dX9_above_27 : decode cX9_above 27 = .ok (.iconst 0, 1) := dk_3 (dk_at dksX9_above_1 3 rfl rfl)
theorem dX9_above_28 : decode cX9_above 28 = .ok (.ireturn, 1) := dk_172 (dk_at dksX9_above_1 4 rfl rfl)
theorem dX9_above_29 : decode cX9_above 29 = .ok (.iconst 0, 1) := dk_3 (dk_at dksX9_above_1 5 rfl rfl)
theorem dX9_above_30 : decode cX9_above 30 = .ok (.istore_n 2, 1) := dk_61 (dk_at dksX9_above_1 6 rfl rfl)
theorem dX9_above_31 : decode cX9_above 31 = .ok (.iconst 0, 1) := dk_3 (dk_at dksX9_above_1 7 rfl rfl)
theorem dX9_above_32 : decode cX9_above 32 = .ok (.istore_n 3, 1) := dk_62 (dk_at dksX9_above_1 8 rfl rfl)
theorem dX9_above_33 : decode cX9_above 33 = .ok (.iload_n 3, 1) := dk_29 (dk_at dksX9_above_1 9 rfl rfl)
theorem dX9_above_34 : decode cX9_above 34 = .ok (.aload_n 0, 1) := dk_42 (dk_at dksX9_above_1 10 rfl rfl)
theorem dX9_above_35 : decode cX9_above 35 = .ok (.getfield 23, 3) := dk_180 0 23 (dk_at dksX9_above_1 11 rfl rfl)
theorem dX9_above_38 : decode cX9_above 38 = .ok (.iconst 0, 1) := dk_3 (dk_at dksX9_above_1 14 rfl rfl)
theorem dX9_above_39 : decode cX9_above 39 = .ok (.iaload, 1) := dk_46 (dk_at dksX9_above_1 15 rfl rfl)
theorem dX9_above_40 : decode cX9_above 40 = .ok (.if_icmp .ge 45, 3) := dk_162 0 45 (dk_at dksX9_above_1 16 rfl rfl)
theorem dX9_above_43 : decode cX9_above 43 = .ok (.iload_n 1, 1) := dk_27 (dk_at dksX9_above_1 19 rfl rfl)
theorem dX9_above_44 : decode cX9_above 44 = .ok (.iload_n 3, 1) := dk_29 (dk_at dksX9_above_1 20 rfl rfl)
theorem dX9_above_45 : decode cX9_above 45 = .ok (.if_icmp .ne 6, 3) := dk_160 0 6 (dk_at dksX9_above_1 21 rfl rfl)
theorem dX9_above_48 : decode cX9_above 48 = .ok (.goto 31, 3) := dk_167 0 31 (dk_at dksX9_above_2 0 rfl rfl)
theorem dX9_above_51 : decode cX9_above 51 = .ok (.aload_n 0, 1) := dk_42 (dk_at dksX9_above_2 3 rfl rfl)
theorem dX9_above_52 : decode cX9_above 52 = .ok (.iload_n 3, 1) := dk_29 (dk_at dksX9_above_2 4 rfl rfl)
theorem dX9_above_53 : decode cX9_above 53 = .ok (.iload_n 1, 1) := dk_27 (dk_at dksX9_above_2 5 rfl rfl)
theorem dX9_above_54 : decode cX9_above 54 = .ok (.invokevirtual 359, 3) := dk_182 1 103 (dk_at dksX9_above_2 6 rfl rfl)
theorem dX9_above_57 : decode cX9_above 57 = .ok (.iload_n 2, 1) := dk_28 (dk_at dksX9_above_2 9 rfl rfl)
theorem dX9_above_58 : decode cX9_above 58 = .ok (.aload_n 0, 1) := dk_42 (dk_at dksX9_above_2 10 rfl rfl)
theorem dX9_above_59 : decode cX9_above 59 = .ok (.getfield 338, 3) := dk_180 1 82 (dk_at dksX9_above_2 11 rfl rfl)
theorem dX9_above_62 : decode cX9_above 62 = .ok (.aload_n 0, 1) := dk_42 (dk_at dksX9_above_2 14 rfl rfl)
theorem dX9_above_63 : decode cX9_above 63 = .ok (.getfield 334, 3) := dk_180 1 78 (dk_at dksX9_above_2 15 rfl rfl)
theorem dX9_above_66 : decode cX9_above 66 = .ok (.lcmp, 1) := dk_148 (dk_at dksX9_above_2 18 rfl rfl)
theorem dX9_above_67 : decode cX9_above 67 = .ok (.ifCond .lt 9, 3) := dk_155 0 9 (dk_at dksX9_above_2 19 rfl rfl)
theorem dX9_above_70 : decode cX9_above 70 = .ok (.iconst 1, 1) := dk_4 (dk_at dksX9_above_2 22 rfl rfl)
theorem dX9_above_71 : decode cX9_above 71 = .ok (.iload_n 3, 1) := dk_29 (dk_at dksX9_above_2 23 rfl rfl)
theorem dX9_above_72 : decode cX9_above 72 = .ok (.ishl, 1) := dk_120 (dk_at dksX9_above_3 0 rfl rfl)
theorem dX9_above_73 : decode cX9_above 73 = .ok (.goto 4, 3) := dk_167 0 4 (dk_at dksX9_above_3 1 rfl rfl)
theorem dX9_above_76 : decode cX9_above 76 = .ok (.iconst 0, 1) := dk_3 (dk_at dksX9_above_3 4 rfl rfl)
theorem dX9_above_77 : decode cX9_above 77 = .ok (.ior, 1) := dk_128 (dk_at dksX9_above_3 5 rfl rfl)
theorem dX9_above_78 : decode cX9_above 78 = .ok (.istore_n 2, 1) := dk_61 (dk_at dksX9_above_3 6 rfl rfl)
theorem dX9_above_79 : decode cX9_above 79 = .ok (.iinc 3 1, 3) := dk_132 3 1 (dk_at dksX9_above_3 7 rfl rfl)
theorem dX9_above_82 : decode cX9_above 82 = .ok (.goto (-49), 3) := dk_167 255 207 (dk_at dksX9_above_3 10 rfl rfl)
theorem dX9_above_85 : decode cX9_above 85 = .ok (.iload_n 2, 1) := dk_28 (dk_at dksX9_above_3 13 rfl rfl)
theorem dX9_above_86 : decode cX9_above 86 = .ok (.ireturn, 1) := dk_172 (dk_at dksX9_above_3 14 rfl rfl)
def dkwX9_match_4 : List UInt8 := [21, 4, 46, 2, 159, 0, 9, 132, 4, 1, 167, 255, 234, 28, 154, 0, 7, 29, 167, 0, 5, 21, 4, 172]
abbrev dktX9_match_4 : List UInt8 := dkwX9_match_4 ++ []
def dkwX9_match_3 : List UInt8 := [167, 0, 4, 4, 96, 62, 132, 5, 1, 167, 255, 226, 21, 4, 17, 1, 224, 163, 0, 20, 42, 180, 0, 80]
abbrev dktX9_match_3 : List UInt8 := dkwX9_match_3 ++ dktX9_match_4
def dkwX9_match_2 : List UInt8 := [4, 54, 5, 21, 5, 17, 1, 224, 163, 0, 28, 29, 42, 180, 0, 80, 21, 5, 46, 2, 160, 0, 7, 3]
abbrev dktX9_match_2 : List UInt8 := dkwX9_match_2 ++ dktX9_match_3
def dkwX9_match_1 : List UInt8 := [167, 0, 4, 3, 4, 4, 182, 0, 171, 153, 0, 5, 3, 172, 42, 27, 182, 1, 126, 3, 62, 4, 54, 4]
abbrev dktX9_match_1 : List UInt8 := dkwX9_match_1 ++ dktX9_match_2
def dkwX9_match_0 : List UInt8 := [42, 3, 181, 0, 92, 42, 42, 27, 182, 1, 123, 153, 0, 12, 28, 3, 4, 184, 0, 126, 154, 0, 7, 4]
abbrev dktX9_match_0 : List UInt8 := dkwX9_match_0 ++ dktX9_match_1
theorem dksX9_match_0 : cX9_match.data.toList.drop 0 = dktX9_match_0 := by decide +kernel
theorem dksX9_match_1 : cX9_match.data.toList.drop 24 = dktX9_match_1 := dk_seg dksX9_match_0 24 rfl rfl
theorem dksX9_match_2 : cX9_match.data.toList.drop 48 = dktX9_match_2 := dk_seg dksX9_match_1 24 rfl rfl
theorem dksX9_match_3 : cX9_match.data.toList.drop 72 = dktX9_match_3 := dk_seg dksX9_match_2 24 rfl rfl
theorem dksX9_match_4 : cX9_match.data.toList.drop 96 = dktX9_match_4 := dk_seg dksX9_match_3 24 rfl rfl
theorem dX9_match_0 : decode cX9_match 0 = .ok (.aload_n 0, 1) := dk_42 (dk_at dksX9_match_0 0 rfl rfl)
theorem dX9_match_1 : decode cX9_match 1 = .ok (.iconst 0, 1) := dk_3 (dk_at dksX9_match_0 1 rfl rfl)
theorem dX9_match_2 : decode cX9_match 2 = .ok (.putfield 92, 3) := dk_181 0 92 (dk_at dksX9_match_0 2 rfl rfl)
theorem dX9_match_5 : decode cX9_match 5 = .ok (.aload_n 0, 1) := dk_42 (dk_at dksX9_match_0 5 rfl rfl)
theorem dX9_match_6 : decode cX9_match 6 = .ok (.aload_n 0, 1) := dk_42 (dk_at dksX9_match_0 6 rfl rfl)
theorem dX9_match_7 : decode cX9_match 7 = .ok (.iload_n 1, 1) := dk_27 (dk_at dksX9_match_0 7 rfl rfl)
theorem dX9_match_8 : decode cX9_match 8 = .ok (.invokevirtual 379, 3) := dk_182 1 123 (dk_at dksX9_match_0 8 rfl rfl)
theorem dX9_match_11 : decode cX9_match 11 = .ok (.ifCond .eq 12, 3) := dk_153 0 12 (dk_at dksX9_match_0 11 rfl rfl)
theorem dX9_match_14 : decode cX9_match 14 = .ok (.iload_n 2, 1) := dk_28 (dk_at dksX9_match_0 14 rfl rfl)
theorem dX9_match_15 : decode cX9_match 15 = .ok (.iconst 0, 1) := dk_3 (dk_at dksX9_match_0 15 rfl rfl)
theorem dX9_match_16 : decode cX9_match 16 = .ok (.iconst 1, 1) := dk_4 (dk_at dksX9_match_0 16 rfl rfl)
theorem dX9_match_17 : decode cX9_match 17 = .ok (.invokestatic 126, 3) := dk_184 0 126 (dk_at dksX9_match_0 17 rfl rfl)
theorem dX9_match_20 : decode cX9_match 20 = .ok (.ifCond .ne 7, 3) := dk_154 0 7 (dk_at dksX9_match_0 20 rfl rfl)
theorem dX9_match_23 : decode cX9_match 23 = .ok (.iconst 1, 1) := dk_4 (dk_at dksX9_match_0 23 rfl rfl)
theorem dX9_match_24 : decode cX9_match 24 = .ok (.goto 4, 3) := dk_167 0 4 (dk_at dksX9_match_1 0 rfl rfl)
theorem dX9_match_27 : decode cX9_match 27 = .ok (.iconst 0, 1) := dk_3 (dk_at dksX9_match_1 3 rfl rfl)
theorem dX9_match_28 : decode cX9_match 28 = .ok (.iconst 1, 1) := dk_4 (dk_at dksX9_match_1 4 rfl rfl)
theorem dX9_match_29 : decode cX9_match 29 = .ok (.iconst 1, 1) := dk_4 (dk_at dksX9_match_1 5 rfl rfl)
theorem dX9_match_30 : decode cX9_match 30 = .ok (.invokevirtual 171, 3) := dk_182 0 171 (dk_at dksX9_match_1 6 rfl rfl)
theorem dX9_match_33 : decode cX9_match 33 = .ok (.ifCond .eq 5, 3) := dk_153 0 5 (dk_at dksX9_match_1 9 rfl rfl)
theorem dX9_match_36 : decode cX9_match 36 = .ok (.iconst 0, 1) := dk_3 (dk_at dksX9_match_1 12 rfl rfl)
theorem dX9_match_37 : decode cX9_match 37 = .ok (.ireturn, 1) := dk_172 (dk_at dksX9_match_1 13 rfl rfl)
theorem dX9_match_38 : decode cX9_match 38 = .ok (.aload_n 0, 1) := dk_42 (dk_at dksX9_match_1 14 rfl rfl)
theorem dX9_match_39 : decode cX9_match 39 = .ok (.iload_n 1, 1) := dk_27 (dk_at dksX9_match_1 15 rfl rfl)
theorem dX9_match_40 : decode cX9_match 40 = .ok (.invokevirtual 382, 3) := dk_182 1 126 (dk_at dksX9_match_1 16 rfl rfl)
theorem dX9_match_43 : decode cX9_match 43 = .ok (.iconst 0, 1) := dk_3 (dk_at dksX9_match_1 19 rfl rfl)
theorem dX9_match_44 : decode cX9_match 44 = .ok (.istore_n 3, 1) := dk_62 (dk_at dksX9_match_1 20 rfl rfl)
theorem dX9_match_45 : decode cX9_match 45 = .ok (.iconst 1, 1) := dk_4 (dk_at dksX9_match_1 21 rfl rfl)
theorem dX9_match_46 : decode cX9_match 46 = .ok (.istore 4, 2) := dk_54 4 (dk_at dksX9_match_1 22 rfl rfl)
theorem dX9_match_48 : decode cX9_match 48 = .ok (.iconst 1, 1) := dk_4 (dk_at dksX9_match_2 0 rfl rfl)
theorem dX9_match_49 : decode cX9_match 49 = .ok (.istore 5, 2) := dk_54 5 (dk_at dksX9_match_2 1 rfl rfl)
theorem dX9_match_51 : decode cX9_match 51 = .ok (.iload 5, 2) := dk_21 5 (dk_at dksX9_match_2 3 rfl rfl)
theorem dX9_match_53 : decode cX9_match 53 = .ok (.sipush 480, 3) := dk_17 1 224 (dk_at dksX9_match_2 5 rfl rfl)
theorem dX9_match_56 : decode cX9_match 56 = .ok (.if_icmp .gt 28, 3) := dk_163 0 28 (dk_at dksX9_match_2 8 rfl rfl)
theorem dX9_match_59 : decode cX9_match 59 = .ok (.iload_n 3, 1) := dk_29 (dk_at dksX9_match_2 11 rfl rfl)
theorem dX9_match_60 : decode cX9_match 60 = .ok (.aload_n 0, 1) := dk_42 (dk_at dksX9_match_2 12 rfl rfl)
theorem dX9_match_61 : decode cX9_match 61 = .ok (.getfield 80, 3) := dk_180 0 80 (dk_at dksX9_match_2 13 rfl rfl)
theorem dX9_match_64 : decode cX9_match 64 = .ok (.iload 5, 2) := dk_21 5 (dk_at dksX9_match_2 16 rfl rfl)
theorem dX9_match_66 : decode cX9_match 66 = .ok (.iaload, 1) := dk_46 (dk_at dksX9_match_2 18 rfl rfl)
theorem dX9_match_67 : decode cX9_match 67 = .ok (.iconst (-1), 1) := dk_2 (dk_at dksX9_match_2 19 rfl rfl)
theorem dX9_match_68 : decode cX9_match 68 = .ok (.if_icmp .ne 7, 3) := dk_160 0 7 (dk_at dksX9_match_2 20 rfl rfl)
theorem dX9_match_71 : decode cX9_match 71 = .ok (.iconst 0, 1) := dk_3 (dk_at dksX9_match_2 23 rfl rfl)
theorem dX9_match_72 : decode cX9_match 72 = .ok (.goto 4, 3) := dk_167 0 4 (dk_at dksX9_match_3 0 rfl rfl)
theorem dX9_match_75 : decode cX9_match 75 = .ok (.iconst 1, 1) := dk_4 (dk_at dksX9_match_3 3 rfl rfl)
theorem dX9_match_76 : decode cX9_match 76 = .ok (.iadd, 1) := dk_96 (dk_at dksX9_match_3 4 rfl rfl)
theorem dX9_match_77 : decode cX9_match 77 = .ok (.istore_n 3, 1) := dk_62 (dk_at dksX9_match_3 5 rfl rfl)
theorem dX9_match_78 : decode cX9_match 78 = .ok (.iinc 5 1, 3) := dk_132 5 1 (dk_at dksX9_match_3 6 rfl rfl)
theorem dX9_match_81 : decode cX9_match 81 = .ok (.goto (-30), 3) := dk_167 255 226 (dk_at dksX9_match_3 9 rfl rfl)
theorem dX9_match_84 : decode cX9_match 84 = .ok (.iload 4, 2) := dk_21 4 (dk_at dksX9_match_3 12 rfl rfl)
theorem dX9_match_86 : decode cX9_match 86 = .ok (.sipush 480, 3) := dk_17 1 224 (dk_at dksX9_match_3 14 rfl rfl)
theorem dX9_match_89 : decode cX9_match 89 = .ok (.if_icmp .gt 20, 3) := dk_163 0 20 (dk_at dksX9_match_3 17 rfl rfl)
theorem dX9_match_92 : decode cX9_match 92 = .ok (.aload_n 0, 1) := dk_42 (dk_at dksX9_match_3 20 rfl rfl)
theorem dX9_match_93 : decode cX9_match 93 = .ok (.getfield 80, 3) := dk_180 0 80 (dk_at dksX9_match_3 21 rfl rfl)
theorem dX9_match_96 : decode cX9_match 96 = .ok (.iload 4, 2) := dk_21 4 (dk_at dksX9_match_4 0 rfl rfl)
theorem dX9_match_98 : decode cX9_match 98 = .ok (.iaload, 1) := dk_46 (dk_at dksX9_match_4 2 rfl rfl)
theorem dX9_match_99 : decode cX9_match 99 = .ok (.iconst (-1), 1) := dk_2 (dk_at dksX9_match_4 3 rfl rfl)
theorem dX9_match_100 : decode cX9_match 100 = .ok (.if_icmp .eq 9, 3) := dk_159 0 9 (dk_at dksX9_match_4 4 rfl rfl)
theorem dX9_match_103 : decode cX9_match 103 = .ok (.iinc 4 1, 3) := dk_132 4 1 (dk_at dksX9_match_4 7 rfl rfl)
theorem dX9_match_106 : decode cX9_match 106 = .ok (.goto (-22), 3) := dk_167 255 234 (dk_at dksX9_match_4 10 rfl rfl)
theorem dX9_match_109 : decode cX9_match 109 = .ok (.iload_n 2, 1) := dk_28 (dk_at dksX9_match_4 13 rfl rfl)
theorem dX9_match_110 : decode cX9_match 110 = .ok (.ifCond .ne 7, 3) := dk_154 0 7 (dk_at dksX9_match_4 14 rfl rfl)
theorem dX9_match_113 : decode cX9_match 113 = .ok (.iload_n 3, 1) := dk_29 (dk_at dksX9_match_4 17 rfl rfl)
theorem dX9_match_114 : decode cX9_match 114 = .ok (.goto 5, 3) := dk_167 0 5 (dk_at dksX9_match_4 18 rfl rfl)
theorem dX9_match_117 : decode cX9_match 117 = .ok (.iload 4, 2) := dk_21 4 (dk_at dksX9_match_4 21 rfl rfl)
theorem dX9_match_119 : decode cX9_match 119 = .ok (.ireturn, 1) := dk_172 (dk_at dksX9_match_4 23 rfl rfl)
def dkwX9_isSet_0 : List UInt8 := [27, 3, 42, 182, 1, 120, 184, 0, 126, 172]
abbrev dktX9_isSet_0 : List UInt8 := dkwX9_isSet_0 ++ []
theorem dksX9_isSet_0 : cX9_isSet.data.toList.drop 0 = dktX9_isSet_0 := by decide +kernel
theorem dX9_isSet_0 : decode cX9_isSet 0 = .ok (.iload_n 1, 1) := dk_27 (dk_at dksX9_isSet_0 0 rfl rfl)
theorem dX9_isSet_1 : decode cX9_isSet 1 = .ok (.iconst 0, 1) := dk_3 (dk_at dksX9_isSet_0 1 rfl rfl)
theorem dX9_isSet_2 : decode cX9_isSet 2 = .ok (.aload_n 0, 1) := dk_42 (dk_at dksX9_isSet_0 2 rfl rfl)
theorem dX9_isSet_3 : decode cX9_isSet 3 = .ok (.invokevirtual 376, 3) := dk_182 1 120 (dk_at dksX9_isSet_0 3 rfl rfl)
theorem dX9_isSet_6 : decode cX9_isSet 6 = .ok (.invokestatic 126, 3) := dk_184 0 126 (dk_at dksX9_isSet_0 6 rfl rfl)
theorem dX9_isSet_9 : decode cX9_isSet 9 = .ok (.ireturn, 1) := dk_172 (dk_at dksX9_isSet_0 9 rfl rfl)
def dkwX9_everyThing_0 : List UInt8 := [4, 42, 180, 0, 23, 3, 46, 120, 4, 100, 172]
abbrev dktX9_everyThing_0 : List UInt8 := dkwX9_everyThing_0 ++ []
theorem dksX9_everyThing_0 : cX9_everyThing.data.toList.drop 0 = dktX9_everyThing_0 := by decide +kernel
theorem dX9_everyThing_0 : decode cX9_everyThing 0 = .ok (.iconst 1, 1) := dk_4 (dk_at dksX9_everyThing_0 0 rfl rfl)
theorem dX9_everyThing_1 : decode cX9_everyThing 1 = .ok (.aload_n 0, 1) := dk_42 (dk_at dksX9_everyThing_0 1 rfl rfl)
theorem dX9_everyThing_2 : decode cX9_everyThing 2 = .ok (.getfield 23, 3) := dk_180 0 23 (dk_at dksX9_everyThing_0 2 rfl rfl)
theorem dX9_everyThing_5 : decode cX9_everyThing 5 = .ok (.iconst 0, 1) := dk_3 (dk_at dksX9_everyThing_0 5 rfl rfl)
theorem dX9_everyThing_6 : decode cX9_everyThing 6 = .ok (.iaload, 1) := dk_46 (dk_at dksX9_everyThing_0 6 rfl rfl)
theorem dX9_everyThing_7 : decode cX9_everyThing 7 = .ok (.ishl, 1) := dk_120 (dk_at dksX9_everyThing_0 7 rfl rfl)
theorem dX9_everyThing_8 : decode cX9_everyThing 8 = .ok (.iconst 1, 1) := dk_4 (dk_at dksX9_everyThing_0 8 rfl rfl)
theorem dX9_everyThing_9 : decode cX9_everyThing 9 = .ok (.isub, 1) := dk_100 (dk_at dksX9_everyThing_0 9 rfl rfl)
theorem dX9_everyThing_10 : decode cX9_everyThing 10 = .ok (.ireturn, 1) := dk_172 (dk_at dksX9_everyThing_0 10 rfl rfl)
def dkwX9_laysAmounts_1 : List UInt8 := [27, 3, 3, 182, 1, 116, 177]
abbrev dktX9_laysAmounts_1 : List UInt8 := dkwX9_laysAmounts_1 ++ []
def dkwX9_laysAmounts_0 : List UInt8 := [3, 61, 28, 17, 1, 224, 163, 0, 16, 42, 180, 0, 80, 28, 2, 79, 132, 2, 1, 167, 255, 239, 42, 3]
abbrev dktX9_laysAmounts_0 : List UInt8 := dkwX9_laysAmounts_0 ++ dktX9_laysAmounts_1
theorem dksX9_laysAmounts_0 : cX9_laysAmounts.data.toList.drop 0 = dktX9_laysAmounts_0 := by decide +kernel
theorem dksX9_laysAmounts_1 : cX9_laysAmounts.data.toList.drop 24 = dktX9_laysAmounts_1 := dk_seg dksX9_laysAmounts_0 24 rfl rfl
theorem dX9_laysAmounts_0 : decode cX9_laysAmounts 0 = .ok (.iconst 0, 1) := dk_3 (dk_at dksX9_laysAmounts_0 0 rfl rfl)
theorem dX9_laysAmounts_1 : decode cX9_laysAmounts 1 = .ok (.istore_n 2, 1) := dk_61 (dk_at dksX9_laysAmounts_0 1 rfl rfl)
theorem dX9_laysAmounts_2 : decode cX9_laysAmounts 2 = .ok (.iload_n 2, 1) := dk_28 (dk_at dksX9_laysAmounts_0 2 rfl rfl)
theorem dX9_laysAmounts_3 : decode cX9_laysAmounts 3 = .ok (.sipush 480, 3) := dk_17 1 224 (dk_at dksX9_laysAmounts_0 3 rfl rfl)
theorem dX9_laysAmounts_6 : decode cX9_laysAmounts 6 = .ok (.if_icmp .gt 16, 3) := dk_163 0 16 (dk_at dksX9_laysAmounts_0 6 rfl rfl)
theorem dX9_laysAmounts_9 : decode cX9_laysAmounts 9 = .ok (.aload_n 0, 1) := dk_42 (dk_at dksX9_laysAmounts_0 9 rfl rfl)
theorem dX9_laysAmounts_10 : decode cX9_laysAmounts 10 = .ok (.getfield 80, 3) := dk_180 0 80 (dk_at dksX9_laysAmounts_0 10 rfl rfl)
theorem dX9_laysAmounts_13 : decode cX9_laysAmounts 13 = .ok (.iload_n 2, 1) := dk_28 (dk_at dksX9_laysAmounts_0 13 rfl rfl)
theorem dX9_laysAmounts_14 : decode cX9_laysAmounts 14 = .ok (.iconst (-1), 1) := dk_2 (dk_at dksX9_laysAmounts_0 14 rfl rfl)
theorem dX9_laysAmounts_15 : decode cX9_laysAmounts 15 = .ok (.iastore, 1) := dk_79 (dk_at dksX9_laysAmounts_0 15 rfl rfl)
theorem dX9_laysAmounts_16 : decode cX9_laysAmounts 16 = .ok (.iinc 2 1, 3) := dk_132 2 1 (dk_at dksX9_laysAmounts_0 16 rfl rfl)
theorem dX9_laysAmounts_19 : decode cX9_laysAmounts 19 = .ok (.goto (-17), 3) := dk_167 255 239 (dk_at dksX9_laysAmounts_0 19 rfl rfl)
theorem dX9_laysAmounts_22 : decode cX9_laysAmounts 22 = .ok (.aload_n 0, 1) := dk_42 (dk_at dksX9_laysAmounts_0 22 rfl rfl)
theorem dX9_laysAmounts_23 : decode cX9_laysAmounts 23 = .ok (.iconst 0, 1) := dk_3 (dk_at dksX9_laysAmounts_0 23 rfl rfl)
theorem dX9_laysAmounts_24 : decode cX9_laysAmounts 24 = .ok (.iload_n 1, 1) := dk_27 (dk_at dksX9_laysAmounts_1 0 rfl rfl)
theorem dX9_laysAmounts_25 : decode cX9_laysAmounts 25 = .ok (.iconst 0, 1) := dk_3 (dk_at dksX9_laysAmounts_1 1 rfl rfl)
theorem dX9_laysAmounts_26 : decode cX9_laysAmounts 26 = .ok (.iconst 0, 1) := dk_3 (dk_at dksX9_laysAmounts_1 2 rfl rfl)
theorem dX9_laysAmounts_27 : decode cX9_laysAmounts 27 = .ok (.invokevirtual 372, 3) := dk_182 1 116 (dk_at dksX9_laysAmounts_1 3 rfl rfl)
theorem dX9_laysAmounts_30 : decode cX9_laysAmounts 30 = .ok (.return_, 1) := dk_177 (dk_at dksX9_laysAmounts_1 6 rfl rfl)
def dkwX9_laysFrom_6 : List UInt8 := [27, 96, 46, 100, 182, 1, 116, 177]
abbrev dktX9_laysFrom_6 : List UInt8 := dkwX9_laysFrom_6 ++ []
def dkwX9_laysFrom_5 : List UInt8 := [27, 96, 46, 96, 182, 1, 116, 42, 27, 4, 96, 28, 29, 4, 27, 120, 128, 21, 4, 42, 180, 0, 61, 3]
abbrev dktX9_laysFrom_5 : List UInt8 := dkwX9_laysFrom_5 ++ dktX9_laysFrom_6
def dkwX9_laysFrom_4 : List UInt8 := [184, 1, 89, 154, 0, 4, 177, 42, 27, 4, 96, 28, 29, 4, 27, 120, 128, 21, 4, 42, 180, 0, 61, 3]
abbrev dktX9_laysFrom_4 : List UInt8 := dkwX9_laysFrom_4 ++ dktX9_laysFrom_5
def dkwX9_laysFrom_3 : List UInt8 := [42, 180, 0, 80, 21, 4, 29, 79, 177, 42, 27, 4, 96, 28, 29, 21, 4, 182, 1, 116, 28, 27]
abbrev dktX9_laysFrom_3 : List UInt8 := dkwX9_laysFrom_3 ++ dktX9_laysFrom_4
def dkwX9_laysFrom_2 : List UInt8 := [42, 180, 0, 80, 21, 4, 46, 184, 1, 4, 160, 0, 22, 29, 42, 180, 0, 80, 21, 4, 46, 162, 0, 11]
abbrev dktX9_laysFrom_2 : List UInt8 := dkwX9_laysFrom_2 ++ dktX9_laysFrom_3
def dkwX9_laysFrom_1 : List UInt8 := [159, 0, 48, 29, 184, 1, 4, 42, 180, 0, 80, 21, 4, 46, 184, 1, 4, 161, 0, 31, 29, 184, 1, 4]
abbrev dktX9_laysFrom_1 : List UInt8 := dkwX9_laysFrom_1 ++ dktX9_laysFrom_2
def dkwX9_laysFrom_0 : List UInt8 := [27, 42, 180, 0, 23, 3, 46, 160, 0, 73, 21, 4, 158, 0, 67, 42, 180, 0, 80, 21, 4, 46, 2]
abbrev dktX9_laysFrom_0 : List UInt8 := dkwX9_laysFrom_0 ++ dktX9_laysFrom_1
theorem dksX9_laysFrom_0 : cX9_laysFrom.data.toList.drop 0 = dktX9_laysFrom_0 := by decide +kernel
theorem dksX9_laysFrom_1 : cX9_laysFrom.data.toList.drop 23 = dktX9_laysFrom_1 := dk_seg dksX9_laysFrom_0 23 rfl rfl
theorem dksX9_laysFrom_2 : cX9_laysFrom.data.toList.drop 47 = dktX9_laysFrom_2 := dk_seg dksX9_laysFrom_1 24 rfl rfl
theorem dksX9_laysFrom_3 : cX9_laysFrom.data.toList.drop 71 = dktX9_laysFrom_3 := dk_seg dksX9_laysFrom_2 24 rfl rfl
theorem dksX9_laysFrom_4 : cX9_laysFrom.data.toList.drop 93 = dktX9_laysFrom_4 := dk_seg dksX9_laysFrom_3 22 rfl rfl
theorem dksX9_laysFrom_5 : cX9_laysFrom.data.toList.drop 117 = dktX9_laysFrom_5 := dk_seg dksX9_laysFrom_4 24 rfl rfl
theorem dksX9_laysFrom_6 : cX9_laysFrom.data.toList.drop 141 = dktX9_laysFrom_6 := dk_seg dksX9_laysFrom_5 24 rfl rfl
theorem dX9_laysFrom_0 : decode cX9_laysFrom 0 = .ok (.iload_n 1, 1) := dk_27 (dk_at dksX9_laysFrom_0 0 rfl rfl)
theorem dX9_laysFrom_1 : decode cX9_laysFrom 1 = .ok (.aload_n 0, 1) := dk_42 (dk_at dksX9_laysFrom_0 1 rfl rfl)
theorem dX9_laysFrom_2 : decode cX9_laysFrom 2 = .ok (.getfield 23, 3) := dk_180 0 23 (dk_at dksX9_laysFrom_0 2 rfl rfl)
theorem dX9_laysFrom_5 : decode cX9_laysFrom 5 = .ok (.iconst 0, 1) := dk_3 (dk_at dksX9_laysFrom_0 5 rfl rfl)
theorem dX9_laysFrom_6 : decode cX9_laysFrom 6 = .ok (.iaload, 1) := dk_46 (dk_at dksX9_laysFrom_0 6 rfl rfl)
theorem dX9_laysFrom_7 : decode cX9_laysFrom 7 = .ok (.if_icmp .ne 73, 3) := dk_160 0 73 (dk_at dksX9_laysFrom_0 7 rfl rfl)
theorem dX9_laysFrom_10 : decode cX9_laysFrom 10 = .ok (.iload 4, 2) := dk_21 4 (dk_at dksX9_laysFrom_0 10 rfl rfl)
theorem dX9_laysFrom_12 : decode cX9_laysFrom 12 = .ok (.ifCond .le 67, 3) := dk_158 0 67 (dk_at dksX9_laysFrom_0 12 rfl rfl)
theorem dX9_laysFrom_15 : decode cX9_laysFrom 15 = .ok (.aload_n 0, 1) := dk_42 (dk_at dksX9_laysFrom_0 15 rfl rfl)
theorem dX9_laysFrom_16 : decode cX9_laysFrom 16 = .ok (.getfield 80, 3) := dk_180 0 80 (dk_at dksX9_laysFrom_0 16 rfl rfl)
theorem dX9_laysFrom_19 : decode cX9_laysFrom 19 = .ok (.iload 4, 2) := dk_21 4 (dk_at dksX9_laysFrom_0 19 rfl rfl)
theorem dX9_laysFrom_21 : decode cX9_laysFrom 21 = .ok (.iaload, 1) := dk_46 (dk_at dksX9_laysFrom_0 21 rfl rfl)
theorem dX9_laysFrom_22 : decode cX9_laysFrom 22 = .ok (.iconst (-1), 1) := dk_2 (dk_at dksX9_laysFrom_0 22 rfl rfl)
theorem dX9_laysFrom_23 : decode cX9_laysFrom 23 = .ok (.if_icmp .eq 48, 3) := dk_159 0 48 (dk_at dksX9_laysFrom_1 0 rfl rfl)
theorem dX9_laysFrom_26 : decode cX9_laysFrom 26 = .ok (.iload_n 3, 1) := dk_29 (dk_at dksX9_laysFrom_1 3 rfl rfl)
theorem dX9_laysFrom_27 : decode cX9_laysFrom 27 = .ok (.invokestatic 260, 3) := dk_184 1 4 (dk_at dksX9_laysFrom_1 4 rfl rfl)
theorem dX9_laysFrom_30 : decode cX9_laysFrom 30 = .ok (.aload_n 0, 1) := dk_42 (dk_at dksX9_laysFrom_1 7 rfl rfl)
theorem dX9_laysFrom_31 : decode cX9_laysFrom 31 = .ok (.getfield 80, 3) := dk_180 0 80 (dk_at dksX9_laysFrom_1 8 rfl rfl)
theorem dX9_laysFrom_34 : decode cX9_laysFrom 34 = .ok (.iload 4, 2) := dk_21 4 (dk_at dksX9_laysFrom_1 11 rfl rfl)
theorem dX9_laysFrom_36 : decode cX9_laysFrom 36 = .ok (.iaload, 1) := dk_46 (dk_at dksX9_laysFrom_1 13 rfl rfl)
theorem dX9_laysFrom_37 : decode cX9_laysFrom 37 = .ok (.invokestatic 260, 3) := dk_184 1 4 (dk_at dksX9_laysFrom_1 14 rfl rfl)
theorem dX9_laysFrom_40 : decode cX9_laysFrom 40 = .ok (.if_icmp .lt 31, 3) := dk_161 0 31 (dk_at dksX9_laysFrom_1 17 rfl rfl)
theorem dX9_laysFrom_43 : decode cX9_laysFrom 43 = .ok (.iload_n 3, 1) := dk_29 (dk_at dksX9_laysFrom_1 20 rfl rfl)
theorem dX9_laysFrom_44 : decode cX9_laysFrom 44 = .ok (.invokestatic 260, 3) := dk_184 1 4 (dk_at dksX9_laysFrom_1 21 rfl rfl)
theorem dX9_laysFrom_47 : decode cX9_laysFrom 47 = .ok (.aload_n 0, 1) := dk_42 (dk_at dksX9_laysFrom_2 0 rfl rfl)
theorem dX9_laysFrom_48 : decode cX9_laysFrom 48 = .ok (.getfield 80, 3) := dk_180 0 80 (dk_at dksX9_laysFrom_2 1 rfl rfl)
theorem dX9_laysFrom_51 : decode cX9_laysFrom 51 = .ok (.iload 4, 2) := dk_21 4 (dk_at dksX9_laysFrom_2 4 rfl rfl)
theorem dX9_laysFrom_53 : decode cX9_laysFrom 53 = .ok (.iaload, 1) := dk_46 (dk_at dksX9_laysFrom_2 6 rfl rfl)
theorem dX9_laysFrom_54 : decode cX9_laysFrom 54 = .ok (.invokestatic 260, 3) := dk_184 1 4 (dk_at dksX9_laysFrom_2 7 rfl rfl)
theorem dX9_laysFrom_57 : decode cX9_laysFrom 57 = .ok (.if_icmp .ne 22, 3) := dk_160 0 22 (dk_at dksX9_laysFrom_2 10 rfl rfl)
theorem dX9_laysFrom_60 : decode cX9_laysFrom 60 = .ok (.iload_n 3, 1) := dk_29 (dk_at dksX9_laysFrom_2 13 rfl rfl)
theorem dX9_laysFrom_61 : decode cX9_laysFrom 61 = .ok (.aload_n 0, 1) := dk_42 (dk_at dksX9_laysFrom_2 14 rfl rfl)
theorem dX9_laysFrom_62 : decode cX9_laysFrom 62 = .ok (.getfield 80, 3) := dk_180 0 80 (dk_at dksX9_laysFrom_2 15 rfl rfl)
theorem dX9_laysFrom_65 : decode cX9_laysFrom 65 = .ok (.iload 4, 2) := dk_21 4 (dk_at dksX9_laysFrom_2 18 rfl rfl)
theorem dX9_laysFrom_67 : decode cX9_laysFrom 67 = .ok (.iaload, 1) := dk_46 (dk_at dksX9_laysFrom_2 20 rfl rfl)
theorem dX9_laysFrom_68 : decode cX9_laysFrom 68 = .ok (.if_icmp .ge 11, 3) := dk_162 0 11 (dk_at dksX9_laysFrom_2 21 rfl rfl)
theorem dX9_laysFrom_71 : decode cX9_laysFrom 71 = .ok (.aload_n 0, 1) := dk_42 (dk_at dksX9_laysFrom_3 0 rfl rfl)
theorem dX9_laysFrom_72 : decode cX9_laysFrom 72 = .ok (.getfield 80, 3) := dk_180 0 80 (dk_at dksX9_laysFrom_3 1 rfl rfl)
theorem dX9_laysFrom_75 : decode cX9_laysFrom 75 = .ok (.iload 4, 2) := dk_21 4 (dk_at dksX9_laysFrom_3 4 rfl rfl)
theorem dX9_laysFrom_77 : decode cX9_laysFrom 77 = .ok (.iload_n 3, 1) := dk_29 (dk_at dksX9_laysFrom_3 6 rfl rfl)
theorem dX9_laysFrom_78 : decode cX9_laysFrom 78 = .ok (.iastore, 1) := dk_79 (dk_at dksX9_laysFrom_3 7 rfl rfl)
theorem dX9_laysFrom_79 : decode cX9_laysFrom 79 = .ok (.return_, 1) := dk_177 (dk_at dksX9_laysFrom_3 8 rfl rfl)
theorem dX9_laysFrom_80 : decode cX9_laysFrom 80 = .ok (.aload_n 0, 1) := dk_42 (dk_at dksX9_laysFrom_3 9 rfl rfl)
theorem dX9_laysFrom_81 : decode cX9_laysFrom 81 = .ok (.iload_n 1, 1) := dk_27 (dk_at dksX9_laysFrom_3 10 rfl rfl)
theorem dX9_laysFrom_82 : decode cX9_laysFrom 82 = .ok (.iconst 1, 1) := dk_4 (dk_at dksX9_laysFrom_3 11 rfl rfl)
theorem dX9_laysFrom_83 : decode cX9_laysFrom 83 = .ok (.iadd, 1) := dk_96 (dk_at dksX9_laysFrom_3 12 rfl rfl)
theorem dX9_laysFrom_84 : decode cX9_laysFrom 84 = .ok (.iload_n 2, 1) := dk_28 (dk_at dksX9_laysFrom_3 13 rfl rfl)
theorem dX9_laysFrom_85 : decode cX9_laysFrom 85 = .ok (.iload_n 3, 1) := dk_29 (dk_at dksX9_laysFrom_3 14 rfl rfl)
theorem dX9_laysFrom_86 : decode cX9_laysFrom 86 = .ok (.iload 4, 2) := dk_21 4 (dk_at dksX9_laysFrom_3 15 rfl rfl)
theorem dX9_laysFrom_88 : decode cX9_laysFrom 88 = .ok (.invokevirtual 372, 3) := dk_182 1 116 (dk_at dksX9_laysFrom_3 17 rfl rfl)
theorem dX9_laysFrom_91 : decode cX9_laysFrom 91 = .ok (.iload_n 2, 1) := dk_28 (dk_at dksX9_laysFrom_3 20 rfl rfl)
theorem dX9_laysFrom_92 : decode cX9_laysFrom 92 = .ok (.iload_n 1, 1) := dk_27 (dk_at dksX9_laysFrom_3 21 rfl rfl)
theorem dX9_laysFrom_93 : decode cX9_laysFrom 93 = .ok (.invokestatic 345, 3) := dk_184 1 89 (dk_at dksX9_laysFrom_4 0 rfl rfl)
theorem dX9_laysFrom_96 : decode cX9_laysFrom 96 = .ok (.ifCond .ne 4, 3) := dk_154 0 4 (dk_at dksX9_laysFrom_4 3 rfl rfl)
theorem dX9_laysFrom_99 : decode cX9_laysFrom 99 = .ok (.return_, 1) := dk_177 (dk_at dksX9_laysFrom_4 6 rfl rfl)
theorem dX9_laysFrom_100 : decode cX9_laysFrom 100 = .ok (.aload_n 0, 1) := dk_42 (dk_at dksX9_laysFrom_4 7 rfl rfl)
theorem dX9_laysFrom_101 : decode cX9_laysFrom 101 = .ok (.iload_n 1, 1) := dk_27 (dk_at dksX9_laysFrom_4 8 rfl rfl)
theorem dX9_laysFrom_102 : decode cX9_laysFrom 102 = .ok (.iconst 1, 1) := dk_4 (dk_at dksX9_laysFrom_4 9 rfl rfl)
theorem dX9_laysFrom_103 : decode cX9_laysFrom 103 = .ok (.iadd, 1) := dk_96 (dk_at dksX9_laysFrom_4 10 rfl rfl)
theorem dX9_laysFrom_104 : decode cX9_laysFrom 104 = .ok (.iload_n 2, 1) := dk_28 (dk_at dksX9_laysFrom_4 11 rfl rfl)
theorem dX9_laysFrom_105 : decode cX9_laysFrom 105 = .ok (.iload_n 3, 1) := dk_29 (dk_at dksX9_laysFrom_4 12 rfl rfl)
theorem dX9_laysFrom_106 : decode cX9_laysFrom 106 = .ok (.iconst 1, 1) := dk_4 (dk_at dksX9_laysFrom_4 13 rfl rfl)
theorem dX9_laysFrom_107 : decode cX9_laysFrom 107 = .ok (.iload_n 1, 1) := dk_27 (dk_at dksX9_laysFrom_4 14 rfl rfl)
theorem dX9_laysFrom_108 : decode cX9_laysFrom 108 = .ok (.ishl, 1) := dk_120 (dk_at dksX9_laysFrom_4 15 rfl rfl)
theorem dX9_laysFrom_109 : decode cX9_laysFrom 109 = .ok (.ior, 1) := dk_128 (dk_at dksX9_laysFrom_4 16 rfl rfl)
theorem dX9_laysFrom_110 : decode cX9_laysFrom 110 = .ok (.iload 4, 2) := dk_21 4 (dk_at dksX9_laysFrom_4 17 rfl rfl)
theorem dX9_laysFrom_112 : decode cX9_laysFrom 112 = .ok (.aload_n 0, 1) := dk_42 (dk_at dksX9_laysFrom_4 19 rfl rfl)
theorem dX9_laysFrom_113 : decode cX9_laysFrom 113 = .ok (.getfield 61, 3) := dk_180 0 61 (dk_at dksX9_laysFrom_4 20 rfl rfl)
theorem dX9_laysFrom_116 : decode cX9_laysFrom 116 = .ok (.iconst 0, 1) := dk_3 (dk_at dksX9_laysFrom_4 23 rfl rfl)
theorem dX9_laysFrom_117 : decode cX9_laysFrom 117 = .ok (.iload_n 1, 1) := dk_27 (dk_at dksX9_laysFrom_5 0 rfl rfl)
theorem dX9_laysFrom_118 : decode cX9_laysFrom 118 = .ok (.iadd, 1) := dk_96 (dk_at dksX9_laysFrom_5 1 rfl rfl)
theorem dX9_laysFrom_119 : decode cX9_laysFrom 119 = .ok (.iaload, 1) := dk_46 (dk_at dksX9_laysFrom_5 2 rfl rfl)
theorem dX9_laysFrom_120 : decode cX9_laysFrom 120 = .ok (.iadd, 1) := dk_96 (dk_at dksX9_laysFrom_5 3 rfl rfl)
theorem dX9_laysFrom_121 : decode cX9_laysFrom 121 = .ok (.invokevirtual 372, 3) := dk_182 1 116 (dk_at dksX9_laysFrom_5 4 rfl rfl)
theorem dX9_laysFrom_124 : decode cX9_laysFrom 124 = .ok (.aload_n 0, 1) := dk_42 (dk_at dksX9_laysFrom_5 7 rfl rfl)
theorem dX9_laysFrom_125 : decode cX9_laysFrom 125 = .ok (.iload_n 1, 1) := dk_27 (dk_at dksX9_laysFrom_5 8 rfl rfl)
theorem dX9_laysFrom_126 : decode cX9_laysFrom 126 = .ok (.iconst 1, 1) := dk_4 (dk_at dksX9_laysFrom_5 9 rfl rfl)
theorem dX9_laysFrom_127 : decode cX9_laysFrom 127 = .ok (.iadd, 1) := dk_96 (dk_at dksX9_laysFrom_5 10 rfl rfl)
theorem dX9_laysFrom_128 : decode cX9_laysFrom 128 = .ok (.iload_n 2, 1) := dk_28 (dk_at dksX9_laysFrom_5 11 rfl rfl)
theorem dX9_laysFrom_129 : decode cX9_laysFrom 129 = .ok (.iload_n 3, 1) := dk_29 (dk_at dksX9_laysFrom_5 12 rfl rfl)
theorem dX9_laysFrom_130 : decode cX9_laysFrom 130 = .ok (.iconst 1, 1) := dk_4 (dk_at dksX9_laysFrom_5 13 rfl rfl)
theorem dX9_laysFrom_131 : decode cX9_laysFrom 131 = .ok (.iload_n 1, 1) := dk_27 (dk_at dksX9_laysFrom_5 14 rfl rfl)
theorem dX9_laysFrom_132 : decode cX9_laysFrom 132 = .ok (.ishl, 1) := dk_120 (dk_at dksX9_laysFrom_5 15 rfl rfl)
theorem dX9_laysFrom_133 : decode cX9_laysFrom 133 = .ok (.ior, 1) := dk_128 (dk_at dksX9_laysFrom_5 16 rfl rfl)
theorem dX9_laysFrom_134 : decode cX9_laysFrom 134 = .ok (.iload 4, 2) := dk_21 4 (dk_at dksX9_laysFrom_5 17 rfl rfl)
theorem dX9_laysFrom_136 : decode cX9_laysFrom 136 = .ok (.aload_n 0, 1) := dk_42 (dk_at dksX9_laysFrom_5 19 rfl rfl)
theorem dX9_laysFrom_137 : decode cX9_laysFrom 137 = .ok (.getfield 61, 3) := dk_180 0 61 (dk_at dksX9_laysFrom_5 20 rfl rfl)
theorem dX9_laysFrom_140 : decode cX9_laysFrom 140 = .ok (.iconst 0, 1) := dk_3 (dk_at dksX9_laysFrom_5 23 rfl rfl)
theorem dX9_laysFrom_141 : decode cX9_laysFrom 141 = .ok (.iload_n 1, 1) := dk_27 (dk_at dksX9_laysFrom_6 0 rfl rfl)
theorem dX9_laysFrom_142 : decode cX9_laysFrom 142 = .ok (.iadd, 1) := dk_96 (dk_at dksX9_laysFrom_6 1 rfl rfl)
theorem dX9_laysFrom_143 : decode cX9_laysFrom 143 = .ok (.iaload, 1) := dk_46 (dk_at dksX9_laysFrom_6 2 rfl rfl)
theorem dX9_laysFrom_144 : decode cX9_laysFrom 144 = .ok (.isub, 1) := dk_100 (dk_at dksX9_laysFrom_6 3 rfl rfl)
theorem dX9_laysFrom_145 : decode cX9_laysFrom 145 = .ok (.invokevirtual 372, 3) := dk_182 1 116 (dk_at dksX9_laysFrom_6 4 rfl rfl)
theorem dX9_laysFrom_148 : decode cX9_laysFrom 148 = .ok (.return_, 1) := dk_177 (dk_at dksX9_laysFrom_6 7 rfl rfl)
def dkwX9_fewest_1 : List UInt8 := [182, 0, 171, 153, 0, 5, 3, 172, 42, 42, 182, 1, 120, 182, 1, 126, 42, 180, 0, 80, 27, 46, 172]
abbrev dktX9_fewest_1 : List UInt8 := dkwX9_fewest_1 ++ []
def dkwX9_fewest_0 : List UInt8 := [42, 3, 181, 0, 92, 42, 27, 4, 17, 1, 224, 184, 0, 126, 154, 0, 7, 4, 167, 0, 4, 3, 4, 4]
abbrev dktX9_fewest_0 : List UInt8 := dkwX9_fewest_0 ++ dktX9_fewest_1
theorem dksX9_fewest_0 : cX9_fewest.data.toList.drop 0 = dktX9_fewest_0 := by decide +kernel
theorem dksX9_fewest_1 : cX9_fewest.data.toList.drop 24 = dktX9_fewest_1 := dk_seg dksX9_fewest_0 24 rfl rfl
theorem dX9_fewest_0 : decode cX9_fewest 0 = .ok (.aload_n 0, 1) := dk_42 (dk_at dksX9_fewest_0 0 rfl rfl)
theorem dX9_fewest_1 : decode cX9_fewest 1 = .ok (.iconst 0, 1) := dk_3 (dk_at dksX9_fewest_0 1 rfl rfl)
theorem dX9_fewest_2 : decode cX9_fewest 2 = .ok (.putfield 92, 3) := dk_181 0 92 (dk_at dksX9_fewest_0 2 rfl rfl)
theorem dX9_fewest_5 : decode cX9_fewest 5 = .ok (.aload_n 0, 1) := dk_42 (dk_at dksX9_fewest_0 5 rfl rfl)
theorem dX9_fewest_6 : decode cX9_fewest 6 = .ok (.iload_n 1, 1) := dk_27 (dk_at dksX9_fewest_0 6 rfl rfl)
theorem dX9_fewest_7 : decode cX9_fewest 7 = .ok (.iconst 1, 1) := dk_4 (dk_at dksX9_fewest_0 7 rfl rfl)
theorem dX9_fewest_8 : decode cX9_fewest 8 = .ok (.sipush 480, 3) := dk_17 1 224 (dk_at dksX9_fewest_0 8 rfl rfl)
theorem dX9_fewest_11 : decode cX9_fewest 11 = .ok (.invokestatic 126, 3) := dk_184 0 126 (dk_at dksX9_fewest_0 11 rfl rfl)
theorem dX9_fewest_14 : decode cX9_fewest 14 = .ok (.ifCond .ne 7, 3) := dk_154 0 7 (dk_at dksX9_fewest_0 14 rfl rfl)
theorem dX9_fewest_17 : decode cX9_fewest 17 = .ok (.iconst 1, 1) := dk_4 (dk_at dksX9_fewest_0 17 rfl rfl)
theorem dX9_fewest_18 : decode cX9_fewest 18 = .ok (.goto 4, 3) := dk_167 0 4 (dk_at dksX9_fewest_0 18 rfl rfl)
theorem dX9_fewest_21 : decode cX9_fewest 21 = .ok (.iconst 0, 1) := dk_3 (dk_at dksX9_fewest_0 21 rfl rfl)
theorem dX9_fewest_22 : decode cX9_fewest 22 = .ok (.iconst 1, 1) := dk_4 (dk_at dksX9_fewest_0 22 rfl rfl)
theorem dX9_fewest_23 : decode cX9_fewest 23 = .ok (.iconst 1, 1) := dk_4 (dk_at dksX9_fewest_0 23 rfl rfl)
theorem dX9_fewest_24 : decode cX9_fewest 24 = .ok (.invokevirtual 171, 3) := dk_182 0 171 (dk_at dksX9_fewest_1 0 rfl rfl)
theorem dX9_fewest_27 : decode cX9_fewest 27 = .ok (.ifCond .eq 5, 3) := dk_153 0 5 (dk_at dksX9_fewest_1 3 rfl rfl)
theorem dX9_fewest_30 : decode cX9_fewest 30 = .ok (.iconst 0, 1) := dk_3 (dk_at dksX9_fewest_1 6 rfl rfl)
theorem dX9_fewest_31 : decode cX9_fewest 31 = .ok (.ireturn, 1) := dk_172 (dk_at dksX9_fewest_1 7 rfl rfl)
theorem dX9_fewest_32 : decode cX9_fewest 32 = .ok (.aload_n 0, 1) := dk_42 (dk_at dksX9_fewest_1 8 rfl rfl)
theorem dX9_fewest_33 : decode cX9_fewest 33 = .ok (.aload_n 0, 1) := dk_42 (dk_at dksX9_fewest_1 9 rfl rfl)
theorem dX9_fewest_34 : decode cX9_fewest 34 = .ok (.invokevirtual 376, 3) := dk_182 1 120 (dk_at dksX9_fewest_1 10 rfl rfl)
theorem dX9_fewest_37 : decode cX9_fewest 37 = .ok (.invokevirtual 382, 3) := dk_182 1 126 (dk_at dksX9_fewest_1 13 rfl rfl)
theorem dX9_fewest_40 : decode cX9_fewest 40 = .ok (.aload_n 0, 1) := dk_42 (dk_at dksX9_fewest_1 16 rfl rfl)
theorem dX9_fewest_41 : decode cX9_fewest 41 = .ok (.getfield 80, 3) := dk_180 0 80 (dk_at dksX9_fewest_1 17 rfl rfl)
theorem dX9_fewest_44 : decode cX9_fewest 44 = .ok (.iload_n 1, 1) := dk_27 (dk_at dksX9_fewest_1 20 rfl rfl)
theorem dX9_fewest_45 : decode cX9_fewest 45 = .ok (.iaload, 1) := dk_46 (dk_at dksX9_fewest_1 21 rfl rfl)
theorem dX9_fewest_46 : decode cX9_fewest 46 = .ok (.ireturn, 1) := dk_172 (dk_at dksX9_fewest_1 22 rfl rfl)
def dkwX9_level_6 : List UInt8 := [167, 255, 169, 28, 4, 160, 0, 7, 29, 167, 0, 9, 3, 21, 4, 184, 0, 238, 172]
abbrev dktX9_level_6 : List UInt8 := dkwX9_level_6 ++ []
def dkwX9_level_5 : List UInt8 := [159, 0, 13, 21, 9, 21, 4, 161, 0, 6, 167, 0, 10, 21, 6, 62, 21, 9, 54, 4, 132, 6, 1]
abbrev dktX9_level_5 : List UInt8 := dkwX9_level_5 ++ dktX9_level_6
def dkwX9_level_4 : List UInt8 := [182, 1, 129, 54, 8, 21, 7, 21, 8, 100, 21, 8, 21, 7, 100, 184, 0, 238, 54, 9, 21, 4, 2]
abbrev dktX9_level_4 : List UInt8 := dkwX9_level_4 ++ dktX9_level_5
def dkwX9_level_3 : List UInt8 := [126, 154, 0, 6, 167, 0, 61, 42, 21, 6, 182, 1, 129, 54, 7, 42, 27, 21, 6, 2, 130, 126]
abbrev dktX9_level_3 : List UInt8 := dkwX9_level_3 ++ dktX9_level_4
def dkwX9_level_2 : List UInt8 := [54, 5, 4, 54, 6, 21, 6, 27, 163, 0, 87, 21, 6, 27, 2, 130, 126, 154, 0, 72, 21, 6, 21, 5]
abbrev dktX9_level_2 : List UInt8 := dkwX9_level_2 ++ dktX9_level_3
def dkwX9_level_1 : List UInt8 := [167, 0, 4, 3, 4, 4, 182, 0, 171, 153, 0, 5, 3, 172, 3, 62, 2, 54, 4, 27, 27, 116, 126]
abbrev dktX9_level_1 : List UInt8 := dkwX9_level_1 ++ dktX9_level_2
def dkwX9_level_0 : List UInt8 := [42, 3, 181, 0, 92, 42, 42, 27, 182, 1, 123, 153, 0, 12, 28, 3, 4, 184, 0, 126, 154, 0, 7, 4]
abbrev dktX9_level_0 : List UInt8 := dkwX9_level_0 ++ dktX9_level_1
theorem dksX9_level_0 : cX9_level.data.toList.drop 0 = dktX9_level_0 := by decide +kernel
theorem dksX9_level_1 : cX9_level.data.toList.drop 24 = dktX9_level_1 := dk_seg dksX9_level_0 24 rfl rfl
theorem dksX9_level_2 : cX9_level.data.toList.drop 47 = dktX9_level_2 := dk_seg dksX9_level_1 23 rfl rfl
theorem dksX9_level_3 : cX9_level.data.toList.drop 71 = dktX9_level_3 := dk_seg dksX9_level_2 24 rfl rfl
theorem dksX9_level_4 : cX9_level.data.toList.drop 93 = dktX9_level_4 := dk_seg dksX9_level_3 22 rfl rfl
theorem dksX9_level_5 : cX9_level.data.toList.drop 116 = dktX9_level_5 := dk_seg dksX9_level_4 23 rfl rfl
theorem dksX9_level_6 : cX9_level.data.toList.drop 139 = dktX9_level_6 := dk_seg dksX9_level_5 23 rfl rfl
theorem dX9_level_0 : decode cX9_level 0 = .ok (.aload_n 0, 1) := dk_42 (dk_at dksX9_level_0 0 rfl rfl)
theorem dX9_level_1 : decode cX9_level 1 = .ok (.iconst 0, 1) := dk_3 (dk_at dksX9_level_0 1 rfl rfl)
theorem dX9_level_2 : decode cX9_level 2 = .ok (.putfield 92, 3) := dk_181 0 92 (dk_at dksX9_level_0 2 rfl rfl)
theorem dX9_level_5 : decode cX9_level 5 = .ok (.aload_n 0, 1) := dk_42 (dk_at dksX9_level_0 5 rfl rfl)
theorem dX9_level_6 : decode cX9_level 6 = .ok (.aload_n 0, 1) := dk_42 (dk_at dksX9_level_0 6 rfl rfl)
theorem dX9_level_7 : decode cX9_level 7 = .ok (.iload_n 1, 1) := dk_27 (dk_at dksX9_level_0 7 rfl rfl)
theorem dX9_level_8 : decode cX9_level 8 = .ok (.invokevirtual 379, 3) := dk_182 1 123 (dk_at dksX9_level_0 8 rfl rfl)
theorem dX9_level_11 : decode cX9_level 11 = .ok (.ifCond .eq 12, 3) := dk_153 0 12 (dk_at dksX9_level_0 11 rfl rfl)
theorem dX9_level_14 : decode cX9_level 14 = .ok (.iload_n 2, 1) := dk_28 (dk_at dksX9_level_0 14 rfl rfl)
theorem dX9_level_15 : decode cX9_level 15 = .ok (.iconst 0, 1) := dk_3 (dk_at dksX9_level_0 15 rfl rfl)
theorem dX9_level_16 : decode cX9_level 16 = .ok (.iconst 1, 1) := dk_4 (dk_at dksX9_level_0 16 rfl rfl)
theorem dX9_level_17 : decode cX9_level 17 = .ok (.invokestatic 126, 3) := dk_184 0 126 (dk_at dksX9_level_0 17 rfl rfl)
theorem dX9_level_20 : decode cX9_level 20 = .ok (.ifCond .ne 7, 3) := dk_154 0 7 (dk_at dksX9_level_0 20 rfl rfl)
theorem dX9_level_23 : decode cX9_level 23 = .ok (.iconst 1, 1) := dk_4 (dk_at dksX9_level_0 23 rfl rfl)
theorem dX9_level_24 : decode cX9_level 24 = .ok (.goto 4, 3) := dk_167 0 4 (dk_at dksX9_level_1 0 rfl rfl)
theorem dX9_level_27 : decode cX9_level 27 = .ok (.iconst 0, 1) := dk_3 (dk_at dksX9_level_1 3 rfl rfl)
theorem dX9_level_28 : decode cX9_level 28 = .ok (.iconst 1, 1) := dk_4 (dk_at dksX9_level_1 4 rfl rfl)
theorem dX9_level_29 : decode cX9_level 29 = .ok (.iconst 1, 1) := dk_4 (dk_at dksX9_level_1 5 rfl rfl)
theorem dX9_level_30 : decode cX9_level 30 = .ok (.invokevirtual 171, 3) := dk_182 0 171 (dk_at dksX9_level_1 6 rfl rfl)
theorem dX9_level_33 : decode cX9_level 33 = .ok (.ifCond .eq 5, 3) := dk_153 0 5 (dk_at dksX9_level_1 9 rfl rfl)
theorem dX9_level_36 : decode cX9_level 36 = .ok (.iconst 0, 1) := dk_3 (dk_at dksX9_level_1 12 rfl rfl)
theorem dX9_level_37 : decode cX9_level 37 = .ok (.ireturn, 1) := dk_172 (dk_at dksX9_level_1 13 rfl rfl)
theorem dX9_level_38 : decode cX9_level 38 = .ok (.iconst 0, 1) := dk_3 (dk_at dksX9_level_1 14 rfl rfl)
theorem dX9_level_39 : decode cX9_level 39 = .ok (.istore_n 3, 1) := dk_62 (dk_at dksX9_level_1 15 rfl rfl)
theorem dX9_level_40 : decode cX9_level 40 = .ok (.iconst (-1), 1) := dk_2 (dk_at dksX9_level_1 16 rfl rfl)
theorem dX9_level_41 : decode cX9_level 41 = .ok (.istore 4, 2) := dk_54 4 (dk_at dksX9_level_1 17 rfl rfl)
theorem dX9_level_43 : decode cX9_level 43 = .ok (.iload_n 1, 1) := dk_27 (dk_at dksX9_level_1 19 rfl rfl)
theorem dX9_level_44 : decode cX9_level 44 = .ok (.iload_n 1, 1) := dk_27 (dk_at dksX9_level_1 20 rfl rfl)
theorem dX9_level_45 : decode cX9_level 45 = .ok (.ineg, 1) := dk_116 (dk_at dksX9_level_1 21 rfl rfl)
theorem dX9_level_46 : decode cX9_level 46 = .ok (.iand, 1) := dk_126 (dk_at dksX9_level_1 22 rfl rfl)
theorem dX9_level_47 : decode cX9_level 47 = .ok (.istore 5, 2) := dk_54 5 (dk_at dksX9_level_2 0 rfl rfl)
theorem dX9_level_49 : decode cX9_level 49 = .ok (.iconst 1, 1) := dk_4 (dk_at dksX9_level_2 2 rfl rfl)
theorem dX9_level_50 : decode cX9_level 50 = .ok (.istore 6, 2) := dk_54 6 (dk_at dksX9_level_2 3 rfl rfl)
theorem dX9_level_52 : decode cX9_level 52 = .ok (.iload 6, 2) := dk_21 6 (dk_at dksX9_level_2 5 rfl rfl)
theorem dX9_level_54 : decode cX9_level 54 = .ok (.iload_n 1, 1) := dk_27 (dk_at dksX9_level_2 7 rfl rfl)
theorem dX9_level_55 : decode cX9_level 55 = .ok (.if_icmp .gt 87, 3) := dk_163 0 87 (dk_at dksX9_level_2 8 rfl rfl)
theorem dX9_level_58 : decode cX9_level 58 = .ok (.iload 6, 2) := dk_21 6 (dk_at dksX9_level_2 11 rfl rfl)
theorem dX9_level_60 : decode cX9_level 60 = .ok (.iload_n 1, 1) := dk_27 (dk_at dksX9_level_2 13 rfl rfl)
theorem dX9_level_61 : decode cX9_level 61 = .ok (.iconst (-1), 1) := dk_2 (dk_at dksX9_level_2 14 rfl rfl)
theorem dX9_level_62 : decode cX9_level 62 = .ok (.ixor, 1) := dk_130 (dk_at dksX9_level_2 15 rfl rfl)
theorem dX9_level_63 : decode cX9_level 63 = .ok (.iand, 1) := dk_126 (dk_at dksX9_level_2 16 rfl rfl)
theorem dX9_level_64 : decode cX9_level 64 = .ok (.ifCond .ne 72, 3) := dk_154 0 72 (dk_at dksX9_level_2 17 rfl rfl)
theorem dX9_level_67 : decode cX9_level 67 = .ok (.iload 6, 2) := dk_21 6 (dk_at dksX9_level_2 20 rfl rfl)
theorem dX9_level_69 : decode cX9_level 69 = .ok (.iload 5, 2) := dk_21 5 (dk_at dksX9_level_2 22 rfl rfl)
theorem dX9_level_71 : decode cX9_level 71 = .ok (.iand, 1) := dk_126 (dk_at dksX9_level_3 0 rfl rfl)
theorem dX9_level_72 : decode cX9_level 72 = .ok (.ifCond .ne 6, 3) := dk_154 0 6 (dk_at dksX9_level_3 1 rfl rfl)
theorem dX9_level_75 : decode cX9_level 75 = .ok (.goto 61, 3) := dk_167 0 61 (dk_at dksX9_level_3 4 rfl rfl)
theorem dX9_level_78 : decode cX9_level 78 = .ok (.aload_n 0, 1) := dk_42 (dk_at dksX9_level_3 7 rfl rfl)
theorem dX9_level_79 : decode cX9_level 79 = .ok (.iload 6, 2) := dk_21 6 (dk_at dksX9_level_3 8 rfl rfl)
theorem dX9_level_81 : decode cX9_level 81 = .ok (.invokevirtual 385, 3) := dk_182 1 129 (dk_at dksX9_level_3 10 rfl rfl)
theorem dX9_level_84 : decode cX9_level 84 = .ok (.istore 7, 2) := dk_54 7 (dk_at dksX9_level_3 13 rfl rfl)
theorem dX9_level_86 : decode cX9_level 86 = .ok (.aload_n 0, 1) := dk_42 (dk_at dksX9_level_3 15 rfl rfl)
theorem dX9_level_87 : decode cX9_level 87 = .ok (.iload_n 1, 1) := dk_27 (dk_at dksX9_level_3 16 rfl rfl)
theorem dX9_level_88 : decode cX9_level 88 = .ok (.iload 6, 2) := dk_21 6 (dk_at dksX9_level_3 17 rfl rfl)
theorem dX9_level_90 : decode cX9_level 90 = .ok (.iconst (-1), 1) := dk_2 (dk_at dksX9_level_3 19 rfl rfl)
theorem dX9_level_91 : decode cX9_level 91 = .ok (.ixor, 1) := dk_130 (dk_at dksX9_level_3 20 rfl rfl)
theorem dX9_level_92 : decode cX9_level 92 = .ok (.iand, 1) := dk_126 (dk_at dksX9_level_3 21 rfl rfl)
theorem dX9_level_93 : decode cX9_level 93 = .ok (.invokevirtual 385, 3) := dk_182 1 129 (dk_at dksX9_level_4 0 rfl rfl)
theorem dX9_level_96 : decode cX9_level 96 = .ok (.istore 8, 2) := dk_54 8 (dk_at dksX9_level_4 3 rfl rfl)
theorem dX9_level_98 : decode cX9_level 98 = .ok (.iload 7, 2) := dk_21 7 (dk_at dksX9_level_4 5 rfl rfl)
theorem dX9_level_100 : decode cX9_level 100 = .ok (.iload 8, 2) := dk_21 8 (dk_at dksX9_level_4 7 rfl rfl)
theorem dX9_level_102 : decode cX9_level 102 = .ok (.isub, 1) := dk_100 (dk_at dksX9_level_4 9 rfl rfl)
theorem dX9_level_103 : decode cX9_level 103 = .ok (.iload 8, 2) := dk_21 8 (dk_at dksX9_level_4 10 rfl rfl)
theorem dX9_level_105 : decode cX9_level 105 = .ok (.iload 7, 2) := dk_21 7 (dk_at dksX9_level_4 12 rfl rfl)
theorem dX9_level_107 : decode cX9_level 107 = .ok (.isub, 1) := dk_100 (dk_at dksX9_level_4 14 rfl rfl)
theorem dX9_level_108 : decode cX9_level 108 = .ok (.invokestatic 238, 3) := dk_184 0 238 (dk_at dksX9_level_4 15 rfl rfl)
theorem dX9_level_111 : decode cX9_level 111 = .ok (.istore 9, 2) := dk_54 9 (dk_at dksX9_level_4 18 rfl rfl)
theorem dX9_level_113 : decode cX9_level 113 = .ok (.iload 4, 2) := dk_21 4 (dk_at dksX9_level_4 20 rfl rfl)
theorem dX9_level_115 : decode cX9_level 115 = .ok (.iconst (-1), 1) := dk_2 (dk_at dksX9_level_4 22 rfl rfl)
theorem dX9_level_116 : decode cX9_level 116 = .ok (.if_icmp .eq 13, 3) := dk_159 0 13 (dk_at dksX9_level_5 0 rfl rfl)
theorem dX9_level_119 : decode cX9_level 119 = .ok (.iload 9, 2) := dk_21 9 (dk_at dksX9_level_5 3 rfl rfl)
theorem dX9_level_121 : decode cX9_level 121 = .ok (.iload 4, 2) := dk_21 4 (dk_at dksX9_level_5 5 rfl rfl)
theorem dX9_level_123 : decode cX9_level 123 = .ok (.if_icmp .lt 6, 3) := dk_161 0 6 (dk_at dksX9_level_5 7 rfl rfl)
theorem dX9_level_126 : decode cX9_level 126 = .ok (.goto 10, 3) := dk_167 0 10 (dk_at dksX9_level_5 10 rfl rfl)
theorem dX9_level_129 : decode cX9_level 129 = .ok (.iload 6, 2) := dk_21 6 (dk_at dksX9_level_5 13 rfl rfl)
theorem dX9_level_131 : decode cX9_level 131 = .ok (.istore_n 3, 1) := dk_62 (dk_at dksX9_level_5 15 rfl rfl)
theorem dX9_level_132 : decode cX9_level 132 = .ok (.iload 9, 2) := dk_21 9 (dk_at dksX9_level_5 16 rfl rfl)
theorem dX9_level_134 : decode cX9_level 134 = .ok (.istore 4, 2) := dk_54 4 (dk_at dksX9_level_5 18 rfl rfl)
theorem dX9_level_136 : decode cX9_level 136 = .ok (.iinc 6 1, 3) := dk_132 6 1 (dk_at dksX9_level_5 20 rfl rfl)
theorem dX9_level_139 : decode cX9_level 139 = .ok (.goto (-87), 3) := dk_167 255 169 (dk_at dksX9_level_6 0 rfl rfl)
theorem dX9_level_142 : decode cX9_level 142 = .ok (.iload_n 2, 1) := dk_28 (dk_at dksX9_level_6 3 rfl rfl)
theorem dX9_level_143 : decode cX9_level 143 = .ok (.iconst 1, 1) := dk_4 (dk_at dksX9_level_6 4 rfl rfl)
theorem dX9_level_144 : decode cX9_level 144 = .ok (.if_icmp .ne 7, 3) := dk_160 0 7 (dk_at dksX9_level_6 5 rfl rfl)
theorem dX9_level_147 : decode cX9_level 147 = .ok (.iload_n 3, 1) := dk_29 (dk_at dksX9_level_6 8 rfl rfl)
theorem dX9_level_148 : decode cX9_level 148 = .ok (.goto 9, 3) := dk_167 0 9 (dk_at dksX9_level_6 9 rfl rfl)
theorem dX9_level_151 : decode cX9_level 151 = .ok (.iconst 0, 1) := dk_3 (dk_at dksX9_level_6 12 rfl rfl)
theorem dX9_level_152 : decode cX9_level 152 = .ok (.iload 4, 2) := dk_21 4 (dk_at dksX9_level_6 13 rfl rfl)
theorem dX9_level_154 : decode cX9_level 154 = .ok (.invokestatic 238, 3) := dk_184 0 238 (dk_at dksX9_level_6 15 rfl rfl)
theorem dX9_level_157 : decode cX9_level 157 = .ok (.ireturn, 1) := dk_172 (dk_at dksX9_level_6 18 rfl rfl)
def dkwX9_heavy_1 : List UInt8 := [180, 0, 61, 3, 29, 96, 46, 167, 0, 4, 3, 96, 61, 132, 3, 1, 167, 255, 220, 28, 172]
abbrev dktX9_heavy_1 : List UInt8 := dkwX9_heavy_1 ++ []
def dkwX9_heavy_0 : List UInt8 := [3, 61, 3, 62, 29, 42, 180, 0, 23, 3, 46, 162, 0, 32, 28, 27, 29, 184, 1, 89, 153, 0, 14, 42]
abbrev dktX9_heavy_0 : List UInt8 := dkwX9_heavy_0 ++ dktX9_heavy_1
theorem dksX9_heavy_0 : cX9_heavy.data.toList.drop 0 = dktX9_heavy_0 := by decide +kernel
theorem dksX9_heavy_1 : cX9_heavy.data.toList.drop 24 = dktX9_heavy_1 := dk_seg dksX9_heavy_0 24 rfl rfl
theorem dX9_heavy_0 : decode cX9_heavy 0 = .ok (.iconst 0, 1) := dk_3 (dk_at dksX9_heavy_0 0 rfl rfl)
theorem dX9_heavy_1 : decode cX9_heavy 1 = .ok (.istore_n 2, 1) := dk_61 (dk_at dksX9_heavy_0 1 rfl rfl)
theorem dX9_heavy_2 : decode cX9_heavy 2 = .ok (.iconst 0, 1) := dk_3 (dk_at dksX9_heavy_0 2 rfl rfl)
theorem dX9_heavy_3 : decode cX9_heavy 3 = .ok (.istore_n 3, 1) := dk_62 (dk_at dksX9_heavy_0 3 rfl rfl)
theorem dX9_heavy_4 : decode cX9_heavy 4 = .ok (.iload_n 3, 1) := dk_29 (dk_at dksX9_heavy_0 4 rfl rfl)
theorem dX9_heavy_5 : decode cX9_heavy 5 = .ok (.aload_n 0, 1) := dk_42 (dk_at dksX9_heavy_0 5 rfl rfl)
theorem dX9_heavy_6 : decode cX9_heavy 6 = .ok (.getfield 23, 3) := dk_180 0 23 (dk_at dksX9_heavy_0 6 rfl rfl)
theorem dX9_heavy_9 : decode cX9_heavy 9 = .ok (.iconst 0, 1) := dk_3 (dk_at dksX9_heavy_0 9 rfl rfl)
theorem dX9_heavy_10 : decode cX9_heavy 10 = .ok (.iaload, 1) := dk_46 (dk_at dksX9_heavy_0 10 rfl rfl)
theorem dX9_heavy_11 : decode cX9_heavy 11 = .ok (.if_icmp .ge 32, 3) := dk_162 0 32 (dk_at dksX9_heavy_0 11 rfl rfl)
theorem dX9_heavy_14 : decode cX9_heavy 14 = .ok (.iload_n 2, 1) := dk_28 (dk_at dksX9_heavy_0 14 rfl rfl)
theorem dX9_heavy_15 : decode cX9_heavy 15 = .ok (.iload_n 1, 1) := dk_27 (dk_at dksX9_heavy_0 15 rfl rfl)
theorem dX9_heavy_16 : decode cX9_heavy 16 = .ok (.iload_n 3, 1) := dk_29 (dk_at dksX9_heavy_0 16 rfl rfl)
theorem dX9_heavy_17 : decode cX9_heavy 17 = .ok (.invokestatic 345, 3) := dk_184 1 89 (dk_at dksX9_heavy_0 17 rfl rfl)
theorem dX9_heavy_20 : decode cX9_heavy 20 = .ok (.ifCond .eq 14, 3) := dk_153 0 14 (dk_at dksX9_heavy_0 20 rfl rfl)
theorem dX9_heavy_23 : decode cX9_heavy 23 = .ok (.aload_n 0, 1) := dk_42 (dk_at dksX9_heavy_0 23 rfl rfl)
theorem dX9_heavy_24 : decode cX9_heavy 24 = .ok (.getfield 61, 3) := dk_180 0 61 (dk_at dksX9_heavy_1 0 rfl rfl)
theorem dX9_heavy_27 : decode cX9_heavy 27 = .ok (.iconst 0, 1) := dk_3 (dk_at dksX9_heavy_1 3 rfl rfl)
theorem dX9_heavy_28 : decode cX9_heavy 28 = .ok (.iload_n 3, 1) := dk_29 (dk_at dksX9_heavy_1 4 rfl rfl)
theorem dX9_heavy_29 : decode cX9_heavy 29 = .ok (.iadd, 1) := dk_96 (dk_at dksX9_heavy_1 5 rfl rfl)
theorem dX9_heavy_30 : decode cX9_heavy 30 = .ok (.iaload, 1) := dk_46 (dk_at dksX9_heavy_1 6 rfl rfl)
theorem dX9_heavy_31 : decode cX9_heavy 31 = .ok (.goto 4, 3) := dk_167 0 4 (dk_at dksX9_heavy_1 7 rfl rfl)
theorem dX9_heavy_34 : decode cX9_heavy 34 = .ok (.iconst 0, 1) := dk_3 (dk_at dksX9_heavy_1 10 rfl rfl)
theorem dX9_heavy_35 : decode cX9_heavy 35 = .ok (.iadd, 1) := dk_96 (dk_at dksX9_heavy_1 11 rfl rfl)
theorem dX9_heavy_36 : decode cX9_heavy 36 = .ok (.istore_n 2, 1) := dk_61 (dk_at dksX9_heavy_1 12 rfl rfl)
theorem dX9_heavy_37 : decode cX9_heavy 37 = .ok (.iinc 3 1, 3) := dk_132 3 1 (dk_at dksX9_heavy_1 13 rfl rfl)
theorem dX9_heavy_40 : decode cX9_heavy 40 = .ok (.goto (-36), 3) := dk_167 255 220 (dk_at dksX9_heavy_1 16 rfl rfl)
theorem dX9_heavy_43 : decode cX9_heavy 43 = .ok (.iload_n 2, 1) := dk_28 (dk_at dksX9_heavy_1 19 rfl rfl)
theorem dX9_heavy_44 : decode cX9_heavy 44 = .ok (.ireturn, 1) := dk_172 (dk_at dksX9_heavy_1 20 rfl rfl)
def dkwX9_fits_4 : List UInt8 := [29, 172]
abbrev dktX9_fits_4 : List UInt8 := dkwX9_fits_4 ++ []
def dkwX9_fits_3 : List UInt8 := [21, 4, 167, 0, 4, 29, 62, 132, 2, 1, 132, 4, 1, 167, 255, 211, 27, 154, 0, 7, 28, 167, 0, 4]
abbrev dktX9_fits_3 : List UInt8 := dkwX9_fits_3 ++ dktX9_fits_4
def dkwX9_fits_2 : List UInt8 := [21, 4, 16, 10, 108, 21, 4, 16, 10, 112, 182, 1, 132, 154, 0, 6, 167, 0, 17, 28, 154, 0, 8]
abbrev dktX9_fits_2 : List UInt8 := dkwX9_fits_2 ++ dktX9_fits_3
def dkwX9_fits_1 : List UInt8 := [182, 0, 171, 153, 0, 5, 3, 172, 3, 61, 2, 62, 3, 54, 4, 21, 4, 17, 0, 190, 162, 0, 43, 42]
abbrev dktX9_fits_1 : List UInt8 := dkwX9_fits_1 ++ dktX9_fits_2
def dkwX9_fits_0 : List UInt8 := [42, 3, 181, 0, 92, 42, 27, 3, 4, 184, 0, 126, 154, 0, 7, 4, 167, 0, 4, 3, 4, 4]
abbrev dktX9_fits_0 : List UInt8 := dkwX9_fits_0 ++ dktX9_fits_1
theorem dksX9_fits_0 : cX9_fits.data.toList.drop 0 = dktX9_fits_0 := by decide +kernel
theorem dksX9_fits_1 : cX9_fits.data.toList.drop 22 = dktX9_fits_1 := dk_seg dksX9_fits_0 22 rfl rfl
theorem dksX9_fits_2 : cX9_fits.data.toList.drop 46 = dktX9_fits_2 := dk_seg dksX9_fits_1 24 rfl rfl
theorem dksX9_fits_3 : cX9_fits.data.toList.drop 69 = dktX9_fits_3 := dk_seg dksX9_fits_2 23 rfl rfl
theorem dksX9_fits_4 : cX9_fits.data.toList.drop 93 = dktX9_fits_4 := dk_seg dksX9_fits_3 24 rfl rfl
theorem dX9_fits_0 : decode cX9_fits 0 = .ok (.aload_n 0, 1) := dk_42 (dk_at dksX9_fits_0 0 rfl rfl)
theorem dX9_fits_1 : decode cX9_fits 1 = .ok (.iconst 0, 1) := dk_3 (dk_at dksX9_fits_0 1 rfl rfl)
theorem dX9_fits_2 : decode cX9_fits 2 = .ok (.putfield 92, 3) := dk_181 0 92 (dk_at dksX9_fits_0 2 rfl rfl)
theorem dX9_fits_5 : decode cX9_fits 5 = .ok (.aload_n 0, 1) := dk_42 (dk_at dksX9_fits_0 5 rfl rfl)
theorem dX9_fits_6 : decode cX9_fits 6 = .ok (.iload_n 1, 1) := dk_27 (dk_at dksX9_fits_0 6 rfl rfl)
theorem dX9_fits_7 : decode cX9_fits 7 = .ok (.iconst 0, 1) := dk_3 (dk_at dksX9_fits_0 7 rfl rfl)
theorem dX9_fits_8 : decode cX9_fits 8 = .ok (.iconst 1, 1) := dk_4 (dk_at dksX9_fits_0 8 rfl rfl)
theorem dX9_fits_9 : decode cX9_fits 9 = .ok (.invokestatic 126, 3) := dk_184 0 126 (dk_at dksX9_fits_0 9 rfl rfl)
theorem dX9_fits_12 : decode cX9_fits 12 = .ok (.ifCond .ne 7, 3) := dk_154 0 7 (dk_at dksX9_fits_0 12 rfl rfl)
theorem dX9_fits_15 : decode cX9_fits 15 = .ok (.iconst 1, 1) := dk_4 (dk_at dksX9_fits_0 15 rfl rfl)
theorem dX9_fits_16 : decode cX9_fits 16 = .ok (.goto 4, 3) := dk_167 0 4 (dk_at dksX9_fits_0 16 rfl rfl)
theorem dX9_fits_19 : decode cX9_fits 19 = .ok (.iconst 0, 1) := dk_3 (dk_at dksX9_fits_0 19 rfl rfl)
theorem dX9_fits_20 : decode cX9_fits 20 = .ok (.iconst 1, 1) := dk_4 (dk_at dksX9_fits_0 20 rfl rfl)
theorem dX9_fits_21 : decode cX9_fits 21 = .ok (.iconst 1, 1) := dk_4 (dk_at dksX9_fits_0 21 rfl rfl)
theorem dX9_fits_22 : decode cX9_fits 22 = .ok (.invokevirtual 171, 3) := dk_182 0 171 (dk_at dksX9_fits_1 0 rfl rfl)
theorem dX9_fits_25 : decode cX9_fits 25 = .ok (.ifCond .eq 5, 3) := dk_153 0 5 (dk_at dksX9_fits_1 3 rfl rfl)
theorem dX9_fits_28 : decode cX9_fits 28 = .ok (.iconst 0, 1) := dk_3 (dk_at dksX9_fits_1 6 rfl rfl)
theorem dX9_fits_29 : decode cX9_fits 29 = .ok (.ireturn, 1) := dk_172 (dk_at dksX9_fits_1 7 rfl rfl)
theorem dX9_fits_30 : decode cX9_fits 30 = .ok (.iconst 0, 1) := dk_3 (dk_at dksX9_fits_1 8 rfl rfl)
theorem dX9_fits_31 : decode cX9_fits 31 = .ok (.istore_n 2, 1) := dk_61 (dk_at dksX9_fits_1 9 rfl rfl)
theorem dX9_fits_32 : decode cX9_fits 32 = .ok (.iconst (-1), 1) := dk_2 (dk_at dksX9_fits_1 10 rfl rfl)
theorem dX9_fits_33 : decode cX9_fits 33 = .ok (.istore_n 3, 1) := dk_62 (dk_at dksX9_fits_1 11 rfl rfl)
theorem dX9_fits_34 : decode cX9_fits 34 = .ok (.iconst 0, 1) := dk_3 (dk_at dksX9_fits_1 12 rfl rfl)
theorem dX9_fits_35 : decode cX9_fits 35 = .ok (.istore 4, 2) := dk_54 4 (dk_at dksX9_fits_1 13 rfl rfl)
theorem dX9_fits_37 : decode cX9_fits 37 = .ok (.iload 4, 2) := dk_21 4 (dk_at dksX9_fits_1 15 rfl rfl)
theorem dX9_fits_39 : decode cX9_fits 39 = .ok (.sipush 190, 3) := dk_17 0 190 (dk_at dksX9_fits_1 17 rfl rfl)
theorem dX9_fits_42 : decode cX9_fits 42 = .ok (.if_icmp .ge 43, 3) := dk_162 0 43 (dk_at dksX9_fits_1 20 rfl rfl)
theorem dX9_fits_45 : decode cX9_fits 45 = .ok (.aload_n 0, 1) := dk_42 (dk_at dksX9_fits_1 23 rfl rfl)
theorem dX9_fits_46 : decode cX9_fits 46 = .ok (.iload 4, 2) := dk_21 4 (dk_at dksX9_fits_2 0 rfl rfl)
theorem dX9_fits_48 : decode cX9_fits 48 = .ok (.bipush 10, 2) := dk_16 10 (dk_at dksX9_fits_2 2 rfl rfl)
theorem dX9_fits_50 : decode cX9_fits 50 = .ok (.idiv, 1) := dk_108 (dk_at dksX9_fits_2 4 rfl rfl)
theorem dX9_fits_51 : decode cX9_fits 51 = .ok (.iload 4, 2) := dk_21 4 (dk_at dksX9_fits_2 5 rfl rfl)
theorem dX9_fits_53 : decode cX9_fits 53 = .ok (.bipush 10, 2) := dk_16 10 (dk_at dksX9_fits_2 7 rfl rfl)
theorem dX9_fits_55 : decode cX9_fits 55 = .ok (.irem, 1) := dk_112 (dk_at dksX9_fits_2 9 rfl rfl)
theorem dX9_fits_56 : decode cX9_fits 56 = .ok (.invokevirtual 388, 3) := dk_182 1 132 (dk_at dksX9_fits_2 10 rfl rfl)
theorem dX9_fits_59 : decode cX9_fits 59 = .ok (.ifCond .ne 6, 3) := dk_154 0 6 (dk_at dksX9_fits_2 13 rfl rfl)
theorem dX9_fits_62 : decode cX9_fits 62 = .ok (.goto 17, 3) := dk_167 0 17 (dk_at dksX9_fits_2 16 rfl rfl)
theorem dX9_fits_65 : decode cX9_fits 65 = .ok (.iload_n 2, 1) := dk_28 (dk_at dksX9_fits_2 19 rfl rfl)
theorem dX9_fits_66 : decode cX9_fits 66 = .ok (.ifCond .ne 8, 3) := dk_154 0 8 (dk_at dksX9_fits_2 20 rfl rfl)
theorem dX9_fits_69 : decode cX9_fits 69 = .ok (.iload 4, 2) := dk_21 4 (dk_at dksX9_fits_3 0 rfl rfl)
theorem dX9_fits_71 : decode cX9_fits 71 = .ok (.goto 4, 3) := dk_167 0 4 (dk_at dksX9_fits_3 2 rfl rfl)
theorem dX9_fits_74 : decode cX9_fits 74 = .ok (.iload_n 3, 1) := dk_29 (dk_at dksX9_fits_3 5 rfl rfl)
theorem dX9_fits_75 : decode cX9_fits 75 = .ok (.istore_n 3, 1) := dk_62 (dk_at dksX9_fits_3 6 rfl rfl)
theorem dX9_fits_76 : decode cX9_fits 76 = .ok (.iinc 2 1, 3) := dk_132 2 1 (dk_at dksX9_fits_3 7 rfl rfl)
theorem dX9_fits_79 : decode cX9_fits 79 = .ok (.iinc 4 1, 3) := dk_132 4 1 (dk_at dksX9_fits_3 10 rfl rfl)
theorem dX9_fits_82 : decode cX9_fits 82 = .ok (.goto (-45), 3) := dk_167 255 211 (dk_at dksX9_fits_3 13 rfl rfl)
theorem dX9_fits_85 : decode cX9_fits 85 = .ok (.iload_n 1, 1) := dk_27 (dk_at dksX9_fits_3 16 rfl rfl)
theorem dX9_fits_86 : decode cX9_fits 86 = .ok (.ifCond .ne 7, 3) := dk_154 0 7 (dk_at dksX9_fits_3 17 rfl rfl)
theorem dX9_fits_89 : decode cX9_fits 89 = .ok (.iload_n 2, 1) := dk_28 (dk_at dksX9_fits_3 20 rfl rfl)
theorem dX9_fits_90 : decode cX9_fits 90 = .ok (.goto 4, 3) := dk_167 0 4 (dk_at dksX9_fits_3 21 rfl rfl)
theorem dX9_fits_93 : decode cX9_fits 93 = .ok (.iload_n 3, 1) := dk_29 (dk_at dksX9_fits_4 0 rfl rfl)
theorem dX9_fits_94 : decode cX9_fits 94 = .ok (.ireturn, 1) := dk_172 (dk_at dksX9_fits_4 1 rfl rfl)
def dkwX9_isBeam_2 : List UInt8 := [180, 0, 46, 29, 50, 5, 46, 159, 0, 5, 3, 172, 132, 3, 1, 167, 255, 197, 4, 172]
abbrev dktX9_isBeam_2 : List UInt8 := dkwX9_isBeam_2 ++ []
def dkwX9_isBeam_1 : List UInt8 := [46, 42, 180, 0, 61, 3, 42, 180, 0, 46, 29, 50, 4, 46, 96, 46, 27, 28, 184, 1, 11, 42]
abbrev dktX9_isBeam_1 : List UInt8 := dkwX9_isBeam_1 ++ dktX9_isBeam_2
def dkwX9_isBeam_0 : List UInt8 := [3, 62, 29, 42, 180, 0, 191, 162, 0, 57, 42, 180, 0, 61, 3, 42, 180, 0, 46, 29, 50, 3, 46, 96]
abbrev dktX9_isBeam_0 : List UInt8 := dkwX9_isBeam_0 ++ dktX9_isBeam_1
theorem dksX9_isBeam_0 : cX9_isBeam.data.toList.drop 0 = dktX9_isBeam_0 := by decide +kernel
theorem dksX9_isBeam_1 : cX9_isBeam.data.toList.drop 24 = dktX9_isBeam_1 := dk_seg dksX9_isBeam_0 24 rfl rfl
theorem dksX9_isBeam_2 : cX9_isBeam.data.toList.drop 46 = dktX9_isBeam_2 := dk_seg dksX9_isBeam_1 22 rfl rfl
theorem dX9_isBeam_0 : decode cX9_isBeam 0 = .ok (.iconst 0, 1) := dk_3 (dk_at dksX9_isBeam_0 0 rfl rfl)
theorem dX9_isBeam_1 : decode cX9_isBeam 1 = .ok (.istore_n 3, 1) := dk_62 (dk_at dksX9_isBeam_0 1 rfl rfl)
theorem dX9_isBeam_2 : decode cX9_isBeam 2 = .ok (.iload_n 3, 1) := dk_29 (dk_at dksX9_isBeam_0 2 rfl rfl)
theorem dX9_isBeam_3 : decode cX9_isBeam 3 = .ok (.aload_n 0, 1) := dk_42 (dk_at dksX9_isBeam_0 3 rfl rfl)
theorem dX9_isBeam_4 : decode cX9_isBeam 4 = .ok (.getfield 191, 3) := dk_180 0 191 (dk_at dksX9_isBeam_0 4 rfl rfl)
theorem dX9_isBeam_7 : decode cX9_isBeam 7 = .ok (.if_icmp .ge 57, 3) := dk_162 0 57 (dk_at dksX9_isBeam_0 7 rfl rfl)
theorem dX9_isBeam_10 : decode cX9_isBeam 10 = .ok (.aload_n 0, 1) := dk_42 (dk_at dksX9_isBeam_0 10 rfl rfl)
theorem dX9_isBeam_11 : decode cX9_isBeam 11 = .ok (.getfield 61, 3) := dk_180 0 61 (dk_at dksX9_isBeam_0 11 rfl rfl)
theorem dX9_isBeam_14 : decode cX9_isBeam 14 = .ok (.iconst 0, 1) := dk_3 (dk_at dksX9_isBeam_0 14 rfl rfl)
theorem dX9_isBeam_15 : decode cX9_isBeam 15 = .ok (.aload_n 0, 1) := dk_42 (dk_at dksX9_isBeam_0 15 rfl rfl)
theorem dX9_isBeam_16 : decode cX9_isBeam 16 = .ok (.getfield 46, 3) := dk_180 0 46 (dk_at dksX9_isBeam_0 16 rfl rfl)
theorem dX9_isBeam_19 : decode cX9_isBeam 19 = .ok (.iload_n 3, 1) := dk_29 (dk_at dksX9_isBeam_0 19 rfl rfl)
theorem dX9_isBeam_20 : decode cX9_isBeam 20 = .ok (.aaload, 1) := dk_50 (dk_at dksX9_isBeam_0 20 rfl rfl)
theorem dX9_isBeam_21 : decode cX9_isBeam 21 = .ok (.iconst 0, 1) := dk_3 (dk_at dksX9_isBeam_0 21 rfl rfl)
theorem dX9_isBeam_22 : decode cX9_isBeam 22 = .ok (.iaload, 1) := dk_46 (dk_at dksX9_isBeam_0 22 rfl rfl)
theorem dX9_isBeam_23 : decode cX9_isBeam 23 = .ok (.iadd, 1) := dk_96 (dk_at dksX9_isBeam_0 23 rfl rfl)
theorem dX9_isBeam_24 : decode cX9_isBeam 24 = .ok (.iaload, 1) := dk_46 (dk_at dksX9_isBeam_1 0 rfl rfl)
theorem dX9_isBeam_25 : decode cX9_isBeam 25 = .ok (.aload_n 0, 1) := dk_42 (dk_at dksX9_isBeam_1 1 rfl rfl)
theorem dX9_isBeam_26 : decode cX9_isBeam 26 = .ok (.getfield 61, 3) := dk_180 0 61 (dk_at dksX9_isBeam_1 2 rfl rfl)
theorem dX9_isBeam_29 : decode cX9_isBeam 29 = .ok (.iconst 0, 1) := dk_3 (dk_at dksX9_isBeam_1 5 rfl rfl)
theorem dX9_isBeam_30 : decode cX9_isBeam 30 = .ok (.aload_n 0, 1) := dk_42 (dk_at dksX9_isBeam_1 6 rfl rfl)
theorem dX9_isBeam_31 : decode cX9_isBeam 31 = .ok (.getfield 46, 3) := dk_180 0 46 (dk_at dksX9_isBeam_1 7 rfl rfl)
theorem dX9_isBeam_34 : decode cX9_isBeam 34 = .ok (.iload_n 3, 1) := dk_29 (dk_at dksX9_isBeam_1 10 rfl rfl)
theorem dX9_isBeam_35 : decode cX9_isBeam 35 = .ok (.aaload, 1) := dk_50 (dk_at dksX9_isBeam_1 11 rfl rfl)
theorem dX9_isBeam_36 : decode cX9_isBeam 36 = .ok (.iconst 1, 1) := dk_4 (dk_at dksX9_isBeam_1 12 rfl rfl)
theorem dX9_isBeam_37 : decode cX9_isBeam 37 = .ok (.iaload, 1) := dk_46 (dk_at dksX9_isBeam_1 13 rfl rfl)
theorem dX9_isBeam_38 : decode cX9_isBeam 38 = .ok (.iadd, 1) := dk_96 (dk_at dksX9_isBeam_1 14 rfl rfl)
theorem dX9_isBeam_39 : decode cX9_isBeam 39 = .ok (.iaload, 1) := dk_46 (dk_at dksX9_isBeam_1 15 rfl rfl)
theorem dX9_isBeam_40 : decode cX9_isBeam 40 = .ok (.iload_n 1, 1) := dk_27 (dk_at dksX9_isBeam_1 16 rfl rfl)
theorem dX9_isBeam_41 : decode cX9_isBeam 41 = .ok (.iload_n 2, 1) := dk_28 (dk_at dksX9_isBeam_1 17 rfl rfl)
theorem dX9_isBeam_42 : decode cX9_isBeam 42 = .ok (.invokestatic 267, 3) := dk_184 1 11 (dk_at dksX9_isBeam_1 18 rfl rfl)
theorem dX9_isBeam_45 : decode cX9_isBeam 45 = .ok (.aload_n 0, 1) := dk_42 (dk_at dksX9_isBeam_1 21 rfl rfl)
theorem dX9_isBeam_46 : decode cX9_isBeam 46 = .ok (.getfield 46, 3) := dk_180 0 46 (dk_at dksX9_isBeam_2 0 rfl rfl)
theorem dX9_isBeam_49 : decode cX9_isBeam 49 = .ok (.iload_n 3, 1) := dk_29 (dk_at dksX9_isBeam_2 3 rfl rfl)
theorem dX9_isBeam_50 : decode cX9_isBeam 50 = .ok (.aaload, 1) := dk_50 (dk_at dksX9_isBeam_2 4 rfl rfl)
theorem dX9_isBeam_51 : decode cX9_isBeam 51 = .ok (.iconst 2, 1) := dk_5 (dk_at dksX9_isBeam_2 5 rfl rfl)
theorem dX9_isBeam_52 : decode cX9_isBeam 52 = .ok (.iaload, 1) := dk_46 (dk_at dksX9_isBeam_2 6 rfl rfl)
theorem dX9_isBeam_53 : decode cX9_isBeam 53 = .ok (.if_icmp .eq 5, 3) := dk_159 0 5 (dk_at dksX9_isBeam_2 7 rfl rfl)
theorem dX9_isBeam_56 : decode cX9_isBeam 56 = .ok (.iconst 0, 1) := dk_3 (dk_at dksX9_isBeam_2 10 rfl rfl)
theorem dX9_isBeam_57 : decode cX9_isBeam 57 = .ok (.ireturn, 1) := dk_172 (dk_at dksX9_isBeam_2 11 rfl rfl)
theorem dX9_isBeam_58 : decode cX9_isBeam 58 = .ok (.iinc 3 1, 3) := dk_132 3 1 (dk_at dksX9_isBeam_2 12 rfl rfl)
theorem dX9_isBeam_61 : decode cX9_isBeam 61 = .ok (.goto (-59), 3) := dk_167 255 197 (dk_at dksX9_isBeam_2 15 rfl rfl)
theorem dX9_isBeam_64 : decode cX9_isBeam 64 = .ok (.iconst 1, 1) := dk_4 (dk_at dksX9_isBeam_2 18 rfl rfl)
theorem dX9_isBeam_65 : decode cX9_isBeam 65 = .ok (.ireturn, 1) := dk_172 (dk_at dksX9_isBeam_2 19 rfl rfl)
def dkwX9_look_5 : List UInt8 := [154, 0, 7, 28, 167, 0, 4, 29, 172]
abbrev dktX9_look_5 : List UInt8 := dkwX9_look_5 ++ []
def dkwX9_look_4 : List UInt8 := [21, 4, 104, 21, 5, 96, 61, 21, 6, 62, 132, 5, 1, 167, 255, 206, 132, 4, 1, 167, 255, 183, 27]
abbrev dktX9_look_4 : List UInt8 := dkwX9_look_4 ++ dktX9_look_5
def dkwX9_look_3 : List UInt8 := [21, 5, 182, 1, 135, 54, 6, 28, 2, 159, 0, 12, 21, 6, 29, 161, 0, 6, 167, 0, 15, 16, 10]
abbrev dktX9_look_3 : List UInt8 := dkwX9_look_3 ++ dktX9_look_4
def dkwX9_look_2 : List UInt8 := [162, 0, 68, 21, 4, 4, 96, 54, 5, 21, 5, 42, 180, 0, 23, 3, 46, 162, 0, 45, 42, 21, 4]
abbrev dktX9_look_2 : List UInt8 := dkwX9_look_2 ++ dktX9_look_3
def dkwX9_look_1 : List UInt8 := [182, 0, 171, 153, 0, 5, 3, 172, 2, 61, 2, 62, 3, 54, 4, 21, 4, 42, 180, 0, 23, 3, 46]
abbrev dktX9_look_1 : List UInt8 := dkwX9_look_1 ++ dktX9_look_2
def dkwX9_look_0 : List UInt8 := [42, 3, 181, 0, 92, 42, 27, 3, 4, 184, 0, 126, 154, 0, 7, 4, 167, 0, 4, 3, 4, 4]
abbrev dktX9_look_0 : List UInt8 := dkwX9_look_0 ++ dktX9_look_1
theorem dksX9_look_0 : cX9_look.data.toList.drop 0 = dktX9_look_0 := by decide +kernel
theorem dksX9_look_1 : cX9_look.data.toList.drop 22 = dktX9_look_1 := dk_seg dksX9_look_0 22 rfl rfl
theorem dksX9_look_2 : cX9_look.data.toList.drop 45 = dktX9_look_2 := dk_seg dksX9_look_1 23 rfl rfl
theorem dksX9_look_3 : cX9_look.data.toList.drop 68 = dktX9_look_3 := dk_seg dksX9_look_2 23 rfl rfl
theorem dksX9_look_4 : cX9_look.data.toList.drop 91 = dktX9_look_4 := dk_seg dksX9_look_3 23 rfl rfl
theorem dksX9_look_5 : cX9_look.data.toList.drop 114 = dktX9_look_5 := dk_seg dksX9_look_4 23 rfl rfl
theorem dX9_look_0 : decode cX9_look 0 = .ok (.aload_n 0, 1) := dk_42 (dk_at dksX9_look_0 0 rfl rfl)
theorem dX9_look_1 : decode cX9_look 1 = .ok (.iconst 0, 1) := dk_3 (dk_at dksX9_look_0 1 rfl rfl)
theorem dX9_look_2 : decode cX9_look 2 = .ok (.putfield 92, 3) := dk_181 0 92 (dk_at dksX9_look_0 2 rfl rfl)
theorem dX9_look_5 : decode cX9_look 5 = .ok (.aload_n 0, 1) := dk_42 (dk_at dksX9_look_0 5 rfl rfl)
theorem dX9_look_6 : decode cX9_look 6 = .ok (.iload_n 1, 1) := dk_27 (dk_at dksX9_look_0 6 rfl rfl)
theorem dX9_look_7 : decode cX9_look 7 = .ok (.iconst 0, 1) := dk_3 (dk_at dksX9_look_0 7 rfl rfl)
theorem dX9_look_8 : decode cX9_look 8 = .ok (.iconst 1, 1) := dk_4 (dk_at dksX9_look_0 8 rfl rfl)
theorem dX9_look_9 : decode cX9_look 9 = .ok (.invokestatic 126, 3) := dk_184 0 126 (dk_at dksX9_look_0 9 rfl rfl)
theorem dX9_look_12 : decode cX9_look 12 = .ok (.ifCond .ne 7, 3) := dk_154 0 7 (dk_at dksX9_look_0 12 rfl rfl)
theorem dX9_look_15 : decode cX9_look 15 = .ok (.iconst 1, 1) := dk_4 (dk_at dksX9_look_0 15 rfl rfl)
theorem dX9_look_16 : decode cX9_look 16 = .ok (.goto 4, 3) := dk_167 0 4 (dk_at dksX9_look_0 16 rfl rfl)
theorem dX9_look_19 : decode cX9_look 19 = .ok (.iconst 0, 1) := dk_3 (dk_at dksX9_look_0 19 rfl rfl)
theorem dX9_look_20 : decode cX9_look 20 = .ok (.iconst 1, 1) := dk_4 (dk_at dksX9_look_0 20 rfl rfl)
theorem dX9_look_21 : decode cX9_look 21 = .ok (.iconst 1, 1) := dk_4 (dk_at dksX9_look_0 21 rfl rfl)
theorem dX9_look_22 : decode cX9_look 22 = .ok (.invokevirtual 171, 3) := dk_182 0 171 (dk_at dksX9_look_1 0 rfl rfl)
theorem dX9_look_25 : decode cX9_look 25 = .ok (.ifCond .eq 5, 3) := dk_153 0 5 (dk_at dksX9_look_1 3 rfl rfl)
theorem dX9_look_28 : decode cX9_look 28 = .ok (.iconst 0, 1) := dk_3 (dk_at dksX9_look_1 6 rfl rfl)
theorem dX9_look_29 : decode cX9_look 29 = .ok (.ireturn, 1) := dk_172 (dk_at dksX9_look_1 7 rfl rfl)
theorem dX9_look_30 : decode cX9_look 30 = .ok (.iconst (-1), 1) := dk_2 (dk_at dksX9_look_1 8 rfl rfl)
theorem dX9_look_31 : decode cX9_look 31 = .ok (.istore_n 2, 1) := dk_61 (dk_at dksX9_look_1 9 rfl rfl)
theorem dX9_look_32 : decode cX9_look 32 = .ok (.iconst (-1), 1) := dk_2 (dk_at dksX9_look_1 10 rfl rfl)
theorem dX9_look_33 : decode cX9_look 33 = .ok (.istore_n 3, 1) := dk_62 (dk_at dksX9_look_1 11 rfl rfl)
theorem dX9_look_34 : decode cX9_look 34 = .ok (.iconst 0, 1) := dk_3 (dk_at dksX9_look_1 12 rfl rfl)
theorem dX9_look_35 : decode cX9_look 35 = .ok (.istore 4, 2) := dk_54 4 (dk_at dksX9_look_1 13 rfl rfl)
theorem dX9_look_37 : decode cX9_look 37 = .ok (.iload 4, 2) := dk_21 4 (dk_at dksX9_look_1 15 rfl rfl)
theorem dX9_look_39 : decode cX9_look 39 = .ok (.aload_n 0, 1) := dk_42 (dk_at dksX9_look_1 17 rfl rfl)
theorem dX9_look_40 : decode cX9_look 40 = .ok (.getfield 23, 3) := dk_180 0 23 (dk_at dksX9_look_1 18 rfl rfl)
theorem dX9_look_43 : decode cX9_look 43 = .ok (.iconst 0, 1) := dk_3 (dk_at dksX9_look_1 21 rfl rfl)
theorem dX9_look_44 : decode cX9_look 44 = .ok (.iaload, 1) := dk_46 (dk_at dksX9_look_1 22 rfl rfl)
theorem dX9_look_45 : decode cX9_look 45 = .ok (.if_icmp .ge 68, 3) := dk_162 0 68 (dk_at dksX9_look_2 0 rfl rfl)
theorem dX9_look_48 : decode cX9_look 48 = .ok (.iload 4, 2) := dk_21 4 (dk_at dksX9_look_2 3 rfl rfl)
theorem dX9_look_50 : decode cX9_look 50 = .ok (.iconst 1, 1) := dk_4 (dk_at dksX9_look_2 5 rfl rfl)
theorem dX9_look_51 : decode cX9_look 51 = .ok (.iadd, 1) := dk_96 (dk_at dksX9_look_2 6 rfl rfl)
theorem dX9_look_52 : decode cX9_look 52 = .ok (.istore 5, 2) := dk_54 5 (dk_at dksX9_look_2 7 rfl rfl)
theorem dX9_look_54 : decode cX9_look 54 = .ok (.iload 5, 2) := dk_21 5 (dk_at dksX9_look_2 9 rfl rfl)
theorem dX9_look_56 : decode cX9_look 56 = .ok (.aload_n 0, 1) := dk_42 (dk_at dksX9_look_2 11 rfl rfl)
theorem dX9_look_57 : decode cX9_look 57 = .ok (.getfield 23, 3) := dk_180 0 23 (dk_at dksX9_look_2 12 rfl rfl)
theorem dX9_look_60 : decode cX9_look 60 = .ok (.iconst 0, 1) := dk_3 (dk_at dksX9_look_2 15 rfl rfl)
theorem dX9_look_61 : decode cX9_look 61 = .ok (.iaload, 1) := dk_46 (dk_at dksX9_look_2 16 rfl rfl)
theorem dX9_look_62 : decode cX9_look 62 = .ok (.if_icmp .ge 45, 3) := dk_162 0 45 (dk_at dksX9_look_2 17 rfl rfl)
theorem dX9_look_65 : decode cX9_look 65 = .ok (.aload_n 0, 1) := dk_42 (dk_at dksX9_look_2 20 rfl rfl)
theorem dX9_look_66 : decode cX9_look 66 = .ok (.iload 4, 2) := dk_21 4 (dk_at dksX9_look_2 21 rfl rfl)
theorem dX9_look_68 : decode cX9_look 68 = .ok (.iload 5, 2) := dk_21 5 (dk_at dksX9_look_3 0 rfl rfl)
theorem dX9_look_70 : decode cX9_look 70 = .ok (.invokevirtual 391, 3) := dk_182 1 135 (dk_at dksX9_look_3 2 rfl rfl)
theorem dX9_look_73 : decode cX9_look 73 = .ok (.istore 6, 2) := dk_54 6 (dk_at dksX9_look_3 5 rfl rfl)
theorem dX9_look_75 : decode cX9_look 75 = .ok (.iload_n 2, 1) := dk_28 (dk_at dksX9_look_3 7 rfl rfl)
theorem dX9_look_76 : decode cX9_look 76 = .ok (.iconst (-1), 1) := dk_2 (dk_at dksX9_look_3 8 rfl rfl)
theorem dX9_look_77 : decode cX9_look 77 = .ok (.if_icmp .eq 12, 3) := dk_159 0 12 (dk_at dksX9_look_3 9 rfl rfl)
theorem dX9_look_80 : decode cX9_look 80 = .ok (.iload 6, 2) := dk_21 6 (dk_at dksX9_look_3 12 rfl rfl)
theorem dX9_look_82 : decode cX9_look 82 = .ok (.iload_n 3, 1) := dk_29 (dk_at dksX9_look_3 14 rfl rfl)
theorem dX9_look_83 : decode cX9_look 83 = .ok (.if_icmp .lt 6, 3) := dk_161 0 6 (dk_at dksX9_look_3 15 rfl rfl)
theorem dX9_look_86 : decode cX9_look 86 = .ok (.goto 15, 3) := dk_167 0 15 (dk_at dksX9_look_3 18 rfl rfl)
theorem dX9_look_89 : decode cX9_look 89 = .ok (.bipush 10, 2) := dk_16 10 (dk_at dksX9_look_3 21 rfl rfl)
theorem dX9_look_91 : decode cX9_look 91 = .ok (.iload 4, 2) := dk_21 4 (dk_at dksX9_look_4 0 rfl rfl)
theorem dX9_look_93 : decode cX9_look 93 = .ok (.imul, 1) := dk_104 (dk_at dksX9_look_4 2 rfl rfl)
theorem dX9_look_94 : decode cX9_look 94 = .ok (.iload 5, 2) := dk_21 5 (dk_at dksX9_look_4 3 rfl rfl)
theorem dX9_look_96 : decode cX9_look 96 = .ok (.iadd, 1) := dk_96 (dk_at dksX9_look_4 5 rfl rfl)
theorem dX9_look_97 : decode cX9_look 97 = .ok (.istore_n 2, 1) := dk_61 (dk_at dksX9_look_4 6 rfl rfl)
theorem dX9_look_98 : decode cX9_look 98 = .ok (.iload 6, 2) := dk_21 6 (dk_at dksX9_look_4 7 rfl rfl)
theorem dX9_look_100 : decode cX9_look 100 = .ok (.istore_n 3, 1) := dk_62 (dk_at dksX9_look_4 9 rfl rfl)
theorem dX9_look_101 : decode cX9_look 101 = .ok (.iinc 5 1, 3) := dk_132 5 1 (dk_at dksX9_look_4 10 rfl rfl)
theorem dX9_look_104 : decode cX9_look 104 = .ok (.goto (-50), 3) := dk_167 255 206 (dk_at dksX9_look_4 13 rfl rfl)
theorem dX9_look_107 : decode cX9_look 107 = .ok (.iinc 4 1, 3) := dk_132 4 1 (dk_at dksX9_look_4 16 rfl rfl)
theorem dX9_look_110 : decode cX9_look 110 = .ok (.goto (-73), 3) := dk_167 255 183 (dk_at dksX9_look_4 19 rfl rfl)
theorem dX9_look_113 : decode cX9_look 113 = .ok (.iload_n 1, 1) := dk_27 (dk_at dksX9_look_4 22 rfl rfl)
theorem dX9_look_114 : decode cX9_look 114 = .ok (.ifCond .ne 7, 3) := dk_154 0 7 (dk_at dksX9_look_5 0 rfl rfl)
theorem dX9_look_117 : decode cX9_look 117 = .ok (.iload_n 2, 1) := dk_28 (dk_at dksX9_look_5 3 rfl rfl)
theorem dX9_look_118 : decode cX9_look 118 = .ok (.goto 4, 3) := dk_167 0 4 (dk_at dksX9_look_5 4 rfl rfl)
theorem dX9_look_121 : decode cX9_look 121 = .ok (.iload_n 3, 1) := dk_29 (dk_at dksX9_look_5 7 rfl rfl)
theorem dX9_look_122 : decode cX9_look 122 = .ok (.ireturn, 1) := dk_172 (dk_at dksX9_look_5 8 rfl rfl)
def dkwX9_worstOf_4 : List UInt8 := [180, 0, 83, 4, 46, 42, 180, 0, 83, 5, 46, 184, 0, 238, 184, 0, 238, 172]
abbrev dktX9_worstOf_4 : List UInt8 := dkwX9_worstOf_4 ++ []
def dkwX9_worstOf_3 : List UInt8 := [16, 10, 112, 184, 1, 11, 92, 46, 4, 96, 79, 132, 3, 1, 167, 255, 195, 42, 180, 0, 83, 3, 46, 42]
abbrev dktX9_worstOf_3 : List UInt8 := dkwX9_worstOf_3 ++ dktX9_worstOf_4
def dkwX9_worstOf_2 : List UInt8 := [180, 0, 83, 42, 180, 0, 61, 3, 27, 96, 46, 42, 180, 0, 61, 3, 28, 96, 46, 29, 16, 10, 108, 29]
abbrev dktX9_worstOf_2 : List UInt8 := dkwX9_worstOf_2 ++ dktX9_worstOf_3
def dkwX9_worstOf_1 : List UInt8 := [17, 0, 190, 162, 0, 60, 42, 29, 16, 10, 108, 29, 16, 10, 112, 182, 1, 132, 153, 0, 39, 42]
abbrev dktX9_worstOf_1 : List UInt8 := dkwX9_worstOf_1 ++ dktX9_worstOf_2
def dkwX9_worstOf_0 : List UInt8 := [3, 62, 29, 6, 162, 0, 16, 42, 180, 0, 83, 29, 3, 79, 132, 3, 1, 167, 255, 241, 3, 62, 29]
abbrev dktX9_worstOf_0 : List UInt8 := dkwX9_worstOf_0 ++ dktX9_worstOf_1
theorem dksX9_worstOf_0 : cX9_worstOf.data.toList.drop 0 = dktX9_worstOf_0 := by decide +kernel
theorem dksX9_worstOf_1 : cX9_worstOf.data.toList.drop 23 = dktX9_worstOf_1 := dk_seg dksX9_worstOf_0 23 rfl rfl
theorem dksX9_worstOf_2 : cX9_worstOf.data.toList.drop 45 = dktX9_worstOf_2 := dk_seg dksX9_worstOf_1 22 rfl rfl
theorem dksX9_worstOf_3 : cX9_worstOf.data.toList.drop 69 = dktX9_worstOf_3 := dk_seg dksX9_worstOf_2 24 rfl rfl
theorem dksX9_worstOf_4 : cX9_worstOf.data.toList.drop 93 = dktX9_worstOf_4 := dk_seg dksX9_worstOf_3 24 rfl rfl
theorem dX9_worstOf_0 : decode cX9_worstOf 0 = .ok (.iconst 0, 1) := dk_3 (dk_at dksX9_worstOf_0 0 rfl rfl)
theorem dX9_worstOf_1 : decode cX9_worstOf 1 = .ok (.istore_n 3, 1) := dk_62 (dk_at dksX9_worstOf_0 1 rfl rfl)
theorem dX9_worstOf_2 : decode cX9_worstOf 2 = .ok (.iload_n 3, 1) := dk_29 (dk_at dksX9_worstOf_0 2 rfl rfl)
theorem dX9_worstOf_3 : decode cX9_worstOf 3 = .ok (.iconst 3, 1) := dk_6 (dk_at dksX9_worstOf_0 3 rfl rfl)
theorem dX9_worstOf_4 : decode cX9_worstOf 4 = .ok (.if_icmp .ge 16, 3) := dk_162 0 16 (dk_at dksX9_worstOf_0 4 rfl rfl)
theorem dX9_worstOf_7 : decode cX9_worstOf 7 = .ok (.aload_n 0, 1) := dk_42 (dk_at dksX9_worstOf_0 7 rfl rfl)
theorem dX9_worstOf_8 : decode cX9_worstOf 8 = .ok (.getfield 83, 3) := dk_180 0 83 (dk_at dksX9_worstOf_0 8 rfl rfl)
theorem dX9_worstOf_11 : decode cX9_worstOf 11 = .ok (.iload_n 3, 1) := dk_29 (dk_at dksX9_worstOf_0 11 rfl rfl)
theorem dX9_worstOf_12 : decode cX9_worstOf 12 = .ok (.iconst 0, 1) := dk_3 (dk_at dksX9_worstOf_0 12 rfl rfl)
theorem dX9_worstOf_13 : decode cX9_worstOf 13 = .ok (.iastore, 1) := dk_79 (dk_at dksX9_worstOf_0 13 rfl rfl)
theorem dX9_worstOf_14 : decode cX9_worstOf 14 = .ok (.iinc 3 1, 3) := dk_132 3 1 (dk_at dksX9_worstOf_0 14 rfl rfl)
theorem dX9_worstOf_17 : decode cX9_worstOf 17 = .ok (.goto (-15), 3) := dk_167 255 241 (dk_at dksX9_worstOf_0 17 rfl rfl)
theorem dX9_worstOf_20 : decode cX9_worstOf 20 = .ok (.iconst 0, 1) := dk_3 (dk_at dksX9_worstOf_0 20 rfl rfl)
theorem dX9_worstOf_21 : decode cX9_worstOf 21 = .ok (.istore_n 3, 1) := dk_62 (dk_at dksX9_worstOf_0 21 rfl rfl)
theorem dX9_worstOf_22 : decode cX9_worstOf 22 = .ok (.iload_n 3, 1) := dk_29 (dk_at dksX9_worstOf_0 22 rfl rfl)
theorem dX9_worstOf_23 : decode cX9_worstOf 23 = .ok (.sipush 190, 3) := dk_17 0 190 (dk_at dksX9_worstOf_1 0 rfl rfl)
theorem dX9_worstOf_26 : decode cX9_worstOf 26 = .ok (.if_icmp .ge 60, 3) := dk_162 0 60 (dk_at dksX9_worstOf_1 3 rfl rfl)
theorem dX9_worstOf_29 : decode cX9_worstOf 29 = .ok (.aload_n 0, 1) := dk_42 (dk_at dksX9_worstOf_1 6 rfl rfl)
theorem dX9_worstOf_30 : decode cX9_worstOf 30 = .ok (.iload_n 3, 1) := dk_29 (dk_at dksX9_worstOf_1 7 rfl rfl)
theorem dX9_worstOf_31 : decode cX9_worstOf 31 = .ok (.bipush 10, 2) := dk_16 10 (dk_at dksX9_worstOf_1 8 rfl rfl)
theorem dX9_worstOf_33 : decode cX9_worstOf 33 = .ok (.idiv, 1) := dk_108 (dk_at dksX9_worstOf_1 10 rfl rfl)
theorem dX9_worstOf_34 : decode cX9_worstOf 34 = .ok (.iload_n 3, 1) := dk_29 (dk_at dksX9_worstOf_1 11 rfl rfl)
theorem dX9_worstOf_35 : decode cX9_worstOf 35 = .ok (.bipush 10, 2) := dk_16 10 (dk_at dksX9_worstOf_1 12 rfl rfl)
theorem dX9_worstOf_37 : decode cX9_worstOf 37 = .ok (.irem, 1) := dk_112 (dk_at dksX9_worstOf_1 14 rfl rfl)
theorem dX9_worstOf_38 : decode cX9_worstOf 38 = .ok (.invokevirtual 388, 3) := dk_182 1 132 (dk_at dksX9_worstOf_1 15 rfl rfl)
theorem dX9_worstOf_41 : decode cX9_worstOf 41 = .ok (.ifCond .eq 39, 3) := dk_153 0 39 (dk_at dksX9_worstOf_1 18 rfl rfl)
theorem dX9_worstOf_44 : decode cX9_worstOf 44 = .ok (.aload_n 0, 1) := dk_42 (dk_at dksX9_worstOf_1 21 rfl rfl)
theorem dX9_worstOf_45 : decode cX9_worstOf 45 = .ok (.getfield 83, 3) := dk_180 0 83 (dk_at dksX9_worstOf_2 0 rfl rfl)
theorem dX9_worstOf_48 : decode cX9_worstOf 48 = .ok (.aload_n 0, 1) := dk_42 (dk_at dksX9_worstOf_2 3 rfl rfl)
theorem dX9_worstOf_49 : decode cX9_worstOf 49 = .ok (.getfield 61, 3) := dk_180 0 61 (dk_at dksX9_worstOf_2 4 rfl rfl)
theorem dX9_worstOf_52 : decode cX9_worstOf 52 = .ok (.iconst 0, 1) := dk_3 (dk_at dksX9_worstOf_2 7 rfl rfl)
theorem dX9_worstOf_53 : decode cX9_worstOf 53 = .ok (.iload_n 1, 1) := dk_27 (dk_at dksX9_worstOf_2 8 rfl rfl)
theorem dX9_worstOf_54 : decode cX9_worstOf 54 = .ok (.iadd, 1) := dk_96 (dk_at dksX9_worstOf_2 9 rfl rfl)
theorem dX9_worstOf_55 : decode cX9_worstOf 55 = .ok (.iaload, 1) := dk_46 (dk_at dksX9_worstOf_2 10 rfl rfl)
theorem dX9_worstOf_56 : decode cX9_worstOf 56 = .ok (.aload_n 0, 1) := dk_42 (dk_at dksX9_worstOf_2 11 rfl rfl)
theorem dX9_worstOf_57 : decode cX9_worstOf 57 = .ok (.getfield 61, 3) := dk_180 0 61 (dk_at dksX9_worstOf_2 12 rfl rfl)
theorem dX9_worstOf_60 : decode cX9_worstOf 60 = .ok (.iconst 0, 1) := dk_3 (dk_at dksX9_worstOf_2 15 rfl rfl)
theorem dX9_worstOf_61 : decode cX9_worstOf 61 = .ok (.iload_n 2, 1) := dk_28 (dk_at dksX9_worstOf_2 16 rfl rfl)
theorem dX9_worstOf_62 : decode cX9_worstOf 62 = .ok (.iadd, 1) := dk_96 (dk_at dksX9_worstOf_2 17 rfl rfl)
theorem dX9_worstOf_63 : decode cX9_worstOf 63 = .ok (.iaload, 1) := dk_46 (dk_at dksX9_worstOf_2 18 rfl rfl)
theorem dX9_worstOf_64 : decode cX9_worstOf 64 = .ok (.iload_n 3, 1) := dk_29 (dk_at dksX9_worstOf_2 19 rfl rfl)
theorem dX9_worstOf_65 : decode cX9_worstOf 65 = .ok (.bipush 10, 2) := dk_16 10 (dk_at dksX9_worstOf_2 20 rfl rfl)
theorem dX9_worstOf_67 : decode cX9_worstOf 67 = .ok (.idiv, 1) := dk_108 (dk_at dksX9_worstOf_2 22 rfl rfl)
theorem dX9_worstOf_68 : decode cX9_worstOf 68 = .ok (.iload_n 3, 1) := dk_29 (dk_at dksX9_worstOf_2 23 rfl rfl)
theorem dX9_worstOf_69 : decode cX9_worstOf 69 = .ok (.bipush 10, 2) := dk_16 10 (dk_at dksX9_worstOf_3 0 rfl rfl)
theorem dX9_worstOf_71 : decode cX9_worstOf 71 = .ok (.irem, 1) := dk_112 (dk_at dksX9_worstOf_3 2 rfl rfl)
theorem dX9_worstOf_72 : decode cX9_worstOf 72 = .ok (.invokestatic 267, 3) := dk_184 1 11 (dk_at dksX9_worstOf_3 3 rfl rfl)
theorem dX9_worstOf_75 : decode cX9_worstOf 75 = .ok (.dup2, 1) := dk_92 (dk_at dksX9_worstOf_3 6 rfl rfl)
theorem dX9_worstOf_76 : decode cX9_worstOf 76 = .ok (.iaload, 1) := dk_46 (dk_at dksX9_worstOf_3 7 rfl rfl)
theorem dX9_worstOf_77 : decode cX9_worstOf 77 = .ok (.iconst 1, 1) := dk_4 (dk_at dksX9_worstOf_3 8 rfl rfl)
theorem dX9_worstOf_78 : decode cX9_worstOf 78 = .ok (.iadd, 1) := dk_96 (dk_at dksX9_worstOf_3 9 rfl rfl)
theorem dX9_worstOf_79 : decode cX9_worstOf 79 = .ok (.iastore, 1) := dk_79 (dk_at dksX9_worstOf_3 10 rfl rfl)
theorem dX9_worstOf_80 : decode cX9_worstOf 80 = .ok (.iinc 3 1, 3) := dk_132 3 1 (dk_at dksX9_worstOf_3 11 rfl rfl)
theorem dX9_worstOf_83 : decode cX9_worstOf 83 = .ok (.goto (-61), 3) := dk_167 255 195 (dk_at dksX9_worstOf_3 14 rfl rfl)
theorem dX9_worstOf_86 : decode cX9_worstOf 86 = .ok (.aload_n 0, 1) := dk_42 (dk_at dksX9_worstOf_3 17 rfl rfl)
theorem dX9_worstOf_87 : decode cX9_worstOf 87 = .ok (.getfield 83, 3) := dk_180 0 83 (dk_at dksX9_worstOf_3 18 rfl rfl)
theorem dX9_worstOf_90 : decode cX9_worstOf 90 = .ok (.iconst 0, 1) := dk_3 (dk_at dksX9_worstOf_3 21 rfl rfl)
theorem dX9_worstOf_91 : decode cX9_worstOf 91 = .ok (.iaload, 1) := dk_46 (dk_at dksX9_worstOf_3 22 rfl rfl)
theorem dX9_worstOf_92 : decode cX9_worstOf 92 = .ok (.aload_n 0, 1) := dk_42 (dk_at dksX9_worstOf_3 23 rfl rfl)
theorem dX9_worstOf_93 : decode cX9_worstOf 93 = .ok (.getfield 83, 3) := dk_180 0 83 (dk_at dksX9_worstOf_4 0 rfl rfl)
theorem dX9_worstOf_96 : decode cX9_worstOf 96 = .ok (.iconst 1, 1) := dk_4 (dk_at dksX9_worstOf_4 3 rfl rfl)
theorem dX9_worstOf_97 : decode cX9_worstOf 97 = .ok (.iaload, 1) := dk_46 (dk_at dksX9_worstOf_4 4 rfl rfl)
theorem dX9_worstOf_98 : decode cX9_worstOf 98 = .ok (.aload_n 0, 1) := dk_42 (dk_at dksX9_worstOf_4 5 rfl rfl)
theorem dX9_worstOf_99 : decode cX9_worstOf 99 = .ok (.getfield 83, 3) := dk_180 0 83 (dk_at dksX9_worstOf_4 6 rfl rfl)
theorem dX9_worstOf_102 : decode cX9_worstOf 102 = .ok (.iconst 2, 1) := dk_5 (dk_at dksX9_worstOf_4 9 rfl rfl)
theorem dX9_worstOf_103 : decode cX9_worstOf 103 = .ok (.iaload, 1) := dk_46 (dk_at dksX9_worstOf_4 10 rfl rfl)
theorem dX9_worstOf_104 : decode cX9_worstOf 104 = .ok (.invokestatic 238, 3) := dk_184 0 238 (dk_at dksX9_worstOf_4 11 rfl rfl)
theorem dX9_worstOf_107 : decode cX9_worstOf 107 = .ok (.invokestatic 238, 3) := dk_184 0 238 (dk_at dksX9_worstOf_4 14 rfl rfl)
theorem dX9_worstOf_110 : decode cX9_worstOf 110 = .ok (.ireturn, 1) := dk_172 (dk_at dksX9_worstOf_4 17 rfl rfl)
def dkwX9_falsely_2 : List UInt8 := [132, 2, 1, 29, 6, 104, 62, 167, 255, 240, 27, 6, 162, 0, 7, 2, 167, 0, 4, 28, 172]
abbrev dktX9_falsely_2 : List UInt8 := dkwX9_falsely_2 ++ []
def dkwX9_falsely_1 : List UInt8 := [182, 0, 171, 153, 0, 5, 3, 172, 5, 61, 16, 9, 62, 29, 6, 100, 5, 108, 27, 162, 0, 13]
abbrev dktX9_falsely_1 : List UInt8 := dkwX9_falsely_1 ++ dktX9_falsely_2
def dkwX9_falsely_0 : List UInt8 := [42, 3, 181, 0, 92, 42, 27, 4, 17, 39, 15, 184, 0, 126, 154, 0, 7, 4, 167, 0, 4, 3, 4, 4]
abbrev dktX9_falsely_0 : List UInt8 := dkwX9_falsely_0 ++ dktX9_falsely_1
theorem dksX9_falsely_0 : cX9_falsely.data.toList.drop 0 = dktX9_falsely_0 := by decide +kernel
theorem dksX9_falsely_1 : cX9_falsely.data.toList.drop 24 = dktX9_falsely_1 := dk_seg dksX9_falsely_0 24 rfl rfl
theorem dksX9_falsely_2 : cX9_falsely.data.toList.drop 46 = dktX9_falsely_2 := dk_seg dksX9_falsely_1 22 rfl rfl
theorem dX9_falsely_0 : decode cX9_falsely 0 = .ok (.aload_n 0, 1) := dk_42 (dk_at dksX9_falsely_0 0 rfl rfl)
theorem dX9_falsely_1 : decode cX9_falsely 1 = .ok (.iconst 0, 1) := dk_3 (dk_at dksX9_falsely_0 1 rfl rfl)
theorem dX9_falsely_2 : decode cX9_falsely 2 = .ok (.putfield 92, 3) := dk_181 0 92 (dk_at dksX9_falsely_0 2 rfl rfl)
theorem dX9_falsely_5 : decode cX9_falsely 5 = .ok (.aload_n 0, 1) := dk_42 (dk_at dksX9_falsely_0 5 rfl rfl)
theorem dX9_falsely_6 : decode cX9_falsely 6 = .ok (.iload_n 1, 1) := dk_27 (dk_at dksX9_falsely_0 6 rfl rfl)
theorem dX9_falsely_7 : decode cX9_falsely 7 = .ok (.iconst 1, 1) := dk_4 (dk_at dksX9_falsely_0 7 rfl rfl)
theorem dX9_falsely_8 : decode cX9_falsely 8 = .ok (.sipush 9999, 3) := dk_17 39 15 (dk_at dksX9_falsely_0 8 rfl rfl)
theorem dX9_falsely_11 : decode cX9_falsely 11 = .ok (.invokestatic 126, 3) := dk_184 0 126 (dk_at dksX9_falsely_0 11 rfl rfl)
theorem dX9_falsely_14 : decode cX9_falsely 14 = .ok (.ifCond .ne 7, 3) := dk_154 0 7 (dk_at dksX9_falsely_0 14 rfl rfl)
theorem dX9_falsely_17 : decode cX9_falsely 17 = .ok (.iconst 1, 1) := dk_4 (dk_at dksX9_falsely_0 17 rfl rfl)
theorem dX9_falsely_18 : decode cX9_falsely 18 = .ok (.goto 4, 3) := dk_167 0 4 (dk_at dksX9_falsely_0 18 rfl rfl)
theorem dX9_falsely_21 : decode cX9_falsely 21 = .ok (.iconst 0, 1) := dk_3 (dk_at dksX9_falsely_0 21 rfl rfl)
theorem dX9_falsely_22 : decode cX9_falsely 22 = .ok (.iconst 1, 1) := dk_4 (dk_at dksX9_falsely_0 22 rfl rfl)
theorem dX9_falsely_23 : decode cX9_falsely 23 = .ok (.iconst 1, 1) := dk_4 (dk_at dksX9_falsely_0 23 rfl rfl)
theorem dX9_falsely_24 : decode cX9_falsely 24 = .ok (.invokevirtual 171, 3) := dk_182 0 171 (dk_at dksX9_falsely_1 0 rfl rfl)
theorem dX9_falsely_27 : decode cX9_falsely 27 = .ok (.ifCond .eq 5, 3) := dk_153 0 5 (dk_at dksX9_falsely_1 3 rfl rfl)
theorem dX9_falsely_30 : decode cX9_falsely 30 = .ok (.iconst 0, 1) := dk_3 (dk_at dksX9_falsely_1 6 rfl rfl)
theorem dX9_falsely_31 : decode cX9_falsely 31 = .ok (.ireturn, 1) := dk_172 (dk_at dksX9_falsely_1 7 rfl rfl)
theorem dX9_falsely_32 : decode cX9_falsely 32 = .ok (.iconst 2, 1) := dk_5 (dk_at dksX9_falsely_1 8 rfl rfl)
theorem dX9_falsely_33 : decode cX9_falsely 33 = .ok (.istore_n 2, 1) := dk_61 (dk_at dksX9_falsely_1 9 rfl rfl)
theorem dX9_falsely_34 : decode cX9_falsely 34 = .ok (.bipush 9, 2) := dk_16 9 (dk_at dksX9_falsely_1 10 rfl rfl)
theorem dX9_falsely_36 : decode cX9_falsely 36 = .ok (.istore_n 3, 1) := dk_62 (dk_at dksX9_falsely_1 12 rfl rfl)
theorem dX9_falsely_37 : decode cX9_falsely 37 = .ok (.iload_n 3, 1) := dk_29 (dk_at dksX9_falsely_1 13 rfl rfl)
theorem dX9_falsely_38 : decode cX9_falsely 38 = .ok (.iconst 3, 1) := dk_6 (dk_at dksX9_falsely_1 14 rfl rfl)
theorem dX9_falsely_39 : decode cX9_falsely 39 = .ok (.isub, 1) := dk_100 (dk_at dksX9_falsely_1 15 rfl rfl)
theorem dX9_falsely_40 : decode cX9_falsely 40 = .ok (.iconst 2, 1) := dk_5 (dk_at dksX9_falsely_1 16 rfl rfl)
theorem dX9_falsely_41 : decode cX9_falsely 41 = .ok (.idiv, 1) := dk_108 (dk_at dksX9_falsely_1 17 rfl rfl)
theorem dX9_falsely_42 : decode cX9_falsely 42 = .ok (.iload_n 1, 1) := dk_27 (dk_at dksX9_falsely_1 18 rfl rfl)
theorem dX9_falsely_43 : decode cX9_falsely 43 = .ok (.if_icmp .ge 13, 3) := dk_162 0 13 (dk_at dksX9_falsely_1 19 rfl rfl)
theorem dX9_falsely_46 : decode cX9_falsely 46 = .ok (.iinc 2 1, 3) := dk_132 2 1 (dk_at dksX9_falsely_2 0 rfl rfl)
theorem dX9_falsely_49 : decode cX9_falsely 49 = .ok (.iload_n 3, 1) := dk_29 (dk_at dksX9_falsely_2 3 rfl rfl)
theorem dX9_falsely_50 : decode cX9_falsely 50 = .ok (.iconst 3, 1) := dk_6 (dk_at dksX9_falsely_2 4 rfl rfl)
theorem dX9_falsely_51 : decode cX9_falsely 51 = .ok (.imul, 1) := dk_104 (dk_at dksX9_falsely_2 5 rfl rfl)
theorem dX9_falsely_52 : decode cX9_falsely 52 = .ok (.istore_n 3, 1) := dk_62 (dk_at dksX9_falsely_2 6 rfl rfl)
theorem dX9_falsely_53 : decode cX9_falsely 53 = .ok (.goto (-16), 3) := dk_167 255 240 (dk_at dksX9_falsely_2 7 rfl rfl)
theorem dX9_falsely_56 : decode cX9_falsely 56 = .ok (.iload_n 1, 1) := dk_27 (dk_at dksX9_falsely_2 10 rfl rfl)
theorem dX9_falsely_57 : decode cX9_falsely 57 = .ok (.iconst 3, 1) := dk_6 (dk_at dksX9_falsely_2 11 rfl rfl)
theorem dX9_falsely_58 : decode cX9_falsely 58 = .ok (.if_icmp .ge 7, 3) := dk_162 0 7 (dk_at dksX9_falsely_2 12 rfl rfl)
theorem dX9_falsely_61 : decode cX9_falsely 61 = .ok (.iconst (-1), 1) := dk_2 (dk_at dksX9_falsely_2 15 rfl rfl)
theorem dX9_falsely_62 : decode cX9_falsely 62 = .ok (.goto 4, 3) := dk_167 0 4 (dk_at dksX9_falsely_2 16 rfl rfl)
theorem dX9_falsely_65 : decode cX9_falsely 65 = .ok (.iload_n 2, 1) := dk_28 (dk_at dksX9_falsely_2 19 rfl rfl)
theorem dX9_falsely_66 : decode cX9_falsely 66 = .ok (.ireturn, 1) := dk_172 (dk_at dksX9_falsely_2 20 rfl rfl)
def dkwX9_sellers_8 : List UInt8 := [21, 5, 167, 0, 5, 21, 6, 172]
abbrev dktX9_sellers_8 : List UInt8 := dkwX9_sellers_8 ++ []
def dkwX9_sellers_7 : List UInt8 := [167, 255, 166, 132, 7, 1, 167, 255, 151, 29, 154, 0, 8, 21, 4, 167, 0, 15, 29, 4, 160, 0, 8]
abbrev dktX9_sellers_7 : List UInt8 := dkwX9_sellers_7 ++ dktX9_sellers_8
def dkwX9_sellers_6 : List UInt8 := [154, 0, 14, 16, 10, 21, 7, 104, 21, 8, 96, 167, 0, 5, 21, 5, 54, 5, 132, 4, 1, 132, 8, 1]
abbrev dktX9_sellers_6 : List UInt8 := dkwX9_sellers_6 ++ dktX9_sellers_7
def dkwX9_sellers_5 : List UInt8 := [184, 1, 138, 21, 8, 21, 7, 27, 28, 184, 1, 138, 96, 167, 0, 5, 21, 6, 54, 6, 21, 4]
abbrev dktX9_sellers_5 : List UInt8 := dkwX9_sellers_5 ++ dktX9_sellers_6
def dkwX9_sellers_4 : List UInt8 := [27, 28, 184, 1, 141, 154, 0, 6, 167, 0, 57, 21, 4, 154, 0, 25, 21, 7, 21, 8, 27, 28]
abbrev dktX9_sellers_4 : List UInt8 := dkwX9_sellers_4 ++ dktX9_sellers_5
def dkwX9_sellers_3 : List UInt8 := [54, 8, 21, 8, 5, 162, 0, 90, 21, 7, 21, 8, 27, 28, 184, 1, 141, 153, 0, 72, 21, 8, 21, 7]
abbrev dktX9_sellers_3 : List UInt8 := dkwX9_sellers_3 ++ dktX9_sellers_4
def dkwX9_sellers_2 : List UInt8 := [153, 0, 5, 3, 172, 3, 54, 4, 2, 54, 5, 3, 54, 6, 3, 54, 7, 21, 7, 5, 162, 0, 105, 3]
abbrev dktX9_sellers_2 : List UInt8 := dkwX9_sellers_2 ++ dktX9_sellers_3
def dkwX9_sellers_1 : List UInt8 := [153, 0, 12, 29, 3, 5, 184, 0, 126, 154, 0, 7, 4, 167, 0, 4, 3, 4, 4, 182, 0, 171]
abbrev dktX9_sellers_1 : List UInt8 := dkwX9_sellers_1 ++ dktX9_sellers_2
def dkwX9_sellers_0 : List UInt8 := [42, 3, 181, 0, 92, 42, 27, 3, 16, 99, 184, 0, 126, 153, 0, 22, 28, 3, 16, 99, 184, 0, 126]
abbrev dktX9_sellers_0 : List UInt8 := dkwX9_sellers_0 ++ dktX9_sellers_1
theorem dksX9_sellers_0 : cX9_sellers.data.toList.drop 0 = dktX9_sellers_0 := by decide +kernel
theorem dksX9_sellers_1 : cX9_sellers.data.toList.drop 23 = dktX9_sellers_1 := dk_seg dksX9_sellers_0 23 rfl rfl
theorem dksX9_sellers_2 : cX9_sellers.data.toList.drop 45 = dktX9_sellers_2 := dk_seg dksX9_sellers_1 22 rfl rfl
theorem dksX9_sellers_3 : cX9_sellers.data.toList.drop 69 = dktX9_sellers_3 := dk_seg dksX9_sellers_2 24 rfl rfl
theorem dksX9_sellers_4 : cX9_sellers.data.toList.drop 93 = dktX9_sellers_4 := dk_seg dksX9_sellers_3 24 rfl rfl
theorem dksX9_sellers_5 : cX9_sellers.data.toList.drop 115 = dktX9_sellers_5 := dk_seg dksX9_sellers_4 22 rfl rfl
theorem dksX9_sellers_6 : cX9_sellers.data.toList.drop 137 = dktX9_sellers_6 := dk_seg dksX9_sellers_5 22 rfl rfl
theorem dksX9_sellers_7 : cX9_sellers.data.toList.drop 161 = dktX9_sellers_7 := dk_seg dksX9_sellers_6 24 rfl rfl
theorem dksX9_sellers_8 : cX9_sellers.data.toList.drop 184 = dktX9_sellers_8 := dk_seg dksX9_sellers_7 23 rfl rfl
theorem dX9_sellers_0 : decode cX9_sellers 0 = .ok (.aload_n 0, 1) := dk_42 (dk_at dksX9_sellers_0 0 rfl rfl)
theorem dX9_sellers_1 : decode cX9_sellers 1 = .ok (.iconst 0, 1) := dk_3 (dk_at dksX9_sellers_0 1 rfl rfl)
theorem dX9_sellers_2 : decode cX9_sellers 2 = .ok (.putfield 92, 3) := dk_181 0 92 (dk_at dksX9_sellers_0 2 rfl rfl)
theorem dX9_sellers_5 : decode cX9_sellers 5 = .ok (.aload_n 0, 1) := dk_42 (dk_at dksX9_sellers_0 5 rfl rfl)
theorem dX9_sellers_6 : decode cX9_sellers 6 = .ok (.iload_n 1, 1) := dk_27 (dk_at dksX9_sellers_0 6 rfl rfl)
theorem dX9_sellers_7 : decode cX9_sellers 7 = .ok (.iconst 0, 1) := dk_3 (dk_at dksX9_sellers_0 7 rfl rfl)
theorem dX9_sellers_8 : decode cX9_sellers 8 = .ok (.bipush 99, 2) := dk_16 99 (dk_at dksX9_sellers_0 8 rfl rfl)
theorem dX9_sellers_10 : decode cX9_sellers 10 = .ok (.invokestatic 126, 3) := dk_184 0 126 (dk_at dksX9_sellers_0 10 rfl rfl)
theorem dX9_sellers_13 : decode cX9_sellers 13 = .ok (.ifCond .eq 22, 3) := dk_153 0 22 (dk_at dksX9_sellers_0 13 rfl rfl)
theorem dX9_sellers_16 : decode cX9_sellers 16 = .ok (.iload_n 2, 1) := dk_28 (dk_at dksX9_sellers_0 16 rfl rfl)
theorem dX9_sellers_17 : decode cX9_sellers 17 = .ok (.iconst 0, 1) := dk_3 (dk_at dksX9_sellers_0 17 rfl rfl)
theorem dX9_sellers_18 : decode cX9_sellers 18 = .ok (.bipush 99, 2) := dk_16 99 (dk_at dksX9_sellers_0 18 rfl rfl)
theorem dX9_sellers_20 : decode cX9_sellers 20 = .ok (.invokestatic 126, 3) := dk_184 0 126 (dk_at dksX9_sellers_0 20 rfl rfl)
theorem dX9_sellers_23 : decode cX9_sellers 23 = .ok (.ifCond .eq 12, 3) := dk_153 0 12 (dk_at dksX9_sellers_1 0 rfl rfl)
theorem dX9_sellers_26 : decode cX9_sellers 26 = .ok (.iload_n 3, 1) := dk_29 (dk_at dksX9_sellers_1 3 rfl rfl)
theorem dX9_sellers_27 : decode cX9_sellers 27 = .ok (.iconst 0, 1) := dk_3 (dk_at dksX9_sellers_1 4 rfl rfl)
theorem dX9_sellers_28 : decode cX9_sellers 28 = .ok (.iconst 2, 1) := dk_5 (dk_at dksX9_sellers_1 5 rfl rfl)
theorem dX9_sellers_29 : decode cX9_sellers 29 = .ok (.invokestatic 126, 3) := dk_184 0 126 (dk_at dksX9_sellers_1 6 rfl rfl)
theorem dX9_sellers_32 : decode cX9_sellers 32 = .ok (.ifCond .ne 7, 3) := dk_154 0 7 (dk_at dksX9_sellers_1 9 rfl rfl)
theorem dX9_sellers_35 : decode cX9_sellers 35 = .ok (.iconst 1, 1) := dk_4 (dk_at dksX9_sellers_1 12 rfl rfl)
theorem dX9_sellers_36 : decode cX9_sellers 36 = .ok (.goto 4, 3) := dk_167 0 4 (dk_at dksX9_sellers_1 13 rfl rfl)
theorem dX9_sellers_39 : decode cX9_sellers 39 = .ok (.iconst 0, 1) := dk_3 (dk_at dksX9_sellers_1 16 rfl rfl)
theorem dX9_sellers_40 : decode cX9_sellers 40 = .ok (.iconst 1, 1) := dk_4 (dk_at dksX9_sellers_1 17 rfl rfl)
theorem dX9_sellers_41 : decode cX9_sellers 41 = .ok (.iconst 1, 1) := dk_4 (dk_at dksX9_sellers_1 18 rfl rfl)
theorem dX9_sellers_42 : decode cX9_sellers 42 = .ok (.invokevirtual 171, 3) := dk_182 0 171 (dk_at dksX9_sellers_1 19 rfl rfl)
theorem dX9_sellers_45 : decode cX9_sellers 45 = .ok (.ifCond .eq 5, 3) := dk_153 0 5 (dk_at dksX9_sellers_2 0 rfl rfl)
theorem dX9_sellers_48 : decode cX9_sellers 48 = .ok (.iconst 0, 1) := dk_3 (dk_at dksX9_sellers_2 3 rfl rfl)
theorem dX9_sellers_49 : decode cX9_sellers 49 = .ok (.ireturn, 1) := dk_172 (dk_at dksX9_sellers_2 4 rfl rfl)
theorem dX9_sellers_50 : decode cX9_sellers 50 = .ok (.iconst 0, 1) := dk_3 (dk_at dksX9_sellers_2 5 rfl rfl)
theorem dX9_sellers_51 : decode cX9_sellers 51 = .ok (.istore 4, 2) := dk_54 4 (dk_at dksX9_sellers_2 6 rfl rfl)
theorem dX9_sellers_53 : decode cX9_sellers 53 = .ok (.iconst (-1), 1) := dk_2 (dk_at dksX9_sellers_2 8 rfl rfl)
theorem dX9_sellers_54 : decode cX9_sellers 54 = .ok (.istore 5, 2) := dk_54 5 (dk_at dksX9_sellers_2 9 rfl rfl)
theorem dX9_sellers_56 : decode cX9_sellers 56 = .ok (.iconst 0, 1) := dk_3 (dk_at dksX9_sellers_2 11 rfl rfl)
theorem dX9_sellers_57 : decode cX9_sellers 57 = .ok (.istore 6, 2) := dk_54 6 (dk_at dksX9_sellers_2 12 rfl rfl)
theorem dX9_sellers_59 : decode cX9_sellers 59 = .ok (.iconst 0, 1) := dk_3 (dk_at dksX9_sellers_2 14 rfl rfl)
theorem dX9_sellers_60 : decode cX9_sellers 60 = .ok (.istore 7, 2) := dk_54 7 (dk_at dksX9_sellers_2 15 rfl rfl)
theorem dX9_sellers_62 : decode cX9_sellers 62 = .ok (.iload 7, 2) := dk_21 7 (dk_at dksX9_sellers_2 17 rfl rfl)
theorem dX9_sellers_64 : decode cX9_sellers 64 = .ok (.iconst 2, 1) := dk_5 (dk_at dksX9_sellers_2 19 rfl rfl)
theorem dX9_sellers_65 : decode cX9_sellers 65 = .ok (.if_icmp .ge 105, 3) := dk_162 0 105 (dk_at dksX9_sellers_2 20 rfl rfl)
theorem dX9_sellers_68 : decode cX9_sellers 68 = .ok (.iconst 0, 1) := dk_3 (dk_at dksX9_sellers_2 23 rfl rfl)
theorem dX9_sellers_69 : decode cX9_sellers 69 = .ok (.istore 8, 2) := dk_54 8 (dk_at dksX9_sellers_3 0 rfl rfl)
theorem dX9_sellers_71 : decode cX9_sellers 71 = .ok (.iload 8, 2) := dk_21 8 (dk_at dksX9_sellers_3 2 rfl rfl)
theorem dX9_sellers_73 : decode cX9_sellers 73 = .ok (.iconst 2, 1) := dk_5 (dk_at dksX9_sellers_3 4 rfl rfl)
theorem dX9_sellers_74 : decode cX9_sellers 74 = .ok (.if_icmp .ge 90, 3) := dk_162 0 90 (dk_at dksX9_sellers_3 5 rfl rfl)
theorem dX9_sellers_77 : decode cX9_sellers 77 = .ok (.iload 7, 2) := dk_21 7 (dk_at dksX9_sellers_3 8 rfl rfl)
theorem dX9_sellers_79 : decode cX9_sellers 79 = .ok (.iload 8, 2) := dk_21 8 (dk_at dksX9_sellers_3 10 rfl rfl)
theorem dX9_sellers_81 : decode cX9_sellers 81 = .ok (.iload_n 1, 1) := dk_27 (dk_at dksX9_sellers_3 12 rfl rfl)
theorem dX9_sellers_82 : decode cX9_sellers 82 = .ok (.iload_n 2, 1) := dk_28 (dk_at dksX9_sellers_3 13 rfl rfl)
theorem dX9_sellers_83 : decode cX9_sellers 83 = .ok (.invokestatic 397, 3) := dk_184 1 141 (dk_at dksX9_sellers_3 14 rfl rfl)
theorem dX9_sellers_86 : decode cX9_sellers 86 = .ok (.ifCond .eq 72, 3) := dk_153 0 72 (dk_at dksX9_sellers_3 17 rfl rfl)
theorem dX9_sellers_89 : decode cX9_sellers 89 = .ok (.iload 8, 2) := dk_21 8 (dk_at dksX9_sellers_3 20 rfl rfl)
theorem dX9_sellers_91 : decode cX9_sellers 91 = .ok (.iload 7, 2) := dk_21 7 (dk_at dksX9_sellers_3 22 rfl rfl)
theorem dX9_sellers_93 : decode cX9_sellers 93 = .ok (.iload_n 1, 1) := dk_27 (dk_at dksX9_sellers_4 0 rfl rfl)
theorem dX9_sellers_94 : decode cX9_sellers 94 = .ok (.iload_n 2, 1) := dk_28 (dk_at dksX9_sellers_4 1 rfl rfl)
theorem dX9_sellers_95 : decode cX9_sellers 95 = .ok (.invokestatic 397, 3) := dk_184 1 141 (dk_at dksX9_sellers_4 2 rfl rfl)
theorem dX9_sellers_98 : decode cX9_sellers 98 = .ok (.ifCond .ne 6, 3) := dk_154 0 6 (dk_at dksX9_sellers_4 5 rfl rfl)
theorem dX9_sellers_101 : decode cX9_sellers 101 = .ok (.goto 57, 3) := dk_167 0 57 (dk_at dksX9_sellers_4 8 rfl rfl)
theorem dX9_sellers_104 : decode cX9_sellers 104 = .ok (.iload 4, 2) := dk_21 4 (dk_at dksX9_sellers_4 11 rfl rfl)
theorem dX9_sellers_106 : decode cX9_sellers 106 = .ok (.ifCond .ne 25, 3) := dk_154 0 25 (dk_at dksX9_sellers_4 13 rfl rfl)
theorem dX9_sellers_109 : decode cX9_sellers 109 = .ok (.iload 7, 2) := dk_21 7 (dk_at dksX9_sellers_4 16 rfl rfl)
theorem dX9_sellers_111 : decode cX9_sellers 111 = .ok (.iload 8, 2) := dk_21 8 (dk_at dksX9_sellers_4 18 rfl rfl)
theorem dX9_sellers_113 : decode cX9_sellers 113 = .ok (.iload_n 1, 1) := dk_27 (dk_at dksX9_sellers_4 20 rfl rfl)
theorem dX9_sellers_114 : decode cX9_sellers 114 = .ok (.iload_n 2, 1) := dk_28 (dk_at dksX9_sellers_4 21 rfl rfl)
theorem dX9_sellers_115 : decode cX9_sellers 115 = .ok (.invokestatic 394, 3) := dk_184 1 138 (dk_at dksX9_sellers_5 0 rfl rfl)
theorem dX9_sellers_118 : decode cX9_sellers 118 = .ok (.iload 8, 2) := dk_21 8 (dk_at dksX9_sellers_5 3 rfl rfl)
theorem dX9_sellers_120 : decode cX9_sellers 120 = .ok (.iload 7, 2) := dk_21 7 (dk_at dksX9_sellers_5 5 rfl rfl)
theorem dX9_sellers_122 : decode cX9_sellers 122 = .ok (.iload_n 1, 1) := dk_27 (dk_at dksX9_sellers_5 7 rfl rfl)
theorem dX9_sellers_123 : decode cX9_sellers 123 = .ok (.iload_n 2, 1) := dk_28 (dk_at dksX9_sellers_5 8 rfl rfl)
theorem dX9_sellers_124 : decode cX9_sellers 124 = .ok (.invokestatic 394, 3) := dk_184 1 138 (dk_at dksX9_sellers_5 9 rfl rfl)
theorem dX9_sellers_127 : decode cX9_sellers 127 = .ok (.iadd, 1) := dk_96 (dk_at dksX9_sellers_5 12 rfl rfl)
theorem dX9_sellers_128 : decode cX9_sellers 128 = .ok (.goto 5, 3) := dk_167 0 5 (dk_at dksX9_sellers_5 13 rfl rfl)
theorem dX9_sellers_131 : decode cX9_sellers 131 = .ok (.iload 6, 2) := dk_21 6 (dk_at dksX9_sellers_5 16 rfl rfl)
theorem dX9_sellers_133 : decode cX9_sellers 133 = .ok (.istore 6, 2) := dk_54 6 (dk_at dksX9_sellers_5 18 rfl rfl)
theorem dX9_sellers_135 : decode cX9_sellers 135 = .ok (.iload 4, 2) := dk_21 4 (dk_at dksX9_sellers_5 20 rfl rfl)
theorem dX9_sellers_137 : decode cX9_sellers 137 = .ok (.ifCond .ne 14, 3) := dk_154 0 14 (dk_at dksX9_sellers_6 0 rfl rfl)
theorem dX9_sellers_140 : decode cX9_sellers 140 = .ok (.bipush 10, 2) := dk_16 10 (dk_at dksX9_sellers_6 3 rfl rfl)
theorem dX9_sellers_142 : decode cX9_sellers 142 = .ok (.iload 7, 2) := dk_21 7 (dk_at dksX9_sellers_6 5 rfl rfl)
theorem dX9_sellers_144 : decode cX9_sellers 144 = .ok (.imul, 1) := dk_104 (dk_at dksX9_sellers_6 7 rfl rfl)
theorem dX9_sellers_145 : decode cX9_sellers 145 = .ok (.iload 8, 2) := dk_21 8 (dk_at dksX9_sellers_6 8 rfl rfl)
theorem dX9_sellers_147 : decode cX9_sellers 147 = .ok (.iadd, 1) := dk_96 (dk_at dksX9_sellers_6 10 rfl rfl)
theorem dX9_sellers_148 : decode cX9_sellers 148 = .ok (.goto 5, 3) := dk_167 0 5 (dk_at dksX9_sellers_6 11 rfl rfl)
theorem dX9_sellers_151 : decode cX9_sellers 151 = .ok (.iload 5, 2) := dk_21 5 (dk_at dksX9_sellers_6 14 rfl rfl)
theorem dX9_sellers_153 : decode cX9_sellers 153 = .ok (.istore 5, 2) := dk_54 5 (dk_at dksX9_sellers_6 16 rfl rfl)
theorem dX9_sellers_155 : decode cX9_sellers 155 = .ok (.iinc 4 1, 3) := dk_132 4 1 (dk_at dksX9_sellers_6 18 rfl rfl)
theorem dX9_sellers_158 : decode cX9_sellers 158 = .ok (.iinc 8 1, 3) := dk_132 8 1 (dk_at dksX9_sellers_6 21 rfl rfl)
theorem dX9_sellers_161 : decode cX9_sellers 161 = .ok (.goto (-90), 3) := dk_167 255 166 (dk_at dksX9_sellers_7 0 rfl rfl)
theorem dX9_sellers_164 : decode cX9_sellers 164 = .ok (.iinc 7 1, 3) := dk_132 7 1 (dk_at dksX9_sellers_7 3 rfl rfl)
theorem dX9_sellers_167 : decode cX9_sellers 167 = .ok (.goto (-105), 3) := dk_167 255 151 (dk_at dksX9_sellers_7 6 rfl rfl)
theorem dX9_sellers_170 : decode cX9_sellers 170 = .ok (.iload_n 3, 1) := dk_29 (dk_at dksX9_sellers_7 9 rfl rfl)
theorem dX9_sellers_171 : decode cX9_sellers 171 = .ok (.ifCond .ne 8, 3) := dk_154 0 8 (dk_at dksX9_sellers_7 10 rfl rfl)
theorem dX9_sellers_174 : decode cX9_sellers 174 = .ok (.iload 4, 2) := dk_21 4 (dk_at dksX9_sellers_7 13 rfl rfl)
theorem dX9_sellers_176 : decode cX9_sellers 176 = .ok (.goto 15, 3) := dk_167 0 15 (dk_at dksX9_sellers_7 15 rfl rfl)
theorem dX9_sellers_179 : decode cX9_sellers 179 = .ok (.iload_n 3, 1) := dk_29 (dk_at dksX9_sellers_7 18 rfl rfl)
theorem dX9_sellers_180 : decode cX9_sellers 180 = .ok (.iconst 1, 1) := dk_4 (dk_at dksX9_sellers_7 19 rfl rfl)
theorem dX9_sellers_181 : decode cX9_sellers 181 = .ok (.if_icmp .ne 8, 3) := dk_160 0 8 (dk_at dksX9_sellers_7 20 rfl rfl)
theorem dX9_sellers_184 : decode cX9_sellers 184 = .ok (.iload 5, 2) := dk_21 5 (dk_at dksX9_sellers_8 0 rfl rfl)
theorem dX9_sellers_186 : decode cX9_sellers 186 = .ok (.goto 5, 3) := dk_167 0 5 (dk_at dksX9_sellers_8 2 rfl rfl)
theorem dX9_sellers_189 : decode cX9_sellers 189 = .ok (.iload 6, 2) := dk_21 6 (dk_at dksX9_sellers_8 5 rfl rfl)
theorem dX9_sellers_191 : decode cX9_sellers 191 = .ok (.ireturn, 1) := dk_172 (dk_at dksX9_sellers_8 7 rfl rfl)
def dkwX9_isBest_1 : List UInt8 := [172]
abbrev dktX9_isBest_1 : List UInt8 := dkwX9_isBest_1 ++ []
def dkwX9_isBest_0 : List UInt8 := [26, 27, 28, 29, 184, 1, 138, 4, 26, 100, 27, 28, 29, 184, 1, 138, 161, 0, 7, 4, 167, 0, 4, 3]
abbrev dktX9_isBest_0 : List UInt8 := dkwX9_isBest_0 ++ dktX9_isBest_1
theorem dksX9_isBest_0 : cX9_isBest.data.toList.drop 0 = dktX9_isBest_0 := by decide +kernel
theorem dksX9_isBest_1 : cX9_isBest.data.toList.drop 24 = dktX9_isBest_1 := dk_seg dksX9_isBest_0 24 rfl rfl
theorem dX9_isBest_0 : decode cX9_isBest 0 = .ok (.iload_n 0, 1) := dk_26 (dk_at dksX9_isBest_0 0 rfl rfl)
theorem dX9_isBest_1 : decode cX9_isBest 1 = .ok (.iload_n 1, 1) := dk_27 (dk_at dksX9_isBest_0 1 rfl rfl)
theorem dX9_isBest_2 : decode cX9_isBest 2 = .ok (.iload_n 2, 1) := dk_28 (dk_at dksX9_isBest_0 2 rfl rfl)
theorem dX9_isBest_3 : decode cX9_isBest 3 = .ok (.iload_n 3, 1) := dk_29 (dk_at dksX9_isBest_0 3 rfl rfl)
theorem dX9_isBest_4 : decode cX9_isBest 4 = .ok (.invokestatic 394, 3) := dk_184 1 138 (dk_at dksX9_isBest_0 4 rfl rfl)
theorem dX9_isBest_7 : decode cX9_isBest 7 = .ok (.iconst 1, 1) := dk_4 (dk_at dksX9_isBest_0 7 rfl rfl)
theorem dX9_isBest_8 : decode cX9_isBest 8 = .ok (.iload_n 0, 1) := dk_26 (dk_at dksX9_isBest_0 8 rfl rfl)
theorem dX9_isBest_9 : decode cX9_isBest 9 = .ok (.isub, 1) := dk_100 (dk_at dksX9_isBest_0 9 rfl rfl)
theorem dX9_isBest_10 : decode cX9_isBest 10 = .ok (.iload_n 1, 1) := dk_27 (dk_at dksX9_isBest_0 10 rfl rfl)
theorem dX9_isBest_11 : decode cX9_isBest 11 = .ok (.iload_n 2, 1) := dk_28 (dk_at dksX9_isBest_0 11 rfl rfl)
theorem dX9_isBest_12 : decode cX9_isBest 12 = .ok (.iload_n 3, 1) := dk_29 (dk_at dksX9_isBest_0 12 rfl rfl)
theorem dX9_isBest_13 : decode cX9_isBest 13 = .ok (.invokestatic 394, 3) := dk_184 1 138 (dk_at dksX9_isBest_0 13 rfl rfl)
theorem dX9_isBest_16 : decode cX9_isBest 16 = .ok (.if_icmp .lt 7, 3) := dk_161 0 7 (dk_at dksX9_isBest_0 16 rfl rfl)
theorem dX9_isBest_19 : decode cX9_isBest 19 = .ok (.iconst 1, 1) := dk_4 (dk_at dksX9_isBest_0 19 rfl rfl)
theorem dX9_isBest_20 : decode cX9_isBest 20 = .ok (.goto 4, 3) := dk_167 0 4 (dk_at dksX9_isBest_0 20 rfl rfl)
theorem dX9_isBest_23 : decode cX9_isBest 23 = .ok (.iconst 0, 1) := dk_3 (dk_at dksX9_isBest_0 23 rfl rfl)
theorem dX9_isBest_24 : decode cX9_isBest 24 = .ok (.ireturn, 1) := dk_172 (dk_at dksX9_isBest_1 0 rfl rfl)
def dkwX9_hasBy_1 : List UInt8 := [2, 172]
abbrev dktX9_hasBy_1 : List UInt8 := dkwX9_hasBy_1 ++ []
def dkwX9_hasBy_0 : List UInt8 := [26, 154, 0, 15, 27, 154, 0, 7, 28, 167, 0, 16, 3, 167, 0, 12, 27, 154, 0, 7, 29, 167, 0, 4]
abbrev dktX9_hasBy_0 : List UInt8 := dkwX9_hasBy_0 ++ dktX9_hasBy_1
theorem dksX9_hasBy_0 : cX9_hasBy.data.toList.drop 0 = dktX9_hasBy_0 := by decide +kernel
theorem dksX9_hasBy_1 : cX9_hasBy.data.toList.drop 24 = dktX9_hasBy_1 := dk_seg dksX9_hasBy_0 24 rfl rfl
theorem dX9_hasBy_0 : decode cX9_hasBy 0 = .ok (.iload_n 0, 1) := dk_26 (dk_at dksX9_hasBy_0 0 rfl rfl)
theorem dX9_hasBy_1 : decode cX9_hasBy 1 = .ok (.ifCond .ne 15, 3) := dk_154 0 15 (dk_at dksX9_hasBy_0 1 rfl rfl)
theorem dX9_hasBy_4 : decode cX9_hasBy 4 = .ok (.iload_n 1, 1) := dk_27 (dk_at dksX9_hasBy_0 4 rfl rfl)
theorem dX9_hasBy_5 : decode cX9_hasBy 5 = .ok (.ifCond .ne 7, 3) := dk_154 0 7 (dk_at dksX9_hasBy_0 5 rfl rfl)
theorem dX9_hasBy_8 : decode cX9_hasBy 8 = .ok (.iload_n 2, 1) := dk_28 (dk_at dksX9_hasBy_0 8 rfl rfl)
theorem dX9_hasBy_9 : decode cX9_hasBy 9 = .ok (.goto 16, 3) := dk_167 0 16 (dk_at dksX9_hasBy_0 9 rfl rfl)
theorem dX9_hasBy_12 : decode cX9_hasBy 12 = .ok (.iconst 0, 1) := dk_3 (dk_at dksX9_hasBy_0 12 rfl rfl)
theorem dX9_hasBy_13 : decode cX9_hasBy 13 = .ok (.goto 12, 3) := dk_167 0 12 (dk_at dksX9_hasBy_0 13 rfl rfl)
theorem dX9_hasBy_16 : decode cX9_hasBy 16 = .ok (.iload_n 1, 1) := dk_27 (dk_at dksX9_hasBy_0 16 rfl rfl)
theorem dX9_hasBy_17 : decode cX9_hasBy 17 = .ok (.ifCond .ne 7, 3) := dk_154 0 7 (dk_at dksX9_hasBy_0 17 rfl rfl)
theorem dX9_hasBy_20 : decode cX9_hasBy 20 = .ok (.iload_n 3, 1) := dk_29 (dk_at dksX9_hasBy_0 20 rfl rfl)
theorem dX9_hasBy_21 : decode cX9_hasBy 21 = .ok (.goto 4, 3) := dk_167 0 4 (dk_at dksX9_hasBy_0 21 rfl rfl)
theorem dX9_hasBy_24 : decode cX9_hasBy 24 = .ok (.iconst (-1), 1) := dk_2 (dk_at dksX9_hasBy_1 0 rfl rfl)
theorem dX9_hasBy_25 : decode cX9_hasBy 25 = .ok (.ireturn, 1) := dk_172 (dk_at dksX9_hasBy_1 1 rfl rfl)
def dkwX9_even_5 : List UInt8 := [133, 105, 55, 4, 132, 7, 1, 167, 255, 234, 22, 4, 10, 7, 27, 104, 121, 29, 184, 1, 106, 173]
abbrev dktX9_even_5 : List UInt8 := dkwX9_even_5 ++ []
def dkwX9_even_4 : List UInt8 := [132, 7, 1, 167, 255, 231, 3, 54, 7, 21, 7, 21, 6, 162, 0, 21, 22, 4, 28, 16, 16, 28, 100, 104]
abbrev dktX9_even_4 : List UInt8 := dkwX9_even_4 ++ dktX9_even_5
def dkwX9_even_3 : List UInt8 := [54, 7, 21, 7, 21, 6, 163, 0, 24, 22, 4, 21, 6, 21, 7, 96, 133, 105, 21, 7, 133, 109, 55, 4]
abbrev dktX9_even_3 : List UInt8 := dkwX9_even_3 ++ dktX9_even_4
def dkwX9_even_2 : List UInt8 := [153, 0, 5, 9, 173, 27, 5, 112, 154, 0, 7, 10, 167, 0, 4, 9, 55, 4, 27, 5, 108, 54, 6, 4]
abbrev dktX9_even_2 : List UInt8 := dkwX9_even_2 ++ dktX9_even_3
def dkwX9_even_1 : List UInt8 := [153, 0, 12, 29, 3, 4, 184, 0, 126, 154, 0, 7, 4, 167, 0, 4, 3, 4, 4, 182, 0, 171]
abbrev dktX9_even_1 : List UInt8 := dkwX9_even_1 ++ dktX9_even_2
def dkwX9_even_0 : List UInt8 := [42, 3, 181, 0, 92, 42, 27, 3, 16, 12, 184, 0, 126, 153, 0, 22, 28, 3, 16, 16, 184, 0, 126]
abbrev dktX9_even_0 : List UInt8 := dkwX9_even_0 ++ dktX9_even_1
theorem dksX9_even_0 : cX9_even.data.toList.drop 0 = dktX9_even_0 := by decide +kernel
theorem dksX9_even_1 : cX9_even.data.toList.drop 23 = dktX9_even_1 := dk_seg dksX9_even_0 23 rfl rfl
theorem dksX9_even_2 : cX9_even.data.toList.drop 45 = dktX9_even_2 := dk_seg dksX9_even_1 22 rfl rfl
theorem dksX9_even_3 : cX9_even.data.toList.drop 69 = dktX9_even_3 := dk_seg dksX9_even_2 24 rfl rfl
theorem dksX9_even_4 : cX9_even.data.toList.drop 93 = dktX9_even_4 := dk_seg dksX9_even_3 24 rfl rfl
theorem dksX9_even_5 : cX9_even.data.toList.drop 117 = dktX9_even_5 := dk_seg dksX9_even_4 24 rfl rfl
theorem dX9_even_0 : decode cX9_even 0 = .ok (.aload_n 0, 1) := dk_42 (dk_at dksX9_even_0 0 rfl rfl)
theorem dX9_even_1 : decode cX9_even 1 = .ok (.iconst 0, 1) := dk_3 (dk_at dksX9_even_0 1 rfl rfl)
theorem dX9_even_2 : decode cX9_even 2 = .ok (.putfield 92, 3) := dk_181 0 92 (dk_at dksX9_even_0 2 rfl rfl)
theorem dX9_even_5 : decode cX9_even 5 = .ok (.aload_n 0, 1) := dk_42 (dk_at dksX9_even_0 5 rfl rfl)
theorem dX9_even_6 : decode cX9_even 6 = .ok (.iload_n 1, 1) := dk_27 (dk_at dksX9_even_0 6 rfl rfl)
theorem dX9_even_7 : decode cX9_even 7 = .ok (.iconst 0, 1) := dk_3 (dk_at dksX9_even_0 7 rfl rfl)
theorem dX9_even_8 : decode cX9_even 8 = .ok (.bipush 12, 2) := dk_16 12 (dk_at dksX9_even_0 8 rfl rfl)
theorem dX9_even_10 : decode cX9_even 10 = .ok (.invokestatic 126, 3) := dk_184 0 126 (dk_at dksX9_even_0 10 rfl rfl)
theorem dX9_even_13 : decode cX9_even 13 = .ok (.ifCond .eq 22, 3) := dk_153 0 22 (dk_at dksX9_even_0 13 rfl rfl)
theorem dX9_even_16 : decode cX9_even 16 = .ok (.iload_n 2, 1) := dk_28 (dk_at dksX9_even_0 16 rfl rfl)
theorem dX9_even_17 : decode cX9_even 17 = .ok (.iconst 0, 1) := dk_3 (dk_at dksX9_even_0 17 rfl rfl)
theorem dX9_even_18 : decode cX9_even 18 = .ok (.bipush 16, 2) := dk_16 16 (dk_at dksX9_even_0 18 rfl rfl)
theorem dX9_even_20 : decode cX9_even 20 = .ok (.invokestatic 126, 3) := dk_184 0 126 (dk_at dksX9_even_0 20 rfl rfl)
theorem dX9_even_23 : decode cX9_even 23 = .ok (.ifCond .eq 12, 3) := dk_153 0 12 (dk_at dksX9_even_1 0 rfl rfl)
theorem dX9_even_26 : decode cX9_even 26 = .ok (.iload_n 3, 1) := dk_29 (dk_at dksX9_even_1 3 rfl rfl)
theorem dX9_even_27 : decode cX9_even 27 = .ok (.iconst 0, 1) := dk_3 (dk_at dksX9_even_1 4 rfl rfl)
theorem dX9_even_28 : decode cX9_even 28 = .ok (.iconst 1, 1) := dk_4 (dk_at dksX9_even_1 5 rfl rfl)
theorem dX9_even_29 : decode cX9_even 29 = .ok (.invokestatic 126, 3) := dk_184 0 126 (dk_at dksX9_even_1 6 rfl rfl)
theorem dX9_even_32 : decode cX9_even 32 = .ok (.ifCond .ne 7, 3) := dk_154 0 7 (dk_at dksX9_even_1 9 rfl rfl)
theorem dX9_even_35 : decode cX9_even 35 = .ok (.iconst 1, 1) := dk_4 (dk_at dksX9_even_1 12 rfl rfl)
theorem dX9_even_36 : decode cX9_even 36 = .ok (.goto 4, 3) := dk_167 0 4 (dk_at dksX9_even_1 13 rfl rfl)
theorem dX9_even_39 : decode cX9_even 39 = .ok (.iconst 0, 1) := dk_3 (dk_at dksX9_even_1 16 rfl rfl)
theorem dX9_even_40 : decode cX9_even 40 = .ok (.iconst 1, 1) := dk_4 (dk_at dksX9_even_1 17 rfl rfl)
theorem dX9_even_41 : decode cX9_even 41 = .ok (.iconst 1, 1) := dk_4 (dk_at dksX9_even_1 18 rfl rfl)
theorem dX9_even_42 : decode cX9_even 42 = .ok (.invokevirtual 171, 3) := dk_182 0 171 (dk_at dksX9_even_1 19 rfl rfl)
theorem dX9_even_45 : decode cX9_even 45 = .ok (.ifCond .eq 5, 3) := dk_153 0 5 (dk_at dksX9_even_2 0 rfl rfl)
theorem dX9_even_48 : decode cX9_even 48 = .ok (.lconst 0, 1) := dk_9 (dk_at dksX9_even_2 3 rfl rfl)
theorem dX9_even_49 : decode cX9_even 49 = .ok (.lreturn, 1) := dk_173 (dk_at dksX9_even_2 4 rfl rfl)
theorem dX9_even_50 : decode cX9_even 50 = .ok (.iload_n 1, 1) := dk_27 (dk_at dksX9_even_2 5 rfl rfl)
theorem dX9_even_51 : decode cX9_even 51 = .ok (.iconst 2, 1) := dk_5 (dk_at dksX9_even_2 6 rfl rfl)
theorem dX9_even_52 : decode cX9_even 52 = .ok (.irem, 1) := dk_112 (dk_at dksX9_even_2 7 rfl rfl)
theorem dX9_even_53 : decode cX9_even 53 = .ok (.ifCond .ne 7, 3) := dk_154 0 7 (dk_at dksX9_even_2 8 rfl rfl)
theorem dX9_even_56 : decode cX9_even 56 = .ok (.lconst 1, 1) := dk_10 (dk_at dksX9_even_2 11 rfl rfl)
theorem dX9_even_57 : decode cX9_even 57 = .ok (.goto 4, 3) := dk_167 0 4 (dk_at dksX9_even_2 12 rfl rfl)
theorem dX9_even_60 : decode cX9_even 60 = .ok (.lconst 0, 1) := dk_9 (dk_at dksX9_even_2 15 rfl rfl)
theorem dX9_even_61 : decode cX9_even 61 = .ok (.lstore 4, 2) := dk_55 4 (dk_at dksX9_even_2 16 rfl rfl)
theorem dX9_even_63 : decode cX9_even 63 = .ok (.iload_n 1, 1) := dk_27 (dk_at dksX9_even_2 18 rfl rfl)
theorem dX9_even_64 : decode cX9_even 64 = .ok (.iconst 2, 1) := dk_5 (dk_at dksX9_even_2 19 rfl rfl)
theorem dX9_even_65 : decode cX9_even 65 = .ok (.idiv, 1) := dk_108 (dk_at dksX9_even_2 20 rfl rfl)
theorem dX9_even_66 : decode cX9_even 66 = .ok (.istore 6, 2) := dk_54 6 (dk_at dksX9_even_2 21 rfl rfl)
theorem dX9_even_68 : decode cX9_even 68 = .ok (.iconst 1, 1) := dk_4 (dk_at dksX9_even_2 23 rfl rfl)
theorem dX9_even_69 : decode cX9_even 69 = .ok (.istore 7, 2) := dk_54 7 (dk_at dksX9_even_3 0 rfl rfl)
theorem dX9_even_71 : decode cX9_even 71 = .ok (.iload 7, 2) := dk_21 7 (dk_at dksX9_even_3 2 rfl rfl)
theorem dX9_even_73 : decode cX9_even 73 = .ok (.iload 6, 2) := dk_21 6 (dk_at dksX9_even_3 4 rfl rfl)
theorem dX9_even_75 : decode cX9_even 75 = .ok (.if_icmp .gt 24, 3) := dk_163 0 24 (dk_at dksX9_even_3 6 rfl rfl)
theorem dX9_even_78 : decode cX9_even 78 = .ok (.lload 4, 2) := dk_22 4 (dk_at dksX9_even_3 9 rfl rfl)
theorem dX9_even_80 : decode cX9_even 80 = .ok (.iload 6, 2) := dk_21 6 (dk_at dksX9_even_3 11 rfl rfl)
theorem dX9_even_82 : decode cX9_even 82 = .ok (.iload 7, 2) := dk_21 7 (dk_at dksX9_even_3 13 rfl rfl)
theorem dX9_even_84 : decode cX9_even 84 = .ok (.iadd, 1) := dk_96 (dk_at dksX9_even_3 15 rfl rfl)
theorem dX9_even_85 : decode cX9_even 85 = .ok (.i2l, 1) := dk_133 (dk_at dksX9_even_3 16 rfl rfl)
theorem dX9_even_86 : decode cX9_even 86 = .ok (.lmul, 1) := dk_105 (dk_at dksX9_even_3 17 rfl rfl)
theorem dX9_even_87 : decode cX9_even 87 = .ok (.iload 7, 2) := dk_21 7 (dk_at dksX9_even_3 18 rfl rfl)
theorem dX9_even_89 : decode cX9_even 89 = .ok (.i2l, 1) := dk_133 (dk_at dksX9_even_3 20 rfl rfl)
theorem dX9_even_90 : decode cX9_even 90 = .ok (.ldiv, 1) := dk_109 (dk_at dksX9_even_3 21 rfl rfl)
theorem dX9_even_91 : decode cX9_even 91 = .ok (.lstore 4, 2) := dk_55 4 (dk_at dksX9_even_3 22 rfl rfl)
theorem dX9_even_93 : decode cX9_even 93 = .ok (.iinc 7 1, 3) := dk_132 7 1 (dk_at dksX9_even_4 0 rfl rfl)
theorem dX9_even_96 : decode cX9_even 96 = .ok (.goto (-25), 3) := dk_167 255 231 (dk_at dksX9_even_4 3 rfl rfl)
theorem dX9_even_99 : decode cX9_even 99 = .ok (.iconst 0, 1) := dk_3 (dk_at dksX9_even_4 6 rfl rfl)
theorem dX9_even_100 : decode cX9_even 100 = .ok (.istore 7, 2) := dk_54 7 (dk_at dksX9_even_4 7 rfl rfl)
theorem dX9_even_102 : decode cX9_even 102 = .ok (.iload 7, 2) := dk_21 7 (dk_at dksX9_even_4 9 rfl rfl)
theorem dX9_even_104 : decode cX9_even 104 = .ok (.iload 6, 2) := dk_21 6 (dk_at dksX9_even_4 11 rfl rfl)
theorem dX9_even_106 : decode cX9_even 106 = .ok (.if_icmp .ge 21, 3) := dk_162 0 21 (dk_at dksX9_even_4 13 rfl rfl)
theorem dX9_even_109 : decode cX9_even 109 = .ok (.lload 4, 2) := dk_22 4 (dk_at dksX9_even_4 16 rfl rfl)
theorem dX9_even_111 : decode cX9_even 111 = .ok (.iload_n 2, 1) := dk_28 (dk_at dksX9_even_4 18 rfl rfl)
theorem dX9_even_112 : decode cX9_even 112 = .ok (.bipush 16, 2) := dk_16 16 (dk_at dksX9_even_4 19 rfl rfl)
theorem dX9_even_114 : decode cX9_even 114 = .ok (.iload_n 2, 1) := dk_28 (dk_at dksX9_even_4 21 rfl rfl)
theorem dX9_even_115 : decode cX9_even 115 = .ok (.isub, 1) := dk_100 (dk_at dksX9_even_4 22 rfl rfl)
theorem dX9_even_116 : decode cX9_even 116 = .ok (.imul, 1) := dk_104 (dk_at dksX9_even_4 23 rfl rfl)
theorem dX9_even_117 : decode cX9_even 117 = .ok (.i2l, 1) := dk_133 (dk_at dksX9_even_5 0 rfl rfl)
theorem dX9_even_118 : decode cX9_even 118 = .ok (.lmul, 1) := dk_105 (dk_at dksX9_even_5 1 rfl rfl)
theorem dX9_even_119 : decode cX9_even 119 = .ok (.lstore 4, 2) := dk_55 4 (dk_at dksX9_even_5 2 rfl rfl)
theorem dX9_even_121 : decode cX9_even 121 = .ok (.iinc 7 1, 3) := dk_132 7 1 (dk_at dksX9_even_5 4 rfl rfl)
theorem dX9_even_124 : decode cX9_even 124 = .ok (.goto (-22), 3) := dk_167 255 234 (dk_at dksX9_even_5 7 rfl rfl)
theorem dX9_even_127 : decode cX9_even 127 = .ok (.lload 4, 2) := dk_22 4 (dk_at dksX9_even_5 10 rfl rfl)
theorem dX9_even_129 : decode cX9_even 129 = .ok (.lconst 1, 1) := dk_10 (dk_at dksX9_even_5 12 rfl rfl)
theorem dX9_even_130 : decode cX9_even 130 = .ok (.iconst 4, 1) := dk_7 (dk_at dksX9_even_5 13 rfl rfl)
theorem dX9_even_131 : decode cX9_even 131 = .ok (.iload_n 1, 1) := dk_27 (dk_at dksX9_even_5 14 rfl rfl)
theorem dX9_even_132 : decode cX9_even 132 = .ok (.imul, 1) := dk_104 (dk_at dksX9_even_5 15 rfl rfl)
theorem dX9_even_133 : decode cX9_even 133 = .ok (.lshl, 1) := dk_121 (dk_at dksX9_even_5 16 rfl rfl)
theorem dX9_even_134 : decode cX9_even 134 = .ok (.iload_n 3, 1) := dk_29 (dk_at dksX9_even_5 17 rfl rfl)
theorem dX9_even_135 : decode cX9_even 135 = .ok (.invokestatic 362, 3) := dk_184 1 106 (dk_at dksX9_even_5 18 rfl rfl)
theorem dX9_even_138 : decode cX9_even 138 = .ok (.lreturn, 1) := dk_173 (dk_at dksX9_even_5 21 rfl rfl)
def dkwX9_share_4 : List UInt8 := [153, 0, 19, 21, 4, 42, 180, 0, 61, 3, 27, 96, 46, 184, 0, 235, 167, 0, 4, 3, 172]
abbrev dktX9_share_4 : List UInt8 := dkwX9_share_4 ++ []
def dkwX9_share_3 : List UInt8 := [42, 28, 21, 4, 4, 96, 182, 1, 145, 29, 163, 0, 9, 132, 4, 1, 167, 255, 233, 28, 27, 184, 1, 89]
abbrev dktX9_share_3 : List UInt8 := dkwX9_share_3 ++ dktX9_share_4
def dkwX9_share_2 : List UInt8 := [167, 0, 4, 3, 5, 4, 182, 0, 171, 153, 0, 5, 3, 172, 3, 54, 4, 21, 4, 16, 60, 162, 0, 22]
abbrev dktX9_share_2 : List UInt8 := dkwX9_share_2 ++ dktX9_share_3
def dkwX9_share_1 : List UInt8 := [154, 0, 36, 42, 42, 28, 182, 1, 123, 153, 0, 14, 29, 3, 17, 3, 231, 184, 0, 126, 154, 0, 7, 4]
abbrev dktX9_share_1 : List UInt8 := dkwX9_share_1 ++ dktX9_share_2
def dkwX9_share_0 : List UInt8 := [42, 3, 181, 0, 92, 42, 42, 27, 182, 1, 72, 154, 0, 7, 4, 167, 0, 4, 3, 4, 3, 182, 0, 171]
abbrev dktX9_share_0 : List UInt8 := dkwX9_share_0 ++ dktX9_share_1
theorem dksX9_share_0 : cX9_share.data.toList.drop 0 = dktX9_share_0 := by decide +kernel
theorem dksX9_share_1 : cX9_share.data.toList.drop 24 = dktX9_share_1 := dk_seg dksX9_share_0 24 rfl rfl
theorem dksX9_share_2 : cX9_share.data.toList.drop 48 = dktX9_share_2 := dk_seg dksX9_share_1 24 rfl rfl
theorem dksX9_share_3 : cX9_share.data.toList.drop 72 = dktX9_share_3 := dk_seg dksX9_share_2 24 rfl rfl
theorem dksX9_share_4 : cX9_share.data.toList.drop 96 = dktX9_share_4 := dk_seg dksX9_share_3 24 rfl rfl
theorem dX9_share_0 : decode cX9_share 0 = .ok (.aload_n 0, 1) := dk_42 (dk_at dksX9_share_0 0 rfl rfl)
theorem dX9_share_1 : decode cX9_share 1 = .ok (.iconst 0, 1) := dk_3 (dk_at dksX9_share_0 1 rfl rfl)
theorem dX9_share_2 : decode cX9_share 2 = .ok (.putfield 92, 3) := dk_181 0 92 (dk_at dksX9_share_0 2 rfl rfl)
theorem dX9_share_5 : decode cX9_share 5 = .ok (.aload_n 0, 1) := dk_42 (dk_at dksX9_share_0 5 rfl rfl)
theorem dX9_share_6 : decode cX9_share 6 = .ok (.aload_n 0, 1) := dk_42 (dk_at dksX9_share_0 6 rfl rfl)
theorem dX9_share_7 : decode cX9_share 7 = .ok (.iload_n 1, 1) := dk_27 (dk_at dksX9_share_0 7 rfl rfl)
theorem dX9_share_8 : decode cX9_share 8 = .ok (.invokevirtual 328, 3) := dk_182 1 72 (dk_at dksX9_share_0 8 rfl rfl)
theorem dX9_share_11 : decode cX9_share 11 = .ok (.ifCond .ne 7, 3) := dk_154 0 7 (dk_at dksX9_share_0 11 rfl rfl)
theorem dX9_share_14 : decode cX9_share 14 = .ok (.iconst 1, 1) := dk_4 (dk_at dksX9_share_0 14 rfl rfl)
theorem dX9_share_15 : decode cX9_share 15 = .ok (.goto 4, 3) := dk_167 0 4 (dk_at dksX9_share_0 15 rfl rfl)
theorem dX9_share_18 : decode cX9_share 18 = .ok (.iconst 0, 1) := dk_3 (dk_at dksX9_share_0 18 rfl rfl)
theorem dX9_share_19 : decode cX9_share 19 = .ok (.iconst 1, 1) := dk_4 (dk_at dksX9_share_0 19 rfl rfl)
theorem dX9_share_20 : decode cX9_share 20 = .ok (.iconst 0, 1) := dk_3 (dk_at dksX9_share_0 20 rfl rfl)
theorem dX9_share_21 : decode cX9_share 21 = .ok (.invokevirtual 171, 3) := dk_182 0 171 (dk_at dksX9_share_0 21 rfl rfl)
theorem dX9_share_24 : decode cX9_share 24 = .ok (.ifCond .ne 36, 3) := dk_154 0 36 (dk_at dksX9_share_1 0 rfl rfl)
theorem dX9_share_27 : decode cX9_share 27 = .ok (.aload_n 0, 1) := dk_42 (dk_at dksX9_share_1 3 rfl rfl)
theorem dX9_share_28 : decode cX9_share 28 = .ok (.aload_n 0, 1) := dk_42 (dk_at dksX9_share_1 4 rfl rfl)
theorem dX9_share_29 : decode cX9_share 29 = .ok (.iload_n 2, 1) := dk_28 (dk_at dksX9_share_1 5 rfl rfl)
theorem dX9_share_30 : decode cX9_share 30 = .ok (.invokevirtual 379, 3) := dk_182 1 123 (dk_at dksX9_share_1 6 rfl rfl)
theorem dX9_share_33 : decode cX9_share 33 = .ok (.ifCond .eq 14, 3) := dk_153 0 14 (dk_at dksX9_share_1 9 rfl rfl)
theorem dX9_share_36 : decode cX9_share 36 = .ok (.iload_n 3, 1) := dk_29 (dk_at dksX9_share_1 12 rfl rfl)
theorem dX9_share_37 : decode cX9_share 37 = .ok (.iconst 0, 1) := dk_3 (dk_at dksX9_share_1 13 rfl rfl)
theorem dX9_share_38 : decode cX9_share 38 = .ok (.sipush 999, 3) := dk_17 3 231 (dk_at dksX9_share_1 14 rfl rfl)
theorem dX9_share_41 : decode cX9_share 41 = .ok (.invokestatic 126, 3) := dk_184 0 126 (dk_at dksX9_share_1 17 rfl rfl)
theorem dX9_share_44 : decode cX9_share 44 = .ok (.ifCond .ne 7, 3) := dk_154 0 7 (dk_at dksX9_share_1 20 rfl rfl)
theorem dX9_share_47 : decode cX9_share 47 = .ok (.iconst 1, 1) := dk_4 (dk_at dksX9_share_1 23 rfl rfl)
theorem dX9_share_48 : decode cX9_share 48 = .ok (.goto 4, 3) := dk_167 0 4 (dk_at dksX9_share_2 0 rfl rfl)
theorem dX9_share_51 : decode cX9_share 51 = .ok (.iconst 0, 1) := dk_3 (dk_at dksX9_share_2 3 rfl rfl)
theorem dX9_share_52 : decode cX9_share 52 = .ok (.iconst 2, 1) := dk_5 (dk_at dksX9_share_2 4 rfl rfl)
theorem dX9_share_53 : decode cX9_share 53 = .ok (.iconst 1, 1) := dk_4 (dk_at dksX9_share_2 5 rfl rfl)
theorem dX9_share_54 : decode cX9_share 54 = .ok (.invokevirtual 171, 3) := dk_182 0 171 (dk_at dksX9_share_2 6 rfl rfl)
theorem dX9_share_57 : decode cX9_share 57 = .ok (.ifCond .eq 5, 3) := dk_153 0 5 (dk_at dksX9_share_2 9 rfl rfl)
theorem dX9_share_60 : decode cX9_share 60 = .ok (.iconst 0, 1) := dk_3 (dk_at dksX9_share_2 12 rfl rfl)
theorem dX9_share_61 : decode cX9_share 61 = .ok (.ireturn, 1) := dk_172 (dk_at dksX9_share_2 13 rfl rfl)
theorem dX9_share_62 : decode cX9_share 62 = .ok (.iconst 0, 1) := dk_3 (dk_at dksX9_share_2 14 rfl rfl)
theorem dX9_share_63 : decode cX9_share 63 = .ok (.istore 4, 2) := dk_54 4 (dk_at dksX9_share_2 15 rfl rfl)
theorem dX9_share_65 : decode cX9_share 65 = .ok (.iload 4, 2) := dk_21 4 (dk_at dksX9_share_2 17 rfl rfl)
theorem dX9_share_67 : decode cX9_share 67 = .ok (.bipush 60, 2) := dk_16 60 (dk_at dksX9_share_2 19 rfl rfl)
theorem dX9_share_69 : decode cX9_share 69 = .ok (.if_icmp .ge 22, 3) := dk_162 0 22 (dk_at dksX9_share_2 21 rfl rfl)
theorem dX9_share_72 : decode cX9_share 72 = .ok (.aload_n 0, 1) := dk_42 (dk_at dksX9_share_3 0 rfl rfl)
theorem dX9_share_73 : decode cX9_share 73 = .ok (.iload_n 2, 1) := dk_28 (dk_at dksX9_share_3 1 rfl rfl)
theorem dX9_share_74 : decode cX9_share 74 = .ok (.iload 4, 2) := dk_21 4 (dk_at dksX9_share_3 2 rfl rfl)
theorem dX9_share_76 : decode cX9_share 76 = .ok (.iconst 1, 1) := dk_4 (dk_at dksX9_share_3 4 rfl rfl)
theorem dX9_share_77 : decode cX9_share 77 = .ok (.iadd, 1) := dk_96 (dk_at dksX9_share_3 5 rfl rfl)
theorem dX9_share_78 : decode cX9_share 78 = .ok (.invokevirtual 401, 3) := dk_182 1 145 (dk_at dksX9_share_3 6 rfl rfl)
theorem dX9_share_81 : decode cX9_share 81 = .ok (.iload_n 3, 1) := dk_29 (dk_at dksX9_share_3 9 rfl rfl)
theorem dX9_share_82 : decode cX9_share 82 = .ok (.if_icmp .gt 9, 3) := dk_163 0 9 (dk_at dksX9_share_3 10 rfl rfl)
theorem dX9_share_85 : decode cX9_share 85 = .ok (.iinc 4 1, 3) := dk_132 4 1 (dk_at dksX9_share_3 13 rfl rfl)
theorem dX9_share_88 : decode cX9_share 88 = .ok (.goto (-23), 3) := dk_167 255 233 (dk_at dksX9_share_3 16 rfl rfl)
theorem dX9_share_91 : decode cX9_share 91 = .ok (.iload_n 2, 1) := dk_28 (dk_at dksX9_share_3 19 rfl rfl)
theorem dX9_share_92 : decode cX9_share 92 = .ok (.iload_n 1, 1) := dk_27 (dk_at dksX9_share_3 20 rfl rfl)
theorem dX9_share_93 : decode cX9_share 93 = .ok (.invokestatic 345, 3) := dk_184 1 89 (dk_at dksX9_share_3 21 rfl rfl)
theorem dX9_share_96 : decode cX9_share 96 = .ok (.ifCond .eq 19, 3) := dk_153 0 19 (dk_at dksX9_share_4 0 rfl rfl)
theorem dX9_share_99 : decode cX9_share 99 = .ok (.iload 4, 2) := dk_21 4 (dk_at dksX9_share_4 3 rfl rfl)
theorem dX9_share_101 : decode cX9_share 101 = .ok (.aload_n 0, 1) := dk_42 (dk_at dksX9_share_4 5 rfl rfl)
theorem dX9_share_102 : decode cX9_share 102 = .ok (.getfield 61, 3) := dk_180 0 61 (dk_at dksX9_share_4 6 rfl rfl)
theorem dX9_share_105 : decode cX9_share 105 = .ok (.iconst 0, 1) := dk_3 (dk_at dksX9_share_4 9 rfl rfl)
theorem dX9_share_106 : decode cX9_share 106 = .ok (.iload_n 1, 1) := dk_27 (dk_at dksX9_share_4 10 rfl rfl)
theorem dX9_share_107 : decode cX9_share 107 = .ok (.iadd, 1) := dk_96 (dk_at dksX9_share_4 11 rfl rfl)
theorem dX9_share_108 : decode cX9_share 108 = .ok (.iaload, 1) := dk_46 (dk_at dksX9_share_4 12 rfl rfl)
theorem dX9_share_109 : decode cX9_share 109 = .ok (.invokestatic 235, 3) := dk_184 0 235 (dk_at dksX9_share_4 13 rfl rfl)
theorem dX9_share_112 : decode cX9_share 112 = .ok (.goto 4, 3) := dk_167 0 4 (dk_at dksX9_share_4 16 rfl rfl)
theorem dX9_share_115 : decode cX9_share 115 = .ok (.iconst 0, 1) := dk_3 (dk_at dksX9_share_4 19 rfl rfl)
theorem dX9_share_116 : decode cX9_share 116 = .ok (.ireturn, 1) := dk_172 (dk_at dksX9_share_4 20 rfl rfl)
def dkwX9_givenBy_2 : List UInt8 := [132, 4, 1, 167, 255, 213, 29, 172]
abbrev dktX9_givenBy_2 : List UInt8 := dkwX9_givenBy_2 ++ []
def dkwX9_givenBy_1 : List UInt8 := [153, 0, 19, 28, 42, 180, 0, 61, 3, 21, 4, 96, 46, 184, 0, 235, 167, 0, 4, 3, 96, 62]
abbrev dktX9_givenBy_1 : List UInt8 := dkwX9_givenBy_1 ++ dktX9_givenBy_2
def dkwX9_givenBy_0 : List UInt8 := [3, 62, 3, 54, 4, 21, 4, 42, 180, 0, 23, 3, 46, 162, 0, 38, 29, 27, 21, 4, 184, 1, 89]
abbrev dktX9_givenBy_0 : List UInt8 := dkwX9_givenBy_0 ++ dktX9_givenBy_1
theorem dksX9_givenBy_0 : cX9_givenBy.data.toList.drop 0 = dktX9_givenBy_0 := by decide +kernel
theorem dksX9_givenBy_1 : cX9_givenBy.data.toList.drop 23 = dktX9_givenBy_1 := dk_seg dksX9_givenBy_0 23 rfl rfl
theorem dksX9_givenBy_2 : cX9_givenBy.data.toList.drop 45 = dktX9_givenBy_2 := dk_seg dksX9_givenBy_1 22 rfl rfl
theorem dX9_givenBy_0 : decode cX9_givenBy 0 = .ok (.iconst 0, 1) := dk_3 (dk_at dksX9_givenBy_0 0 rfl rfl)
theorem dX9_givenBy_1 : decode cX9_givenBy 1 = .ok (.istore_n 3, 1) := dk_62 (dk_at dksX9_givenBy_0 1 rfl rfl)
theorem dX9_givenBy_2 : decode cX9_givenBy 2 = .ok (.iconst 0, 1) := dk_3 (dk_at dksX9_givenBy_0 2 rfl rfl)
theorem dX9_givenBy_3 : decode cX9_givenBy 3 = .ok (.istore 4, 2) := dk_54 4 (dk_at dksX9_givenBy_0 3 rfl rfl)
theorem dX9_givenBy_5 : decode cX9_givenBy 5 = .ok (.iload 4, 2) := dk_21 4 (dk_at dksX9_givenBy_0 5 rfl rfl)
theorem dX9_givenBy_7 : decode cX9_givenBy 7 = .ok (.aload_n 0, 1) := dk_42 (dk_at dksX9_givenBy_0 7 rfl rfl)
theorem dX9_givenBy_8 : decode cX9_givenBy 8 = .ok (.getfield 23, 3) := dk_180 0 23 (dk_at dksX9_givenBy_0 8 rfl rfl)
theorem dX9_givenBy_11 : decode cX9_givenBy 11 = .ok (.iconst 0, 1) := dk_3 (dk_at dksX9_givenBy_0 11 rfl rfl)
theorem dX9_givenBy_12 : decode cX9_givenBy 12 = .ok (.iaload, 1) := dk_46 (dk_at dksX9_givenBy_0 12 rfl rfl)
theorem dX9_givenBy_13 : decode cX9_givenBy 13 = .ok (.if_icmp .ge 38, 3) := dk_162 0 38 (dk_at dksX9_givenBy_0 13 rfl rfl)
theorem dX9_givenBy_16 : decode cX9_givenBy 16 = .ok (.iload_n 3, 1) := dk_29 (dk_at dksX9_givenBy_0 16 rfl rfl)
theorem dX9_givenBy_17 : decode cX9_givenBy 17 = .ok (.iload_n 1, 1) := dk_27 (dk_at dksX9_givenBy_0 17 rfl rfl)
theorem dX9_givenBy_18 : decode cX9_givenBy 18 = .ok (.iload 4, 2) := dk_21 4 (dk_at dksX9_givenBy_0 18 rfl rfl)
theorem dX9_givenBy_20 : decode cX9_givenBy 20 = .ok (.invokestatic 345, 3) := dk_184 1 89 (dk_at dksX9_givenBy_0 20 rfl rfl)
theorem dX9_givenBy_23 : decode cX9_givenBy 23 = .ok (.ifCond .eq 19, 3) := dk_153 0 19 (dk_at dksX9_givenBy_1 0 rfl rfl)
theorem dX9_givenBy_26 : decode cX9_givenBy 26 = .ok (.iload_n 2, 1) := dk_28 (dk_at dksX9_givenBy_1 3 rfl rfl)
theorem dX9_givenBy_27 : decode cX9_givenBy 27 = .ok (.aload_n 0, 1) := dk_42 (dk_at dksX9_givenBy_1 4 rfl rfl)
theorem dX9_givenBy_28 : decode cX9_givenBy 28 = .ok (.getfield 61, 3) := dk_180 0 61 (dk_at dksX9_givenBy_1 5 rfl rfl)
theorem dX9_givenBy_31 : decode cX9_givenBy 31 = .ok (.iconst 0, 1) := dk_3 (dk_at dksX9_givenBy_1 8 rfl rfl)
theorem dX9_givenBy_32 : decode cX9_givenBy 32 = .ok (.iload 4, 2) := dk_21 4 (dk_at dksX9_givenBy_1 9 rfl rfl)
theorem dX9_givenBy_34 : decode cX9_givenBy 34 = .ok (.iadd, 1) := dk_96 (dk_at dksX9_givenBy_1 11 rfl rfl)
theorem dX9_givenBy_35 : decode cX9_givenBy 35 = .ok (.iaload, 1) := dk_46 (dk_at dksX9_givenBy_1 12 rfl rfl)
theorem dX9_givenBy_36 : decode cX9_givenBy 36 = .ok (.invokestatic 235, 3) := dk_184 0 235 (dk_at dksX9_givenBy_1 13 rfl rfl)
theorem dX9_givenBy_39 : decode cX9_givenBy 39 = .ok (.goto 4, 3) := dk_167 0 4 (dk_at dksX9_givenBy_1 16 rfl rfl)
theorem dX9_givenBy_42 : decode cX9_givenBy 42 = .ok (.iconst 0, 1) := dk_3 (dk_at dksX9_givenBy_1 19 rfl rfl)
theorem dX9_givenBy_43 : decode cX9_givenBy 43 = .ok (.iadd, 1) := dk_96 (dk_at dksX9_givenBy_1 20 rfl rfl)
theorem dX9_givenBy_44 : decode cX9_givenBy 44 = .ok (.istore_n 3, 1) := dk_62 (dk_at dksX9_givenBy_1 21 rfl rfl)
theorem dX9_givenBy_45 : decode cX9_givenBy 45 = .ok (.iinc 4 1, 3) := dk_132 4 1 (dk_at dksX9_givenBy_2 0 rfl rfl)
theorem dX9_givenBy_48 : decode cX9_givenBy 48 = .ok (.goto (-43), 3) := dk_167 255 213 (dk_at dksX9_givenBy_2 3 rfl rfl)
theorem dX9_givenBy_51 : decode cX9_givenBy 51 = .ok (.iload_n 3, 1) := dk_29 (dk_at dksX9_givenBy_2 6 rfl rfl)
theorem dX9_givenBy_52 : decode cX9_givenBy 52 = .ok (.ireturn, 1) := dk_172 (dk_at dksX9_givenBy_2 7 rfl rfl)
def dkwX9_heaviest_2 : List UInt8 := [160, 0, 7, 28, 167, 0, 11, 42, 180, 0, 61, 3, 28, 96, 46, 172]
abbrev dktX9_heaviest_2 : List UInt8 := dkwX9_heaviest_2 ++ []
def dkwX9_heaviest_1 : List UInt8 := [182, 0, 171, 153, 0, 5, 3, 172, 42, 42, 180, 0, 61, 182, 1, 75, 61, 27, 153, 0, 8, 28, 2]
abbrev dktX9_heaviest_1 : List UInt8 := dkwX9_heaviest_1 ++ dktX9_heaviest_2
def dkwX9_heaviest_0 : List UInt8 := [42, 3, 181, 0, 92, 42, 27, 3, 4, 184, 0, 126, 154, 0, 7, 4, 167, 0, 4, 3, 4, 4]
abbrev dktX9_heaviest_0 : List UInt8 := dkwX9_heaviest_0 ++ dktX9_heaviest_1
theorem dksX9_heaviest_0 : cX9_heaviest.data.toList.drop 0 = dktX9_heaviest_0 := by decide +kernel
theorem dksX9_heaviest_1 : cX9_heaviest.data.toList.drop 22 = dktX9_heaviest_1 := dk_seg dksX9_heaviest_0 22 rfl rfl
theorem dksX9_heaviest_2 : cX9_heaviest.data.toList.drop 45 = dktX9_heaviest_2 := dk_seg dksX9_heaviest_1 23 rfl rfl
theorem dX9_heaviest_0 : decode cX9_heaviest 0 = .ok (.aload_n 0, 1) := dk_42 (dk_at dksX9_heaviest_0 0 rfl rfl)
theorem dX9_heaviest_1 : decode cX9_heaviest 1 = .ok (.iconst 0, 1) := dk_3 (dk_at dksX9_heaviest_0 1 rfl rfl)
theorem dX9_heaviest_2 : decode cX9_heaviest 2 = .ok (.putfield 92, 3) := dk_181 0 92 (dk_at dksX9_heaviest_0 2 rfl rfl)
theorem dX9_heaviest_5 : decode cX9_heaviest 5 = .ok (.aload_n 0, 1) := dk_42 (dk_at dksX9_heaviest_0 5 rfl rfl)
theorem dX9_heaviest_6 : decode cX9_heaviest 6 = .ok (.iload_n 1, 1) := dk_27 (dk_at dksX9_heaviest_0 6 rfl rfl)
theorem dX9_heaviest_7 : decode cX9_heaviest 7 = .ok (.iconst 0, 1) := dk_3 (dk_at dksX9_heaviest_0 7 rfl rfl)
theorem dX9_heaviest_8 : decode cX9_heaviest 8 = .ok (.iconst 1, 1) := dk_4 (dk_at dksX9_heaviest_0 8 rfl rfl)
theorem dX9_heaviest_9 : decode cX9_heaviest 9 = .ok (.invokestatic 126, 3) := dk_184 0 126 (dk_at dksX9_heaviest_0 9 rfl rfl)
theorem dX9_heaviest_12 : decode cX9_heaviest 12 = .ok (.ifCond .ne 7, 3) := dk_154 0 7 (dk_at dksX9_heaviest_0 12 rfl rfl)
theorem dX9_heaviest_15 : decode cX9_heaviest 15 = .ok (.iconst 1, 1) := dk_4 (dk_at dksX9_heaviest_0 15 rfl rfl)
theorem dX9_heaviest_16 : decode cX9_heaviest 16 = .ok (.goto 4, 3) := dk_167 0 4 (dk_at dksX9_heaviest_0 16 rfl rfl)
theorem dX9_heaviest_19 : decode cX9_heaviest 19 = .ok (.iconst 0, 1) := dk_3 (dk_at dksX9_heaviest_0 19 rfl rfl)
theorem dX9_heaviest_20 : decode cX9_heaviest 20 = .ok (.iconst 1, 1) := dk_4 (dk_at dksX9_heaviest_0 20 rfl rfl)
theorem dX9_heaviest_21 : decode cX9_heaviest 21 = .ok (.iconst 1, 1) := dk_4 (dk_at dksX9_heaviest_0 21 rfl rfl)
theorem dX9_heaviest_22 : decode cX9_heaviest 22 = .ok (.invokevirtual 171, 3) := dk_182 0 171 (dk_at dksX9_heaviest_1 0 rfl rfl)
theorem dX9_heaviest_25 : decode cX9_heaviest 25 = .ok (.ifCond .eq 5, 3) := dk_153 0 5 (dk_at dksX9_heaviest_1 3 rfl rfl)
theorem dX9_heaviest_28 : decode cX9_heaviest 28 = .ok (.iconst 0, 1) := dk_3 (dk_at dksX9_heaviest_1 6 rfl rfl)
theorem dX9_heaviest_29 : decode cX9_heaviest 29 = .ok (.ireturn, 1) := dk_172 (dk_at dksX9_heaviest_1 7 rfl rfl)
theorem dX9_heaviest_30 : decode cX9_heaviest 30 = .ok (.aload_n 0, 1) := dk_42 (dk_at dksX9_heaviest_1 8 rfl rfl)
theorem dX9_heaviest_31 : decode cX9_heaviest 31 = .ok (.aload_n 0, 1) := dk_42 (dk_at dksX9_heaviest_1 9 rfl rfl)
theorem dX9_heaviest_32 : decode cX9_heaviest 32 = .ok (.getfield 61, 3) := dk_180 0 61 (dk_at dksX9_heaviest_1 10 rfl rfl)
theorem dX9_heaviest_35 : decode cX9_heaviest 35 = .ok (.invokevirtual 331, 3) := dk_182 1 75 (dk_at dksX9_heaviest_1 13 rfl rfl)
theorem dX9_heaviest_38 : decode cX9_heaviest 38 = .ok (.istore_n 2, 1) := dk_61 (dk_at dksX9_heaviest_1 16 rfl rfl)
theorem dX9_heaviest_39 : decode cX9_heaviest 39 = .ok (.iload_n 1, 1) := dk_27 (dk_at dksX9_heaviest_1 17 rfl rfl)
theorem dX9_heaviest_40 : decode cX9_heaviest 40 = .ok (.ifCond .eq 8, 3) := dk_153 0 8 (dk_at dksX9_heaviest_1 18 rfl rfl)
theorem dX9_heaviest_43 : decode cX9_heaviest 43 = .ok (.iload_n 2, 1) := dk_28 (dk_at dksX9_heaviest_1 21 rfl rfl)
theorem dX9_heaviest_44 : decode cX9_heaviest 44 = .ok (.iconst (-1), 1) := dk_2 (dk_at dksX9_heaviest_1 22 rfl rfl)
theorem dX9_heaviest_45 : decode cX9_heaviest 45 = .ok (.if_icmp .ne 7, 3) := dk_160 0 7 (dk_at dksX9_heaviest_2 0 rfl rfl)
theorem dX9_heaviest_48 : decode cX9_heaviest 48 = .ok (.iload_n 2, 1) := dk_28 (dk_at dksX9_heaviest_2 3 rfl rfl)
theorem dX9_heaviest_49 : decode cX9_heaviest 49 = .ok (.goto 11, 3) := dk_167 0 11 (dk_at dksX9_heaviest_2 4 rfl rfl)
theorem dX9_heaviest_52 : decode cX9_heaviest 52 = .ok (.aload_n 0, 1) := dk_42 (dk_at dksX9_heaviest_2 7 rfl rfl)
theorem dX9_heaviest_53 : decode cX9_heaviest 53 = .ok (.getfield 61, 3) := dk_180 0 61 (dk_at dksX9_heaviest_2 8 rfl rfl)
theorem dX9_heaviest_56 : decode cX9_heaviest 56 = .ok (.iconst 0, 1) := dk_3 (dk_at dksX9_heaviest_2 11 rfl rfl)
theorem dX9_heaviest_57 : decode cX9_heaviest 57 = .ok (.iload_n 2, 1) := dk_28 (dk_at dksX9_heaviest_2 12 rfl rfl)
theorem dX9_heaviest_58 : decode cX9_heaviest 58 = .ok (.iadd, 1) := dk_96 (dk_at dksX9_heaviest_2 13 rfl rfl)
theorem dX9_heaviest_59 : decode cX9_heaviest 59 = .ok (.iaload, 1) := dk_46 (dk_at dksX9_heaviest_2 14 rfl rfl)
theorem dX9_heaviest_60 : decode cX9_heaviest 60 = .ok (.ireturn, 1) := dk_172 (dk_at dksX9_heaviest_2 15 rfl rfl)
def dkwX9_alike_5 : List UInt8 := [132, 4, 1, 167, 255, 175, 27, 154, 0, 7, 28, 167, 0, 4, 29, 172]
abbrev dktX9_alike_5 : List UInt8 := dkwX9_alike_5 ++ []
def dkwX9_alike_4 : List UInt8 := [16, 10, 21, 4, 104, 21, 5, 96, 167, 0, 4, 29, 62, 132, 2, 1, 132, 5, 1, 167, 255, 198]
abbrev dktX9_alike_4 : List UInt8 := dkwX9_alike_4 ++ dktX9_alike_5
def dkwX9_alike_3 : List UInt8 := [3, 21, 4, 96, 46, 42, 180, 0, 61, 3, 21, 5, 96, 46, 159, 0, 6, 167, 0, 23, 28, 154, 0, 14]
abbrev dktX9_alike_3 : List UInt8 := dkwX9_alike_3 ++ dktX9_alike_4
def dkwX9_alike_2 : List UInt8 := [162, 0, 76, 21, 4, 4, 96, 54, 5, 21, 5, 42, 180, 0, 23, 3, 46, 162, 0, 53, 42, 180, 0, 61]
abbrev dktX9_alike_2 : List UInt8 := dkwX9_alike_2 ++ dktX9_alike_3
def dkwX9_alike_1 : List UInt8 := [182, 0, 171, 153, 0, 5, 3, 172, 3, 61, 2, 62, 3, 54, 4, 21, 4, 42, 180, 0, 23, 3, 46]
abbrev dktX9_alike_1 : List UInt8 := dkwX9_alike_1 ++ dktX9_alike_2
def dkwX9_alike_0 : List UInt8 := [42, 3, 181, 0, 92, 42, 27, 3, 4, 184, 0, 126, 154, 0, 7, 4, 167, 0, 4, 3, 4, 4]
abbrev dktX9_alike_0 : List UInt8 := dkwX9_alike_0 ++ dktX9_alike_1
theorem dksX9_alike_0 : cX9_alike.data.toList.drop 0 = dktX9_alike_0 := by decide +kernel
theorem dksX9_alike_1 : cX9_alike.data.toList.drop 22 = dktX9_alike_1 := dk_seg dksX9_alike_0 22 rfl rfl
theorem dksX9_alike_2 : cX9_alike.data.toList.drop 45 = dktX9_alike_2 := dk_seg dksX9_alike_1 23 rfl rfl
theorem dksX9_alike_3 : cX9_alike.data.toList.drop 69 = dktX9_alike_3 := dk_seg dksX9_alike_2 24 rfl rfl
theorem dksX9_alike_4 : cX9_alike.data.toList.drop 93 = dktX9_alike_4 := dk_seg dksX9_alike_3 24 rfl rfl
theorem dksX9_alike_5 : cX9_alike.data.toList.drop 115 = dktX9_alike_5 := dk_seg dksX9_alike_4 22 rfl rfl
theorem dX9_alike_0 : decode cX9_alike 0 = .ok (.aload_n 0, 1) := dk_42 (dk_at dksX9_alike_0 0 rfl rfl)
theorem dX9_alike_1 : decode cX9_alike 1 = .ok (.iconst 0, 1) := dk_3 (dk_at dksX9_alike_0 1 rfl rfl)
theorem dX9_alike_2 : decode cX9_alike 2 = .ok (.putfield 92, 3) := dk_181 0 92 (dk_at dksX9_alike_0 2 rfl rfl)
theorem dX9_alike_5 : decode cX9_alike 5 = .ok (.aload_n 0, 1) := dk_42 (dk_at dksX9_alike_0 5 rfl rfl)
theorem dX9_alike_6 : decode cX9_alike 6 = .ok (.iload_n 1, 1) := dk_27 (dk_at dksX9_alike_0 6 rfl rfl)
theorem dX9_alike_7 : decode cX9_alike 7 = .ok (.iconst 0, 1) := dk_3 (dk_at dksX9_alike_0 7 rfl rfl)
theorem dX9_alike_8 : decode cX9_alike 8 = .ok (.iconst 1, 1) := dk_4 (dk_at dksX9_alike_0 8 rfl rfl)
theorem dX9_alike_9 : decode cX9_alike 9 = .ok (.invokestatic 126, 3) := dk_184 0 126 (dk_at dksX9_alike_0 9 rfl rfl)
theorem dX9_alike_12 : decode cX9_alike 12 = .ok (.ifCond .ne 7, 3) := dk_154 0 7 (dk_at dksX9_alike_0 12 rfl rfl)
theorem dX9_alike_15 : decode cX9_alike 15 = .ok (.iconst 1, 1) := dk_4 (dk_at dksX9_alike_0 15 rfl rfl)
theorem dX9_alike_16 : decode cX9_alike 16 = .ok (.goto 4, 3) := dk_167 0 4 (dk_at dksX9_alike_0 16 rfl rfl)
theorem dX9_alike_19 : decode cX9_alike 19 = .ok (.iconst 0, 1) := dk_3 (dk_at dksX9_alike_0 19 rfl rfl)
theorem dX9_alike_20 : decode cX9_alike 20 = .ok (.iconst 1, 1) := dk_4 (dk_at dksX9_alike_0 20 rfl rfl)
theorem dX9_alike_21 : decode cX9_alike 21 = .ok (.iconst 1, 1) := dk_4 (dk_at dksX9_alike_0 21 rfl rfl)
theorem dX9_alike_22 : decode cX9_alike 22 = .ok (.invokevirtual 171, 3) := dk_182 0 171 (dk_at dksX9_alike_1 0 rfl rfl)
theorem dX9_alike_25 : decode cX9_alike 25 = .ok (.ifCond .eq 5, 3) := dk_153 0 5 (dk_at dksX9_alike_1 3 rfl rfl)
theorem dX9_alike_28 : decode cX9_alike 28 = .ok (.iconst 0, 1) := dk_3 (dk_at dksX9_alike_1 6 rfl rfl)
theorem dX9_alike_29 : decode cX9_alike 29 = .ok (.ireturn, 1) := dk_172 (dk_at dksX9_alike_1 7 rfl rfl)
theorem dX9_alike_30 : decode cX9_alike 30 = .ok (.iconst 0, 1) := dk_3 (dk_at dksX9_alike_1 8 rfl rfl)
theorem dX9_alike_31 : decode cX9_alike 31 = .ok (.istore_n 2, 1) := dk_61 (dk_at dksX9_alike_1 9 rfl rfl)
theorem dX9_alike_32 : decode cX9_alike 32 = .ok (.iconst (-1), 1) := dk_2 (dk_at dksX9_alike_1 10 rfl rfl)
theorem dX9_alike_33 : decode cX9_alike 33 = .ok (.istore_n 3, 1) := dk_62 (dk_at dksX9_alike_1 11 rfl rfl)
theorem dX9_alike_34 : decode cX9_alike 34 = .ok (.iconst 0, 1) := dk_3 (dk_at dksX9_alike_1 12 rfl rfl)
theorem dX9_alike_35 : decode cX9_alike 35 = .ok (.istore 4, 2) := dk_54 4 (dk_at dksX9_alike_1 13 rfl rfl)
theorem dX9_alike_37 : decode cX9_alike 37 = .ok (.iload 4, 2) := dk_21 4 (dk_at dksX9_alike_1 15 rfl rfl)
theorem dX9_alike_39 : decode cX9_alike 39 = .ok (.aload_n 0, 1) := dk_42 (dk_at dksX9_alike_1 17 rfl rfl)
theorem dX9_alike_40 : decode cX9_alike 40 = .ok (.getfield 23, 3) := dk_180 0 23 (dk_at dksX9_alike_1 18 rfl rfl)
theorem dX9_alike_43 : decode cX9_alike 43 = .ok (.iconst 0, 1) := dk_3 (dk_at dksX9_alike_1 21 rfl rfl)
theorem dX9_alike_44 : decode cX9_alike 44 = .ok (.iaload, 1) := dk_46 (dk_at dksX9_alike_1 22 rfl rfl)
theorem dX9_alike_45 : decode cX9_alike 45 = .ok (.if_icmp .ge 76, 3) := dk_162 0 76 (dk_at dksX9_alike_2 0 rfl rfl)
theorem dX9_alike_48 : decode cX9_alike 48 = .ok (.iload 4, 2) := dk_21 4 (dk_at dksX9_alike_2 3 rfl rfl)
theorem dX9_alike_50 : decode cX9_alike 50 = .ok (.iconst 1, 1) := dk_4 (dk_at dksX9_alike_2 5 rfl rfl)
theorem dX9_alike_51 : decode cX9_alike 51 = .ok (.iadd, 1) := dk_96 (dk_at dksX9_alike_2 6 rfl rfl)
theorem dX9_alike_52 : decode cX9_alike 52 = .ok (.istore 5, 2) := dk_54 5 (dk_at dksX9_alike_2 7 rfl rfl)
theorem dX9_alike_54 : decode cX9_alike 54 = .ok (.iload 5, 2) := dk_21 5 (dk_at dksX9_alike_2 9 rfl rfl)
theorem dX9_alike_56 : decode cX9_alike 56 = .ok (.aload_n 0, 1) := dk_42 (dk_at dksX9_alike_2 11 rfl rfl)
theorem dX9_alike_57 : decode cX9_alike 57 = .ok (.getfield 23, 3) := dk_180 0 23 (dk_at dksX9_alike_2 12 rfl rfl)
theorem dX9_alike_60 : decode cX9_alike 60 = .ok (.iconst 0, 1) := dk_3 (dk_at dksX9_alike_2 15 rfl rfl)
theorem dX9_alike_61 : decode cX9_alike 61 = .ok (.iaload, 1) := dk_46 (dk_at dksX9_alike_2 16 rfl rfl)
theorem dX9_alike_62 : decode cX9_alike 62 = .ok (.if_icmp .ge 53, 3) := dk_162 0 53 (dk_at dksX9_alike_2 17 rfl rfl)
theorem dX9_alike_65 : decode cX9_alike 65 = .ok (.aload_n 0, 1) := dk_42 (dk_at dksX9_alike_2 20 rfl rfl)
theorem dX9_alike_66 : decode cX9_alike 66 = .ok (.getfield 61, 3) := dk_180 0 61 (dk_at dksX9_alike_2 21 rfl rfl)
theorem dX9_alike_69 : decode cX9_alike 69 = .ok (.iconst 0, 1) := dk_3 (dk_at dksX9_alike_3 0 rfl rfl)
theorem dX9_alike_70 : decode cX9_alike 70 = .ok (.iload 4, 2) := dk_21 4 (dk_at dksX9_alike_3 1 rfl rfl)
theorem dX9_alike_72 : decode cX9_alike 72 = .ok (.iadd, 1) := dk_96 (dk_at dksX9_alike_3 3 rfl rfl)
theorem dX9_alike_73 : decode cX9_alike 73 = .ok (.iaload, 1) := dk_46 (dk_at dksX9_alike_3 4 rfl rfl)
theorem dX9_alike_74 : decode cX9_alike 74 = .ok (.aload_n 0, 1) := dk_42 (dk_at dksX9_alike_3 5 rfl rfl)
theorem dX9_alike_75 : decode cX9_alike 75 = .ok (.getfield 61, 3) := dk_180 0 61 (dk_at dksX9_alike_3 6 rfl rfl)
theorem dX9_alike_78 : decode cX9_alike 78 = .ok (.iconst 0, 1) := dk_3 (dk_at dksX9_alike_3 9 rfl rfl)
theorem dX9_alike_79 : decode cX9_alike 79 = .ok (.iload 5, 2) := dk_21 5 (dk_at dksX9_alike_3 10 rfl rfl)
theorem dX9_alike_81 : decode cX9_alike 81 = .ok (.iadd, 1) := dk_96 (dk_at dksX9_alike_3 12 rfl rfl)
theorem dX9_alike_82 : decode cX9_alike 82 = .ok (.iaload, 1) := dk_46 (dk_at dksX9_alike_3 13 rfl rfl)
theorem dX9_alike_83 : decode cX9_alike 83 = .ok (.if_icmp .eq 6, 3) := dk_159 0 6 (dk_at dksX9_alike_3 14 rfl rfl)
theorem dX9_alike_86 : decode cX9_alike 86 = .ok (.goto 23, 3) := dk_167 0 23 (dk_at dksX9_alike_3 17 rfl rfl)
theorem dX9_alike_89 : decode cX9_alike 89 = .ok (.iload_n 2, 1) := dk_28 (dk_at dksX9_alike_3 20 rfl rfl)
theorem dX9_alike_90 : decode cX9_alike 90 = .ok (.ifCond .ne 14, 3) := dk_154 0 14 (dk_at dksX9_alike_3 21 rfl rfl)
theorem dX9_alike_93 : decode cX9_alike 93 = .ok (.bipush 10, 2) := dk_16 10 (dk_at dksX9_alike_4 0 rfl rfl)
theorem dX9_alike_95 : decode cX9_alike 95 = .ok (.iload 4, 2) := dk_21 4 (dk_at dksX9_alike_4 2 rfl rfl)
theorem dX9_alike_97 : decode cX9_alike 97 = .ok (.imul, 1) := dk_104 (dk_at dksX9_alike_4 4 rfl rfl)
theorem dX9_alike_98 : decode cX9_alike 98 = .ok (.iload 5, 2) := dk_21 5 (dk_at dksX9_alike_4 5 rfl rfl)
theorem dX9_alike_100 : decode cX9_alike 100 = .ok (.iadd, 1) := dk_96 (dk_at dksX9_alike_4 7 rfl rfl)
theorem dX9_alike_101 : decode cX9_alike 101 = .ok (.goto 4, 3) := dk_167 0 4 (dk_at dksX9_alike_4 8 rfl rfl)
theorem dX9_alike_104 : decode cX9_alike 104 = .ok (.iload_n 3, 1) := dk_29 (dk_at dksX9_alike_4 11 rfl rfl)
theorem dX9_alike_105 : decode cX9_alike 105 = .ok (.istore_n 3, 1) := dk_62 (dk_at dksX9_alike_4 12 rfl rfl)
theorem dX9_alike_106 : decode cX9_alike 106 = .ok (.iinc 2 1, 3) := dk_132 2 1 (dk_at dksX9_alike_4 13 rfl rfl)
theorem dX9_alike_109 : decode cX9_alike 109 = .ok (.iinc 5 1, 3) := dk_132 5 1 (dk_at dksX9_alike_4 16 rfl rfl)
theorem dX9_alike_112 : decode cX9_alike 112 = .ok (.goto (-58), 3) := dk_167 255 198 (dk_at dksX9_alike_4 19 rfl rfl)
theorem dX9_alike_115 : decode cX9_alike 115 = .ok (.iinc 4 1, 3) := dk_132 4 1 (dk_at dksX9_alike_5 0 rfl rfl)
theorem dX9_alike_118 : decode cX9_alike 118 = .ok (.goto (-81), 3) := dk_167 255 175 (dk_at dksX9_alike_5 3 rfl rfl)
theorem dX9_alike_121 : decode cX9_alike 121 = .ok (.iload_n 1, 1) := dk_27 (dk_at dksX9_alike_5 6 rfl rfl)
theorem dX9_alike_122 : decode cX9_alike 122 = .ok (.ifCond .ne 7, 3) := dk_154 0 7 (dk_at dksX9_alike_5 7 rfl rfl)
theorem dX9_alike_125 : decode cX9_alike 125 = .ok (.iload_n 2, 1) := dk_28 (dk_at dksX9_alike_5 10 rfl rfl)
theorem dX9_alike_126 : decode cX9_alike 126 = .ok (.goto 4, 3) := dk_167 0 4 (dk_at dksX9_alike_5 11 rfl rfl)
theorem dX9_alike_129 : decode cX9_alike 129 = .ok (.iload_n 3, 1) := dk_29 (dk_at dksX9_alike_5 14 rfl rfl)
theorem dX9_alike_130 : decode cX9_alike 130 = .ok (.ireturn, 1) := dk_172 (dk_at dksX9_alike_5 15 rfl rfl)
def dkwX9_against_3 : List UInt8 := [167, 255, 226, 29, 16, 10, 160, 0, 7, 2, 167, 0, 4, 29, 172]
abbrev dktX9_against_3 : List UInt8 := dkwX9_against_3 ++ []
def dkwX9_against_2 : List UInt8 := [180, 0, 61, 3, 27, 96, 46, 29, 104, 42, 180, 0, 61, 3, 28, 96, 46, 162, 0, 9, 132, 3, 1]
abbrev dktX9_against_2 : List UInt8 := dkwX9_against_2 ++ dktX9_against_3
def dkwX9_against_1 : List UInt8 := [167, 0, 4, 3, 4, 3, 182, 0, 171, 153, 0, 5, 3, 172, 4, 62, 29, 16, 10, 162, 0, 30, 42]
abbrev dktX9_against_1 : List UInt8 := dkwX9_against_1 ++ dktX9_against_2
def dkwX9_against_0 : List UInt8 := [42, 3, 181, 0, 92, 42, 42, 27, 182, 1, 72, 153, 0, 11, 42, 28, 182, 1, 72, 154, 0, 7, 4]
abbrev dktX9_against_0 : List UInt8 := dkwX9_against_0 ++ dktX9_against_1
theorem dksX9_against_0 : cX9_against.data.toList.drop 0 = dktX9_against_0 := by decide +kernel
theorem dksX9_against_1 : cX9_against.data.toList.drop 23 = dktX9_against_1 := dk_seg dksX9_against_0 23 rfl rfl
theorem dksX9_against_2 : cX9_against.data.toList.drop 46 = dktX9_against_2 := dk_seg dksX9_against_1 23 rfl rfl
theorem dksX9_against_3 : cX9_against.data.toList.drop 69 = dktX9_against_3 := dk_seg dksX9_against_2 23 rfl rfl
theorem dX9_against_0 : decode cX9_against 0 = .ok (.aload_n 0, 1) := dk_42 (dk_at dksX9_against_0 0 rfl rfl)
theorem dX9_against_1 : decode cX9_against 1 = .ok (.iconst 0, 1) := dk_3 (dk_at dksX9_against_0 1 rfl rfl)
theorem dX9_against_2 : decode cX9_against 2 = .ok (.putfield 92, 3) := dk_181 0 92 (dk_at dksX9_against_0 2 rfl rfl)
theorem dX9_against_5 : decode cX9_against 5 = .ok (.aload_n 0, 1) := dk_42 (dk_at dksX9_against_0 5 rfl rfl)
theorem dX9_against_6 : decode cX9_against 6 = .ok (.aload_n 0, 1) := dk_42 (dk_at dksX9_against_0 6 rfl rfl)
theorem dX9_against_7 : decode cX9_against 7 = .ok (.iload_n 1, 1) := dk_27 (dk_at dksX9_against_0 7 rfl rfl)
theorem dX9_against_8 : decode cX9_against 8 = .ok (.invokevirtual 328, 3) := dk_182 1 72 (dk_at dksX9_against_0 8 rfl rfl)
theorem dX9_against_11 : decode cX9_against 11 = .ok (.ifCond .eq 11, 3) := dk_153 0 11 (dk_at dksX9_against_0 11 rfl rfl)
theorem dX9_against_14 : decode cX9_against 14 = .ok (.aload_n 0, 1) := dk_42 (dk_at dksX9_against_0 14 rfl rfl)
theorem dX9_against_15 : decode cX9_against 15 = .ok (.iload_n 2, 1) := dk_28 (dk_at dksX9_against_0 15 rfl rfl)
theorem dX9_against_16 : decode cX9_against 16 = .ok (.invokevirtual 328, 3) := dk_182 1 72 (dk_at dksX9_against_0 16 rfl rfl)
theorem dX9_against_19 : decode cX9_against 19 = .ok (.ifCond .ne 7, 3) := dk_154 0 7 (dk_at dksX9_against_0 19 rfl rfl)
theorem dX9_against_22 : decode cX9_against 22 = .ok (.iconst 1, 1) := dk_4 (dk_at dksX9_against_0 22 rfl rfl)
theorem dX9_against_23 : decode cX9_against 23 = .ok (.goto 4, 3) := dk_167 0 4 (dk_at dksX9_against_1 0 rfl rfl)
theorem dX9_against_26 : decode cX9_against 26 = .ok (.iconst 0, 1) := dk_3 (dk_at dksX9_against_1 3 rfl rfl)
theorem dX9_against_27 : decode cX9_against 27 = .ok (.iconst 1, 1) := dk_4 (dk_at dksX9_against_1 4 rfl rfl)
theorem dX9_against_28 : decode cX9_against 28 = .ok (.iconst 0, 1) := dk_3 (dk_at dksX9_against_1 5 rfl rfl)
theorem dX9_against_29 : decode cX9_against 29 = .ok (.invokevirtual 171, 3) := dk_182 0 171 (dk_at dksX9_against_1 6 rfl rfl)
theorem dX9_against_32 : decode cX9_against 32 = .ok (.ifCond .eq 5, 3) := dk_153 0 5 (dk_at dksX9_against_1 9 rfl rfl)
theorem dX9_against_35 : decode cX9_against 35 = .ok (.iconst 0, 1) := dk_3 (dk_at dksX9_against_1 12 rfl rfl)
theorem dX9_against_36 : decode cX9_against 36 = .ok (.ireturn, 1) := dk_172 (dk_at dksX9_against_1 13 rfl rfl)
theorem dX9_against_37 : decode cX9_against 37 = .ok (.iconst 1, 1) := dk_4 (dk_at dksX9_against_1 14 rfl rfl)
theorem dX9_against_38 : decode cX9_against 38 = .ok (.istore_n 3, 1) := dk_62 (dk_at dksX9_against_1 15 rfl rfl)
theorem dX9_against_39 : decode cX9_against 39 = .ok (.iload_n 3, 1) := dk_29 (dk_at dksX9_against_1 16 rfl rfl)
theorem dX9_against_40 : decode cX9_against 40 = .ok (.bipush 10, 2) := dk_16 10 (dk_at dksX9_against_1 17 rfl rfl)
theorem dX9_against_42 : decode cX9_against 42 = .ok (.if_icmp .ge 30, 3) := dk_162 0 30 (dk_at dksX9_against_1 19 rfl rfl)
theorem dX9_against_45 : decode cX9_against 45 = .ok (.aload_n 0, 1) := dk_42 (dk_at dksX9_against_1 22 rfl rfl)
theorem dX9_against_46 : decode cX9_against 46 = .ok (.getfield 61, 3) := dk_180 0 61 (dk_at dksX9_against_2 0 rfl rfl)
theorem dX9_against_49 : decode cX9_against 49 = .ok (.iconst 0, 1) := dk_3 (dk_at dksX9_against_2 3 rfl rfl)
theorem dX9_against_50 : decode cX9_against 50 = .ok (.iload_n 1, 1) := dk_27 (dk_at dksX9_against_2 4 rfl rfl)
theorem dX9_against_51 : decode cX9_against 51 = .ok (.iadd, 1) := dk_96 (dk_at dksX9_against_2 5 rfl rfl)
theorem dX9_against_52 : decode cX9_against 52 = .ok (.iaload, 1) := dk_46 (dk_at dksX9_against_2 6 rfl rfl)
theorem dX9_against_53 : decode cX9_against 53 = .ok (.iload_n 3, 1) := dk_29 (dk_at dksX9_against_2 7 rfl rfl)
theorem dX9_against_54 : decode cX9_against 54 = .ok (.imul, 1) := dk_104 (dk_at dksX9_against_2 8 rfl rfl)
theorem dX9_against_55 : decode cX9_against 55 = .ok (.aload_n 0, 1) := dk_42 (dk_at dksX9_against_2 9 rfl rfl)
theorem dX9_against_56 : decode cX9_against 56 = .ok (.getfield 61, 3) := dk_180 0 61 (dk_at dksX9_against_2 10 rfl rfl)
theorem dX9_against_59 : decode cX9_against 59 = .ok (.iconst 0, 1) := dk_3 (dk_at dksX9_against_2 13 rfl rfl)
theorem dX9_against_60 : decode cX9_against 60 = .ok (.iload_n 2, 1) := dk_28 (dk_at dksX9_against_2 14 rfl rfl)
theorem dX9_against_61 : decode cX9_against 61 = .ok (.iadd, 1) := dk_96 (dk_at dksX9_against_2 15 rfl rfl)
theorem dX9_against_62 : decode cX9_against 62 = .ok (.iaload, 1) := dk_46 (dk_at dksX9_against_2 16 rfl rfl)
theorem dX9_against_63 : decode cX9_against 63 = .ok (.if_icmp .ge 9, 3) := dk_162 0 9 (dk_at dksX9_against_2 17 rfl rfl)
theorem dX9_against_66 : decode cX9_against 66 = .ok (.iinc 3 1, 3) := dk_132 3 1 (dk_at dksX9_against_2 20 rfl rfl)
theorem dX9_against_69 : decode cX9_against 69 = .ok (.goto (-30), 3) := dk_167 255 226 (dk_at dksX9_against_3 0 rfl rfl)
theorem dX9_against_72 : decode cX9_against 72 = .ok (.iload_n 3, 1) := dk_29 (dk_at dksX9_against_3 3 rfl rfl)
theorem dX9_against_73 : decode cX9_against 73 = .ok (.bipush 10, 2) := dk_16 10 (dk_at dksX9_against_3 4 rfl rfl)
theorem dX9_against_75 : decode cX9_against 75 = .ok (.if_icmp .ne 7, 3) := dk_160 0 7 (dk_at dksX9_against_3 6 rfl rfl)
theorem dX9_against_78 : decode cX9_against 78 = .ok (.iconst (-1), 1) := dk_2 (dk_at dksX9_against_3 9 rfl rfl)
theorem dX9_against_79 : decode cX9_against 79 = .ok (.goto 4, 3) := dk_167 0 4 (dk_at dksX9_against_3 10 rfl rfl)
theorem dX9_against_82 : decode cX9_against 82 = .ok (.iload_n 3, 1) := dk_29 (dk_at dksX9_against_3 13 rfl rfl)
theorem dX9_against_83 : decode cX9_against 83 = .ok (.ireturn, 1) := dk_172 (dk_at dksX9_against_3 14 rfl rfl)
def dkwX9_fair_4 : List UInt8 := [16, 58, 46, 100, 167, 0, 10, 42, 180, 0, 64, 184, 1, 66, 172]
abbrev dktX9_fair_4 : List UInt8 := dkwX9_fair_4 ++ []
def dkwX9_fair_3 : List UInt8 := [16, 56, 46, 167, 0, 34, 21, 4, 5, 160, 0, 21, 42, 180, 0, 64, 16, 58, 46, 42, 180, 0, 61]
abbrev dktX9_fair_3 : List UInt8 := dkwX9_fair_3 ++ dktX9_fair_4
def dkwX9_fair_2 : List UInt8 := [154, 0, 14, 42, 42, 180, 0, 64, 182, 1, 62, 167, 0, 50, 21, 4, 4, 160, 0, 13, 42, 180, 0, 64]
abbrev dktX9_fair_2 : List UInt8 := dkwX9_fair_2 ++ dktX9_fair_3
def dkwX9_fair_1 : List UInt8 := [4, 167, 0, 4, 3, 4, 4, 182, 0, 171, 153, 0, 5, 3, 172, 42, 27, 28, 29, 182, 1, 158, 21, 4]
abbrev dktX9_fair_1 : List UInt8 := dkwX9_fair_1 ++ dktX9_fair_2
def dkwX9_fair_0 : List UInt8 := [42, 3, 181, 0, 92, 42, 28, 29, 184, 1, 155, 153, 0, 13, 21, 4, 3, 6, 184, 0, 126, 154, 0, 7]
abbrev dktX9_fair_0 : List UInt8 := dkwX9_fair_0 ++ dktX9_fair_1
theorem dksX9_fair_0 : cX9_fair.data.toList.drop 0 = dktX9_fair_0 := by decide +kernel
theorem dksX9_fair_1 : cX9_fair.data.toList.drop 24 = dktX9_fair_1 := dk_seg dksX9_fair_0 24 rfl rfl
theorem dksX9_fair_2 : cX9_fair.data.toList.drop 48 = dktX9_fair_2 := dk_seg dksX9_fair_1 24 rfl rfl
theorem dksX9_fair_3 : cX9_fair.data.toList.drop 72 = dktX9_fair_3 := dk_seg dksX9_fair_2 24 rfl rfl
theorem dksX9_fair_4 : cX9_fair.data.toList.drop 95 = dktX9_fair_4 := dk_seg dksX9_fair_3 23 rfl rfl
theorem dX9_fair_0 : decode cX9_fair 0 = .ok (.aload_n 0, 1) := dk_42 (dk_at dksX9_fair_0 0 rfl rfl)
theorem dX9_fair_1 : decode cX9_fair 1 = .ok (.iconst 0, 1) := dk_3 (dk_at dksX9_fair_0 1 rfl rfl)
theorem dX9_fair_2 : decode cX9_fair 2 = .ok (.putfield 92, 3) := dk_181 0 92 (dk_at dksX9_fair_0 2 rfl rfl)
theorem dX9_fair_5 : decode cX9_fair 5 = .ok (.aload_n 0, 1) := dk_42 (dk_at dksX9_fair_0 5 rfl rfl)
theorem dX9_fair_6 : decode cX9_fair 6 = .ok (.iload_n 2, 1) := dk_28 (dk_at dksX9_fair_0 6 rfl rfl)
theorem dX9_fair_7 : decode cX9_fair 7 = .ok (.iload_n 3, 1) := dk_29 (dk_at dksX9_fair_0 7 rfl rfl)
theorem dX9_fair_8 : decode cX9_fair 8 = .ok (.invokestatic 411, 3) := dk_184 1 155 (dk_at dksX9_fair_0 8 rfl rfl)
theorem dX9_fair_11 : decode cX9_fair 11 = .ok (.ifCond .eq 13, 3) := dk_153 0 13 (dk_at dksX9_fair_0 11 rfl rfl)
theorem dX9_fair_14 : decode cX9_fair 14 = .ok (.iload 4, 2) := dk_21 4 (dk_at dksX9_fair_0 14 rfl rfl)
theorem dX9_fair_16 : decode cX9_fair 16 = .ok (.iconst 0, 1) := dk_3 (dk_at dksX9_fair_0 16 rfl rfl)
theorem dX9_fair_17 : decode cX9_fair 17 = .ok (.iconst 3, 1) := dk_6 (dk_at dksX9_fair_0 17 rfl rfl)
theorem dX9_fair_18 : decode cX9_fair 18 = .ok (.invokestatic 126, 3) := dk_184 0 126 (dk_at dksX9_fair_0 18 rfl rfl)
theorem dX9_fair_21 : decode cX9_fair 21 = .ok (.ifCond .ne 7, 3) := dk_154 0 7 (dk_at dksX9_fair_0 21 rfl rfl)
theorem dX9_fair_24 : decode cX9_fair 24 = .ok (.iconst 1, 1) := dk_4 (dk_at dksX9_fair_1 0 rfl rfl)
theorem dX9_fair_25 : decode cX9_fair 25 = .ok (.goto 4, 3) := dk_167 0 4 (dk_at dksX9_fair_1 1 rfl rfl)
theorem dX9_fair_28 : decode cX9_fair 28 = .ok (.iconst 0, 1) := dk_3 (dk_at dksX9_fair_1 4 rfl rfl)
theorem dX9_fair_29 : decode cX9_fair 29 = .ok (.iconst 1, 1) := dk_4 (dk_at dksX9_fair_1 5 rfl rfl)
theorem dX9_fair_30 : decode cX9_fair 30 = .ok (.iconst 1, 1) := dk_4 (dk_at dksX9_fair_1 6 rfl rfl)
theorem dX9_fair_31 : decode cX9_fair 31 = .ok (.invokevirtual 171, 3) := dk_182 0 171 (dk_at dksX9_fair_1 7 rfl rfl)
theorem dX9_fair_34 : decode cX9_fair 34 = .ok (.ifCond .eq 5, 3) := dk_153 0 5 (dk_at dksX9_fair_1 10 rfl rfl)
theorem dX9_fair_37 : decode cX9_fair 37 = .ok (.iconst 0, 1) := dk_3 (dk_at dksX9_fair_1 13 rfl rfl)
theorem dX9_fair_38 : decode cX9_fair 38 = .ok (.ireturn, 1) := dk_172 (dk_at dksX9_fair_1 14 rfl rfl)
theorem dX9_fair_39 : decode cX9_fair 39 = .ok (.aload_n 0, 1) := dk_42 (dk_at dksX9_fair_1 15 rfl rfl)
theorem dX9_fair_40 : decode cX9_fair 40 = .ok (.iload_n 1, 1) := dk_27 (dk_at dksX9_fair_1 16 rfl rfl)
theorem dX9_fair_41 : decode cX9_fair 41 = .ok (.iload_n 2, 1) := dk_28 (dk_at dksX9_fair_1 17 rfl rfl)
theorem dX9_fair_42 : decode cX9_fair 42 = .ok (.iload_n 3, 1) := dk_29 (dk_at dksX9_fair_1 18 rfl rfl)
theorem dX9_fair_43 : decode cX9_fair 43 = .ok (.invokevirtual 414, 3) := dk_182 1 158 (dk_at dksX9_fair_1 19 rfl rfl)
theorem dX9_fair_46 : decode cX9_fair 46 = .ok (.iload 4, 2) := dk_21 4 (dk_at dksX9_fair_1 22 rfl rfl)
theorem dX9_fair_48 : decode cX9_fair 48 = .ok (.ifCond .ne 14, 3) := dk_154 0 14 (dk_at dksX9_fair_2 0 rfl rfl)
theorem dX9_fair_51 : decode cX9_fair 51 = .ok (.aload_n 0, 1) := dk_42 (dk_at dksX9_fair_2 3 rfl rfl)
theorem dX9_fair_52 : decode cX9_fair 52 = .ok (.aload_n 0, 1) := dk_42 (dk_at dksX9_fair_2 4 rfl rfl)
theorem dX9_fair_53 : decode cX9_fair 53 = .ok (.getfield 64, 3) := dk_180 0 64 (dk_at dksX9_fair_2 5 rfl rfl)
theorem dX9_fair_56 : decode cX9_fair 56 = .ok (.invokevirtual 318, 3) := dk_182 1 62 (dk_at dksX9_fair_2 8 rfl rfl)
theorem dX9_fair_59 : decode cX9_fair 59 = .ok (.goto 50, 3) := dk_167 0 50 (dk_at dksX9_fair_2 11 rfl rfl)
theorem dX9_fair_62 : decode cX9_fair 62 = .ok (.iload 4, 2) := dk_21 4 (dk_at dksX9_fair_2 14 rfl rfl)
theorem dX9_fair_64 : decode cX9_fair 64 = .ok (.iconst 1, 1) := dk_4 (dk_at dksX9_fair_2 16 rfl rfl)
theorem dX9_fair_65 : decode cX9_fair 65 = .ok (.if_icmp .ne 13, 3) := dk_160 0 13 (dk_at dksX9_fair_2 17 rfl rfl)
theorem dX9_fair_68 : decode cX9_fair 68 = .ok (.aload_n 0, 1) := dk_42 (dk_at dksX9_fair_2 20 rfl rfl)
theorem dX9_fair_69 : decode cX9_fair 69 = .ok (.getfield 64, 3) := dk_180 0 64 (dk_at dksX9_fair_2 21 rfl rfl)
theorem dX9_fair_72 : decode cX9_fair 72 = .ok (.bipush 56, 2) := dk_16 56 (dk_at dksX9_fair_3 0 rfl rfl)
theorem dX9_fair_74 : decode cX9_fair 74 = .ok (.iaload, 1) := dk_46 (dk_at dksX9_fair_3 2 rfl rfl)
theorem dX9_fair_75 : decode cX9_fair 75 = .ok (.goto 34, 3) := dk_167 0 34 (dk_at dksX9_fair_3 3 rfl rfl)
theorem dX9_fair_78 : decode cX9_fair 78 = .ok (.iload 4, 2) := dk_21 4 (dk_at dksX9_fair_3 6 rfl rfl)
theorem dX9_fair_80 : decode cX9_fair 80 = .ok (.iconst 2, 1) := dk_5 (dk_at dksX9_fair_3 8 rfl rfl)
theorem dX9_fair_81 : decode cX9_fair 81 = .ok (.if_icmp .ne 21, 3) := dk_160 0 21 (dk_at dksX9_fair_3 9 rfl rfl)
theorem dX9_fair_84 : decode cX9_fair 84 = .ok (.aload_n 0, 1) := dk_42 (dk_at dksX9_fair_3 12 rfl rfl)
theorem dX9_fair_85 : decode cX9_fair 85 = .ok (.getfield 64, 3) := dk_180 0 64 (dk_at dksX9_fair_3 13 rfl rfl)
theorem dX9_fair_88 : decode cX9_fair 88 = .ok (.bipush 58, 2) := dk_16 58 (dk_at dksX9_fair_3 16 rfl rfl)
theorem dX9_fair_90 : decode cX9_fair 90 = .ok (.iaload, 1) := dk_46 (dk_at dksX9_fair_3 18 rfl rfl)
theorem dX9_fair_91 : decode cX9_fair 91 = .ok (.aload_n 0, 1) := dk_42 (dk_at dksX9_fair_3 19 rfl rfl)
theorem dX9_fair_92 : decode cX9_fair 92 = .ok (.getfield 61, 3) := dk_180 0 61 (dk_at dksX9_fair_3 20 rfl rfl)
theorem dX9_fair_95 : decode cX9_fair 95 = .ok (.bipush 58, 2) := dk_16 58 (dk_at dksX9_fair_4 0 rfl rfl)
theorem dX9_fair_97 : decode cX9_fair 97 = .ok (.iaload, 1) := dk_46 (dk_at dksX9_fair_4 2 rfl rfl)
theorem dX9_fair_98 : decode cX9_fair 98 = .ok (.isub, 1) := dk_100 (dk_at dksX9_fair_4 3 rfl rfl)
theorem dX9_fair_99 : decode cX9_fair 99 = .ok (.goto 10, 3) := dk_167 0 10 (dk_at dksX9_fair_4 4 rfl rfl)
theorem dX9_fair_102 : decode cX9_fair 102 = .ok (.aload_n 0, 1) := dk_42 (dk_at dksX9_fair_4 7 rfl rfl)
theorem dX9_fair_103 : decode cX9_fair 103 = .ok (.getfield 64, 3) := dk_180 0 64 (dk_at dksX9_fair_4 8 rfl rfl)
theorem dX9_fair_106 : decode cX9_fair 106 = .ok (.invokestatic 322, 3) := dk_184 1 66 (dk_at dksX9_fair_4 11 rfl rfl)
theorem dX9_fair_109 : decode cX9_fair 109 = .ok (.ireturn, 1) := dk_172 (dk_at dksX9_fair_4 14 rfl rfl)
def dkwX9_isFair_1 : List UInt8 := [3, 172]
abbrev dktX9_isFair_1 : List UInt8 := dkwX9_isFair_1 ++ []
def dkwX9_isFair_0 : List UInt8 := [26, 4, 16, 96, 184, 0, 126, 153, 0, 17, 27, 3, 16, 16, 184, 0, 126, 153, 0, 7, 4, 167, 0, 4]
abbrev dktX9_isFair_0 : List UInt8 := dkwX9_isFair_0 ++ dktX9_isFair_1
theorem dksX9_isFair_0 : cX9_isFair.data.toList.drop 0 = dktX9_isFair_0 := by decide +kernel
theorem dksX9_isFair_1 : cX9_isFair.data.toList.drop 24 = dktX9_isFair_1 := dk_seg dksX9_isFair_0 24 rfl rfl
theorem dX9_isFair_0 : decode cX9_isFair 0 = .ok (.iload_n 0, 1) := dk_26 (dk_at dksX9_isFair_0 0 rfl rfl)
theorem dX9_isFair_1 : decode cX9_isFair 1 = .ok (.iconst 1, 1) := dk_4 (dk_at dksX9_isFair_0 1 rfl rfl)
theorem dX9_isFair_2 : decode cX9_isFair 2 = .ok (.bipush 96, 2) := dk_16 96 (dk_at dksX9_isFair_0 2 rfl rfl)
theorem dX9_isFair_4 : decode cX9_isFair 4 = .ok (.invokestatic 126, 3) := dk_184 0 126 (dk_at dksX9_isFair_0 4 rfl rfl)
theorem dX9_isFair_7 : decode cX9_isFair 7 = .ok (.ifCond .eq 17, 3) := dk_153 0 17 (dk_at dksX9_isFair_0 7 rfl rfl)
theorem dX9_isFair_10 : decode cX9_isFair 10 = .ok (.iload_n 1, 1) := dk_27 (dk_at dksX9_isFair_0 10 rfl rfl)
theorem dX9_isFair_11 : decode cX9_isFair 11 = .ok (.iconst 0, 1) := dk_3 (dk_at dksX9_isFair_0 11 rfl rfl)
theorem dX9_isFair_12 : decode cX9_isFair 12 = .ok (.bipush 16, 2) := dk_16 16 (dk_at dksX9_isFair_0 12 rfl rfl)
theorem dX9_isFair_14 : decode cX9_isFair 14 = .ok (.invokestatic 126, 3) := dk_184 0 126 (dk_at dksX9_isFair_0 14 rfl rfl)
theorem dX9_isFair_17 : decode cX9_isFair 17 = .ok (.ifCond .eq 7, 3) := dk_153 0 7 (dk_at dksX9_isFair_0 17 rfl rfl)
theorem dX9_isFair_20 : decode cX9_isFair 20 = .ok (.iconst 1, 1) := dk_4 (dk_at dksX9_isFair_0 20 rfl rfl)
theorem dX9_isFair_21 : decode cX9_isFair 21 = .ok (.goto 4, 3) := dk_167 0 4 (dk_at dksX9_isFair_0 21 rfl rfl)
theorem dX9_isFair_24 : decode cX9_isFair 24 = .ok (.iconst 0, 1) := dk_3 (dk_at dksX9_isFair_1 0 rfl rfl)
theorem dX9_isFair_25 : decode cX9_isFair 25 = .ok (.ireturn, 1) := dk_172 (dk_at dksX9_isFair_1 1 rfl rfl)
def dkwX9_fairBy_4 : List UInt8 := [180, 0, 64, 3, 184, 1, 33, 87, 42, 42, 180, 0, 64, 182, 1, 41, 132, 4, 1, 167, 255, 166, 177]
abbrev dktX9_fairBy_4 : List UInt8 := dkwX9_fairBy_4 ++ []
def dkwX9_fairBy_3 : List UInt8 := [182, 1, 152, 96, 21, 6, 4, 182, 1, 30, 87, 42, 16, 16, 182, 1, 152, 29, 162, 0, 12, 42]
abbrev dktX9_fairBy_3 : List UInt8 := dkwX9_fairBy_3 ++ dktX9_fairBy_4
def dkwX9_fairBy_2 : List UInt8 := [42, 42, 180, 0, 23, 3, 46, 182, 1, 152, 54, 6, 42, 42, 180, 0, 64, 21, 5, 4, 42, 6]
abbrev dktX9_fairBy_2 : List UInt8 := dkwX9_fairBy_2 ++ dktX9_fairBy_3
def dkwX9_fairBy_1 : List UInt8 := [162, 0, 90, 42, 180, 0, 23, 3, 46, 158, 0, 67, 42, 42, 180, 0, 23, 3, 46, 182, 1, 152, 54, 5]
abbrev dktX9_fairBy_1 : List UInt8 := dkwX9_fairBy_1 ++ dktX9_fairBy_2
def dkwX9_fairBy_0 : List UInt8 := [42, 180, 0, 61, 42, 180, 0, 64, 184, 1, 58, 42, 27, 181, 1, 148, 3, 54, 4, 21, 4, 28]
abbrev dktX9_fairBy_0 : List UInt8 := dkwX9_fairBy_0 ++ dktX9_fairBy_1
theorem dksX9_fairBy_0 : cX9_fairBy.data.toList.drop 0 = dktX9_fairBy_0 := by decide +kernel
theorem dksX9_fairBy_1 : cX9_fairBy.data.toList.drop 22 = dktX9_fairBy_1 := dk_seg dksX9_fairBy_0 22 rfl rfl
theorem dksX9_fairBy_2 : cX9_fairBy.data.toList.drop 46 = dktX9_fairBy_2 := dk_seg dksX9_fairBy_1 24 rfl rfl
theorem dksX9_fairBy_3 : cX9_fairBy.data.toList.drop 68 = dktX9_fairBy_3 := dk_seg dksX9_fairBy_2 22 rfl rfl
theorem dksX9_fairBy_4 : cX9_fairBy.data.toList.drop 90 = dktX9_fairBy_4 := dk_seg dksX9_fairBy_3 22 rfl rfl
theorem dX9_fairBy_0 : decode cX9_fairBy 0 = .ok (.aload_n 0, 1) := dk_42 (dk_at dksX9_fairBy_0 0 rfl rfl)
theorem dX9_fairBy_1 : decode cX9_fairBy 1 = .ok (.getfield 61, 3) := dk_180 0 61 (dk_at dksX9_fairBy_0 1 rfl rfl)
theorem dX9_fairBy_4 : decode cX9_fairBy 4 = .ok (.aload_n 0, 1) := dk_42 (dk_at dksX9_fairBy_0 4 rfl rfl)
theorem dX9_fairBy_5 : decode cX9_fairBy 5 = .ok (.getfield 64, 3) := dk_180 0 64 (dk_at dksX9_fairBy_0 5 rfl rfl)
theorem dX9_fairBy_8 : decode cX9_fairBy 8 = .ok (.invokestatic 314, 3) := dk_184 1 58 (dk_at dksX9_fairBy_0 8 rfl rfl)
theorem dX9_fairBy_11 : decode cX9_fairBy 11 = .ok (.aload_n 0, 1) := dk_42 (dk_at dksX9_fairBy_0 11 rfl rfl)
theorem dX9_fairBy_12 : decode cX9_fairBy 12 = .ok (.iload_n 1, 1) := dk_27 (dk_at dksX9_fairBy_0 12 rfl rfl)
theorem dX9_fairBy_13 : decode cX9_fairBy 13 = .ok (.putfield 404, 3) := dk_181 1 148 (dk_at dksX9_fairBy_0 13 rfl rfl)
theorem dX9_fairBy_16 : decode cX9_fairBy 16 = .ok (.iconst 0, 1) := dk_3 (dk_at dksX9_fairBy_0 16 rfl rfl)
theorem dX9_fairBy_17 : decode cX9_fairBy 17 = .ok (.istore 4, 2) := dk_54 4 (dk_at dksX9_fairBy_0 17 rfl rfl)
theorem dX9_fairBy_19 : decode cX9_fairBy 19 = .ok (.iload 4, 2) := dk_21 4 (dk_at dksX9_fairBy_0 19 rfl rfl)
theorem dX9_fairBy_21 : decode cX9_fairBy 21 = .ok (.iload_n 2, 1) := dk_28 (dk_at dksX9_fairBy_0 21 rfl rfl)
theorem dX9_fairBy_22 : decode cX9_fairBy 22 = .ok (.if_icmp .ge 90, 3) := dk_162 0 90 (dk_at dksX9_fairBy_1 0 rfl rfl)
theorem dX9_fairBy_25 : decode cX9_fairBy 25 = .ok (.aload_n 0, 1) := dk_42 (dk_at dksX9_fairBy_1 3 rfl rfl)
theorem dX9_fairBy_26 : decode cX9_fairBy 26 = .ok (.getfield 23, 3) := dk_180 0 23 (dk_at dksX9_fairBy_1 4 rfl rfl)
theorem dX9_fairBy_29 : decode cX9_fairBy 29 = .ok (.iconst 0, 1) := dk_3 (dk_at dksX9_fairBy_1 7 rfl rfl)
theorem dX9_fairBy_30 : decode cX9_fairBy 30 = .ok (.iaload, 1) := dk_46 (dk_at dksX9_fairBy_1 8 rfl rfl)
theorem dX9_fairBy_31 : decode cX9_fairBy 31 = .ok (.ifCond .le 67, 3) := dk_158 0 67 (dk_at dksX9_fairBy_1 9 rfl rfl)
theorem dX9_fairBy_34 : decode cX9_fairBy 34 = .ok (.aload_n 0, 1) := dk_42 (dk_at dksX9_fairBy_1 12 rfl rfl)
theorem dX9_fairBy_35 : decode cX9_fairBy 35 = .ok (.aload_n 0, 1) := dk_42 (dk_at dksX9_fairBy_1 13 rfl rfl)
theorem dX9_fairBy_36 : decode cX9_fairBy 36 = .ok (.getfield 23, 3) := dk_180 0 23 (dk_at dksX9_fairBy_1 14 rfl rfl)
theorem dX9_fairBy_39 : decode cX9_fairBy 39 = .ok (.iconst 0, 1) := dk_3 (dk_at dksX9_fairBy_1 17 rfl rfl)
theorem dX9_fairBy_40 : decode cX9_fairBy 40 = .ok (.iaload, 1) := dk_46 (dk_at dksX9_fairBy_1 18 rfl rfl)
theorem dX9_fairBy_41 : decode cX9_fairBy 41 = .ok (.invokevirtual 408, 3) := dk_182 1 152 (dk_at dksX9_fairBy_1 19 rfl rfl)
theorem dX9_fairBy_44 : decode cX9_fairBy 44 = .ok (.istore 5, 2) := dk_54 5 (dk_at dksX9_fairBy_1 22 rfl rfl)
theorem dX9_fairBy_46 : decode cX9_fairBy 46 = .ok (.aload_n 0, 1) := dk_42 (dk_at dksX9_fairBy_2 0 rfl rfl)
theorem dX9_fairBy_47 : decode cX9_fairBy 47 = .ok (.aload_n 0, 1) := dk_42 (dk_at dksX9_fairBy_2 1 rfl rfl)
theorem dX9_fairBy_48 : decode cX9_fairBy 48 = .ok (.getfield 23, 3) := dk_180 0 23 (dk_at dksX9_fairBy_2 2 rfl rfl)
theorem dX9_fairBy_51 : decode cX9_fairBy 51 = .ok (.iconst 0, 1) := dk_3 (dk_at dksX9_fairBy_2 5 rfl rfl)
theorem dX9_fairBy_52 : decode cX9_fairBy 52 = .ok (.iaload, 1) := dk_46 (dk_at dksX9_fairBy_2 6 rfl rfl)
theorem dX9_fairBy_53 : decode cX9_fairBy 53 = .ok (.invokevirtual 408, 3) := dk_182 1 152 (dk_at dksX9_fairBy_2 7 rfl rfl)
theorem dX9_fairBy_56 : decode cX9_fairBy 56 = .ok (.istore 6, 2) := dk_54 6 (dk_at dksX9_fairBy_2 10 rfl rfl)
theorem dX9_fairBy_58 : decode cX9_fairBy 58 = .ok (.aload_n 0, 1) := dk_42 (dk_at dksX9_fairBy_2 12 rfl rfl)
theorem dX9_fairBy_59 : decode cX9_fairBy 59 = .ok (.aload_n 0, 1) := dk_42 (dk_at dksX9_fairBy_2 13 rfl rfl)
theorem dX9_fairBy_60 : decode cX9_fairBy 60 = .ok (.getfield 64, 3) := dk_180 0 64 (dk_at dksX9_fairBy_2 14 rfl rfl)
theorem dX9_fairBy_63 : decode cX9_fairBy 63 = .ok (.iload 5, 2) := dk_21 5 (dk_at dksX9_fairBy_2 17 rfl rfl)
theorem dX9_fairBy_65 : decode cX9_fairBy 65 = .ok (.iconst 1, 1) := dk_4 (dk_at dksX9_fairBy_2 19 rfl rfl)
theorem dX9_fairBy_66 : decode cX9_fairBy 66 = .ok (.aload_n 0, 1) := dk_42 (dk_at dksX9_fairBy_2 20 rfl rfl)
theorem dX9_fairBy_67 : decode cX9_fairBy 67 = .ok (.iconst 3, 1) := dk_6 (dk_at dksX9_fairBy_2 21 rfl rfl)
theorem dX9_fairBy_68 : decode cX9_fairBy 68 = .ok (.invokevirtual 408, 3) := dk_182 1 152 (dk_at dksX9_fairBy_3 0 rfl rfl)
theorem dX9_fairBy_71 : decode cX9_fairBy 71 = .ok (.iadd, 1) := dk_96 (dk_at dksX9_fairBy_3 3 rfl rfl)
theorem dX9_fairBy_72 : decode cX9_fairBy 72 = .ok (.iload 6, 2) := dk_21 6 (dk_at dksX9_fairBy_3 4 rfl rfl)
theorem dX9_fairBy_74 : decode cX9_fairBy 74 = .ok (.iconst 1, 1) := dk_4 (dk_at dksX9_fairBy_3 6 rfl rfl)
theorem dX9_fairBy_75 : decode cX9_fairBy 75 = .ok (.invokevirtual 286, 3) := dk_182 1 30 (dk_at dksX9_fairBy_3 7 rfl rfl)
theorem dX9_fairBy_78 : decode cX9_fairBy 78 = .ok (.pop, 1) := dk_87 (dk_at dksX9_fairBy_3 10 rfl rfl)
theorem dX9_fairBy_79 : decode cX9_fairBy 79 = .ok (.aload_n 0, 1) := dk_42 (dk_at dksX9_fairBy_3 11 rfl rfl)
theorem dX9_fairBy_80 : decode cX9_fairBy 80 = .ok (.bipush 16, 2) := dk_16 16 (dk_at dksX9_fairBy_3 12 rfl rfl)
theorem dX9_fairBy_82 : decode cX9_fairBy 82 = .ok (.invokevirtual 408, 3) := dk_182 1 152 (dk_at dksX9_fairBy_3 14 rfl rfl)
theorem dX9_fairBy_85 : decode cX9_fairBy 85 = .ok (.iload_n 3, 1) := dk_29 (dk_at dksX9_fairBy_3 17 rfl rfl)
theorem dX9_fairBy_86 : decode cX9_fairBy 86 = .ok (.if_icmp .ge 12, 3) := dk_162 0 12 (dk_at dksX9_fairBy_3 18 rfl rfl)
theorem dX9_fairBy_89 : decode cX9_fairBy 89 = .ok (.aload_n 0, 1) := dk_42 (dk_at dksX9_fairBy_3 21 rfl rfl)
theorem dX9_fairBy_90 : decode cX9_fairBy 90 = .ok (.getfield 64, 3) := dk_180 0 64 (dk_at dksX9_fairBy_4 0 rfl rfl)
theorem dX9_fairBy_93 : decode cX9_fairBy 93 = .ok (.iconst 0, 1) := dk_3 (dk_at dksX9_fairBy_4 3 rfl rfl)
theorem dX9_fairBy_94 : decode cX9_fairBy 94 = .ok (.invokestatic 289, 3) := dk_184 1 33 (dk_at dksX9_fairBy_4 4 rfl rfl)
theorem dX9_fairBy_97 : decode cX9_fairBy 97 = .ok (.pop, 1) := dk_87 (dk_at dksX9_fairBy_4 7 rfl rfl)
theorem dX9_fairBy_98 : decode cX9_fairBy 98 = .ok (.aload_n 0, 1) := dk_42 (dk_at dksX9_fairBy_4 8 rfl rfl)
theorem dX9_fairBy_99 : decode cX9_fairBy 99 = .ok (.aload_n 0, 1) := dk_42 (dk_at dksX9_fairBy_4 9 rfl rfl)
theorem dX9_fairBy_100 : decode cX9_fairBy 100 = .ok (.getfield 64, 3) := dk_180 0 64 (dk_at dksX9_fairBy_4 10 rfl rfl)
theorem dX9_fairBy_103 : decode cX9_fairBy 103 = .ok (.invokevirtual 297, 3) := dk_182 1 41 (dk_at dksX9_fairBy_4 13 rfl rfl)
theorem dX9_fairBy_106 : decode cX9_fairBy 106 = .ok (.iinc 4 1, 3) := dk_132 4 1 (dk_at dksX9_fairBy_4 16 rfl rfl)
theorem dX9_fairBy_109 : decode cX9_fairBy 109 = .ok (.goto (-90), 3) := dk_167 255 166 (dk_at dksX9_fairBy_4 19 rfl rfl)
theorem dX9_fairBy_112 : decode cX9_fairBy 112 = .ok (.return_, 1) := dk_177 (dk_at dksX9_fairBy_4 22 rfl rfl)
def dkwX9_draw_1 : List UInt8 := [17, 127, 255, 126, 27, 112, 172]
abbrev dktX9_draw_1 : List UInt8 := dkwX9_draw_1 ++ []
def dkwX9_draw_0 : List UInt8 := [42, 42, 180, 1, 148, 19, 1, 151, 104, 17, 48, 57, 96, 181, 1, 148, 42, 180, 1, 148, 16, 16, 122]
abbrev dktX9_draw_0 : List UInt8 := dkwX9_draw_0 ++ dktX9_draw_1
theorem dksX9_draw_0 : cX9_draw.data.toList.drop 0 = dktX9_draw_0 := by decide +kernel
theorem dksX9_draw_1 : cX9_draw.data.toList.drop 23 = dktX9_draw_1 := dk_seg dksX9_draw_0 23 rfl rfl
theorem dX9_draw_0 : decode cX9_draw 0 = .ok (.aload_n 0, 1) := dk_42 (dk_at dksX9_draw_0 0 rfl rfl)
theorem dX9_draw_1 : decode cX9_draw 1 = .ok (.aload_n 0, 1) := dk_42 (dk_at dksX9_draw_0 1 rfl rfl)
theorem dX9_draw_2 : decode cX9_draw 2 = .ok (.getfield 404, 3) := dk_180 1 148 (dk_at dksX9_draw_0 2 rfl rfl)
theorem dX9_draw_5 : decode cX9_draw 5 = .ok (.ldc_w 407, 3) := dk_19 1 151 (dk_at dksX9_draw_0 5 rfl rfl)
theorem dX9_draw_8 : decode cX9_draw 8 = .ok (.imul, 1) := dk_104 (dk_at dksX9_draw_0 8 rfl rfl)
theorem dX9_draw_9 : decode cX9_draw 9 = .ok (.sipush 12345, 3) := dk_17 48 57 (dk_at dksX9_draw_0 9 rfl rfl)
theorem dX9_draw_12 : decode cX9_draw 12 = .ok (.iadd, 1) := dk_96 (dk_at dksX9_draw_0 12 rfl rfl)
theorem dX9_draw_13 : decode cX9_draw 13 = .ok (.putfield 404, 3) := dk_181 1 148 (dk_at dksX9_draw_0 13 rfl rfl)
theorem dX9_draw_16 : decode cX9_draw 16 = .ok (.aload_n 0, 1) := dk_42 (dk_at dksX9_draw_0 16 rfl rfl)
theorem dX9_draw_17 : decode cX9_draw 17 = .ok (.getfield 404, 3) := dk_180 1 148 (dk_at dksX9_draw_0 17 rfl rfl)
theorem dX9_draw_20 : decode cX9_draw 20 = .ok (.bipush 16, 2) := dk_16 16 (dk_at dksX9_draw_0 20 rfl rfl)
theorem dX9_draw_22 : decode cX9_draw 22 = .ok (.ishr, 1) := dk_122 (dk_at dksX9_draw_0 22 rfl rfl)
theorem dX9_draw_23 : decode cX9_draw 23 = .ok (.sipush 32767, 3) := dk_17 127 255 (dk_at dksX9_draw_1 0 rfl rfl)
theorem dX9_draw_26 : decode cX9_draw 26 = .ok (.iand, 1) := dk_126 (dk_at dksX9_draw_1 3 rfl rfl)
theorem dX9_draw_27 : decode cX9_draw 27 = .ok (.iload_n 1, 1) := dk_27 (dk_at dksX9_draw_1 4 rfl rfl)
theorem dX9_draw_28 : decode cX9_draw 28 = .ok (.irem, 1) := dk_112 (dk_at dksX9_draw_1 5 rfl rfl)
theorem dX9_draw_29 : decode cX9_draw 29 = .ok (.ireturn, 1) := dk_172 (dk_at dksX9_draw_1 6 rfl rfl)
def dkwX9_span_7 : List UInt8 := [167, 0, 16, 21, 5, 4, 160, 0, 8, 21, 8, 167, 0, 5, 21, 9, 172]
abbrev dktX9_span_7 : List UInt8 := dkwX9_span_7 ++ []
def dkwX9_span_6 : List UInt8 := [154, 0, 7, 3, 167, 0, 4, 4, 96, 54, 9, 132, 10, 1, 167, 255, 175, 21, 5, 154, 0, 8, 21, 7]
abbrev dktX9_span_6 : List UInt8 := dkwX9_span_6 ++ dktX9_span_7
def dkwX9_span_5 : List UInt8 := [54, 7, 21, 8, 21, 11, 184, 0, 238, 54, 8, 21, 9, 42, 180, 0, 64, 21, 6, 184, 1, 0]
abbrev dktX9_span_5 : List UInt8 := dkwX9_span_5 ++ dktX9_span_6
def dkwX9_span_4 : List UInt8 := [182, 1, 62, 54, 11, 21, 7, 2, 160, 0, 8, 21, 11, 167, 0, 10, 21, 7, 21, 11, 184, 0, 235]
abbrev dktX9_span_4 : List UInt8 := dkwX9_span_4 ++ dktX9_span_5
def dkwX9_span_3 : List UInt8 := [54, 10, 21, 10, 28, 162, 0, 81, 42, 27, 21, 10, 96, 29, 21, 4, 182, 1, 158, 42, 42, 180, 0, 64]
abbrev dktX9_span_3 : List UInt8 := dkwX9_span_3 ++ dktX9_span_4
def dkwX9_span_2 : List UInt8 := [167, 0, 4, 3, 4, 4, 182, 0, 171, 153, 0, 5, 3, 172, 2, 54, 7, 3, 54, 8, 3, 54, 9, 3]
abbrev dktX9_span_2 : List UInt8 := dkwX9_span_2 ++ dktX9_span_3
def dkwX9_span_1 : List UInt8 := [153, 0, 22, 21, 5, 3, 5, 184, 0, 126, 153, 0, 12, 42, 21, 6, 182, 1, 72, 154, 0, 7, 4]
abbrev dktX9_span_1 : List UInt8 := dkwX9_span_1 ++ dktX9_span_2
def dkwX9_span_0 : List UInt8 := [42, 3, 181, 0, 92, 42, 28, 4, 16, 20, 184, 0, 126, 153, 0, 31, 29, 21, 4, 184, 1, 155]
abbrev dktX9_span_0 : List UInt8 := dkwX9_span_0 ++ dktX9_span_1
theorem dksX9_span_0 : cX9_span.data.toList.drop 0 = dktX9_span_0 := by decide +kernel
theorem dksX9_span_1 : cX9_span.data.toList.drop 22 = dktX9_span_1 := dk_seg dksX9_span_0 22 rfl rfl
theorem dksX9_span_2 : cX9_span.data.toList.drop 45 = dktX9_span_2 := dk_seg dksX9_span_1 23 rfl rfl
theorem dksX9_span_3 : cX9_span.data.toList.drop 69 = dktX9_span_3 := dk_seg dksX9_span_2 24 rfl rfl
theorem dksX9_span_4 : cX9_span.data.toList.drop 93 = dktX9_span_4 := dk_seg dksX9_span_3 24 rfl rfl
theorem dksX9_span_5 : cX9_span.data.toList.drop 116 = dktX9_span_5 := dk_seg dksX9_span_4 23 rfl rfl
theorem dksX9_span_6 : cX9_span.data.toList.drop 138 = dktX9_span_6 := dk_seg dksX9_span_5 22 rfl rfl
theorem dksX9_span_7 : cX9_span.data.toList.drop 162 = dktX9_span_7 := dk_seg dksX9_span_6 24 rfl rfl
theorem dX9_span_0 : decode cX9_span 0 = .ok (.aload_n 0, 1) := dk_42 (dk_at dksX9_span_0 0 rfl rfl)
theorem dX9_span_1 : decode cX9_span 1 = .ok (.iconst 0, 1) := dk_3 (dk_at dksX9_span_0 1 rfl rfl)
theorem dX9_span_2 : decode cX9_span 2 = .ok (.putfield 92, 3) := dk_181 0 92 (dk_at dksX9_span_0 2 rfl rfl)
theorem dX9_span_5 : decode cX9_span 5 = .ok (.aload_n 0, 1) := dk_42 (dk_at dksX9_span_0 5 rfl rfl)
theorem dX9_span_6 : decode cX9_span 6 = .ok (.iload_n 2, 1) := dk_28 (dk_at dksX9_span_0 6 rfl rfl)
theorem dX9_span_7 : decode cX9_span 7 = .ok (.iconst 1, 1) := dk_4 (dk_at dksX9_span_0 7 rfl rfl)
theorem dX9_span_8 : decode cX9_span 8 = .ok (.bipush 20, 2) := dk_16 20 (dk_at dksX9_span_0 8 rfl rfl)
theorem dX9_span_10 : decode cX9_span 10 = .ok (.invokestatic 126, 3) := dk_184 0 126 (dk_at dksX9_span_0 10 rfl rfl)
theorem dX9_span_13 : decode cX9_span 13 = .ok (.ifCond .eq 31, 3) := dk_153 0 31 (dk_at dksX9_span_0 13 rfl rfl)
theorem dX9_span_16 : decode cX9_span 16 = .ok (.iload_n 3, 1) := dk_29 (dk_at dksX9_span_0 16 rfl rfl)
theorem dX9_span_17 : decode cX9_span 17 = .ok (.iload 4, 2) := dk_21 4 (dk_at dksX9_span_0 17 rfl rfl)
theorem dX9_span_19 : decode cX9_span 19 = .ok (.invokestatic 411, 3) := dk_184 1 155 (dk_at dksX9_span_0 19 rfl rfl)
theorem dX9_span_22 : decode cX9_span 22 = .ok (.ifCond .eq 22, 3) := dk_153 0 22 (dk_at dksX9_span_1 0 rfl rfl)
theorem dX9_span_25 : decode cX9_span 25 = .ok (.iload 5, 2) := dk_21 5 (dk_at dksX9_span_1 3 rfl rfl)
theorem dX9_span_27 : decode cX9_span 27 = .ok (.iconst 0, 1) := dk_3 (dk_at dksX9_span_1 5 rfl rfl)
theorem dX9_span_28 : decode cX9_span 28 = .ok (.iconst 2, 1) := dk_5 (dk_at dksX9_span_1 6 rfl rfl)
theorem dX9_span_29 : decode cX9_span 29 = .ok (.invokestatic 126, 3) := dk_184 0 126 (dk_at dksX9_span_1 7 rfl rfl)
theorem dX9_span_32 : decode cX9_span 32 = .ok (.ifCond .eq 12, 3) := dk_153 0 12 (dk_at dksX9_span_1 10 rfl rfl)
theorem dX9_span_35 : decode cX9_span 35 = .ok (.aload_n 0, 1) := dk_42 (dk_at dksX9_span_1 13 rfl rfl)
theorem dX9_span_36 : decode cX9_span 36 = .ok (.iload 6, 2) := dk_21 6 (dk_at dksX9_span_1 14 rfl rfl)
theorem dX9_span_38 : decode cX9_span 38 = .ok (.invokevirtual 328, 3) := dk_182 1 72 (dk_at dksX9_span_1 16 rfl rfl)
theorem dX9_span_41 : decode cX9_span 41 = .ok (.ifCond .ne 7, 3) := dk_154 0 7 (dk_at dksX9_span_1 19 rfl rfl)
theorem dX9_span_44 : decode cX9_span 44 = .ok (.iconst 1, 1) := dk_4 (dk_at dksX9_span_1 22 rfl rfl)
theorem dX9_span_45 : decode cX9_span 45 = .ok (.goto 4, 3) := dk_167 0 4 (dk_at dksX9_span_2 0 rfl rfl)
theorem dX9_span_48 : decode cX9_span 48 = .ok (.iconst 0, 1) := dk_3 (dk_at dksX9_span_2 3 rfl rfl)
theorem dX9_span_49 : decode cX9_span 49 = .ok (.iconst 1, 1) := dk_4 (dk_at dksX9_span_2 4 rfl rfl)
theorem dX9_span_50 : decode cX9_span 50 = .ok (.iconst 1, 1) := dk_4 (dk_at dksX9_span_2 5 rfl rfl)
theorem dX9_span_51 : decode cX9_span 51 = .ok (.invokevirtual 171, 3) := dk_182 0 171 (dk_at dksX9_span_2 6 rfl rfl)
theorem dX9_span_54 : decode cX9_span 54 = .ok (.ifCond .eq 5, 3) := dk_153 0 5 (dk_at dksX9_span_2 9 rfl rfl)
theorem dX9_span_57 : decode cX9_span 57 = .ok (.iconst 0, 1) := dk_3 (dk_at dksX9_span_2 12 rfl rfl)
theorem dX9_span_58 : decode cX9_span 58 = .ok (.ireturn, 1) := dk_172 (dk_at dksX9_span_2 13 rfl rfl)
theorem dX9_span_59 : decode cX9_span 59 = .ok (.iconst (-1), 1) := dk_2 (dk_at dksX9_span_2 14 rfl rfl)
theorem dX9_span_60 : decode cX9_span 60 = .ok (.istore 7, 2) := dk_54 7 (dk_at dksX9_span_2 15 rfl rfl)
theorem dX9_span_62 : decode cX9_span 62 = .ok (.iconst 0, 1) := dk_3 (dk_at dksX9_span_2 17 rfl rfl)
theorem dX9_span_63 : decode cX9_span 63 = .ok (.istore 8, 2) := dk_54 8 (dk_at dksX9_span_2 18 rfl rfl)
theorem dX9_span_65 : decode cX9_span 65 = .ok (.iconst 0, 1) := dk_3 (dk_at dksX9_span_2 20 rfl rfl)
theorem dX9_span_66 : decode cX9_span 66 = .ok (.istore 9, 2) := dk_54 9 (dk_at dksX9_span_2 21 rfl rfl)
theorem dX9_span_68 : decode cX9_span 68 = .ok (.iconst 0, 1) := dk_3 (dk_at dksX9_span_2 23 rfl rfl)
theorem dX9_span_69 : decode cX9_span 69 = .ok (.istore 10, 2) := dk_54 10 (dk_at dksX9_span_3 0 rfl rfl)
theorem dX9_span_71 : decode cX9_span 71 = .ok (.iload 10, 2) := dk_21 10 (dk_at dksX9_span_3 2 rfl rfl)
theorem dX9_span_73 : decode cX9_span 73 = .ok (.iload_n 2, 1) := dk_28 (dk_at dksX9_span_3 4 rfl rfl)
theorem dX9_span_74 : decode cX9_span 74 = .ok (.if_icmp .ge 81, 3) := dk_162 0 81 (dk_at dksX9_span_3 5 rfl rfl)
theorem dX9_span_77 : decode cX9_span 77 = .ok (.aload_n 0, 1) := dk_42 (dk_at dksX9_span_3 8 rfl rfl)
theorem dX9_span_78 : decode cX9_span 78 = .ok (.iload_n 1, 1) := dk_27 (dk_at dksX9_span_3 9 rfl rfl)
theorem dX9_span_79 : decode cX9_span 79 = .ok (.iload 10, 2) := dk_21 10 (dk_at dksX9_span_3 10 rfl rfl)
theorem dX9_span_81 : decode cX9_span 81 = .ok (.iadd, 1) := dk_96 (dk_at dksX9_span_3 12 rfl rfl)
theorem dX9_span_82 : decode cX9_span 82 = .ok (.iload_n 3, 1) := dk_29 (dk_at dksX9_span_3 13 rfl rfl)
theorem dX9_span_83 : decode cX9_span 83 = .ok (.iload 4, 2) := dk_21 4 (dk_at dksX9_span_3 14 rfl rfl)
theorem dX9_span_85 : decode cX9_span 85 = .ok (.invokevirtual 414, 3) := dk_182 1 158 (dk_at dksX9_span_3 16 rfl rfl)
theorem dX9_span_88 : decode cX9_span 88 = .ok (.aload_n 0, 1) := dk_42 (dk_at dksX9_span_3 19 rfl rfl)
theorem dX9_span_89 : decode cX9_span 89 = .ok (.aload_n 0, 1) := dk_42 (dk_at dksX9_span_3 20 rfl rfl)
theorem dX9_span_90 : decode cX9_span 90 = .ok (.getfield 64, 3) := dk_180 0 64 (dk_at dksX9_span_3 21 rfl rfl)
theorem dX9_span_93 : decode cX9_span 93 = .ok (.invokevirtual 318, 3) := dk_182 1 62 (dk_at dksX9_span_4 0 rfl rfl)
theorem dX9_span_96 : decode cX9_span 96 = .ok (.istore 11, 2) := dk_54 11 (dk_at dksX9_span_4 3 rfl rfl)
theorem dX9_span_98 : decode cX9_span 98 = .ok (.iload 7, 2) := dk_21 7 (dk_at dksX9_span_4 5 rfl rfl)
theorem dX9_span_100 : decode cX9_span 100 = .ok (.iconst (-1), 1) := dk_2 (dk_at dksX9_span_4 7 rfl rfl)
theorem dX9_span_101 : decode cX9_span 101 = .ok (.if_icmp .ne 8, 3) := dk_160 0 8 (dk_at dksX9_span_4 8 rfl rfl)
theorem dX9_span_104 : decode cX9_span 104 = .ok (.iload 11, 2) := dk_21 11 (dk_at dksX9_span_4 11 rfl rfl)
theorem dX9_span_106 : decode cX9_span 106 = .ok (.goto 10, 3) := dk_167 0 10 (dk_at dksX9_span_4 13 rfl rfl)
theorem dX9_span_109 : decode cX9_span 109 = .ok (.iload 7, 2) := dk_21 7 (dk_at dksX9_span_4 16 rfl rfl)
theorem dX9_span_111 : decode cX9_span 111 = .ok (.iload 11, 2) := dk_21 11 (dk_at dksX9_span_4 18 rfl rfl)
theorem dX9_span_113 : decode cX9_span 113 = .ok (.invokestatic 235, 3) := dk_184 0 235 (dk_at dksX9_span_4 20 rfl rfl)
theorem dX9_span_116 : decode cX9_span 116 = .ok (.istore 7, 2) := dk_54 7 (dk_at dksX9_span_5 0 rfl rfl)
theorem dX9_span_118 : decode cX9_span 118 = .ok (.iload 8, 2) := dk_21 8 (dk_at dksX9_span_5 2 rfl rfl)
theorem dX9_span_120 : decode cX9_span 120 = .ok (.iload 11, 2) := dk_21 11 (dk_at dksX9_span_5 4 rfl rfl)
theorem dX9_span_122 : decode cX9_span 122 = .ok (.invokestatic 238, 3) := dk_184 0 238 (dk_at dksX9_span_5 6 rfl rfl)
theorem dX9_span_125 : decode cX9_span 125 = .ok (.istore 8, 2) := dk_54 8 (dk_at dksX9_span_5 9 rfl rfl)
theorem dX9_span_127 : decode cX9_span 127 = .ok (.iload 9, 2) := dk_21 9 (dk_at dksX9_span_5 11 rfl rfl)
theorem dX9_span_129 : decode cX9_span 129 = .ok (.aload_n 0, 1) := dk_42 (dk_at dksX9_span_5 13 rfl rfl)
theorem dX9_span_130 : decode cX9_span 130 = .ok (.getfield 64, 3) := dk_180 0 64 (dk_at dksX9_span_5 14 rfl rfl)
theorem dX9_span_133 : decode cX9_span 133 = .ok (.iload 6, 2) := dk_21 6 (dk_at dksX9_span_5 17 rfl rfl)
theorem dX9_span_135 : decode cX9_span 135 = .ok (.invokestatic 256, 3) := dk_184 1 0 (dk_at dksX9_span_5 19 rfl rfl)
theorem dX9_span_138 : decode cX9_span 138 = .ok (.ifCond .ne 7, 3) := dk_154 0 7 (dk_at dksX9_span_6 0 rfl rfl)
theorem dX9_span_141 : decode cX9_span 141 = .ok (.iconst 0, 1) := dk_3 (dk_at dksX9_span_6 3 rfl rfl)
theorem dX9_span_142 : decode cX9_span 142 = .ok (.goto 4, 3) := dk_167 0 4 (dk_at dksX9_span_6 4 rfl rfl)
theorem dX9_span_145 : decode cX9_span 145 = .ok (.iconst 1, 1) := dk_4 (dk_at dksX9_span_6 7 rfl rfl)
theorem dX9_span_146 : decode cX9_span 146 = .ok (.iadd, 1) := dk_96 (dk_at dksX9_span_6 8 rfl rfl)
theorem dX9_span_147 : decode cX9_span 147 = .ok (.istore 9, 2) := dk_54 9 (dk_at dksX9_span_6 9 rfl rfl)
theorem dX9_span_149 : decode cX9_span 149 = .ok (.iinc 10 1, 3) := dk_132 10 1 (dk_at dksX9_span_6 11 rfl rfl)
theorem dX9_span_152 : decode cX9_span 152 = .ok (.goto (-81), 3) := dk_167 255 175 (dk_at dksX9_span_6 14 rfl rfl)
theorem dX9_span_155 : decode cX9_span 155 = .ok (.iload 5, 2) := dk_21 5 (dk_at dksX9_span_6 17 rfl rfl)
theorem dX9_span_157 : decode cX9_span 157 = .ok (.ifCond .ne 8, 3) := dk_154 0 8 (dk_at dksX9_span_6 19 rfl rfl)
theorem dX9_span_160 : decode cX9_span 160 = .ok (.iload 7, 2) := dk_21 7 (dk_at dksX9_span_6 22 rfl rfl)
theorem dX9_span_162 : decode cX9_span 162 = .ok (.goto 16, 3) := dk_167 0 16 (dk_at dksX9_span_7 0 rfl rfl)
theorem dX9_span_165 : decode cX9_span 165 = .ok (.iload 5, 2) := dk_21 5 (dk_at dksX9_span_7 3 rfl rfl)
theorem dX9_span_167 : decode cX9_span 167 = .ok (.iconst 1, 1) := dk_4 (dk_at dksX9_span_7 5 rfl rfl)
theorem dX9_span_168 : decode cX9_span 168 = .ok (.if_icmp .ne 8, 3) := dk_160 0 8 (dk_at dksX9_span_7 6 rfl rfl)
theorem dX9_span_171 : decode cX9_span 171 = .ok (.iload 8, 2) := dk_21 8 (dk_at dksX9_span_7 9 rfl rfl)
theorem dX9_span_173 : decode cX9_span 173 = .ok (.goto 5, 3) := dk_167 0 5 (dk_at dksX9_span_7 11 rfl rfl)
theorem dX9_span_176 : decode cX9_span 176 = .ok (.iload 9, 2) := dk_21 9 (dk_at dksX9_span_7 14 rfl rfl)
theorem dX9_span_178 : decode cX9_span 178 = .ok (.ireturn, 1) := dk_172 (dk_at dksX9_span_7 16 rfl rfl)
def dkwX9_image_1 : List UInt8 := [50, 3, 182, 1, 169, 42, 89, 180, 0, 200, 4, 96, 181, 0, 200, 42, 180, 0, 200, 172]
abbrev dktX9_image_1 : List UInt8 := dkwX9_image_1 ++ []
def dkwX9_image_0 : List UInt8 := [42, 3, 181, 0, 92, 42, 180, 0, 200, 6, 160, 0, 5, 2, 172, 42, 42, 180, 0, 73, 42, 180, 0, 200]
abbrev dktX9_image_0 : List UInt8 := dkwX9_image_0 ++ dktX9_image_1
theorem dksX9_image_0 : cX9_image.data.toList.drop 0 = dktX9_image_0 := by decide +kernel
theorem dksX9_image_1 : cX9_image.data.toList.drop 24 = dktX9_image_1 := dk_seg dksX9_image_0 24 rfl rfl
theorem dX9_image_0 : decode cX9_image 0 = .ok (.aload_n 0, 1) := dk_42 (dk_at dksX9_image_0 0 rfl rfl)
theorem dX9_image_1 : decode cX9_image 1 = .ok (.iconst 0, 1) := dk_3 (dk_at dksX9_image_0 1 rfl rfl)
theorem dX9_image_2 : decode cX9_image 2 = .ok (.putfield 92, 3) := dk_181 0 92 (dk_at dksX9_image_0 2 rfl rfl)
theorem dX9_image_5 : decode cX9_image 5 = .ok (.aload_n 0, 1) := dk_42 (dk_at dksX9_image_0 5 rfl rfl)
theorem dX9_image_6 : decode cX9_image 6 = .ok (.getfield 200, 3) := dk_180 0 200 (dk_at dksX9_image_0 6 rfl rfl)
theorem dX9_image_9 : decode cX9_image 9 = .ok (.iconst 3, 1) := dk_6 (dk_at dksX9_image_0 9 rfl rfl)
theorem dX9_image_10 : decode cX9_image 10 = .ok (.if_icmp .ne 5, 3) := dk_160 0 5 (dk_at dksX9_image_0 10 rfl rfl)
theorem dX9_image_13 : decode cX9_image 13 = .ok (.iconst (-1), 1) := dk_2 (dk_at dksX9_image_0 13 rfl rfl)
theorem dX9_image_14 : decode cX9_image 14 = .ok (.ireturn, 1) := dk_172 (dk_at dksX9_image_0 14 rfl rfl)
theorem dX9_image_15 : decode cX9_image 15 = .ok (.aload_n 0, 1) := dk_42 (dk_at dksX9_image_0 15 rfl rfl)
theorem dX9_image_16 : decode cX9_image 16 = .ok (.aload_n 0, 1) := dk_42 (dk_at dksX9_image_0 16 rfl rfl)
theorem dX9_image_17 : decode cX9_image 17 = .ok (.getfield 73, 3) := dk_180 0 73 (dk_at dksX9_image_0 17 rfl rfl)
theorem dX9_image_20 : decode cX9_image 20 = .ok (.aload_n 0, 1) := dk_42 (dk_at dksX9_image_0 20 rfl rfl)
theorem dX9_image_21 : decode cX9_image 21 = .ok (.getfield 200, 3) := dk_180 0 200 (dk_at dksX9_image_0 21 rfl rfl)
theorem dX9_image_24 : decode cX9_image 24 = .ok (.aaload, 1) := dk_50 (dk_at dksX9_image_1 0 rfl rfl)
theorem dX9_image_25 : decode cX9_image 25 = .ok (.iconst 0, 1) := dk_3 (dk_at dksX9_image_1 1 rfl rfl)
theorem dX9_image_26 : decode cX9_image 26 = .ok (.invokevirtual 425, 3) := dk_182 1 169 (dk_at dksX9_image_1 2 rfl rfl)
theorem dX9_image_29 : decode cX9_image 29 = .ok (.aload_n 0, 1) := dk_42 (dk_at dksX9_image_1 5 rfl rfl)
theorem dX9_image_30 : decode cX9_image 30 = .ok (.dup, 1) := dk_89 (dk_at dksX9_image_1 6 rfl rfl)
theorem dX9_image_31 : decode cX9_image 31 = .ok (.getfield 200, 3) := dk_180 0 200 (dk_at dksX9_image_1 7 rfl rfl)
theorem dX9_image_34 : decode cX9_image 34 = .ok (.iconst 1, 1) := dk_4 (dk_at dksX9_image_1 10 rfl rfl)
theorem dX9_image_35 : decode cX9_image 35 = .ok (.iadd, 1) := dk_96 (dk_at dksX9_image_1 11 rfl rfl)
theorem dX9_image_36 : decode cX9_image 36 = .ok (.putfield 200, 3) := dk_181 0 200 (dk_at dksX9_image_1 12 rfl rfl)
theorem dX9_image_39 : decode cX9_image 39 = .ok (.aload_n 0, 1) := dk_42 (dk_at dksX9_image_1 15 rfl rfl)
theorem dX9_image_40 : decode cX9_image 40 = .ok (.getfield 200, 3) := dk_180 0 200 (dk_at dksX9_image_1 16 rfl rfl)
theorem dX9_image_43 : decode cX9_image 43 = .ok (.ireturn, 1) := dk_172 (dk_at dksX9_image_1 19 rfl rfl)
def dkwX9_putsAll_4 : List UInt8 := [132, 4, 1, 167, 255, 222, 132, 3, 1, 167, 255, 207, 177]
abbrev dktX9_putsAll_4 : List UInt8 := dkwX9_putsAll_4 ++ []
def dkwX9_putsAll_3 : List UInt8 := [180, 0, 70, 29, 50, 21, 4, 42, 43, 42, 180, 0, 70, 29, 50, 21, 4, 46, 28, 182, 1, 165, 79]
abbrev dktX9_putsAll_3 : List UInt8 := dkwX9_putsAll_3 ++ dktX9_putsAll_4
def dkwX9_putsAll_2 : List UInt8 := [167, 255, 229, 3, 62, 29, 16, 16, 162, 0, 49, 3, 54, 4, 21, 4, 16, 60, 162, 0, 33, 42]
abbrev dktX9_putsAll_2 : List UInt8 := dkwX9_putsAll_2 ++ dktX9_putsAll_3
def dkwX9_putsAll_1 : List UInt8 := [162, 0, 27, 42, 180, 0, 61, 29, 42, 43, 42, 180, 0, 61, 29, 46, 28, 182, 1, 165, 79, 132, 3, 1]
abbrev dktX9_putsAll_1 : List UInt8 := dkwX9_putsAll_1 ++ dktX9_putsAll_2
def dkwX9_putsAll_0 : List UInt8 := [42, 3, 181, 1, 162, 42, 42, 43, 42, 180, 0, 194, 28, 182, 1, 165, 181, 0, 194, 3, 62, 29, 16, 60]
abbrev dktX9_putsAll_0 : List UInt8 := dkwX9_putsAll_0 ++ dktX9_putsAll_1
theorem dksX9_putsAll_0 : cX9_putsAll.data.toList.drop 0 = dktX9_putsAll_0 := by decide +kernel
theorem dksX9_putsAll_1 : cX9_putsAll.data.toList.drop 24 = dktX9_putsAll_1 := dk_seg dksX9_putsAll_0 24 rfl rfl
theorem dksX9_putsAll_2 : cX9_putsAll.data.toList.drop 48 = dktX9_putsAll_2 := dk_seg dksX9_putsAll_1 24 rfl rfl
theorem dksX9_putsAll_3 : cX9_putsAll.data.toList.drop 70 = dktX9_putsAll_3 := dk_seg dksX9_putsAll_2 22 rfl rfl
theorem dksX9_putsAll_4 : cX9_putsAll.data.toList.drop 93 = dktX9_putsAll_4 := dk_seg dksX9_putsAll_3 23 rfl rfl
theorem dX9_putsAll_0 : decode cX9_putsAll 0 = .ok (.aload_n 0, 1) := dk_42 (dk_at dksX9_putsAll_0 0 rfl rfl)
theorem dX9_putsAll_1 : decode cX9_putsAll 1 = .ok (.iconst 0, 1) := dk_3 (dk_at dksX9_putsAll_0 1 rfl rfl)
theorem dX9_putsAll_2 : decode cX9_putsAll 2 = .ok (.putfield 418, 3) := dk_181 1 162 (dk_at dksX9_putsAll_0 2 rfl rfl)
theorem dX9_putsAll_5 : decode cX9_putsAll 5 = .ok (.aload_n 0, 1) := dk_42 (dk_at dksX9_putsAll_0 5 rfl rfl)
theorem dX9_putsAll_6 : decode cX9_putsAll 6 = .ok (.aload_n 0, 1) := dk_42 (dk_at dksX9_putsAll_0 6 rfl rfl)
theorem dX9_putsAll_7 : decode cX9_putsAll 7 = .ok (.aload_n 1, 1) := dk_43 (dk_at dksX9_putsAll_0 7 rfl rfl)
theorem dX9_putsAll_8 : decode cX9_putsAll 8 = .ok (.aload_n 0, 1) := dk_42 (dk_at dksX9_putsAll_0 8 rfl rfl)
theorem dX9_putsAll_9 : decode cX9_putsAll 9 = .ok (.getfield 194, 3) := dk_180 0 194 (dk_at dksX9_putsAll_0 9 rfl rfl)
theorem dX9_putsAll_12 : decode cX9_putsAll 12 = .ok (.iload_n 2, 1) := dk_28 (dk_at dksX9_putsAll_0 12 rfl rfl)
theorem dX9_putsAll_13 : decode cX9_putsAll 13 = .ok (.invokevirtual 421, 3) := dk_182 1 165 (dk_at dksX9_putsAll_0 13 rfl rfl)
theorem dX9_putsAll_16 : decode cX9_putsAll 16 = .ok (.putfield 194, 3) := dk_181 0 194 (dk_at dksX9_putsAll_0 16 rfl rfl)
theorem dX9_putsAll_19 : decode cX9_putsAll 19 = .ok (.iconst 0, 1) := dk_3 (dk_at dksX9_putsAll_0 19 rfl rfl)
theorem dX9_putsAll_20 : decode cX9_putsAll 20 = .ok (.istore_n 3, 1) := dk_62 (dk_at dksX9_putsAll_0 20 rfl rfl)
theorem dX9_putsAll_21 : decode cX9_putsAll 21 = .ok (.iload_n 3, 1) := dk_29 (dk_at dksX9_putsAll_0 21 rfl rfl)
theorem dX9_putsAll_22 : decode cX9_putsAll 22 = .ok (.bipush 60, 2) := dk_16 60 (dk_at dksX9_putsAll_0 22 rfl rfl)
theorem dX9_putsAll_24 : decode cX9_putsAll 24 = .ok (.if_icmp .ge 27, 3) := dk_162 0 27 (dk_at dksX9_putsAll_1 0 rfl rfl)
theorem dX9_putsAll_27 : decode cX9_putsAll 27 = .ok (.aload_n 0, 1) := dk_42 (dk_at dksX9_putsAll_1 3 rfl rfl)
theorem dX9_putsAll_28 : decode cX9_putsAll 28 = .ok (.getfield 61, 3) := dk_180 0 61 (dk_at dksX9_putsAll_1 4 rfl rfl)
theorem dX9_putsAll_31 : decode cX9_putsAll 31 = .ok (.iload_n 3, 1) := dk_29 (dk_at dksX9_putsAll_1 7 rfl rfl)
theorem dX9_putsAll_32 : decode cX9_putsAll 32 = .ok (.aload_n 0, 1) := dk_42 (dk_at dksX9_putsAll_1 8 rfl rfl)
theorem dX9_putsAll_33 : decode cX9_putsAll 33 = .ok (.aload_n 1, 1) := dk_43 (dk_at dksX9_putsAll_1 9 rfl rfl)
theorem dX9_putsAll_34 : decode cX9_putsAll 34 = .ok (.aload_n 0, 1) := dk_42 (dk_at dksX9_putsAll_1 10 rfl rfl)
theorem dX9_putsAll_35 : decode cX9_putsAll 35 = .ok (.getfield 61, 3) := dk_180 0 61 (dk_at dksX9_putsAll_1 11 rfl rfl)
theorem dX9_putsAll_38 : decode cX9_putsAll 38 = .ok (.iload_n 3, 1) := dk_29 (dk_at dksX9_putsAll_1 14 rfl rfl)
theorem dX9_putsAll_39 : decode cX9_putsAll 39 = .ok (.iaload, 1) := dk_46 (dk_at dksX9_putsAll_1 15 rfl rfl)
theorem dX9_putsAll_40 : decode cX9_putsAll 40 = .ok (.iload_n 2, 1) := dk_28 (dk_at dksX9_putsAll_1 16 rfl rfl)
theorem dX9_putsAll_41 : decode cX9_putsAll 41 = .ok (.invokevirtual 421, 3) := dk_182 1 165 (dk_at dksX9_putsAll_1 17 rfl rfl)
theorem dX9_putsAll_44 : decode cX9_putsAll 44 = .ok (.iastore, 1) := dk_79 (dk_at dksX9_putsAll_1 20 rfl rfl)
theorem dX9_putsAll_45 : decode cX9_putsAll 45 = .ok (.iinc 3 1, 3) := dk_132 3 1 (dk_at dksX9_putsAll_1 21 rfl rfl)
theorem dX9_putsAll_48 : decode cX9_putsAll 48 = .ok (.goto (-27), 3) := dk_167 255 229 (dk_at dksX9_putsAll_2 0 rfl rfl)
theorem dX9_putsAll_51 : decode cX9_putsAll 51 = .ok (.iconst 0, 1) := dk_3 (dk_at dksX9_putsAll_2 3 rfl rfl)
theorem dX9_putsAll_52 : decode cX9_putsAll 52 = .ok (.istore_n 3, 1) := dk_62 (dk_at dksX9_putsAll_2 4 rfl rfl)
theorem dX9_putsAll_53 : decode cX9_putsAll 53 = .ok (.iload_n 3, 1) := dk_29 (dk_at dksX9_putsAll_2 5 rfl rfl)
theorem dX9_putsAll_54 : decode cX9_putsAll 54 = .ok (.bipush 16, 2) := dk_16 16 (dk_at dksX9_putsAll_2 6 rfl rfl)
theorem dX9_putsAll_56 : decode cX9_putsAll 56 = .ok (.if_icmp .ge 49, 3) := dk_162 0 49 (dk_at dksX9_putsAll_2 8 rfl rfl)
theorem dX9_putsAll_59 : decode cX9_putsAll 59 = .ok (.iconst 0, 1) := dk_3 (dk_at dksX9_putsAll_2 11 rfl rfl)
theorem dX9_putsAll_60 : decode cX9_putsAll 60 = .ok (.istore 4, 2) := dk_54 4 (dk_at dksX9_putsAll_2 12 rfl rfl)
theorem dX9_putsAll_62 : decode cX9_putsAll 62 = .ok (.iload 4, 2) := dk_21 4 (dk_at dksX9_putsAll_2 14 rfl rfl)
theorem dX9_putsAll_64 : decode cX9_putsAll 64 = .ok (.bipush 60, 2) := dk_16 60 (dk_at dksX9_putsAll_2 16 rfl rfl)
theorem dX9_putsAll_66 : decode cX9_putsAll 66 = .ok (.if_icmp .ge 33, 3) := dk_162 0 33 (dk_at dksX9_putsAll_2 18 rfl rfl)
theorem dX9_putsAll_69 : decode cX9_putsAll 69 = .ok (.aload_n 0, 1) := dk_42 (dk_at dksX9_putsAll_2 21 rfl rfl)
theorem dX9_putsAll_70 : decode cX9_putsAll 70 = .ok (.getfield 70, 3) := dk_180 0 70 (dk_at dksX9_putsAll_3 0 rfl rfl)
theorem dX9_putsAll_73 : decode cX9_putsAll 73 = .ok (.iload_n 3, 1) := dk_29 (dk_at dksX9_putsAll_3 3 rfl rfl)
theorem dX9_putsAll_74 : decode cX9_putsAll 74 = .ok (.aaload, 1) := dk_50 (dk_at dksX9_putsAll_3 4 rfl rfl)
theorem dX9_putsAll_75 : decode cX9_putsAll 75 = .ok (.iload 4, 2) := dk_21 4 (dk_at dksX9_putsAll_3 5 rfl rfl)
theorem dX9_putsAll_77 : decode cX9_putsAll 77 = .ok (.aload_n 0, 1) := dk_42 (dk_at dksX9_putsAll_3 7 rfl rfl)
theorem dX9_putsAll_78 : decode cX9_putsAll 78 = .ok (.aload_n 1, 1) := dk_43 (dk_at dksX9_putsAll_3 8 rfl rfl)
theorem dX9_putsAll_79 : decode cX9_putsAll 79 = .ok (.aload_n 0, 1) := dk_42 (dk_at dksX9_putsAll_3 9 rfl rfl)
theorem dX9_putsAll_80 : decode cX9_putsAll 80 = .ok (.getfield 70, 3) := dk_180 0 70 (dk_at dksX9_putsAll_3 10 rfl rfl)
theorem dX9_putsAll_83 : decode cX9_putsAll 83 = .ok (.iload_n 3, 1) := dk_29 (dk_at dksX9_putsAll_3 13 rfl rfl)
theorem dX9_putsAll_84 : decode cX9_putsAll 84 = .ok (.aaload, 1) := dk_50 (dk_at dksX9_putsAll_3 14 rfl rfl)
theorem dX9_putsAll_85 : decode cX9_putsAll 85 = .ok (.iload 4, 2) := dk_21 4 (dk_at dksX9_putsAll_3 15 rfl rfl)
theorem dX9_putsAll_87 : decode cX9_putsAll 87 = .ok (.iaload, 1) := dk_46 (dk_at dksX9_putsAll_3 17 rfl rfl)
theorem dX9_putsAll_88 : decode cX9_putsAll 88 = .ok (.iload_n 2, 1) := dk_28 (dk_at dksX9_putsAll_3 18 rfl rfl)
theorem dX9_putsAll_89 : decode cX9_putsAll 89 = .ok (.invokevirtual 421, 3) := dk_182 1 165 (dk_at dksX9_putsAll_3 19 rfl rfl)
theorem dX9_putsAll_92 : decode cX9_putsAll 92 = .ok (.iastore, 1) := dk_79 (dk_at dksX9_putsAll_3 22 rfl rfl)
theorem dX9_putsAll_93 : decode cX9_putsAll 93 = .ok (.iinc 4 1, 3) := dk_132 4 1 (dk_at dksX9_putsAll_4 0 rfl rfl)
theorem dX9_putsAll_96 : decode cX9_putsAll 96 = .ok (.goto (-34), 3) := dk_167 255 222 (dk_at dksX9_putsAll_4 3 rfl rfl)
theorem dX9_putsAll_99 : decode cX9_putsAll 99 = .ok (.iinc 3 1, 3) := dk_132 3 1 (dk_at dksX9_putsAll_4 6 rfl rfl)
theorem dX9_putsAll_102 : decode cX9_putsAll 102 = .ok (.goto (-49), 3) := dk_167 255 207 (dk_at dksX9_putsAll_4 9 rfl rfl)
theorem dX9_putsAll_105 : decode cX9_putsAll 105 = .ok (.return_, 1) := dk_177 (dk_at dksX9_putsAll_4 12 rfl rfl)
def dkwX9_puts_1 : List UInt8 := [180, 1, 162, 4, 100, 46, 172]
abbrev dktX9_puts_1 : List UInt8 := dkwX9_puts_1 ++ []
def dkwX9_puts_0 : List UInt8 := [29, 154, 0, 10, 43, 42, 180, 1, 162, 28, 79, 42, 89, 180, 1, 162, 4, 96, 181, 1, 162, 43, 42]
abbrev dktX9_puts_0 : List UInt8 := dkwX9_puts_0 ++ dktX9_puts_1
theorem dksX9_puts_0 : cX9_puts.data.toList.drop 0 = dktX9_puts_0 := by decide +kernel
theorem dksX9_puts_1 : cX9_puts.data.toList.drop 23 = dktX9_puts_1 := dk_seg dksX9_puts_0 23 rfl rfl
theorem dX9_puts_0 : decode cX9_puts 0 = .ok (.iload_n 3, 1) := dk_29 (dk_at dksX9_puts_0 0 rfl rfl)
theorem dX9_puts_1 : decode cX9_puts 1 = .ok (.ifCond .ne 10, 3) := dk_154 0 10 (dk_at dksX9_puts_0 1 rfl rfl)
theorem dX9_puts_4 : decode cX9_puts 4 = .ok (.aload_n 1, 1) := dk_43 (dk_at dksX9_puts_0 4 rfl rfl)
theorem dX9_puts_5 : decode cX9_puts 5 = .ok (.aload_n 0, 1) := dk_42 (dk_at dksX9_puts_0 5 rfl rfl)
theorem dX9_puts_6 : decode cX9_puts 6 = .ok (.getfield 418, 3) := dk_180 1 162 (dk_at dksX9_puts_0 6 rfl rfl)
theorem dX9_puts_9 : decode cX9_puts 9 = .ok (.iload_n 2, 1) := dk_28 (dk_at dksX9_puts_0 9 rfl rfl)
theorem dX9_puts_10 : decode cX9_puts 10 = .ok (.iastore, 1) := dk_79 (dk_at dksX9_puts_0 10 rfl rfl)
theorem dX9_puts_11 : decode cX9_puts 11 = .ok (.aload_n 0, 1) := dk_42 (dk_at dksX9_puts_0 11 rfl rfl)
theorem dX9_puts_12 : decode cX9_puts 12 = .ok (.dup, 1) := dk_89 (dk_at dksX9_puts_0 12 rfl rfl)
theorem dX9_puts_13 : decode cX9_puts 13 = .ok (.getfield 418, 3) := dk_180 1 162 (dk_at dksX9_puts_0 13 rfl rfl)
theorem dX9_puts_16 : decode cX9_puts 16 = .ok (.iconst 1, 1) := dk_4 (dk_at dksX9_puts_0 16 rfl rfl)
theorem dX9_puts_17 : decode cX9_puts 17 = .ok (.iadd, 1) := dk_96 (dk_at dksX9_puts_0 17 rfl rfl)
theorem dX9_puts_18 : decode cX9_puts 18 = .ok (.putfield 418, 3) := dk_181 1 162 (dk_at dksX9_puts_0 18 rfl rfl)
theorem dX9_puts_21 : decode cX9_puts 21 = .ok (.aload_n 1, 1) := dk_43 (dk_at dksX9_puts_0 21 rfl rfl)
theorem dX9_puts_22 : decode cX9_puts 22 = .ok (.aload_n 0, 1) := dk_42 (dk_at dksX9_puts_0 22 rfl rfl)
theorem dX9_puts_23 : decode cX9_puts 23 = .ok (.getfield 418, 3) := dk_180 1 162 (dk_at dksX9_puts_1 0 rfl rfl)
theorem dX9_puts_26 : decode cX9_puts 26 = .ok (.iconst 1, 1) := dk_4 (dk_at dksX9_puts_1 3 rfl rfl)
theorem dX9_puts_27 : decode cX9_puts 27 = .ok (.isub, 1) := dk_100 (dk_at dksX9_puts_1 4 rfl rfl)
theorem dX9_puts_28 : decode cX9_puts 28 = .ok (.iaload, 1) := dk_46 (dk_at dksX9_puts_1 5 rfl rfl)
theorem dX9_puts_29 : decode cX9_puts 29 = .ok (.ireturn, 1) := dk_172 (dk_at dksX9_puts_1 6 rfl rfl)
def dkwX9_restore_1 : List UInt8 := [42, 42, 180, 0, 73, 42, 180, 0, 200, 50, 4, 182, 1, 169, 42, 3, 181, 0, 197, 42, 180, 0, 200, 172]
abbrev dktX9_restore_1 : List UInt8 := dkwX9_restore_1 ++ []
def dkwX9_restore_0 : List UInt8 := [42, 3, 181, 0, 92, 42, 180, 0, 200, 154, 0, 5, 2, 172, 42, 89, 180, 0, 200, 4, 100, 181, 0, 200]
abbrev dktX9_restore_0 : List UInt8 := dkwX9_restore_0 ++ dktX9_restore_1
theorem dksX9_restore_0 : cX9_restore.data.toList.drop 0 = dktX9_restore_0 := by decide +kernel
theorem dksX9_restore_1 : cX9_restore.data.toList.drop 24 = dktX9_restore_1 := dk_seg dksX9_restore_0 24 rfl rfl
theorem dX9_restore_0 : decode cX9_restore 0 = .ok (.aload_n 0, 1) := dk_42 (dk_at dksX9_restore_0 0 rfl rfl)
theorem dX9_restore_1 : decode cX9_restore 1 = .ok (.iconst 0, 1) := dk_3 (dk_at dksX9_restore_0 1 rfl rfl)
theorem dX9_restore_2 : decode cX9_restore 2 = .ok (.putfield 92, 3) := dk_181 0 92 (dk_at dksX9_restore_0 2 rfl rfl)
theorem dX9_restore_5 : decode cX9_restore 5 = .ok (.aload_n 0, 1) := dk_42 (dk_at dksX9_restore_0 5 rfl rfl)
theorem dX9_restore_6 : decode cX9_restore 6 = .ok (.getfield 200, 3) := dk_180 0 200 (dk_at dksX9_restore_0 6 rfl rfl)
theorem dX9_restore_9 : decode cX9_restore 9 = .ok (.ifCond .ne 5, 3) := dk_154 0 5 (dk_at dksX9_restore_0 9 rfl rfl)
theorem dX9_restore_12 : decode cX9_restore 12 = .ok (.iconst (-1), 1) := dk_2 (dk_at dksX9_restore_0 12 rfl rfl)
theorem dX9_restore_13 : decode cX9_restore 13 = .ok (.ireturn, 1) := dk_172 (dk_at dksX9_restore_0 13 rfl rfl)
theorem dX9_restore_14 : decode cX9_restore 14 = .ok (.aload_n 0, 1) := dk_42 (dk_at dksX9_restore_0 14 rfl rfl)
theorem dX9_restore_15 : decode cX9_restore 15 = .ok (.dup, 1) := dk_89 (dk_at dksX9_restore_0 15 rfl rfl)
theorem dX9_restore_16 : decode cX9_restore 16 = .ok (.getfield 200, 3) := dk_180 0 200 (dk_at dksX9_restore_0 16 rfl rfl)
theorem dX9_restore_19 : decode cX9_restore 19 = .ok (.iconst 1, 1) := dk_4 (dk_at dksX9_restore_0 19 rfl rfl)
theorem dX9_restore_20 : decode cX9_restore 20 = .ok (.isub, 1) := dk_100 (dk_at dksX9_restore_0 20 rfl rfl)
theorem dX9_restore_21 : decode cX9_restore 21 = .ok (.putfield 200, 3) := dk_181 0 200 (dk_at dksX9_restore_0 21 rfl rfl)
theorem dX9_restore_24 : decode cX9_restore 24 = .ok (.aload_n 0, 1) := dk_42 (dk_at dksX9_restore_1 0 rfl rfl)
theorem dX9_restore_25 : decode cX9_restore 25 = .ok (.aload_n 0, 1) := dk_42 (dk_at dksX9_restore_1 1 rfl rfl)
theorem dX9_restore_26 : decode cX9_restore 26 = .ok (.getfield 73, 3) := dk_180 0 73 (dk_at dksX9_restore_1 2 rfl rfl)
theorem dX9_restore_29 : decode cX9_restore 29 = .ok (.aload_n 0, 1) := dk_42 (dk_at dksX9_restore_1 5 rfl rfl)
theorem dX9_restore_30 : decode cX9_restore 30 = .ok (.getfield 200, 3) := dk_180 0 200 (dk_at dksX9_restore_1 6 rfl rfl)
theorem dX9_restore_33 : decode cX9_restore 33 = .ok (.aaload, 1) := dk_50 (dk_at dksX9_restore_1 9 rfl rfl)
theorem dX9_restore_34 : decode cX9_restore 34 = .ok (.iconst 1, 1) := dk_4 (dk_at dksX9_restore_1 10 rfl rfl)
theorem dX9_restore_35 : decode cX9_restore 35 = .ok (.invokevirtual 425, 3) := dk_182 1 169 (dk_at dksX9_restore_1 11 rfl rfl)
theorem dX9_restore_38 : decode cX9_restore 38 = .ok (.aload_n 0, 1) := dk_42 (dk_at dksX9_restore_1 14 rfl rfl)
theorem dX9_restore_39 : decode cX9_restore 39 = .ok (.iconst 0, 1) := dk_3 (dk_at dksX9_restore_1 15 rfl rfl)
theorem dX9_restore_40 : decode cX9_restore 40 = .ok (.putfield 197, 3) := dk_181 0 197 (dk_at dksX9_restore_1 16 rfl rfl)
theorem dX9_restore_43 : decode cX9_restore 43 = .ok (.aload_n 0, 1) := dk_42 (dk_at dksX9_restore_1 19 rfl rfl)
theorem dX9_restore_44 : decode cX9_restore 44 = .ok (.getfield 200, 3) := dk_180 0 200 (dk_at dksX9_restore_1 20 rfl rfl)
theorem dX9_restore_47 : decode cX9_restore 47 = .ok (.ireturn, 1) := dk_172 (dk_at dksX9_restore_1 23 rfl rfl)
def dkwX9_status_1 : List UInt8 := [172]
abbrev dktX9_status_1 : List UInt8 := dkwX9_status_1 ++ []
def dkwX9_status_0 : List UInt8 := [42, 3, 181, 0, 92, 27, 3, 4, 184, 0, 126, 153, 0, 12, 42, 180, 0, 17, 27, 46, 167, 0, 4, 2]
abbrev dktX9_status_0 : List UInt8 := dkwX9_status_0 ++ dktX9_status_1
theorem dksX9_status_0 : cX9_status.data.toList.drop 0 = dktX9_status_0 := by decide +kernel
theorem dksX9_status_1 : cX9_status.data.toList.drop 24 = dktX9_status_1 := dk_seg dksX9_status_0 24 rfl rfl
theorem dX9_status_0 : decode cX9_status 0 = .ok (.aload_n 0, 1) := dk_42 (dk_at dksX9_status_0 0 rfl rfl)
theorem dX9_status_1 : decode cX9_status 1 = .ok (.iconst 0, 1) := dk_3 (dk_at dksX9_status_0 1 rfl rfl)
theorem dX9_status_2 : decode cX9_status 2 = .ok (.putfield 92, 3) := dk_181 0 92 (dk_at dksX9_status_0 2 rfl rfl)
theorem dX9_status_5 : decode cX9_status 5 = .ok (.iload_n 1, 1) := dk_27 (dk_at dksX9_status_0 5 rfl rfl)
theorem dX9_status_6 : decode cX9_status 6 = .ok (.iconst 0, 1) := dk_3 (dk_at dksX9_status_0 6 rfl rfl)
theorem dX9_status_7 : decode cX9_status 7 = .ok (.iconst 1, 1) := dk_4 (dk_at dksX9_status_0 7 rfl rfl)
theorem dX9_status_8 : decode cX9_status 8 = .ok (.invokestatic 126, 3) := dk_184 0 126 (dk_at dksX9_status_0 8 rfl rfl)
theorem dX9_status_11 : decode cX9_status 11 = .ok (.ifCond .eq 12, 3) := dk_153 0 12 (dk_at dksX9_status_0 11 rfl rfl)
theorem dX9_status_14 : decode cX9_status 14 = .ok (.aload_n 0, 1) := dk_42 (dk_at dksX9_status_0 14 rfl rfl)
theorem dX9_status_15 : decode cX9_status 15 = .ok (.getfield 17, 3) := dk_180 0 17 (dk_at dksX9_status_0 15 rfl rfl)
theorem dX9_status_18 : decode cX9_status 18 = .ok (.iload_n 1, 1) := dk_27 (dk_at dksX9_status_0 18 rfl rfl)
theorem dX9_status_19 : decode cX9_status 19 = .ok (.iaload, 1) := dk_46 (dk_at dksX9_status_0 19 rfl rfl)
theorem dX9_status_20 : decode cX9_status 20 = .ok (.goto 4, 3) := dk_167 0 4 (dk_at dksX9_status_0 20 rfl rfl)
theorem dX9_status_23 : decode cX9_status 23 = .ok (.iconst (-1), 1) := dk_2 (dk_at dksX9_status_0 23 rfl rfl)
theorem dX9_status_24 : decode cX9_status 24 = .ok (.ireturn, 1) := dk_172 (dk_at dksX9_status_1 0 rfl rfl)
def dkwX9_count_1 : List UInt8 := [180, 0, 95, 167, 0, 16, 27, 5, 160, 0, 10, 42, 180, 0, 194, 167, 0, 4, 2, 172]
abbrev dktX9_count_1 : List UInt8 := dkwX9_count_1 ++ []
def dkwX9_count_0 : List UInt8 := [42, 3, 181, 0, 92, 27, 154, 0, 10, 42, 180, 0, 200, 167, 0, 28, 27, 4, 160, 0, 10, 42]
abbrev dktX9_count_0 : List UInt8 := dkwX9_count_0 ++ dktX9_count_1
theorem dksX9_count_0 : cX9_count.data.toList.drop 0 = dktX9_count_0 := by decide +kernel
theorem dksX9_count_1 : cX9_count.data.toList.drop 22 = dktX9_count_1 := dk_seg dksX9_count_0 22 rfl rfl
theorem dX9_count_0 : decode cX9_count 0 = .ok (.aload_n 0, 1) := dk_42 (dk_at dksX9_count_0 0 rfl rfl)
theorem dX9_count_1 : decode cX9_count 1 = .ok (.iconst 0, 1) := dk_3 (dk_at dksX9_count_0 1 rfl rfl)
theorem dX9_count_2 : decode cX9_count 2 = .ok (.putfield 92, 3) := dk_181 0 92 (dk_at dksX9_count_0 2 rfl rfl)
theorem dX9_count_5 : decode cX9_count 5 = .ok (.iload_n 1, 1) := dk_27 (dk_at dksX9_count_0 5 rfl rfl)
theorem dX9_count_6 : decode cX9_count 6 = .ok (.ifCond .ne 10, 3) := dk_154 0 10 (dk_at dksX9_count_0 6 rfl rfl)
theorem dX9_count_9 : decode cX9_count 9 = .ok (.aload_n 0, 1) := dk_42 (dk_at dksX9_count_0 9 rfl rfl)
theorem dX9_count_10 : decode cX9_count 10 = .ok (.getfield 200, 3) := dk_180 0 200 (dk_at dksX9_count_0 10 rfl rfl)
theorem dX9_count_13 : decode cX9_count 13 = .ok (.goto 28, 3) := dk_167 0 28 (dk_at dksX9_count_0 13 rfl rfl)
theorem dX9_count_16 : decode cX9_count 16 = .ok (.iload_n 1, 1) := dk_27 (dk_at dksX9_count_0 16 rfl rfl)
theorem dX9_count_17 : decode cX9_count 17 = .ok (.iconst 1, 1) := dk_4 (dk_at dksX9_count_0 17 rfl rfl)
theorem dX9_count_18 : decode cX9_count 18 = .ok (.if_icmp .ne 10, 3) := dk_160 0 10 (dk_at dksX9_count_0 18 rfl rfl)
theorem dX9_count_21 : decode cX9_count 21 = .ok (.aload_n 0, 1) := dk_42 (dk_at dksX9_count_0 21 rfl rfl)
theorem dX9_count_22 : decode cX9_count 22 = .ok (.getfield 95, 3) := dk_180 0 95 (dk_at dksX9_count_1 0 rfl rfl)
theorem dX9_count_25 : decode cX9_count 25 = .ok (.goto 16, 3) := dk_167 0 16 (dk_at dksX9_count_1 3 rfl rfl)
theorem dX9_count_28 : decode cX9_count 28 = .ok (.iload_n 1, 1) := dk_27 (dk_at dksX9_count_1 6 rfl rfl)
theorem dX9_count_29 : decode cX9_count 29 = .ok (.iconst 2, 1) := dk_5 (dk_at dksX9_count_1 7 rfl rfl)
theorem dX9_count_30 : decode cX9_count 30 = .ok (.if_icmp .ne 10, 3) := dk_160 0 10 (dk_at dksX9_count_1 8 rfl rfl)
theorem dX9_count_33 : decode cX9_count 33 = .ok (.aload_n 0, 1) := dk_42 (dk_at dksX9_count_1 11 rfl rfl)
theorem dX9_count_34 : decode cX9_count 34 = .ok (.getfield 194, 3) := dk_180 0 194 (dk_at dksX9_count_1 12 rfl rfl)
theorem dX9_count_37 : decode cX9_count 37 = .ok (.goto 4, 3) := dk_167 0 4 (dk_at dksX9_count_1 15 rfl rfl)
theorem dX9_count_40 : decode cX9_count 40 = .ok (.iconst (-1), 1) := dk_2 (dk_at dksX9_count_1 18 rfl rfl)
theorem dX9_count_41 : decode cX9_count 41 = .ok (.ireturn, 1) := dk_172 (dk_at dksX9_count_1 19 rfl rfl)
