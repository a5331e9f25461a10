/-! CODES AND DECODE ROWS (printed by tools/gen_links.py) -/
set_option maxRecDepth 100000
abbrev cX4_init : ByteArray := prog_19_method_1_code
def yX4_init : MethodName := ⟨RX4, "<init>", "()V"⟩
def dkwX4_init_14 : List UInt8 := [180, 0, 7, 16, 8, 4, 79, 177]
abbrev dktX4_init_14 : List UInt8 := dkwX4_init_14 ++ []
def dkwX4_init_13 : List UInt8 := [17, 0, 201, 188, 10, 181, 0, 122, 42, 6, 188, 10, 181, 0, 125, 42, 6, 188, 10, 181, 0, 128, 42]
abbrev dktX4_init_13 : List UInt8 := dkwX4_init_13 ++ dktX4_init_14
def dkwX4_init_12 : List UInt8 := [188, 10, 181, 0, 113, 42, 16, 62, 188, 11, 181, 0, 116, 42, 16, 62, 188, 10, 181, 0, 119, 42]
abbrev dktX4_init_12 : List UInt8 := dkwX4_init_12 ++ dktX4_init_13
def dkwX4_init_11 : List UInt8 := [188, 11, 181, 0, 104, 42, 16, 62, 188, 10, 181, 0, 107, 42, 16, 62, 188, 11, 181, 0, 110, 42, 16, 62]
abbrev dktX4_init_11 : List UInt8 := dkwX4_init_11 ++ dktX4_init_12
def dkwX4_init_10 : List UInt8 := [188, 10, 181, 0, 94, 42, 16, 62, 188, 10, 181, 0, 97, 42, 16, 62, 188, 11, 181, 0, 100, 42, 16, 62]
abbrev dktX4_init_10 : List UInt8 := dkwX4_init_10 ++ dktX4_init_11
def dkwX4_init_9 : List UInt8 := [188, 10, 181, 0, 85, 42, 16, 6, 188, 10, 181, 0, 88, 42, 16, 8, 188, 10, 181, 0, 91, 42, 16, 8]
abbrev dktX4_init_9 : List UInt8 := dkwX4_init_9 ++ dktX4_init_10
def dkwX4_init_8 : List UInt8 := [188, 10, 181, 0, 76, 42, 16, 62, 188, 10, 181, 0, 79, 42, 16, 62, 188, 10, 181, 0, 82, 42, 16, 6]
abbrev dktX4_init_8 : List UInt8 := dkwX4_init_8 ++ dktX4_init_9
def dkwX4_init_7 : List UInt8 := [181, 0, 67, 42, 17, 4, 0, 188, 10, 181, 0, 70, 42, 16, 8, 188, 10, 181, 0, 73, 42, 16, 62]
abbrev dktX4_init_7 : List UInt8 := dkwX4_init_7 ++ dktX4_init_8
def dkwX4_init_6 : List UInt8 := [42, 17, 81, 64, 188, 10, 181, 0, 61, 42, 16, 44, 188, 10, 181, 0, 64, 42, 17, 10, 160, 188, 10]
abbrev dktX4_init_6 : List UInt8 := dkwX4_init_6 ++ dktX4_init_7
def dkwX4_init_5 : List UInt8 := [42, 16, 62, 188, 10, 181, 0, 52, 42, 16, 62, 188, 10, 181, 0, 55, 42, 16, 8, 188, 10, 181, 0, 58]
abbrev dktX4_init_5 : List UInt8 := dkwX4_init_5 ++ dktX4_init_6
def dkwX4_init_4 : List UInt8 := [42, 16, 17, 188, 10, 181, 0, 43, 42, 16, 62, 188, 10, 181, 0, 46, 42, 16, 62, 188, 10, 181, 0, 49]
abbrev dktX4_init_4 : List UInt8 := dkwX4_init_4 ++ dktX4_init_5
def dkwX4_init_3 : List UInt8 := [17, 1, 50, 188, 10, 181, 0, 34, 42, 16, 17, 188, 10, 181, 0, 37, 42, 16, 17, 188, 10, 181, 0, 40]
abbrev dktX4_init_3 : List UInt8 := dkwX4_init_3 ++ dktX4_init_4
def dkwX4_init_2 : List UInt8 := [188, 10, 181, 0, 25, 42, 16, 102, 188, 10, 181, 0, 28, 42, 16, 102, 188, 10, 181, 0, 31, 42]
abbrev dktX4_init_2 : List UInt8 := dkwX4_init_2 ++ dktX4_init_3
def dkwX4_init_1 : List UInt8 := [188, 10, 181, 0, 16, 42, 16, 17, 188, 10, 181, 0, 19, 42, 16, 51, 188, 10, 181, 0, 22, 42, 16, 17]
abbrev dktX4_init_1 : List UInt8 := dkwX4_init_1 ++ dktX4_init_2
def dkwX4_init_0 : List UInt8 := [42, 183, 0, 1, 42, 16, 11, 188, 10, 181, 0, 7, 42, 16, 8, 188, 10, 181, 0, 13, 42, 16, 17]
abbrev dktX4_init_0 : List UInt8 := dkwX4_init_0 ++ dktX4_init_1
theorem dksX4_init_0 : cX4_init.data.toList.drop 0 = dktX4_init_0 := by decide +kernel
theorem dksX4_init_1 : cX4_init.data.toList.drop 23 = dktX4_init_1 := dk_seg dksX4_init_0 23 rfl rfl
theorem dksX4_init_2 : cX4_init.data.toList.drop 47 = dktX4_init_2 := dk_seg dksX4_init_1 24 rfl rfl
theorem dksX4_init_3 : cX4_init.data.toList.drop 69 = dktX4_init_3 := dk_seg dksX4_init_2 22 rfl rfl
theorem dksX4_init_4 : cX4_init.data.toList.drop 93 = dktX4_init_4 := dk_seg dksX4_init_3 24 rfl rfl
theorem dksX4_init_5 : cX4_init.data.toList.drop 117 = dktX4_init_5 := dk_seg dksX4_init_4 24 rfl rfl
theorem dksX4_init_6 : cX4_init.data.toList.drop 141 = dktX4_init_6 := dk_seg dksX4_init_5 24 rfl rfl
theorem dksX4_init_7 : cX4_init.data.toList.drop 164 = dktX4_init_7 := dk_seg dksX4_init_6 23 rfl rfl
theorem dksX4_init_8 : cX4_init.data.toList.drop 187 = dktX4_init_8 := dk_seg dksX4_init_7 23 rfl rfl
theorem dksX4_init_9 : cX4_init.data.toList.drop 211 = dktX4_init_9 := dk_seg dksX4_init_8 24 rfl rfl
theorem dksX4_init_10 : cX4_init.data.toList.drop 235 = dktX4_init_10 := dk_seg dksX4_init_9 24 rfl rfl
theorem dksX4_init_11 : cX4_init.data.toList.drop 259 = dktX4_init_11 := dk_seg dksX4_init_10 24 rfl rfl
theorem dksX4_init_12 : cX4_init.data.toList.drop 283 = dktX4_init_12 := dk_seg dksX4_init_11 24 rfl rfl
theorem dksX4_init_13 : cX4_init.data.toList.drop 305 = dktX4_init_13 := dk_seg dksX4_init_12 22 rfl rfl
theorem dksX4_init_14 : cX4_init.data.toList.drop 328 = dktX4_init_14 := dk_seg dksX4_init_13 23 rfl rfl
theorem dX4_init_0 : decode cX4_init 0 = .ok (.aload_n 0, 1) := dk_42 (dk_at dksX4_init_0 0 rfl rfl)
theorem dX4_init_1 : decode cX4_init 1 = .ok (.invokespecial 1, 3) := dk_183 0 1 (dk_at dksX4_init_0 1 rfl rfl)
theorem dX4_init_4 : decode cX4_init 4 = .ok (.aload_n 0, 1) := dk_42 (dk_at dksX4_init_0 4 rfl rfl)
theorem dX4_init_5 : decode cX4_init 5 = .ok (.bipush 11, 2) := dk_16 11 (dk_at dksX4_init_0 5 rfl rfl)
theorem dX4_init_7 : decode cX4_init 7 = .ok (.newarray .int, 2) := dk_188_10 (dk_at dksX4_init_0 7 rfl rfl)
theorem dX4_init_9 : decode cX4_init 9 = .ok (.putfield 7, 3) := dk_181 0 7 (dk_at dksX4_init_0 9 rfl rfl)
theorem dX4_init_12 : decode cX4_init 12 = .ok (.aload_n 0, 1) := dk_42 (dk_at dksX4_init_0 12 rfl rfl)
theorem dX4_init_13 : decode cX4_init 13 = .ok (.bipush 8, 2) := dk_16 8 (dk_at dksX4_init_0 13 rfl rfl)
theorem dX4_init_15 : decode cX4_init 15 = .ok (.newarray .int, 2) := dk_188_10 (dk_at dksX4_init_0 15 rfl rfl)
theorem dX4_init_17 : decode cX4_init 17 = .ok (.putfield 13, 3) := dk_181 0 13 (dk_at dksX4_init_0 17 rfl rfl)
theorem dX4_init_20 : decode cX4_init 20 = .ok (.aload_n 0, 1) := dk_42 (dk_at dksX4_init_0 20 rfl rfl)
theorem dX4_init_21 : decode cX4_init 21 = .ok (.bipush 17, 2) := dk_16 17 (dk_at dksX4_init_0 21 rfl rfl)
theorem dX4_init_23 : decode cX4_init 23 = .ok (.newarray .int, 2) := dk_188_10 (dk_at dksX4_init_1 0 rfl rfl)
theorem dX4_init_25 : decode cX4_init 25 = .ok (.putfield 16, 3) := dk_181 0 16 (dk_at dksX4_init_1 2 rfl rfl)
theorem dX4_init_28 : decode cX4_init 28 = .ok (.aload_n 0, 1) := dk_42 (dk_at dksX4_init_1 5 rfl rfl)
theorem dX4_init_29 : decode cX4_init 29 = .ok (.bipush 17, 2) := dk_16 17 (dk_at dksX4_init_1 6 rfl rfl)
theorem dX4_init_31 : decode cX4_init 31 = .ok (.newarray .int, 2) := dk_188_10 (dk_at dksX4_init_1 8 rfl rfl)
theorem dX4_init_33 : decode cX4_init 33 = .ok (.putfield 19, 3) := dk_181 0 19 (dk_at dksX4_init_1 10 rfl rfl)
theorem dX4_init_36 : decode cX4_init 36 = .ok (.aload_n 0, 1) := dk_42 (dk_at dksX4_init_1 13 rfl rfl)
theorem dX4_init_37 : decode cX4_init 37 = .ok (.bipush 51, 2) := dk_16 51 (dk_at dksX4_init_1 14 rfl rfl)
theorem dX4_init_39 : decode cX4_init 39 = .ok (.newarray .int, 2) := dk_188_10 (dk_at dksX4_init_1 16 rfl rfl)
theorem dX4_init_41 : decode cX4_init 41 = .ok (.putfield 22, 3) := dk_181 0 22 (dk_at dksX4_init_1 18 rfl rfl)
theorem dX4_init_44 : decode cX4_init 44 = .ok (.aload_n 0, 1) := dk_42 (dk_at dksX4_init_1 21 rfl rfl)
theorem dX4_init_45 : decode cX4_init 45 = .ok (.bipush 17, 2) := dk_16 17 (dk_at dksX4_init_1 22 rfl rfl)
theorem dX4_init_47 : decode cX4_init 47 = .ok (.newarray .int, 2) := dk_188_10 (dk_at dksX4_init_2 0 rfl rfl)
theorem dX4_init_49 : decode cX4_init 49 = .ok (.putfield 25, 3) := dk_181 0 25 (dk_at dksX4_init_2 2 rfl rfl)
theorem dX4_init_52 : decode cX4_init 52 = .ok (.aload_n 0, 1) := dk_42 (dk_at dksX4_init_2 5 rfl rfl)
theorem dX4_init_53 : decode cX4_init 53 = .ok (.bipush 102, 2) := dk_16 102 (dk_at dksX4_init_2 6 rfl rfl)
theorem dX4_init_55 : decode cX4_init 55 = .ok (.newarray .int, 2) := dk_188_10 (dk_at dksX4_init_2 8 rfl rfl)
theorem dX4_init_57 : decode cX4_init 57 = .ok (.putfield 28, 3) := dk_181 0 28 (dk_at dksX4_init_2 10 rfl rfl)
theorem dX4_init_60 : decode cX4_init 60 = .ok (.aload_n 0, 1) := dk_42 (dk_at dksX4_init_2 13 rfl rfl)
theorem dX4_init_61 : decode cX4_init 61 = .ok (.bipush 102, 2) := dk_16 102 (dk_at dksX4_init_2 14 rfl rfl)
theorem dX4_init_63 : decode cX4_init 63 = .ok (.newarray .int, 2) := dk_188_10 (dk_at dksX4_init_2 16 rfl rfl)
theorem dX4_init_65 : decode cX4_init 65 = .ok (.putfield 31, 3) := dk_181 0 31 (dk_at dksX4_init_2 18 rfl rfl)
theorem dX4_init_68 : decode cX4_init 68 = .ok (.aload_n 0, 1) := dk_42 (dk_at dksX4_init_2 21 rfl rfl)
theorem dX4_init_69 : decode cX4_init 69 = .ok (.sipush 306, 3) := dk_17 1 50 (dk_at dksX4_init_3 0 rfl rfl)
theorem dX4_init_72 : decode cX4_init 72 = .ok (.newarray .int, 2) := dk_188_10 (dk_at dksX4_init_3 3 rfl rfl)
theorem dX4_init_74 : decode cX4_init 74 = .ok (.putfield 34, 3) := dk_181 0 34 (dk_at dksX4_init_3 5 rfl rfl)
theorem dX4_init_77 : decode cX4_init 77 = .ok (.aload_n 0, 1) := dk_42 (dk_at dksX4_init_3 8 rfl rfl)
theorem dX4_init_78 : decode cX4_init 78 = .ok (.bipush 17, 2) := dk_16 17 (dk_at dksX4_init_3 9 rfl rfl)
theorem dX4_init_80 : decode cX4_init 80 = .ok (.newarray .int, 2) := dk_188_10 (dk_at dksX4_init_3 11 rfl rfl)
theorem dX4_init_82 : decode cX4_init 82 = .ok (.putfield 37, 3) := dk_181 0 37 (dk_at dksX4_init_3 13 rfl rfl)
theorem dX4_init_85 : decode cX4_init 85 = .ok (.aload_n 0, 1) := dk_42 (dk_at dksX4_init_3 16 rfl rfl)
theorem dX4_init_86 : decode cX4_init 86 = .ok (.bipush 17, 2) := dk_16 17 (dk_at dksX4_init_3 17 rfl rfl)
theorem dX4_init_88 : decode cX4_init 88 = .ok (.newarray .int, 2) := dk_188_10 (dk_at dksX4_init_3 19 rfl rfl)
theorem dX4_init_90 : decode cX4_init 90 = .ok (.putfield 40, 3) := dk_181 0 40 (dk_at dksX4_init_3 21 rfl rfl)
theorem dX4_init_93 : decode cX4_init 93 = .ok (.aload_n 0, 1) := dk_42 (dk_at dksX4_init_4 0 rfl rfl)
theorem dX4_init_94 : decode cX4_init 94 = .ok (.bipush 17, 2) := dk_16 17 (dk_at dksX4_init_4 1 rfl rfl)
theorem dX4_init_96 : decode cX4_init 96 = .ok (.newarray .int, 2) := dk_188_10 (dk_at dksX4_init_4 3 rfl rfl)
theorem dX4_init_98 : decode cX4_init 98 = .ok (.putfield 43, 3) := dk_181 0 43 (dk_at dksX4_init_4 5 rfl rfl)
theorem dX4_init_101 : decode cX4_init 101 = .ok (.aload_n 0, 1) := dk_42 (dk_at dksX4_init_4 8 rfl rfl)
theorem dX4_init_102 : decode cX4_init 102 = .ok (.bipush 62, 2) := dk_16 62 (dk_at dksX4_init_4 9 rfl rfl)
theorem dX4_init_104 : decode cX4_init 104 = .ok (.newarray .int, 2) := dk_188_10 (dk_at dksX4_init_4 11 rfl rfl)
theorem dX4_init_106 : decode cX4_init 106 = .ok (.putfield 46, 3) := dk_181 0 46 (dk_at dksX4_init_4 13 rfl rfl)
theorem dX4_init_109 : decode cX4_init 109 = .ok (.aload_n 0, 1) := dk_42 (dk_at dksX4_init_4 16 rfl rfl)
theorem dX4_init_110 : decode cX4_init 110 = .ok (.bipush 62, 2) := dk_16 62 (dk_at dksX4_init_4 17 rfl rfl)
theorem dX4_init_112 : decode cX4_init 112 = .ok (.newarray .int, 2) := dk_188_10 (dk_at dksX4_init_4 19 rfl rfl)
theorem dX4_init_114 : decode cX4_init 114 = .ok (.putfield 49, 3) := dk_181 0 49 (dk_at dksX4_init_4 21 rfl rfl)
theorem dX4_init_117 : decode cX4_init 117 = .ok (.aload_n 0, 1) := dk_42 (dk_at dksX4_init_5 0 rfl rfl)
theorem dX4_init_118 : decode cX4_init 118 = .ok (.bipush 62, 2) := dk_16 62 (dk_at dksX4_init_5 1 rfl rfl)
theorem dX4_init_120 : decode cX4_init 120 = .ok (.newarray .int, 2) := dk_188_10 (dk_at dksX4_init_5 3 rfl rfl)
theorem dX4_init_122 : decode cX4_init 122 = .ok (.putfield 52, 3) := dk_181 0 52 (dk_at dksX4_init_5 5 rfl rfl)
theorem dX4_init_125 : decode cX4_init 125 = .ok (.aload_n 0, 1) := dk_42 (dk_at dksX4_init_5 8 rfl rfl)
theorem dX4_init_126 : decode cX4_init 126 = .ok (.bipush 62, 2) := dk_16 62 (dk_at dksX4_init_5 9 rfl rfl)
theorem dX4_init_128 : decode cX4_init 128 = .ok (.newarray .int, 2) := dk_188_10 (dk_at dksX4_init_5 11 rfl rfl)
theorem dX4_init_130 : decode cX4_init 130 = .ok (.putfield 55, 3) := dk_181 0 55 (dk_at dksX4_init_5 13 rfl rfl)
theorem dX4_init_133 : decode cX4_init 133 = .ok (.aload_n 0, 1) := dk_42 (dk_at dksX4_init_5 16 rfl rfl)
theorem dX4_init_134 : decode cX4_init 134 = .ok (.bipush 8, 2) := dk_16 8 (dk_at dksX4_init_5 17 rfl rfl)
theorem dX4_init_136 : decode cX4_init 136 = .ok (.newarray .int, 2) := dk_188_10 (dk_at dksX4_init_5 19 rfl rfl)
theorem dX4_init_138 : decode cX4_init 138 = .ok (.putfield 58, 3) := dk_181 0 58 (dk_at dksX4_init_5 21 rfl rfl)
theorem dX4_init_141 : decode cX4_init 141 = .ok (.aload_n 0, 1) := dk_42 (dk_at dksX4_init_6 0 rfl rfl)
theorem dX4_init_142 : decode cX4_init 142 = .ok (.sipush 20800, 3) := dk_17 81 64 (dk_at dksX4_init_6 1 rfl rfl)
theorem dX4_init_145 : decode cX4_init 145 = .ok (.newarray .int, 2) := dk_188_10 (dk_at dksX4_init_6 4 rfl rfl)
theorem dX4_init_147 : decode cX4_init 147 = .ok (.putfield 61, 3) := dk_181 0 61 (dk_at dksX4_init_6 6 rfl rfl)
theorem dX4_init_150 : decode cX4_init 150 = .ok (.aload_n 0, 1) := dk_42 (dk_at dksX4_init_6 9 rfl rfl)
theorem dX4_init_151 : decode cX4_init 151 = .ok (.bipush 44, 2) := dk_16 44 (dk_at dksX4_init_6 10 rfl rfl)
theorem dX4_init_153 : decode cX4_init 153 = .ok (.newarray .int, 2) := dk_188_10 (dk_at dksX4_init_6 12 rfl rfl)
theorem dX4_init_155 : decode cX4_init 155 = .ok (.putfield 64, 3) := dk_181 0 64 (dk_at dksX4_init_6 14 rfl rfl)
theorem dX4_init_158 : decode cX4_init 158 = .ok (.aload_n 0, 1) := dk_42 (dk_at dksX4_init_6 17 rfl rfl)
theorem dX4_init_159 : decode cX4_init 159 = .ok (.sipush 2720, 3) := dk_17 10 160 (dk_at dksX4_init_6 18 rfl rfl)
theorem dX4_init_162 : decode cX4_init 162 = .ok (.newarray .int, 2) := dk_188_10 (dk_at dksX4_init_6 21 rfl rfl)
theorem dX4_init_164 : decode cX4_init 164 = .ok (.putfield 67, 3) := dk_181 0 67 (dk_at dksX4_init_7 0 rfl rfl)
theorem dX4_init_167 : decode cX4_init 167 = .ok (.aload_n 0, 1) := dk_42 (dk_at dksX4_init_7 3 rfl rfl)
theorem dX4_init_168 : decode cX4_init 168 = .ok (.sipush 1024, 3) := dk_17 4 0 (dk_at dksX4_init_7 4 rfl rfl)
theorem dX4_init_171 : decode cX4_init 171 = .ok (.newarray .int, 2) := dk_188_10 (dk_at dksX4_init_7 7 rfl rfl)
theorem dX4_init_173 : decode cX4_init 173 = .ok (.putfield 70, 3) := dk_181 0 70 (dk_at dksX4_init_7 9 rfl rfl)
theorem dX4_init_176 : decode cX4_init 176 = .ok (.aload_n 0, 1) := dk_42 (dk_at dksX4_init_7 12 rfl rfl)
theorem dX4_init_177 : decode cX4_init 177 = .ok (.bipush 8, 2) := dk_16 8 (dk_at dksX4_init_7 13 rfl rfl)
theorem dX4_init_179 : decode cX4_init 179 = .ok (.newarray .int, 2) := dk_188_10 (dk_at dksX4_init_7 15 rfl rfl)
theorem dX4_init_181 : decode cX4_init 181 = .ok (.putfield 73, 3) := dk_181 0 73 (dk_at dksX4_init_7 17 rfl rfl)
theorem dX4_init_184 : decode cX4_init 184 = .ok (.aload_n 0, 1) := dk_42 (dk_at dksX4_init_7 20 rfl rfl)
theorem dX4_init_185 : decode cX4_init 185 = .ok (.bipush 62, 2) := dk_16 62 (dk_at dksX4_init_7 21 rfl rfl)
theorem dX4_init_187 : decode cX4_init 187 = .ok (.newarray .int, 2) := dk_188_10 (dk_at dksX4_init_8 0 rfl rfl)
theorem dX4_init_189 : decode cX4_init 189 = .ok (.putfield 76, 3) := dk_181 0 76 (dk_at dksX4_init_8 2 rfl rfl)
theorem dX4_init_192 : decode cX4_init 192 = .ok (.aload_n 0, 1) := dk_42 (dk_at dksX4_init_8 5 rfl rfl)
theorem dX4_init_193 : decode cX4_init 193 = .ok (.bipush 62, 2) := dk_16 62 (dk_at dksX4_init_8 6 rfl rfl)
theorem dX4_init_195 : decode cX4_init 195 = .ok (.newarray .int, 2) := dk_188_10 (dk_at dksX4_init_8 8 rfl rfl)
theorem dX4_init_197 : decode cX4_init 197 = .ok (.putfield 79, 3) := dk_181 0 79 (dk_at dksX4_init_8 10 rfl rfl)
theorem dX4_init_200 : decode cX4_init 200 = .ok (.aload_n 0, 1) := dk_42 (dk_at dksX4_init_8 13 rfl rfl)
theorem dX4_init_201 : decode cX4_init 201 = .ok (.bipush 62, 2) := dk_16 62 (dk_at dksX4_init_8 14 rfl rfl)
theorem dX4_init_203 : decode cX4_init 203 = .ok (.newarray .int, 2) := dk_188_10 (dk_at dksX4_init_8 16 rfl rfl)
theorem dX4_init_205 : decode cX4_init 205 = .ok (.putfield 82, 3) := dk_181 0 82 (dk_at dksX4_init_8 18 rfl rfl)
theorem dX4_init_208 : decode cX4_init 208 = .ok (.aload_n 0, 1) := dk_42 (dk_at dksX4_init_8 21 rfl rfl)
theorem dX4_init_209 : decode cX4_init 209 = .ok (.bipush 6, 2) := dk_16 6 (dk_at dksX4_init_8 22 rfl rfl)
theorem dX4_init_211 : decode cX4_init 211 = .ok (.newarray .int, 2) := dk_188_10 (dk_at dksX4_init_9 0 rfl rfl)
theorem dX4_init_213 : decode cX4_init 213 = .ok (.putfield 85, 3) := dk_181 0 85 (dk_at dksX4_init_9 2 rfl rfl)
theorem dX4_init_216 : decode cX4_init 216 = .ok (.aload_n 0, 1) := dk_42 (dk_at dksX4_init_9 5 rfl rfl)
theorem dX4_init_217 : decode cX4_init 217 = .ok (.bipush 6, 2) := dk_16 6 (dk_at dksX4_init_9 6 rfl rfl)
theorem dX4_init_219 : decode cX4_init 219 = .ok (.newarray .int, 2) := dk_188_10 (dk_at dksX4_init_9 8 rfl rfl)
theorem dX4_init_221 : decode cX4_init 221 = .ok (.putfield 88, 3) := dk_181 0 88 (dk_at dksX4_init_9 10 rfl rfl)
theorem dX4_init_224 : decode cX4_init 224 = .ok (.aload_n 0, 1) := dk_42 (dk_at dksX4_init_9 13 rfl rfl)
theorem dX4_init_225 : decode cX4_init 225 = .ok (.bipush 8, 2) := dk_16 8 (dk_at dksX4_init_9 14 rfl rfl)
theorem dX4_init_227 : decode cX4_init 227 = .ok (.newarray .int, 2) := dk_188_10 (dk_at dksX4_init_9 16 rfl rfl)
theorem dX4_init_229 : decode cX4_init 229 = .ok (.putfield 91, 3) := dk_181 0 91 (dk_at dksX4_init_9 18 rfl rfl)
theorem dX4_init_232 : decode cX4_init 232 = .ok (.aload_n 0, 1) := dk_42 (dk_at dksX4_init_9 21 rfl rfl)
theorem dX4_init_233 : decode cX4_init 233 = .ok (.bipush 8, 2) := dk_16 8 (dk_at dksX4_init_9 22 rfl rfl)
theorem dX4_init_235 : decode cX4_init 235 = .ok (.newarray .int, 2) := dk_188_10 (dk_at dksX4_init_10 0 rfl rfl)
theorem dX4_init_237 : decode cX4_init 237 = .ok (.putfield 94, 3) := dk_181 0 94 (dk_at dksX4_init_10 2 rfl rfl)
theorem dX4_init_240 : decode cX4_init 240 = .ok (.aload_n 0, 1) := dk_42 (dk_at dksX4_init_10 5 rfl rfl)
theorem dX4_init_241 : decode cX4_init 241 = .ok (.bipush 62, 2) := dk_16 62 (dk_at dksX4_init_10 6 rfl rfl)
theorem dX4_init_243 : decode cX4_init 243 = .ok (.newarray .int, 2) := dk_188_10 (dk_at dksX4_init_10 8 rfl rfl)
theorem dX4_init_245 : decode cX4_init 245 = .ok (.putfield 97, 3) := dk_181 0 97 (dk_at dksX4_init_10 10 rfl rfl)
theorem dX4_init_248 : decode cX4_init 248 = .ok (.aload_n 0, 1) := dk_42 (dk_at dksX4_init_10 13 rfl rfl)
theorem dX4_init_249 : decode cX4_init 249 = .ok (.bipush 62, 2) := dk_16 62 (dk_at dksX4_init_10 14 rfl rfl)
theorem dX4_init_251 : decode cX4_init 251 = .ok (.newarray .long, 2) := dk_188_11 (dk_at dksX4_init_10 16 rfl rfl)
theorem dX4_init_253 : decode cX4_init 253 = .ok (.putfield 100, 3) := dk_181 0 100 (dk_at dksX4_init_10 18 rfl rfl)
theorem dX4_init_256 : decode cX4_init 256 = .ok (.aload_n 0, 1) := dk_42 (dk_at dksX4_init_10 21 rfl rfl)
theorem dX4_init_257 : decode cX4_init 257 = .ok (.bipush 62, 2) := dk_16 62 (dk_at dksX4_init_10 22 rfl rfl)
theorem dX4_init_259 : decode cX4_init 259 = .ok (.newarray .long, 2) := dk_188_11 (dk_at dksX4_init_11 0 rfl rfl)
theorem dX4_init_261 : decode cX4_init 261 = .ok (.putfield 104, 3) := dk_181 0 104 (dk_at dksX4_init_11 2 rfl rfl)
theorem dX4_init_264 : decode cX4_init 264 = .ok (.aload_n 0, 1) := dk_42 (dk_at dksX4_init_11 5 rfl rfl)
theorem dX4_init_265 : decode cX4_init 265 = .ok (.bipush 62, 2) := dk_16 62 (dk_at dksX4_init_11 6 rfl rfl)
theorem dX4_init_267 : decode cX4_init 267 = .ok (.newarray .int, 2) := dk_188_10 (dk_at dksX4_init_11 8 rfl rfl)
theorem dX4_init_269 : decode cX4_init 269 = .ok (.putfield 107, 3) := dk_181 0 107 (dk_at dksX4_init_11 10 rfl rfl)
theorem dX4_init_272 : decode cX4_init 272 = .ok (.aload_n 0, 1) := dk_42 (dk_at dksX4_init_11 13 rfl rfl)
theorem dX4_init_273 : decode cX4_init 273 = .ok (.bipush 62, 2) := dk_16 62 (dk_at dksX4_init_11 14 rfl rfl)
theorem dX4_init_275 : decode cX4_init 275 = .ok (.newarray .long, 2) := dk_188_11 (dk_at dksX4_init_11 16 rfl rfl)
theorem dX4_init_277 : decode cX4_init 277 = .ok (.putfield 110, 3) := dk_181 0 110 (dk_at dksX4_init_11 18 rfl rfl)
theorem dX4_init_280 : decode cX4_init 280 = .ok (.aload_n 0, 1) := dk_42 (dk_at dksX4_init_11 21 rfl rfl)
theorem dX4_init_281 : decode cX4_init 281 = .ok (.bipush 62, 2) := dk_16 62 (dk_at dksX4_init_11 22 rfl rfl)
theorem dX4_init_283 : decode cX4_init 283 = .ok (.newarray .int, 2) := dk_188_10 (dk_at dksX4_init_12 0 rfl rfl)
theorem dX4_init_285 : decode cX4_init 285 = .ok (.putfield 113, 3) := dk_181 0 113 (dk_at dksX4_init_12 2 rfl rfl)
theorem dX4_init_288 : decode cX4_init 288 = .ok (.aload_n 0, 1) := dk_42 (dk_at dksX4_init_12 5 rfl rfl)
theorem dX4_init_289 : decode cX4_init 289 = .ok (.bipush 62, 2) := dk_16 62 (dk_at dksX4_init_12 6 rfl rfl)
theorem dX4_init_291 : decode cX4_init 291 = .ok (.newarray .long, 2) := dk_188_11 (dk_at dksX4_init_12 8 rfl rfl)
theorem dX4_init_293 : decode cX4_init 293 = .ok (.putfield 116, 3) := dk_181 0 116 (dk_at dksX4_init_12 10 rfl rfl)
theorem dX4_init_296 : decode cX4_init 296 = .ok (.aload_n 0, 1) := dk_42 (dk_at dksX4_init_12 13 rfl rfl)
theorem dX4_init_297 : decode cX4_init 297 = .ok (.bipush 62, 2) := dk_16 62 (dk_at dksX4_init_12 14 rfl rfl)
theorem dX4_init_299 : decode cX4_init 299 = .ok (.newarray .int, 2) := dk_188_10 (dk_at dksX4_init_12 16 rfl rfl)
theorem dX4_init_301 : decode cX4_init 301 = .ok (.putfield 119, 3) := dk_181 0 119 (dk_at dksX4_init_12 18 rfl rfl)
theorem dX4_init_304 : decode cX4_init 304 = .ok (.aload_n 0, 1) := dk_42 (dk_at dksX4_init_12 21 rfl rfl)
theorem dX4_init_305 : decode cX4_init 305 = .ok (.sipush 201, 3) := dk_17 0 201 (dk_at dksX4_init_13 0 rfl rfl)
theorem dX4_init_308 : decode cX4_init 308 = .ok (.newarray .int, 2) := dk_188_10 (dk_at dksX4_init_13 3 rfl rfl)
theorem dX4_init_310 : decode cX4_init 310 = .ok (.putfield 122, 3) := dk_181 0 122 (dk_at dksX4_init_13 5 rfl rfl)
theorem dX4_init_313 : decode cX4_init 313 = .ok (.aload_n 0, 1) := dk_42 (dk_at dksX4_init_13 8 rfl rfl)
theorem dX4_init_314 : decode cX4_init 314 = .ok (.iconst 3, 1) := dk_6 (dk_at dksX4_init_13 9 rfl rfl)
theorem dX4_init_315 : decode cX4_init 315 = .ok (.newarray .int, 2) := dk_188_10 (dk_at dksX4_init_13 10 rfl rfl)
theorem dX4_init_317 : decode cX4_init 317 = .ok (.putfield 125, 3) := dk_181 0 125 (dk_at dksX4_init_13 12 rfl rfl)
theorem dX4_init_320 : decode cX4_init 320 = .ok (.aload_n 0, 1) := dk_42 (dk_at dksX4_init_13 15 rfl rfl)
theorem dX4_init_321 : decode cX4_init 321 = .ok (.iconst 3, 1) := dk_6 (dk_at dksX4_init_13 16 rfl rfl)
theorem dX4_init_322 : decode cX4_init 322 = .ok (.newarray .int, 2) := dk_188_10 (dk_at dksX4_init_13 17 rfl rfl)
theorem dX4_init_324 : decode cX4_init 324 = .ok (.putfield 128, 3) := dk_181 0 128 (dk_at dksX4_init_13 19 rfl rfl)
theorem dX4_init_327 : decode cX4_init 327 = .ok (.aload_n 0, 1) := dk_42 (dk_at dksX4_init_13 22 rfl rfl)
theorem dX4_init_328 : decode cX4_init 328 = .ok (.getfield 7, 3) := dk_180 0 7 (dk_at dksX4_init_14 0 rfl rfl)
theorem dX4_init_331 : decode cX4_init 331 = .ok (.bipush 8, 2) := dk_16 8 (dk_at dksX4_init_14 3 rfl rfl)
theorem dX4_init_333 : decode cX4_init 333 = .ok (.iconst 1, 1) := dk_4 (dk_at dksX4_init_14 5 rfl rfl)
theorem dX4_init_334 : decode cX4_init 334 = .ok (.iastore, 1) := dk_79 (dk_at dksX4_init_14 6 rfl rfl)
theorem dX4_init_335 : decode cX4_init 335 = .ok (.return_, 1) := dk_177 (dk_at dksX4_init_14 7 rfl rfl)
abbrev cX4_thrown : ByteArray := prog_19_method_2_code
def yX4_thrown : MethodName := ⟨RX4, "thrown", "()I"⟩
theorem dX4_thrown_0 : decode cX4_thrown 0 = .ok (.aload_n 0, 1) := by decide +kernel
theorem dX4_thrown_1 : decode cX4_thrown 1 = .ok (.getfield 131, 3) := by decide +kernel
theorem dX4_thrown_4 : decode cX4_thrown 4 = .ok (.ireturn, 1) := by decide +kernel
abbrev cX4_relation : ByteArray := prog_19_method_41_code
def yX4_relation : MethodName := ⟨RX4, "relation", "(I)I"⟩
def dkwX4_relation_2 : List UInt8 := [3, 46, 27, 79, 42, 180, 0, 7, 3, 92, 46, 4, 96, 79, 42, 180, 0, 7, 3, 46, 4, 100, 172]
abbrev dktX4_relation_2 : List UInt8 := dkwX4_relation_2 ++ []
def dkwX4_relation_1 : List UInt8 := [160, 0, 7, 5, 167, 0, 4, 3, 182, 1, 10, 154, 0, 5, 3, 172, 42, 180, 0, 13, 42, 180, 0, 7]
abbrev dktX4_relation_1 : List UInt8 := dkwX4_relation_1 ++ dktX4_relation_2
def dkwX4_relation_0 : List UInt8 := [42, 27, 4, 6, 184, 0, 135, 154, 0, 7, 4, 167, 0, 19, 42, 180, 0, 7, 3, 46, 16, 8]
abbrev dktX4_relation_0 : List UInt8 := dkwX4_relation_0 ++ dktX4_relation_1
theorem dksX4_relation_0 : cX4_relation.data.toList.drop 0 = dktX4_relation_0 := by decide +kernel
theorem dksX4_relation_1 : cX4_relation.data.toList.drop 22 = dktX4_relation_1 := dk_seg dksX4_relation_0 22 rfl rfl
theorem dksX4_relation_2 : cX4_relation.data.toList.drop 46 = dktX4_relation_2 := dk_seg dksX4_relation_1 24 rfl rfl
theorem dX4_relation_0 : decode cX4_relation 0 = .ok (.aload_n 0, 1) := dk_42 (dk_at dksX4_relation_0 0 rfl rfl)
theorem dX4_relation_1 : decode cX4_relation 1 = .ok (.iload_n 1, 1) := dk_27 (dk_at dksX4_relation_0 1 rfl rfl)
theorem dX4_relation_2 : decode cX4_relation 2 = .ok (.iconst 1, 1) := dk_4 (dk_at dksX4_relation_0 2 rfl rfl)
theorem dX4_relation_3 : decode cX4_relation 3 = .ok (.iconst 3, 1) := dk_6 (dk_at dksX4_relation_0 3 rfl rfl)
theorem dX4_relation_4 : decode cX4_relation 4 = .ok (.invokestatic 135, 3) := dk_184 0 135 (dk_at dksX4_relation_0 4 rfl rfl)
theorem dX4_relation_7 : decode cX4_relation 7 = .ok (.ifCond .ne 7, 3) := dk_154 0 7 (dk_at dksX4_relation_0 7 rfl rfl)
theorem dX4_relation_10 : decode cX4_relation 10 = .ok (.iconst 1, 1) := dk_4 (dk_at dksX4_relation_0 10 rfl rfl)
theorem dX4_relation_11 : decode cX4_relation 11 = .ok (.goto 19, 3) := dk_167 0 19 (dk_at dksX4_relation_0 11 rfl rfl)
theorem dX4_relation_14 : decode cX4_relation 14 = .ok (.aload_n 0, 1) := dk_42 (dk_at dksX4_relation_0 14 rfl rfl)
theorem dX4_relation_15 : decode cX4_relation 15 = .ok (.getfield 7, 3) := dk_180 0 7 (dk_at dksX4_relation_0 15 rfl rfl)
theorem dX4_relation_18 : decode cX4_relation 18 = .ok (.iconst 0, 1) := dk_3 (dk_at dksX4_relation_0 18 rfl rfl)
theorem dX4_relation_19 : decode cX4_relation 19 = .ok (.iaload, 1) := dk_46 (dk_at dksX4_relation_0 19 rfl rfl)
theorem dX4_relation_20 : decode cX4_relation 20 = .ok (.bipush 8, 2) := dk_16 8 (dk_at dksX4_relation_0 20 rfl rfl)
theorem dX4_relation_22 : decode cX4_relation 22 = .ok (.if_icmp .ne 7, 3) := dk_160 0 7 (dk_at dksX4_relation_1 0 rfl rfl)
theorem dX4_relation_25 : decode cX4_relation 25 = .ok (.iconst 2, 1) := dk_5 (dk_at dksX4_relation_1 3 rfl rfl)
theorem dX4_relation_26 : decode cX4_relation 26 = .ok (.goto 4, 3) := dk_167 0 4 (dk_at dksX4_relation_1 4 rfl rfl)
theorem dX4_relation_29 : decode cX4_relation 29 = .ok (.iconst 0, 1) := dk_3 (dk_at dksX4_relation_1 7 rfl rfl)
theorem dX4_relation_30 : decode cX4_relation 30 = .ok (.invokevirtual 266, 3) := dk_182 1 10 (dk_at dksX4_relation_1 8 rfl rfl)
theorem dX4_relation_33 : decode cX4_relation 33 = .ok (.ifCond .ne 5, 3) := dk_154 0 5 (dk_at dksX4_relation_1 11 rfl rfl)
theorem dX4_relation_36 : decode cX4_relation 36 = .ok (.iconst 0, 1) := dk_3 (dk_at dksX4_relation_1 14 rfl rfl)
theorem dX4_relation_37 : decode cX4_relation 37 = .ok (.ireturn, 1) := dk_172 (dk_at dksX4_relation_1 15 rfl rfl)
theorem dX4_relation_38 : decode cX4_relation 38 = .ok (.aload_n 0, 1) := dk_42 (dk_at dksX4_relation_1 16 rfl rfl)
theorem dX4_relation_39 : decode cX4_relation 39 = .ok (.getfield 13, 3) := dk_180 0 13 (dk_at dksX4_relation_1 17 rfl rfl)
theorem dX4_relation_42 : decode cX4_relation 42 = .ok (.aload_n 0, 1) := dk_42 (dk_at dksX4_relation_1 20 rfl rfl)
theorem dX4_relation_43 : decode cX4_relation 43 = .ok (.getfield 7, 3) := dk_180 0 7 (dk_at dksX4_relation_1 21 rfl rfl)
theorem dX4_relation_46 : decode cX4_relation 46 = .ok (.iconst 0, 1) := dk_3 (dk_at dksX4_relation_2 0 rfl rfl)
theorem dX4_relation_47 : decode cX4_relation 47 = .ok (.iaload, 1) := dk_46 (dk_at dksX4_relation_2 1 rfl rfl)
theorem dX4_relation_48 : decode cX4_relation 48 = .ok (.iload_n 1, 1) := dk_27 (dk_at dksX4_relation_2 2 rfl rfl)
theorem dX4_relation_49 : decode cX4_relation 49 = .ok (.iastore, 1) := dk_79 (dk_at dksX4_relation_2 3 rfl rfl)
theorem dX4_relation_50 : decode cX4_relation 50 = .ok (.aload_n 0, 1) := dk_42 (dk_at dksX4_relation_2 4 rfl rfl)
theorem dX4_relation_51 : decode cX4_relation 51 = .ok (.getfield 7, 3) := dk_180 0 7 (dk_at dksX4_relation_2 5 rfl rfl)
theorem dX4_relation_54 : decode cX4_relation 54 = .ok (.iconst 0, 1) := dk_3 (dk_at dksX4_relation_2 8 rfl rfl)
theorem dX4_relation_55 : decode cX4_relation 55 = .ok (.dup2, 1) := dk_92 (dk_at dksX4_relation_2 9 rfl rfl)
theorem dX4_relation_56 : decode cX4_relation 56 = .ok (.iaload, 1) := dk_46 (dk_at dksX4_relation_2 10 rfl rfl)
theorem dX4_relation_57 : decode cX4_relation 57 = .ok (.iconst 1, 1) := dk_4 (dk_at dksX4_relation_2 11 rfl rfl)
theorem dX4_relation_58 : decode cX4_relation 58 = .ok (.iadd, 1) := dk_96 (dk_at dksX4_relation_2 12 rfl rfl)
theorem dX4_relation_59 : decode cX4_relation 59 = .ok (.iastore, 1) := dk_79 (dk_at dksX4_relation_2 13 rfl rfl)
theorem dX4_relation_60 : decode cX4_relation 60 = .ok (.aload_n 0, 1) := dk_42 (dk_at dksX4_relation_2 14 rfl rfl)
theorem dX4_relation_61 : decode cX4_relation 61 = .ok (.getfield 7, 3) := dk_180 0 7 (dk_at dksX4_relation_2 15 rfl rfl)
theorem dX4_relation_64 : decode cX4_relation 64 = .ok (.iconst 0, 1) := dk_3 (dk_at dksX4_relation_2 18 rfl rfl)
theorem dX4_relation_65 : decode cX4_relation 65 = .ok (.iaload, 1) := dk_46 (dk_at dksX4_relation_2 19 rfl rfl)
theorem dX4_relation_66 : decode cX4_relation 66 = .ok (.iconst 1, 1) := dk_4 (dk_at dksX4_relation_2 20 rfl rfl)
theorem dX4_relation_67 : decode cX4_relation 67 = .ok (.isub, 1) := dk_100 (dk_at dksX4_relation_2 21 rfl rfl)
theorem dX4_relation_68 : decode cX4_relation 68 = .ok (.ireturn, 1) := dk_172 (dk_at dksX4_relation_2 22 rfl rfl)
abbrev cX4_in : ByteArray := prog_19_method_4_code
def yX4_in : MethodName := ⟨RX4, "in", "(III)Z"⟩
def dkwX4_in_0 : List UInt8 := [26, 27, 161, 0, 12, 26, 28, 163, 0, 7, 4, 167, 0, 4, 3, 172]
abbrev dktX4_in_0 : List UInt8 := dkwX4_in_0 ++ []
theorem dksX4_in_0 : cX4_in.data.toList.drop 0 = dktX4_in_0 := by decide +kernel
theorem dX4_in_0 : decode cX4_in 0 = .ok (.iload_n 0, 1) := dk_26 (dk_at dksX4_in_0 0 rfl rfl)
theorem dX4_in_1 : decode cX4_in 1 = .ok (.iload_n 1, 1) := dk_27 (dk_at dksX4_in_0 1 rfl rfl)
theorem dX4_in_2 : decode cX4_in 2 = .ok (.if_icmp .lt 12, 3) := dk_161 0 12 (dk_at dksX4_in_0 2 rfl rfl)
theorem dX4_in_5 : decode cX4_in 5 = .ok (.iload_n 0, 1) := dk_26 (dk_at dksX4_in_0 5 rfl rfl)
theorem dX4_in_6 : decode cX4_in 6 = .ok (.iload_n 2, 1) := dk_28 (dk_at dksX4_in_0 6 rfl rfl)
theorem dX4_in_7 : decode cX4_in 7 = .ok (.if_icmp .gt 7, 3) := dk_163 0 7 (dk_at dksX4_in_0 7 rfl rfl)
theorem dX4_in_10 : decode cX4_in 10 = .ok (.iconst 1, 1) := dk_4 (dk_at dksX4_in_0 10 rfl rfl)
theorem dX4_in_11 : decode cX4_in 11 = .ok (.goto 4, 3) := dk_167 0 4 (dk_at dksX4_in_0 11 rfl rfl)
theorem dX4_in_14 : decode cX4_in 14 = .ok (.iconst 0, 1) := dk_3 (dk_at dksX4_in_0 14 rfl rfl)
theorem dX4_in_15 : decode cX4_in 15 = .ok (.ireturn, 1) := dk_172 (dk_at dksX4_in_0 15 rfl rfl)
abbrev cX4_goesWell : ByteArray := prog_19_method_3_code
def yX4_goesWell : MethodName := ⟨RX4, "goesWell", "(I)Z"⟩
def dkwX4_goesWell_0 : List UInt8 := [42, 27, 181, 0, 131, 27, 154, 0, 7, 4, 167, 0, 4, 3, 172]
abbrev dktX4_goesWell_0 : List UInt8 := dkwX4_goesWell_0 ++ []
theorem dksX4_goesWell_0 : cX4_goesWell.data.toList.drop 0 = dktX4_goesWell_0 := by decide +kernel
theorem dX4_goesWell_0 : decode cX4_goesWell 0 = .ok (.aload_n 0, 1) := dk_42 (dk_at dksX4_goesWell_0 0 rfl rfl)
theorem dX4_goesWell_1 : decode cX4_goesWell 1 = .ok (.iload_n 1, 1) := dk_27 (dk_at dksX4_goesWell_0 1 rfl rfl)
theorem dX4_goesWell_2 : decode cX4_goesWell 2 = .ok (.putfield 131, 3) := dk_181 0 131 (dk_at dksX4_goesWell_0 2 rfl rfl)
theorem dX4_goesWell_5 : decode cX4_goesWell 5 = .ok (.iload_n 1, 1) := dk_27 (dk_at dksX4_goesWell_0 5 rfl rfl)
theorem dX4_goesWell_6 : decode cX4_goesWell 6 = .ok (.ifCond .ne 7, 3) := dk_154 0 7 (dk_at dksX4_goesWell_0 6 rfl rfl)
theorem dX4_goesWell_9 : decode cX4_goesWell 9 = .ok (.iconst 1, 1) := dk_4 (dk_at dksX4_goesWell_0 9 rfl rfl)
theorem dX4_goesWell_10 : decode cX4_goesWell 10 = .ok (.goto 4, 3) := dk_167 0 4 (dk_at dksX4_goesWell_0 10 rfl rfl)
theorem dX4_goesWell_13 : decode cX4_goesWell 13 = .ok (.iconst 0, 1) := dk_3 (dk_at dksX4_goesWell_0 13 rfl rfl)
theorem dX4_goesWell_14 : decode cX4_goesWell 14 = .ok (.ireturn, 1) := dk_172 (dk_at dksX4_goesWell_0 14 rfl rfl)
abbrev cX4_tell : ByteArray := prog_19_method_45_code
def yX4_tell : MethodName := ⟨RX4, "tell", "(II)I"⟩
def dkwX4_tell_3 : List UInt8 := [172]
abbrev dktX4_tell_3 : List UInt8 := dkwX4_tell_3 ++ []
def dkwX4_tell_2 : List UInt8 := [154, 0, 7, 3, 167, 0, 12, 42, 180, 0, 7, 16, 9, 46, 28, 96, 182, 1, 22, 42, 6, 182, 1, 25]
abbrev dktX4_tell_2 : List UInt8 := dkwX4_tell_2 ++ dktX4_tell_3
def dkwX4_tell_1 : List UInt8 := [153, 0, 7, 3, 167, 0, 4, 5, 182, 1, 10, 154, 0, 5, 3, 172, 42, 6, 182, 1, 19, 42, 27, 28]
abbrev dktX4_tell_1 : List UInt8 := dkwX4_tell_1 ++ dktX4_tell_2
def dkwX4_tell_0 : List UInt8 := [42, 27, 182, 1, 16, 62, 42, 29, 158, 0, 7, 29, 167, 0, 18, 28, 3, 16, 100, 184, 0, 135]
abbrev dktX4_tell_0 : List UInt8 := dkwX4_tell_0 ++ dktX4_tell_1
theorem dksX4_tell_0 : cX4_tell.data.toList.drop 0 = dktX4_tell_0 := by decide +kernel
theorem dksX4_tell_1 : cX4_tell.data.toList.drop 22 = dktX4_tell_1 := dk_seg dksX4_tell_0 22 rfl rfl
theorem dksX4_tell_2 : cX4_tell.data.toList.drop 46 = dktX4_tell_2 := dk_seg dksX4_tell_1 24 rfl rfl
theorem dksX4_tell_3 : cX4_tell.data.toList.drop 70 = dktX4_tell_3 := dk_seg dksX4_tell_2 24 rfl rfl
theorem dX4_tell_0 : decode cX4_tell 0 = .ok (.aload_n 0, 1) := dk_42 (dk_at dksX4_tell_0 0 rfl rfl)
theorem dX4_tell_1 : decode cX4_tell 1 = .ok (.iload_n 1, 1) := dk_27 (dk_at dksX4_tell_0 1 rfl rfl)
theorem dX4_tell_2 : decode cX4_tell 2 = .ok (.invokevirtual 272, 3) := dk_182 1 16 (dk_at dksX4_tell_0 2 rfl rfl)
theorem dX4_tell_5 : decode cX4_tell 5 = .ok (.istore_n 3, 1) := dk_62 (dk_at dksX4_tell_0 5 rfl rfl)
theorem dX4_tell_6 : decode cX4_tell 6 = .ok (.aload_n 0, 1) := dk_42 (dk_at dksX4_tell_0 6 rfl rfl)
theorem dX4_tell_7 : decode cX4_tell 7 = .ok (.iload_n 3, 1) := dk_29 (dk_at dksX4_tell_0 7 rfl rfl)
theorem dX4_tell_8 : decode cX4_tell 8 = .ok (.ifCond .le 7, 3) := dk_158 0 7 (dk_at dksX4_tell_0 8 rfl rfl)
theorem dX4_tell_11 : decode cX4_tell 11 = .ok (.iload_n 3, 1) := dk_29 (dk_at dksX4_tell_0 11 rfl rfl)
theorem dX4_tell_12 : decode cX4_tell 12 = .ok (.goto 18, 3) := dk_167 0 18 (dk_at dksX4_tell_0 12 rfl rfl)
theorem dX4_tell_15 : decode cX4_tell 15 = .ok (.iload_n 2, 1) := dk_28 (dk_at dksX4_tell_0 15 rfl rfl)
theorem dX4_tell_16 : decode cX4_tell 16 = .ok (.iconst 0, 1) := dk_3 (dk_at dksX4_tell_0 16 rfl rfl)
theorem dX4_tell_17 : decode cX4_tell 17 = .ok (.bipush 100, 2) := dk_16 100 (dk_at dksX4_tell_0 17 rfl rfl)
theorem dX4_tell_19 : decode cX4_tell 19 = .ok (.invokestatic 135, 3) := dk_184 0 135 (dk_at dksX4_tell_0 19 rfl rfl)
theorem dX4_tell_22 : decode cX4_tell 22 = .ok (.ifCond .eq 7, 3) := dk_153 0 7 (dk_at dksX4_tell_1 0 rfl rfl)
theorem dX4_tell_25 : decode cX4_tell 25 = .ok (.iconst 0, 1) := dk_3 (dk_at dksX4_tell_1 3 rfl rfl)
theorem dX4_tell_26 : decode cX4_tell 26 = .ok (.goto 4, 3) := dk_167 0 4 (dk_at dksX4_tell_1 4 rfl rfl)
theorem dX4_tell_29 : decode cX4_tell 29 = .ok (.iconst 2, 1) := dk_5 (dk_at dksX4_tell_1 7 rfl rfl)
theorem dX4_tell_30 : decode cX4_tell 30 = .ok (.invokevirtual 266, 3) := dk_182 1 10 (dk_at dksX4_tell_1 8 rfl rfl)
theorem dX4_tell_33 : decode cX4_tell 33 = .ok (.ifCond .ne 5, 3) := dk_154 0 5 (dk_at dksX4_tell_1 11 rfl rfl)
theorem dX4_tell_36 : decode cX4_tell 36 = .ok (.iconst 0, 1) := dk_3 (dk_at dksX4_tell_1 14 rfl rfl)
theorem dX4_tell_37 : decode cX4_tell 37 = .ok (.ireturn, 1) := dk_172 (dk_at dksX4_tell_1 15 rfl rfl)
theorem dX4_tell_38 : decode cX4_tell 38 = .ok (.aload_n 0, 1) := dk_42 (dk_at dksX4_tell_1 16 rfl rfl)
theorem dX4_tell_39 : decode cX4_tell 39 = .ok (.iconst 3, 1) := dk_6 (dk_at dksX4_tell_1 17 rfl rfl)
theorem dX4_tell_40 : decode cX4_tell 40 = .ok (.invokevirtual 275, 3) := dk_182 1 19 (dk_at dksX4_tell_1 18 rfl rfl)
theorem dX4_tell_43 : decode cX4_tell 43 = .ok (.aload_n 0, 1) := dk_42 (dk_at dksX4_tell_1 21 rfl rfl)
theorem dX4_tell_44 : decode cX4_tell 44 = .ok (.iload_n 1, 1) := dk_27 (dk_at dksX4_tell_1 22 rfl rfl)
theorem dX4_tell_45 : decode cX4_tell 45 = .ok (.iload_n 2, 1) := dk_28 (dk_at dksX4_tell_1 23 rfl rfl)
theorem dX4_tell_46 : decode cX4_tell 46 = .ok (.ifCond .ne 7, 3) := dk_154 0 7 (dk_at dksX4_tell_2 0 rfl rfl)
theorem dX4_tell_49 : decode cX4_tell 49 = .ok (.iconst 0, 1) := dk_3 (dk_at dksX4_tell_2 3 rfl rfl)
theorem dX4_tell_50 : decode cX4_tell 50 = .ok (.goto 12, 3) := dk_167 0 12 (dk_at dksX4_tell_2 4 rfl rfl)
theorem dX4_tell_53 : decode cX4_tell 53 = .ok (.aload_n 0, 1) := dk_42 (dk_at dksX4_tell_2 7 rfl rfl)
theorem dX4_tell_54 : decode cX4_tell 54 = .ok (.getfield 7, 3) := dk_180 0 7 (dk_at dksX4_tell_2 8 rfl rfl)
theorem dX4_tell_57 : decode cX4_tell 57 = .ok (.bipush 9, 2) := dk_16 9 (dk_at dksX4_tell_2 11 rfl rfl)
theorem dX4_tell_59 : decode cX4_tell 59 = .ok (.iaload, 1) := dk_46 (dk_at dksX4_tell_2 13 rfl rfl)
theorem dX4_tell_60 : decode cX4_tell 60 = .ok (.iload_n 2, 1) := dk_28 (dk_at dksX4_tell_2 14 rfl rfl)
theorem dX4_tell_61 : decode cX4_tell 61 = .ok (.iadd, 1) := dk_96 (dk_at dksX4_tell_2 15 rfl rfl)
theorem dX4_tell_62 : decode cX4_tell 62 = .ok (.invokevirtual 278, 3) := dk_182 1 22 (dk_at dksX4_tell_2 16 rfl rfl)
theorem dX4_tell_65 : decode cX4_tell 65 = .ok (.aload_n 0, 1) := dk_42 (dk_at dksX4_tell_2 19 rfl rfl)
theorem dX4_tell_66 : decode cX4_tell 66 = .ok (.iconst 3, 1) := dk_6 (dk_at dksX4_tell_2 20 rfl rfl)
theorem dX4_tell_67 : decode cX4_tell 67 = .ok (.invokevirtual 281, 3) := dk_182 1 25 (dk_at dksX4_tell_2 21 rfl rfl)
theorem dX4_tell_70 : decode cX4_tell 70 = .ok (.ireturn, 1) := dk_172 (dk_at dksX4_tell_3 0 rfl rfl)
abbrev cX4_faultOf : ByteArray := prog_19_method_6_code
def yX4_faultOf : MethodName := ⟨RX4, "faultOf", "(I)I"⟩
def dkwX4_faultOf_2 : List UInt8 := [160, 0, 10, 27, 16, 100, 112, 167, 0, 4, 3, 62, 29, 154, 0, 7, 3, 167, 0, 4, 5, 172]
abbrev dktX4_faultOf_2 : List UInt8 := dkwX4_faultOf_2 ++ []
def dkwX4_faultOf_1 : List UInt8 := [180, 0, 13, 28, 46, 4, 160, 0, 11, 27, 17, 39, 16, 112, 167, 0, 21, 42, 180, 0, 13, 28, 46, 5]
abbrev dktX4_faultOf_1 : List UInt8 := dkwX4_faultOf_1 ++ dktX4_faultOf_2
def dkwX4_faultOf_0 : List UInt8 := [27, 156, 0, 7, 2, 167, 0, 7, 27, 18, 139, 108, 61, 42, 28, 182, 0, 140, 154, 0, 5, 4, 172, 42]
abbrev dktX4_faultOf_0 : List UInt8 := dkwX4_faultOf_0 ++ dktX4_faultOf_1
theorem dksX4_faultOf_0 : cX4_faultOf.data.toList.drop 0 = dktX4_faultOf_0 := by decide +kernel
theorem dksX4_faultOf_1 : cX4_faultOf.data.toList.drop 24 = dktX4_faultOf_1 := dk_seg dksX4_faultOf_0 24 rfl rfl
theorem dksX4_faultOf_2 : cX4_faultOf.data.toList.drop 48 = dktX4_faultOf_2 := dk_seg dksX4_faultOf_1 24 rfl rfl
theorem dX4_faultOf_0 : decode cX4_faultOf 0 = .ok (.iload_n 1, 1) := dk_27 (dk_at dksX4_faultOf_0 0 rfl rfl)
theorem dX4_faultOf_1 : decode cX4_faultOf 1 = .ok (.ifCond .ge 7, 3) := dk_156 0 7 (dk_at dksX4_faultOf_0 1 rfl rfl)
theorem dX4_faultOf_4 : decode cX4_faultOf 4 = .ok (.iconst (-1), 1) := dk_2 (dk_at dksX4_faultOf_0 4 rfl rfl)
theorem dX4_faultOf_5 : decode cX4_faultOf 5 = .ok (.goto 7, 3) := dk_167 0 7 (dk_at dksX4_faultOf_0 5 rfl rfl)
theorem dX4_faultOf_8 : decode cX4_faultOf 8 = .ok (.iload_n 1, 1) := dk_27 (dk_at dksX4_faultOf_0 8 rfl rfl)
theorem dX4_faultOf_9 : decode cX4_faultOf 9 = .ok (.ldc 139, 2) := dk_18 139 (dk_at dksX4_faultOf_0 9 rfl rfl)
theorem dX4_faultOf_11 : decode cX4_faultOf 11 = .ok (.idiv, 1) := dk_108 (dk_at dksX4_faultOf_0 11 rfl rfl)
theorem dX4_faultOf_12 : decode cX4_faultOf 12 = .ok (.istore_n 2, 1) := dk_61 (dk_at dksX4_faultOf_0 12 rfl rfl)
theorem dX4_faultOf_13 : decode cX4_faultOf 13 = .ok (.aload_n 0, 1) := dk_42 (dk_at dksX4_faultOf_0 13 rfl rfl)
theorem dX4_faultOf_14 : decode cX4_faultOf 14 = .ok (.iload_n 2, 1) := dk_28 (dk_at dksX4_faultOf_0 14 rfl rfl)
theorem dX4_faultOf_15 : decode cX4_faultOf 15 = .ok (.invokevirtual 140, 3) := dk_182 0 140 (dk_at dksX4_faultOf_0 15 rfl rfl)
theorem dX4_faultOf_18 : decode cX4_faultOf 18 = .ok (.ifCond .ne 5, 3) := dk_154 0 5 (dk_at dksX4_faultOf_0 18 rfl rfl)
theorem dX4_faultOf_21 : decode cX4_faultOf 21 = .ok (.iconst 1, 1) := dk_4 (dk_at dksX4_faultOf_0 21 rfl rfl)
theorem dX4_faultOf_22 : decode cX4_faultOf 22 = .ok (.ireturn, 1) := dk_172 (dk_at dksX4_faultOf_0 22 rfl rfl)
theorem dX4_faultOf_23 : decode cX4_faultOf 23 = .ok (.aload_n 0, 1) := dk_42 (dk_at dksX4_faultOf_0 23 rfl rfl)
theorem dX4_faultOf_24 : decode cX4_faultOf 24 = .ok (.getfield 13, 3) := dk_180 0 13 (dk_at dksX4_faultOf_1 0 rfl rfl)
theorem dX4_faultOf_27 : decode cX4_faultOf 27 = .ok (.iload_n 2, 1) := dk_28 (dk_at dksX4_faultOf_1 3 rfl rfl)
theorem dX4_faultOf_28 : decode cX4_faultOf 28 = .ok (.iaload, 1) := dk_46 (dk_at dksX4_faultOf_1 4 rfl rfl)
theorem dX4_faultOf_29 : decode cX4_faultOf 29 = .ok (.iconst 1, 1) := dk_4 (dk_at dksX4_faultOf_1 5 rfl rfl)
theorem dX4_faultOf_30 : decode cX4_faultOf 30 = .ok (.if_icmp .ne 11, 3) := dk_160 0 11 (dk_at dksX4_faultOf_1 6 rfl rfl)
theorem dX4_faultOf_33 : decode cX4_faultOf 33 = .ok (.iload_n 1, 1) := dk_27 (dk_at dksX4_faultOf_1 9 rfl rfl)
theorem dX4_faultOf_34 : decode cX4_faultOf 34 = .ok (.sipush 10000, 3) := dk_17 39 16 (dk_at dksX4_faultOf_1 10 rfl rfl)
theorem dX4_faultOf_37 : decode cX4_faultOf 37 = .ok (.irem, 1) := dk_112 (dk_at dksX4_faultOf_1 13 rfl rfl)
theorem dX4_faultOf_38 : decode cX4_faultOf 38 = .ok (.goto 21, 3) := dk_167 0 21 (dk_at dksX4_faultOf_1 14 rfl rfl)
theorem dX4_faultOf_41 : decode cX4_faultOf 41 = .ok (.aload_n 0, 1) := dk_42 (dk_at dksX4_faultOf_1 17 rfl rfl)
theorem dX4_faultOf_42 : decode cX4_faultOf 42 = .ok (.getfield 13, 3) := dk_180 0 13 (dk_at dksX4_faultOf_1 18 rfl rfl)
theorem dX4_faultOf_45 : decode cX4_faultOf 45 = .ok (.iload_n 2, 1) := dk_28 (dk_at dksX4_faultOf_1 21 rfl rfl)
theorem dX4_faultOf_46 : decode cX4_faultOf 46 = .ok (.iaload, 1) := dk_46 (dk_at dksX4_faultOf_1 22 rfl rfl)
theorem dX4_faultOf_47 : decode cX4_faultOf 47 = .ok (.iconst 2, 1) := dk_5 (dk_at dksX4_faultOf_1 23 rfl rfl)
theorem dX4_faultOf_48 : decode cX4_faultOf 48 = .ok (.if_icmp .ne 10, 3) := dk_160 0 10 (dk_at dksX4_faultOf_2 0 rfl rfl)
theorem dX4_faultOf_51 : decode cX4_faultOf 51 = .ok (.iload_n 1, 1) := dk_27 (dk_at dksX4_faultOf_2 3 rfl rfl)
theorem dX4_faultOf_52 : decode cX4_faultOf 52 = .ok (.bipush 100, 2) := dk_16 100 (dk_at dksX4_faultOf_2 4 rfl rfl)
theorem dX4_faultOf_54 : decode cX4_faultOf 54 = .ok (.irem, 1) := dk_112 (dk_at dksX4_faultOf_2 6 rfl rfl)
theorem dX4_faultOf_55 : decode cX4_faultOf 55 = .ok (.goto 4, 3) := dk_167 0 4 (dk_at dksX4_faultOf_2 7 rfl rfl)
theorem dX4_faultOf_58 : decode cX4_faultOf 58 = .ok (.iconst 0, 1) := dk_3 (dk_at dksX4_faultOf_2 10 rfl rfl)
theorem dX4_faultOf_59 : decode cX4_faultOf 59 = .ok (.istore_n 3, 1) := dk_62 (dk_at dksX4_faultOf_2 11 rfl rfl)
theorem dX4_faultOf_60 : decode cX4_faultOf 60 = .ok (.iload_n 3, 1) := dk_29 (dk_at dksX4_faultOf_2 12 rfl rfl)
theorem dX4_faultOf_61 : decode cX4_faultOf 61 = .ok (.ifCond .ne 7, 3) := dk_154 0 7 (dk_at dksX4_faultOf_2 13 rfl rfl)
theorem dX4_faultOf_64 : decode cX4_faultOf 64 = .ok (.iconst 0, 1) := dk_3 (dk_at dksX4_faultOf_2 16 rfl rfl)
theorem dX4_faultOf_65 : decode cX4_faultOf 65 = .ok (.goto 4, 3) := dk_167 0 4 (dk_at dksX4_faultOf_2 17 rfl rfl)
theorem dX4_faultOf_68 : decode cX4_faultOf 68 = .ok (.iconst 2, 1) := dk_5 (dk_at dksX4_faultOf_2 20 rfl rfl)
theorem dX4_faultOf_69 : decode cX4_faultOf 69 = .ok (.ireturn, 1) := dk_172 (dk_at dksX4_faultOf_2 21 rfl rfl)
abbrev cX4_isRelation : ByteArray := prog_19_method_5_code
def yX4_isRelation : MethodName := ⟨RX4, "isRelation", "(I)Z"⟩
def dkwX4_isRelation_0 : List UInt8 := [27, 3, 42, 180, 0, 7, 3, 46, 4, 100, 184, 0, 135, 172]
abbrev dktX4_isRelation_0 : List UInt8 := dkwX4_isRelation_0 ++ []
theorem dksX4_isRelation_0 : cX4_isRelation.data.toList.drop 0 = dktX4_isRelation_0 := by decide +kernel
theorem dX4_isRelation_0 : decode cX4_isRelation 0 = .ok (.iload_n 1, 1) := dk_27 (dk_at dksX4_isRelation_0 0 rfl rfl)
theorem dX4_isRelation_1 : decode cX4_isRelation 1 = .ok (.iconst 0, 1) := dk_3 (dk_at dksX4_isRelation_0 1 rfl rfl)
theorem dX4_isRelation_2 : decode cX4_isRelation 2 = .ok (.aload_n 0, 1) := dk_42 (dk_at dksX4_isRelation_0 2 rfl rfl)
theorem dX4_isRelation_3 : decode cX4_isRelation 3 = .ok (.getfield 7, 3) := dk_180 0 7 (dk_at dksX4_isRelation_0 3 rfl rfl)
theorem dX4_isRelation_6 : decode cX4_isRelation 6 = .ok (.iconst 0, 1) := dk_3 (dk_at dksX4_isRelation_0 6 rfl rfl)
theorem dX4_isRelation_7 : decode cX4_isRelation 7 = .ok (.iaload, 1) := dk_46 (dk_at dksX4_isRelation_0 7 rfl rfl)
theorem dX4_isRelation_8 : decode cX4_isRelation 8 = .ok (.iconst 1, 1) := dk_4 (dk_at dksX4_isRelation_0 8 rfl rfl)
theorem dX4_isRelation_9 : decode cX4_isRelation 9 = .ok (.isub, 1) := dk_100 (dk_at dksX4_isRelation_0 9 rfl rfl)
theorem dX4_isRelation_10 : decode cX4_isRelation 10 = .ok (.invokestatic 135, 3) := dk_184 0 135 (dk_at dksX4_isRelation_0 10 rfl rfl)
theorem dX4_isRelation_13 : decode cX4_isRelation 13 = .ok (.ireturn, 1) := dk_172 (dk_at dksX4_isRelation_0 13 rfl rfl)
abbrev cX4_save : ByteArray := prog_19_method_10_code
def yX4_save : MethodName := ⟨RX4, "save", "(I)V"⟩
def dkwX4_save_12 : List UInt8 := [184, 0, 144, 62, 177]
abbrev dktX4_save_12 : List UInt8 := dkwX4_save_12 ++ []
def dkwX4_save_11 : List UInt8 := [3, 42, 180, 0, 70, 29, 16, 60, 184, 0, 144, 62, 42, 180, 0, 58, 3, 42, 180, 0, 70, 29, 16, 8]
abbrev dktX4_save_11 : List UInt8 := dkwX4_save_11 ++ dktX4_save_12
def dkwX4_save_10 : List UInt8 := [184, 0, 144, 62, 42, 180, 0, 52, 3, 42, 180, 0, 70, 29, 16, 60, 184, 0, 144, 62, 42, 180, 0, 55]
abbrev dktX4_save_10 : List UInt8 := dkwX4_save_10 ++ dktX4_save_11
def dkwX4_save_9 : List UInt8 := [42, 180, 0, 70, 29, 16, 60, 184, 0, 144, 62, 42, 180, 0, 49, 3, 42, 180, 0, 70, 29, 16, 60]
abbrev dktX4_save_9 : List UInt8 := dkwX4_save_9 ++ dktX4_save_10
def dkwX4_save_8 : List UInt8 := [180, 0, 13, 3, 42, 180, 0, 70, 17, 1, 0, 27, 104, 16, 8, 184, 0, 144, 62, 42, 180, 0, 46, 3]
abbrev dktX4_save_8 : List UInt8 := dkwX4_save_8 ++ dktX4_save_9
def dkwX4_save_7 : List UInt8 := [29, 16, 17, 184, 0, 144, 62, 42, 180, 0, 43, 3, 42, 180, 0, 67, 29, 16, 17, 184, 0, 144, 62, 42]
abbrev dktX4_save_7 : List UInt8 := dkwX4_save_7 ++ dktX4_save_8
def dkwX4_save_6 : List UInt8 := [180, 0, 37, 3, 42, 180, 0, 67, 29, 16, 17, 184, 0, 144, 62, 42, 180, 0, 40, 3, 42, 180, 0, 67]
abbrev dktX4_save_6 : List UInt8 := dkwX4_save_6 ++ dktX4_save_7
def dkwX4_save_5 : List UInt8 := [184, 0, 144, 62, 42, 180, 0, 34, 3, 42, 180, 0, 67, 29, 17, 1, 50, 184, 0, 144, 62, 42]
abbrev dktX4_save_5 : List UInt8 := dkwX4_save_5 ++ dktX4_save_6
def dkwX4_save_4 : List UInt8 := [3, 42, 180, 0, 67, 29, 16, 102, 184, 0, 144, 62, 42, 180, 0, 31, 3, 42, 180, 0, 67, 29, 16, 102]
abbrev dktX4_save_4 : List UInt8 := dkwX4_save_4 ++ dktX4_save_5
def dkwX4_save_3 : List UInt8 := [184, 0, 144, 62, 42, 180, 0, 25, 3, 42, 180, 0, 67, 29, 16, 17, 184, 0, 144, 62, 42, 180, 0, 28]
abbrev dktX4_save_3 : List UInt8 := dkwX4_save_3 ++ dktX4_save_4
def dkwX4_save_2 : List UInt8 := [180, 0, 67, 29, 16, 17, 184, 0, 144, 62, 42, 180, 0, 22, 3, 42, 180, 0, 67, 29, 16, 51]
abbrev dktX4_save_2 : List UInt8 := dkwX4_save_2 ++ dktX4_save_3
def dkwX4_save_1 : List UInt8 := [62, 42, 180, 0, 16, 3, 42, 180, 0, 67, 28, 16, 17, 184, 0, 144, 62, 42, 180, 0, 19, 3, 42]
abbrev dktX4_save_1 : List UInt8 := dkwX4_save_1 ++ dktX4_save_2
def dkwX4_save_0 : List UInt8 := [17, 2, 168, 27, 104, 61, 42, 180, 0, 7, 3, 42, 180, 0, 64, 16, 11, 27, 104, 16, 11, 184, 0, 144]
abbrev dktX4_save_0 : List UInt8 := dkwX4_save_0 ++ dktX4_save_1
theorem dksX4_save_0 : cX4_save.data.toList.drop 0 = dktX4_save_0 := by decide +kernel
theorem dksX4_save_1 : cX4_save.data.toList.drop 24 = dktX4_save_1 := dk_seg dksX4_save_0 24 rfl rfl
theorem dksX4_save_2 : cX4_save.data.toList.drop 47 = dktX4_save_2 := dk_seg dksX4_save_1 23 rfl rfl
theorem dksX4_save_3 : cX4_save.data.toList.drop 69 = dktX4_save_3 := dk_seg dksX4_save_2 22 rfl rfl
theorem dksX4_save_4 : cX4_save.data.toList.drop 93 = dktX4_save_4 := dk_seg dksX4_save_3 24 rfl rfl
theorem dksX4_save_5 : cX4_save.data.toList.drop 117 = dktX4_save_5 := dk_seg dksX4_save_4 24 rfl rfl
theorem dksX4_save_6 : cX4_save.data.toList.drop 139 = dktX4_save_6 := dk_seg dksX4_save_5 22 rfl rfl
theorem dksX4_save_7 : cX4_save.data.toList.drop 163 = dktX4_save_7 := dk_seg dksX4_save_6 24 rfl rfl
theorem dksX4_save_8 : cX4_save.data.toList.drop 187 = dktX4_save_8 := dk_seg dksX4_save_7 24 rfl rfl
theorem dksX4_save_9 : cX4_save.data.toList.drop 211 = dktX4_save_9 := dk_seg dksX4_save_8 24 rfl rfl
theorem dksX4_save_10 : cX4_save.data.toList.drop 234 = dktX4_save_10 := dk_seg dksX4_save_9 23 rfl rfl
theorem dksX4_save_11 : cX4_save.data.toList.drop 258 = dktX4_save_11 := dk_seg dksX4_save_10 24 rfl rfl
theorem dksX4_save_12 : cX4_save.data.toList.drop 282 = dktX4_save_12 := dk_seg dksX4_save_11 24 rfl rfl
theorem dX4_save_0 : decode cX4_save 0 = .ok (.sipush 680, 3) := dk_17 2 168 (dk_at dksX4_save_0 0 rfl rfl)
theorem dX4_save_3 : decode cX4_save 3 = .ok (.iload_n 1, 1) := dk_27 (dk_at dksX4_save_0 3 rfl rfl)
theorem dX4_save_4 : decode cX4_save 4 = .ok (.imul, 1) := dk_104 (dk_at dksX4_save_0 4 rfl rfl)
theorem dX4_save_5 : decode cX4_save 5 = .ok (.istore_n 2, 1) := dk_61 (dk_at dksX4_save_0 5 rfl rfl)
theorem dX4_save_6 : decode cX4_save 6 = .ok (.aload_n 0, 1) := dk_42 (dk_at dksX4_save_0 6 rfl rfl)
theorem dX4_save_7 : decode cX4_save 7 = .ok (.getfield 7, 3) := dk_180 0 7 (dk_at dksX4_save_0 7 rfl rfl)
theorem dX4_save_10 : decode cX4_save 10 = .ok (.iconst 0, 1) := dk_3 (dk_at dksX4_save_0 10 rfl rfl)
theorem dX4_save_11 : decode cX4_save 11 = .ok (.aload_n 0, 1) := dk_42 (dk_at dksX4_save_0 11 rfl rfl)
theorem dX4_save_12 : decode cX4_save 12 = .ok (.getfield 64, 3) := dk_180 0 64 (dk_at dksX4_save_0 12 rfl rfl)
theorem dX4_save_15 : decode cX4_save 15 = .ok (.bipush 11, 2) := dk_16 11 (dk_at dksX4_save_0 15 rfl rfl)
theorem dX4_save_17 : decode cX4_save 17 = .ok (.iload_n 1, 1) := dk_27 (dk_at dksX4_save_0 17 rfl rfl)
theorem dX4_save_18 : decode cX4_save 18 = .ok (.imul, 1) := dk_104 (dk_at dksX4_save_0 18 rfl rfl)
theorem dX4_save_19 : decode cX4_save 19 = .ok (.bipush 11, 2) := dk_16 11 (dk_at dksX4_save_0 19 rfl rfl)
theorem dX4_save_21 : decode cX4_save 21 = .ok (.invokestatic 144, 3) := dk_184 0 144 (dk_at dksX4_save_0 21 rfl rfl)
theorem dX4_save_24 : decode cX4_save 24 = .ok (.istore_n 3, 1) := dk_62 (dk_at dksX4_save_1 0 rfl rfl)
theorem dX4_save_25 : decode cX4_save 25 = .ok (.aload_n 0, 1) := dk_42 (dk_at dksX4_save_1 1 rfl rfl)
theorem dX4_save_26 : decode cX4_save 26 = .ok (.getfield 16, 3) := dk_180 0 16 (dk_at dksX4_save_1 2 rfl rfl)
theorem dX4_save_29 : decode cX4_save 29 = .ok (.iconst 0, 1) := dk_3 (dk_at dksX4_save_1 5 rfl rfl)
theorem dX4_save_30 : decode cX4_save 30 = .ok (.aload_n 0, 1) := dk_42 (dk_at dksX4_save_1 6 rfl rfl)
theorem dX4_save_31 : decode cX4_save 31 = .ok (.getfield 67, 3) := dk_180 0 67 (dk_at dksX4_save_1 7 rfl rfl)
theorem dX4_save_34 : decode cX4_save 34 = .ok (.iload_n 2, 1) := dk_28 (dk_at dksX4_save_1 10 rfl rfl)
theorem dX4_save_35 : decode cX4_save 35 = .ok (.bipush 17, 2) := dk_16 17 (dk_at dksX4_save_1 11 rfl rfl)
theorem dX4_save_37 : decode cX4_save 37 = .ok (.invokestatic 144, 3) := dk_184 0 144 (dk_at dksX4_save_1 13 rfl rfl)
theorem dX4_save_40 : decode cX4_save 40 = .ok (.istore_n 3, 1) := dk_62 (dk_at dksX4_save_1 16 rfl rfl)
theorem dX4_save_41 : decode cX4_save 41 = .ok (.aload_n 0, 1) := dk_42 (dk_at dksX4_save_1 17 rfl rfl)
theorem dX4_save_42 : decode cX4_save 42 = .ok (.getfield 19, 3) := dk_180 0 19 (dk_at dksX4_save_1 18 rfl rfl)
theorem dX4_save_45 : decode cX4_save 45 = .ok (.iconst 0, 1) := dk_3 (dk_at dksX4_save_1 21 rfl rfl)
theorem dX4_save_46 : decode cX4_save 46 = .ok (.aload_n 0, 1) := dk_42 (dk_at dksX4_save_1 22 rfl rfl)
theorem dX4_save_47 : decode cX4_save 47 = .ok (.getfield 67, 3) := dk_180 0 67 (dk_at dksX4_save_2 0 rfl rfl)
theorem dX4_save_50 : decode cX4_save 50 = .ok (.iload_n 3, 1) := dk_29 (dk_at dksX4_save_2 3 rfl rfl)
theorem dX4_save_51 : decode cX4_save 51 = .ok (.bipush 17, 2) := dk_16 17 (dk_at dksX4_save_2 4 rfl rfl)
theorem dX4_save_53 : decode cX4_save 53 = .ok (.invokestatic 144, 3) := dk_184 0 144 (dk_at dksX4_save_2 6 rfl rfl)
theorem dX4_save_56 : decode cX4_save 56 = .ok (.istore_n 3, 1) := dk_62 (dk_at dksX4_save_2 9 rfl rfl)
theorem dX4_save_57 : decode cX4_save 57 = .ok (.aload_n 0, 1) := dk_42 (dk_at dksX4_save_2 10 rfl rfl)
theorem dX4_save_58 : decode cX4_save 58 = .ok (.getfield 22, 3) := dk_180 0 22 (dk_at dksX4_save_2 11 rfl rfl)
theorem dX4_save_61 : decode cX4_save 61 = .ok (.iconst 0, 1) := dk_3 (dk_at dksX4_save_2 14 rfl rfl)
theorem dX4_save_62 : decode cX4_save 62 = .ok (.aload_n 0, 1) := dk_42 (dk_at dksX4_save_2 15 rfl rfl)
theorem dX4_save_63 : decode cX4_save 63 = .ok (.getfield 67, 3) := dk_180 0 67 (dk_at dksX4_save_2 16 rfl rfl)
theorem dX4_save_66 : decode cX4_save 66 = .ok (.iload_n 3, 1) := dk_29 (dk_at dksX4_save_2 19 rfl rfl)
theorem dX4_save_67 : decode cX4_save 67 = .ok (.bipush 51, 2) := dk_16 51 (dk_at dksX4_save_2 20 rfl rfl)
theorem dX4_save_69 : decode cX4_save 69 = .ok (.invokestatic 144, 3) := dk_184 0 144 (dk_at dksX4_save_3 0 rfl rfl)
theorem dX4_save_72 : decode cX4_save 72 = .ok (.istore_n 3, 1) := dk_62 (dk_at dksX4_save_3 3 rfl rfl)
theorem dX4_save_73 : decode cX4_save 73 = .ok (.aload_n 0, 1) := dk_42 (dk_at dksX4_save_3 4 rfl rfl)
theorem dX4_save_74 : decode cX4_save 74 = .ok (.getfield 25, 3) := dk_180 0 25 (dk_at dksX4_save_3 5 rfl rfl)
theorem dX4_save_77 : decode cX4_save 77 = .ok (.iconst 0, 1) := dk_3 (dk_at dksX4_save_3 8 rfl rfl)
theorem dX4_save_78 : decode cX4_save 78 = .ok (.aload_n 0, 1) := dk_42 (dk_at dksX4_save_3 9 rfl rfl)
theorem dX4_save_79 : decode cX4_save 79 = .ok (.getfield 67, 3) := dk_180 0 67 (dk_at dksX4_save_3 10 rfl rfl)
theorem dX4_save_82 : decode cX4_save 82 = .ok (.iload_n 3, 1) := dk_29 (dk_at dksX4_save_3 13 rfl rfl)
theorem dX4_save_83 : decode cX4_save 83 = .ok (.bipush 17, 2) := dk_16 17 (dk_at dksX4_save_3 14 rfl rfl)
theorem dX4_save_85 : decode cX4_save 85 = .ok (.invokestatic 144, 3) := dk_184 0 144 (dk_at dksX4_save_3 16 rfl rfl)
theorem dX4_save_88 : decode cX4_save 88 = .ok (.istore_n 3, 1) := dk_62 (dk_at dksX4_save_3 19 rfl rfl)
theorem dX4_save_89 : decode cX4_save 89 = .ok (.aload_n 0, 1) := dk_42 (dk_at dksX4_save_3 20 rfl rfl)
theorem dX4_save_90 : decode cX4_save 90 = .ok (.getfield 28, 3) := dk_180 0 28 (dk_at dksX4_save_3 21 rfl rfl)
theorem dX4_save_93 : decode cX4_save 93 = .ok (.iconst 0, 1) := dk_3 (dk_at dksX4_save_4 0 rfl rfl)
theorem dX4_save_94 : decode cX4_save 94 = .ok (.aload_n 0, 1) := dk_42 (dk_at dksX4_save_4 1 rfl rfl)
theorem dX4_save_95 : decode cX4_save 95 = .ok (.getfield 67, 3) := dk_180 0 67 (dk_at dksX4_save_4 2 rfl rfl)
theorem dX4_save_98 : decode cX4_save 98 = .ok (.iload_n 3, 1) := dk_29 (dk_at dksX4_save_4 5 rfl rfl)
theorem dX4_save_99 : decode cX4_save 99 = .ok (.bipush 102, 2) := dk_16 102 (dk_at dksX4_save_4 6 rfl rfl)
theorem dX4_save_101 : decode cX4_save 101 = .ok (.invokestatic 144, 3) := dk_184 0 144 (dk_at dksX4_save_4 8 rfl rfl)
theorem dX4_save_104 : decode cX4_save 104 = .ok (.istore_n 3, 1) := dk_62 (dk_at dksX4_save_4 11 rfl rfl)
theorem dX4_save_105 : decode cX4_save 105 = .ok (.aload_n 0, 1) := dk_42 (dk_at dksX4_save_4 12 rfl rfl)
theorem dX4_save_106 : decode cX4_save 106 = .ok (.getfield 31, 3) := dk_180 0 31 (dk_at dksX4_save_4 13 rfl rfl)
theorem dX4_save_109 : decode cX4_save 109 = .ok (.iconst 0, 1) := dk_3 (dk_at dksX4_save_4 16 rfl rfl)
theorem dX4_save_110 : decode cX4_save 110 = .ok (.aload_n 0, 1) := dk_42 (dk_at dksX4_save_4 17 rfl rfl)
theorem dX4_save_111 : decode cX4_save 111 = .ok (.getfield 67, 3) := dk_180 0 67 (dk_at dksX4_save_4 18 rfl rfl)
theorem dX4_save_114 : decode cX4_save 114 = .ok (.iload_n 3, 1) := dk_29 (dk_at dksX4_save_4 21 rfl rfl)
theorem dX4_save_115 : decode cX4_save 115 = .ok (.bipush 102, 2) := dk_16 102 (dk_at dksX4_save_4 22 rfl rfl)
theorem dX4_save_117 : decode cX4_save 117 = .ok (.invokestatic 144, 3) := dk_184 0 144 (dk_at dksX4_save_5 0 rfl rfl)
theorem dX4_save_120 : decode cX4_save 120 = .ok (.istore_n 3, 1) := dk_62 (dk_at dksX4_save_5 3 rfl rfl)
theorem dX4_save_121 : decode cX4_save 121 = .ok (.aload_n 0, 1) := dk_42 (dk_at dksX4_save_5 4 rfl rfl)
theorem dX4_save_122 : decode cX4_save 122 = .ok (.getfield 34, 3) := dk_180 0 34 (dk_at dksX4_save_5 5 rfl rfl)
theorem dX4_save_125 : decode cX4_save 125 = .ok (.iconst 0, 1) := dk_3 (dk_at dksX4_save_5 8 rfl rfl)
theorem dX4_save_126 : decode cX4_save 126 = .ok (.aload_n 0, 1) := dk_42 (dk_at dksX4_save_5 9 rfl rfl)
theorem dX4_save_127 : decode cX4_save 127 = .ok (.getfield 67, 3) := dk_180 0 67 (dk_at dksX4_save_5 10 rfl rfl)
theorem dX4_save_130 : decode cX4_save 130 = .ok (.iload_n 3, 1) := dk_29 (dk_at dksX4_save_5 13 rfl rfl)
theorem dX4_save_131 : decode cX4_save 131 = .ok (.sipush 306, 3) := dk_17 1 50 (dk_at dksX4_save_5 14 rfl rfl)
theorem dX4_save_134 : decode cX4_save 134 = .ok (.invokestatic 144, 3) := dk_184 0 144 (dk_at dksX4_save_5 17 rfl rfl)
theorem dX4_save_137 : decode cX4_save 137 = .ok (.istore_n 3, 1) := dk_62 (dk_at dksX4_save_5 20 rfl rfl)
theorem dX4_save_138 : decode cX4_save 138 = .ok (.aload_n 0, 1) := dk_42 (dk_at dksX4_save_5 21 rfl rfl)
theorem dX4_save_139 : decode cX4_save 139 = .ok (.getfield 37, 3) := dk_180 0 37 (dk_at dksX4_save_6 0 rfl rfl)
theorem dX4_save_142 : decode cX4_save 142 = .ok (.iconst 0, 1) := dk_3 (dk_at dksX4_save_6 3 rfl rfl)
theorem dX4_save_143 : decode cX4_save 143 = .ok (.aload_n 0, 1) := dk_42 (dk_at dksX4_save_6 4 rfl rfl)
theorem dX4_save_144 : decode cX4_save 144 = .ok (.getfield 67, 3) := dk_180 0 67 (dk_at dksX4_save_6 5 rfl rfl)
theorem dX4_save_147 : decode cX4_save 147 = .ok (.iload_n 3, 1) := dk_29 (dk_at dksX4_save_6 8 rfl rfl)
theorem dX4_save_148 : decode cX4_save 148 = .ok (.bipush 17, 2) := dk_16 17 (dk_at dksX4_save_6 9 rfl rfl)
theorem dX4_save_150 : decode cX4_save 150 = .ok (.invokestatic 144, 3) := dk_184 0 144 (dk_at dksX4_save_6 11 rfl rfl)
theorem dX4_save_153 : decode cX4_save 153 = .ok (.istore_n 3, 1) := dk_62 (dk_at dksX4_save_6 14 rfl rfl)
theorem dX4_save_154 : decode cX4_save 154 = .ok (.aload_n 0, 1) := dk_42 (dk_at dksX4_save_6 15 rfl rfl)
theorem dX4_save_155 : decode cX4_save 155 = .ok (.getfield 40, 3) := dk_180 0 40 (dk_at dksX4_save_6 16 rfl rfl)
theorem dX4_save_158 : decode cX4_save 158 = .ok (.iconst 0, 1) := dk_3 (dk_at dksX4_save_6 19 rfl rfl)
theorem dX4_save_159 : decode cX4_save 159 = .ok (.aload_n 0, 1) := dk_42 (dk_at dksX4_save_6 20 rfl rfl)
theorem dX4_save_160 : decode cX4_save 160 = .ok (.getfield 67, 3) := dk_180 0 67 (dk_at dksX4_save_6 21 rfl rfl)
theorem dX4_save_163 : decode cX4_save 163 = .ok (.iload_n 3, 1) := dk_29 (dk_at dksX4_save_7 0 rfl rfl)
theorem dX4_save_164 : decode cX4_save 164 = .ok (.bipush 17, 2) := dk_16 17 (dk_at dksX4_save_7 1 rfl rfl)
theorem dX4_save_166 : decode cX4_save 166 = .ok (.invokestatic 144, 3) := dk_184 0 144 (dk_at dksX4_save_7 3 rfl rfl)
theorem dX4_save_169 : decode cX4_save 169 = .ok (.istore_n 3, 1) := dk_62 (dk_at dksX4_save_7 6 rfl rfl)
theorem dX4_save_170 : decode cX4_save 170 = .ok (.aload_n 0, 1) := dk_42 (dk_at dksX4_save_7 7 rfl rfl)
theorem dX4_save_171 : decode cX4_save 171 = .ok (.getfield 43, 3) := dk_180 0 43 (dk_at dksX4_save_7 8 rfl rfl)
theorem dX4_save_174 : decode cX4_save 174 = .ok (.iconst 0, 1) := dk_3 (dk_at dksX4_save_7 11 rfl rfl)
theorem dX4_save_175 : decode cX4_save 175 = .ok (.aload_n 0, 1) := dk_42 (dk_at dksX4_save_7 12 rfl rfl)
theorem dX4_save_176 : decode cX4_save 176 = .ok (.getfield 67, 3) := dk_180 0 67 (dk_at dksX4_save_7 13 rfl rfl)
theorem dX4_save_179 : decode cX4_save 179 = .ok (.iload_n 3, 1) := dk_29 (dk_at dksX4_save_7 16 rfl rfl)
theorem dX4_save_180 : decode cX4_save 180 = .ok (.bipush 17, 2) := dk_16 17 (dk_at dksX4_save_7 17 rfl rfl)
theorem dX4_save_182 : decode cX4_save 182 = .ok (.invokestatic 144, 3) := dk_184 0 144 (dk_at dksX4_save_7 19 rfl rfl)
theorem dX4_save_185 : decode cX4_save 185 = .ok (.istore_n 3, 1) := dk_62 (dk_at dksX4_save_7 22 rfl rfl)
theorem dX4_save_186 : decode cX4_save 186 = .ok (.aload_n 0, 1) := dk_42 (dk_at dksX4_save_7 23 rfl rfl)
theorem dX4_save_187 : decode cX4_save 187 = .ok (.getfield 13, 3) := dk_180 0 13 (dk_at dksX4_save_8 0 rfl rfl)
theorem dX4_save_190 : decode cX4_save 190 = .ok (.iconst 0, 1) := dk_3 (dk_at dksX4_save_8 3 rfl rfl)
theorem dX4_save_191 : decode cX4_save 191 = .ok (.aload_n 0, 1) := dk_42 (dk_at dksX4_save_8 4 rfl rfl)
theorem dX4_save_192 : decode cX4_save 192 = .ok (.getfield 70, 3) := dk_180 0 70 (dk_at dksX4_save_8 5 rfl rfl)
theorem dX4_save_195 : decode cX4_save 195 = .ok (.sipush 256, 3) := dk_17 1 0 (dk_at dksX4_save_8 8 rfl rfl)
theorem dX4_save_198 : decode cX4_save 198 = .ok (.iload_n 1, 1) := dk_27 (dk_at dksX4_save_8 11 rfl rfl)
theorem dX4_save_199 : decode cX4_save 199 = .ok (.imul, 1) := dk_104 (dk_at dksX4_save_8 12 rfl rfl)
theorem dX4_save_200 : decode cX4_save 200 = .ok (.bipush 8, 2) := dk_16 8 (dk_at dksX4_save_8 13 rfl rfl)
theorem dX4_save_202 : decode cX4_save 202 = .ok (.invokestatic 144, 3) := dk_184 0 144 (dk_at dksX4_save_8 15 rfl rfl)
theorem dX4_save_205 : decode cX4_save 205 = .ok (.istore_n 3, 1) := dk_62 (dk_at dksX4_save_8 18 rfl rfl)
theorem dX4_save_206 : decode cX4_save 206 = .ok (.aload_n 0, 1) := dk_42 (dk_at dksX4_save_8 19 rfl rfl)
theorem dX4_save_207 : decode cX4_save 207 = .ok (.getfield 46, 3) := dk_180 0 46 (dk_at dksX4_save_8 20 rfl rfl)
theorem dX4_save_210 : decode cX4_save 210 = .ok (.iconst 0, 1) := dk_3 (dk_at dksX4_save_8 23 rfl rfl)
theorem dX4_save_211 : decode cX4_save 211 = .ok (.aload_n 0, 1) := dk_42 (dk_at dksX4_save_9 0 rfl rfl)
theorem dX4_save_212 : decode cX4_save 212 = .ok (.getfield 70, 3) := dk_180 0 70 (dk_at dksX4_save_9 1 rfl rfl)
theorem dX4_save_215 : decode cX4_save 215 = .ok (.iload_n 3, 1) := dk_29 (dk_at dksX4_save_9 4 rfl rfl)
theorem dX4_save_216 : decode cX4_save 216 = .ok (.bipush 60, 2) := dk_16 60 (dk_at dksX4_save_9 5 rfl rfl)
theorem dX4_save_218 : decode cX4_save 218 = .ok (.invokestatic 144, 3) := dk_184 0 144 (dk_at dksX4_save_9 7 rfl rfl)
theorem dX4_save_221 : decode cX4_save 221 = .ok (.istore_n 3, 1) := dk_62 (dk_at dksX4_save_9 10 rfl rfl)
theorem dX4_save_222 : decode cX4_save 222 = .ok (.aload_n 0, 1) := dk_42 (dk_at dksX4_save_9 11 rfl rfl)
theorem dX4_save_223 : decode cX4_save 223 = .ok (.getfield 49, 3) := dk_180 0 49 (dk_at dksX4_save_9 12 rfl rfl)
theorem dX4_save_226 : decode cX4_save 226 = .ok (.iconst 0, 1) := dk_3 (dk_at dksX4_save_9 15 rfl rfl)
theorem dX4_save_227 : decode cX4_save 227 = .ok (.aload_n 0, 1) := dk_42 (dk_at dksX4_save_9 16 rfl rfl)
theorem dX4_save_228 : decode cX4_save 228 = .ok (.getfield 70, 3) := dk_180 0 70 (dk_at dksX4_save_9 17 rfl rfl)
theorem dX4_save_231 : decode cX4_save 231 = .ok (.iload_n 3, 1) := dk_29 (dk_at dksX4_save_9 20 rfl rfl)
theorem dX4_save_232 : decode cX4_save 232 = .ok (.bipush 60, 2) := dk_16 60 (dk_at dksX4_save_9 21 rfl rfl)
theorem dX4_save_234 : decode cX4_save 234 = .ok (.invokestatic 144, 3) := dk_184 0 144 (dk_at dksX4_save_10 0 rfl rfl)
theorem dX4_save_237 : decode cX4_save 237 = .ok (.istore_n 3, 1) := dk_62 (dk_at dksX4_save_10 3 rfl rfl)
theorem dX4_save_238 : decode cX4_save 238 = .ok (.aload_n 0, 1) := dk_42 (dk_at dksX4_save_10 4 rfl rfl)
theorem dX4_save_239 : decode cX4_save 239 = .ok (.getfield 52, 3) := dk_180 0 52 (dk_at dksX4_save_10 5 rfl rfl)
theorem dX4_save_242 : decode cX4_save 242 = .ok (.iconst 0, 1) := dk_3 (dk_at dksX4_save_10 8 rfl rfl)
theorem dX4_save_243 : decode cX4_save 243 = .ok (.aload_n 0, 1) := dk_42 (dk_at dksX4_save_10 9 rfl rfl)
theorem dX4_save_244 : decode cX4_save 244 = .ok (.getfield 70, 3) := dk_180 0 70 (dk_at dksX4_save_10 10 rfl rfl)
theorem dX4_save_247 : decode cX4_save 247 = .ok (.iload_n 3, 1) := dk_29 (dk_at dksX4_save_10 13 rfl rfl)
theorem dX4_save_248 : decode cX4_save 248 = .ok (.bipush 60, 2) := dk_16 60 (dk_at dksX4_save_10 14 rfl rfl)
theorem dX4_save_250 : decode cX4_save 250 = .ok (.invokestatic 144, 3) := dk_184 0 144 (dk_at dksX4_save_10 16 rfl rfl)
theorem dX4_save_253 : decode cX4_save 253 = .ok (.istore_n 3, 1) := dk_62 (dk_at dksX4_save_10 19 rfl rfl)
theorem dX4_save_254 : decode cX4_save 254 = .ok (.aload_n 0, 1) := dk_42 (dk_at dksX4_save_10 20 rfl rfl)
theorem dX4_save_255 : decode cX4_save 255 = .ok (.getfield 55, 3) := dk_180 0 55 (dk_at dksX4_save_10 21 rfl rfl)
theorem dX4_save_258 : decode cX4_save 258 = .ok (.iconst 0, 1) := dk_3 (dk_at dksX4_save_11 0 rfl rfl)
theorem dX4_save_259 : decode cX4_save 259 = .ok (.aload_n 0, 1) := dk_42 (dk_at dksX4_save_11 1 rfl rfl)
theorem dX4_save_260 : decode cX4_save 260 = .ok (.getfield 70, 3) := dk_180 0 70 (dk_at dksX4_save_11 2 rfl rfl)
theorem dX4_save_263 : decode cX4_save 263 = .ok (.iload_n 3, 1) := dk_29 (dk_at dksX4_save_11 5 rfl rfl)
theorem dX4_save_264 : decode cX4_save 264 = .ok (.bipush 60, 2) := dk_16 60 (dk_at dksX4_save_11 6 rfl rfl)
theorem dX4_save_266 : decode cX4_save 266 = .ok (.invokestatic 144, 3) := dk_184 0 144 (dk_at dksX4_save_11 8 rfl rfl)
theorem dX4_save_269 : decode cX4_save 269 = .ok (.istore_n 3, 1) := dk_62 (dk_at dksX4_save_11 11 rfl rfl)
theorem dX4_save_270 : decode cX4_save 270 = .ok (.aload_n 0, 1) := dk_42 (dk_at dksX4_save_11 12 rfl rfl)
theorem dX4_save_271 : decode cX4_save 271 = .ok (.getfield 58, 3) := dk_180 0 58 (dk_at dksX4_save_11 13 rfl rfl)
theorem dX4_save_274 : decode cX4_save 274 = .ok (.iconst 0, 1) := dk_3 (dk_at dksX4_save_11 16 rfl rfl)
theorem dX4_save_275 : decode cX4_save 275 = .ok (.aload_n 0, 1) := dk_42 (dk_at dksX4_save_11 17 rfl rfl)
theorem dX4_save_276 : decode cX4_save 276 = .ok (.getfield 70, 3) := dk_180 0 70 (dk_at dksX4_save_11 18 rfl rfl)
theorem dX4_save_279 : decode cX4_save 279 = .ok (.iload_n 3, 1) := dk_29 (dk_at dksX4_save_11 21 rfl rfl)
theorem dX4_save_280 : decode cX4_save 280 = .ok (.bipush 8, 2) := dk_16 8 (dk_at dksX4_save_11 22 rfl rfl)
theorem dX4_save_282 : decode cX4_save 282 = .ok (.invokestatic 144, 3) := dk_184 0 144 (dk_at dksX4_save_12 0 rfl rfl)
theorem dX4_save_285 : decode cX4_save 285 = .ok (.istore_n 3, 1) := dk_62 (dk_at dksX4_save_12 3 rfl rfl)
theorem dX4_save_286 : decode cX4_save 286 = .ok (.return_, 1) := dk_177 (dk_at dksX4_save_12 4 rfl rfl)
abbrev cX4_copy : ByteArray := prog_19_method_9_code
def yX4_copy : MethodName := ⟨RX4, "copy", "([II[III)I"⟩
def dkwX4_copy_1 : List UInt8 := [132, 5, 1, 167, 255, 234, 29, 21, 4, 96, 172]
abbrev dktX4_copy_1 : List UInt8 := dkwX4_copy_1 ++ []
def dkwX4_copy_0 : List UInt8 := [3, 54, 5, 21, 5, 21, 4, 162, 0, 21, 44, 29, 21, 5, 96, 42, 27, 21, 5, 96, 46, 79]
abbrev dktX4_copy_0 : List UInt8 := dkwX4_copy_0 ++ dktX4_copy_1
theorem dksX4_copy_0 : cX4_copy.data.toList.drop 0 = dktX4_copy_0 := by decide +kernel
theorem dksX4_copy_1 : cX4_copy.data.toList.drop 22 = dktX4_copy_1 := dk_seg dksX4_copy_0 22 rfl rfl
theorem dX4_copy_0 : decode cX4_copy 0 = .ok (.iconst 0, 1) := dk_3 (dk_at dksX4_copy_0 0 rfl rfl)
theorem dX4_copy_1 : decode cX4_copy 1 = .ok (.istore 5, 2) := dk_54 5 (dk_at dksX4_copy_0 1 rfl rfl)
theorem dX4_copy_3 : decode cX4_copy 3 = .ok (.iload 5, 2) := dk_21 5 (dk_at dksX4_copy_0 3 rfl rfl)
theorem dX4_copy_5 : decode cX4_copy 5 = .ok (.iload 4, 2) := dk_21 4 (dk_at dksX4_copy_0 5 rfl rfl)
theorem dX4_copy_7 : decode cX4_copy 7 = .ok (.if_icmp .ge 21, 3) := dk_162 0 21 (dk_at dksX4_copy_0 7 rfl rfl)
theorem dX4_copy_10 : decode cX4_copy 10 = .ok (.aload_n 2, 1) := dk_44 (dk_at dksX4_copy_0 10 rfl rfl)
theorem dX4_copy_11 : decode cX4_copy 11 = .ok (.iload_n 3, 1) := dk_29 (dk_at dksX4_copy_0 11 rfl rfl)
theorem dX4_copy_12 : decode cX4_copy 12 = .ok (.iload 5, 2) := dk_21 5 (dk_at dksX4_copy_0 12 rfl rfl)
theorem dX4_copy_14 : decode cX4_copy 14 = .ok (.iadd, 1) := dk_96 (dk_at dksX4_copy_0 14 rfl rfl)
theorem dX4_copy_15 : decode cX4_copy 15 = .ok (.aload_n 0, 1) := dk_42 (dk_at dksX4_copy_0 15 rfl rfl)
theorem dX4_copy_16 : decode cX4_copy 16 = .ok (.iload_n 1, 1) := dk_27 (dk_at dksX4_copy_0 16 rfl rfl)
theorem dX4_copy_17 : decode cX4_copy 17 = .ok (.iload 5, 2) := dk_21 5 (dk_at dksX4_copy_0 17 rfl rfl)
theorem dX4_copy_19 : decode cX4_copy 19 = .ok (.iadd, 1) := dk_96 (dk_at dksX4_copy_0 19 rfl rfl)
theorem dX4_copy_20 : decode cX4_copy 20 = .ok (.iaload, 1) := dk_46 (dk_at dksX4_copy_0 20 rfl rfl)
theorem dX4_copy_21 : decode cX4_copy 21 = .ok (.iastore, 1) := dk_79 (dk_at dksX4_copy_0 21 rfl rfl)
theorem dX4_copy_22 : decode cX4_copy 22 = .ok (.iinc 5 1, 3) := dk_132 5 1 (dk_at dksX4_copy_1 0 rfl rfl)
theorem dX4_copy_25 : decode cX4_copy 25 = .ok (.goto (-22), 3) := dk_167 255 234 (dk_at dksX4_copy_1 3 rfl rfl)
theorem dX4_copy_28 : decode cX4_copy 28 = .ok (.iload_n 3, 1) := dk_29 (dk_at dksX4_copy_1 6 rfl rfl)
theorem dX4_copy_29 : decode cX4_copy 29 = .ok (.iload 4, 2) := dk_21 4 (dk_at dksX4_copy_1 7 rfl rfl)
theorem dX4_copy_31 : decode cX4_copy 31 = .ok (.iadd, 1) := dk_96 (dk_at dksX4_copy_1 9 rfl rfl)
theorem dX4_copy_32 : decode cX4_copy 32 = .ok (.ireturn, 1) := dk_172 (dk_at dksX4_copy_1 10 rfl rfl)
abbrev cX4_tellFact : ByteArray := prog_19_method_43_code
def yX4_tellFact : MethodName := ⟨RX4, "tellFact", "(II)V"⟩
def dkwX4_tellFact_3 : List UInt8 := [180, 0, 49, 29, 28, 79, 177]
abbrev dktX4_tellFact_3 : List UInt8 := dkwX4_tellFact_3 ++ []
def dkwX4_tellFact_2 : List UInt8 := [153, 0, 22, 42, 180, 0, 49, 29, 46, 158, 0, 20, 42, 180, 0, 49, 29, 46, 28, 162, 0, 10, 42]
abbrev dktX4_tellFact_2 : List UInt8 := dkwX4_tellFact_2 ++ dktX4_tellFact_3
def dkwX4_tellFact_1 : List UInt8 := [79, 42, 180, 0, 49, 29, 28, 79, 42, 180, 0, 7, 8, 92, 46, 4, 96, 79, 167, 0, 33, 28]
abbrev dktX4_tellFact_1 : List UInt8 := dkwX4_tellFact_1 ++ dktX4_tellFact_2
def dkwX4_tellFact_0 : List UInt8 := [42, 27, 182, 1, 13, 62, 29, 2, 160, 0, 37, 42, 180, 0, 7, 8, 46, 62, 42, 180, 0, 46, 29, 27]
abbrev dktX4_tellFact_0 : List UInt8 := dkwX4_tellFact_0 ++ dktX4_tellFact_1
theorem dksX4_tellFact_0 : cX4_tellFact.data.toList.drop 0 = dktX4_tellFact_0 := by decide +kernel
theorem dksX4_tellFact_1 : cX4_tellFact.data.toList.drop 24 = dktX4_tellFact_1 := dk_seg dksX4_tellFact_0 24 rfl rfl
theorem dksX4_tellFact_2 : cX4_tellFact.data.toList.drop 46 = dktX4_tellFact_2 := dk_seg dksX4_tellFact_1 22 rfl rfl
theorem dksX4_tellFact_3 : cX4_tellFact.data.toList.drop 69 = dktX4_tellFact_3 := dk_seg dksX4_tellFact_2 23 rfl rfl
theorem dX4_tellFact_0 : decode cX4_tellFact 0 = .ok (.aload_n 0, 1) := dk_42 (dk_at dksX4_tellFact_0 0 rfl rfl)
theorem dX4_tellFact_1 : decode cX4_tellFact 1 = .ok (.iload_n 1, 1) := dk_27 (dk_at dksX4_tellFact_0 1 rfl rfl)
theorem dX4_tellFact_2 : decode cX4_tellFact 2 = .ok (.invokevirtual 269, 3) := dk_182 1 13 (dk_at dksX4_tellFact_0 2 rfl rfl)
theorem dX4_tellFact_5 : decode cX4_tellFact 5 = .ok (.istore_n 3, 1) := dk_62 (dk_at dksX4_tellFact_0 5 rfl rfl)
theorem dX4_tellFact_6 : decode cX4_tellFact 6 = .ok (.iload_n 3, 1) := dk_29 (dk_at dksX4_tellFact_0 6 rfl rfl)
theorem dX4_tellFact_7 : decode cX4_tellFact 7 = .ok (.iconst (-1), 1) := dk_2 (dk_at dksX4_tellFact_0 7 rfl rfl)
theorem dX4_tellFact_8 : decode cX4_tellFact 8 = .ok (.if_icmp .ne 37, 3) := dk_160 0 37 (dk_at dksX4_tellFact_0 8 rfl rfl)
theorem dX4_tellFact_11 : decode cX4_tellFact 11 = .ok (.aload_n 0, 1) := dk_42 (dk_at dksX4_tellFact_0 11 rfl rfl)
theorem dX4_tellFact_12 : decode cX4_tellFact 12 = .ok (.getfield 7, 3) := dk_180 0 7 (dk_at dksX4_tellFact_0 12 rfl rfl)
theorem dX4_tellFact_15 : decode cX4_tellFact 15 = .ok (.iconst 5, 1) := dk_8 (dk_at dksX4_tellFact_0 15 rfl rfl)
theorem dX4_tellFact_16 : decode cX4_tellFact 16 = .ok (.iaload, 1) := dk_46 (dk_at dksX4_tellFact_0 16 rfl rfl)
theorem dX4_tellFact_17 : decode cX4_tellFact 17 = .ok (.istore_n 3, 1) := dk_62 (dk_at dksX4_tellFact_0 17 rfl rfl)
theorem dX4_tellFact_18 : decode cX4_tellFact 18 = .ok (.aload_n 0, 1) := dk_42 (dk_at dksX4_tellFact_0 18 rfl rfl)
theorem dX4_tellFact_19 : decode cX4_tellFact 19 = .ok (.getfield 46, 3) := dk_180 0 46 (dk_at dksX4_tellFact_0 19 rfl rfl)
theorem dX4_tellFact_22 : decode cX4_tellFact 22 = .ok (.iload_n 3, 1) := dk_29 (dk_at dksX4_tellFact_0 22 rfl rfl)
theorem dX4_tellFact_23 : decode cX4_tellFact 23 = .ok (.iload_n 1, 1) := dk_27 (dk_at dksX4_tellFact_0 23 rfl rfl)
theorem dX4_tellFact_24 : decode cX4_tellFact 24 = .ok (.iastore, 1) := dk_79 (dk_at dksX4_tellFact_1 0 rfl rfl)
theorem dX4_tellFact_25 : decode cX4_tellFact 25 = .ok (.aload_n 0, 1) := dk_42 (dk_at dksX4_tellFact_1 1 rfl rfl)
theorem dX4_tellFact_26 : decode cX4_tellFact 26 = .ok (.getfield 49, 3) := dk_180 0 49 (dk_at dksX4_tellFact_1 2 rfl rfl)
theorem dX4_tellFact_29 : decode cX4_tellFact 29 = .ok (.iload_n 3, 1) := dk_29 (dk_at dksX4_tellFact_1 5 rfl rfl)
theorem dX4_tellFact_30 : decode cX4_tellFact 30 = .ok (.iload_n 2, 1) := dk_28 (dk_at dksX4_tellFact_1 6 rfl rfl)
theorem dX4_tellFact_31 : decode cX4_tellFact 31 = .ok (.iastore, 1) := dk_79 (dk_at dksX4_tellFact_1 7 rfl rfl)
theorem dX4_tellFact_32 : decode cX4_tellFact 32 = .ok (.aload_n 0, 1) := dk_42 (dk_at dksX4_tellFact_1 8 rfl rfl)
theorem dX4_tellFact_33 : decode cX4_tellFact 33 = .ok (.getfield 7, 3) := dk_180 0 7 (dk_at dksX4_tellFact_1 9 rfl rfl)
theorem dX4_tellFact_36 : decode cX4_tellFact 36 = .ok (.iconst 5, 1) := dk_8 (dk_at dksX4_tellFact_1 12 rfl rfl)
theorem dX4_tellFact_37 : decode cX4_tellFact 37 = .ok (.dup2, 1) := dk_92 (dk_at dksX4_tellFact_1 13 rfl rfl)
theorem dX4_tellFact_38 : decode cX4_tellFact 38 = .ok (.iaload, 1) := dk_46 (dk_at dksX4_tellFact_1 14 rfl rfl)
theorem dX4_tellFact_39 : decode cX4_tellFact 39 = .ok (.iconst 1, 1) := dk_4 (dk_at dksX4_tellFact_1 15 rfl rfl)
theorem dX4_tellFact_40 : decode cX4_tellFact 40 = .ok (.iadd, 1) := dk_96 (dk_at dksX4_tellFact_1 16 rfl rfl)
theorem dX4_tellFact_41 : decode cX4_tellFact 41 = .ok (.iastore, 1) := dk_79 (dk_at dksX4_tellFact_1 17 rfl rfl)
theorem dX4_tellFact_42 : decode cX4_tellFact 42 = .ok (.goto 33, 3) := dk_167 0 33 (dk_at dksX4_tellFact_1 18 rfl rfl)
theorem dX4_tellFact_45 : decode cX4_tellFact 45 = .ok (.iload_n 2, 1) := dk_28 (dk_at dksX4_tellFact_1 21 rfl rfl)
theorem dX4_tellFact_46 : decode cX4_tellFact 46 = .ok (.ifCond .eq 22, 3) := dk_153 0 22 (dk_at dksX4_tellFact_2 0 rfl rfl)
theorem dX4_tellFact_49 : decode cX4_tellFact 49 = .ok (.aload_n 0, 1) := dk_42 (dk_at dksX4_tellFact_2 3 rfl rfl)
theorem dX4_tellFact_50 : decode cX4_tellFact 50 = .ok (.getfield 49, 3) := dk_180 0 49 (dk_at dksX4_tellFact_2 4 rfl rfl)
theorem dX4_tellFact_53 : decode cX4_tellFact 53 = .ok (.iload_n 3, 1) := dk_29 (dk_at dksX4_tellFact_2 7 rfl rfl)
theorem dX4_tellFact_54 : decode cX4_tellFact 54 = .ok (.iaload, 1) := dk_46 (dk_at dksX4_tellFact_2 8 rfl rfl)
theorem dX4_tellFact_55 : decode cX4_tellFact 55 = .ok (.ifCond .le 20, 3) := dk_158 0 20 (dk_at dksX4_tellFact_2 9 rfl rfl)
theorem dX4_tellFact_58 : decode cX4_tellFact 58 = .ok (.aload_n 0, 1) := dk_42 (dk_at dksX4_tellFact_2 12 rfl rfl)
theorem dX4_tellFact_59 : decode cX4_tellFact 59 = .ok (.getfield 49, 3) := dk_180 0 49 (dk_at dksX4_tellFact_2 13 rfl rfl)
theorem dX4_tellFact_62 : decode cX4_tellFact 62 = .ok (.iload_n 3, 1) := dk_29 (dk_at dksX4_tellFact_2 16 rfl rfl)
theorem dX4_tellFact_63 : decode cX4_tellFact 63 = .ok (.iaload, 1) := dk_46 (dk_at dksX4_tellFact_2 17 rfl rfl)
theorem dX4_tellFact_64 : decode cX4_tellFact 64 = .ok (.iload_n 2, 1) := dk_28 (dk_at dksX4_tellFact_2 18 rfl rfl)
theorem dX4_tellFact_65 : decode cX4_tellFact 65 = .ok (.if_icmp .ge 10, 3) := dk_162 0 10 (dk_at dksX4_tellFact_2 19 rfl rfl)
theorem dX4_tellFact_68 : decode cX4_tellFact 68 = .ok (.aload_n 0, 1) := dk_42 (dk_at dksX4_tellFact_2 22 rfl rfl)
theorem dX4_tellFact_69 : decode cX4_tellFact 69 = .ok (.getfield 49, 3) := dk_180 0 49 (dk_at dksX4_tellFact_3 0 rfl rfl)
theorem dX4_tellFact_72 : decode cX4_tellFact 72 = .ok (.iload_n 3, 1) := dk_29 (dk_at dksX4_tellFact_3 3 rfl rfl)
theorem dX4_tellFact_73 : decode cX4_tellFact 73 = .ok (.iload_n 2, 1) := dk_28 (dk_at dksX4_tellFact_3 4 rfl rfl)
theorem dX4_tellFact_74 : decode cX4_tellFact 74 = .ok (.iastore, 1) := dk_79 (dk_at dksX4_tellFact_3 5 rfl rfl)
theorem dX4_tellFact_75 : decode cX4_tellFact 75 = .ok (.return_, 1) := dk_177 (dk_at dksX4_tellFact_3 6 rfl rfl)
abbrev cX4_toldAt : ByteArray := prog_19_method_42_code
def yX4_toldAt : MethodName := ⟨RX4, "toldAt", "(I)I"⟩
def dkwX4_toldAt_1 : List UInt8 := [29, 167, 0, 4, 28, 61, 132, 3, 1, 167, 255, 227, 28, 172]
abbrev dktX4_toldAt_1 : List UInt8 := dkwX4_toldAt_1 ++ []
def dkwX4_toldAt_0 : List UInt8 := [2, 61, 3, 62, 29, 42, 180, 0, 7, 8, 46, 162, 0, 25, 42, 180, 0, 46, 29, 46, 27, 160, 0, 7]
abbrev dktX4_toldAt_0 : List UInt8 := dkwX4_toldAt_0 ++ dktX4_toldAt_1
theorem dksX4_toldAt_0 : cX4_toldAt.data.toList.drop 0 = dktX4_toldAt_0 := by decide +kernel
theorem dksX4_toldAt_1 : cX4_toldAt.data.toList.drop 24 = dktX4_toldAt_1 := dk_seg dksX4_toldAt_0 24 rfl rfl
theorem dX4_toldAt_0 : decode cX4_toldAt 0 = .ok (.iconst (-1), 1) := dk_2 (dk_at dksX4_toldAt_0 0 rfl rfl)
theorem dX4_toldAt_1 : decode cX4_toldAt 1 = .ok (.istore_n 2, 1) := dk_61 (dk_at dksX4_toldAt_0 1 rfl rfl)
theorem dX4_toldAt_2 : decode cX4_toldAt 2 = .ok (.iconst 0, 1) := dk_3 (dk_at dksX4_toldAt_0 2 rfl rfl)
theorem dX4_toldAt_3 : decode cX4_toldAt 3 = .ok (.istore_n 3, 1) := dk_62 (dk_at dksX4_toldAt_0 3 rfl rfl)
theorem dX4_toldAt_4 : decode cX4_toldAt 4 = .ok (.iload_n 3, 1) := dk_29 (dk_at dksX4_toldAt_0 4 rfl rfl)
theorem dX4_toldAt_5 : decode cX4_toldAt 5 = .ok (.aload_n 0, 1) := dk_42 (dk_at dksX4_toldAt_0 5 rfl rfl)
theorem dX4_toldAt_6 : decode cX4_toldAt 6 = .ok (.getfield 7, 3) := dk_180 0 7 (dk_at dksX4_toldAt_0 6 rfl rfl)
theorem dX4_toldAt_9 : decode cX4_toldAt 9 = .ok (.iconst 5, 1) := dk_8 (dk_at dksX4_toldAt_0 9 rfl rfl)
theorem dX4_toldAt_10 : decode cX4_toldAt 10 = .ok (.iaload, 1) := dk_46 (dk_at dksX4_toldAt_0 10 rfl rfl)
theorem dX4_toldAt_11 : decode cX4_toldAt 11 = .ok (.if_icmp .ge 25, 3) := dk_162 0 25 (dk_at dksX4_toldAt_0 11 rfl rfl)
theorem dX4_toldAt_14 : decode cX4_toldAt 14 = .ok (.aload_n 0, 1) := dk_42 (dk_at dksX4_toldAt_0 14 rfl rfl)
theorem dX4_toldAt_15 : decode cX4_toldAt 15 = .ok (.getfield 46, 3) := dk_180 0 46 (dk_at dksX4_toldAt_0 15 rfl rfl)
theorem dX4_toldAt_18 : decode cX4_toldAt 18 = .ok (.iload_n 3, 1) := dk_29 (dk_at dksX4_toldAt_0 18 rfl rfl)
theorem dX4_toldAt_19 : decode cX4_toldAt 19 = .ok (.iaload, 1) := dk_46 (dk_at dksX4_toldAt_0 19 rfl rfl)
theorem dX4_toldAt_20 : decode cX4_toldAt 20 = .ok (.iload_n 1, 1) := dk_27 (dk_at dksX4_toldAt_0 20 rfl rfl)
theorem dX4_toldAt_21 : decode cX4_toldAt 21 = .ok (.if_icmp .ne 7, 3) := dk_160 0 7 (dk_at dksX4_toldAt_0 21 rfl rfl)
theorem dX4_toldAt_24 : decode cX4_toldAt 24 = .ok (.iload_n 3, 1) := dk_29 (dk_at dksX4_toldAt_1 0 rfl rfl)
theorem dX4_toldAt_25 : decode cX4_toldAt 25 = .ok (.goto 4, 3) := dk_167 0 4 (dk_at dksX4_toldAt_1 1 rfl rfl)
theorem dX4_toldAt_28 : decode cX4_toldAt 28 = .ok (.iload_n 2, 1) := dk_28 (dk_at dksX4_toldAt_1 4 rfl rfl)
theorem dX4_toldAt_29 : decode cX4_toldAt 29 = .ok (.istore_n 2, 1) := dk_61 (dk_at dksX4_toldAt_1 5 rfl rfl)
theorem dX4_toldAt_30 : decode cX4_toldAt 30 = .ok (.iinc 3 1, 3) := dk_132 3 1 (dk_at dksX4_toldAt_1 6 rfl rfl)
theorem dX4_toldAt_33 : decode cX4_toldAt 33 = .ok (.goto (-29), 3) := dk_167 255 227 (dk_at dksX4_toldAt_1 9 rfl rfl)
theorem dX4_toldAt_36 : decode cX4_toldAt 36 = .ok (.iload_n 2, 1) := dk_28 (dk_at dksX4_toldAt_1 12 rfl rfl)
theorem dX4_toldAt_37 : decode cX4_toldAt 37 = .ok (.ireturn, 1) := dk_172 (dk_at dksX4_toldAt_1 13 rfl rfl)
abbrev cX4_settledOr : ByteArray := prog_19_method_46_code
def yX4_settledOr : MethodName := ⟨RX4, "settledOr", "(I)I"⟩
def dkwX4_settledOr_1 : List UInt8 := [3, 172, 42, 180, 0, 7, 16, 6, 46, 172]
abbrev dktX4_settledOr_1 : List UInt8 := dkwX4_settledOr_1 ++ []
def dkwX4_settledOr_0 : List UInt8 := [42, 42, 182, 1, 28, 153, 0, 7, 3, 167, 0, 4, 27, 182, 1, 10, 154, 0, 10, 42, 6, 182, 1, 31]
abbrev dktX4_settledOr_0 : List UInt8 := dkwX4_settledOr_0 ++ dktX4_settledOr_1
theorem dksX4_settledOr_0 : cX4_settledOr.data.toList.drop 0 = dktX4_settledOr_0 := by decide +kernel
theorem dksX4_settledOr_1 : cX4_settledOr.data.toList.drop 24 = dktX4_settledOr_1 := dk_seg dksX4_settledOr_0 24 rfl rfl
theorem dX4_settledOr_0 : decode cX4_settledOr 0 = .ok (.aload_n 0, 1) := dk_42 (dk_at dksX4_settledOr_0 0 rfl rfl)
theorem dX4_settledOr_1 : decode cX4_settledOr 1 = .ok (.aload_n 0, 1) := dk_42 (dk_at dksX4_settledOr_0 1 rfl rfl)
theorem dX4_settledOr_2 : decode cX4_settledOr 2 = .ok (.invokevirtual 284, 3) := dk_182 1 28 (dk_at dksX4_settledOr_0 2 rfl rfl)
theorem dX4_settledOr_5 : decode cX4_settledOr 5 = .ok (.ifCond .eq 7, 3) := dk_153 0 7 (dk_at dksX4_settledOr_0 5 rfl rfl)
theorem dX4_settledOr_8 : decode cX4_settledOr 8 = .ok (.iconst 0, 1) := dk_3 (dk_at dksX4_settledOr_0 8 rfl rfl)
theorem dX4_settledOr_9 : decode cX4_settledOr 9 = .ok (.goto 4, 3) := dk_167 0 4 (dk_at dksX4_settledOr_0 9 rfl rfl)
theorem dX4_settledOr_12 : decode cX4_settledOr 12 = .ok (.iload_n 1, 1) := dk_27 (dk_at dksX4_settledOr_0 12 rfl rfl)
theorem dX4_settledOr_13 : decode cX4_settledOr 13 = .ok (.invokevirtual 266, 3) := dk_182 1 10 (dk_at dksX4_settledOr_0 13 rfl rfl)
theorem dX4_settledOr_16 : decode cX4_settledOr 16 = .ok (.ifCond .ne 10, 3) := dk_154 0 10 (dk_at dksX4_settledOr_0 16 rfl rfl)
theorem dX4_settledOr_19 : decode cX4_settledOr 19 = .ok (.aload_n 0, 1) := dk_42 (dk_at dksX4_settledOr_0 19 rfl rfl)
theorem dX4_settledOr_20 : decode cX4_settledOr 20 = .ok (.iconst 3, 1) := dk_6 (dk_at dksX4_settledOr_0 20 rfl rfl)
theorem dX4_settledOr_21 : decode cX4_settledOr 21 = .ok (.invokevirtual 287, 3) := dk_182 1 31 (dk_at dksX4_settledOr_0 21 rfl rfl)
theorem dX4_settledOr_24 : decode cX4_settledOr 24 = .ok (.iconst 0, 1) := dk_3 (dk_at dksX4_settledOr_1 0 rfl rfl)
theorem dX4_settledOr_25 : decode cX4_settledOr 25 = .ok (.ireturn, 1) := dk_172 (dk_at dksX4_settledOr_1 1 rfl rfl)
theorem dX4_settledOr_26 : decode cX4_settledOr 26 = .ok (.aload_n 0, 1) := dk_42 (dk_at dksX4_settledOr_1 2 rfl rfl)
theorem dX4_settledOr_27 : decode cX4_settledOr 27 = .ok (.getfield 7, 3) := dk_180 0 7 (dk_at dksX4_settledOr_1 3 rfl rfl)
theorem dX4_settledOr_30 : decode cX4_settledOr 30 = .ok (.bipush 6, 2) := dk_16 6 (dk_at dksX4_settledOr_1 6 rfl rfl)
theorem dX4_settledOr_32 : decode cX4_settledOr 32 = .ok (.iaload, 1) := dk_46 (dk_at dksX4_settledOr_1 8 rfl rfl)
theorem dX4_settledOr_33 : decode cX4_settledOr 33 = .ok (.ireturn, 1) := dk_172 (dk_at dksX4_settledOr_1 9 rfl rfl)
abbrev cX4_settle : ByteArray := prog_19_method_39_code
def yX4_settle : MethodName := ⟨RX4, "settle", "()Z"⟩
def dkwX4_settle_9 : List UInt8 := [167, 0, 4, 3, 172]
abbrev dktX4_settle_9 : List UInt8 := dkwX4_settle_9 ++ []
def dkwX4_settle_8 : List UInt8 := [167, 255, 176, 132, 4, 1, 167, 255, 153, 42, 28, 182, 1, 7, 42, 180, 0, 239, 154, 0, 7, 4]
abbrev dktX4_settle_8 : List UInt8 := dkwX4_settle_8 ++ dktX4_settle_9
def dkwX4_settle_7 : List UInt8 := [182, 1, 4, 154, 0, 8, 21, 5, 153, 0, 7, 4, 167, 0, 4, 3, 54, 5, 132, 6, 1, 167, 255, 197]
abbrev dktX4_settle_7 : List UInt8 := dkwX4_settle_7 ++ dktX4_settle_8
def dkwX4_settle_6 : List UInt8 := [154, 0, 47, 42, 180, 0, 73, 42, 180, 0, 19, 21, 6, 46, 46, 21, 4, 160, 0, 12, 42, 21, 6]
abbrev dktX4_settle_6 : List UInt8 := dkwX4_settle_6 ++ dktX4_settle_7
def dkwX4_settle_5 : List UInt8 := [154, 0, 74, 3, 54, 5, 3, 54, 6, 21, 6, 42, 180, 0, 7, 4, 46, 162, 0, 54, 42, 180, 0, 239]
abbrev dktX4_settle_5 : List UInt8 := dkwX4_settle_5 ++ dktX4_settle_6
def dkwX4_settle_4 : List UInt8 := [162, 0, 102, 42, 180, 0, 239, 154, 0, 95, 4, 54, 5, 21, 5, 153, 0, 81, 42, 180, 0, 239]
abbrev dktX4_settle_4 : List UInt8 := dkwX4_settle_4 ++ dktX4_settle_5
def dkwX4_settle_3 : List UInt8 := [42, 180, 0, 46, 21, 4, 46, 182, 0, 254, 132, 4, 1, 167, 255, 231, 3, 54, 4, 21, 4, 16, 8]
abbrev dktX4_settle_3 : List UInt8 := dkwX4_settle_3 ++ dktX4_settle_4
def dkwX4_settle_2 : List UInt8 := [16, 6, 3, 79, 42, 3, 181, 0, 239, 3, 54, 4, 21, 4, 42, 180, 0, 7, 8, 46, 162, 0, 20, 42]
abbrev dktX4_settle_2 : List UInt8 := dkwX4_settle_2 ++ dktX4_settle_3
def dkwX4_settle_1 : List UInt8 := [184, 0, 144, 62, 42, 180, 0, 55, 3, 42, 180, 0, 79, 3, 28, 184, 0, 144, 62, 42, 180, 0, 7]
abbrev dktX4_settle_1 : List UInt8 := dkwX4_settle_1 ++ dktX4_settle_2
def dkwX4_settle_0 : List UInt8 := [42, 182, 1, 1, 60, 42, 180, 0, 7, 16, 6, 46, 61, 42, 180, 0, 52, 3, 42, 180, 0, 76, 3, 28]
abbrev dktX4_settle_0 : List UInt8 := dkwX4_settle_0 ++ dktX4_settle_1
theorem dksX4_settle_0 : cX4_settle.data.toList.drop 0 = dktX4_settle_0 := by decide +kernel
theorem dksX4_settle_1 : cX4_settle.data.toList.drop 24 = dktX4_settle_1 := dk_seg dksX4_settle_0 24 rfl rfl
theorem dksX4_settle_2 : cX4_settle.data.toList.drop 47 = dktX4_settle_2 := dk_seg dksX4_settle_1 23 rfl rfl
theorem dksX4_settle_3 : cX4_settle.data.toList.drop 71 = dktX4_settle_3 := dk_seg dksX4_settle_2 24 rfl rfl
theorem dksX4_settle_4 : cX4_settle.data.toList.drop 94 = dktX4_settle_4 := dk_seg dksX4_settle_3 23 rfl rfl
theorem dksX4_settle_5 : cX4_settle.data.toList.drop 116 = dktX4_settle_5 := dk_seg dksX4_settle_4 22 rfl rfl
theorem dksX4_settle_6 : cX4_settle.data.toList.drop 140 = dktX4_settle_6 := dk_seg dksX4_settle_5 24 rfl rfl
theorem dksX4_settle_7 : cX4_settle.data.toList.drop 163 = dktX4_settle_7 := dk_seg dksX4_settle_6 23 rfl rfl
theorem dksX4_settle_8 : cX4_settle.data.toList.drop 187 = dktX4_settle_8 := dk_seg dksX4_settle_7 24 rfl rfl
theorem dksX4_settle_9 : cX4_settle.data.toList.drop 209 = dktX4_settle_9 := dk_seg dksX4_settle_8 22 rfl rfl
theorem dX4_settle_0 : decode cX4_settle 0 = .ok (.aload_n 0, 1) := dk_42 (dk_at dksX4_settle_0 0 rfl rfl)
theorem dX4_settle_1 : decode cX4_settle 1 = .ok (.invokevirtual 257, 3) := dk_182 1 1 (dk_at dksX4_settle_0 1 rfl rfl)
theorem dX4_settle_4 : decode cX4_settle 4 = .ok (.istore_n 1, 1) := dk_60 (dk_at dksX4_settle_0 4 rfl rfl)
theorem dX4_settle_5 : decode cX4_settle 5 = .ok (.aload_n 0, 1) := dk_42 (dk_at dksX4_settle_0 5 rfl rfl)
theorem dX4_settle_6 : decode cX4_settle 6 = .ok (.getfield 7, 3) := dk_180 0 7 (dk_at dksX4_settle_0 6 rfl rfl)
theorem dX4_settle_9 : decode cX4_settle 9 = .ok (.bipush 6, 2) := dk_16 6 (dk_at dksX4_settle_0 9 rfl rfl)
theorem dX4_settle_11 : decode cX4_settle 11 = .ok (.iaload, 1) := dk_46 (dk_at dksX4_settle_0 11 rfl rfl)
theorem dX4_settle_12 : decode cX4_settle 12 = .ok (.istore_n 2, 1) := dk_61 (dk_at dksX4_settle_0 12 rfl rfl)
theorem dX4_settle_13 : decode cX4_settle 13 = .ok (.aload_n 0, 1) := dk_42 (dk_at dksX4_settle_0 13 rfl rfl)
theorem dX4_settle_14 : decode cX4_settle 14 = .ok (.getfield 52, 3) := dk_180 0 52 (dk_at dksX4_settle_0 14 rfl rfl)
theorem dX4_settle_17 : decode cX4_settle 17 = .ok (.iconst 0, 1) := dk_3 (dk_at dksX4_settle_0 17 rfl rfl)
theorem dX4_settle_18 : decode cX4_settle 18 = .ok (.aload_n 0, 1) := dk_42 (dk_at dksX4_settle_0 18 rfl rfl)
theorem dX4_settle_19 : decode cX4_settle 19 = .ok (.getfield 76, 3) := dk_180 0 76 (dk_at dksX4_settle_0 19 rfl rfl)
theorem dX4_settle_22 : decode cX4_settle 22 = .ok (.iconst 0, 1) := dk_3 (dk_at dksX4_settle_0 22 rfl rfl)
theorem dX4_settle_23 : decode cX4_settle 23 = .ok (.iload_n 2, 1) := dk_28 (dk_at dksX4_settle_0 23 rfl rfl)
theorem dX4_settle_24 : decode cX4_settle 24 = .ok (.invokestatic 144, 3) := dk_184 0 144 (dk_at dksX4_settle_1 0 rfl rfl)
theorem dX4_settle_27 : decode cX4_settle 27 = .ok (.istore_n 3, 1) := dk_62 (dk_at dksX4_settle_1 3 rfl rfl)
theorem dX4_settle_28 : decode cX4_settle 28 = .ok (.aload_n 0, 1) := dk_42 (dk_at dksX4_settle_1 4 rfl rfl)
theorem dX4_settle_29 : decode cX4_settle 29 = .ok (.getfield 55, 3) := dk_180 0 55 (dk_at dksX4_settle_1 5 rfl rfl)
theorem dX4_settle_32 : decode cX4_settle 32 = .ok (.iconst 0, 1) := dk_3 (dk_at dksX4_settle_1 8 rfl rfl)
theorem dX4_settle_33 : decode cX4_settle 33 = .ok (.aload_n 0, 1) := dk_42 (dk_at dksX4_settle_1 9 rfl rfl)
theorem dX4_settle_34 : decode cX4_settle 34 = .ok (.getfield 79, 3) := dk_180 0 79 (dk_at dksX4_settle_1 10 rfl rfl)
theorem dX4_settle_37 : decode cX4_settle 37 = .ok (.iconst 0, 1) := dk_3 (dk_at dksX4_settle_1 13 rfl rfl)
theorem dX4_settle_38 : decode cX4_settle 38 = .ok (.iload_n 2, 1) := dk_28 (dk_at dksX4_settle_1 14 rfl rfl)
theorem dX4_settle_39 : decode cX4_settle 39 = .ok (.invokestatic 144, 3) := dk_184 0 144 (dk_at dksX4_settle_1 15 rfl rfl)
theorem dX4_settle_42 : decode cX4_settle 42 = .ok (.istore_n 3, 1) := dk_62 (dk_at dksX4_settle_1 18 rfl rfl)
theorem dX4_settle_43 : decode cX4_settle 43 = .ok (.aload_n 0, 1) := dk_42 (dk_at dksX4_settle_1 19 rfl rfl)
theorem dX4_settle_44 : decode cX4_settle 44 = .ok (.getfield 7, 3) := dk_180 0 7 (dk_at dksX4_settle_1 20 rfl rfl)
theorem dX4_settle_47 : decode cX4_settle 47 = .ok (.bipush 6, 2) := dk_16 6 (dk_at dksX4_settle_2 0 rfl rfl)
theorem dX4_settle_49 : decode cX4_settle 49 = .ok (.iconst 0, 1) := dk_3 (dk_at dksX4_settle_2 2 rfl rfl)
theorem dX4_settle_50 : decode cX4_settle 50 = .ok (.iastore, 1) := dk_79 (dk_at dksX4_settle_2 3 rfl rfl)
theorem dX4_settle_51 : decode cX4_settle 51 = .ok (.aload_n 0, 1) := dk_42 (dk_at dksX4_settle_2 4 rfl rfl)
theorem dX4_settle_52 : decode cX4_settle 52 = .ok (.iconst 0, 1) := dk_3 (dk_at dksX4_settle_2 5 rfl rfl)
theorem dX4_settle_53 : decode cX4_settle 53 = .ok (.putfield 239, 3) := dk_181 0 239 (dk_at dksX4_settle_2 6 rfl rfl)
theorem dX4_settle_56 : decode cX4_settle 56 = .ok (.iconst 0, 1) := dk_3 (dk_at dksX4_settle_2 9 rfl rfl)
theorem dX4_settle_57 : decode cX4_settle 57 = .ok (.istore 4, 2) := dk_54 4 (dk_at dksX4_settle_2 10 rfl rfl)
theorem dX4_settle_59 : decode cX4_settle 59 = .ok (.iload 4, 2) := dk_21 4 (dk_at dksX4_settle_2 12 rfl rfl)
theorem dX4_settle_61 : decode cX4_settle 61 = .ok (.aload_n 0, 1) := dk_42 (dk_at dksX4_settle_2 14 rfl rfl)
theorem dX4_settle_62 : decode cX4_settle 62 = .ok (.getfield 7, 3) := dk_180 0 7 (dk_at dksX4_settle_2 15 rfl rfl)
theorem dX4_settle_65 : decode cX4_settle 65 = .ok (.iconst 5, 1) := dk_8 (dk_at dksX4_settle_2 18 rfl rfl)
theorem dX4_settle_66 : decode cX4_settle 66 = .ok (.iaload, 1) := dk_46 (dk_at dksX4_settle_2 19 rfl rfl)
theorem dX4_settle_67 : decode cX4_settle 67 = .ok (.if_icmp .ge 20, 3) := dk_162 0 20 (dk_at dksX4_settle_2 20 rfl rfl)
theorem dX4_settle_70 : decode cX4_settle 70 = .ok (.aload_n 0, 1) := dk_42 (dk_at dksX4_settle_2 23 rfl rfl)
theorem dX4_settle_71 : decode cX4_settle 71 = .ok (.aload_n 0, 1) := dk_42 (dk_at dksX4_settle_3 0 rfl rfl)
theorem dX4_settle_72 : decode cX4_settle 72 = .ok (.getfield 46, 3) := dk_180 0 46 (dk_at dksX4_settle_3 1 rfl rfl)
theorem dX4_settle_75 : decode cX4_settle 75 = .ok (.iload 4, 2) := dk_21 4 (dk_at dksX4_settle_3 4 rfl rfl)
theorem dX4_settle_77 : decode cX4_settle 77 = .ok (.iaload, 1) := dk_46 (dk_at dksX4_settle_3 6 rfl rfl)
theorem dX4_settle_78 : decode cX4_settle 78 = .ok (.invokevirtual 254, 3) := dk_182 0 254 (dk_at dksX4_settle_3 7 rfl rfl)
theorem dX4_settle_81 : decode cX4_settle 81 = .ok (.iinc 4 1, 3) := dk_132 4 1 (dk_at dksX4_settle_3 10 rfl rfl)
theorem dX4_settle_84 : decode cX4_settle 84 = .ok (.goto (-25), 3) := dk_167 255 231 (dk_at dksX4_settle_3 13 rfl rfl)
theorem dX4_settle_87 : decode cX4_settle 87 = .ok (.iconst 0, 1) := dk_3 (dk_at dksX4_settle_3 16 rfl rfl)
theorem dX4_settle_88 : decode cX4_settle 88 = .ok (.istore 4, 2) := dk_54 4 (dk_at dksX4_settle_3 17 rfl rfl)
theorem dX4_settle_90 : decode cX4_settle 90 = .ok (.iload 4, 2) := dk_21 4 (dk_at dksX4_settle_3 19 rfl rfl)
theorem dX4_settle_92 : decode cX4_settle 92 = .ok (.bipush 8, 2) := dk_16 8 (dk_at dksX4_settle_3 21 rfl rfl)
theorem dX4_settle_94 : decode cX4_settle 94 = .ok (.if_icmp .ge 102, 3) := dk_162 0 102 (dk_at dksX4_settle_4 0 rfl rfl)
theorem dX4_settle_97 : decode cX4_settle 97 = .ok (.aload_n 0, 1) := dk_42 (dk_at dksX4_settle_4 3 rfl rfl)
theorem dX4_settle_98 : decode cX4_settle 98 = .ok (.getfield 239, 3) := dk_180 0 239 (dk_at dksX4_settle_4 4 rfl rfl)
theorem dX4_settle_101 : decode cX4_settle 101 = .ok (.ifCond .ne 95, 3) := dk_154 0 95 (dk_at dksX4_settle_4 7 rfl rfl)
theorem dX4_settle_104 : decode cX4_settle 104 = .ok (.iconst 1, 1) := dk_4 (dk_at dksX4_settle_4 10 rfl rfl)
theorem dX4_settle_105 : decode cX4_settle 105 = .ok (.istore 5, 2) := dk_54 5 (dk_at dksX4_settle_4 11 rfl rfl)
theorem dX4_settle_107 : decode cX4_settle 107 = .ok (.iload 5, 2) := dk_21 5 (dk_at dksX4_settle_4 13 rfl rfl)
theorem dX4_settle_109 : decode cX4_settle 109 = .ok (.ifCond .eq 81, 3) := dk_153 0 81 (dk_at dksX4_settle_4 15 rfl rfl)
theorem dX4_settle_112 : decode cX4_settle 112 = .ok (.aload_n 0, 1) := dk_42 (dk_at dksX4_settle_4 18 rfl rfl)
theorem dX4_settle_113 : decode cX4_settle 113 = .ok (.getfield 239, 3) := dk_180 0 239 (dk_at dksX4_settle_4 19 rfl rfl)
theorem dX4_settle_116 : decode cX4_settle 116 = .ok (.ifCond .ne 74, 3) := dk_154 0 74 (dk_at dksX4_settle_5 0 rfl rfl)
theorem dX4_settle_119 : decode cX4_settle 119 = .ok (.iconst 0, 1) := dk_3 (dk_at dksX4_settle_5 3 rfl rfl)
theorem dX4_settle_120 : decode cX4_settle 120 = .ok (.istore 5, 2) := dk_54 5 (dk_at dksX4_settle_5 4 rfl rfl)
theorem dX4_settle_122 : decode cX4_settle 122 = .ok (.iconst 0, 1) := dk_3 (dk_at dksX4_settle_5 6 rfl rfl)
theorem dX4_settle_123 : decode cX4_settle 123 = .ok (.istore 6, 2) := dk_54 6 (dk_at dksX4_settle_5 7 rfl rfl)
theorem dX4_settle_125 : decode cX4_settle 125 = .ok (.iload 6, 2) := dk_21 6 (dk_at dksX4_settle_5 9 rfl rfl)
theorem dX4_settle_127 : decode cX4_settle 127 = .ok (.aload_n 0, 1) := dk_42 (dk_at dksX4_settle_5 11 rfl rfl)
theorem dX4_settle_128 : decode cX4_settle 128 = .ok (.getfield 7, 3) := dk_180 0 7 (dk_at dksX4_settle_5 12 rfl rfl)
theorem dX4_settle_131 : decode cX4_settle 131 = .ok (.iconst 1, 1) := dk_4 (dk_at dksX4_settle_5 15 rfl rfl)
theorem dX4_settle_132 : decode cX4_settle 132 = .ok (.iaload, 1) := dk_46 (dk_at dksX4_settle_5 16 rfl rfl)
theorem dX4_settle_133 : decode cX4_settle 133 = .ok (.if_icmp .ge 54, 3) := dk_162 0 54 (dk_at dksX4_settle_5 17 rfl rfl)
theorem dX4_settle_136 : decode cX4_settle 136 = .ok (.aload_n 0, 1) := dk_42 (dk_at dksX4_settle_5 20 rfl rfl)
theorem dX4_settle_137 : decode cX4_settle 137 = .ok (.getfield 239, 3) := dk_180 0 239 (dk_at dksX4_settle_5 21 rfl rfl)
theorem dX4_settle_140 : decode cX4_settle 140 = .ok (.ifCond .ne 47, 3) := dk_154 0 47 (dk_at dksX4_settle_6 0 rfl rfl)
theorem dX4_settle_143 : decode cX4_settle 143 = .ok (.aload_n 0, 1) := dk_42 (dk_at dksX4_settle_6 3 rfl rfl)
theorem dX4_settle_144 : decode cX4_settle 144 = .ok (.getfield 73, 3) := dk_180 0 73 (dk_at dksX4_settle_6 4 rfl rfl)
theorem dX4_settle_147 : decode cX4_settle 147 = .ok (.aload_n 0, 1) := dk_42 (dk_at dksX4_settle_6 7 rfl rfl)
theorem dX4_settle_148 : decode cX4_settle 148 = .ok (.getfield 19, 3) := dk_180 0 19 (dk_at dksX4_settle_6 8 rfl rfl)
theorem dX4_settle_151 : decode cX4_settle 151 = .ok (.iload 6, 2) := dk_21 6 (dk_at dksX4_settle_6 11 rfl rfl)
theorem dX4_settle_153 : decode cX4_settle 153 = .ok (.iaload, 1) := dk_46 (dk_at dksX4_settle_6 13 rfl rfl)
theorem dX4_settle_154 : decode cX4_settle 154 = .ok (.iaload, 1) := dk_46 (dk_at dksX4_settle_6 14 rfl rfl)
theorem dX4_settle_155 : decode cX4_settle 155 = .ok (.iload 4, 2) := dk_21 4 (dk_at dksX4_settle_6 15 rfl rfl)
theorem dX4_settle_157 : decode cX4_settle 157 = .ok (.if_icmp .ne 12, 3) := dk_160 0 12 (dk_at dksX4_settle_6 17 rfl rfl)
theorem dX4_settle_160 : decode cX4_settle 160 = .ok (.aload_n 0, 1) := dk_42 (dk_at dksX4_settle_6 20 rfl rfl)
theorem dX4_settle_161 : decode cX4_settle 161 = .ok (.iload 6, 2) := dk_21 6 (dk_at dksX4_settle_6 21 rfl rfl)
theorem dX4_settle_163 : decode cX4_settle 163 = .ok (.invokevirtual 260, 3) := dk_182 1 4 (dk_at dksX4_settle_7 0 rfl rfl)
theorem dX4_settle_166 : decode cX4_settle 166 = .ok (.ifCond .ne 8, 3) := dk_154 0 8 (dk_at dksX4_settle_7 3 rfl rfl)
theorem dX4_settle_169 : decode cX4_settle 169 = .ok (.iload 5, 2) := dk_21 5 (dk_at dksX4_settle_7 6 rfl rfl)
theorem dX4_settle_171 : decode cX4_settle 171 = .ok (.ifCond .eq 7, 3) := dk_153 0 7 (dk_at dksX4_settle_7 8 rfl rfl)
theorem dX4_settle_174 : decode cX4_settle 174 = .ok (.iconst 1, 1) := dk_4 (dk_at dksX4_settle_7 11 rfl rfl)
theorem dX4_settle_175 : decode cX4_settle 175 = .ok (.goto 4, 3) := dk_167 0 4 (dk_at dksX4_settle_7 12 rfl rfl)
theorem dX4_settle_178 : decode cX4_settle 178 = .ok (.iconst 0, 1) := dk_3 (dk_at dksX4_settle_7 15 rfl rfl)
theorem dX4_settle_179 : decode cX4_settle 179 = .ok (.istore 5, 2) := dk_54 5 (dk_at dksX4_settle_7 16 rfl rfl)
theorem dX4_settle_181 : decode cX4_settle 181 = .ok (.iinc 6 1, 3) := dk_132 6 1 (dk_at dksX4_settle_7 18 rfl rfl)
theorem dX4_settle_184 : decode cX4_settle 184 = .ok (.goto (-59), 3) := dk_167 255 197 (dk_at dksX4_settle_7 21 rfl rfl)
theorem dX4_settle_187 : decode cX4_settle 187 = .ok (.goto (-80), 3) := dk_167 255 176 (dk_at dksX4_settle_8 0 rfl rfl)
theorem dX4_settle_190 : decode cX4_settle 190 = .ok (.iinc 4 1, 3) := dk_132 4 1 (dk_at dksX4_settle_8 3 rfl rfl)
theorem dX4_settle_193 : decode cX4_settle 193 = .ok (.goto (-103), 3) := dk_167 255 153 (dk_at dksX4_settle_8 6 rfl rfl)
theorem dX4_settle_196 : decode cX4_settle 196 = .ok (.aload_n 0, 1) := dk_42 (dk_at dksX4_settle_8 9 rfl rfl)
theorem dX4_settle_197 : decode cX4_settle 197 = .ok (.iload_n 2, 1) := dk_28 (dk_at dksX4_settle_8 10 rfl rfl)
theorem dX4_settle_198 : decode cX4_settle 198 = .ok (.invokevirtual 263, 3) := dk_182 1 7 (dk_at dksX4_settle_8 11 rfl rfl)
theorem dX4_settle_201 : decode cX4_settle 201 = .ok (.aload_n 0, 1) := dk_42 (dk_at dksX4_settle_8 14 rfl rfl)
theorem dX4_settle_202 : decode cX4_settle 202 = .ok (.getfield 239, 3) := dk_180 0 239 (dk_at dksX4_settle_8 15 rfl rfl)
theorem dX4_settle_205 : decode cX4_settle 205 = .ok (.ifCond .ne 7, 3) := dk_154 0 7 (dk_at dksX4_settle_8 18 rfl rfl)
theorem dX4_settle_208 : decode cX4_settle 208 = .ok (.iconst 1, 1) := dk_4 (dk_at dksX4_settle_8 21 rfl rfl)
theorem dX4_settle_209 : decode cX4_settle 209 = .ok (.goto 4, 3) := dk_167 0 4 (dk_at dksX4_settle_9 0 rfl rfl)
theorem dX4_settle_212 : decode cX4_settle 212 = .ok (.iconst 0, 1) := dk_3 (dk_at dksX4_settle_9 3 rfl rfl)
theorem dX4_settle_213 : decode cX4_settle 213 = .ok (.ireturn, 1) := dk_172 (dk_at dksX4_settle_9 4 rfl rfl)
abbrev cX4_findStrata : ByteArray := prog_19_method_34_code
def yX4_findStrata : MethodName := ⟨RX4, "findStrata", "()Z"⟩
def dkwX4_findStrata_3 : List UInt8 := [180, 0, 73, 42, 180, 0, 19, 28, 46, 29, 79, 4, 60, 132, 2, 1, 167, 255, 200, 167, 255, 189, 4, 172]
abbrev dktX4_findStrata_3 : List UInt8 := dkwX4_findStrata_3 ++ []
def dkwX4_findStrata_2 : List UInt8 := [16, 8, 161, 0, 5, 3, 172, 42, 180, 0, 73, 42, 180, 0, 19, 28, 46, 46, 29, 162, 0, 17, 42]
abbrev dktX4_findStrata_2 : List UInt8 := dkwX4_findStrata_2 ++ dktX4_findStrata_3
def dkwX4_findStrata_1 : List UInt8 := [153, 0, 69, 3, 60, 3, 61, 28, 42, 180, 0, 7, 4, 46, 162, 0, 52, 42, 28, 182, 0, 233, 62, 29]
abbrev dktX4_findStrata_1 : List UInt8 := dkwX4_findStrata_1 ++ dktX4_findStrata_2
def dkwX4_findStrata_0 : List UInt8 := [3, 60, 27, 16, 8, 162, 0, 16, 42, 180, 0, 73, 27, 3, 79, 132, 1, 1, 167, 255, 240, 4, 60, 27]
abbrev dktX4_findStrata_0 : List UInt8 := dkwX4_findStrata_0 ++ dktX4_findStrata_1
theorem dksX4_findStrata_0 : cX4_findStrata.data.toList.drop 0 = dktX4_findStrata_0 := by decide +kernel
theorem dksX4_findStrata_1 : cX4_findStrata.data.toList.drop 24 = dktX4_findStrata_1 := dk_seg dksX4_findStrata_0 24 rfl rfl
theorem dksX4_findStrata_2 : cX4_findStrata.data.toList.drop 48 = dktX4_findStrata_2 := dk_seg dksX4_findStrata_1 24 rfl rfl
theorem dksX4_findStrata_3 : cX4_findStrata.data.toList.drop 71 = dktX4_findStrata_3 := dk_seg dksX4_findStrata_2 23 rfl rfl
theorem dX4_findStrata_0 : decode cX4_findStrata 0 = .ok (.iconst 0, 1) := dk_3 (dk_at dksX4_findStrata_0 0 rfl rfl)
theorem dX4_findStrata_1 : decode cX4_findStrata 1 = .ok (.istore_n 1, 1) := dk_60 (dk_at dksX4_findStrata_0 1 rfl rfl)
theorem dX4_findStrata_2 : decode cX4_findStrata 2 = .ok (.iload_n 1, 1) := dk_27 (dk_at dksX4_findStrata_0 2 rfl rfl)
theorem dX4_findStrata_3 : decode cX4_findStrata 3 = .ok (.bipush 8, 2) := dk_16 8 (dk_at dksX4_findStrata_0 3 rfl rfl)
theorem dX4_findStrata_5 : decode cX4_findStrata 5 = .ok (.if_icmp .ge 16, 3) := dk_162 0 16 (dk_at dksX4_findStrata_0 5 rfl rfl)
theorem dX4_findStrata_8 : decode cX4_findStrata 8 = .ok (.aload_n 0, 1) := dk_42 (dk_at dksX4_findStrata_0 8 rfl rfl)
theorem dX4_findStrata_9 : decode cX4_findStrata 9 = .ok (.getfield 73, 3) := dk_180 0 73 (dk_at dksX4_findStrata_0 9 rfl rfl)
theorem dX4_findStrata_12 : decode cX4_findStrata 12 = .ok (.iload_n 1, 1) := dk_27 (dk_at dksX4_findStrata_0 12 rfl rfl)
theorem dX4_findStrata_13 : decode cX4_findStrata 13 = .ok (.iconst 0, 1) := dk_3 (dk_at dksX4_findStrata_0 13 rfl rfl)
theorem dX4_findStrata_14 : decode cX4_findStrata 14 = .ok (.iastore, 1) := dk_79 (dk_at dksX4_findStrata_0 14 rfl rfl)
theorem dX4_findStrata_15 : decode cX4_findStrata 15 = .ok (.iinc 1 1, 3) := dk_132 1 1 (dk_at dksX4_findStrata_0 15 rfl rfl)
theorem dX4_findStrata_18 : decode cX4_findStrata 18 = .ok (.goto (-16), 3) := dk_167 255 240 (dk_at dksX4_findStrata_0 18 rfl rfl)
theorem dX4_findStrata_21 : decode cX4_findStrata 21 = .ok (.iconst 1, 1) := dk_4 (dk_at dksX4_findStrata_0 21 rfl rfl)
theorem dX4_findStrata_22 : decode cX4_findStrata 22 = .ok (.istore_n 1, 1) := dk_60 (dk_at dksX4_findStrata_0 22 rfl rfl)
theorem dX4_findStrata_23 : decode cX4_findStrata 23 = .ok (.iload_n 1, 1) := dk_27 (dk_at dksX4_findStrata_0 23 rfl rfl)
theorem dX4_findStrata_24 : decode cX4_findStrata 24 = .ok (.ifCond .eq 69, 3) := dk_153 0 69 (dk_at dksX4_findStrata_1 0 rfl rfl)
theorem dX4_findStrata_27 : decode cX4_findStrata 27 = .ok (.iconst 0, 1) := dk_3 (dk_at dksX4_findStrata_1 3 rfl rfl)
theorem dX4_findStrata_28 : decode cX4_findStrata 28 = .ok (.istore_n 1, 1) := dk_60 (dk_at dksX4_findStrata_1 4 rfl rfl)
theorem dX4_findStrata_29 : decode cX4_findStrata 29 = .ok (.iconst 0, 1) := dk_3 (dk_at dksX4_findStrata_1 5 rfl rfl)
theorem dX4_findStrata_30 : decode cX4_findStrata 30 = .ok (.istore_n 2, 1) := dk_61 (dk_at dksX4_findStrata_1 6 rfl rfl)
theorem dX4_findStrata_31 : decode cX4_findStrata 31 = .ok (.iload_n 2, 1) := dk_28 (dk_at dksX4_findStrata_1 7 rfl rfl)
theorem dX4_findStrata_32 : decode cX4_findStrata 32 = .ok (.aload_n 0, 1) := dk_42 (dk_at dksX4_findStrata_1 8 rfl rfl)
theorem dX4_findStrata_33 : decode cX4_findStrata 33 = .ok (.getfield 7, 3) := dk_180 0 7 (dk_at dksX4_findStrata_1 9 rfl rfl)
theorem dX4_findStrata_36 : decode cX4_findStrata 36 = .ok (.iconst 1, 1) := dk_4 (dk_at dksX4_findStrata_1 12 rfl rfl)
theorem dX4_findStrata_37 : decode cX4_findStrata 37 = .ok (.iaload, 1) := dk_46 (dk_at dksX4_findStrata_1 13 rfl rfl)
theorem dX4_findStrata_38 : decode cX4_findStrata 38 = .ok (.if_icmp .ge 52, 3) := dk_162 0 52 (dk_at dksX4_findStrata_1 14 rfl rfl)
theorem dX4_findStrata_41 : decode cX4_findStrata 41 = .ok (.aload_n 0, 1) := dk_42 (dk_at dksX4_findStrata_1 17 rfl rfl)
theorem dX4_findStrata_42 : decode cX4_findStrata 42 = .ok (.iload_n 2, 1) := dk_28 (dk_at dksX4_findStrata_1 18 rfl rfl)
theorem dX4_findStrata_43 : decode cX4_findStrata 43 = .ok (.invokevirtual 233, 3) := dk_182 0 233 (dk_at dksX4_findStrata_1 19 rfl rfl)
theorem dX4_findStrata_46 : decode cX4_findStrata 46 = .ok (.istore_n 3, 1) := dk_62 (dk_at dksX4_findStrata_1 22 rfl rfl)
theorem dX4_findStrata_47 : decode cX4_findStrata 47 = .ok (.iload_n 3, 1) := dk_29 (dk_at dksX4_findStrata_1 23 rfl rfl)
theorem dX4_findStrata_48 : decode cX4_findStrata 48 = .ok (.bipush 8, 2) := dk_16 8 (dk_at dksX4_findStrata_2 0 rfl rfl)
theorem dX4_findStrata_50 : decode cX4_findStrata 50 = .ok (.if_icmp .lt 5, 3) := dk_161 0 5 (dk_at dksX4_findStrata_2 2 rfl rfl)
theorem dX4_findStrata_53 : decode cX4_findStrata 53 = .ok (.iconst 0, 1) := dk_3 (dk_at dksX4_findStrata_2 5 rfl rfl)
theorem dX4_findStrata_54 : decode cX4_findStrata 54 = .ok (.ireturn, 1) := dk_172 (dk_at dksX4_findStrata_2 6 rfl rfl)
theorem dX4_findStrata_55 : decode cX4_findStrata 55 = .ok (.aload_n 0, 1) := dk_42 (dk_at dksX4_findStrata_2 7 rfl rfl)
theorem dX4_findStrata_56 : decode cX4_findStrata 56 = .ok (.getfield 73, 3) := dk_180 0 73 (dk_at dksX4_findStrata_2 8 rfl rfl)
theorem dX4_findStrata_59 : decode cX4_findStrata 59 = .ok (.aload_n 0, 1) := dk_42 (dk_at dksX4_findStrata_2 11 rfl rfl)
theorem dX4_findStrata_60 : decode cX4_findStrata 60 = .ok (.getfield 19, 3) := dk_180 0 19 (dk_at dksX4_findStrata_2 12 rfl rfl)
theorem dX4_findStrata_63 : decode cX4_findStrata 63 = .ok (.iload_n 2, 1) := dk_28 (dk_at dksX4_findStrata_2 15 rfl rfl)
theorem dX4_findStrata_64 : decode cX4_findStrata 64 = .ok (.iaload, 1) := dk_46 (dk_at dksX4_findStrata_2 16 rfl rfl)
theorem dX4_findStrata_65 : decode cX4_findStrata 65 = .ok (.iaload, 1) := dk_46 (dk_at dksX4_findStrata_2 17 rfl rfl)
theorem dX4_findStrata_66 : decode cX4_findStrata 66 = .ok (.iload_n 3, 1) := dk_29 (dk_at dksX4_findStrata_2 18 rfl rfl)
theorem dX4_findStrata_67 : decode cX4_findStrata 67 = .ok (.if_icmp .ge 17, 3) := dk_162 0 17 (dk_at dksX4_findStrata_2 19 rfl rfl)
theorem dX4_findStrata_70 : decode cX4_findStrata 70 = .ok (.aload_n 0, 1) := dk_42 (dk_at dksX4_findStrata_2 22 rfl rfl)
theorem dX4_findStrata_71 : decode cX4_findStrata 71 = .ok (.getfield 73, 3) := dk_180 0 73 (dk_at dksX4_findStrata_3 0 rfl rfl)
theorem dX4_findStrata_74 : decode cX4_findStrata 74 = .ok (.aload_n 0, 1) := dk_42 (dk_at dksX4_findStrata_3 3 rfl rfl)
theorem dX4_findStrata_75 : decode cX4_findStrata 75 = .ok (.getfield 19, 3) := dk_180 0 19 (dk_at dksX4_findStrata_3 4 rfl rfl)
theorem dX4_findStrata_78 : decode cX4_findStrata 78 = .ok (.iload_n 2, 1) := dk_28 (dk_at dksX4_findStrata_3 7 rfl rfl)
theorem dX4_findStrata_79 : decode cX4_findStrata 79 = .ok (.iaload, 1) := dk_46 (dk_at dksX4_findStrata_3 8 rfl rfl)
theorem dX4_findStrata_80 : decode cX4_findStrata 80 = .ok (.iload_n 3, 1) := dk_29 (dk_at dksX4_findStrata_3 9 rfl rfl)
theorem dX4_findStrata_81 : decode cX4_findStrata 81 = .ok (.iastore, 1) := dk_79 (dk_at dksX4_findStrata_3 10 rfl rfl)
theorem dX4_findStrata_82 : decode cX4_findStrata 82 = .ok (.iconst 1, 1) := dk_4 (dk_at dksX4_findStrata_3 11 rfl rfl)
theorem dX4_findStrata_83 : decode cX4_findStrata 83 = .ok (.istore_n 1, 1) := dk_60 (dk_at dksX4_findStrata_3 12 rfl rfl)
theorem dX4_findStrata_84 : decode cX4_findStrata 84 = .ok (.iinc 2 1, 3) := dk_132 2 1 (dk_at dksX4_findStrata_3 13 rfl rfl)
theorem dX4_findStrata_87 : decode cX4_findStrata 87 = .ok (.goto (-56), 3) := dk_167 255 200 (dk_at dksX4_findStrata_3 16 rfl rfl)
theorem dX4_findStrata_90 : decode cX4_findStrata 90 = .ok (.goto (-67), 3) := dk_167 255 189 (dk_at dksX4_findStrata_3 19 rfl rfl)
theorem dX4_findStrata_93 : decode cX4_findStrata 93 = .ok (.iconst 1, 1) := dk_4 (dk_at dksX4_findStrata_3 22 rfl rfl)
theorem dX4_findStrata_94 : decode cX4_findStrata 94 = .ok (.ireturn, 1) := dk_172 (dk_at dksX4_findStrata_3 23 rfl rfl)
abbrev cX4_leastStratum : ByteArray := prog_19_method_35_code
def yX4_leastStratum : MethodName := ⟨RX4, "leastStratum", "(I)I"⟩
def dkwX4_leastStratum_4 : List UInt8 := [132, 3, 1, 167, 255, 162, 28, 172]
abbrev dktX4_leastStratum_4 : List UInt8 := dkwX4_leastStratum_4 ++ []
def dkwX4_leastStratum_3 : List UInt8 := [153, 0, 7, 4, 167, 0, 4, 3, 96, 54, 6, 21, 6, 28, 164, 0, 8, 21, 6, 167, 0, 4, 28, 61]
abbrev dktX4_leastStratum_3 : List UInt8 := dkwX4_leastStratum_3 ++ dktX4_leastStratum_4
def dkwX4_leastStratum_2 : List UInt8 := [21, 4, 4, 164, 0, 7, 3, 167, 0, 25, 42, 180, 0, 73, 42, 27, 29, 182, 0, 152, 46, 21, 5]
abbrev dktX4_leastStratum_2 : List UInt8 := dkwX4_leastStratum_2 ++ dktX4_leastStratum_3
def dkwX4_leastStratum_1 : List UInt8 := [4, 159, 0, 16, 21, 4, 154, 0, 15, 42, 27, 182, 0, 236, 153, 0, 7, 4, 167, 0, 4, 3, 54, 5]
abbrev dktX4_leastStratum_1 : List UInt8 := dkwX4_leastStratum_1 ++ dktX4_leastStratum_2
def dkwX4_leastStratum_0 : List UInt8 := [3, 61, 3, 62, 29, 42, 180, 0, 25, 27, 46, 162, 0, 90, 42, 27, 29, 182, 0, 148, 54, 4, 21, 4]
abbrev dktX4_leastStratum_0 : List UInt8 := dkwX4_leastStratum_0 ++ dktX4_leastStratum_1
theorem dksX4_leastStratum_0 : cX4_leastStratum.data.toList.drop 0 = dktX4_leastStratum_0 := by decide +kernel
theorem dksX4_leastStratum_1 : cX4_leastStratum.data.toList.drop 24 = dktX4_leastStratum_1 := dk_seg dksX4_leastStratum_0 24 rfl rfl
theorem dksX4_leastStratum_2 : cX4_leastStratum.data.toList.drop 48 = dktX4_leastStratum_2 := dk_seg dksX4_leastStratum_1 24 rfl rfl
theorem dksX4_leastStratum_3 : cX4_leastStratum.data.toList.drop 71 = dktX4_leastStratum_3 := dk_seg dksX4_leastStratum_2 23 rfl rfl
theorem dksX4_leastStratum_4 : cX4_leastStratum.data.toList.drop 95 = dktX4_leastStratum_4 := dk_seg dksX4_leastStratum_3 24 rfl rfl
theorem dX4_leastStratum_0 : decode cX4_leastStratum 0 = .ok (.iconst 0, 1) := dk_3 (dk_at dksX4_leastStratum_0 0 rfl rfl)
theorem dX4_leastStratum_1 : decode cX4_leastStratum 1 = .ok (.istore_n 2, 1) := dk_61 (dk_at dksX4_leastStratum_0 1 rfl rfl)
theorem dX4_leastStratum_2 : decode cX4_leastStratum 2 = .ok (.iconst 0, 1) := dk_3 (dk_at dksX4_leastStratum_0 2 rfl rfl)
theorem dX4_leastStratum_3 : decode cX4_leastStratum 3 = .ok (.istore_n 3, 1) := dk_62 (dk_at dksX4_leastStratum_0 3 rfl rfl)
theorem dX4_leastStratum_4 : decode cX4_leastStratum 4 = .ok (.iload_n 3, 1) := dk_29 (dk_at dksX4_leastStratum_0 4 rfl rfl)
theorem dX4_leastStratum_5 : decode cX4_leastStratum 5 = .ok (.aload_n 0, 1) := dk_42 (dk_at dksX4_leastStratum_0 5 rfl rfl)
theorem dX4_leastStratum_6 : decode cX4_leastStratum 6 = .ok (.getfield 25, 3) := dk_180 0 25 (dk_at dksX4_leastStratum_0 6 rfl rfl)
theorem dX4_leastStratum_9 : decode cX4_leastStratum 9 = .ok (.iload_n 1, 1) := dk_27 (dk_at dksX4_leastStratum_0 9 rfl rfl)
theorem dX4_leastStratum_10 : decode cX4_leastStratum 10 = .ok (.iaload, 1) := dk_46 (dk_at dksX4_leastStratum_0 10 rfl rfl)
theorem dX4_leastStratum_11 : decode cX4_leastStratum 11 = .ok (.if_icmp .ge 90, 3) := dk_162 0 90 (dk_at dksX4_leastStratum_0 11 rfl rfl)
theorem dX4_leastStratum_14 : decode cX4_leastStratum 14 = .ok (.aload_n 0, 1) := dk_42 (dk_at dksX4_leastStratum_0 14 rfl rfl)
theorem dX4_leastStratum_15 : decode cX4_leastStratum 15 = .ok (.iload_n 1, 1) := dk_27 (dk_at dksX4_leastStratum_0 15 rfl rfl)
theorem dX4_leastStratum_16 : decode cX4_leastStratum 16 = .ok (.iload_n 3, 1) := dk_29 (dk_at dksX4_leastStratum_0 16 rfl rfl)
theorem dX4_leastStratum_17 : decode cX4_leastStratum 17 = .ok (.invokevirtual 148, 3) := dk_182 0 148 (dk_at dksX4_leastStratum_0 17 rfl rfl)
theorem dX4_leastStratum_20 : decode cX4_leastStratum 20 = .ok (.istore 4, 2) := dk_54 4 (dk_at dksX4_leastStratum_0 20 rfl rfl)
theorem dX4_leastStratum_22 : decode cX4_leastStratum 22 = .ok (.iload 4, 2) := dk_21 4 (dk_at dksX4_leastStratum_0 22 rfl rfl)
theorem dX4_leastStratum_24 : decode cX4_leastStratum 24 = .ok (.iconst 1, 1) := dk_4 (dk_at dksX4_leastStratum_1 0 rfl rfl)
theorem dX4_leastStratum_25 : decode cX4_leastStratum 25 = .ok (.if_icmp .eq 16, 3) := dk_159 0 16 (dk_at dksX4_leastStratum_1 1 rfl rfl)
theorem dX4_leastStratum_28 : decode cX4_leastStratum 28 = .ok (.iload 4, 2) := dk_21 4 (dk_at dksX4_leastStratum_1 4 rfl rfl)
theorem dX4_leastStratum_30 : decode cX4_leastStratum 30 = .ok (.ifCond .ne 15, 3) := dk_154 0 15 (dk_at dksX4_leastStratum_1 6 rfl rfl)
theorem dX4_leastStratum_33 : decode cX4_leastStratum 33 = .ok (.aload_n 0, 1) := dk_42 (dk_at dksX4_leastStratum_1 9 rfl rfl)
theorem dX4_leastStratum_34 : decode cX4_leastStratum 34 = .ok (.iload_n 1, 1) := dk_27 (dk_at dksX4_leastStratum_1 10 rfl rfl)
theorem dX4_leastStratum_35 : decode cX4_leastStratum 35 = .ok (.invokevirtual 236, 3) := dk_182 0 236 (dk_at dksX4_leastStratum_1 11 rfl rfl)
theorem dX4_leastStratum_38 : decode cX4_leastStratum 38 = .ok (.ifCond .eq 7, 3) := dk_153 0 7 (dk_at dksX4_leastStratum_1 14 rfl rfl)
theorem dX4_leastStratum_41 : decode cX4_leastStratum 41 = .ok (.iconst 1, 1) := dk_4 (dk_at dksX4_leastStratum_1 17 rfl rfl)
theorem dX4_leastStratum_42 : decode cX4_leastStratum 42 = .ok (.goto 4, 3) := dk_167 0 4 (dk_at dksX4_leastStratum_1 18 rfl rfl)
theorem dX4_leastStratum_45 : decode cX4_leastStratum 45 = .ok (.iconst 0, 1) := dk_3 (dk_at dksX4_leastStratum_1 21 rfl rfl)
theorem dX4_leastStratum_46 : decode cX4_leastStratum 46 = .ok (.istore 5, 2) := dk_54 5 (dk_at dksX4_leastStratum_1 22 rfl rfl)
theorem dX4_leastStratum_48 : decode cX4_leastStratum 48 = .ok (.iload 4, 2) := dk_21 4 (dk_at dksX4_leastStratum_2 0 rfl rfl)
theorem dX4_leastStratum_50 : decode cX4_leastStratum 50 = .ok (.iconst 1, 1) := dk_4 (dk_at dksX4_leastStratum_2 2 rfl rfl)
theorem dX4_leastStratum_51 : decode cX4_leastStratum 51 = .ok (.if_icmp .le 7, 3) := dk_164 0 7 (dk_at dksX4_leastStratum_2 3 rfl rfl)
theorem dX4_leastStratum_54 : decode cX4_leastStratum 54 = .ok (.iconst 0, 1) := dk_3 (dk_at dksX4_leastStratum_2 6 rfl rfl)
theorem dX4_leastStratum_55 : decode cX4_leastStratum 55 = .ok (.goto 25, 3) := dk_167 0 25 (dk_at dksX4_leastStratum_2 7 rfl rfl)
theorem dX4_leastStratum_58 : decode cX4_leastStratum 58 = .ok (.aload_n 0, 1) := dk_42 (dk_at dksX4_leastStratum_2 10 rfl rfl)
theorem dX4_leastStratum_59 : decode cX4_leastStratum 59 = .ok (.getfield 73, 3) := dk_180 0 73 (dk_at dksX4_leastStratum_2 11 rfl rfl)
theorem dX4_leastStratum_62 : decode cX4_leastStratum 62 = .ok (.aload_n 0, 1) := dk_42 (dk_at dksX4_leastStratum_2 14 rfl rfl)
theorem dX4_leastStratum_63 : decode cX4_leastStratum 63 = .ok (.iload_n 1, 1) := dk_27 (dk_at dksX4_leastStratum_2 15 rfl rfl)
theorem dX4_leastStratum_64 : decode cX4_leastStratum 64 = .ok (.iload_n 3, 1) := dk_29 (dk_at dksX4_leastStratum_2 16 rfl rfl)
theorem dX4_leastStratum_65 : decode cX4_leastStratum 65 = .ok (.invokevirtual 152, 3) := dk_182 0 152 (dk_at dksX4_leastStratum_2 17 rfl rfl)
theorem dX4_leastStratum_68 : decode cX4_leastStratum 68 = .ok (.iaload, 1) := dk_46 (dk_at dksX4_leastStratum_2 20 rfl rfl)
theorem dX4_leastStratum_69 : decode cX4_leastStratum 69 = .ok (.iload 5, 2) := dk_21 5 (dk_at dksX4_leastStratum_2 21 rfl rfl)
theorem dX4_leastStratum_71 : decode cX4_leastStratum 71 = .ok (.ifCond .eq 7, 3) := dk_153 0 7 (dk_at dksX4_leastStratum_3 0 rfl rfl)
theorem dX4_leastStratum_74 : decode cX4_leastStratum 74 = .ok (.iconst 1, 1) := dk_4 (dk_at dksX4_leastStratum_3 3 rfl rfl)
theorem dX4_leastStratum_75 : decode cX4_leastStratum 75 = .ok (.goto 4, 3) := dk_167 0 4 (dk_at dksX4_leastStratum_3 4 rfl rfl)
theorem dX4_leastStratum_78 : decode cX4_leastStratum 78 = .ok (.iconst 0, 1) := dk_3 (dk_at dksX4_leastStratum_3 7 rfl rfl)
theorem dX4_leastStratum_79 : decode cX4_leastStratum 79 = .ok (.iadd, 1) := dk_96 (dk_at dksX4_leastStratum_3 8 rfl rfl)
theorem dX4_leastStratum_80 : decode cX4_leastStratum 80 = .ok (.istore 6, 2) := dk_54 6 (dk_at dksX4_leastStratum_3 9 rfl rfl)
theorem dX4_leastStratum_82 : decode cX4_leastStratum 82 = .ok (.iload 6, 2) := dk_21 6 (dk_at dksX4_leastStratum_3 11 rfl rfl)
theorem dX4_leastStratum_84 : decode cX4_leastStratum 84 = .ok (.iload_n 2, 1) := dk_28 (dk_at dksX4_leastStratum_3 13 rfl rfl)
theorem dX4_leastStratum_85 : decode cX4_leastStratum 85 = .ok (.if_icmp .le 8, 3) := dk_164 0 8 (dk_at dksX4_leastStratum_3 14 rfl rfl)
theorem dX4_leastStratum_88 : decode cX4_leastStratum 88 = .ok (.iload 6, 2) := dk_21 6 (dk_at dksX4_leastStratum_3 17 rfl rfl)
theorem dX4_leastStratum_90 : decode cX4_leastStratum 90 = .ok (.goto 4, 3) := dk_167 0 4 (dk_at dksX4_leastStratum_3 19 rfl rfl)
theorem dX4_leastStratum_93 : decode cX4_leastStratum 93 = .ok (.iload_n 2, 1) := dk_28 (dk_at dksX4_leastStratum_3 22 rfl rfl)
theorem dX4_leastStratum_94 : decode cX4_leastStratum 94 = .ok (.istore_n 2, 1) := dk_61 (dk_at dksX4_leastStratum_3 23 rfl rfl)
theorem dX4_leastStratum_95 : decode cX4_leastStratum 95 = .ok (.iinc 3 1, 3) := dk_132 3 1 (dk_at dksX4_leastStratum_4 0 rfl rfl)
theorem dX4_leastStratum_98 : decode cX4_leastStratum 98 = .ok (.goto (-94), 3) := dk_167 255 162 (dk_at dksX4_leastStratum_4 3 rfl rfl)
theorem dX4_leastStratum_101 : decode cX4_leastStratum 101 = .ok (.iload_n 2, 1) := dk_28 (dk_at dksX4_leastStratum_4 6 rfl rfl)
theorem dX4_leastStratum_102 : decode cX4_leastStratum 102 = .ok (.ireturn, 1) := dk_172 (dk_at dksX4_leastStratum_4 7 rfl rfl)
abbrev cX4_kindOf : ByteArray := prog_19_method_12_code
def yX4_kindOf : MethodName := ⟨RX4, "kindOf", "(II)I"⟩
def dkwX4_kindOf_0 : List UInt8 := [42, 180, 0, 28, 16, 6, 27, 104, 28, 96, 46, 172]
abbrev dktX4_kindOf_0 : List UInt8 := dkwX4_kindOf_0 ++ []
theorem dksX4_kindOf_0 : cX4_kindOf.data.toList.drop 0 = dktX4_kindOf_0 := by decide +kernel
theorem dX4_kindOf_0 : decode cX4_kindOf 0 = .ok (.aload_n 0, 1) := dk_42 (dk_at dksX4_kindOf_0 0 rfl rfl)
theorem dX4_kindOf_1 : decode cX4_kindOf 1 = .ok (.getfield 28, 3) := dk_180 0 28 (dk_at dksX4_kindOf_0 1 rfl rfl)
theorem dX4_kindOf_4 : decode cX4_kindOf 4 = .ok (.bipush 6, 2) := dk_16 6 (dk_at dksX4_kindOf_0 4 rfl rfl)
theorem dX4_kindOf_6 : decode cX4_kindOf 6 = .ok (.iload_n 1, 1) := dk_27 (dk_at dksX4_kindOf_0 6 rfl rfl)
theorem dX4_kindOf_7 : decode cX4_kindOf 7 = .ok (.imul, 1) := dk_104 (dk_at dksX4_kindOf_0 7 rfl rfl)
theorem dX4_kindOf_8 : decode cX4_kindOf 8 = .ok (.iload_n 2, 1) := dk_28 (dk_at dksX4_kindOf_0 8 rfl rfl)
theorem dX4_kindOf_9 : decode cX4_kindOf 9 = .ok (.iadd, 1) := dk_96 (dk_at dksX4_kindOf_0 9 rfl rfl)
theorem dX4_kindOf_10 : decode cX4_kindOf 10 = .ok (.iaload, 1) := dk_46 (dk_at dksX4_kindOf_0 10 rfl rfl)
theorem dX4_kindOf_11 : decode cX4_kindOf 11 = .ok (.ireturn, 1) := dk_172 (dk_at dksX4_kindOf_0 11 rfl rfl)
abbrev cX4_isGathering : ByteArray := prog_19_method_26_code
def yX4_isGathering : MethodName := ⟨RX4, "isGathering", "(I)Z"⟩
def dkwX4_isGathering_2 : List UInt8 := [167, 255, 212, 28, 172]
abbrev dktX4_isGathering_2 : List UInt8 := dkwX4_isGathering_2 ++ []
def dkwX4_isGathering_1 : List UInt8 := [180, 0, 22, 6, 27, 104, 29, 96, 46, 17, 0, 200, 161, 0, 7, 4, 167, 0, 4, 3, 61, 132, 3, 1]
abbrev dktX4_isGathering_1 : List UInt8 := dkwX4_isGathering_1 ++ dktX4_isGathering_2
def dkwX4_isGathering_0 : List UInt8 := [3, 61, 3, 62, 29, 42, 180, 0, 13, 42, 180, 0, 19, 27, 46, 46, 162, 0, 35, 28, 154, 0, 19, 42]
abbrev dktX4_isGathering_0 : List UInt8 := dkwX4_isGathering_0 ++ dktX4_isGathering_1
theorem dksX4_isGathering_0 : cX4_isGathering.data.toList.drop 0 = dktX4_isGathering_0 := by decide +kernel
theorem dksX4_isGathering_1 : cX4_isGathering.data.toList.drop 24 = dktX4_isGathering_1 := dk_seg dksX4_isGathering_0 24 rfl rfl
theorem dksX4_isGathering_2 : cX4_isGathering.data.toList.drop 48 = dktX4_isGathering_2 := dk_seg dksX4_isGathering_1 24 rfl rfl
theorem dX4_isGathering_0 : decode cX4_isGathering 0 = .ok (.iconst 0, 1) := dk_3 (dk_at dksX4_isGathering_0 0 rfl rfl)
theorem dX4_isGathering_1 : decode cX4_isGathering 1 = .ok (.istore_n 2, 1) := dk_61 (dk_at dksX4_isGathering_0 1 rfl rfl)
theorem dX4_isGathering_2 : decode cX4_isGathering 2 = .ok (.iconst 0, 1) := dk_3 (dk_at dksX4_isGathering_0 2 rfl rfl)
theorem dX4_isGathering_3 : decode cX4_isGathering 3 = .ok (.istore_n 3, 1) := dk_62 (dk_at dksX4_isGathering_0 3 rfl rfl)
theorem dX4_isGathering_4 : decode cX4_isGathering 4 = .ok (.iload_n 3, 1) := dk_29 (dk_at dksX4_isGathering_0 4 rfl rfl)
theorem dX4_isGathering_5 : decode cX4_isGathering 5 = .ok (.aload_n 0, 1) := dk_42 (dk_at dksX4_isGathering_0 5 rfl rfl)
theorem dX4_isGathering_6 : decode cX4_isGathering 6 = .ok (.getfield 13, 3) := dk_180 0 13 (dk_at dksX4_isGathering_0 6 rfl rfl)
theorem dX4_isGathering_9 : decode cX4_isGathering 9 = .ok (.aload_n 0, 1) := dk_42 (dk_at dksX4_isGathering_0 9 rfl rfl)
theorem dX4_isGathering_10 : decode cX4_isGathering 10 = .ok (.getfield 19, 3) := dk_180 0 19 (dk_at dksX4_isGathering_0 10 rfl rfl)
theorem dX4_isGathering_13 : decode cX4_isGathering 13 = .ok (.iload_n 1, 1) := dk_27 (dk_at dksX4_isGathering_0 13 rfl rfl)
theorem dX4_isGathering_14 : decode cX4_isGathering 14 = .ok (.iaload, 1) := dk_46 (dk_at dksX4_isGathering_0 14 rfl rfl)
theorem dX4_isGathering_15 : decode cX4_isGathering 15 = .ok (.iaload, 1) := dk_46 (dk_at dksX4_isGathering_0 15 rfl rfl)
theorem dX4_isGathering_16 : decode cX4_isGathering 16 = .ok (.if_icmp .ge 35, 3) := dk_162 0 35 (dk_at dksX4_isGathering_0 16 rfl rfl)
theorem dX4_isGathering_19 : decode cX4_isGathering 19 = .ok (.iload_n 2, 1) := dk_28 (dk_at dksX4_isGathering_0 19 rfl rfl)
theorem dX4_isGathering_20 : decode cX4_isGathering 20 = .ok (.ifCond .ne 19, 3) := dk_154 0 19 (dk_at dksX4_isGathering_0 20 rfl rfl)
theorem dX4_isGathering_23 : decode cX4_isGathering 23 = .ok (.aload_n 0, 1) := dk_42 (dk_at dksX4_isGathering_0 23 rfl rfl)
theorem dX4_isGathering_24 : decode cX4_isGathering 24 = .ok (.getfield 22, 3) := dk_180 0 22 (dk_at dksX4_isGathering_1 0 rfl rfl)
theorem dX4_isGathering_27 : decode cX4_isGathering 27 = .ok (.iconst 3, 1) := dk_6 (dk_at dksX4_isGathering_1 3 rfl rfl)
theorem dX4_isGathering_28 : decode cX4_isGathering 28 = .ok (.iload_n 1, 1) := dk_27 (dk_at dksX4_isGathering_1 4 rfl rfl)
theorem dX4_isGathering_29 : decode cX4_isGathering 29 = .ok (.imul, 1) := dk_104 (dk_at dksX4_isGathering_1 5 rfl rfl)
theorem dX4_isGathering_30 : decode cX4_isGathering 30 = .ok (.iload_n 3, 1) := dk_29 (dk_at dksX4_isGathering_1 6 rfl rfl)
theorem dX4_isGathering_31 : decode cX4_isGathering 31 = .ok (.iadd, 1) := dk_96 (dk_at dksX4_isGathering_1 7 rfl rfl)
theorem dX4_isGathering_32 : decode cX4_isGathering 32 = .ok (.iaload, 1) := dk_46 (dk_at dksX4_isGathering_1 8 rfl rfl)
theorem dX4_isGathering_33 : decode cX4_isGathering 33 = .ok (.sipush 200, 3) := dk_17 0 200 (dk_at dksX4_isGathering_1 9 rfl rfl)
theorem dX4_isGathering_36 : decode cX4_isGathering 36 = .ok (.if_icmp .lt 7, 3) := dk_161 0 7 (dk_at dksX4_isGathering_1 12 rfl rfl)
theorem dX4_isGathering_39 : decode cX4_isGathering 39 = .ok (.iconst 1, 1) := dk_4 (dk_at dksX4_isGathering_1 15 rfl rfl)
theorem dX4_isGathering_40 : decode cX4_isGathering 40 = .ok (.goto 4, 3) := dk_167 0 4 (dk_at dksX4_isGathering_1 16 rfl rfl)
theorem dX4_isGathering_43 : decode cX4_isGathering 43 = .ok (.iconst 0, 1) := dk_3 (dk_at dksX4_isGathering_1 19 rfl rfl)
theorem dX4_isGathering_44 : decode cX4_isGathering 44 = .ok (.istore_n 2, 1) := dk_61 (dk_at dksX4_isGathering_1 20 rfl rfl)
theorem dX4_isGathering_45 : decode cX4_isGathering 45 = .ok (.iinc 3 1, 3) := dk_132 3 1 (dk_at dksX4_isGathering_1 21 rfl rfl)
theorem dX4_isGathering_48 : decode cX4_isGathering 48 = .ok (.goto (-44), 3) := dk_167 255 212 (dk_at dksX4_isGathering_2 0 rfl rfl)
theorem dX4_isGathering_51 : decode cX4_isGathering 51 = .ok (.iload_n 2, 1) := dk_28 (dk_at dksX4_isGathering_2 3 rfl rfl)
theorem dX4_isGathering_52 : decode cX4_isGathering 52 = .ok (.ireturn, 1) := dk_172 (dk_at dksX4_isGathering_2 4 rfl rfl)
abbrev cX4_whatOf : ByteArray := prog_19_method_13_code
def yX4_whatOf : MethodName := ⟨RX4, "whatOf", "(II)I"⟩
def dkwX4_whatOf_0 : List UInt8 := [42, 180, 0, 31, 16, 6, 27, 104, 28, 96, 46, 172]
abbrev dktX4_whatOf_0 : List UInt8 := dkwX4_whatOf_0 ++ []
theorem dksX4_whatOf_0 : cX4_whatOf.data.toList.drop 0 = dktX4_whatOf_0 := by decide +kernel
theorem dX4_whatOf_0 : decode cX4_whatOf 0 = .ok (.aload_n 0, 1) := dk_42 (dk_at dksX4_whatOf_0 0 rfl rfl)
theorem dX4_whatOf_1 : decode cX4_whatOf 1 = .ok (.getfield 31, 3) := dk_180 0 31 (dk_at dksX4_whatOf_0 1 rfl rfl)
theorem dX4_whatOf_4 : decode cX4_whatOf 4 = .ok (.bipush 6, 2) := dk_16 6 (dk_at dksX4_whatOf_0 4 rfl rfl)
theorem dX4_whatOf_6 : decode cX4_whatOf 6 = .ok (.iload_n 1, 1) := dk_27 (dk_at dksX4_whatOf_0 6 rfl rfl)
theorem dX4_whatOf_7 : decode cX4_whatOf 7 = .ok (.imul, 1) := dk_104 (dk_at dksX4_whatOf_0 7 rfl rfl)
theorem dX4_whatOf_8 : decode cX4_whatOf 8 = .ok (.iload_n 2, 1) := dk_28 (dk_at dksX4_whatOf_0 8 rfl rfl)
theorem dX4_whatOf_9 : decode cX4_whatOf 9 = .ok (.iadd, 1) := dk_96 (dk_at dksX4_whatOf_0 9 rfl rfl)
theorem dX4_whatOf_10 : decode cX4_whatOf 10 = .ok (.iaload, 1) := dk_46 (dk_at dksX4_whatOf_0 10 rfl rfl)
theorem dX4_whatOf_11 : decode cX4_whatOf 11 = .ok (.ireturn, 1) := dk_172 (dk_at dksX4_whatOf_0 11 rfl rfl)
abbrev cX4_insert : ByteArray := prog_19_method_36_code
def yX4_insert : MethodName := ⟨RX4, "insert", "(I)V"⟩
def dkwX4_insert_3 : List UInt8 := [42, 180, 0, 52, 28, 27, 79, 42, 180, 0, 7, 16, 6, 92, 46, 4, 96, 79, 177]
abbrev dktX4_insert_3 : List UInt8 := dkwX4_insert_3 ++ []
def dkwX4_insert_2 : List UInt8 := [27, 164, 0, 23, 42, 180, 0, 52, 28, 42, 180, 0, 52, 28, 4, 100, 46, 79, 132, 2, 255, 167, 255, 223]
abbrev dktX4_insert_2 : List UInt8 := dkwX4_insert_2 ++ dktX4_insert_3
def dkwX4_insert_1 : List UInt8 := [181, 0, 239, 177, 42, 180, 0, 7, 16, 6, 46, 61, 28, 158, 0, 35, 42, 180, 0, 52, 28, 4, 100, 46]
abbrev dktX4_insert_1 : List UInt8 := dkwX4_insert_1 ++ dktX4_insert_2
def dkwX4_insert_0 : List UInt8 := [42, 27, 182, 0, 192, 2, 159, 0, 4, 177, 42, 180, 0, 7, 16, 6, 46, 16, 60, 160, 0, 9, 42, 4]
abbrev dktX4_insert_0 : List UInt8 := dkwX4_insert_0 ++ dktX4_insert_1
theorem dksX4_insert_0 : cX4_insert.data.toList.drop 0 = dktX4_insert_0 := by decide +kernel
theorem dksX4_insert_1 : cX4_insert.data.toList.drop 24 = dktX4_insert_1 := dk_seg dksX4_insert_0 24 rfl rfl
theorem dksX4_insert_2 : cX4_insert.data.toList.drop 48 = dktX4_insert_2 := dk_seg dksX4_insert_1 24 rfl rfl
theorem dksX4_insert_3 : cX4_insert.data.toList.drop 72 = dktX4_insert_3 := dk_seg dksX4_insert_2 24 rfl rfl
theorem dX4_insert_0 : decode cX4_insert 0 = .ok (.aload_n 0, 1) := dk_42 (dk_at dksX4_insert_0 0 rfl rfl)
theorem dX4_insert_1 : decode cX4_insert 1 = .ok (.iload_n 1, 1) := dk_27 (dk_at dksX4_insert_0 1 rfl rfl)
theorem dX4_insert_2 : decode cX4_insert 2 = .ok (.invokevirtual 192, 3) := dk_182 0 192 (dk_at dksX4_insert_0 2 rfl rfl)
theorem dX4_insert_5 : decode cX4_insert 5 = .ok (.iconst (-1), 1) := dk_2 (dk_at dksX4_insert_0 5 rfl rfl)
theorem dX4_insert_6 : decode cX4_insert 6 = .ok (.if_icmp .eq 4, 3) := dk_159 0 4 (dk_at dksX4_insert_0 6 rfl rfl)
theorem dX4_insert_9 : decode cX4_insert 9 = .ok (.return_, 1) := dk_177 (dk_at dksX4_insert_0 9 rfl rfl)
theorem dX4_insert_10 : decode cX4_insert 10 = .ok (.aload_n 0, 1) := dk_42 (dk_at dksX4_insert_0 10 rfl rfl)
theorem dX4_insert_11 : decode cX4_insert 11 = .ok (.getfield 7, 3) := dk_180 0 7 (dk_at dksX4_insert_0 11 rfl rfl)
theorem dX4_insert_14 : decode cX4_insert 14 = .ok (.bipush 6, 2) := dk_16 6 (dk_at dksX4_insert_0 14 rfl rfl)
theorem dX4_insert_16 : decode cX4_insert 16 = .ok (.iaload, 1) := dk_46 (dk_at dksX4_insert_0 16 rfl rfl)
theorem dX4_insert_17 : decode cX4_insert 17 = .ok (.bipush 60, 2) := dk_16 60 (dk_at dksX4_insert_0 17 rfl rfl)
theorem dX4_insert_19 : decode cX4_insert 19 = .ok (.if_icmp .ne 9, 3) := dk_160 0 9 (dk_at dksX4_insert_0 19 rfl rfl)
theorem dX4_insert_22 : decode cX4_insert 22 = .ok (.aload_n 0, 1) := dk_42 (dk_at dksX4_insert_0 22 rfl rfl)
theorem dX4_insert_23 : decode cX4_insert 23 = .ok (.iconst 1, 1) := dk_4 (dk_at dksX4_insert_0 23 rfl rfl)
theorem dX4_insert_24 : decode cX4_insert 24 = .ok (.putfield 239, 3) := dk_181 0 239 (dk_at dksX4_insert_1 0 rfl rfl)
theorem dX4_insert_27 : decode cX4_insert 27 = .ok (.return_, 1) := dk_177 (dk_at dksX4_insert_1 3 rfl rfl)
theorem dX4_insert_28 : decode cX4_insert 28 = .ok (.aload_n 0, 1) := dk_42 (dk_at dksX4_insert_1 4 rfl rfl)
theorem dX4_insert_29 : decode cX4_insert 29 = .ok (.getfield 7, 3) := dk_180 0 7 (dk_at dksX4_insert_1 5 rfl rfl)
theorem dX4_insert_32 : decode cX4_insert 32 = .ok (.bipush 6, 2) := dk_16 6 (dk_at dksX4_insert_1 8 rfl rfl)
theorem dX4_insert_34 : decode cX4_insert 34 = .ok (.iaload, 1) := dk_46 (dk_at dksX4_insert_1 10 rfl rfl)
theorem dX4_insert_35 : decode cX4_insert 35 = .ok (.istore_n 2, 1) := dk_61 (dk_at dksX4_insert_1 11 rfl rfl)
theorem dX4_insert_36 : decode cX4_insert 36 = .ok (.iload_n 2, 1) := dk_28 (dk_at dksX4_insert_1 12 rfl rfl)
theorem dX4_insert_37 : decode cX4_insert 37 = .ok (.ifCond .le 35, 3) := dk_158 0 35 (dk_at dksX4_insert_1 13 rfl rfl)
theorem dX4_insert_40 : decode cX4_insert 40 = .ok (.aload_n 0, 1) := dk_42 (dk_at dksX4_insert_1 16 rfl rfl)
theorem dX4_insert_41 : decode cX4_insert 41 = .ok (.getfield 52, 3) := dk_180 0 52 (dk_at dksX4_insert_1 17 rfl rfl)
theorem dX4_insert_44 : decode cX4_insert 44 = .ok (.iload_n 2, 1) := dk_28 (dk_at dksX4_insert_1 20 rfl rfl)
theorem dX4_insert_45 : decode cX4_insert 45 = .ok (.iconst 1, 1) := dk_4 (dk_at dksX4_insert_1 21 rfl rfl)
theorem dX4_insert_46 : decode cX4_insert 46 = .ok (.isub, 1) := dk_100 (dk_at dksX4_insert_1 22 rfl rfl)
theorem dX4_insert_47 : decode cX4_insert 47 = .ok (.iaload, 1) := dk_46 (dk_at dksX4_insert_1 23 rfl rfl)
theorem dX4_insert_48 : decode cX4_insert 48 = .ok (.iload_n 1, 1) := dk_27 (dk_at dksX4_insert_2 0 rfl rfl)
theorem dX4_insert_49 : decode cX4_insert 49 = .ok (.if_icmp .le 23, 3) := dk_164 0 23 (dk_at dksX4_insert_2 1 rfl rfl)
theorem dX4_insert_52 : decode cX4_insert 52 = .ok (.aload_n 0, 1) := dk_42 (dk_at dksX4_insert_2 4 rfl rfl)
theorem dX4_insert_53 : decode cX4_insert 53 = .ok (.getfield 52, 3) := dk_180 0 52 (dk_at dksX4_insert_2 5 rfl rfl)
theorem dX4_insert_56 : decode cX4_insert 56 = .ok (.iload_n 2, 1) := dk_28 (dk_at dksX4_insert_2 8 rfl rfl)
theorem dX4_insert_57 : decode cX4_insert 57 = .ok (.aload_n 0, 1) := dk_42 (dk_at dksX4_insert_2 9 rfl rfl)
theorem dX4_insert_58 : decode cX4_insert 58 = .ok (.getfield 52, 3) := dk_180 0 52 (dk_at dksX4_insert_2 10 rfl rfl)
theorem dX4_insert_61 : decode cX4_insert 61 = .ok (.iload_n 2, 1) := dk_28 (dk_at dksX4_insert_2 13 rfl rfl)
theorem dX4_insert_62 : decode cX4_insert 62 = .ok (.iconst 1, 1) := dk_4 (dk_at dksX4_insert_2 14 rfl rfl)
theorem dX4_insert_63 : decode cX4_insert 63 = .ok (.isub, 1) := dk_100 (dk_at dksX4_insert_2 15 rfl rfl)
theorem dX4_insert_64 : decode cX4_insert 64 = .ok (.iaload, 1) := dk_46 (dk_at dksX4_insert_2 16 rfl rfl)
theorem dX4_insert_65 : decode cX4_insert 65 = .ok (.iastore, 1) := dk_79 (dk_at dksX4_insert_2 17 rfl rfl)
theorem dX4_insert_66 : decode cX4_insert 66 = .ok (.iinc 2 (-1), 3) := dk_132 2 255 (dk_at dksX4_insert_2 18 rfl rfl)
theorem dX4_insert_69 : decode cX4_insert 69 = .ok (.goto (-33), 3) := dk_167 255 223 (dk_at dksX4_insert_2 21 rfl rfl)
theorem dX4_insert_72 : decode cX4_insert 72 = .ok (.aload_n 0, 1) := dk_42 (dk_at dksX4_insert_3 0 rfl rfl)
theorem dX4_insert_73 : decode cX4_insert 73 = .ok (.getfield 52, 3) := dk_180 0 52 (dk_at dksX4_insert_3 1 rfl rfl)
theorem dX4_insert_76 : decode cX4_insert 76 = .ok (.iload_n 2, 1) := dk_28 (dk_at dksX4_insert_3 4 rfl rfl)
theorem dX4_insert_77 : decode cX4_insert 77 = .ok (.iload_n 1, 1) := dk_27 (dk_at dksX4_insert_3 5 rfl rfl)
theorem dX4_insert_78 : decode cX4_insert 78 = .ok (.iastore, 1) := dk_79 (dk_at dksX4_insert_3 6 rfl rfl)
theorem dX4_insert_79 : decode cX4_insert 79 = .ok (.aload_n 0, 1) := dk_42 (dk_at dksX4_insert_3 7 rfl rfl)
theorem dX4_insert_80 : decode cX4_insert 80 = .ok (.getfield 7, 3) := dk_180 0 7 (dk_at dksX4_insert_3 8 rfl rfl)
theorem dX4_insert_83 : decode cX4_insert 83 = .ok (.bipush 6, 2) := dk_16 6 (dk_at dksX4_insert_3 11 rfl rfl)
theorem dX4_insert_85 : decode cX4_insert 85 = .ok (.dup2, 1) := dk_92 (dk_at dksX4_insert_3 13 rfl rfl)
theorem dX4_insert_86 : decode cX4_insert 86 = .ok (.iaload, 1) := dk_46 (dk_at dksX4_insert_3 14 rfl rfl)
theorem dX4_insert_87 : decode cX4_insert 87 = .ok (.iconst 1, 1) := dk_4 (dk_at dksX4_insert_3 15 rfl rfl)
theorem dX4_insert_88 : decode cX4_insert 88 = .ok (.iadd, 1) := dk_96 (dk_at dksX4_insert_3 16 rfl rfl)
theorem dX4_insert_89 : decode cX4_insert 89 = .ok (.iastore, 1) := dk_79 (dk_at dksX4_insert_3 17 rfl rfl)
theorem dX4_insert_90 : decode cX4_insert 90 = .ok (.return_, 1) := dk_177 (dk_at dksX4_insert_3 18 rfl rfl)
abbrev cX4_indexOf : ByteArray := prog_19_method_33_code
def yX4_indexOf : MethodName := ⟨RX4, "indexOf", "(I)I"⟩
def dkwX4_indexOf_1 : List UInt8 := [160, 0, 7, 29, 167, 0, 4, 28, 61, 132, 3, 1, 167, 255, 226, 28, 172]
abbrev dktX4_indexOf_1 : List UInt8 := dkwX4_indexOf_1 ++ []
def dkwX4_indexOf_0 : List UInt8 := [2, 61, 3, 62, 29, 42, 180, 0, 7, 16, 6, 46, 162, 0, 25, 42, 180, 0, 52, 29, 46, 27]
abbrev dktX4_indexOf_0 : List UInt8 := dkwX4_indexOf_0 ++ dktX4_indexOf_1
theorem dksX4_indexOf_0 : cX4_indexOf.data.toList.drop 0 = dktX4_indexOf_0 := by decide +kernel
theorem dksX4_indexOf_1 : cX4_indexOf.data.toList.drop 22 = dktX4_indexOf_1 := dk_seg dksX4_indexOf_0 22 rfl rfl
theorem dX4_indexOf_0 : decode cX4_indexOf 0 = .ok (.iconst (-1), 1) := dk_2 (dk_at dksX4_indexOf_0 0 rfl rfl)
theorem dX4_indexOf_1 : decode cX4_indexOf 1 = .ok (.istore_n 2, 1) := dk_61 (dk_at dksX4_indexOf_0 1 rfl rfl)
theorem dX4_indexOf_2 : decode cX4_indexOf 2 = .ok (.iconst 0, 1) := dk_3 (dk_at dksX4_indexOf_0 2 rfl rfl)
theorem dX4_indexOf_3 : decode cX4_indexOf 3 = .ok (.istore_n 3, 1) := dk_62 (dk_at dksX4_indexOf_0 3 rfl rfl)
theorem dX4_indexOf_4 : decode cX4_indexOf 4 = .ok (.iload_n 3, 1) := dk_29 (dk_at dksX4_indexOf_0 4 rfl rfl)
theorem dX4_indexOf_5 : decode cX4_indexOf 5 = .ok (.aload_n 0, 1) := dk_42 (dk_at dksX4_indexOf_0 5 rfl rfl)
theorem dX4_indexOf_6 : decode cX4_indexOf 6 = .ok (.getfield 7, 3) := dk_180 0 7 (dk_at dksX4_indexOf_0 6 rfl rfl)
theorem dX4_indexOf_9 : decode cX4_indexOf 9 = .ok (.bipush 6, 2) := dk_16 6 (dk_at dksX4_indexOf_0 9 rfl rfl)
theorem dX4_indexOf_11 : decode cX4_indexOf 11 = .ok (.iaload, 1) := dk_46 (dk_at dksX4_indexOf_0 11 rfl rfl)
theorem dX4_indexOf_12 : decode cX4_indexOf 12 = .ok (.if_icmp .ge 25, 3) := dk_162 0 25 (dk_at dksX4_indexOf_0 12 rfl rfl)
theorem dX4_indexOf_15 : decode cX4_indexOf 15 = .ok (.aload_n 0, 1) := dk_42 (dk_at dksX4_indexOf_0 15 rfl rfl)
theorem dX4_indexOf_16 : decode cX4_indexOf 16 = .ok (.getfield 52, 3) := dk_180 0 52 (dk_at dksX4_indexOf_0 16 rfl rfl)
theorem dX4_indexOf_19 : decode cX4_indexOf 19 = .ok (.iload_n 3, 1) := dk_29 (dk_at dksX4_indexOf_0 19 rfl rfl)
theorem dX4_indexOf_20 : decode cX4_indexOf 20 = .ok (.iaload, 1) := dk_46 (dk_at dksX4_indexOf_0 20 rfl rfl)
theorem dX4_indexOf_21 : decode cX4_indexOf 21 = .ok (.iload_n 1, 1) := dk_27 (dk_at dksX4_indexOf_0 21 rfl rfl)
theorem dX4_indexOf_22 : decode cX4_indexOf 22 = .ok (.if_icmp .ne 7, 3) := dk_160 0 7 (dk_at dksX4_indexOf_1 0 rfl rfl)
theorem dX4_indexOf_25 : decode cX4_indexOf 25 = .ok (.iload_n 3, 1) := dk_29 (dk_at dksX4_indexOf_1 3 rfl rfl)
theorem dX4_indexOf_26 : decode cX4_indexOf 26 = .ok (.goto 4, 3) := dk_167 0 4 (dk_at dksX4_indexOf_1 4 rfl rfl)
theorem dX4_indexOf_29 : decode cX4_indexOf 29 = .ok (.iload_n 2, 1) := dk_28 (dk_at dksX4_indexOf_1 7 rfl rfl)
theorem dX4_indexOf_30 : decode cX4_indexOf 30 = .ok (.istore_n 2, 1) := dk_61 (dk_at dksX4_indexOf_1 8 rfl rfl)
theorem dX4_indexOf_31 : decode cX4_indexOf 31 = .ok (.iinc 3 1, 3) := dk_132 3 1 (dk_at dksX4_indexOf_1 9 rfl rfl)
theorem dX4_indexOf_34 : decode cX4_indexOf 34 = .ok (.goto (-30), 3) := dk_167 255 226 (dk_at dksX4_indexOf_1 12 rfl rfl)
theorem dX4_indexOf_37 : decode cX4_indexOf 37 = .ok (.iload_n 2, 1) := dk_28 (dk_at dksX4_indexOf_1 15 rfl rfl)
theorem dX4_indexOf_38 : decode cX4_indexOf 38 = .ok (.ireturn, 1) := dk_172 (dk_at dksX4_indexOf_1 16 rfl rfl)
abbrev cX4_give : ByteArray := prog_19_method_38_code
def yX4_give : MethodName := ⟨RX4, "give", "(I)Z"⟩
def dkwX4_give_5 : List UInt8 := [42, 180, 0, 242, 158, 0, 7, 4, 167, 0, 4, 3, 172]
abbrev dktX4_give_5 : List UInt8 := dkwX4_give_5 ++ []
def dkwX4_give_4 : List UInt8 := [28, 42, 180, 0, 242, 162, 0, 19, 42, 42, 180, 0, 82, 28, 46, 182, 0, 254, 132, 2, 1, 167, 255, 235]
abbrev dktX4_give_4 : List UInt8 := dkwX4_give_4 ++ dktX4_give_5
def dkwX4_give_3 : List UInt8 := [163, 0, 22, 42, 182, 0, 218, 153, 0, 15, 42, 42, 27, 182, 0, 222, 182, 0, 251, 167, 255, 231, 3, 61]
abbrev dktX4_give_3 : List UInt8 := dkwX4_give_3 ++ dktX4_give_4
def dkwX4_give_2 : List UInt8 := [167, 0, 46, 42, 182, 0, 211, 42, 27, 42, 180, 0, 25, 27, 46, 182, 0, 214, 42, 180, 0, 242, 16, 60]
abbrev dktX4_give_2 : List UInt8 := dkwX4_give_2 ++ dktX4_give_3
def dkwX4_give_1 : List UInt8 := [180, 0, 208, 162, 0, 19, 42, 42, 27, 28, 182, 0, 248, 182, 0, 251, 132, 2, 1, 167, 255, 235]
abbrev dktX4_give_1 : List UInt8 := dkwX4_give_1 ++ dktX4_give_2
def dkwX4_give_0 : List UInt8 := [42, 3, 181, 0, 242, 42, 27, 182, 0, 236, 153, 0, 37, 42, 27, 182, 0, 245, 3, 61, 28, 42]
abbrev dktX4_give_0 : List UInt8 := dkwX4_give_0 ++ dktX4_give_1
theorem dksX4_give_0 : cX4_give.data.toList.drop 0 = dktX4_give_0 := by decide +kernel
theorem dksX4_give_1 : cX4_give.data.toList.drop 22 = dktX4_give_1 := dk_seg dksX4_give_0 22 rfl rfl
theorem dksX4_give_2 : cX4_give.data.toList.drop 44 = dktX4_give_2 := dk_seg dksX4_give_1 22 rfl rfl
theorem dksX4_give_3 : cX4_give.data.toList.drop 68 = dktX4_give_3 := dk_seg dksX4_give_2 24 rfl rfl
theorem dksX4_give_4 : cX4_give.data.toList.drop 92 = dktX4_give_4 := dk_seg dksX4_give_3 24 rfl rfl
theorem dksX4_give_5 : cX4_give.data.toList.drop 116 = dktX4_give_5 := dk_seg dksX4_give_4 24 rfl rfl
theorem dX4_give_0 : decode cX4_give 0 = .ok (.aload_n 0, 1) := dk_42 (dk_at dksX4_give_0 0 rfl rfl)
theorem dX4_give_1 : decode cX4_give 1 = .ok (.iconst 0, 1) := dk_3 (dk_at dksX4_give_0 1 rfl rfl)
theorem dX4_give_2 : decode cX4_give 2 = .ok (.putfield 242, 3) := dk_181 0 242 (dk_at dksX4_give_0 2 rfl rfl)
theorem dX4_give_5 : decode cX4_give 5 = .ok (.aload_n 0, 1) := dk_42 (dk_at dksX4_give_0 5 rfl rfl)
theorem dX4_give_6 : decode cX4_give 6 = .ok (.iload_n 1, 1) := dk_27 (dk_at dksX4_give_0 6 rfl rfl)
theorem dX4_give_7 : decode cX4_give 7 = .ok (.invokevirtual 236, 3) := dk_182 0 236 (dk_at dksX4_give_0 7 rfl rfl)
theorem dX4_give_10 : decode cX4_give 10 = .ok (.ifCond .eq 37, 3) := dk_153 0 37 (dk_at dksX4_give_0 10 rfl rfl)
theorem dX4_give_13 : decode cX4_give 13 = .ok (.aload_n 0, 1) := dk_42 (dk_at dksX4_give_0 13 rfl rfl)
theorem dX4_give_14 : decode cX4_give 14 = .ok (.iload_n 1, 1) := dk_27 (dk_at dksX4_give_0 14 rfl rfl)
theorem dX4_give_15 : decode cX4_give 15 = .ok (.invokevirtual 245, 3) := dk_182 0 245 (dk_at dksX4_give_0 15 rfl rfl)
theorem dX4_give_18 : decode cX4_give 18 = .ok (.iconst 0, 1) := dk_3 (dk_at dksX4_give_0 18 rfl rfl)
theorem dX4_give_19 : decode cX4_give 19 = .ok (.istore_n 2, 1) := dk_61 (dk_at dksX4_give_0 19 rfl rfl)
theorem dX4_give_20 : decode cX4_give 20 = .ok (.iload_n 2, 1) := dk_28 (dk_at dksX4_give_0 20 rfl rfl)
theorem dX4_give_21 : decode cX4_give 21 = .ok (.aload_n 0, 1) := dk_42 (dk_at dksX4_give_0 21 rfl rfl)
theorem dX4_give_22 : decode cX4_give 22 = .ok (.getfield 208, 3) := dk_180 0 208 (dk_at dksX4_give_1 0 rfl rfl)
theorem dX4_give_25 : decode cX4_give 25 = .ok (.if_icmp .ge 19, 3) := dk_162 0 19 (dk_at dksX4_give_1 3 rfl rfl)
theorem dX4_give_28 : decode cX4_give 28 = .ok (.aload_n 0, 1) := dk_42 (dk_at dksX4_give_1 6 rfl rfl)
theorem dX4_give_29 : decode cX4_give 29 = .ok (.aload_n 0, 1) := dk_42 (dk_at dksX4_give_1 7 rfl rfl)
theorem dX4_give_30 : decode cX4_give 30 = .ok (.iload_n 1, 1) := dk_27 (dk_at dksX4_give_1 8 rfl rfl)
theorem dX4_give_31 : decode cX4_give 31 = .ok (.iload_n 2, 1) := dk_28 (dk_at dksX4_give_1 9 rfl rfl)
theorem dX4_give_32 : decode cX4_give 32 = .ok (.invokevirtual 248, 3) := dk_182 0 248 (dk_at dksX4_give_1 10 rfl rfl)
theorem dX4_give_35 : decode cX4_give 35 = .ok (.invokevirtual 251, 3) := dk_182 0 251 (dk_at dksX4_give_1 13 rfl rfl)
theorem dX4_give_38 : decode cX4_give 38 = .ok (.iinc 2 1, 3) := dk_132 2 1 (dk_at dksX4_give_1 16 rfl rfl)
theorem dX4_give_41 : decode cX4_give 41 = .ok (.goto (-21), 3) := dk_167 255 235 (dk_at dksX4_give_1 19 rfl rfl)
theorem dX4_give_44 : decode cX4_give 44 = .ok (.goto 46, 3) := dk_167 0 46 (dk_at dksX4_give_2 0 rfl rfl)
theorem dX4_give_47 : decode cX4_give 47 = .ok (.aload_n 0, 1) := dk_42 (dk_at dksX4_give_2 3 rfl rfl)
theorem dX4_give_48 : decode cX4_give 48 = .ok (.invokevirtual 211, 3) := dk_182 0 211 (dk_at dksX4_give_2 4 rfl rfl)
theorem dX4_give_51 : decode cX4_give 51 = .ok (.aload_n 0, 1) := dk_42 (dk_at dksX4_give_2 7 rfl rfl)
theorem dX4_give_52 : decode cX4_give 52 = .ok (.iload_n 1, 1) := dk_27 (dk_at dksX4_give_2 8 rfl rfl)
theorem dX4_give_53 : decode cX4_give 53 = .ok (.aload_n 0, 1) := dk_42 (dk_at dksX4_give_2 9 rfl rfl)
theorem dX4_give_54 : decode cX4_give 54 = .ok (.getfield 25, 3) := dk_180 0 25 (dk_at dksX4_give_2 10 rfl rfl)
theorem dX4_give_57 : decode cX4_give 57 = .ok (.iload_n 1, 1) := dk_27 (dk_at dksX4_give_2 13 rfl rfl)
theorem dX4_give_58 : decode cX4_give 58 = .ok (.iaload, 1) := dk_46 (dk_at dksX4_give_2 14 rfl rfl)
theorem dX4_give_59 : decode cX4_give 59 = .ok (.invokevirtual 214, 3) := dk_182 0 214 (dk_at dksX4_give_2 15 rfl rfl)
theorem dX4_give_62 : decode cX4_give 62 = .ok (.aload_n 0, 1) := dk_42 (dk_at dksX4_give_2 18 rfl rfl)
theorem dX4_give_63 : decode cX4_give 63 = .ok (.getfield 242, 3) := dk_180 0 242 (dk_at dksX4_give_2 19 rfl rfl)
theorem dX4_give_66 : decode cX4_give 66 = .ok (.bipush 60, 2) := dk_16 60 (dk_at dksX4_give_2 22 rfl rfl)
theorem dX4_give_68 : decode cX4_give 68 = .ok (.if_icmp .gt 22, 3) := dk_163 0 22 (dk_at dksX4_give_3 0 rfl rfl)
theorem dX4_give_71 : decode cX4_give 71 = .ok (.aload_n 0, 1) := dk_42 (dk_at dksX4_give_3 3 rfl rfl)
theorem dX4_give_72 : decode cX4_give 72 = .ok (.invokevirtual 218, 3) := dk_182 0 218 (dk_at dksX4_give_3 4 rfl rfl)
theorem dX4_give_75 : decode cX4_give 75 = .ok (.ifCond .eq 15, 3) := dk_153 0 15 (dk_at dksX4_give_3 7 rfl rfl)
theorem dX4_give_78 : decode cX4_give 78 = .ok (.aload_n 0, 1) := dk_42 (dk_at dksX4_give_3 10 rfl rfl)
theorem dX4_give_79 : decode cX4_give 79 = .ok (.aload_n 0, 1) := dk_42 (dk_at dksX4_give_3 11 rfl rfl)
theorem dX4_give_80 : decode cX4_give 80 = .ok (.iload_n 1, 1) := dk_27 (dk_at dksX4_give_3 12 rfl rfl)
theorem dX4_give_81 : decode cX4_give 81 = .ok (.invokevirtual 222, 3) := dk_182 0 222 (dk_at dksX4_give_3 13 rfl rfl)
theorem dX4_give_84 : decode cX4_give 84 = .ok (.invokevirtual 251, 3) := dk_182 0 251 (dk_at dksX4_give_3 16 rfl rfl)
theorem dX4_give_87 : decode cX4_give 87 = .ok (.goto (-25), 3) := dk_167 255 231 (dk_at dksX4_give_3 19 rfl rfl)
theorem dX4_give_90 : decode cX4_give 90 = .ok (.iconst 0, 1) := dk_3 (dk_at dksX4_give_3 22 rfl rfl)
theorem dX4_give_91 : decode cX4_give 91 = .ok (.istore_n 2, 1) := dk_61 (dk_at dksX4_give_3 23 rfl rfl)
theorem dX4_give_92 : decode cX4_give 92 = .ok (.iload_n 2, 1) := dk_28 (dk_at dksX4_give_4 0 rfl rfl)
theorem dX4_give_93 : decode cX4_give 93 = .ok (.aload_n 0, 1) := dk_42 (dk_at dksX4_give_4 1 rfl rfl)
theorem dX4_give_94 : decode cX4_give 94 = .ok (.getfield 242, 3) := dk_180 0 242 (dk_at dksX4_give_4 2 rfl rfl)
theorem dX4_give_97 : decode cX4_give 97 = .ok (.if_icmp .ge 19, 3) := dk_162 0 19 (dk_at dksX4_give_4 5 rfl rfl)
theorem dX4_give_100 : decode cX4_give 100 = .ok (.aload_n 0, 1) := dk_42 (dk_at dksX4_give_4 8 rfl rfl)
theorem dX4_give_101 : decode cX4_give 101 = .ok (.aload_n 0, 1) := dk_42 (dk_at dksX4_give_4 9 rfl rfl)
theorem dX4_give_102 : decode cX4_give 102 = .ok (.getfield 82, 3) := dk_180 0 82 (dk_at dksX4_give_4 10 rfl rfl)
theorem dX4_give_105 : decode cX4_give 105 = .ok (.iload_n 2, 1) := dk_28 (dk_at dksX4_give_4 13 rfl rfl)
theorem dX4_give_106 : decode cX4_give 106 = .ok (.iaload, 1) := dk_46 (dk_at dksX4_give_4 14 rfl rfl)
theorem dX4_give_107 : decode cX4_give 107 = .ok (.invokevirtual 254, 3) := dk_182 0 254 (dk_at dksX4_give_4 15 rfl rfl)
theorem dX4_give_110 : decode cX4_give 110 = .ok (.iinc 2 1, 3) := dk_132 2 1 (dk_at dksX4_give_4 18 rfl rfl)
theorem dX4_give_113 : decode cX4_give 113 = .ok (.goto (-21), 3) := dk_167 255 235 (dk_at dksX4_give_4 21 rfl rfl)
theorem dX4_give_116 : decode cX4_give 116 = .ok (.aload_n 0, 1) := dk_42 (dk_at dksX4_give_5 0 rfl rfl)
theorem dX4_give_117 : decode cX4_give 117 = .ok (.getfield 242, 3) := dk_180 0 242 (dk_at dksX4_give_5 1 rfl rfl)
theorem dX4_give_120 : decode cX4_give 120 = .ok (.ifCond .le 7, 3) := dk_158 0 7 (dk_at dksX4_give_5 4 rfl rfl)
theorem dX4_give_123 : decode cX4_give 123 = .ok (.iconst 1, 1) := dk_4 (dk_at dksX4_give_5 7 rfl rfl)
theorem dX4_give_124 : decode cX4_give 124 = .ok (.goto 4, 3) := dk_167 0 4 (dk_at dksX4_give_5 8 rfl rfl)
theorem dX4_give_127 : decode cX4_give 127 = .ok (.iconst 0, 1) := dk_3 (dk_at dksX4_give_5 11 rfl rfl)
theorem dX4_give_128 : decode cX4_give 128 = .ok (.ireturn, 1) := dk_172 (dk_at dksX4_give_5 12 rfl rfl)
abbrev cX4_gatherAll : ByteArray := prog_19_method_31_code
def yX4_gatherAll : MethodName := ⟨RX4, "gatherAll", "(I)V"⟩
def dkwX4_gatherAll_11 : List UInt8 := [182, 0, 229, 129, 80, 167, 255, 33, 177]
abbrev dktX4_gatherAll_11 : List UInt8 := dkwX4_gatherAll_11 ++ []
def dkwX4_gatherAll_10 : List UInt8 := [182, 0, 225, 167, 0, 10, 42, 180, 0, 107, 21, 4, 46, 79, 42, 180, 0, 110, 21, 4, 92, 47, 42]
abbrev dktX4_gatherAll_10 : List UInt8 := dkwX4_gatherAll_10 ++ dktX4_gatherAll_11
def dkwX4_gatherAll_9 : List UInt8 := [121, 129, 80, 42, 180, 0, 107, 21, 4, 42, 180, 0, 107, 21, 4, 46, 42, 182, 0, 225, 162, 0, 10, 42]
abbrev dktX4_gatherAll_9 : List UInt8 := dkwX4_gatherAll_9 ++ dktX4_gatherAll_10
def dkwX4_gatherAll_8 : List UInt8 := [180, 0, 104, 21, 4, 92, 47, 21, 5, 16, 50, 162, 0, 7, 9, 167, 0, 10, 10, 21, 5, 16, 50, 100]
abbrev dktX4_gatherAll_8 : List UInt8 := dkwX4_gatherAll_8 ++ dktX4_gatherAll_9
def dkwX4_gatherAll_7 : List UInt8 := [21, 4, 92, 47, 21, 5, 16, 50, 162, 0, 10, 10, 21, 5, 121, 167, 0, 4, 9, 129, 80, 42]
abbrev dktX4_gatherAll_7 : List UInt8 := dkwX4_gatherAll_7 ++ dktX4_gatherAll_8
def dkwX4_gatherAll_6 : List UInt8 := [89, 180, 0, 208, 4, 96, 181, 0, 208, 42, 180, 0, 91, 28, 16, 8, 112, 46, 54, 5, 42, 180, 0, 100]
abbrev dktX4_gatherAll_6 : List UInt8 := dkwX4_gatherAll_6 ++ dktX4_gatherAll_7
def dkwX4_gatherAll_5 : List UInt8 := [180, 0, 104, 21, 4, 9, 80, 42, 180, 0, 107, 21, 4, 3, 79, 42, 180, 0, 110, 21, 4, 9, 80, 42]
abbrev dktX4_gatherAll_5 : List UInt8 := dkwX4_gatherAll_5 ++ dktX4_gatherAll_6
def dkwX4_gatherAll_4 : List UInt8 := [180, 0, 208, 160, 0, 53, 42, 180, 0, 97, 21, 4, 29, 79, 42, 180, 0, 100, 21, 4, 9, 80, 42]
abbrev dktX4_gatherAll_4 : List UInt8 := dkwX4_gatherAll_4 ++ dktX4_gatherAll_5
def dkwX4_gatherAll_3 : List UInt8 := [162, 0, 20, 42, 180, 0, 97, 21, 4, 46, 29, 159, 0, 9, 132, 4, 1, 167, 255, 233, 21, 4, 42]
abbrev dktX4_gatherAll_3 : List UInt8 := dkwX4_gatherAll_3 ++ dktX4_gatherAll_4
def dkwX4_gatherAll_2 : List UInt8 := [42, 182, 0, 218, 153, 0, 213, 42, 27, 182, 0, 222, 62, 3, 54, 4, 21, 4, 42, 180, 0, 208]
abbrev dktX4_gatherAll_2 : List UInt8 := dkwX4_gatherAll_2 ++ dktX4_gatherAll_3
def dkwX4_gatherAll_1 : List UInt8 := [42, 182, 0, 211, 42, 27, 42, 180, 0, 25, 27, 46, 182, 0, 214, 42, 180, 0, 208, 16, 60, 163, 0, 220]
abbrev dktX4_gatherAll_1 : List UInt8 := dkwX4_gatherAll_1 ++ dktX4_gatherAll_2
def dkwX4_gatherAll_0 : List UInt8 := [42, 180, 0, 22, 6, 27, 104, 42, 27, 182, 0, 205, 96, 46, 17, 0, 200, 100, 61, 42, 3, 181, 0, 208]
abbrev dktX4_gatherAll_0 : List UInt8 := dkwX4_gatherAll_0 ++ dktX4_gatherAll_1
theorem dksX4_gatherAll_0 : cX4_gatherAll.data.toList.drop 0 = dktX4_gatherAll_0 := by decide +kernel
theorem dksX4_gatherAll_1 : cX4_gatherAll.data.toList.drop 24 = dktX4_gatherAll_1 := dk_seg dksX4_gatherAll_0 24 rfl rfl
theorem dksX4_gatherAll_2 : cX4_gatherAll.data.toList.drop 48 = dktX4_gatherAll_2 := dk_seg dksX4_gatherAll_1 24 rfl rfl
theorem dksX4_gatherAll_3 : cX4_gatherAll.data.toList.drop 70 = dktX4_gatherAll_3 := dk_seg dksX4_gatherAll_2 22 rfl rfl
theorem dksX4_gatherAll_4 : cX4_gatherAll.data.toList.drop 93 = dktX4_gatherAll_4 := dk_seg dksX4_gatherAll_3 23 rfl rfl
theorem dksX4_gatherAll_5 : cX4_gatherAll.data.toList.drop 116 = dktX4_gatherAll_5 := dk_seg dksX4_gatherAll_4 23 rfl rfl
theorem dksX4_gatherAll_6 : cX4_gatherAll.data.toList.drop 140 = dktX4_gatherAll_6 := dk_seg dksX4_gatherAll_5 24 rfl rfl
theorem dksX4_gatherAll_7 : cX4_gatherAll.data.toList.drop 164 = dktX4_gatherAll_7 := dk_seg dksX4_gatherAll_6 24 rfl rfl
theorem dksX4_gatherAll_8 : cX4_gatherAll.data.toList.drop 186 = dktX4_gatherAll_8 := dk_seg dksX4_gatherAll_7 22 rfl rfl
theorem dksX4_gatherAll_9 : cX4_gatherAll.data.toList.drop 210 = dktX4_gatherAll_9 := dk_seg dksX4_gatherAll_8 24 rfl rfl
theorem dksX4_gatherAll_10 : cX4_gatherAll.data.toList.drop 234 = dktX4_gatherAll_10 := dk_seg dksX4_gatherAll_9 24 rfl rfl
theorem dksX4_gatherAll_11 : cX4_gatherAll.data.toList.drop 257 = dktX4_gatherAll_11 := dk_seg dksX4_gatherAll_10 23 rfl rfl
theorem dX4_gatherAll_0 : decode cX4_gatherAll 0 = .ok (.aload_n 0, 1) := dk_42 (dk_at dksX4_gatherAll_0 0 rfl rfl)
theorem dX4_gatherAll_1 : decode cX4_gatherAll 1 = .ok (.getfield 22, 3) := dk_180 0 22 (dk_at dksX4_gatherAll_0 1 rfl rfl)
theorem dX4_gatherAll_4 : decode cX4_gatherAll 4 = .ok (.iconst 3, 1) := dk_6 (dk_at dksX4_gatherAll_0 4 rfl rfl)
theorem dX4_gatherAll_5 : decode cX4_gatherAll 5 = .ok (.iload_n 1, 1) := dk_27 (dk_at dksX4_gatherAll_0 5 rfl rfl)
theorem dX4_gatherAll_6 : decode cX4_gatherAll 6 = .ok (.imul, 1) := dk_104 (dk_at dksX4_gatherAll_0 6 rfl rfl)
theorem dX4_gatherAll_7 : decode cX4_gatherAll 7 = .ok (.aload_n 0, 1) := dk_42 (dk_at dksX4_gatherAll_0 7 rfl rfl)
theorem dX4_gatherAll_8 : decode cX4_gatherAll 8 = .ok (.iload_n 1, 1) := dk_27 (dk_at dksX4_gatherAll_0 8 rfl rfl)
theorem dX4_gatherAll_9 : decode cX4_gatherAll 9 = .ok (.invokevirtual 205, 3) := dk_182 0 205 (dk_at dksX4_gatherAll_0 9 rfl rfl)
theorem dX4_gatherAll_12 : decode cX4_gatherAll 12 = .ok (.iadd, 1) := dk_96 (dk_at dksX4_gatherAll_0 12 rfl rfl)
theorem dX4_gatherAll_13 : decode cX4_gatherAll 13 = .ok (.iaload, 1) := dk_46 (dk_at dksX4_gatherAll_0 13 rfl rfl)
theorem dX4_gatherAll_14 : decode cX4_gatherAll 14 = .ok (.sipush 200, 3) := dk_17 0 200 (dk_at dksX4_gatherAll_0 14 rfl rfl)
theorem dX4_gatherAll_17 : decode cX4_gatherAll 17 = .ok (.isub, 1) := dk_100 (dk_at dksX4_gatherAll_0 17 rfl rfl)
theorem dX4_gatherAll_18 : decode cX4_gatherAll 18 = .ok (.istore_n 2, 1) := dk_61 (dk_at dksX4_gatherAll_0 18 rfl rfl)
theorem dX4_gatherAll_19 : decode cX4_gatherAll 19 = .ok (.aload_n 0, 1) := dk_42 (dk_at dksX4_gatherAll_0 19 rfl rfl)
theorem dX4_gatherAll_20 : decode cX4_gatherAll 20 = .ok (.iconst 0, 1) := dk_3 (dk_at dksX4_gatherAll_0 20 rfl rfl)
theorem dX4_gatherAll_21 : decode cX4_gatherAll 21 = .ok (.putfield 208, 3) := dk_181 0 208 (dk_at dksX4_gatherAll_0 21 rfl rfl)
theorem dX4_gatherAll_24 : decode cX4_gatherAll 24 = .ok (.aload_n 0, 1) := dk_42 (dk_at dksX4_gatherAll_1 0 rfl rfl)
theorem dX4_gatherAll_25 : decode cX4_gatherAll 25 = .ok (.invokevirtual 211, 3) := dk_182 0 211 (dk_at dksX4_gatherAll_1 1 rfl rfl)
theorem dX4_gatherAll_28 : decode cX4_gatherAll 28 = .ok (.aload_n 0, 1) := dk_42 (dk_at dksX4_gatherAll_1 4 rfl rfl)
theorem dX4_gatherAll_29 : decode cX4_gatherAll 29 = .ok (.iload_n 1, 1) := dk_27 (dk_at dksX4_gatherAll_1 5 rfl rfl)
theorem dX4_gatherAll_30 : decode cX4_gatherAll 30 = .ok (.aload_n 0, 1) := dk_42 (dk_at dksX4_gatherAll_1 6 rfl rfl)
theorem dX4_gatherAll_31 : decode cX4_gatherAll 31 = .ok (.getfield 25, 3) := dk_180 0 25 (dk_at dksX4_gatherAll_1 7 rfl rfl)
theorem dX4_gatherAll_34 : decode cX4_gatherAll 34 = .ok (.iload_n 1, 1) := dk_27 (dk_at dksX4_gatherAll_1 10 rfl rfl)
theorem dX4_gatherAll_35 : decode cX4_gatherAll 35 = .ok (.iaload, 1) := dk_46 (dk_at dksX4_gatherAll_1 11 rfl rfl)
theorem dX4_gatherAll_36 : decode cX4_gatherAll 36 = .ok (.invokevirtual 214, 3) := dk_182 0 214 (dk_at dksX4_gatherAll_1 12 rfl rfl)
theorem dX4_gatherAll_39 : decode cX4_gatherAll 39 = .ok (.aload_n 0, 1) := dk_42 (dk_at dksX4_gatherAll_1 15 rfl rfl)
theorem dX4_gatherAll_40 : decode cX4_gatherAll 40 = .ok (.getfield 208, 3) := dk_180 0 208 (dk_at dksX4_gatherAll_1 16 rfl rfl)
theorem dX4_gatherAll_43 : decode cX4_gatherAll 43 = .ok (.bipush 60, 2) := dk_16 60 (dk_at dksX4_gatherAll_1 19 rfl rfl)
theorem dX4_gatherAll_45 : decode cX4_gatherAll 45 = .ok (.if_icmp .gt 220, 3) := dk_163 0 220 (dk_at dksX4_gatherAll_1 21 rfl rfl)
theorem dX4_gatherAll_48 : decode cX4_gatherAll 48 = .ok (.aload_n 0, 1) := dk_42 (dk_at dksX4_gatherAll_2 0 rfl rfl)
theorem dX4_gatherAll_49 : decode cX4_gatherAll 49 = .ok (.invokevirtual 218, 3) := dk_182 0 218 (dk_at dksX4_gatherAll_2 1 rfl rfl)
theorem dX4_gatherAll_52 : decode cX4_gatherAll 52 = .ok (.ifCond .eq 213, 3) := dk_153 0 213 (dk_at dksX4_gatherAll_2 4 rfl rfl)
theorem dX4_gatherAll_55 : decode cX4_gatherAll 55 = .ok (.aload_n 0, 1) := dk_42 (dk_at dksX4_gatherAll_2 7 rfl rfl)
theorem dX4_gatherAll_56 : decode cX4_gatherAll 56 = .ok (.iload_n 1, 1) := dk_27 (dk_at dksX4_gatherAll_2 8 rfl rfl)
theorem dX4_gatherAll_57 : decode cX4_gatherAll 57 = .ok (.invokevirtual 222, 3) := dk_182 0 222 (dk_at dksX4_gatherAll_2 9 rfl rfl)
theorem dX4_gatherAll_60 : decode cX4_gatherAll 60 = .ok (.istore_n 3, 1) := dk_62 (dk_at dksX4_gatherAll_2 12 rfl rfl)
theorem dX4_gatherAll_61 : decode cX4_gatherAll 61 = .ok (.iconst 0, 1) := dk_3 (dk_at dksX4_gatherAll_2 13 rfl rfl)
theorem dX4_gatherAll_62 : decode cX4_gatherAll 62 = .ok (.istore 4, 2) := dk_54 4 (dk_at dksX4_gatherAll_2 14 rfl rfl)
theorem dX4_gatherAll_64 : decode cX4_gatherAll 64 = .ok (.iload 4, 2) := dk_21 4 (dk_at dksX4_gatherAll_2 16 rfl rfl)
theorem dX4_gatherAll_66 : decode cX4_gatherAll 66 = .ok (.aload_n 0, 1) := dk_42 (dk_at dksX4_gatherAll_2 18 rfl rfl)
theorem dX4_gatherAll_67 : decode cX4_gatherAll 67 = .ok (.getfield 208, 3) := dk_180 0 208 (dk_at dksX4_gatherAll_2 19 rfl rfl)
theorem dX4_gatherAll_70 : decode cX4_gatherAll 70 = .ok (.if_icmp .ge 20, 3) := dk_162 0 20 (dk_at dksX4_gatherAll_3 0 rfl rfl)
theorem dX4_gatherAll_73 : decode cX4_gatherAll 73 = .ok (.aload_n 0, 1) := dk_42 (dk_at dksX4_gatherAll_3 3 rfl rfl)
theorem dX4_gatherAll_74 : decode cX4_gatherAll 74 = .ok (.getfield 97, 3) := dk_180 0 97 (dk_at dksX4_gatherAll_3 4 rfl rfl)
theorem dX4_gatherAll_77 : decode cX4_gatherAll 77 = .ok (.iload 4, 2) := dk_21 4 (dk_at dksX4_gatherAll_3 7 rfl rfl)
theorem dX4_gatherAll_79 : decode cX4_gatherAll 79 = .ok (.iaload, 1) := dk_46 (dk_at dksX4_gatherAll_3 9 rfl rfl)
theorem dX4_gatherAll_80 : decode cX4_gatherAll 80 = .ok (.iload_n 3, 1) := dk_29 (dk_at dksX4_gatherAll_3 10 rfl rfl)
theorem dX4_gatherAll_81 : decode cX4_gatherAll 81 = .ok (.if_icmp .eq 9, 3) := dk_159 0 9 (dk_at dksX4_gatherAll_3 11 rfl rfl)
theorem dX4_gatherAll_84 : decode cX4_gatherAll 84 = .ok (.iinc 4 1, 3) := dk_132 4 1 (dk_at dksX4_gatherAll_3 14 rfl rfl)
theorem dX4_gatherAll_87 : decode cX4_gatherAll 87 = .ok (.goto (-23), 3) := dk_167 255 233 (dk_at dksX4_gatherAll_3 17 rfl rfl)
theorem dX4_gatherAll_90 : decode cX4_gatherAll 90 = .ok (.iload 4, 2) := dk_21 4 (dk_at dksX4_gatherAll_3 20 rfl rfl)
theorem dX4_gatherAll_92 : decode cX4_gatherAll 92 = .ok (.aload_n 0, 1) := dk_42 (dk_at dksX4_gatherAll_3 22 rfl rfl)
theorem dX4_gatherAll_93 : decode cX4_gatherAll 93 = .ok (.getfield 208, 3) := dk_180 0 208 (dk_at dksX4_gatherAll_4 0 rfl rfl)
theorem dX4_gatherAll_96 : decode cX4_gatherAll 96 = .ok (.if_icmp .ne 53, 3) := dk_160 0 53 (dk_at dksX4_gatherAll_4 3 rfl rfl)
theorem dX4_gatherAll_99 : decode cX4_gatherAll 99 = .ok (.aload_n 0, 1) := dk_42 (dk_at dksX4_gatherAll_4 6 rfl rfl)
theorem dX4_gatherAll_100 : decode cX4_gatherAll 100 = .ok (.getfield 97, 3) := dk_180 0 97 (dk_at dksX4_gatherAll_4 7 rfl rfl)
theorem dX4_gatherAll_103 : decode cX4_gatherAll 103 = .ok (.iload 4, 2) := dk_21 4 (dk_at dksX4_gatherAll_4 10 rfl rfl)
theorem dX4_gatherAll_105 : decode cX4_gatherAll 105 = .ok (.iload_n 3, 1) := dk_29 (dk_at dksX4_gatherAll_4 12 rfl rfl)
theorem dX4_gatherAll_106 : decode cX4_gatherAll 106 = .ok (.iastore, 1) := dk_79 (dk_at dksX4_gatherAll_4 13 rfl rfl)
theorem dX4_gatherAll_107 : decode cX4_gatherAll 107 = .ok (.aload_n 0, 1) := dk_42 (dk_at dksX4_gatherAll_4 14 rfl rfl)
theorem dX4_gatherAll_108 : decode cX4_gatherAll 108 = .ok (.getfield 100, 3) := dk_180 0 100 (dk_at dksX4_gatherAll_4 15 rfl rfl)
theorem dX4_gatherAll_111 : decode cX4_gatherAll 111 = .ok (.iload 4, 2) := dk_21 4 (dk_at dksX4_gatherAll_4 18 rfl rfl)
theorem dX4_gatherAll_113 : decode cX4_gatherAll 113 = .ok (.lconst 0, 1) := dk_9 (dk_at dksX4_gatherAll_4 20 rfl rfl)
theorem dX4_gatherAll_114 : decode cX4_gatherAll 114 = .ok (.lastore, 1) := dk_80 (dk_at dksX4_gatherAll_4 21 rfl rfl)
theorem dX4_gatherAll_115 : decode cX4_gatherAll 115 = .ok (.aload_n 0, 1) := dk_42 (dk_at dksX4_gatherAll_4 22 rfl rfl)
theorem dX4_gatherAll_116 : decode cX4_gatherAll 116 = .ok (.getfield 104, 3) := dk_180 0 104 (dk_at dksX4_gatherAll_5 0 rfl rfl)
theorem dX4_gatherAll_119 : decode cX4_gatherAll 119 = .ok (.iload 4, 2) := dk_21 4 (dk_at dksX4_gatherAll_5 3 rfl rfl)
theorem dX4_gatherAll_121 : decode cX4_gatherAll 121 = .ok (.lconst 0, 1) := dk_9 (dk_at dksX4_gatherAll_5 5 rfl rfl)
theorem dX4_gatherAll_122 : decode cX4_gatherAll 122 = .ok (.lastore, 1) := dk_80 (dk_at dksX4_gatherAll_5 6 rfl rfl)
theorem dX4_gatherAll_123 : decode cX4_gatherAll 123 = .ok (.aload_n 0, 1) := dk_42 (dk_at dksX4_gatherAll_5 7 rfl rfl)
theorem dX4_gatherAll_124 : decode cX4_gatherAll 124 = .ok (.getfield 107, 3) := dk_180 0 107 (dk_at dksX4_gatherAll_5 8 rfl rfl)
theorem dX4_gatherAll_127 : decode cX4_gatherAll 127 = .ok (.iload 4, 2) := dk_21 4 (dk_at dksX4_gatherAll_5 11 rfl rfl)
theorem dX4_gatherAll_129 : decode cX4_gatherAll 129 = .ok (.iconst 0, 1) := dk_3 (dk_at dksX4_gatherAll_5 13 rfl rfl)
theorem dX4_gatherAll_130 : decode cX4_gatherAll 130 = .ok (.iastore, 1) := dk_79 (dk_at dksX4_gatherAll_5 14 rfl rfl)
theorem dX4_gatherAll_131 : decode cX4_gatherAll 131 = .ok (.aload_n 0, 1) := dk_42 (dk_at dksX4_gatherAll_5 15 rfl rfl)
theorem dX4_gatherAll_132 : decode cX4_gatherAll 132 = .ok (.getfield 110, 3) := dk_180 0 110 (dk_at dksX4_gatherAll_5 16 rfl rfl)
theorem dX4_gatherAll_135 : decode cX4_gatherAll 135 = .ok (.iload 4, 2) := dk_21 4 (dk_at dksX4_gatherAll_5 19 rfl rfl)
theorem dX4_gatherAll_137 : decode cX4_gatherAll 137 = .ok (.lconst 0, 1) := dk_9 (dk_at dksX4_gatherAll_5 21 rfl rfl)
theorem dX4_gatherAll_138 : decode cX4_gatherAll 138 = .ok (.lastore, 1) := dk_80 (dk_at dksX4_gatherAll_5 22 rfl rfl)
theorem dX4_gatherAll_139 : decode cX4_gatherAll 139 = .ok (.aload_n 0, 1) := dk_42 (dk_at dksX4_gatherAll_5 23 rfl rfl)
theorem dX4_gatherAll_140 : decode cX4_gatherAll 140 = .ok (.dup, 1) := dk_89 (dk_at dksX4_gatherAll_6 0 rfl rfl)
theorem dX4_gatherAll_141 : decode cX4_gatherAll 141 = .ok (.getfield 208, 3) := dk_180 0 208 (dk_at dksX4_gatherAll_6 1 rfl rfl)
theorem dX4_gatherAll_144 : decode cX4_gatherAll 144 = .ok (.iconst 1, 1) := dk_4 (dk_at dksX4_gatherAll_6 4 rfl rfl)
theorem dX4_gatherAll_145 : decode cX4_gatherAll 145 = .ok (.iadd, 1) := dk_96 (dk_at dksX4_gatherAll_6 5 rfl rfl)
theorem dX4_gatherAll_146 : decode cX4_gatherAll 146 = .ok (.putfield 208, 3) := dk_181 0 208 (dk_at dksX4_gatherAll_6 6 rfl rfl)
theorem dX4_gatherAll_149 : decode cX4_gatherAll 149 = .ok (.aload_n 0, 1) := dk_42 (dk_at dksX4_gatherAll_6 9 rfl rfl)
theorem dX4_gatherAll_150 : decode cX4_gatherAll 150 = .ok (.getfield 91, 3) := dk_180 0 91 (dk_at dksX4_gatherAll_6 10 rfl rfl)
theorem dX4_gatherAll_153 : decode cX4_gatherAll 153 = .ok (.iload_n 2, 1) := dk_28 (dk_at dksX4_gatherAll_6 13 rfl rfl)
theorem dX4_gatherAll_154 : decode cX4_gatherAll 154 = .ok (.bipush 8, 2) := dk_16 8 (dk_at dksX4_gatherAll_6 14 rfl rfl)
theorem dX4_gatherAll_156 : decode cX4_gatherAll 156 = .ok (.irem, 1) := dk_112 (dk_at dksX4_gatherAll_6 16 rfl rfl)
theorem dX4_gatherAll_157 : decode cX4_gatherAll 157 = .ok (.iaload, 1) := dk_46 (dk_at dksX4_gatherAll_6 17 rfl rfl)
theorem dX4_gatherAll_158 : decode cX4_gatherAll 158 = .ok (.istore 5, 2) := dk_54 5 (dk_at dksX4_gatherAll_6 18 rfl rfl)
theorem dX4_gatherAll_160 : decode cX4_gatherAll 160 = .ok (.aload_n 0, 1) := dk_42 (dk_at dksX4_gatherAll_6 20 rfl rfl)
theorem dX4_gatherAll_161 : decode cX4_gatherAll 161 = .ok (.getfield 100, 3) := dk_180 0 100 (dk_at dksX4_gatherAll_6 21 rfl rfl)
theorem dX4_gatherAll_164 : decode cX4_gatherAll 164 = .ok (.iload 4, 2) := dk_21 4 (dk_at dksX4_gatherAll_7 0 rfl rfl)
theorem dX4_gatherAll_166 : decode cX4_gatherAll 166 = .ok (.dup2, 1) := dk_92 (dk_at dksX4_gatherAll_7 2 rfl rfl)
theorem dX4_gatherAll_167 : decode cX4_gatherAll 167 = .ok (.laload, 1) := dk_47 (dk_at dksX4_gatherAll_7 3 rfl rfl)
theorem dX4_gatherAll_168 : decode cX4_gatherAll 168 = .ok (.iload 5, 2) := dk_21 5 (dk_at dksX4_gatherAll_7 4 rfl rfl)
theorem dX4_gatherAll_170 : decode cX4_gatherAll 170 = .ok (.bipush 50, 2) := dk_16 50 (dk_at dksX4_gatherAll_7 6 rfl rfl)
theorem dX4_gatherAll_172 : decode cX4_gatherAll 172 = .ok (.if_icmp .ge 10, 3) := dk_162 0 10 (dk_at dksX4_gatherAll_7 8 rfl rfl)
theorem dX4_gatherAll_175 : decode cX4_gatherAll 175 = .ok (.lconst 1, 1) := dk_10 (dk_at dksX4_gatherAll_7 11 rfl rfl)
theorem dX4_gatherAll_176 : decode cX4_gatherAll 176 = .ok (.iload 5, 2) := dk_21 5 (dk_at dksX4_gatherAll_7 12 rfl rfl)
theorem dX4_gatherAll_178 : decode cX4_gatherAll 178 = .ok (.lshl, 1) := dk_121 (dk_at dksX4_gatherAll_7 14 rfl rfl)
theorem dX4_gatherAll_179 : decode cX4_gatherAll 179 = .ok (.goto 4, 3) := dk_167 0 4 (dk_at dksX4_gatherAll_7 15 rfl rfl)
theorem dX4_gatherAll_182 : decode cX4_gatherAll 182 = .ok (.lconst 0, 1) := dk_9 (dk_at dksX4_gatherAll_7 18 rfl rfl)
theorem dX4_gatherAll_183 : decode cX4_gatherAll 183 = .ok (.lor, 1) := dk_129 (dk_at dksX4_gatherAll_7 19 rfl rfl)
theorem dX4_gatherAll_184 : decode cX4_gatherAll 184 = .ok (.lastore, 1) := dk_80 (dk_at dksX4_gatherAll_7 20 rfl rfl)
theorem dX4_gatherAll_185 : decode cX4_gatherAll 185 = .ok (.aload_n 0, 1) := dk_42 (dk_at dksX4_gatherAll_7 21 rfl rfl)
theorem dX4_gatherAll_186 : decode cX4_gatherAll 186 = .ok (.getfield 104, 3) := dk_180 0 104 (dk_at dksX4_gatherAll_8 0 rfl rfl)
theorem dX4_gatherAll_189 : decode cX4_gatherAll 189 = .ok (.iload 4, 2) := dk_21 4 (dk_at dksX4_gatherAll_8 3 rfl rfl)
theorem dX4_gatherAll_191 : decode cX4_gatherAll 191 = .ok (.dup2, 1) := dk_92 (dk_at dksX4_gatherAll_8 5 rfl rfl)
theorem dX4_gatherAll_192 : decode cX4_gatherAll 192 = .ok (.laload, 1) := dk_47 (dk_at dksX4_gatherAll_8 6 rfl rfl)
theorem dX4_gatherAll_193 : decode cX4_gatherAll 193 = .ok (.iload 5, 2) := dk_21 5 (dk_at dksX4_gatherAll_8 7 rfl rfl)
theorem dX4_gatherAll_195 : decode cX4_gatherAll 195 = .ok (.bipush 50, 2) := dk_16 50 (dk_at dksX4_gatherAll_8 9 rfl rfl)
theorem dX4_gatherAll_197 : decode cX4_gatherAll 197 = .ok (.if_icmp .ge 7, 3) := dk_162 0 7 (dk_at dksX4_gatherAll_8 11 rfl rfl)
theorem dX4_gatherAll_200 : decode cX4_gatherAll 200 = .ok (.lconst 0, 1) := dk_9 (dk_at dksX4_gatherAll_8 14 rfl rfl)
theorem dX4_gatherAll_201 : decode cX4_gatherAll 201 = .ok (.goto 10, 3) := dk_167 0 10 (dk_at dksX4_gatherAll_8 15 rfl rfl)
theorem dX4_gatherAll_204 : decode cX4_gatherAll 204 = .ok (.lconst 1, 1) := dk_10 (dk_at dksX4_gatherAll_8 18 rfl rfl)
theorem dX4_gatherAll_205 : decode cX4_gatherAll 205 = .ok (.iload 5, 2) := dk_21 5 (dk_at dksX4_gatherAll_8 19 rfl rfl)
theorem dX4_gatherAll_207 : decode cX4_gatherAll 207 = .ok (.bipush 50, 2) := dk_16 50 (dk_at dksX4_gatherAll_8 21 rfl rfl)
theorem dX4_gatherAll_209 : decode cX4_gatherAll 209 = .ok (.isub, 1) := dk_100 (dk_at dksX4_gatherAll_8 23 rfl rfl)
theorem dX4_gatherAll_210 : decode cX4_gatherAll 210 = .ok (.lshl, 1) := dk_121 (dk_at dksX4_gatherAll_9 0 rfl rfl)
theorem dX4_gatherAll_211 : decode cX4_gatherAll 211 = .ok (.lor, 1) := dk_129 (dk_at dksX4_gatherAll_9 1 rfl rfl)
theorem dX4_gatherAll_212 : decode cX4_gatherAll 212 = .ok (.lastore, 1) := dk_80 (dk_at dksX4_gatherAll_9 2 rfl rfl)
theorem dX4_gatherAll_213 : decode cX4_gatherAll 213 = .ok (.aload_n 0, 1) := dk_42 (dk_at dksX4_gatherAll_9 3 rfl rfl)
theorem dX4_gatherAll_214 : decode cX4_gatherAll 214 = .ok (.getfield 107, 3) := dk_180 0 107 (dk_at dksX4_gatherAll_9 4 rfl rfl)
theorem dX4_gatherAll_217 : decode cX4_gatherAll 217 = .ok (.iload 4, 2) := dk_21 4 (dk_at dksX4_gatherAll_9 7 rfl rfl)
theorem dX4_gatherAll_219 : decode cX4_gatherAll 219 = .ok (.aload_n 0, 1) := dk_42 (dk_at dksX4_gatherAll_9 9 rfl rfl)
theorem dX4_gatherAll_220 : decode cX4_gatherAll 220 = .ok (.getfield 107, 3) := dk_180 0 107 (dk_at dksX4_gatherAll_9 10 rfl rfl)
theorem dX4_gatherAll_223 : decode cX4_gatherAll 223 = .ok (.iload 4, 2) := dk_21 4 (dk_at dksX4_gatherAll_9 13 rfl rfl)
theorem dX4_gatherAll_225 : decode cX4_gatherAll 225 = .ok (.iaload, 1) := dk_46 (dk_at dksX4_gatherAll_9 15 rfl rfl)
theorem dX4_gatherAll_226 : decode cX4_gatherAll 226 = .ok (.aload_n 0, 1) := dk_42 (dk_at dksX4_gatherAll_9 16 rfl rfl)
theorem dX4_gatherAll_227 : decode cX4_gatherAll 227 = .ok (.invokevirtual 225, 3) := dk_182 0 225 (dk_at dksX4_gatherAll_9 17 rfl rfl)
theorem dX4_gatherAll_230 : decode cX4_gatherAll 230 = .ok (.if_icmp .ge 10, 3) := dk_162 0 10 (dk_at dksX4_gatherAll_9 20 rfl rfl)
theorem dX4_gatherAll_233 : decode cX4_gatherAll 233 = .ok (.aload_n 0, 1) := dk_42 (dk_at dksX4_gatherAll_9 23 rfl rfl)
theorem dX4_gatherAll_234 : decode cX4_gatherAll 234 = .ok (.invokevirtual 225, 3) := dk_182 0 225 (dk_at dksX4_gatherAll_10 0 rfl rfl)
theorem dX4_gatherAll_237 : decode cX4_gatherAll 237 = .ok (.goto 10, 3) := dk_167 0 10 (dk_at dksX4_gatherAll_10 3 rfl rfl)
theorem dX4_gatherAll_240 : decode cX4_gatherAll 240 = .ok (.aload_n 0, 1) := dk_42 (dk_at dksX4_gatherAll_10 6 rfl rfl)
theorem dX4_gatherAll_241 : decode cX4_gatherAll 241 = .ok (.getfield 107, 3) := dk_180 0 107 (dk_at dksX4_gatherAll_10 7 rfl rfl)
theorem dX4_gatherAll_244 : decode cX4_gatherAll 244 = .ok (.iload 4, 2) := dk_21 4 (dk_at dksX4_gatherAll_10 10 rfl rfl)
theorem dX4_gatherAll_246 : decode cX4_gatherAll 246 = .ok (.iaload, 1) := dk_46 (dk_at dksX4_gatherAll_10 12 rfl rfl)
theorem dX4_gatherAll_247 : decode cX4_gatherAll 247 = .ok (.iastore, 1) := dk_79 (dk_at dksX4_gatherAll_10 13 rfl rfl)
theorem dX4_gatherAll_248 : decode cX4_gatherAll 248 = .ok (.aload_n 0, 1) := dk_42 (dk_at dksX4_gatherAll_10 14 rfl rfl)
theorem dX4_gatherAll_249 : decode cX4_gatherAll 249 = .ok (.getfield 110, 3) := dk_180 0 110 (dk_at dksX4_gatherAll_10 15 rfl rfl)
theorem dX4_gatherAll_252 : decode cX4_gatherAll 252 = .ok (.iload 4, 2) := dk_21 4 (dk_at dksX4_gatherAll_10 18 rfl rfl)
theorem dX4_gatherAll_254 : decode cX4_gatherAll 254 = .ok (.dup2, 1) := dk_92 (dk_at dksX4_gatherAll_10 20 rfl rfl)
theorem dX4_gatherAll_255 : decode cX4_gatherAll 255 = .ok (.laload, 1) := dk_47 (dk_at dksX4_gatherAll_10 21 rfl rfl)
theorem dX4_gatherAll_256 : decode cX4_gatherAll 256 = .ok (.aload_n 0, 1) := dk_42 (dk_at dksX4_gatherAll_10 22 rfl rfl)
theorem dX4_gatherAll_257 : decode cX4_gatherAll 257 = .ok (.invokevirtual 229, 3) := dk_182 0 229 (dk_at dksX4_gatherAll_11 0 rfl rfl)
theorem dX4_gatherAll_260 : decode cX4_gatherAll 260 = .ok (.lor, 1) := dk_129 (dk_at dksX4_gatherAll_11 3 rfl rfl)
theorem dX4_gatherAll_261 : decode cX4_gatherAll 261 = .ok (.lastore, 1) := dk_80 (dk_at dksX4_gatherAll_11 4 rfl rfl)
theorem dX4_gatherAll_262 : decode cX4_gatherAll 262 = .ok (.goto (-223), 3) := dk_167 255 33 (dk_at dksX4_gatherAll_11 5 rfl rfl)
theorem dX4_gatherAll_265 : decode cX4_gatherAll 265 = .ok (.return_, 1) := dk_177 (dk_at dksX4_gatherAll_11 8 rfl rfl)
abbrev cX4_gatheredSlot : ByteArray := prog_19_method_28_code
def yX4_gatheredSlot : MethodName := ⟨RX4, "gatheredSlot", "(I)I"⟩
def dkwX4_gatheredSlot_2 : List UInt8 := [172]
abbrev dktX4_gatheredSlot_2 : List UInt8 := dkwX4_gatheredSlot_2 ++ []
def dkwX4_gatheredSlot_1 : List UInt8 := [27, 104, 29, 96, 46, 17, 0, 200, 161, 0, 7, 29, 167, 0, 4, 28, 61, 132, 3, 1, 167, 255, 216, 28]
abbrev dktX4_gatheredSlot_1 : List UInt8 := dkwX4_gatheredSlot_1 ++ dktX4_gatheredSlot_2
def dkwX4_gatheredSlot_0 : List UInt8 := [2, 61, 3, 62, 29, 42, 180, 0, 13, 42, 180, 0, 19, 27, 46, 46, 162, 0, 31, 42, 180, 0, 22, 6]
abbrev dktX4_gatheredSlot_0 : List UInt8 := dkwX4_gatheredSlot_0 ++ dktX4_gatheredSlot_1
theorem dksX4_gatheredSlot_0 : cX4_gatheredSlot.data.toList.drop 0 = dktX4_gatheredSlot_0 := by decide +kernel
theorem dksX4_gatheredSlot_1 : cX4_gatheredSlot.data.toList.drop 24 = dktX4_gatheredSlot_1 := dk_seg dksX4_gatheredSlot_0 24 rfl rfl
theorem dksX4_gatheredSlot_2 : cX4_gatheredSlot.data.toList.drop 48 = dktX4_gatheredSlot_2 := dk_seg dksX4_gatheredSlot_1 24 rfl rfl
theorem dX4_gatheredSlot_0 : decode cX4_gatheredSlot 0 = .ok (.iconst (-1), 1) := dk_2 (dk_at dksX4_gatheredSlot_0 0 rfl rfl)
theorem dX4_gatheredSlot_1 : decode cX4_gatheredSlot 1 = .ok (.istore_n 2, 1) := dk_61 (dk_at dksX4_gatheredSlot_0 1 rfl rfl)
theorem dX4_gatheredSlot_2 : decode cX4_gatheredSlot 2 = .ok (.iconst 0, 1) := dk_3 (dk_at dksX4_gatheredSlot_0 2 rfl rfl)
theorem dX4_gatheredSlot_3 : decode cX4_gatheredSlot 3 = .ok (.istore_n 3, 1) := dk_62 (dk_at dksX4_gatheredSlot_0 3 rfl rfl)
theorem dX4_gatheredSlot_4 : decode cX4_gatheredSlot 4 = .ok (.iload_n 3, 1) := dk_29 (dk_at dksX4_gatheredSlot_0 4 rfl rfl)
theorem dX4_gatheredSlot_5 : decode cX4_gatheredSlot 5 = .ok (.aload_n 0, 1) := dk_42 (dk_at dksX4_gatheredSlot_0 5 rfl rfl)
theorem dX4_gatheredSlot_6 : decode cX4_gatheredSlot 6 = .ok (.getfield 13, 3) := dk_180 0 13 (dk_at dksX4_gatheredSlot_0 6 rfl rfl)
theorem dX4_gatheredSlot_9 : decode cX4_gatheredSlot 9 = .ok (.aload_n 0, 1) := dk_42 (dk_at dksX4_gatheredSlot_0 9 rfl rfl)
theorem dX4_gatheredSlot_10 : decode cX4_gatheredSlot 10 = .ok (.getfield 19, 3) := dk_180 0 19 (dk_at dksX4_gatheredSlot_0 10 rfl rfl)
theorem dX4_gatheredSlot_13 : decode cX4_gatheredSlot 13 = .ok (.iload_n 1, 1) := dk_27 (dk_at dksX4_gatheredSlot_0 13 rfl rfl)
theorem dX4_gatheredSlot_14 : decode cX4_gatheredSlot 14 = .ok (.iaload, 1) := dk_46 (dk_at dksX4_gatheredSlot_0 14 rfl rfl)
theorem dX4_gatheredSlot_15 : decode cX4_gatheredSlot 15 = .ok (.iaload, 1) := dk_46 (dk_at dksX4_gatheredSlot_0 15 rfl rfl)
theorem dX4_gatheredSlot_16 : decode cX4_gatheredSlot 16 = .ok (.if_icmp .ge 31, 3) := dk_162 0 31 (dk_at dksX4_gatheredSlot_0 16 rfl rfl)
theorem dX4_gatheredSlot_19 : decode cX4_gatheredSlot 19 = .ok (.aload_n 0, 1) := dk_42 (dk_at dksX4_gatheredSlot_0 19 rfl rfl)
theorem dX4_gatheredSlot_20 : decode cX4_gatheredSlot 20 = .ok (.getfield 22, 3) := dk_180 0 22 (dk_at dksX4_gatheredSlot_0 20 rfl rfl)
theorem dX4_gatheredSlot_23 : decode cX4_gatheredSlot 23 = .ok (.iconst 3, 1) := dk_6 (dk_at dksX4_gatheredSlot_0 23 rfl rfl)
theorem dX4_gatheredSlot_24 : decode cX4_gatheredSlot 24 = .ok (.iload_n 1, 1) := dk_27 (dk_at dksX4_gatheredSlot_1 0 rfl rfl)
theorem dX4_gatheredSlot_25 : decode cX4_gatheredSlot 25 = .ok (.imul, 1) := dk_104 (dk_at dksX4_gatheredSlot_1 1 rfl rfl)
theorem dX4_gatheredSlot_26 : decode cX4_gatheredSlot 26 = .ok (.iload_n 3, 1) := dk_29 (dk_at dksX4_gatheredSlot_1 2 rfl rfl)
theorem dX4_gatheredSlot_27 : decode cX4_gatheredSlot 27 = .ok (.iadd, 1) := dk_96 (dk_at dksX4_gatheredSlot_1 3 rfl rfl)
theorem dX4_gatheredSlot_28 : decode cX4_gatheredSlot 28 = .ok (.iaload, 1) := dk_46 (dk_at dksX4_gatheredSlot_1 4 rfl rfl)
theorem dX4_gatheredSlot_29 : decode cX4_gatheredSlot 29 = .ok (.sipush 200, 3) := dk_17 0 200 (dk_at dksX4_gatheredSlot_1 5 rfl rfl)
theorem dX4_gatheredSlot_32 : decode cX4_gatheredSlot 32 = .ok (.if_icmp .lt 7, 3) := dk_161 0 7 (dk_at dksX4_gatheredSlot_1 8 rfl rfl)
theorem dX4_gatheredSlot_35 : decode cX4_gatheredSlot 35 = .ok (.iload_n 3, 1) := dk_29 (dk_at dksX4_gatheredSlot_1 11 rfl rfl)
theorem dX4_gatheredSlot_36 : decode cX4_gatheredSlot 36 = .ok (.goto 4, 3) := dk_167 0 4 (dk_at dksX4_gatheredSlot_1 12 rfl rfl)
theorem dX4_gatheredSlot_39 : decode cX4_gatheredSlot 39 = .ok (.iload_n 2, 1) := dk_28 (dk_at dksX4_gatheredSlot_1 15 rfl rfl)
theorem dX4_gatheredSlot_40 : decode cX4_gatheredSlot 40 = .ok (.istore_n 2, 1) := dk_61 (dk_at dksX4_gatheredSlot_1 16 rfl rfl)
theorem dX4_gatheredSlot_41 : decode cX4_gatheredSlot 41 = .ok (.iinc 3 1, 3) := dk_132 3 1 (dk_at dksX4_gatheredSlot_1 17 rfl rfl)
theorem dX4_gatheredSlot_44 : decode cX4_gatheredSlot 44 = .ok (.goto (-40), 3) := dk_167 255 216 (dk_at dksX4_gatheredSlot_1 20 rfl rfl)
theorem dX4_gatheredSlot_47 : decode cX4_gatheredSlot 47 = .ok (.iload_n 2, 1) := dk_28 (dk_at dksX4_gatheredSlot_1 23 rfl rfl)
theorem dX4_gatheredSlot_48 : decode cX4_gatheredSlot 48 = .ok (.ireturn, 1) := dk_172 (dk_at dksX4_gatheredSlot_2 0 rfl rfl)
abbrev cX4_forget : ByteArray := prog_19_method_16_code
def yX4_forget : MethodName := ⟨RX4, "forget", "()V"⟩
def dkwX4_forget_1 : List UInt8 := [132, 1, 1, 167, 255, 233, 177]
abbrev dktX4_forget_1 : List UInt8 := dkwX4_forget_1 ++ []
def dkwX4_forget_0 : List UInt8 := [3, 60, 27, 16, 8, 162, 0, 23, 42, 180, 0, 91, 27, 2, 79, 42, 180, 0, 94, 27, 2, 79]
abbrev dktX4_forget_0 : List UInt8 := dkwX4_forget_0 ++ dktX4_forget_1
theorem dksX4_forget_0 : cX4_forget.data.toList.drop 0 = dktX4_forget_0 := by decide +kernel
theorem dksX4_forget_1 : cX4_forget.data.toList.drop 22 = dktX4_forget_1 := dk_seg dksX4_forget_0 22 rfl rfl
theorem dX4_forget_0 : decode cX4_forget 0 = .ok (.iconst 0, 1) := dk_3 (dk_at dksX4_forget_0 0 rfl rfl)
theorem dX4_forget_1 : decode cX4_forget 1 = .ok (.istore_n 1, 1) := dk_60 (dk_at dksX4_forget_0 1 rfl rfl)
theorem dX4_forget_2 : decode cX4_forget 2 = .ok (.iload_n 1, 1) := dk_27 (dk_at dksX4_forget_0 2 rfl rfl)
theorem dX4_forget_3 : decode cX4_forget 3 = .ok (.bipush 8, 2) := dk_16 8 (dk_at dksX4_forget_0 3 rfl rfl)
theorem dX4_forget_5 : decode cX4_forget 5 = .ok (.if_icmp .ge 23, 3) := dk_162 0 23 (dk_at dksX4_forget_0 5 rfl rfl)
theorem dX4_forget_8 : decode cX4_forget 8 = .ok (.aload_n 0, 1) := dk_42 (dk_at dksX4_forget_0 8 rfl rfl)
theorem dX4_forget_9 : decode cX4_forget 9 = .ok (.getfield 91, 3) := dk_180 0 91 (dk_at dksX4_forget_0 9 rfl rfl)
theorem dX4_forget_12 : decode cX4_forget 12 = .ok (.iload_n 1, 1) := dk_27 (dk_at dksX4_forget_0 12 rfl rfl)
theorem dX4_forget_13 : decode cX4_forget 13 = .ok (.iconst (-1), 1) := dk_2 (dk_at dksX4_forget_0 13 rfl rfl)
theorem dX4_forget_14 : decode cX4_forget 14 = .ok (.iastore, 1) := dk_79 (dk_at dksX4_forget_0 14 rfl rfl)
theorem dX4_forget_15 : decode cX4_forget 15 = .ok (.aload_n 0, 1) := dk_42 (dk_at dksX4_forget_0 15 rfl rfl)
theorem dX4_forget_16 : decode cX4_forget 16 = .ok (.getfield 94, 3) := dk_180 0 94 (dk_at dksX4_forget_0 16 rfl rfl)
theorem dX4_forget_19 : decode cX4_forget 19 = .ok (.iload_n 1, 1) := dk_27 (dk_at dksX4_forget_0 19 rfl rfl)
theorem dX4_forget_20 : decode cX4_forget 20 = .ok (.iconst (-1), 1) := dk_2 (dk_at dksX4_forget_0 20 rfl rfl)
theorem dX4_forget_21 : decode cX4_forget 21 = .ok (.iastore, 1) := dk_79 (dk_at dksX4_forget_0 21 rfl rfl)
theorem dX4_forget_22 : decode cX4_forget 22 = .ok (.iinc 1 1, 3) := dk_132 1 1 (dk_at dksX4_forget_1 0 rfl rfl)
theorem dX4_forget_25 : decode cX4_forget 25 = .ok (.goto (-23), 3) := dk_167 255 233 (dk_at dksX4_forget_1 3 rfl rfl)
theorem dX4_forget_28 : decode cX4_forget 28 = .ok (.return_, 1) := dk_177 (dk_at dksX4_forget_1 6 rfl rfl)
abbrev cX4_beginMatches : ByteArray := prog_19_method_17_code
def yX4_beginMatches : MethodName := ⟨RX4, "beginMatches", "(II)V"⟩
def dkwX4_beginMatches_1 : List UInt8 := [16, 6, 162, 0, 16, 42, 180, 0, 85, 29, 29, 79, 132, 3, 1, 167, 255, 240, 177]
abbrev dktX4_beginMatches_1 : List UInt8 := dkwX4_beginMatches_1 ++ []
def dkwX4_beginMatches_0 : List UInt8 := [42, 27, 181, 0, 155, 42, 28, 181, 0, 158, 42, 3, 181, 0, 161, 42, 3, 181, 0, 165, 3, 62, 29]
abbrev dktX4_beginMatches_0 : List UInt8 := dkwX4_beginMatches_0 ++ dktX4_beginMatches_1
theorem dksX4_beginMatches_0 : cX4_beginMatches.data.toList.drop 0 = dktX4_beginMatches_0 := by decide +kernel
theorem dksX4_beginMatches_1 : cX4_beginMatches.data.toList.drop 23 = dktX4_beginMatches_1 := dk_seg dksX4_beginMatches_0 23 rfl rfl
theorem dX4_beginMatches_0 : decode cX4_beginMatches 0 = .ok (.aload_n 0, 1) := dk_42 (dk_at dksX4_beginMatches_0 0 rfl rfl)
theorem dX4_beginMatches_1 : decode cX4_beginMatches 1 = .ok (.iload_n 1, 1) := dk_27 (dk_at dksX4_beginMatches_0 1 rfl rfl)
theorem dX4_beginMatches_2 : decode cX4_beginMatches 2 = .ok (.putfield 155, 3) := dk_181 0 155 (dk_at dksX4_beginMatches_0 2 rfl rfl)
theorem dX4_beginMatches_5 : decode cX4_beginMatches 5 = .ok (.aload_n 0, 1) := dk_42 (dk_at dksX4_beginMatches_0 5 rfl rfl)
theorem dX4_beginMatches_6 : decode cX4_beginMatches 6 = .ok (.iload_n 2, 1) := dk_28 (dk_at dksX4_beginMatches_0 6 rfl rfl)
theorem dX4_beginMatches_7 : decode cX4_beginMatches 7 = .ok (.putfield 158, 3) := dk_181 0 158 (dk_at dksX4_beginMatches_0 7 rfl rfl)
theorem dX4_beginMatches_10 : decode cX4_beginMatches 10 = .ok (.aload_n 0, 1) := dk_42 (dk_at dksX4_beginMatches_0 10 rfl rfl)
theorem dX4_beginMatches_11 : decode cX4_beginMatches 11 = .ok (.iconst 0, 1) := dk_3 (dk_at dksX4_beginMatches_0 11 rfl rfl)
theorem dX4_beginMatches_12 : decode cX4_beginMatches 12 = .ok (.putfield 161, 3) := dk_181 0 161 (dk_at dksX4_beginMatches_0 12 rfl rfl)
theorem dX4_beginMatches_15 : decode cX4_beginMatches 15 = .ok (.aload_n 0, 1) := dk_42 (dk_at dksX4_beginMatches_0 15 rfl rfl)
theorem dX4_beginMatches_16 : decode cX4_beginMatches 16 = .ok (.iconst 0, 1) := dk_3 (dk_at dksX4_beginMatches_0 16 rfl rfl)
theorem dX4_beginMatches_17 : decode cX4_beginMatches 17 = .ok (.putfield 165, 3) := dk_181 0 165 (dk_at dksX4_beginMatches_0 17 rfl rfl)
theorem dX4_beginMatches_20 : decode cX4_beginMatches 20 = .ok (.iconst 0, 1) := dk_3 (dk_at dksX4_beginMatches_0 20 rfl rfl)
theorem dX4_beginMatches_21 : decode cX4_beginMatches 21 = .ok (.istore_n 3, 1) := dk_62 (dk_at dksX4_beginMatches_0 21 rfl rfl)
theorem dX4_beginMatches_22 : decode cX4_beginMatches 22 = .ok (.iload_n 3, 1) := dk_29 (dk_at dksX4_beginMatches_0 22 rfl rfl)
theorem dX4_beginMatches_23 : decode cX4_beginMatches 23 = .ok (.bipush 6, 2) := dk_16 6 (dk_at dksX4_beginMatches_1 0 rfl rfl)
theorem dX4_beginMatches_25 : decode cX4_beginMatches 25 = .ok (.if_icmp .ge 16, 3) := dk_162 0 16 (dk_at dksX4_beginMatches_1 2 rfl rfl)
theorem dX4_beginMatches_28 : decode cX4_beginMatches 28 = .ok (.aload_n 0, 1) := dk_42 (dk_at dksX4_beginMatches_1 5 rfl rfl)
theorem dX4_beginMatches_29 : decode cX4_beginMatches 29 = .ok (.getfield 85, 3) := dk_180 0 85 (dk_at dksX4_beginMatches_1 6 rfl rfl)
theorem dX4_beginMatches_32 : decode cX4_beginMatches 32 = .ok (.iload_n 3, 1) := dk_29 (dk_at dksX4_beginMatches_1 9 rfl rfl)
theorem dX4_beginMatches_33 : decode cX4_beginMatches 33 = .ok (.iload_n 3, 1) := dk_29 (dk_at dksX4_beginMatches_1 10 rfl rfl)
theorem dX4_beginMatches_34 : decode cX4_beginMatches 34 = .ok (.iastore, 1) := dk_79 (dk_at dksX4_beginMatches_1 11 rfl rfl)
theorem dX4_beginMatches_35 : decode cX4_beginMatches 35 = .ok (.iinc 3 1, 3) := dk_132 3 1 (dk_at dksX4_beginMatches_1 12 rfl rfl)
theorem dX4_beginMatches_38 : decode cX4_beginMatches 38 = .ok (.goto (-16), 3) := dk_167 255 240 (dk_at dksX4_beginMatches_1 15 rfl rfl)
theorem dX4_beginMatches_41 : decode cX4_beginMatches 41 = .ok (.return_, 1) := dk_177 (dk_at dksX4_beginMatches_1 18 rfl rfl)
abbrev cX4_nextMatch : ByteArray := prog_19_method_25_code
def yX4_nextMatch : MethodName := ⟨RX4, "nextMatch", "()Z"⟩
def dkwX4_nextMatch_5 : List UInt8 := [42, 180, 0, 165, 181, 0, 165, 42, 180, 0, 88, 27, 2, 79, 167, 255, 183, 3, 172]
abbrev dktX4_nextMatch_5 : List UInt8 := dkwX4_nextMatch_5 ++ []
def dkwX4_nextMatch_4 : List UInt8 := [180, 0, 158, 181, 0, 165, 4, 172, 132, 1, 1, 42, 42, 180, 0, 165, 27, 162, 0, 7, 27, 167, 0, 7]
abbrev dktX4_nextMatch_4 : List UInt8 := dkwX4_nextMatch_4 ++ dktX4_nextMatch_5
def dkwX4_nextMatch_3 : List UInt8 := [182, 0, 202, 154, 0, 9, 132, 1, 255, 167, 255, 236, 27, 42, 180, 0, 158, 4, 100, 160, 0, 13, 42, 42]
abbrev dktX4_nextMatch_3 : List UInt8 := dkwX4_nextMatch_3 ++ dktX4_nextMatch_4
def dkwX4_nextMatch_2 : List UInt8 := [181, 0, 161, 42, 180, 0, 158, 154, 0, 5, 4, 172, 27, 155, 0, 75, 42, 27, 182, 0, 185, 42, 27]
abbrev dktX4_nextMatch_2 : List UInt8 := dkwX4_nextMatch_2 ++ dktX4_nextMatch_3
def dkwX4_nextMatch_1 : List UInt8 := [154, 0, 13, 42, 180, 0, 88, 3, 2, 79, 167, 0, 12, 42, 180, 0, 158, 154, 0, 5, 3, 172, 42, 4]
abbrev dktX4_nextMatch_1 : List UInt8 := dkwX4_nextMatch_1 ++ dktX4_nextMatch_2
def dkwX4_nextMatch_0 : List UInt8 := [42, 180, 0, 161, 153, 0, 12, 42, 180, 0, 158, 4, 100, 167, 0, 4, 3, 60, 42, 180, 0, 161]
abbrev dktX4_nextMatch_0 : List UInt8 := dkwX4_nextMatch_0 ++ dktX4_nextMatch_1
theorem dksX4_nextMatch_0 : cX4_nextMatch.data.toList.drop 0 = dktX4_nextMatch_0 := by decide +kernel
theorem dksX4_nextMatch_1 : cX4_nextMatch.data.toList.drop 22 = dktX4_nextMatch_1 := dk_seg dksX4_nextMatch_0 22 rfl rfl
theorem dksX4_nextMatch_2 : cX4_nextMatch.data.toList.drop 46 = dktX4_nextMatch_2 := dk_seg dksX4_nextMatch_1 24 rfl rfl
theorem dksX4_nextMatch_3 : cX4_nextMatch.data.toList.drop 69 = dktX4_nextMatch_3 := dk_seg dksX4_nextMatch_2 23 rfl rfl
theorem dksX4_nextMatch_4 : cX4_nextMatch.data.toList.drop 93 = dktX4_nextMatch_4 := dk_seg dksX4_nextMatch_3 24 rfl rfl
theorem dksX4_nextMatch_5 : cX4_nextMatch.data.toList.drop 117 = dktX4_nextMatch_5 := dk_seg dksX4_nextMatch_4 24 rfl rfl
theorem dX4_nextMatch_0 : decode cX4_nextMatch 0 = .ok (.aload_n 0, 1) := dk_42 (dk_at dksX4_nextMatch_0 0 rfl rfl)
theorem dX4_nextMatch_1 : decode cX4_nextMatch 1 = .ok (.getfield 161, 3) := dk_180 0 161 (dk_at dksX4_nextMatch_0 1 rfl rfl)
theorem dX4_nextMatch_4 : decode cX4_nextMatch 4 = .ok (.ifCond .eq 12, 3) := dk_153 0 12 (dk_at dksX4_nextMatch_0 4 rfl rfl)
theorem dX4_nextMatch_7 : decode cX4_nextMatch 7 = .ok (.aload_n 0, 1) := dk_42 (dk_at dksX4_nextMatch_0 7 rfl rfl)
theorem dX4_nextMatch_8 : decode cX4_nextMatch 8 = .ok (.getfield 158, 3) := dk_180 0 158 (dk_at dksX4_nextMatch_0 8 rfl rfl)
theorem dX4_nextMatch_11 : decode cX4_nextMatch 11 = .ok (.iconst 1, 1) := dk_4 (dk_at dksX4_nextMatch_0 11 rfl rfl)
theorem dX4_nextMatch_12 : decode cX4_nextMatch 12 = .ok (.isub, 1) := dk_100 (dk_at dksX4_nextMatch_0 12 rfl rfl)
theorem dX4_nextMatch_13 : decode cX4_nextMatch 13 = .ok (.goto 4, 3) := dk_167 0 4 (dk_at dksX4_nextMatch_0 13 rfl rfl)
theorem dX4_nextMatch_16 : decode cX4_nextMatch 16 = .ok (.iconst 0, 1) := dk_3 (dk_at dksX4_nextMatch_0 16 rfl rfl)
theorem dX4_nextMatch_17 : decode cX4_nextMatch 17 = .ok (.istore_n 1, 1) := dk_60 (dk_at dksX4_nextMatch_0 17 rfl rfl)
theorem dX4_nextMatch_18 : decode cX4_nextMatch 18 = .ok (.aload_n 0, 1) := dk_42 (dk_at dksX4_nextMatch_0 18 rfl rfl)
theorem dX4_nextMatch_19 : decode cX4_nextMatch 19 = .ok (.getfield 161, 3) := dk_180 0 161 (dk_at dksX4_nextMatch_0 19 rfl rfl)
theorem dX4_nextMatch_22 : decode cX4_nextMatch 22 = .ok (.ifCond .ne 13, 3) := dk_154 0 13 (dk_at dksX4_nextMatch_1 0 rfl rfl)
theorem dX4_nextMatch_25 : decode cX4_nextMatch 25 = .ok (.aload_n 0, 1) := dk_42 (dk_at dksX4_nextMatch_1 3 rfl rfl)
theorem dX4_nextMatch_26 : decode cX4_nextMatch 26 = .ok (.getfield 88, 3) := dk_180 0 88 (dk_at dksX4_nextMatch_1 4 rfl rfl)
theorem dX4_nextMatch_29 : decode cX4_nextMatch 29 = .ok (.iconst 0, 1) := dk_3 (dk_at dksX4_nextMatch_1 7 rfl rfl)
theorem dX4_nextMatch_30 : decode cX4_nextMatch 30 = .ok (.iconst (-1), 1) := dk_2 (dk_at dksX4_nextMatch_1 8 rfl rfl)
theorem dX4_nextMatch_31 : decode cX4_nextMatch 31 = .ok (.iastore, 1) := dk_79 (dk_at dksX4_nextMatch_1 9 rfl rfl)
theorem dX4_nextMatch_32 : decode cX4_nextMatch 32 = .ok (.goto 12, 3) := dk_167 0 12 (dk_at dksX4_nextMatch_1 10 rfl rfl)
theorem dX4_nextMatch_35 : decode cX4_nextMatch 35 = .ok (.aload_n 0, 1) := dk_42 (dk_at dksX4_nextMatch_1 13 rfl rfl)
theorem dX4_nextMatch_36 : decode cX4_nextMatch 36 = .ok (.getfield 158, 3) := dk_180 0 158 (dk_at dksX4_nextMatch_1 14 rfl rfl)
theorem dX4_nextMatch_39 : decode cX4_nextMatch 39 = .ok (.ifCond .ne 5, 3) := dk_154 0 5 (dk_at dksX4_nextMatch_1 17 rfl rfl)
theorem dX4_nextMatch_42 : decode cX4_nextMatch 42 = .ok (.iconst 0, 1) := dk_3 (dk_at dksX4_nextMatch_1 20 rfl rfl)
theorem dX4_nextMatch_43 : decode cX4_nextMatch 43 = .ok (.ireturn, 1) := dk_172 (dk_at dksX4_nextMatch_1 21 rfl rfl)
theorem dX4_nextMatch_44 : decode cX4_nextMatch 44 = .ok (.aload_n 0, 1) := dk_42 (dk_at dksX4_nextMatch_1 22 rfl rfl)
theorem dX4_nextMatch_45 : decode cX4_nextMatch 45 = .ok (.iconst 1, 1) := dk_4 (dk_at dksX4_nextMatch_1 23 rfl rfl)
theorem dX4_nextMatch_46 : decode cX4_nextMatch 46 = .ok (.putfield 161, 3) := dk_181 0 161 (dk_at dksX4_nextMatch_2 0 rfl rfl)
theorem dX4_nextMatch_49 : decode cX4_nextMatch 49 = .ok (.aload_n 0, 1) := dk_42 (dk_at dksX4_nextMatch_2 3 rfl rfl)
theorem dX4_nextMatch_50 : decode cX4_nextMatch 50 = .ok (.getfield 158, 3) := dk_180 0 158 (dk_at dksX4_nextMatch_2 4 rfl rfl)
theorem dX4_nextMatch_53 : decode cX4_nextMatch 53 = .ok (.ifCond .ne 5, 3) := dk_154 0 5 (dk_at dksX4_nextMatch_2 7 rfl rfl)
theorem dX4_nextMatch_56 : decode cX4_nextMatch 56 = .ok (.iconst 1, 1) := dk_4 (dk_at dksX4_nextMatch_2 10 rfl rfl)
theorem dX4_nextMatch_57 : decode cX4_nextMatch 57 = .ok (.ireturn, 1) := dk_172 (dk_at dksX4_nextMatch_2 11 rfl rfl)
theorem dX4_nextMatch_58 : decode cX4_nextMatch 58 = .ok (.iload_n 1, 1) := dk_27 (dk_at dksX4_nextMatch_2 12 rfl rfl)
theorem dX4_nextMatch_59 : decode cX4_nextMatch 59 = .ok (.ifCond .lt 75, 3) := dk_155 0 75 (dk_at dksX4_nextMatch_2 13 rfl rfl)
theorem dX4_nextMatch_62 : decode cX4_nextMatch 62 = .ok (.aload_n 0, 1) := dk_42 (dk_at dksX4_nextMatch_2 16 rfl rfl)
theorem dX4_nextMatch_63 : decode cX4_nextMatch 63 = .ok (.iload_n 1, 1) := dk_27 (dk_at dksX4_nextMatch_2 17 rfl rfl)
theorem dX4_nextMatch_64 : decode cX4_nextMatch 64 = .ok (.invokevirtual 185, 3) := dk_182 0 185 (dk_at dksX4_nextMatch_2 18 rfl rfl)
theorem dX4_nextMatch_67 : decode cX4_nextMatch 67 = .ok (.aload_n 0, 1) := dk_42 (dk_at dksX4_nextMatch_2 21 rfl rfl)
theorem dX4_nextMatch_68 : decode cX4_nextMatch 68 = .ok (.iload_n 1, 1) := dk_27 (dk_at dksX4_nextMatch_2 22 rfl rfl)
theorem dX4_nextMatch_69 : decode cX4_nextMatch 69 = .ok (.invokevirtual 202, 3) := dk_182 0 202 (dk_at dksX4_nextMatch_3 0 rfl rfl)
theorem dX4_nextMatch_72 : decode cX4_nextMatch 72 = .ok (.ifCond .ne 9, 3) := dk_154 0 9 (dk_at dksX4_nextMatch_3 3 rfl rfl)
theorem dX4_nextMatch_75 : decode cX4_nextMatch 75 = .ok (.iinc 1 (-1), 3) := dk_132 1 255 (dk_at dksX4_nextMatch_3 6 rfl rfl)
theorem dX4_nextMatch_78 : decode cX4_nextMatch 78 = .ok (.goto (-20), 3) := dk_167 255 236 (dk_at dksX4_nextMatch_3 9 rfl rfl)
theorem dX4_nextMatch_81 : decode cX4_nextMatch 81 = .ok (.iload_n 1, 1) := dk_27 (dk_at dksX4_nextMatch_3 12 rfl rfl)
theorem dX4_nextMatch_82 : decode cX4_nextMatch 82 = .ok (.aload_n 0, 1) := dk_42 (dk_at dksX4_nextMatch_3 13 rfl rfl)
theorem dX4_nextMatch_83 : decode cX4_nextMatch 83 = .ok (.getfield 158, 3) := dk_180 0 158 (dk_at dksX4_nextMatch_3 14 rfl rfl)
theorem dX4_nextMatch_86 : decode cX4_nextMatch 86 = .ok (.iconst 1, 1) := dk_4 (dk_at dksX4_nextMatch_3 17 rfl rfl)
theorem dX4_nextMatch_87 : decode cX4_nextMatch 87 = .ok (.isub, 1) := dk_100 (dk_at dksX4_nextMatch_3 18 rfl rfl)
theorem dX4_nextMatch_88 : decode cX4_nextMatch 88 = .ok (.if_icmp .ne 13, 3) := dk_160 0 13 (dk_at dksX4_nextMatch_3 19 rfl rfl)
theorem dX4_nextMatch_91 : decode cX4_nextMatch 91 = .ok (.aload_n 0, 1) := dk_42 (dk_at dksX4_nextMatch_3 22 rfl rfl)
theorem dX4_nextMatch_92 : decode cX4_nextMatch 92 = .ok (.aload_n 0, 1) := dk_42 (dk_at dksX4_nextMatch_3 23 rfl rfl)
theorem dX4_nextMatch_93 : decode cX4_nextMatch 93 = .ok (.getfield 158, 3) := dk_180 0 158 (dk_at dksX4_nextMatch_4 0 rfl rfl)
theorem dX4_nextMatch_96 : decode cX4_nextMatch 96 = .ok (.putfield 165, 3) := dk_181 0 165 (dk_at dksX4_nextMatch_4 3 rfl rfl)
theorem dX4_nextMatch_99 : decode cX4_nextMatch 99 = .ok (.iconst 1, 1) := dk_4 (dk_at dksX4_nextMatch_4 6 rfl rfl)
theorem dX4_nextMatch_100 : decode cX4_nextMatch 100 = .ok (.ireturn, 1) := dk_172 (dk_at dksX4_nextMatch_4 7 rfl rfl)
theorem dX4_nextMatch_101 : decode cX4_nextMatch 101 = .ok (.iinc 1 1, 3) := dk_132 1 1 (dk_at dksX4_nextMatch_4 8 rfl rfl)
theorem dX4_nextMatch_104 : decode cX4_nextMatch 104 = .ok (.aload_n 0, 1) := dk_42 (dk_at dksX4_nextMatch_4 11 rfl rfl)
theorem dX4_nextMatch_105 : decode cX4_nextMatch 105 = .ok (.aload_n 0, 1) := dk_42 (dk_at dksX4_nextMatch_4 12 rfl rfl)
theorem dX4_nextMatch_106 : decode cX4_nextMatch 106 = .ok (.getfield 165, 3) := dk_180 0 165 (dk_at dksX4_nextMatch_4 13 rfl rfl)
theorem dX4_nextMatch_109 : decode cX4_nextMatch 109 = .ok (.iload_n 1, 1) := dk_27 (dk_at dksX4_nextMatch_4 16 rfl rfl)
theorem dX4_nextMatch_110 : decode cX4_nextMatch 110 = .ok (.if_icmp .ge 7, 3) := dk_162 0 7 (dk_at dksX4_nextMatch_4 17 rfl rfl)
theorem dX4_nextMatch_113 : decode cX4_nextMatch 113 = .ok (.iload_n 1, 1) := dk_27 (dk_at dksX4_nextMatch_4 20 rfl rfl)
theorem dX4_nextMatch_114 : decode cX4_nextMatch 114 = .ok (.goto 7, 3) := dk_167 0 7 (dk_at dksX4_nextMatch_4 21 rfl rfl)
theorem dX4_nextMatch_117 : decode cX4_nextMatch 117 = .ok (.aload_n 0, 1) := dk_42 (dk_at dksX4_nextMatch_5 0 rfl rfl)
theorem dX4_nextMatch_118 : decode cX4_nextMatch 118 = .ok (.getfield 165, 3) := dk_180 0 165 (dk_at dksX4_nextMatch_5 1 rfl rfl)
theorem dX4_nextMatch_121 : decode cX4_nextMatch 121 = .ok (.putfield 165, 3) := dk_181 0 165 (dk_at dksX4_nextMatch_5 4 rfl rfl)
theorem dX4_nextMatch_124 : decode cX4_nextMatch 124 = .ok (.aload_n 0, 1) := dk_42 (dk_at dksX4_nextMatch_5 7 rfl rfl)
theorem dX4_nextMatch_125 : decode cX4_nextMatch 125 = .ok (.getfield 88, 3) := dk_180 0 88 (dk_at dksX4_nextMatch_5 8 rfl rfl)
theorem dX4_nextMatch_128 : decode cX4_nextMatch 128 = .ok (.iload_n 1, 1) := dk_27 (dk_at dksX4_nextMatch_5 11 rfl rfl)
theorem dX4_nextMatch_129 : decode cX4_nextMatch 129 = .ok (.iconst (-1), 1) := dk_2 (dk_at dksX4_nextMatch_5 12 rfl rfl)
theorem dX4_nextMatch_130 : decode cX4_nextMatch 130 = .ok (.iastore, 1) := dk_79 (dk_at dksX4_nextMatch_5 13 rfl rfl)
theorem dX4_nextMatch_131 : decode cX4_nextMatch 131 = .ok (.goto (-73), 3) := dk_167 255 183 (dk_at dksX4_nextMatch_5 14 rfl rfl)
theorem dX4_nextMatch_134 : decode cX4_nextMatch 134 = .ok (.iconst 0, 1) := dk_3 (dk_at dksX4_nextMatch_5 17 rfl rfl)
theorem dX4_nextMatch_135 : decode cX4_nextMatch 135 = .ok (.ireturn, 1) := dk_172 (dk_at dksX4_nextMatch_5 18 rfl rfl)
abbrev cX4_unbind : ByteArray := prog_19_method_19_code
def yX4_unbind : MethodName := ⟨RX4, "unbind", "(I)V"⟩
def dkwX4_unbind_1 : List UInt8 := [79, 42, 180, 0, 94, 28, 2, 79, 132, 2, 1, 167, 255, 223, 177]
abbrev dktX4_unbind_1 : List UInt8 := dkwX4_unbind_1 ++ []
def dkwX4_unbind_0 : List UInt8 := [3, 61, 28, 16, 8, 162, 0, 33, 42, 180, 0, 94, 28, 46, 27, 160, 0, 17, 42, 180, 0, 91, 28, 2]
abbrev dktX4_unbind_0 : List UInt8 := dkwX4_unbind_0 ++ dktX4_unbind_1
theorem dksX4_unbind_0 : cX4_unbind.data.toList.drop 0 = dktX4_unbind_0 := by decide +kernel
theorem dksX4_unbind_1 : cX4_unbind.data.toList.drop 24 = dktX4_unbind_1 := dk_seg dksX4_unbind_0 24 rfl rfl
theorem dX4_unbind_0 : decode cX4_unbind 0 = .ok (.iconst 0, 1) := dk_3 (dk_at dksX4_unbind_0 0 rfl rfl)
theorem dX4_unbind_1 : decode cX4_unbind 1 = .ok (.istore_n 2, 1) := dk_61 (dk_at dksX4_unbind_0 1 rfl rfl)
theorem dX4_unbind_2 : decode cX4_unbind 2 = .ok (.iload_n 2, 1) := dk_28 (dk_at dksX4_unbind_0 2 rfl rfl)
theorem dX4_unbind_3 : decode cX4_unbind 3 = .ok (.bipush 8, 2) := dk_16 8 (dk_at dksX4_unbind_0 3 rfl rfl)
theorem dX4_unbind_5 : decode cX4_unbind 5 = .ok (.if_icmp .ge 33, 3) := dk_162 0 33 (dk_at dksX4_unbind_0 5 rfl rfl)
theorem dX4_unbind_8 : decode cX4_unbind 8 = .ok (.aload_n 0, 1) := dk_42 (dk_at dksX4_unbind_0 8 rfl rfl)
theorem dX4_unbind_9 : decode cX4_unbind 9 = .ok (.getfield 94, 3) := dk_180 0 94 (dk_at dksX4_unbind_0 9 rfl rfl)
theorem dX4_unbind_12 : decode cX4_unbind 12 = .ok (.iload_n 2, 1) := dk_28 (dk_at dksX4_unbind_0 12 rfl rfl)
theorem dX4_unbind_13 : decode cX4_unbind 13 = .ok (.iaload, 1) := dk_46 (dk_at dksX4_unbind_0 13 rfl rfl)
theorem dX4_unbind_14 : decode cX4_unbind 14 = .ok (.iload_n 1, 1) := dk_27 (dk_at dksX4_unbind_0 14 rfl rfl)
theorem dX4_unbind_15 : decode cX4_unbind 15 = .ok (.if_icmp .ne 17, 3) := dk_160 0 17 (dk_at dksX4_unbind_0 15 rfl rfl)
theorem dX4_unbind_18 : decode cX4_unbind 18 = .ok (.aload_n 0, 1) := dk_42 (dk_at dksX4_unbind_0 18 rfl rfl)
theorem dX4_unbind_19 : decode cX4_unbind 19 = .ok (.getfield 91, 3) := dk_180 0 91 (dk_at dksX4_unbind_0 19 rfl rfl)
theorem dX4_unbind_22 : decode cX4_unbind 22 = .ok (.iload_n 2, 1) := dk_28 (dk_at dksX4_unbind_0 22 rfl rfl)
theorem dX4_unbind_23 : decode cX4_unbind 23 = .ok (.iconst (-1), 1) := dk_2 (dk_at dksX4_unbind_0 23 rfl rfl)
theorem dX4_unbind_24 : decode cX4_unbind 24 = .ok (.iastore, 1) := dk_79 (dk_at dksX4_unbind_1 0 rfl rfl)
theorem dX4_unbind_25 : decode cX4_unbind 25 = .ok (.aload_n 0, 1) := dk_42 (dk_at dksX4_unbind_1 1 rfl rfl)
theorem dX4_unbind_26 : decode cX4_unbind 26 = .ok (.getfield 94, 3) := dk_180 0 94 (dk_at dksX4_unbind_1 2 rfl rfl)
theorem dX4_unbind_29 : decode cX4_unbind 29 = .ok (.iload_n 2, 1) := dk_28 (dk_at dksX4_unbind_1 5 rfl rfl)
theorem dX4_unbind_30 : decode cX4_unbind 30 = .ok (.iconst (-1), 1) := dk_2 (dk_at dksX4_unbind_1 6 rfl rfl)
theorem dX4_unbind_31 : decode cX4_unbind 31 = .ok (.iastore, 1) := dk_79 (dk_at dksX4_unbind_1 7 rfl rfl)
theorem dX4_unbind_32 : decode cX4_unbind 32 = .ok (.iinc 2 1, 3) := dk_132 2 1 (dk_at dksX4_unbind_1 8 rfl rfl)
theorem dX4_unbind_35 : decode cX4_unbind 35 = .ok (.goto (-33), 3) := dk_167 255 223 (dk_at dksX4_unbind_1 11 rfl rfl)
theorem dX4_unbind_38 : decode cX4_unbind 38 = .ok (.return_, 1) := dk_177 (dk_at dksX4_unbind_1 14 rfl rfl)
abbrev cX4_advance : ByteArray := prog_19_method_24_code
def yX4_advance : MethodName := ⟨RX4, "advance", "(I)Z"⟩
def dkwX4_advance_2 : List UInt8 := [153, 0, 21, 42, 42, 180, 0, 85, 27, 46, 27, 182, 0, 198, 153, 0, 7, 4, 167, 0, 4, 3, 172]
abbrev dktX4_advance_2 : List UInt8 := dkwX4_advance_2 ++ []
def dkwX4_advance_1 : List UInt8 := [180, 0, 88, 27, 46, 2, 160, 0, 7, 4, 167, 0, 4, 3, 61, 42, 180, 0, 88, 27, 3, 79, 28]
abbrev dktX4_advance_1 : List UInt8 := dkwX4_advance_1 ++ dktX4_advance_2
def dkwX4_advance_0 : List UInt8 := [42, 42, 180, 0, 155, 42, 180, 0, 85, 27, 46, 182, 0, 148, 154, 0, 9, 42, 27, 182, 0, 195, 172, 42]
abbrev dktX4_advance_0 : List UInt8 := dkwX4_advance_0 ++ dktX4_advance_1
theorem dksX4_advance_0 : cX4_advance.data.toList.drop 0 = dktX4_advance_0 := by decide +kernel
theorem dksX4_advance_1 : cX4_advance.data.toList.drop 24 = dktX4_advance_1 := dk_seg dksX4_advance_0 24 rfl rfl
theorem dksX4_advance_2 : cX4_advance.data.toList.drop 47 = dktX4_advance_2 := dk_seg dksX4_advance_1 23 rfl rfl
theorem dX4_advance_0 : decode cX4_advance 0 = .ok (.aload_n 0, 1) := dk_42 (dk_at dksX4_advance_0 0 rfl rfl)
theorem dX4_advance_1 : decode cX4_advance 1 = .ok (.aload_n 0, 1) := dk_42 (dk_at dksX4_advance_0 1 rfl rfl)
theorem dX4_advance_2 : decode cX4_advance 2 = .ok (.getfield 155, 3) := dk_180 0 155 (dk_at dksX4_advance_0 2 rfl rfl)
theorem dX4_advance_5 : decode cX4_advance 5 = .ok (.aload_n 0, 1) := dk_42 (dk_at dksX4_advance_0 5 rfl rfl)
theorem dX4_advance_6 : decode cX4_advance 6 = .ok (.getfield 85, 3) := dk_180 0 85 (dk_at dksX4_advance_0 6 rfl rfl)
theorem dX4_advance_9 : decode cX4_advance 9 = .ok (.iload_n 1, 1) := dk_27 (dk_at dksX4_advance_0 9 rfl rfl)
theorem dX4_advance_10 : decode cX4_advance 10 = .ok (.iaload, 1) := dk_46 (dk_at dksX4_advance_0 10 rfl rfl)
theorem dX4_advance_11 : decode cX4_advance 11 = .ok (.invokevirtual 148, 3) := dk_182 0 148 (dk_at dksX4_advance_0 11 rfl rfl)
theorem dX4_advance_14 : decode cX4_advance 14 = .ok (.ifCond .ne 9, 3) := dk_154 0 9 (dk_at dksX4_advance_0 14 rfl rfl)
theorem dX4_advance_17 : decode cX4_advance 17 = .ok (.aload_n 0, 1) := dk_42 (dk_at dksX4_advance_0 17 rfl rfl)
theorem dX4_advance_18 : decode cX4_advance 18 = .ok (.iload_n 1, 1) := dk_27 (dk_at dksX4_advance_0 18 rfl rfl)
theorem dX4_advance_19 : decode cX4_advance 19 = .ok (.invokevirtual 195, 3) := dk_182 0 195 (dk_at dksX4_advance_0 19 rfl rfl)
theorem dX4_advance_22 : decode cX4_advance 22 = .ok (.ireturn, 1) := dk_172 (dk_at dksX4_advance_0 22 rfl rfl)
theorem dX4_advance_23 : decode cX4_advance 23 = .ok (.aload_n 0, 1) := dk_42 (dk_at dksX4_advance_0 23 rfl rfl)
theorem dX4_advance_24 : decode cX4_advance 24 = .ok (.getfield 88, 3) := dk_180 0 88 (dk_at dksX4_advance_1 0 rfl rfl)
theorem dX4_advance_27 : decode cX4_advance 27 = .ok (.iload_n 1, 1) := dk_27 (dk_at dksX4_advance_1 3 rfl rfl)
theorem dX4_advance_28 : decode cX4_advance 28 = .ok (.iaload, 1) := dk_46 (dk_at dksX4_advance_1 4 rfl rfl)
theorem dX4_advance_29 : decode cX4_advance 29 = .ok (.iconst (-1), 1) := dk_2 (dk_at dksX4_advance_1 5 rfl rfl)
theorem dX4_advance_30 : decode cX4_advance 30 = .ok (.if_icmp .ne 7, 3) := dk_160 0 7 (dk_at dksX4_advance_1 6 rfl rfl)
theorem dX4_advance_33 : decode cX4_advance 33 = .ok (.iconst 1, 1) := dk_4 (dk_at dksX4_advance_1 9 rfl rfl)
theorem dX4_advance_34 : decode cX4_advance 34 = .ok (.goto 4, 3) := dk_167 0 4 (dk_at dksX4_advance_1 10 rfl rfl)
theorem dX4_advance_37 : decode cX4_advance 37 = .ok (.iconst 0, 1) := dk_3 (dk_at dksX4_advance_1 13 rfl rfl)
theorem dX4_advance_38 : decode cX4_advance 38 = .ok (.istore_n 2, 1) := dk_61 (dk_at dksX4_advance_1 14 rfl rfl)
theorem dX4_advance_39 : decode cX4_advance 39 = .ok (.aload_n 0, 1) := dk_42 (dk_at dksX4_advance_1 15 rfl rfl)
theorem dX4_advance_40 : decode cX4_advance 40 = .ok (.getfield 88, 3) := dk_180 0 88 (dk_at dksX4_advance_1 16 rfl rfl)
theorem dX4_advance_43 : decode cX4_advance 43 = .ok (.iload_n 1, 1) := dk_27 (dk_at dksX4_advance_1 19 rfl rfl)
theorem dX4_advance_44 : decode cX4_advance 44 = .ok (.iconst 0, 1) := dk_3 (dk_at dksX4_advance_1 20 rfl rfl)
theorem dX4_advance_45 : decode cX4_advance 45 = .ok (.iastore, 1) := dk_79 (dk_at dksX4_advance_1 21 rfl rfl)
theorem dX4_advance_46 : decode cX4_advance 46 = .ok (.iload_n 2, 1) := dk_28 (dk_at dksX4_advance_1 22 rfl rfl)
theorem dX4_advance_47 : decode cX4_advance 47 = .ok (.ifCond .eq 21, 3) := dk_153 0 21 (dk_at dksX4_advance_2 0 rfl rfl)
theorem dX4_advance_50 : decode cX4_advance 50 = .ok (.aload_n 0, 1) := dk_42 (dk_at dksX4_advance_2 3 rfl rfl)
theorem dX4_advance_51 : decode cX4_advance 51 = .ok (.aload_n 0, 1) := dk_42 (dk_at dksX4_advance_2 4 rfl rfl)
theorem dX4_advance_52 : decode cX4_advance 52 = .ok (.getfield 85, 3) := dk_180 0 85 (dk_at dksX4_advance_2 5 rfl rfl)
theorem dX4_advance_55 : decode cX4_advance 55 = .ok (.iload_n 1, 1) := dk_27 (dk_at dksX4_advance_2 8 rfl rfl)
theorem dX4_advance_56 : decode cX4_advance 56 = .ok (.iaload, 1) := dk_46 (dk_at dksX4_advance_2 9 rfl rfl)
theorem dX4_advance_57 : decode cX4_advance 57 = .ok (.iload_n 1, 1) := dk_27 (dk_at dksX4_advance_2 10 rfl rfl)
theorem dX4_advance_58 : decode cX4_advance 58 = .ok (.invokevirtual 198, 3) := dk_182 0 198 (dk_at dksX4_advance_2 11 rfl rfl)
theorem dX4_advance_61 : decode cX4_advance 61 = .ok (.ifCond .eq 7, 3) := dk_153 0 7 (dk_at dksX4_advance_2 14 rfl rfl)
theorem dX4_advance_64 : decode cX4_advance 64 = .ok (.iconst 1, 1) := dk_4 (dk_at dksX4_advance_2 17 rfl rfl)
theorem dX4_advance_65 : decode cX4_advance 65 = .ok (.goto 4, 3) := dk_167 0 4 (dk_at dksX4_advance_2 18 rfl rfl)
theorem dX4_advance_68 : decode cX4_advance 68 = .ok (.iconst 0, 1) := dk_3 (dk_at dksX4_advance_2 21 rfl rfl)
theorem dX4_advance_69 : decode cX4_advance 69 = .ok (.ireturn, 1) := dk_172 (dk_at dksX4_advance_2 22 rfl rfl)
abbrev cX4_advanceAtom : ByteArray := prog_19_method_22_code
def yX4_advanceAtom : MethodName := ⟨RX4, "advanceAtom", "(I)Z"⟩
def dkwX4_advanceAtom_3 : List UInt8 := [42, 27, 182, 0, 185, 132, 3, 1, 167, 255, 192, 3, 172]
abbrev dktX4_advanceAtom_3 : List UInt8 := dkwX4_advanceAtom_3 ++ []
def dkwX4_advanceAtom_2 : List UInt8 := [42, 28, 42, 180, 0, 52, 29, 46, 27, 182, 0, 182, 153, 0, 12, 42, 180, 0, 88, 27, 29, 79, 4, 172]
abbrev dktX4_advanceAtom_2 : List UInt8 := dkwX4_advanceAtom_2 ++ dktX4_advanceAtom_3
def dkwX4_advanceAtom_1 : List UInt8 := [162, 0, 59, 42, 180, 0, 52, 29, 46, 18, 139, 108, 42, 42, 180, 0, 155, 28, 182, 0, 152, 160, 0, 32]
abbrev dktX4_advanceAtom_1 : List UInt8 := dkwX4_advanceAtom_1 ++ dktX4_advanceAtom_2
def dkwX4_advanceAtom_0 : List UInt8 := [42, 180, 0, 85, 27, 46, 61, 42, 180, 0, 88, 27, 46, 4, 96, 62, 29, 42, 180, 0, 7, 16, 6, 46]
abbrev dktX4_advanceAtom_0 : List UInt8 := dkwX4_advanceAtom_0 ++ dktX4_advanceAtom_1
theorem dksX4_advanceAtom_0 : cX4_advanceAtom.data.toList.drop 0 = dktX4_advanceAtom_0 := by decide +kernel
theorem dksX4_advanceAtom_1 : cX4_advanceAtom.data.toList.drop 24 = dktX4_advanceAtom_1 := dk_seg dksX4_advanceAtom_0 24 rfl rfl
theorem dksX4_advanceAtom_2 : cX4_advanceAtom.data.toList.drop 48 = dktX4_advanceAtom_2 := dk_seg dksX4_advanceAtom_1 24 rfl rfl
theorem dksX4_advanceAtom_3 : cX4_advanceAtom.data.toList.drop 72 = dktX4_advanceAtom_3 := dk_seg dksX4_advanceAtom_2 24 rfl rfl
theorem dX4_advanceAtom_0 : decode cX4_advanceAtom 0 = .ok (.aload_n 0, 1) := dk_42 (dk_at dksX4_advanceAtom_0 0 rfl rfl)
theorem dX4_advanceAtom_1 : decode cX4_advanceAtom 1 = .ok (.getfield 85, 3) := dk_180 0 85 (dk_at dksX4_advanceAtom_0 1 rfl rfl)
theorem dX4_advanceAtom_4 : decode cX4_advanceAtom 4 = .ok (.iload_n 1, 1) := dk_27 (dk_at dksX4_advanceAtom_0 4 rfl rfl)
theorem dX4_advanceAtom_5 : decode cX4_advanceAtom 5 = .ok (.iaload, 1) := dk_46 (dk_at dksX4_advanceAtom_0 5 rfl rfl)
theorem dX4_advanceAtom_6 : decode cX4_advanceAtom 6 = .ok (.istore_n 2, 1) := dk_61 (dk_at dksX4_advanceAtom_0 6 rfl rfl)
theorem dX4_advanceAtom_7 : decode cX4_advanceAtom 7 = .ok (.aload_n 0, 1) := dk_42 (dk_at dksX4_advanceAtom_0 7 rfl rfl)
theorem dX4_advanceAtom_8 : decode cX4_advanceAtom 8 = .ok (.getfield 88, 3) := dk_180 0 88 (dk_at dksX4_advanceAtom_0 8 rfl rfl)
theorem dX4_advanceAtom_11 : decode cX4_advanceAtom 11 = .ok (.iload_n 1, 1) := dk_27 (dk_at dksX4_advanceAtom_0 11 rfl rfl)
theorem dX4_advanceAtom_12 : decode cX4_advanceAtom 12 = .ok (.iaload, 1) := dk_46 (dk_at dksX4_advanceAtom_0 12 rfl rfl)
theorem dX4_advanceAtom_13 : decode cX4_advanceAtom 13 = .ok (.iconst 1, 1) := dk_4 (dk_at dksX4_advanceAtom_0 13 rfl rfl)
theorem dX4_advanceAtom_14 : decode cX4_advanceAtom 14 = .ok (.iadd, 1) := dk_96 (dk_at dksX4_advanceAtom_0 14 rfl rfl)
theorem dX4_advanceAtom_15 : decode cX4_advanceAtom 15 = .ok (.istore_n 3, 1) := dk_62 (dk_at dksX4_advanceAtom_0 15 rfl rfl)
theorem dX4_advanceAtom_16 : decode cX4_advanceAtom 16 = .ok (.iload_n 3, 1) := dk_29 (dk_at dksX4_advanceAtom_0 16 rfl rfl)
theorem dX4_advanceAtom_17 : decode cX4_advanceAtom 17 = .ok (.aload_n 0, 1) := dk_42 (dk_at dksX4_advanceAtom_0 17 rfl rfl)
theorem dX4_advanceAtom_18 : decode cX4_advanceAtom 18 = .ok (.getfield 7, 3) := dk_180 0 7 (dk_at dksX4_advanceAtom_0 18 rfl rfl)
theorem dX4_advanceAtom_21 : decode cX4_advanceAtom 21 = .ok (.bipush 6, 2) := dk_16 6 (dk_at dksX4_advanceAtom_0 21 rfl rfl)
theorem dX4_advanceAtom_23 : decode cX4_advanceAtom 23 = .ok (.iaload, 1) := dk_46 (dk_at dksX4_advanceAtom_0 23 rfl rfl)
theorem dX4_advanceAtom_24 : decode cX4_advanceAtom 24 = .ok (.if_icmp .ge 59, 3) := dk_162 0 59 (dk_at dksX4_advanceAtom_1 0 rfl rfl)
theorem dX4_advanceAtom_27 : decode cX4_advanceAtom 27 = .ok (.aload_n 0, 1) := dk_42 (dk_at dksX4_advanceAtom_1 3 rfl rfl)
theorem dX4_advanceAtom_28 : decode cX4_advanceAtom 28 = .ok (.getfield 52, 3) := dk_180 0 52 (dk_at dksX4_advanceAtom_1 4 rfl rfl)
theorem dX4_advanceAtom_31 : decode cX4_advanceAtom 31 = .ok (.iload_n 3, 1) := dk_29 (dk_at dksX4_advanceAtom_1 7 rfl rfl)
theorem dX4_advanceAtom_32 : decode cX4_advanceAtom 32 = .ok (.iaload, 1) := dk_46 (dk_at dksX4_advanceAtom_1 8 rfl rfl)
theorem dX4_advanceAtom_33 : decode cX4_advanceAtom 33 = .ok (.ldc 139, 2) := dk_18 139 (dk_at dksX4_advanceAtom_1 9 rfl rfl)
theorem dX4_advanceAtom_35 : decode cX4_advanceAtom 35 = .ok (.idiv, 1) := dk_108 (dk_at dksX4_advanceAtom_1 11 rfl rfl)
theorem dX4_advanceAtom_36 : decode cX4_advanceAtom 36 = .ok (.aload_n 0, 1) := dk_42 (dk_at dksX4_advanceAtom_1 12 rfl rfl)
theorem dX4_advanceAtom_37 : decode cX4_advanceAtom 37 = .ok (.aload_n 0, 1) := dk_42 (dk_at dksX4_advanceAtom_1 13 rfl rfl)
theorem dX4_advanceAtom_38 : decode cX4_advanceAtom 38 = .ok (.getfield 155, 3) := dk_180 0 155 (dk_at dksX4_advanceAtom_1 14 rfl rfl)
theorem dX4_advanceAtom_41 : decode cX4_advanceAtom 41 = .ok (.iload_n 2, 1) := dk_28 (dk_at dksX4_advanceAtom_1 17 rfl rfl)
theorem dX4_advanceAtom_42 : decode cX4_advanceAtom 42 = .ok (.invokevirtual 152, 3) := dk_182 0 152 (dk_at dksX4_advanceAtom_1 18 rfl rfl)
theorem dX4_advanceAtom_45 : decode cX4_advanceAtom 45 = .ok (.if_icmp .ne 32, 3) := dk_160 0 32 (dk_at dksX4_advanceAtom_1 21 rfl rfl)
theorem dX4_advanceAtom_48 : decode cX4_advanceAtom 48 = .ok (.aload_n 0, 1) := dk_42 (dk_at dksX4_advanceAtom_2 0 rfl rfl)
theorem dX4_advanceAtom_49 : decode cX4_advanceAtom 49 = .ok (.iload_n 2, 1) := dk_28 (dk_at dksX4_advanceAtom_2 1 rfl rfl)
theorem dX4_advanceAtom_50 : decode cX4_advanceAtom 50 = .ok (.aload_n 0, 1) := dk_42 (dk_at dksX4_advanceAtom_2 2 rfl rfl)
theorem dX4_advanceAtom_51 : decode cX4_advanceAtom 51 = .ok (.getfield 52, 3) := dk_180 0 52 (dk_at dksX4_advanceAtom_2 3 rfl rfl)
theorem dX4_advanceAtom_54 : decode cX4_advanceAtom 54 = .ok (.iload_n 3, 1) := dk_29 (dk_at dksX4_advanceAtom_2 6 rfl rfl)
theorem dX4_advanceAtom_55 : decode cX4_advanceAtom 55 = .ok (.iaload, 1) := dk_46 (dk_at dksX4_advanceAtom_2 7 rfl rfl)
theorem dX4_advanceAtom_56 : decode cX4_advanceAtom 56 = .ok (.iload_n 1, 1) := dk_27 (dk_at dksX4_advanceAtom_2 8 rfl rfl)
theorem dX4_advanceAtom_57 : decode cX4_advanceAtom 57 = .ok (.invokevirtual 182, 3) := dk_182 0 182 (dk_at dksX4_advanceAtom_2 9 rfl rfl)
theorem dX4_advanceAtom_60 : decode cX4_advanceAtom 60 = .ok (.ifCond .eq 12, 3) := dk_153 0 12 (dk_at dksX4_advanceAtom_2 12 rfl rfl)
theorem dX4_advanceAtom_63 : decode cX4_advanceAtom 63 = .ok (.aload_n 0, 1) := dk_42 (dk_at dksX4_advanceAtom_2 15 rfl rfl)
theorem dX4_advanceAtom_64 : decode cX4_advanceAtom 64 = .ok (.getfield 88, 3) := dk_180 0 88 (dk_at dksX4_advanceAtom_2 16 rfl rfl)
theorem dX4_advanceAtom_67 : decode cX4_advanceAtom 67 = .ok (.iload_n 1, 1) := dk_27 (dk_at dksX4_advanceAtom_2 19 rfl rfl)
theorem dX4_advanceAtom_68 : decode cX4_advanceAtom 68 = .ok (.iload_n 3, 1) := dk_29 (dk_at dksX4_advanceAtom_2 20 rfl rfl)
theorem dX4_advanceAtom_69 : decode cX4_advanceAtom 69 = .ok (.iastore, 1) := dk_79 (dk_at dksX4_advanceAtom_2 21 rfl rfl)
theorem dX4_advanceAtom_70 : decode cX4_advanceAtom 70 = .ok (.iconst 1, 1) := dk_4 (dk_at dksX4_advanceAtom_2 22 rfl rfl)
theorem dX4_advanceAtom_71 : decode cX4_advanceAtom 71 = .ok (.ireturn, 1) := dk_172 (dk_at dksX4_advanceAtom_2 23 rfl rfl)
theorem dX4_advanceAtom_72 : decode cX4_advanceAtom 72 = .ok (.aload_n 0, 1) := dk_42 (dk_at dksX4_advanceAtom_3 0 rfl rfl)
theorem dX4_advanceAtom_73 : decode cX4_advanceAtom 73 = .ok (.iload_n 1, 1) := dk_27 (dk_at dksX4_advanceAtom_3 1 rfl rfl)
theorem dX4_advanceAtom_74 : decode cX4_advanceAtom 74 = .ok (.invokevirtual 185, 3) := dk_182 0 185 (dk_at dksX4_advanceAtom_3 2 rfl rfl)
theorem dX4_advanceAtom_77 : decode cX4_advanceAtom 77 = .ok (.iinc 3 1, 3) := dk_132 3 1 (dk_at dksX4_advanceAtom_3 5 rfl rfl)
theorem dX4_advanceAtom_80 : decode cX4_advanceAtom 80 = .ok (.goto (-64), 3) := dk_167 255 192 (dk_at dksX4_advanceAtom_3 8 rfl rfl)
theorem dX4_advanceAtom_83 : decode cX4_advanceAtom 83 = .ok (.iconst 0, 1) := dk_3 (dk_at dksX4_advanceAtom_3 11 rfl rfl)
theorem dX4_advanceAtom_84 : decode cX4_advanceAtom 84 = .ok (.ireturn, 1) := dk_172 (dk_at dksX4_advanceAtom_3 12 rfl rfl)
abbrev cX4_fitsFact : ByteArray := prog_19_method_21_code
def yX4_fitsFact : MethodName := ⟨RX4, "fitsFact", "(III)Z"⟩
def dkwX4_fitsFact_2 : List UInt8 := [184, 0, 176, 29, 182, 0, 179, 54, 4, 132, 5, 1, 167, 255, 205, 21, 4, 172]
abbrev dktX4_fitsFact_2 : List UInt8 := dkwX4_fitsFact_2 ++ []
def dkwX4_fitsFact_1 : List UInt8 := [162, 0, 38, 21, 4, 153, 0, 33, 42, 42, 42, 180, 0, 155, 27, 21, 5, 182, 0, 172, 28, 21, 5]
abbrev dktX4_fitsFact_1 : List UInt8 := dkwX4_fitsFact_1 ++ dktX4_fitsFact_2
def dkwX4_fitsFact_0 : List UInt8 := [4, 54, 4, 3, 54, 5, 21, 5, 42, 180, 0, 13, 42, 42, 180, 0, 155, 27, 182, 0, 152, 46]
abbrev dktX4_fitsFact_0 : List UInt8 := dkwX4_fitsFact_0 ++ dktX4_fitsFact_1
theorem dksX4_fitsFact_0 : cX4_fitsFact.data.toList.drop 0 = dktX4_fitsFact_0 := by decide +kernel
theorem dksX4_fitsFact_1 : cX4_fitsFact.data.toList.drop 22 = dktX4_fitsFact_1 := dk_seg dksX4_fitsFact_0 22 rfl rfl
theorem dksX4_fitsFact_2 : cX4_fitsFact.data.toList.drop 45 = dktX4_fitsFact_2 := dk_seg dksX4_fitsFact_1 23 rfl rfl
theorem dX4_fitsFact_0 : decode cX4_fitsFact 0 = .ok (.iconst 1, 1) := dk_4 (dk_at dksX4_fitsFact_0 0 rfl rfl)
theorem dX4_fitsFact_1 : decode cX4_fitsFact 1 = .ok (.istore 4, 2) := dk_54 4 (dk_at dksX4_fitsFact_0 1 rfl rfl)
theorem dX4_fitsFact_3 : decode cX4_fitsFact 3 = .ok (.iconst 0, 1) := dk_3 (dk_at dksX4_fitsFact_0 3 rfl rfl)
theorem dX4_fitsFact_4 : decode cX4_fitsFact 4 = .ok (.istore 5, 2) := dk_54 5 (dk_at dksX4_fitsFact_0 4 rfl rfl)
theorem dX4_fitsFact_6 : decode cX4_fitsFact 6 = .ok (.iload 5, 2) := dk_21 5 (dk_at dksX4_fitsFact_0 6 rfl rfl)
theorem dX4_fitsFact_8 : decode cX4_fitsFact 8 = .ok (.aload_n 0, 1) := dk_42 (dk_at dksX4_fitsFact_0 8 rfl rfl)
theorem dX4_fitsFact_9 : decode cX4_fitsFact 9 = .ok (.getfield 13, 3) := dk_180 0 13 (dk_at dksX4_fitsFact_0 9 rfl rfl)
theorem dX4_fitsFact_12 : decode cX4_fitsFact 12 = .ok (.aload_n 0, 1) := dk_42 (dk_at dksX4_fitsFact_0 12 rfl rfl)
theorem dX4_fitsFact_13 : decode cX4_fitsFact 13 = .ok (.aload_n 0, 1) := dk_42 (dk_at dksX4_fitsFact_0 13 rfl rfl)
theorem dX4_fitsFact_14 : decode cX4_fitsFact 14 = .ok (.getfield 155, 3) := dk_180 0 155 (dk_at dksX4_fitsFact_0 14 rfl rfl)
theorem dX4_fitsFact_17 : decode cX4_fitsFact 17 = .ok (.iload_n 1, 1) := dk_27 (dk_at dksX4_fitsFact_0 17 rfl rfl)
theorem dX4_fitsFact_18 : decode cX4_fitsFact 18 = .ok (.invokevirtual 152, 3) := dk_182 0 152 (dk_at dksX4_fitsFact_0 18 rfl rfl)
theorem dX4_fitsFact_21 : decode cX4_fitsFact 21 = .ok (.iaload, 1) := dk_46 (dk_at dksX4_fitsFact_0 21 rfl rfl)
theorem dX4_fitsFact_22 : decode cX4_fitsFact 22 = .ok (.if_icmp .ge 38, 3) := dk_162 0 38 (dk_at dksX4_fitsFact_1 0 rfl rfl)
theorem dX4_fitsFact_25 : decode cX4_fitsFact 25 = .ok (.iload 4, 2) := dk_21 4 (dk_at dksX4_fitsFact_1 3 rfl rfl)
theorem dX4_fitsFact_27 : decode cX4_fitsFact 27 = .ok (.ifCond .eq 33, 3) := dk_153 0 33 (dk_at dksX4_fitsFact_1 5 rfl rfl)
theorem dX4_fitsFact_30 : decode cX4_fitsFact 30 = .ok (.aload_n 0, 1) := dk_42 (dk_at dksX4_fitsFact_1 8 rfl rfl)
theorem dX4_fitsFact_31 : decode cX4_fitsFact 31 = .ok (.aload_n 0, 1) := dk_42 (dk_at dksX4_fitsFact_1 9 rfl rfl)
theorem dX4_fitsFact_32 : decode cX4_fitsFact 32 = .ok (.aload_n 0, 1) := dk_42 (dk_at dksX4_fitsFact_1 10 rfl rfl)
theorem dX4_fitsFact_33 : decode cX4_fitsFact 33 = .ok (.getfield 155, 3) := dk_180 0 155 (dk_at dksX4_fitsFact_1 11 rfl rfl)
theorem dX4_fitsFact_36 : decode cX4_fitsFact 36 = .ok (.iload_n 1, 1) := dk_27 (dk_at dksX4_fitsFact_1 14 rfl rfl)
theorem dX4_fitsFact_37 : decode cX4_fitsFact 37 = .ok (.iload 5, 2) := dk_21 5 (dk_at dksX4_fitsFact_1 15 rfl rfl)
theorem dX4_fitsFact_39 : decode cX4_fitsFact 39 = .ok (.invokevirtual 172, 3) := dk_182 0 172 (dk_at dksX4_fitsFact_1 17 rfl rfl)
theorem dX4_fitsFact_42 : decode cX4_fitsFact 42 = .ok (.iload_n 2, 1) := dk_28 (dk_at dksX4_fitsFact_1 20 rfl rfl)
theorem dX4_fitsFact_43 : decode cX4_fitsFact 43 = .ok (.iload 5, 2) := dk_21 5 (dk_at dksX4_fitsFact_1 21 rfl rfl)
theorem dX4_fitsFact_45 : decode cX4_fitsFact 45 = .ok (.invokestatic 176, 3) := dk_184 0 176 (dk_at dksX4_fitsFact_2 0 rfl rfl)
theorem dX4_fitsFact_48 : decode cX4_fitsFact 48 = .ok (.iload_n 3, 1) := dk_29 (dk_at dksX4_fitsFact_2 3 rfl rfl)
theorem dX4_fitsFact_49 : decode cX4_fitsFact 49 = .ok (.invokevirtual 179, 3) := dk_182 0 179 (dk_at dksX4_fitsFact_2 4 rfl rfl)
theorem dX4_fitsFact_52 : decode cX4_fitsFact 52 = .ok (.istore 4, 2) := dk_54 4 (dk_at dksX4_fitsFact_2 7 rfl rfl)
theorem dX4_fitsFact_54 : decode cX4_fitsFact 54 = .ok (.iinc 5 1, 3) := dk_132 5 1 (dk_at dksX4_fitsFact_2 9 rfl rfl)
theorem dX4_fitsFact_57 : decode cX4_fitsFact 57 = .ok (.goto (-51), 3) := dk_167 255 205 (dk_at dksX4_fitsFact_2 12 rfl rfl)
theorem dX4_fitsFact_60 : decode cX4_fitsFact 60 = .ok (.iload 4, 2) := dk_21 4 (dk_at dksX4_fitsFact_2 15 rfl rfl)
theorem dX4_fitsFact_62 : decode cX4_fitsFact 62 = .ok (.ireturn, 1) := dk_172 (dk_at dksX4_fitsFact_2 17 rfl rfl)
abbrev cX4_termOf : ByteArray := prog_19_method_14_code
def yX4_termOf : MethodName := ⟨RX4, "termOf", "(III)I"⟩
def dkwX4_termOf_0 : List UInt8 := [42, 180, 0, 34, 6, 16, 6, 27, 104, 28, 96, 104, 29, 96, 46, 172]
abbrev dktX4_termOf_0 : List UInt8 := dkwX4_termOf_0 ++ []
theorem dksX4_termOf_0 : cX4_termOf.data.toList.drop 0 = dktX4_termOf_0 := by decide +kernel
theorem dX4_termOf_0 : decode cX4_termOf 0 = .ok (.aload_n 0, 1) := dk_42 (dk_at dksX4_termOf_0 0 rfl rfl)
theorem dX4_termOf_1 : decode cX4_termOf 1 = .ok (.getfield 34, 3) := dk_180 0 34 (dk_at dksX4_termOf_0 1 rfl rfl)
theorem dX4_termOf_4 : decode cX4_termOf 4 = .ok (.iconst 3, 1) := dk_6 (dk_at dksX4_termOf_0 4 rfl rfl)
theorem dX4_termOf_5 : decode cX4_termOf 5 = .ok (.bipush 6, 2) := dk_16 6 (dk_at dksX4_termOf_0 5 rfl rfl)
theorem dX4_termOf_7 : decode cX4_termOf 7 = .ok (.iload_n 1, 1) := dk_27 (dk_at dksX4_termOf_0 7 rfl rfl)
theorem dX4_termOf_8 : decode cX4_termOf 8 = .ok (.imul, 1) := dk_104 (dk_at dksX4_termOf_0 8 rfl rfl)
theorem dX4_termOf_9 : decode cX4_termOf 9 = .ok (.iload_n 2, 1) := dk_28 (dk_at dksX4_termOf_0 9 rfl rfl)
theorem dX4_termOf_10 : decode cX4_termOf 10 = .ok (.iadd, 1) := dk_96 (dk_at dksX4_termOf_0 10 rfl rfl)
theorem dX4_termOf_11 : decode cX4_termOf 11 = .ok (.imul, 1) := dk_104 (dk_at dksX4_termOf_0 11 rfl rfl)
theorem dX4_termOf_12 : decode cX4_termOf 12 = .ok (.iload_n 3, 1) := dk_29 (dk_at dksX4_termOf_0 12 rfl rfl)
theorem dX4_termOf_13 : decode cX4_termOf 13 = .ok (.iadd, 1) := dk_96 (dk_at dksX4_termOf_0 13 rfl rfl)
theorem dX4_termOf_14 : decode cX4_termOf 14 = .ok (.iaload, 1) := dk_46 (dk_at dksX4_termOf_0 14 rfl rfl)
theorem dX4_termOf_15 : decode cX4_termOf 15 = .ok (.ireturn, 1) := dk_172 (dk_at dksX4_termOf_0 15 rfl rfl)
abbrev cX4_slotOf : ByteArray := prog_19_method_7_code
def yX4_slotOf : MethodName := ⟨RX4, "slotOf", "(II)I"⟩
def dkwX4_slotOf_1 : List UInt8 := [16, 100, 112, 167, 0, 7, 26, 16, 100, 112, 172]
abbrev dktX4_slotOf_1 : List UInt8 := dkwX4_slotOf_1 ++ []
def dkwX4_slotOf_0 : List UInt8 := [27, 154, 0, 14, 26, 17, 39, 16, 108, 16, 100, 112, 167, 0, 22, 27, 4, 160, 0, 13, 26, 16, 100, 108]
abbrev dktX4_slotOf_0 : List UInt8 := dkwX4_slotOf_0 ++ dktX4_slotOf_1
theorem dksX4_slotOf_0 : cX4_slotOf.data.toList.drop 0 = dktX4_slotOf_0 := by decide +kernel
theorem dksX4_slotOf_1 : cX4_slotOf.data.toList.drop 24 = dktX4_slotOf_1 := dk_seg dksX4_slotOf_0 24 rfl rfl
theorem dX4_slotOf_0 : decode cX4_slotOf 0 = .ok (.iload_n 1, 1) := dk_27 (dk_at dksX4_slotOf_0 0 rfl rfl)
theorem dX4_slotOf_1 : decode cX4_slotOf 1 = .ok (.ifCond .ne 14, 3) := dk_154 0 14 (dk_at dksX4_slotOf_0 1 rfl rfl)
theorem dX4_slotOf_4 : decode cX4_slotOf 4 = .ok (.iload_n 0, 1) := dk_26 (dk_at dksX4_slotOf_0 4 rfl rfl)
theorem dX4_slotOf_5 : decode cX4_slotOf 5 = .ok (.sipush 10000, 3) := dk_17 39 16 (dk_at dksX4_slotOf_0 5 rfl rfl)
theorem dX4_slotOf_8 : decode cX4_slotOf 8 = .ok (.idiv, 1) := dk_108 (dk_at dksX4_slotOf_0 8 rfl rfl)
theorem dX4_slotOf_9 : decode cX4_slotOf 9 = .ok (.bipush 100, 2) := dk_16 100 (dk_at dksX4_slotOf_0 9 rfl rfl)
theorem dX4_slotOf_11 : decode cX4_slotOf 11 = .ok (.irem, 1) := dk_112 (dk_at dksX4_slotOf_0 11 rfl rfl)
theorem dX4_slotOf_12 : decode cX4_slotOf 12 = .ok (.goto 22, 3) := dk_167 0 22 (dk_at dksX4_slotOf_0 12 rfl rfl)
theorem dX4_slotOf_15 : decode cX4_slotOf 15 = .ok (.iload_n 1, 1) := dk_27 (dk_at dksX4_slotOf_0 15 rfl rfl)
theorem dX4_slotOf_16 : decode cX4_slotOf 16 = .ok (.iconst 1, 1) := dk_4 (dk_at dksX4_slotOf_0 16 rfl rfl)
theorem dX4_slotOf_17 : decode cX4_slotOf 17 = .ok (.if_icmp .ne 13, 3) := dk_160 0 13 (dk_at dksX4_slotOf_0 17 rfl rfl)
theorem dX4_slotOf_20 : decode cX4_slotOf 20 = .ok (.iload_n 0, 1) := dk_26 (dk_at dksX4_slotOf_0 20 rfl rfl)
theorem dX4_slotOf_21 : decode cX4_slotOf 21 = .ok (.bipush 100, 2) := dk_16 100 (dk_at dksX4_slotOf_0 21 rfl rfl)
theorem dX4_slotOf_23 : decode cX4_slotOf 23 = .ok (.idiv, 1) := dk_108 (dk_at dksX4_slotOf_0 23 rfl rfl)
theorem dX4_slotOf_24 : decode cX4_slotOf 24 = .ok (.bipush 100, 2) := dk_16 100 (dk_at dksX4_slotOf_1 0 rfl rfl)
theorem dX4_slotOf_26 : decode cX4_slotOf 26 = .ok (.irem, 1) := dk_112 (dk_at dksX4_slotOf_1 2 rfl rfl)
theorem dX4_slotOf_27 : decode cX4_slotOf 27 = .ok (.goto 7, 3) := dk_167 0 7 (dk_at dksX4_slotOf_1 3 rfl rfl)
theorem dX4_slotOf_30 : decode cX4_slotOf 30 = .ok (.iload_n 0, 1) := dk_26 (dk_at dksX4_slotOf_1 6 rfl rfl)
theorem dX4_slotOf_31 : decode cX4_slotOf 31 = .ok (.bipush 100, 2) := dk_16 100 (dk_at dksX4_slotOf_1 7 rfl rfl)
theorem dX4_slotOf_33 : decode cX4_slotOf 33 = .ok (.irem, 1) := dk_112 (dk_at dksX4_slotOf_1 9 rfl rfl)
theorem dX4_slotOf_34 : decode cX4_slotOf 34 = .ok (.ireturn, 1) := dk_172 (dk_at dksX4_slotOf_1 10 rfl rfl)
abbrev cX4_fits : ByteArray := prog_19_method_20_code
def yX4_fits : MethodName := ⟨RX4, "fits", "(III)Z"⟩
def dkwX4_fits_1 : List UInt8 := [16, 100, 100, 29, 79, 42, 27, 182, 0, 168, 28, 160, 0, 7, 4, 167, 0, 4, 3, 172]
abbrev dktX4_fits_1 : List UInt8 := dkwX4_fits_1 ++ []
def dkwX4_fits_0 : List UInt8 := [42, 27, 182, 0, 168, 2, 160, 0, 23, 42, 180, 0, 91, 27, 16, 100, 100, 28, 79, 42, 180, 0, 94, 27]
abbrev dktX4_fits_0 : List UInt8 := dkwX4_fits_0 ++ dktX4_fits_1
theorem dksX4_fits_0 : cX4_fits.data.toList.drop 0 = dktX4_fits_0 := by decide +kernel
theorem dksX4_fits_1 : cX4_fits.data.toList.drop 24 = dktX4_fits_1 := dk_seg dksX4_fits_0 24 rfl rfl
theorem dX4_fits_0 : decode cX4_fits 0 = .ok (.aload_n 0, 1) := dk_42 (dk_at dksX4_fits_0 0 rfl rfl)
theorem dX4_fits_1 : decode cX4_fits 1 = .ok (.iload_n 1, 1) := dk_27 (dk_at dksX4_fits_0 1 rfl rfl)
theorem dX4_fits_2 : decode cX4_fits 2 = .ok (.invokevirtual 168, 3) := dk_182 0 168 (dk_at dksX4_fits_0 2 rfl rfl)
theorem dX4_fits_5 : decode cX4_fits 5 = .ok (.iconst (-1), 1) := dk_2 (dk_at dksX4_fits_0 5 rfl rfl)
theorem dX4_fits_6 : decode cX4_fits 6 = .ok (.if_icmp .ne 23, 3) := dk_160 0 23 (dk_at dksX4_fits_0 6 rfl rfl)
theorem dX4_fits_9 : decode cX4_fits 9 = .ok (.aload_n 0, 1) := dk_42 (dk_at dksX4_fits_0 9 rfl rfl)
theorem dX4_fits_10 : decode cX4_fits 10 = .ok (.getfield 91, 3) := dk_180 0 91 (dk_at dksX4_fits_0 10 rfl rfl)
theorem dX4_fits_13 : decode cX4_fits 13 = .ok (.iload_n 1, 1) := dk_27 (dk_at dksX4_fits_0 13 rfl rfl)
theorem dX4_fits_14 : decode cX4_fits 14 = .ok (.bipush 100, 2) := dk_16 100 (dk_at dksX4_fits_0 14 rfl rfl)
theorem dX4_fits_16 : decode cX4_fits 16 = .ok (.isub, 1) := dk_100 (dk_at dksX4_fits_0 16 rfl rfl)
theorem dX4_fits_17 : decode cX4_fits 17 = .ok (.iload_n 2, 1) := dk_28 (dk_at dksX4_fits_0 17 rfl rfl)
theorem dX4_fits_18 : decode cX4_fits 18 = .ok (.iastore, 1) := dk_79 (dk_at dksX4_fits_0 18 rfl rfl)
theorem dX4_fits_19 : decode cX4_fits 19 = .ok (.aload_n 0, 1) := dk_42 (dk_at dksX4_fits_0 19 rfl rfl)
theorem dX4_fits_20 : decode cX4_fits 20 = .ok (.getfield 94, 3) := dk_180 0 94 (dk_at dksX4_fits_0 20 rfl rfl)
theorem dX4_fits_23 : decode cX4_fits 23 = .ok (.iload_n 1, 1) := dk_27 (dk_at dksX4_fits_0 23 rfl rfl)
theorem dX4_fits_24 : decode cX4_fits 24 = .ok (.bipush 100, 2) := dk_16 100 (dk_at dksX4_fits_1 0 rfl rfl)
theorem dX4_fits_26 : decode cX4_fits 26 = .ok (.isub, 1) := dk_100 (dk_at dksX4_fits_1 2 rfl rfl)
theorem dX4_fits_27 : decode cX4_fits 27 = .ok (.iload_n 3, 1) := dk_29 (dk_at dksX4_fits_1 3 rfl rfl)
theorem dX4_fits_28 : decode cX4_fits 28 = .ok (.iastore, 1) := dk_79 (dk_at dksX4_fits_1 4 rfl rfl)
theorem dX4_fits_29 : decode cX4_fits 29 = .ok (.aload_n 0, 1) := dk_42 (dk_at dksX4_fits_1 5 rfl rfl)
theorem dX4_fits_30 : decode cX4_fits 30 = .ok (.iload_n 1, 1) := dk_27 (dk_at dksX4_fits_1 6 rfl rfl)
theorem dX4_fits_31 : decode cX4_fits 31 = .ok (.invokevirtual 168, 3) := dk_182 0 168 (dk_at dksX4_fits_1 7 rfl rfl)
theorem dX4_fits_34 : decode cX4_fits 34 = .ok (.iload_n 2, 1) := dk_28 (dk_at dksX4_fits_1 10 rfl rfl)
theorem dX4_fits_35 : decode cX4_fits 35 = .ok (.if_icmp .ne 7, 3) := dk_160 0 7 (dk_at dksX4_fits_1 11 rfl rfl)
theorem dX4_fits_38 : decode cX4_fits 38 = .ok (.iconst 1, 1) := dk_4 (dk_at dksX4_fits_1 14 rfl rfl)
theorem dX4_fits_39 : decode cX4_fits 39 = .ok (.goto 4, 3) := dk_167 0 4 (dk_at dksX4_fits_1 15 rfl rfl)
theorem dX4_fits_42 : decode cX4_fits 42 = .ok (.iconst 0, 1) := dk_3 (dk_at dksX4_fits_1 18 rfl rfl)
theorem dX4_fits_43 : decode cX4_fits 43 = .ok (.ireturn, 1) := dk_172 (dk_at dksX4_fits_1 19 rfl rfl)
abbrev cX4_valueOf : ByteArray := prog_19_method_18_code
def yX4_valueOf : MethodName := ⟨RX4, "valueOf", "(I)I"⟩
def dkwX4_valueOf_0 : List UInt8 := [27, 16, 100, 162, 0, 7, 27, 167, 0, 12, 42, 180, 0, 91, 27, 16, 100, 100, 46, 172]
abbrev dktX4_valueOf_0 : List UInt8 := dkwX4_valueOf_0 ++ []
theorem dksX4_valueOf_0 : cX4_valueOf.data.toList.drop 0 = dktX4_valueOf_0 := by decide +kernel
theorem dX4_valueOf_0 : decode cX4_valueOf 0 = .ok (.iload_n 1, 1) := dk_27 (dk_at dksX4_valueOf_0 0 rfl rfl)
theorem dX4_valueOf_1 : decode cX4_valueOf 1 = .ok (.bipush 100, 2) := dk_16 100 (dk_at dksX4_valueOf_0 1 rfl rfl)
theorem dX4_valueOf_3 : decode cX4_valueOf 3 = .ok (.if_icmp .ge 7, 3) := dk_162 0 7 (dk_at dksX4_valueOf_0 3 rfl rfl)
theorem dX4_valueOf_6 : decode cX4_valueOf 6 = .ok (.iload_n 1, 1) := dk_27 (dk_at dksX4_valueOf_0 6 rfl rfl)
theorem dX4_valueOf_7 : decode cX4_valueOf 7 = .ok (.goto 12, 3) := dk_167 0 12 (dk_at dksX4_valueOf_0 7 rfl rfl)
theorem dX4_valueOf_10 : decode cX4_valueOf 10 = .ok (.aload_n 0, 1) := dk_42 (dk_at dksX4_valueOf_0 10 rfl rfl)
theorem dX4_valueOf_11 : decode cX4_valueOf 11 = .ok (.getfield 91, 3) := dk_180 0 91 (dk_at dksX4_valueOf_0 11 rfl rfl)
theorem dX4_valueOf_14 : decode cX4_valueOf 14 = .ok (.iload_n 1, 1) := dk_27 (dk_at dksX4_valueOf_0 14 rfl rfl)
theorem dX4_valueOf_15 : decode cX4_valueOf 15 = .ok (.bipush 100, 2) := dk_16 100 (dk_at dksX4_valueOf_0 15 rfl rfl)
theorem dX4_valueOf_17 : decode cX4_valueOf 17 = .ok (.isub, 1) := dk_100 (dk_at dksX4_valueOf_0 17 rfl rfl)
theorem dX4_valueOf_18 : decode cX4_valueOf 18 = .ok (.iaload, 1) := dk_46 (dk_at dksX4_valueOf_0 18 rfl rfl)
theorem dX4_valueOf_19 : decode cX4_valueOf 19 = .ok (.ireturn, 1) := dk_172 (dk_at dksX4_valueOf_0 19 rfl rfl)
abbrev cX4_holds : ByteArray := prog_19_method_23_code
def yX4_holds : MethodName := ⟨RX4, "holds", "(II)Z"⟩
def dkwX4_holds_10 : List UInt8 := [167, 0, 4, 3, 172]
abbrev dktX4_holds_10 : List UInt8 := dkwX4_holds_10 ++ []
def dkwX4_holds_9 : List UInt8 := [42, 42, 180, 0, 155, 27, 5, 182, 0, 172, 21, 4, 21, 5, 96, 28, 182, 0, 179, 153, 0, 7, 4]
abbrev dktX4_holds_9 : List UInt8 := dkwX4_holds_9 ++ dktX4_holds_10
def dkwX4_holds_8 : List UInt8 := [21, 4, 21, 5, 162, 0, 7, 4, 167, 0, 4, 3, 172, 21, 4, 21, 5, 96, 16, 100, 162, 0, 30, 42]
abbrev dktX4_holds_8 : List UInt8 := dkwX4_holds_8 ++ dktX4_holds_9
def dkwX4_holds_7 : List UInt8 := [167, 0, 36, 21, 6, 4, 160, 0, 18, 21, 4, 21, 5, 159, 0, 7, 4, 167, 0, 19, 3, 167, 0, 15]
abbrev dktX4_holds_7 : List UInt8 := dkwX4_holds_7 ++ dktX4_holds_8
def dkwX4_holds_6 : List UInt8 := [27, 182, 0, 152, 54, 6, 21, 6, 154, 0, 18, 21, 4, 21, 5, 160, 0, 7, 4, 167, 0, 40, 3]
abbrev dktX4_holds_6 : List UInt8 := dkwX4_holds_6 ++ dktX4_holds_7
def dkwX4_holds_5 : List UInt8 := [42, 180, 0, 155, 27, 4, 182, 0, 172, 182, 0, 168, 54, 5, 29, 5, 160, 0, 68, 42, 42, 180, 0, 155]
abbrev dktX4_holds_5 : List UInt8 := dkwX4_holds_5 ++ dktX4_holds_6
def dkwX4_holds_4 : List UInt8 := [132, 6, 1, 167, 255, 208, 42, 21, 5, 182, 0, 192, 2, 160, 0, 7, 4, 167, 0, 4, 3, 172, 42, 42]
abbrev dktX4_holds_4 : List UInt8 := dkwX4_holds_4 ++ dktX4_holds_5
def dkwX4_holds_3 : List UInt8 := [184, 0, 189, 42, 42, 42, 180, 0, 155, 27, 21, 6, 182, 0, 172, 182, 0, 168, 104, 96, 54, 5]
abbrev dktX4_holds_3 : List UInt8 := dkwX4_holds_3 ++ dktX4_holds_4
def dkwX4_holds_2 : List UInt8 := [21, 6, 42, 180, 0, 13, 42, 42, 180, 0, 155, 27, 182, 0, 152, 46, 162, 0, 35, 21, 5, 21, 6]
abbrev dktX4_holds_2 : List UInt8 := dkwX4_holds_2 ++ dktX4_holds_3
def dkwX4_holds_1 : List UInt8 := [54, 4, 29, 4, 160, 0, 87, 18, 139, 42, 42, 180, 0, 155, 27, 182, 0, 152, 104, 54, 5, 3, 54, 6]
abbrev dktX4_holds_1 : List UInt8 := dkwX4_holds_1 ++ dktX4_holds_2
def dkwX4_holds_0 : List UInt8 := [42, 42, 180, 0, 155, 27, 182, 0, 148, 62, 42, 42, 42, 180, 0, 155, 27, 3, 182, 0, 172, 182, 0, 168]
abbrev dktX4_holds_0 : List UInt8 := dkwX4_holds_0 ++ dktX4_holds_1
theorem dksX4_holds_0 : cX4_holds.data.toList.drop 0 = dktX4_holds_0 := by decide +kernel
theorem dksX4_holds_1 : cX4_holds.data.toList.drop 24 = dktX4_holds_1 := dk_seg dksX4_holds_0 24 rfl rfl
theorem dksX4_holds_2 : cX4_holds.data.toList.drop 48 = dktX4_holds_2 := dk_seg dksX4_holds_1 24 rfl rfl
theorem dksX4_holds_3 : cX4_holds.data.toList.drop 71 = dktX4_holds_3 := dk_seg dksX4_holds_2 23 rfl rfl
theorem dksX4_holds_4 : cX4_holds.data.toList.drop 93 = dktX4_holds_4 := dk_seg dksX4_holds_3 22 rfl rfl
theorem dksX4_holds_5 : cX4_holds.data.toList.drop 117 = dktX4_holds_5 := dk_seg dksX4_holds_4 24 rfl rfl
theorem dksX4_holds_6 : cX4_holds.data.toList.drop 141 = dktX4_holds_6 := dk_seg dksX4_holds_5 24 rfl rfl
theorem dksX4_holds_7 : cX4_holds.data.toList.drop 164 = dktX4_holds_7 := dk_seg dksX4_holds_6 23 rfl rfl
theorem dksX4_holds_8 : cX4_holds.data.toList.drop 188 = dktX4_holds_8 := dk_seg dksX4_holds_7 24 rfl rfl
theorem dksX4_holds_9 : cX4_holds.data.toList.drop 212 = dktX4_holds_9 := dk_seg dksX4_holds_8 24 rfl rfl
theorem dksX4_holds_10 : cX4_holds.data.toList.drop 235 = dktX4_holds_10 := dk_seg dksX4_holds_9 23 rfl rfl
theorem dX4_holds_0 : decode cX4_holds 0 = .ok (.aload_n 0, 1) := dk_42 (dk_at dksX4_holds_0 0 rfl rfl)
theorem dX4_holds_1 : decode cX4_holds 1 = .ok (.aload_n 0, 1) := dk_42 (dk_at dksX4_holds_0 1 rfl rfl)
theorem dX4_holds_2 : decode cX4_holds 2 = .ok (.getfield 155, 3) := dk_180 0 155 (dk_at dksX4_holds_0 2 rfl rfl)
theorem dX4_holds_5 : decode cX4_holds 5 = .ok (.iload_n 1, 1) := dk_27 (dk_at dksX4_holds_0 5 rfl rfl)
theorem dX4_holds_6 : decode cX4_holds 6 = .ok (.invokevirtual 148, 3) := dk_182 0 148 (dk_at dksX4_holds_0 6 rfl rfl)
theorem dX4_holds_9 : decode cX4_holds 9 = .ok (.istore_n 3, 1) := dk_62 (dk_at dksX4_holds_0 9 rfl rfl)
theorem dX4_holds_10 : decode cX4_holds 10 = .ok (.aload_n 0, 1) := dk_42 (dk_at dksX4_holds_0 10 rfl rfl)
theorem dX4_holds_11 : decode cX4_holds 11 = .ok (.aload_n 0, 1) := dk_42 (dk_at dksX4_holds_0 11 rfl rfl)
theorem dX4_holds_12 : decode cX4_holds 12 = .ok (.aload_n 0, 1) := dk_42 (dk_at dksX4_holds_0 12 rfl rfl)
theorem dX4_holds_13 : decode cX4_holds 13 = .ok (.getfield 155, 3) := dk_180 0 155 (dk_at dksX4_holds_0 13 rfl rfl)
theorem dX4_holds_16 : decode cX4_holds 16 = .ok (.iload_n 1, 1) := dk_27 (dk_at dksX4_holds_0 16 rfl rfl)
theorem dX4_holds_17 : decode cX4_holds 17 = .ok (.iconst 0, 1) := dk_3 (dk_at dksX4_holds_0 17 rfl rfl)
theorem dX4_holds_18 : decode cX4_holds 18 = .ok (.invokevirtual 172, 3) := dk_182 0 172 (dk_at dksX4_holds_0 18 rfl rfl)
theorem dX4_holds_21 : decode cX4_holds 21 = .ok (.invokevirtual 168, 3) := dk_182 0 168 (dk_at dksX4_holds_0 21 rfl rfl)
theorem dX4_holds_24 : decode cX4_holds 24 = .ok (.istore 4, 2) := dk_54 4 (dk_at dksX4_holds_1 0 rfl rfl)
theorem dX4_holds_26 : decode cX4_holds 26 = .ok (.iload_n 3, 1) := dk_29 (dk_at dksX4_holds_1 2 rfl rfl)
theorem dX4_holds_27 : decode cX4_holds 27 = .ok (.iconst 1, 1) := dk_4 (dk_at dksX4_holds_1 3 rfl rfl)
theorem dX4_holds_28 : decode cX4_holds 28 = .ok (.if_icmp .ne 87, 3) := dk_160 0 87 (dk_at dksX4_holds_1 4 rfl rfl)
theorem dX4_holds_31 : decode cX4_holds 31 = .ok (.ldc 139, 2) := dk_18 139 (dk_at dksX4_holds_1 7 rfl rfl)
theorem dX4_holds_33 : decode cX4_holds 33 = .ok (.aload_n 0, 1) := dk_42 (dk_at dksX4_holds_1 9 rfl rfl)
theorem dX4_holds_34 : decode cX4_holds 34 = .ok (.aload_n 0, 1) := dk_42 (dk_at dksX4_holds_1 10 rfl rfl)
theorem dX4_holds_35 : decode cX4_holds 35 = .ok (.getfield 155, 3) := dk_180 0 155 (dk_at dksX4_holds_1 11 rfl rfl)
theorem dX4_holds_38 : decode cX4_holds 38 = .ok (.iload_n 1, 1) := dk_27 (dk_at dksX4_holds_1 14 rfl rfl)
theorem dX4_holds_39 : decode cX4_holds 39 = .ok (.invokevirtual 152, 3) := dk_182 0 152 (dk_at dksX4_holds_1 15 rfl rfl)
theorem dX4_holds_42 : decode cX4_holds 42 = .ok (.imul, 1) := dk_104 (dk_at dksX4_holds_1 18 rfl rfl)
theorem dX4_holds_43 : decode cX4_holds 43 = .ok (.istore 5, 2) := dk_54 5 (dk_at dksX4_holds_1 19 rfl rfl)
theorem dX4_holds_45 : decode cX4_holds 45 = .ok (.iconst 0, 1) := dk_3 (dk_at dksX4_holds_1 21 rfl rfl)
theorem dX4_holds_46 : decode cX4_holds 46 = .ok (.istore 6, 2) := dk_54 6 (dk_at dksX4_holds_1 22 rfl rfl)
theorem dX4_holds_48 : decode cX4_holds 48 = .ok (.iload 6, 2) := dk_21 6 (dk_at dksX4_holds_2 0 rfl rfl)
theorem dX4_holds_50 : decode cX4_holds 50 = .ok (.aload_n 0, 1) := dk_42 (dk_at dksX4_holds_2 2 rfl rfl)
theorem dX4_holds_51 : decode cX4_holds 51 = .ok (.getfield 13, 3) := dk_180 0 13 (dk_at dksX4_holds_2 3 rfl rfl)
theorem dX4_holds_54 : decode cX4_holds 54 = .ok (.aload_n 0, 1) := dk_42 (dk_at dksX4_holds_2 6 rfl rfl)
theorem dX4_holds_55 : decode cX4_holds 55 = .ok (.aload_n 0, 1) := dk_42 (dk_at dksX4_holds_2 7 rfl rfl)
theorem dX4_holds_56 : decode cX4_holds 56 = .ok (.getfield 155, 3) := dk_180 0 155 (dk_at dksX4_holds_2 8 rfl rfl)
theorem dX4_holds_59 : decode cX4_holds 59 = .ok (.iload_n 1, 1) := dk_27 (dk_at dksX4_holds_2 11 rfl rfl)
theorem dX4_holds_60 : decode cX4_holds 60 = .ok (.invokevirtual 152, 3) := dk_182 0 152 (dk_at dksX4_holds_2 12 rfl rfl)
theorem dX4_holds_63 : decode cX4_holds 63 = .ok (.iaload, 1) := dk_46 (dk_at dksX4_holds_2 15 rfl rfl)
theorem dX4_holds_64 : decode cX4_holds 64 = .ok (.if_icmp .ge 35, 3) := dk_162 0 35 (dk_at dksX4_holds_2 16 rfl rfl)
theorem dX4_holds_67 : decode cX4_holds 67 = .ok (.iload 5, 2) := dk_21 5 (dk_at dksX4_holds_2 19 rfl rfl)
theorem dX4_holds_69 : decode cX4_holds 69 = .ok (.iload 6, 2) := dk_21 6 (dk_at dksX4_holds_2 21 rfl rfl)
theorem dX4_holds_71 : decode cX4_holds 71 = .ok (.invokestatic 189, 3) := dk_184 0 189 (dk_at dksX4_holds_3 0 rfl rfl)
theorem dX4_holds_74 : decode cX4_holds 74 = .ok (.aload_n 0, 1) := dk_42 (dk_at dksX4_holds_3 3 rfl rfl)
theorem dX4_holds_75 : decode cX4_holds 75 = .ok (.aload_n 0, 1) := dk_42 (dk_at dksX4_holds_3 4 rfl rfl)
theorem dX4_holds_76 : decode cX4_holds 76 = .ok (.aload_n 0, 1) := dk_42 (dk_at dksX4_holds_3 5 rfl rfl)
theorem dX4_holds_77 : decode cX4_holds 77 = .ok (.getfield 155, 3) := dk_180 0 155 (dk_at dksX4_holds_3 6 rfl rfl)
theorem dX4_holds_80 : decode cX4_holds 80 = .ok (.iload_n 1, 1) := dk_27 (dk_at dksX4_holds_3 9 rfl rfl)
theorem dX4_holds_81 : decode cX4_holds 81 = .ok (.iload 6, 2) := dk_21 6 (dk_at dksX4_holds_3 10 rfl rfl)
theorem dX4_holds_83 : decode cX4_holds 83 = .ok (.invokevirtual 172, 3) := dk_182 0 172 (dk_at dksX4_holds_3 12 rfl rfl)
theorem dX4_holds_86 : decode cX4_holds 86 = .ok (.invokevirtual 168, 3) := dk_182 0 168 (dk_at dksX4_holds_3 15 rfl rfl)
theorem dX4_holds_89 : decode cX4_holds 89 = .ok (.imul, 1) := dk_104 (dk_at dksX4_holds_3 18 rfl rfl)
theorem dX4_holds_90 : decode cX4_holds 90 = .ok (.iadd, 1) := dk_96 (dk_at dksX4_holds_3 19 rfl rfl)
theorem dX4_holds_91 : decode cX4_holds 91 = .ok (.istore 5, 2) := dk_54 5 (dk_at dksX4_holds_3 20 rfl rfl)
theorem dX4_holds_93 : decode cX4_holds 93 = .ok (.iinc 6 1, 3) := dk_132 6 1 (dk_at dksX4_holds_4 0 rfl rfl)
theorem dX4_holds_96 : decode cX4_holds 96 = .ok (.goto (-48), 3) := dk_167 255 208 (dk_at dksX4_holds_4 3 rfl rfl)
theorem dX4_holds_99 : decode cX4_holds 99 = .ok (.aload_n 0, 1) := dk_42 (dk_at dksX4_holds_4 6 rfl rfl)
theorem dX4_holds_100 : decode cX4_holds 100 = .ok (.iload 5, 2) := dk_21 5 (dk_at dksX4_holds_4 7 rfl rfl)
theorem dX4_holds_102 : decode cX4_holds 102 = .ok (.invokevirtual 192, 3) := dk_182 0 192 (dk_at dksX4_holds_4 9 rfl rfl)
theorem dX4_holds_105 : decode cX4_holds 105 = .ok (.iconst (-1), 1) := dk_2 (dk_at dksX4_holds_4 12 rfl rfl)
theorem dX4_holds_106 : decode cX4_holds 106 = .ok (.if_icmp .ne 7, 3) := dk_160 0 7 (dk_at dksX4_holds_4 13 rfl rfl)
theorem dX4_holds_109 : decode cX4_holds 109 = .ok (.iconst 1, 1) := dk_4 (dk_at dksX4_holds_4 16 rfl rfl)
theorem dX4_holds_110 : decode cX4_holds 110 = .ok (.goto 4, 3) := dk_167 0 4 (dk_at dksX4_holds_4 17 rfl rfl)
theorem dX4_holds_113 : decode cX4_holds 113 = .ok (.iconst 0, 1) := dk_3 (dk_at dksX4_holds_4 20 rfl rfl)
theorem dX4_holds_114 : decode cX4_holds 114 = .ok (.ireturn, 1) := dk_172 (dk_at dksX4_holds_4 21 rfl rfl)
theorem dX4_holds_115 : decode cX4_holds 115 = .ok (.aload_n 0, 1) := dk_42 (dk_at dksX4_holds_4 22 rfl rfl)
theorem dX4_holds_116 : decode cX4_holds 116 = .ok (.aload_n 0, 1) := dk_42 (dk_at dksX4_holds_4 23 rfl rfl)
theorem dX4_holds_117 : decode cX4_holds 117 = .ok (.aload_n 0, 1) := dk_42 (dk_at dksX4_holds_5 0 rfl rfl)
theorem dX4_holds_118 : decode cX4_holds 118 = .ok (.getfield 155, 3) := dk_180 0 155 (dk_at dksX4_holds_5 1 rfl rfl)
theorem dX4_holds_121 : decode cX4_holds 121 = .ok (.iload_n 1, 1) := dk_27 (dk_at dksX4_holds_5 4 rfl rfl)
theorem dX4_holds_122 : decode cX4_holds 122 = .ok (.iconst 1, 1) := dk_4 (dk_at dksX4_holds_5 5 rfl rfl)
theorem dX4_holds_123 : decode cX4_holds 123 = .ok (.invokevirtual 172, 3) := dk_182 0 172 (dk_at dksX4_holds_5 6 rfl rfl)
theorem dX4_holds_126 : decode cX4_holds 126 = .ok (.invokevirtual 168, 3) := dk_182 0 168 (dk_at dksX4_holds_5 9 rfl rfl)
theorem dX4_holds_129 : decode cX4_holds 129 = .ok (.istore 5, 2) := dk_54 5 (dk_at dksX4_holds_5 12 rfl rfl)
theorem dX4_holds_131 : decode cX4_holds 131 = .ok (.iload_n 3, 1) := dk_29 (dk_at dksX4_holds_5 14 rfl rfl)
theorem dX4_holds_132 : decode cX4_holds 132 = .ok (.iconst 2, 1) := dk_5 (dk_at dksX4_holds_5 15 rfl rfl)
theorem dX4_holds_133 : decode cX4_holds 133 = .ok (.if_icmp .ne 68, 3) := dk_160 0 68 (dk_at dksX4_holds_5 16 rfl rfl)
theorem dX4_holds_136 : decode cX4_holds 136 = .ok (.aload_n 0, 1) := dk_42 (dk_at dksX4_holds_5 19 rfl rfl)
theorem dX4_holds_137 : decode cX4_holds 137 = .ok (.aload_n 0, 1) := dk_42 (dk_at dksX4_holds_5 20 rfl rfl)
theorem dX4_holds_138 : decode cX4_holds 138 = .ok (.getfield 155, 3) := dk_180 0 155 (dk_at dksX4_holds_5 21 rfl rfl)
theorem dX4_holds_141 : decode cX4_holds 141 = .ok (.iload_n 1, 1) := dk_27 (dk_at dksX4_holds_6 0 rfl rfl)
theorem dX4_holds_142 : decode cX4_holds 142 = .ok (.invokevirtual 152, 3) := dk_182 0 152 (dk_at dksX4_holds_6 1 rfl rfl)
theorem dX4_holds_145 : decode cX4_holds 145 = .ok (.istore 6, 2) := dk_54 6 (dk_at dksX4_holds_6 4 rfl rfl)
theorem dX4_holds_147 : decode cX4_holds 147 = .ok (.iload 6, 2) := dk_21 6 (dk_at dksX4_holds_6 6 rfl rfl)
theorem dX4_holds_149 : decode cX4_holds 149 = .ok (.ifCond .ne 18, 3) := dk_154 0 18 (dk_at dksX4_holds_6 8 rfl rfl)
theorem dX4_holds_152 : decode cX4_holds 152 = .ok (.iload 4, 2) := dk_21 4 (dk_at dksX4_holds_6 11 rfl rfl)
theorem dX4_holds_154 : decode cX4_holds 154 = .ok (.iload 5, 2) := dk_21 5 (dk_at dksX4_holds_6 13 rfl rfl)
theorem dX4_holds_156 : decode cX4_holds 156 = .ok (.if_icmp .ne 7, 3) := dk_160 0 7 (dk_at dksX4_holds_6 15 rfl rfl)
theorem dX4_holds_159 : decode cX4_holds 159 = .ok (.iconst 1, 1) := dk_4 (dk_at dksX4_holds_6 18 rfl rfl)
theorem dX4_holds_160 : decode cX4_holds 160 = .ok (.goto 40, 3) := dk_167 0 40 (dk_at dksX4_holds_6 19 rfl rfl)
theorem dX4_holds_163 : decode cX4_holds 163 = .ok (.iconst 0, 1) := dk_3 (dk_at dksX4_holds_6 22 rfl rfl)
theorem dX4_holds_164 : decode cX4_holds 164 = .ok (.goto 36, 3) := dk_167 0 36 (dk_at dksX4_holds_7 0 rfl rfl)
theorem dX4_holds_167 : decode cX4_holds 167 = .ok (.iload 6, 2) := dk_21 6 (dk_at dksX4_holds_7 3 rfl rfl)
theorem dX4_holds_169 : decode cX4_holds 169 = .ok (.iconst 1, 1) := dk_4 (dk_at dksX4_holds_7 5 rfl rfl)
theorem dX4_holds_170 : decode cX4_holds 170 = .ok (.if_icmp .ne 18, 3) := dk_160 0 18 (dk_at dksX4_holds_7 6 rfl rfl)
theorem dX4_holds_173 : decode cX4_holds 173 = .ok (.iload 4, 2) := dk_21 4 (dk_at dksX4_holds_7 9 rfl rfl)
theorem dX4_holds_175 : decode cX4_holds 175 = .ok (.iload 5, 2) := dk_21 5 (dk_at dksX4_holds_7 11 rfl rfl)
theorem dX4_holds_177 : decode cX4_holds 177 = .ok (.if_icmp .eq 7, 3) := dk_159 0 7 (dk_at dksX4_holds_7 13 rfl rfl)
theorem dX4_holds_180 : decode cX4_holds 180 = .ok (.iconst 1, 1) := dk_4 (dk_at dksX4_holds_7 16 rfl rfl)
theorem dX4_holds_181 : decode cX4_holds 181 = .ok (.goto 19, 3) := dk_167 0 19 (dk_at dksX4_holds_7 17 rfl rfl)
theorem dX4_holds_184 : decode cX4_holds 184 = .ok (.iconst 0, 1) := dk_3 (dk_at dksX4_holds_7 20 rfl rfl)
theorem dX4_holds_185 : decode cX4_holds 185 = .ok (.goto 15, 3) := dk_167 0 15 (dk_at dksX4_holds_7 21 rfl rfl)
theorem dX4_holds_188 : decode cX4_holds 188 = .ok (.iload 4, 2) := dk_21 4 (dk_at dksX4_holds_8 0 rfl rfl)
theorem dX4_holds_190 : decode cX4_holds 190 = .ok (.iload 5, 2) := dk_21 5 (dk_at dksX4_holds_8 2 rfl rfl)
theorem dX4_holds_192 : decode cX4_holds 192 = .ok (.if_icmp .ge 7, 3) := dk_162 0 7 (dk_at dksX4_holds_8 4 rfl rfl)
theorem dX4_holds_195 : decode cX4_holds 195 = .ok (.iconst 1, 1) := dk_4 (dk_at dksX4_holds_8 7 rfl rfl)
theorem dX4_holds_196 : decode cX4_holds 196 = .ok (.goto 4, 3) := dk_167 0 4 (dk_at dksX4_holds_8 8 rfl rfl)
theorem dX4_holds_199 : decode cX4_holds 199 = .ok (.iconst 0, 1) := dk_3 (dk_at dksX4_holds_8 11 rfl rfl)
theorem dX4_holds_200 : decode cX4_holds 200 = .ok (.ireturn, 1) := dk_172 (dk_at dksX4_holds_8 12 rfl rfl)
theorem dX4_holds_201 : decode cX4_holds 201 = .ok (.iload 4, 2) := dk_21 4 (dk_at dksX4_holds_8 13 rfl rfl)
theorem dX4_holds_203 : decode cX4_holds 203 = .ok (.iload 5, 2) := dk_21 5 (dk_at dksX4_holds_8 15 rfl rfl)
theorem dX4_holds_205 : decode cX4_holds 205 = .ok (.iadd, 1) := dk_96 (dk_at dksX4_holds_8 17 rfl rfl)
theorem dX4_holds_206 : decode cX4_holds 206 = .ok (.bipush 100, 2) := dk_16 100 (dk_at dksX4_holds_8 18 rfl rfl)
theorem dX4_holds_208 : decode cX4_holds 208 = .ok (.if_icmp .ge 30, 3) := dk_162 0 30 (dk_at dksX4_holds_8 20 rfl rfl)
theorem dX4_holds_211 : decode cX4_holds 211 = .ok (.aload_n 0, 1) := dk_42 (dk_at dksX4_holds_8 23 rfl rfl)
theorem dX4_holds_212 : decode cX4_holds 212 = .ok (.aload_n 0, 1) := dk_42 (dk_at dksX4_holds_9 0 rfl rfl)
theorem dX4_holds_213 : decode cX4_holds 213 = .ok (.aload_n 0, 1) := dk_42 (dk_at dksX4_holds_9 1 rfl rfl)
theorem dX4_holds_214 : decode cX4_holds 214 = .ok (.getfield 155, 3) := dk_180 0 155 (dk_at dksX4_holds_9 2 rfl rfl)
theorem dX4_holds_217 : decode cX4_holds 217 = .ok (.iload_n 1, 1) := dk_27 (dk_at dksX4_holds_9 5 rfl rfl)
theorem dX4_holds_218 : decode cX4_holds 218 = .ok (.iconst 2, 1) := dk_5 (dk_at dksX4_holds_9 6 rfl rfl)
theorem dX4_holds_219 : decode cX4_holds 219 = .ok (.invokevirtual 172, 3) := dk_182 0 172 (dk_at dksX4_holds_9 7 rfl rfl)
theorem dX4_holds_222 : decode cX4_holds 222 = .ok (.iload 4, 2) := dk_21 4 (dk_at dksX4_holds_9 10 rfl rfl)
theorem dX4_holds_224 : decode cX4_holds 224 = .ok (.iload 5, 2) := dk_21 5 (dk_at dksX4_holds_9 12 rfl rfl)
theorem dX4_holds_226 : decode cX4_holds 226 = .ok (.iadd, 1) := dk_96 (dk_at dksX4_holds_9 14 rfl rfl)
theorem dX4_holds_227 : decode cX4_holds 227 = .ok (.iload_n 2, 1) := dk_28 (dk_at dksX4_holds_9 15 rfl rfl)
theorem dX4_holds_228 : decode cX4_holds 228 = .ok (.invokevirtual 179, 3) := dk_182 0 179 (dk_at dksX4_holds_9 16 rfl rfl)
theorem dX4_holds_231 : decode cX4_holds 231 = .ok (.ifCond .eq 7, 3) := dk_153 0 7 (dk_at dksX4_holds_9 19 rfl rfl)
theorem dX4_holds_234 : decode cX4_holds 234 = .ok (.iconst 1, 1) := dk_4 (dk_at dksX4_holds_9 22 rfl rfl)
theorem dX4_holds_235 : decode cX4_holds 235 = .ok (.goto 4, 3) := dk_167 0 4 (dk_at dksX4_holds_10 0 rfl rfl)
theorem dX4_holds_238 : decode cX4_holds 238 = .ok (.iconst 0, 1) := dk_3 (dk_at dksX4_holds_10 3 rfl rfl)
theorem dX4_holds_239 : decode cX4_holds 239 = .ok (.ireturn, 1) := dk_172 (dk_at dksX4_holds_10 4 rfl rfl)
abbrev cX4_weight : ByteArray := prog_19_method_8_code
def yX4_weight : MethodName := ⟨RX4, "weight", "(I)I"⟩
def dkwX4_weight_0 : List UInt8 := [26, 154, 0, 9, 17, 39, 16, 167, 0, 14, 26, 4, 160, 0, 8, 16, 100, 167, 0, 4, 4, 172]
abbrev dktX4_weight_0 : List UInt8 := dkwX4_weight_0 ++ []
theorem dksX4_weight_0 : cX4_weight.data.toList.drop 0 = dktX4_weight_0 := by decide +kernel
theorem dX4_weight_0 : decode cX4_weight 0 = .ok (.iload_n 0, 1) := dk_26 (dk_at dksX4_weight_0 0 rfl rfl)
theorem dX4_weight_1 : decode cX4_weight 1 = .ok (.ifCond .ne 9, 3) := dk_154 0 9 (dk_at dksX4_weight_0 1 rfl rfl)
theorem dX4_weight_4 : decode cX4_weight 4 = .ok (.sipush 10000, 3) := dk_17 39 16 (dk_at dksX4_weight_0 4 rfl rfl)
theorem dX4_weight_7 : decode cX4_weight 7 = .ok (.goto 14, 3) := dk_167 0 14 (dk_at dksX4_weight_0 7 rfl rfl)
theorem dX4_weight_10 : decode cX4_weight 10 = .ok (.iload_n 0, 1) := dk_26 (dk_at dksX4_weight_0 10 rfl rfl)
theorem dX4_weight_11 : decode cX4_weight 11 = .ok (.iconst 1, 1) := dk_4 (dk_at dksX4_weight_0 11 rfl rfl)
theorem dX4_weight_12 : decode cX4_weight 12 = .ok (.if_icmp .ne 8, 3) := dk_160 0 8 (dk_at dksX4_weight_0 12 rfl rfl)
theorem dX4_weight_15 : decode cX4_weight 15 = .ok (.bipush 100, 2) := dk_16 100 (dk_at dksX4_weight_0 15 rfl rfl)
theorem dX4_weight_17 : decode cX4_weight 17 = .ok (.goto 4, 3) := dk_167 0 4 (dk_at dksX4_weight_0 17 rfl rfl)
theorem dX4_weight_20 : decode cX4_weight 20 = .ok (.iconst 1, 1) := dk_4 (dk_at dksX4_weight_0 20 rfl rfl)
theorem dX4_weight_21 : decode cX4_weight 21 = .ok (.ireturn, 1) := dk_172 (dk_at dksX4_weight_0 21 rfl rfl)
abbrev cX4_headFact : ByteArray := prog_19_method_27_code
def yX4_headFact : MethodName := ⟨RX4, "headFact", "(I)I"⟩
def dkwX4_headFact_3 : List UInt8 := [172]
abbrev dktX4_headFact_3 : List UInt8 := dkwX4_headFact_3 ++ []
def dkwX4_headFact_2 : List UInt8 := [3, 167, 0, 14, 29, 184, 0, 189, 42, 21, 4, 182, 0, 168, 104, 96, 61, 132, 3, 1, 167, 255, 200, 28]
abbrev dktX4_headFact_2 : List UInt8 := dkwX4_headFact_2 ++ dktX4_headFact_3
def dkwX4_headFact_1 : List UInt8 := [162, 0, 47, 42, 180, 0, 22, 6, 27, 104, 29, 96, 46, 54, 4, 28, 21, 4, 17, 0, 200, 161, 0, 7]
abbrev dktX4_headFact_1 : List UInt8 := dkwX4_headFact_1 ++ dktX4_headFact_2
def dkwX4_headFact_0 : List UInt8 := [18, 139, 42, 180, 0, 19, 27, 46, 104, 61, 3, 62, 29, 42, 180, 0, 13, 42, 180, 0, 19, 27, 46, 46]
abbrev dktX4_headFact_0 : List UInt8 := dkwX4_headFact_0 ++ dktX4_headFact_1
theorem dksX4_headFact_0 : cX4_headFact.data.toList.drop 0 = dktX4_headFact_0 := by decide +kernel
theorem dksX4_headFact_1 : cX4_headFact.data.toList.drop 24 = dktX4_headFact_1 := dk_seg dksX4_headFact_0 24 rfl rfl
theorem dksX4_headFact_2 : cX4_headFact.data.toList.drop 48 = dktX4_headFact_2 := dk_seg dksX4_headFact_1 24 rfl rfl
theorem dksX4_headFact_3 : cX4_headFact.data.toList.drop 72 = dktX4_headFact_3 := dk_seg dksX4_headFact_2 24 rfl rfl
theorem dX4_headFact_0 : decode cX4_headFact 0 = .ok (.ldc 139, 2) := dk_18 139 (dk_at dksX4_headFact_0 0 rfl rfl)
theorem dX4_headFact_2 : decode cX4_headFact 2 = .ok (.aload_n 0, 1) := dk_42 (dk_at dksX4_headFact_0 2 rfl rfl)
theorem dX4_headFact_3 : decode cX4_headFact 3 = .ok (.getfield 19, 3) := dk_180 0 19 (dk_at dksX4_headFact_0 3 rfl rfl)
theorem dX4_headFact_6 : decode cX4_headFact 6 = .ok (.iload_n 1, 1) := dk_27 (dk_at dksX4_headFact_0 6 rfl rfl)
theorem dX4_headFact_7 : decode cX4_headFact 7 = .ok (.iaload, 1) := dk_46 (dk_at dksX4_headFact_0 7 rfl rfl)
theorem dX4_headFact_8 : decode cX4_headFact 8 = .ok (.imul, 1) := dk_104 (dk_at dksX4_headFact_0 8 rfl rfl)
theorem dX4_headFact_9 : decode cX4_headFact 9 = .ok (.istore_n 2, 1) := dk_61 (dk_at dksX4_headFact_0 9 rfl rfl)
theorem dX4_headFact_10 : decode cX4_headFact 10 = .ok (.iconst 0, 1) := dk_3 (dk_at dksX4_headFact_0 10 rfl rfl)
theorem dX4_headFact_11 : decode cX4_headFact 11 = .ok (.istore_n 3, 1) := dk_62 (dk_at dksX4_headFact_0 11 rfl rfl)
theorem dX4_headFact_12 : decode cX4_headFact 12 = .ok (.iload_n 3, 1) := dk_29 (dk_at dksX4_headFact_0 12 rfl rfl)
theorem dX4_headFact_13 : decode cX4_headFact 13 = .ok (.aload_n 0, 1) := dk_42 (dk_at dksX4_headFact_0 13 rfl rfl)
theorem dX4_headFact_14 : decode cX4_headFact 14 = .ok (.getfield 13, 3) := dk_180 0 13 (dk_at dksX4_headFact_0 14 rfl rfl)
theorem dX4_headFact_17 : decode cX4_headFact 17 = .ok (.aload_n 0, 1) := dk_42 (dk_at dksX4_headFact_0 17 rfl rfl)
theorem dX4_headFact_18 : decode cX4_headFact 18 = .ok (.getfield 19, 3) := dk_180 0 19 (dk_at dksX4_headFact_0 18 rfl rfl)
theorem dX4_headFact_21 : decode cX4_headFact 21 = .ok (.iload_n 1, 1) := dk_27 (dk_at dksX4_headFact_0 21 rfl rfl)
theorem dX4_headFact_22 : decode cX4_headFact 22 = .ok (.iaload, 1) := dk_46 (dk_at dksX4_headFact_0 22 rfl rfl)
theorem dX4_headFact_23 : decode cX4_headFact 23 = .ok (.iaload, 1) := dk_46 (dk_at dksX4_headFact_0 23 rfl rfl)
theorem dX4_headFact_24 : decode cX4_headFact 24 = .ok (.if_icmp .ge 47, 3) := dk_162 0 47 (dk_at dksX4_headFact_1 0 rfl rfl)
theorem dX4_headFact_27 : decode cX4_headFact 27 = .ok (.aload_n 0, 1) := dk_42 (dk_at dksX4_headFact_1 3 rfl rfl)
theorem dX4_headFact_28 : decode cX4_headFact 28 = .ok (.getfield 22, 3) := dk_180 0 22 (dk_at dksX4_headFact_1 4 rfl rfl)
theorem dX4_headFact_31 : decode cX4_headFact 31 = .ok (.iconst 3, 1) := dk_6 (dk_at dksX4_headFact_1 7 rfl rfl)
theorem dX4_headFact_32 : decode cX4_headFact 32 = .ok (.iload_n 1, 1) := dk_27 (dk_at dksX4_headFact_1 8 rfl rfl)
theorem dX4_headFact_33 : decode cX4_headFact 33 = .ok (.imul, 1) := dk_104 (dk_at dksX4_headFact_1 9 rfl rfl)
theorem dX4_headFact_34 : decode cX4_headFact 34 = .ok (.iload_n 3, 1) := dk_29 (dk_at dksX4_headFact_1 10 rfl rfl)
theorem dX4_headFact_35 : decode cX4_headFact 35 = .ok (.iadd, 1) := dk_96 (dk_at dksX4_headFact_1 11 rfl rfl)
theorem dX4_headFact_36 : decode cX4_headFact 36 = .ok (.iaload, 1) := dk_46 (dk_at dksX4_headFact_1 12 rfl rfl)
theorem dX4_headFact_37 : decode cX4_headFact 37 = .ok (.istore 4, 2) := dk_54 4 (dk_at dksX4_headFact_1 13 rfl rfl)
theorem dX4_headFact_39 : decode cX4_headFact 39 = .ok (.iload_n 2, 1) := dk_28 (dk_at dksX4_headFact_1 15 rfl rfl)
theorem dX4_headFact_40 : decode cX4_headFact 40 = .ok (.iload 4, 2) := dk_21 4 (dk_at dksX4_headFact_1 16 rfl rfl)
theorem dX4_headFact_42 : decode cX4_headFact 42 = .ok (.sipush 200, 3) := dk_17 0 200 (dk_at dksX4_headFact_1 18 rfl rfl)
theorem dX4_headFact_45 : decode cX4_headFact 45 = .ok (.if_icmp .lt 7, 3) := dk_161 0 7 (dk_at dksX4_headFact_1 21 rfl rfl)
theorem dX4_headFact_48 : decode cX4_headFact 48 = .ok (.iconst 0, 1) := dk_3 (dk_at dksX4_headFact_2 0 rfl rfl)
theorem dX4_headFact_49 : decode cX4_headFact 49 = .ok (.goto 14, 3) := dk_167 0 14 (dk_at dksX4_headFact_2 1 rfl rfl)
theorem dX4_headFact_52 : decode cX4_headFact 52 = .ok (.iload_n 3, 1) := dk_29 (dk_at dksX4_headFact_2 4 rfl rfl)
theorem dX4_headFact_53 : decode cX4_headFact 53 = .ok (.invokestatic 189, 3) := dk_184 0 189 (dk_at dksX4_headFact_2 5 rfl rfl)
theorem dX4_headFact_56 : decode cX4_headFact 56 = .ok (.aload_n 0, 1) := dk_42 (dk_at dksX4_headFact_2 8 rfl rfl)
theorem dX4_headFact_57 : decode cX4_headFact 57 = .ok (.iload 4, 2) := dk_21 4 (dk_at dksX4_headFact_2 9 rfl rfl)
theorem dX4_headFact_59 : decode cX4_headFact 59 = .ok (.invokevirtual 168, 3) := dk_182 0 168 (dk_at dksX4_headFact_2 11 rfl rfl)
theorem dX4_headFact_62 : decode cX4_headFact 62 = .ok (.imul, 1) := dk_104 (dk_at dksX4_headFact_2 14 rfl rfl)
theorem dX4_headFact_63 : decode cX4_headFact 63 = .ok (.iadd, 1) := dk_96 (dk_at dksX4_headFact_2 15 rfl rfl)
theorem dX4_headFact_64 : decode cX4_headFact 64 = .ok (.istore_n 2, 1) := dk_61 (dk_at dksX4_headFact_2 16 rfl rfl)
theorem dX4_headFact_65 : decode cX4_headFact 65 = .ok (.iinc 3 1, 3) := dk_132 3 1 (dk_at dksX4_headFact_2 17 rfl rfl)
theorem dX4_headFact_68 : decode cX4_headFact 68 = .ok (.goto (-56), 3) := dk_167 255 200 (dk_at dksX4_headFact_2 20 rfl rfl)
theorem dX4_headFact_71 : decode cX4_headFact 71 = .ok (.iload_n 2, 1) := dk_28 (dk_at dksX4_headFact_2 23 rfl rfl)
theorem dX4_headFact_72 : decode cX4_headFact 72 = .ok (.ireturn, 1) := dk_172 (dk_at dksX4_headFact_3 0 rfl rfl)
abbrev cX4_matchDepth : ByteArray := prog_19_method_30_code
def yX4_matchDepth : MethodName := ⟨RX4, "matchDepth", "()I"⟩
def dkwX4_matchDepth_3 : List UInt8 := [132, 2, 1, 167, 255, 187, 27, 172]
abbrev dktX4_matchDepth_3 : List UInt8 := dkwX4_matchDepth_3 ++ []
def dkwX4_matchDepth_2 : List UInt8 := [28, 46, 46, 27, 164, 0, 17, 42, 180, 0, 113, 42, 180, 0, 88, 28, 46, 46, 167, 0, 4, 27, 60]
abbrev dktX4_matchDepth_2 : List UInt8 := dkwX4_matchDepth_2 ++ dktX4_matchDepth_3
def dkwX4_matchDepth_1 : List UInt8 := [182, 0, 148, 154, 0, 7, 4, 167, 0, 4, 3, 62, 29, 153, 0, 32, 42, 180, 0, 113, 42, 180, 0, 88]
abbrev dktX4_matchDepth_1 : List UInt8 := dkwX4_matchDepth_1 ++ dktX4_matchDepth_2
def dkwX4_matchDepth_0 : List UInt8 := [3, 60, 3, 61, 28, 42, 180, 0, 158, 162, 0, 67, 42, 42, 180, 0, 155, 42, 180, 0, 85, 28, 46]
abbrev dktX4_matchDepth_0 : List UInt8 := dkwX4_matchDepth_0 ++ dktX4_matchDepth_1
theorem dksX4_matchDepth_0 : cX4_matchDepth.data.toList.drop 0 = dktX4_matchDepth_0 := by decide +kernel
theorem dksX4_matchDepth_1 : cX4_matchDepth.data.toList.drop 23 = dktX4_matchDepth_1 := dk_seg dksX4_matchDepth_0 23 rfl rfl
theorem dksX4_matchDepth_2 : cX4_matchDepth.data.toList.drop 47 = dktX4_matchDepth_2 := dk_seg dksX4_matchDepth_1 24 rfl rfl
theorem dksX4_matchDepth_3 : cX4_matchDepth.data.toList.drop 70 = dktX4_matchDepth_3 := dk_seg dksX4_matchDepth_2 23 rfl rfl
theorem dX4_matchDepth_0 : decode cX4_matchDepth 0 = .ok (.iconst 0, 1) := dk_3 (dk_at dksX4_matchDepth_0 0 rfl rfl)
theorem dX4_matchDepth_1 : decode cX4_matchDepth 1 = .ok (.istore_n 1, 1) := dk_60 (dk_at dksX4_matchDepth_0 1 rfl rfl)
theorem dX4_matchDepth_2 : decode cX4_matchDepth 2 = .ok (.iconst 0, 1) := dk_3 (dk_at dksX4_matchDepth_0 2 rfl rfl)
theorem dX4_matchDepth_3 : decode cX4_matchDepth 3 = .ok (.istore_n 2, 1) := dk_61 (dk_at dksX4_matchDepth_0 3 rfl rfl)
theorem dX4_matchDepth_4 : decode cX4_matchDepth 4 = .ok (.iload_n 2, 1) := dk_28 (dk_at dksX4_matchDepth_0 4 rfl rfl)
theorem dX4_matchDepth_5 : decode cX4_matchDepth 5 = .ok (.aload_n 0, 1) := dk_42 (dk_at dksX4_matchDepth_0 5 rfl rfl)
theorem dX4_matchDepth_6 : decode cX4_matchDepth 6 = .ok (.getfield 158, 3) := dk_180 0 158 (dk_at dksX4_matchDepth_0 6 rfl rfl)
theorem dX4_matchDepth_9 : decode cX4_matchDepth 9 = .ok (.if_icmp .ge 67, 3) := dk_162 0 67 (dk_at dksX4_matchDepth_0 9 rfl rfl)
theorem dX4_matchDepth_12 : decode cX4_matchDepth 12 = .ok (.aload_n 0, 1) := dk_42 (dk_at dksX4_matchDepth_0 12 rfl rfl)
theorem dX4_matchDepth_13 : decode cX4_matchDepth 13 = .ok (.aload_n 0, 1) := dk_42 (dk_at dksX4_matchDepth_0 13 rfl rfl)
theorem dX4_matchDepth_14 : decode cX4_matchDepth 14 = .ok (.getfield 155, 3) := dk_180 0 155 (dk_at dksX4_matchDepth_0 14 rfl rfl)
theorem dX4_matchDepth_17 : decode cX4_matchDepth 17 = .ok (.aload_n 0, 1) := dk_42 (dk_at dksX4_matchDepth_0 17 rfl rfl)
theorem dX4_matchDepth_18 : decode cX4_matchDepth 18 = .ok (.getfield 85, 3) := dk_180 0 85 (dk_at dksX4_matchDepth_0 18 rfl rfl)
theorem dX4_matchDepth_21 : decode cX4_matchDepth 21 = .ok (.iload_n 2, 1) := dk_28 (dk_at dksX4_matchDepth_0 21 rfl rfl)
theorem dX4_matchDepth_22 : decode cX4_matchDepth 22 = .ok (.iaload, 1) := dk_46 (dk_at dksX4_matchDepth_0 22 rfl rfl)
theorem dX4_matchDepth_23 : decode cX4_matchDepth 23 = .ok (.invokevirtual 148, 3) := dk_182 0 148 (dk_at dksX4_matchDepth_1 0 rfl rfl)
theorem dX4_matchDepth_26 : decode cX4_matchDepth 26 = .ok (.ifCond .ne 7, 3) := dk_154 0 7 (dk_at dksX4_matchDepth_1 3 rfl rfl)
theorem dX4_matchDepth_29 : decode cX4_matchDepth 29 = .ok (.iconst 1, 1) := dk_4 (dk_at dksX4_matchDepth_1 6 rfl rfl)
theorem dX4_matchDepth_30 : decode cX4_matchDepth 30 = .ok (.goto 4, 3) := dk_167 0 4 (dk_at dksX4_matchDepth_1 7 rfl rfl)
theorem dX4_matchDepth_33 : decode cX4_matchDepth 33 = .ok (.iconst 0, 1) := dk_3 (dk_at dksX4_matchDepth_1 10 rfl rfl)
theorem dX4_matchDepth_34 : decode cX4_matchDepth 34 = .ok (.istore_n 3, 1) := dk_62 (dk_at dksX4_matchDepth_1 11 rfl rfl)
theorem dX4_matchDepth_35 : decode cX4_matchDepth 35 = .ok (.iload_n 3, 1) := dk_29 (dk_at dksX4_matchDepth_1 12 rfl rfl)
theorem dX4_matchDepth_36 : decode cX4_matchDepth 36 = .ok (.ifCond .eq 32, 3) := dk_153 0 32 (dk_at dksX4_matchDepth_1 13 rfl rfl)
theorem dX4_matchDepth_39 : decode cX4_matchDepth 39 = .ok (.aload_n 0, 1) := dk_42 (dk_at dksX4_matchDepth_1 16 rfl rfl)
theorem dX4_matchDepth_40 : decode cX4_matchDepth 40 = .ok (.getfield 113, 3) := dk_180 0 113 (dk_at dksX4_matchDepth_1 17 rfl rfl)
theorem dX4_matchDepth_43 : decode cX4_matchDepth 43 = .ok (.aload_n 0, 1) := dk_42 (dk_at dksX4_matchDepth_1 20 rfl rfl)
theorem dX4_matchDepth_44 : decode cX4_matchDepth 44 = .ok (.getfield 88, 3) := dk_180 0 88 (dk_at dksX4_matchDepth_1 21 rfl rfl)
theorem dX4_matchDepth_47 : decode cX4_matchDepth 47 = .ok (.iload_n 2, 1) := dk_28 (dk_at dksX4_matchDepth_2 0 rfl rfl)
theorem dX4_matchDepth_48 : decode cX4_matchDepth 48 = .ok (.iaload, 1) := dk_46 (dk_at dksX4_matchDepth_2 1 rfl rfl)
theorem dX4_matchDepth_49 : decode cX4_matchDepth 49 = .ok (.iaload, 1) := dk_46 (dk_at dksX4_matchDepth_2 2 rfl rfl)
theorem dX4_matchDepth_50 : decode cX4_matchDepth 50 = .ok (.iload_n 1, 1) := dk_27 (dk_at dksX4_matchDepth_2 3 rfl rfl)
theorem dX4_matchDepth_51 : decode cX4_matchDepth 51 = .ok (.if_icmp .le 17, 3) := dk_164 0 17 (dk_at dksX4_matchDepth_2 4 rfl rfl)
theorem dX4_matchDepth_54 : decode cX4_matchDepth 54 = .ok (.aload_n 0, 1) := dk_42 (dk_at dksX4_matchDepth_2 7 rfl rfl)
theorem dX4_matchDepth_55 : decode cX4_matchDepth 55 = .ok (.getfield 113, 3) := dk_180 0 113 (dk_at dksX4_matchDepth_2 8 rfl rfl)
theorem dX4_matchDepth_58 : decode cX4_matchDepth 58 = .ok (.aload_n 0, 1) := dk_42 (dk_at dksX4_matchDepth_2 11 rfl rfl)
theorem dX4_matchDepth_59 : decode cX4_matchDepth 59 = .ok (.getfield 88, 3) := dk_180 0 88 (dk_at dksX4_matchDepth_2 12 rfl rfl)
theorem dX4_matchDepth_62 : decode cX4_matchDepth 62 = .ok (.iload_n 2, 1) := dk_28 (dk_at dksX4_matchDepth_2 15 rfl rfl)
theorem dX4_matchDepth_63 : decode cX4_matchDepth 63 = .ok (.iaload, 1) := dk_46 (dk_at dksX4_matchDepth_2 16 rfl rfl)
theorem dX4_matchDepth_64 : decode cX4_matchDepth 64 = .ok (.iaload, 1) := dk_46 (dk_at dksX4_matchDepth_2 17 rfl rfl)
theorem dX4_matchDepth_65 : decode cX4_matchDepth 65 = .ok (.goto 4, 3) := dk_167 0 4 (dk_at dksX4_matchDepth_2 18 rfl rfl)
theorem dX4_matchDepth_68 : decode cX4_matchDepth 68 = .ok (.iload_n 1, 1) := dk_27 (dk_at dksX4_matchDepth_2 21 rfl rfl)
theorem dX4_matchDepth_69 : decode cX4_matchDepth 69 = .ok (.istore_n 1, 1) := dk_60 (dk_at dksX4_matchDepth_2 22 rfl rfl)
theorem dX4_matchDepth_70 : decode cX4_matchDepth 70 = .ok (.iinc 2 1, 3) := dk_132 2 1 (dk_at dksX4_matchDepth_3 0 rfl rfl)
theorem dX4_matchDepth_73 : decode cX4_matchDepth 73 = .ok (.goto (-69), 3) := dk_167 255 187 (dk_at dksX4_matchDepth_3 3 rfl rfl)
theorem dX4_matchDepth_76 : decode cX4_matchDepth 76 = .ok (.iload_n 1, 1) := dk_27 (dk_at dksX4_matchDepth_3 6 rfl rfl)
theorem dX4_matchDepth_77 : decode cX4_matchDepth 77 = .ok (.ireturn, 1) := dk_172 (dk_at dksX4_matchDepth_3 7 rfl rfl)
abbrev cX4_matchFacts : ByteArray := prog_19_method_29_code
def yX4_matchFacts : MethodName := ⟨RX4, "matchFacts", "()J"⟩
def dkwX4_matchFacts_2 : List UInt8 := [167, 255, 213, 31, 173]
abbrev dktX4_matchFacts_2 : List UInt8 := dkwX4_matchFacts_2 ++ []
def dkwX4_matchFacts_1 : List UInt8 := [182, 0, 148, 154, 0, 14, 10, 42, 180, 0, 88, 29, 46, 121, 167, 0, 4, 9, 129, 64, 132, 3, 1]
abbrev dktX4_matchFacts_1 : List UInt8 := dkwX4_matchFacts_1 ++ dktX4_matchFacts_2
def dkwX4_matchFacts_0 : List UInt8 := [9, 64, 3, 62, 29, 42, 180, 0, 158, 162, 0, 41, 31, 42, 42, 180, 0, 155, 42, 180, 0, 85, 29, 46]
abbrev dktX4_matchFacts_0 : List UInt8 := dkwX4_matchFacts_0 ++ dktX4_matchFacts_1
theorem dksX4_matchFacts_0 : cX4_matchFacts.data.toList.drop 0 = dktX4_matchFacts_0 := by decide +kernel
theorem dksX4_matchFacts_1 : cX4_matchFacts.data.toList.drop 24 = dktX4_matchFacts_1 := dk_seg dksX4_matchFacts_0 24 rfl rfl
theorem dksX4_matchFacts_2 : cX4_matchFacts.data.toList.drop 47 = dktX4_matchFacts_2 := dk_seg dksX4_matchFacts_1 23 rfl rfl
theorem dX4_matchFacts_0 : decode cX4_matchFacts 0 = .ok (.lconst 0, 1) := dk_9 (dk_at dksX4_matchFacts_0 0 rfl rfl)
theorem dX4_matchFacts_1 : decode cX4_matchFacts 1 = .ok (.lstore_n 1, 1) := dk_64 (dk_at dksX4_matchFacts_0 1 rfl rfl)
theorem dX4_matchFacts_2 : decode cX4_matchFacts 2 = .ok (.iconst 0, 1) := dk_3 (dk_at dksX4_matchFacts_0 2 rfl rfl)
theorem dX4_matchFacts_3 : decode cX4_matchFacts 3 = .ok (.istore_n 3, 1) := dk_62 (dk_at dksX4_matchFacts_0 3 rfl rfl)
theorem dX4_matchFacts_4 : decode cX4_matchFacts 4 = .ok (.iload_n 3, 1) := dk_29 (dk_at dksX4_matchFacts_0 4 rfl rfl)
theorem dX4_matchFacts_5 : decode cX4_matchFacts 5 = .ok (.aload_n 0, 1) := dk_42 (dk_at dksX4_matchFacts_0 5 rfl rfl)
theorem dX4_matchFacts_6 : decode cX4_matchFacts 6 = .ok (.getfield 158, 3) := dk_180 0 158 (dk_at dksX4_matchFacts_0 6 rfl rfl)
theorem dX4_matchFacts_9 : decode cX4_matchFacts 9 = .ok (.if_icmp .ge 41, 3) := dk_162 0 41 (dk_at dksX4_matchFacts_0 9 rfl rfl)
theorem dX4_matchFacts_12 : decode cX4_matchFacts 12 = .ok (.lload_n 1, 1) := dk_31 (dk_at dksX4_matchFacts_0 12 rfl rfl)
theorem dX4_matchFacts_13 : decode cX4_matchFacts 13 = .ok (.aload_n 0, 1) := dk_42 (dk_at dksX4_matchFacts_0 13 rfl rfl)
theorem dX4_matchFacts_14 : decode cX4_matchFacts 14 = .ok (.aload_n 0, 1) := dk_42 (dk_at dksX4_matchFacts_0 14 rfl rfl)
theorem dX4_matchFacts_15 : decode cX4_matchFacts 15 = .ok (.getfield 155, 3) := dk_180 0 155 (dk_at dksX4_matchFacts_0 15 rfl rfl)
theorem dX4_matchFacts_18 : decode cX4_matchFacts 18 = .ok (.aload_n 0, 1) := dk_42 (dk_at dksX4_matchFacts_0 18 rfl rfl)
theorem dX4_matchFacts_19 : decode cX4_matchFacts 19 = .ok (.getfield 85, 3) := dk_180 0 85 (dk_at dksX4_matchFacts_0 19 rfl rfl)
theorem dX4_matchFacts_22 : decode cX4_matchFacts 22 = .ok (.iload_n 3, 1) := dk_29 (dk_at dksX4_matchFacts_0 22 rfl rfl)
theorem dX4_matchFacts_23 : decode cX4_matchFacts 23 = .ok (.iaload, 1) := dk_46 (dk_at dksX4_matchFacts_0 23 rfl rfl)
theorem dX4_matchFacts_24 : decode cX4_matchFacts 24 = .ok (.invokevirtual 148, 3) := dk_182 0 148 (dk_at dksX4_matchFacts_1 0 rfl rfl)
theorem dX4_matchFacts_27 : decode cX4_matchFacts 27 = .ok (.ifCond .ne 14, 3) := dk_154 0 14 (dk_at dksX4_matchFacts_1 3 rfl rfl)
theorem dX4_matchFacts_30 : decode cX4_matchFacts 30 = .ok (.lconst 1, 1) := dk_10 (dk_at dksX4_matchFacts_1 6 rfl rfl)
theorem dX4_matchFacts_31 : decode cX4_matchFacts 31 = .ok (.aload_n 0, 1) := dk_42 (dk_at dksX4_matchFacts_1 7 rfl rfl)
theorem dX4_matchFacts_32 : decode cX4_matchFacts 32 = .ok (.getfield 88, 3) := dk_180 0 88 (dk_at dksX4_matchFacts_1 8 rfl rfl)
theorem dX4_matchFacts_35 : decode cX4_matchFacts 35 = .ok (.iload_n 3, 1) := dk_29 (dk_at dksX4_matchFacts_1 11 rfl rfl)
theorem dX4_matchFacts_36 : decode cX4_matchFacts 36 = .ok (.iaload, 1) := dk_46 (dk_at dksX4_matchFacts_1 12 rfl rfl)
theorem dX4_matchFacts_37 : decode cX4_matchFacts 37 = .ok (.lshl, 1) := dk_121 (dk_at dksX4_matchFacts_1 13 rfl rfl)
theorem dX4_matchFacts_38 : decode cX4_matchFacts 38 = .ok (.goto 4, 3) := dk_167 0 4 (dk_at dksX4_matchFacts_1 14 rfl rfl)
theorem dX4_matchFacts_41 : decode cX4_matchFacts 41 = .ok (.lconst 0, 1) := dk_9 (dk_at dksX4_matchFacts_1 17 rfl rfl)
theorem dX4_matchFacts_42 : decode cX4_matchFacts 42 = .ok (.lor, 1) := dk_129 (dk_at dksX4_matchFacts_1 18 rfl rfl)
theorem dX4_matchFacts_43 : decode cX4_matchFacts 43 = .ok (.lstore_n 1, 1) := dk_64 (dk_at dksX4_matchFacts_1 19 rfl rfl)
theorem dX4_matchFacts_44 : decode cX4_matchFacts 44 = .ok (.iinc 3 1, 3) := dk_132 3 1 (dk_at dksX4_matchFacts_1 20 rfl rfl)
theorem dX4_matchFacts_47 : decode cX4_matchFacts 47 = .ok (.goto (-43), 3) := dk_167 255 213 (dk_at dksX4_matchFacts_2 0 rfl rfl)
theorem dX4_matchFacts_50 : decode cX4_matchFacts 50 = .ok (.lload_n 1, 1) := dk_31 (dk_at dksX4_matchFacts_2 3 rfl rfl)
theorem dX4_matchFacts_51 : decode cX4_matchFacts 51 = .ok (.lreturn, 1) := dk_173 (dk_at dksX4_matchFacts_2 4 rfl rfl)
abbrev cX4_groupFact : ByteArray := prog_19_method_32_code
def yX4_groupFact : MethodName := ⟨RX4, "groupFact", "(II)I"⟩
def dkwX4_groupFact_10 : List UInt8 := [21, 9, 104, 96, 172]
abbrev dktX4_groupFact_10 : List UInt8 := dkwX4_groupFact_10 ++ []
def dkwX4_groupFact_9 : List UInt8 := [54, 9, 42, 180, 0, 97, 28, 46, 29, 184, 0, 189, 21, 9, 16, 99, 164, 0, 8, 16, 99, 167, 0, 5]
abbrev dktX4_groupFact_9 : List UInt8 := dkwX4_groupFact_9 ++ dktX4_groupFact_10
def dkwX4_groupFact_8 : List UInt8 := [21, 4, 4, 160, 0, 8, 21, 6, 167, 0, 16, 21, 4, 5, 160, 0, 8, 21, 7, 167, 0, 5, 21, 8]
abbrev dktX4_groupFact_8 : List UInt8 := dkwX4_groupFact_8 ++ dktX4_groupFact_9
def dkwX4_groupFact_7 : List UInt8 := [167, 0, 5, 21, 8, 54, 8, 132, 9, 1, 167, 255, 124, 21, 4, 154, 0, 8, 21, 5, 167, 0, 27]
abbrev dktX4_groupFact_7 : List UInt8 := dkwX4_groupFact_7 ++ dktX4_groupFact_8
def dkwX4_groupFact_6 : List UInt8 := [21, 7, 2, 160, 0, 8, 21, 9, 167, 0, 5, 21, 7, 54, 7, 21, 10, 153, 0, 8, 21, 9]
abbrev dktX4_groupFact_6 : List UInt8 := dkwX4_groupFact_6 ++ dktX4_groupFact_7
def dkwX4_groupFact_5 : List UInt8 := [54, 5, 21, 6, 21, 10, 153, 0, 8, 21, 9, 167, 0, 4, 3, 96, 54, 6, 21, 10, 153, 0, 14]
abbrev dktX4_groupFact_5 : List UInt8 := dkwX4_groupFact_5 ++ dktX4_groupFact_6
def dkwX4_groupFact_4 : List UInt8 := [154, 0, 7, 4, 167, 0, 4, 3, 54, 10, 21, 5, 21, 10, 153, 0, 7, 4, 167, 0, 4, 3, 96]
abbrev dktX4_groupFact_4 : List UInt8 := dkwX4_groupFact_4 ++ dktX4_groupFact_5
def dkwX4_groupFact_3 : List UInt8 := [167, 0, 31, 3, 167, 0, 27, 42, 180, 0, 104, 28, 47, 21, 9, 16, 50, 100, 123, 10, 127, 10, 148]
abbrev dktX4_groupFact_3 : List UInt8 := dkwX4_groupFact_3 ++ dktX4_groupFact_4
def dkwX4_groupFact_2 : List UInt8 := [21, 9, 16, 50, 162, 0, 27, 42, 180, 0, 100, 28, 47, 21, 9, 123, 10, 127, 10, 148, 154, 0, 7, 4]
abbrev dktX4_groupFact_2 : List UInt8 := dkwX4_groupFact_2 ++ dktX4_groupFact_3
def dkwX4_groupFact_1 : List UInt8 := [54, 4, 3, 54, 5, 3, 54, 6, 2, 54, 7, 3, 54, 8, 3, 54, 9, 21, 9, 16, 100, 162, 0, 131]
abbrev dktX4_groupFact_1 : List UInt8 := dkwX4_groupFact_1 ++ dktX4_groupFact_2
def dkwX4_groupFact_0 : List UInt8 := [42, 27, 182, 0, 205, 62, 42, 180, 0, 22, 6, 27, 104, 29, 96, 46, 17, 0, 200, 100, 16, 8, 108]
abbrev dktX4_groupFact_0 : List UInt8 := dkwX4_groupFact_0 ++ dktX4_groupFact_1
theorem dksX4_groupFact_0 : cX4_groupFact.data.toList.drop 0 = dktX4_groupFact_0 := by decide +kernel
theorem dksX4_groupFact_1 : cX4_groupFact.data.toList.drop 23 = dktX4_groupFact_1 := dk_seg dksX4_groupFact_0 23 rfl rfl
theorem dksX4_groupFact_2 : cX4_groupFact.data.toList.drop 47 = dktX4_groupFact_2 := dk_seg dksX4_groupFact_1 24 rfl rfl
theorem dksX4_groupFact_3 : cX4_groupFact.data.toList.drop 71 = dktX4_groupFact_3 := dk_seg dksX4_groupFact_2 24 rfl rfl
theorem dksX4_groupFact_4 : cX4_groupFact.data.toList.drop 94 = dktX4_groupFact_4 := dk_seg dksX4_groupFact_3 23 rfl rfl
theorem dksX4_groupFact_5 : cX4_groupFact.data.toList.drop 117 = dktX4_groupFact_5 := dk_seg dksX4_groupFact_4 23 rfl rfl
theorem dksX4_groupFact_6 : cX4_groupFact.data.toList.drop 140 = dktX4_groupFact_6 := dk_seg dksX4_groupFact_5 23 rfl rfl
theorem dksX4_groupFact_7 : cX4_groupFact.data.toList.drop 162 = dktX4_groupFact_7 := dk_seg dksX4_groupFact_6 22 rfl rfl
theorem dksX4_groupFact_8 : cX4_groupFact.data.toList.drop 185 = dktX4_groupFact_8 := dk_seg dksX4_groupFact_7 23 rfl rfl
theorem dksX4_groupFact_9 : cX4_groupFact.data.toList.drop 209 = dktX4_groupFact_9 := dk_seg dksX4_groupFact_8 24 rfl rfl
theorem dksX4_groupFact_10 : cX4_groupFact.data.toList.drop 233 = dktX4_groupFact_10 := dk_seg dksX4_groupFact_9 24 rfl rfl
theorem dX4_groupFact_0 : decode cX4_groupFact 0 = .ok (.aload_n 0, 1) := dk_42 (dk_at dksX4_groupFact_0 0 rfl rfl)
theorem dX4_groupFact_1 : decode cX4_groupFact 1 = .ok (.iload_n 1, 1) := dk_27 (dk_at dksX4_groupFact_0 1 rfl rfl)
theorem dX4_groupFact_2 : decode cX4_groupFact 2 = .ok (.invokevirtual 205, 3) := dk_182 0 205 (dk_at dksX4_groupFact_0 2 rfl rfl)
theorem dX4_groupFact_5 : decode cX4_groupFact 5 = .ok (.istore_n 3, 1) := dk_62 (dk_at dksX4_groupFact_0 5 rfl rfl)
theorem dX4_groupFact_6 : decode cX4_groupFact 6 = .ok (.aload_n 0, 1) := dk_42 (dk_at dksX4_groupFact_0 6 rfl rfl)
theorem dX4_groupFact_7 : decode cX4_groupFact 7 = .ok (.getfield 22, 3) := dk_180 0 22 (dk_at dksX4_groupFact_0 7 rfl rfl)
theorem dX4_groupFact_10 : decode cX4_groupFact 10 = .ok (.iconst 3, 1) := dk_6 (dk_at dksX4_groupFact_0 10 rfl rfl)
theorem dX4_groupFact_11 : decode cX4_groupFact 11 = .ok (.iload_n 1, 1) := dk_27 (dk_at dksX4_groupFact_0 11 rfl rfl)
theorem dX4_groupFact_12 : decode cX4_groupFact 12 = .ok (.imul, 1) := dk_104 (dk_at dksX4_groupFact_0 12 rfl rfl)
theorem dX4_groupFact_13 : decode cX4_groupFact 13 = .ok (.iload_n 3, 1) := dk_29 (dk_at dksX4_groupFact_0 13 rfl rfl)
theorem dX4_groupFact_14 : decode cX4_groupFact 14 = .ok (.iadd, 1) := dk_96 (dk_at dksX4_groupFact_0 14 rfl rfl)
theorem dX4_groupFact_15 : decode cX4_groupFact 15 = .ok (.iaload, 1) := dk_46 (dk_at dksX4_groupFact_0 15 rfl rfl)
theorem dX4_groupFact_16 : decode cX4_groupFact 16 = .ok (.sipush 200, 3) := dk_17 0 200 (dk_at dksX4_groupFact_0 16 rfl rfl)
theorem dX4_groupFact_19 : decode cX4_groupFact 19 = .ok (.isub, 1) := dk_100 (dk_at dksX4_groupFact_0 19 rfl rfl)
theorem dX4_groupFact_20 : decode cX4_groupFact 20 = .ok (.bipush 8, 2) := dk_16 8 (dk_at dksX4_groupFact_0 20 rfl rfl)
theorem dX4_groupFact_22 : decode cX4_groupFact 22 = .ok (.idiv, 1) := dk_108 (dk_at dksX4_groupFact_0 22 rfl rfl)
theorem dX4_groupFact_23 : decode cX4_groupFact 23 = .ok (.istore 4, 2) := dk_54 4 (dk_at dksX4_groupFact_1 0 rfl rfl)
theorem dX4_groupFact_25 : decode cX4_groupFact 25 = .ok (.iconst 0, 1) := dk_3 (dk_at dksX4_groupFact_1 2 rfl rfl)
theorem dX4_groupFact_26 : decode cX4_groupFact 26 = .ok (.istore 5, 2) := dk_54 5 (dk_at dksX4_groupFact_1 3 rfl rfl)
theorem dX4_groupFact_28 : decode cX4_groupFact 28 = .ok (.iconst 0, 1) := dk_3 (dk_at dksX4_groupFact_1 5 rfl rfl)
theorem dX4_groupFact_29 : decode cX4_groupFact 29 = .ok (.istore 6, 2) := dk_54 6 (dk_at dksX4_groupFact_1 6 rfl rfl)
theorem dX4_groupFact_31 : decode cX4_groupFact 31 = .ok (.iconst (-1), 1) := dk_2 (dk_at dksX4_groupFact_1 8 rfl rfl)
theorem dX4_groupFact_32 : decode cX4_groupFact 32 = .ok (.istore 7, 2) := dk_54 7 (dk_at dksX4_groupFact_1 9 rfl rfl)
theorem dX4_groupFact_34 : decode cX4_groupFact 34 = .ok (.iconst 0, 1) := dk_3 (dk_at dksX4_groupFact_1 11 rfl rfl)
theorem dX4_groupFact_35 : decode cX4_groupFact 35 = .ok (.istore 8, 2) := dk_54 8 (dk_at dksX4_groupFact_1 12 rfl rfl)
theorem dX4_groupFact_37 : decode cX4_groupFact 37 = .ok (.iconst 0, 1) := dk_3 (dk_at dksX4_groupFact_1 14 rfl rfl)
theorem dX4_groupFact_38 : decode cX4_groupFact 38 = .ok (.istore 9, 2) := dk_54 9 (dk_at dksX4_groupFact_1 15 rfl rfl)
theorem dX4_groupFact_40 : decode cX4_groupFact 40 = .ok (.iload 9, 2) := dk_21 9 (dk_at dksX4_groupFact_1 17 rfl rfl)
theorem dX4_groupFact_42 : decode cX4_groupFact 42 = .ok (.bipush 100, 2) := dk_16 100 (dk_at dksX4_groupFact_1 19 rfl rfl)
theorem dX4_groupFact_44 : decode cX4_groupFact 44 = .ok (.if_icmp .ge 131, 3) := dk_162 0 131 (dk_at dksX4_groupFact_1 21 rfl rfl)
theorem dX4_groupFact_47 : decode cX4_groupFact 47 = .ok (.iload 9, 2) := dk_21 9 (dk_at dksX4_groupFact_2 0 rfl rfl)
theorem dX4_groupFact_49 : decode cX4_groupFact 49 = .ok (.bipush 50, 2) := dk_16 50 (dk_at dksX4_groupFact_2 2 rfl rfl)
theorem dX4_groupFact_51 : decode cX4_groupFact 51 = .ok (.if_icmp .ge 27, 3) := dk_162 0 27 (dk_at dksX4_groupFact_2 4 rfl rfl)
theorem dX4_groupFact_54 : decode cX4_groupFact 54 = .ok (.aload_n 0, 1) := dk_42 (dk_at dksX4_groupFact_2 7 rfl rfl)
theorem dX4_groupFact_55 : decode cX4_groupFact 55 = .ok (.getfield 100, 3) := dk_180 0 100 (dk_at dksX4_groupFact_2 8 rfl rfl)
theorem dX4_groupFact_58 : decode cX4_groupFact 58 = .ok (.iload_n 2, 1) := dk_28 (dk_at dksX4_groupFact_2 11 rfl rfl)
theorem dX4_groupFact_59 : decode cX4_groupFact 59 = .ok (.laload, 1) := dk_47 (dk_at dksX4_groupFact_2 12 rfl rfl)
theorem dX4_groupFact_60 : decode cX4_groupFact 60 = .ok (.iload 9, 2) := dk_21 9 (dk_at dksX4_groupFact_2 13 rfl rfl)
theorem dX4_groupFact_62 : decode cX4_groupFact 62 = .ok (.lshr, 1) := dk_123 (dk_at dksX4_groupFact_2 15 rfl rfl)
theorem dX4_groupFact_63 : decode cX4_groupFact 63 = .ok (.lconst 1, 1) := dk_10 (dk_at dksX4_groupFact_2 16 rfl rfl)
theorem dX4_groupFact_64 : decode cX4_groupFact 64 = .ok (.land, 1) := dk_127 (dk_at dksX4_groupFact_2 17 rfl rfl)
theorem dX4_groupFact_65 : decode cX4_groupFact 65 = .ok (.lconst 1, 1) := dk_10 (dk_at dksX4_groupFact_2 18 rfl rfl)
theorem dX4_groupFact_66 : decode cX4_groupFact 66 = .ok (.lcmp, 1) := dk_148 (dk_at dksX4_groupFact_2 19 rfl rfl)
theorem dX4_groupFact_67 : decode cX4_groupFact 67 = .ok (.ifCond .ne 7, 3) := dk_154 0 7 (dk_at dksX4_groupFact_2 20 rfl rfl)
theorem dX4_groupFact_70 : decode cX4_groupFact 70 = .ok (.iconst 1, 1) := dk_4 (dk_at dksX4_groupFact_2 23 rfl rfl)
theorem dX4_groupFact_71 : decode cX4_groupFact 71 = .ok (.goto 31, 3) := dk_167 0 31 (dk_at dksX4_groupFact_3 0 rfl rfl)
theorem dX4_groupFact_74 : decode cX4_groupFact 74 = .ok (.iconst 0, 1) := dk_3 (dk_at dksX4_groupFact_3 3 rfl rfl)
theorem dX4_groupFact_75 : decode cX4_groupFact 75 = .ok (.goto 27, 3) := dk_167 0 27 (dk_at dksX4_groupFact_3 4 rfl rfl)
theorem dX4_groupFact_78 : decode cX4_groupFact 78 = .ok (.aload_n 0, 1) := dk_42 (dk_at dksX4_groupFact_3 7 rfl rfl)
theorem dX4_groupFact_79 : decode cX4_groupFact 79 = .ok (.getfield 104, 3) := dk_180 0 104 (dk_at dksX4_groupFact_3 8 rfl rfl)
theorem dX4_groupFact_82 : decode cX4_groupFact 82 = .ok (.iload_n 2, 1) := dk_28 (dk_at dksX4_groupFact_3 11 rfl rfl)
theorem dX4_groupFact_83 : decode cX4_groupFact 83 = .ok (.laload, 1) := dk_47 (dk_at dksX4_groupFact_3 12 rfl rfl)
theorem dX4_groupFact_84 : decode cX4_groupFact 84 = .ok (.iload 9, 2) := dk_21 9 (dk_at dksX4_groupFact_3 13 rfl rfl)
theorem dX4_groupFact_86 : decode cX4_groupFact 86 = .ok (.bipush 50, 2) := dk_16 50 (dk_at dksX4_groupFact_3 15 rfl rfl)
theorem dX4_groupFact_88 : decode cX4_groupFact 88 = .ok (.isub, 1) := dk_100 (dk_at dksX4_groupFact_3 17 rfl rfl)
theorem dX4_groupFact_89 : decode cX4_groupFact 89 = .ok (.lshr, 1) := dk_123 (dk_at dksX4_groupFact_3 18 rfl rfl)
theorem dX4_groupFact_90 : decode cX4_groupFact 90 = .ok (.lconst 1, 1) := dk_10 (dk_at dksX4_groupFact_3 19 rfl rfl)
theorem dX4_groupFact_91 : decode cX4_groupFact 91 = .ok (.land, 1) := dk_127 (dk_at dksX4_groupFact_3 20 rfl rfl)
theorem dX4_groupFact_92 : decode cX4_groupFact 92 = .ok (.lconst 1, 1) := dk_10 (dk_at dksX4_groupFact_3 21 rfl rfl)
theorem dX4_groupFact_93 : decode cX4_groupFact 93 = .ok (.lcmp, 1) := dk_148 (dk_at dksX4_groupFact_3 22 rfl rfl)
theorem dX4_groupFact_94 : decode cX4_groupFact 94 = .ok (.ifCond .ne 7, 3) := dk_154 0 7 (dk_at dksX4_groupFact_4 0 rfl rfl)
theorem dX4_groupFact_97 : decode cX4_groupFact 97 = .ok (.iconst 1, 1) := dk_4 (dk_at dksX4_groupFact_4 3 rfl rfl)
theorem dX4_groupFact_98 : decode cX4_groupFact 98 = .ok (.goto 4, 3) := dk_167 0 4 (dk_at dksX4_groupFact_4 4 rfl rfl)
theorem dX4_groupFact_101 : decode cX4_groupFact 101 = .ok (.iconst 0, 1) := dk_3 (dk_at dksX4_groupFact_4 7 rfl rfl)
theorem dX4_groupFact_102 : decode cX4_groupFact 102 = .ok (.istore 10, 2) := dk_54 10 (dk_at dksX4_groupFact_4 8 rfl rfl)
theorem dX4_groupFact_104 : decode cX4_groupFact 104 = .ok (.iload 5, 2) := dk_21 5 (dk_at dksX4_groupFact_4 10 rfl rfl)
theorem dX4_groupFact_106 : decode cX4_groupFact 106 = .ok (.iload 10, 2) := dk_21 10 (dk_at dksX4_groupFact_4 12 rfl rfl)
theorem dX4_groupFact_108 : decode cX4_groupFact 108 = .ok (.ifCond .eq 7, 3) := dk_153 0 7 (dk_at dksX4_groupFact_4 14 rfl rfl)
theorem dX4_groupFact_111 : decode cX4_groupFact 111 = .ok (.iconst 1, 1) := dk_4 (dk_at dksX4_groupFact_4 17 rfl rfl)
theorem dX4_groupFact_112 : decode cX4_groupFact 112 = .ok (.goto 4, 3) := dk_167 0 4 (dk_at dksX4_groupFact_4 18 rfl rfl)
theorem dX4_groupFact_115 : decode cX4_groupFact 115 = .ok (.iconst 0, 1) := dk_3 (dk_at dksX4_groupFact_4 21 rfl rfl)
theorem dX4_groupFact_116 : decode cX4_groupFact 116 = .ok (.iadd, 1) := dk_96 (dk_at dksX4_groupFact_4 22 rfl rfl)
theorem dX4_groupFact_117 : decode cX4_groupFact 117 = .ok (.istore 5, 2) := dk_54 5 (dk_at dksX4_groupFact_5 0 rfl rfl)
theorem dX4_groupFact_119 : decode cX4_groupFact 119 = .ok (.iload 6, 2) := dk_21 6 (dk_at dksX4_groupFact_5 2 rfl rfl)
theorem dX4_groupFact_121 : decode cX4_groupFact 121 = .ok (.iload 10, 2) := dk_21 10 (dk_at dksX4_groupFact_5 4 rfl rfl)
theorem dX4_groupFact_123 : decode cX4_groupFact 123 = .ok (.ifCond .eq 8, 3) := dk_153 0 8 (dk_at dksX4_groupFact_5 6 rfl rfl)
theorem dX4_groupFact_126 : decode cX4_groupFact 126 = .ok (.iload 9, 2) := dk_21 9 (dk_at dksX4_groupFact_5 9 rfl rfl)
theorem dX4_groupFact_128 : decode cX4_groupFact 128 = .ok (.goto 4, 3) := dk_167 0 4 (dk_at dksX4_groupFact_5 11 rfl rfl)
theorem dX4_groupFact_131 : decode cX4_groupFact 131 = .ok (.iconst 0, 1) := dk_3 (dk_at dksX4_groupFact_5 14 rfl rfl)
theorem dX4_groupFact_132 : decode cX4_groupFact 132 = .ok (.iadd, 1) := dk_96 (dk_at dksX4_groupFact_5 15 rfl rfl)
theorem dX4_groupFact_133 : decode cX4_groupFact 133 = .ok (.istore 6, 2) := dk_54 6 (dk_at dksX4_groupFact_5 16 rfl rfl)
theorem dX4_groupFact_135 : decode cX4_groupFact 135 = .ok (.iload 10, 2) := dk_21 10 (dk_at dksX4_groupFact_5 18 rfl rfl)
theorem dX4_groupFact_137 : decode cX4_groupFact 137 = .ok (.ifCond .eq 14, 3) := dk_153 0 14 (dk_at dksX4_groupFact_5 20 rfl rfl)
theorem dX4_groupFact_140 : decode cX4_groupFact 140 = .ok (.iload 7, 2) := dk_21 7 (dk_at dksX4_groupFact_6 0 rfl rfl)
theorem dX4_groupFact_142 : decode cX4_groupFact 142 = .ok (.iconst (-1), 1) := dk_2 (dk_at dksX4_groupFact_6 2 rfl rfl)
theorem dX4_groupFact_143 : decode cX4_groupFact 143 = .ok (.if_icmp .ne 8, 3) := dk_160 0 8 (dk_at dksX4_groupFact_6 3 rfl rfl)
theorem dX4_groupFact_146 : decode cX4_groupFact 146 = .ok (.iload 9, 2) := dk_21 9 (dk_at dksX4_groupFact_6 6 rfl rfl)
theorem dX4_groupFact_148 : decode cX4_groupFact 148 = .ok (.goto 5, 3) := dk_167 0 5 (dk_at dksX4_groupFact_6 8 rfl rfl)
theorem dX4_groupFact_151 : decode cX4_groupFact 151 = .ok (.iload 7, 2) := dk_21 7 (dk_at dksX4_groupFact_6 11 rfl rfl)
theorem dX4_groupFact_153 : decode cX4_groupFact 153 = .ok (.istore 7, 2) := dk_54 7 (dk_at dksX4_groupFact_6 13 rfl rfl)
theorem dX4_groupFact_155 : decode cX4_groupFact 155 = .ok (.iload 10, 2) := dk_21 10 (dk_at dksX4_groupFact_6 15 rfl rfl)
theorem dX4_groupFact_157 : decode cX4_groupFact 157 = .ok (.ifCond .eq 8, 3) := dk_153 0 8 (dk_at dksX4_groupFact_6 17 rfl rfl)
theorem dX4_groupFact_160 : decode cX4_groupFact 160 = .ok (.iload 9, 2) := dk_21 9 (dk_at dksX4_groupFact_6 20 rfl rfl)
theorem dX4_groupFact_162 : decode cX4_groupFact 162 = .ok (.goto 5, 3) := dk_167 0 5 (dk_at dksX4_groupFact_7 0 rfl rfl)
theorem dX4_groupFact_165 : decode cX4_groupFact 165 = .ok (.iload 8, 2) := dk_21 8 (dk_at dksX4_groupFact_7 3 rfl rfl)
theorem dX4_groupFact_167 : decode cX4_groupFact 167 = .ok (.istore 8, 2) := dk_54 8 (dk_at dksX4_groupFact_7 5 rfl rfl)
theorem dX4_groupFact_169 : decode cX4_groupFact 169 = .ok (.iinc 9 1, 3) := dk_132 9 1 (dk_at dksX4_groupFact_7 7 rfl rfl)
theorem dX4_groupFact_172 : decode cX4_groupFact 172 = .ok (.goto (-132), 3) := dk_167 255 124 (dk_at dksX4_groupFact_7 10 rfl rfl)
theorem dX4_groupFact_175 : decode cX4_groupFact 175 = .ok (.iload 4, 2) := dk_21 4 (dk_at dksX4_groupFact_7 13 rfl rfl)
theorem dX4_groupFact_177 : decode cX4_groupFact 177 = .ok (.ifCond .ne 8, 3) := dk_154 0 8 (dk_at dksX4_groupFact_7 15 rfl rfl)
theorem dX4_groupFact_180 : decode cX4_groupFact 180 = .ok (.iload 5, 2) := dk_21 5 (dk_at dksX4_groupFact_7 18 rfl rfl)
theorem dX4_groupFact_182 : decode cX4_groupFact 182 = .ok (.goto 27, 3) := dk_167 0 27 (dk_at dksX4_groupFact_7 20 rfl rfl)
theorem dX4_groupFact_185 : decode cX4_groupFact 185 = .ok (.iload 4, 2) := dk_21 4 (dk_at dksX4_groupFact_8 0 rfl rfl)
theorem dX4_groupFact_187 : decode cX4_groupFact 187 = .ok (.iconst 1, 1) := dk_4 (dk_at dksX4_groupFact_8 2 rfl rfl)
theorem dX4_groupFact_188 : decode cX4_groupFact 188 = .ok (.if_icmp .ne 8, 3) := dk_160 0 8 (dk_at dksX4_groupFact_8 3 rfl rfl)
theorem dX4_groupFact_191 : decode cX4_groupFact 191 = .ok (.iload 6, 2) := dk_21 6 (dk_at dksX4_groupFact_8 6 rfl rfl)
theorem dX4_groupFact_193 : decode cX4_groupFact 193 = .ok (.goto 16, 3) := dk_167 0 16 (dk_at dksX4_groupFact_8 8 rfl rfl)
theorem dX4_groupFact_196 : decode cX4_groupFact 196 = .ok (.iload 4, 2) := dk_21 4 (dk_at dksX4_groupFact_8 11 rfl rfl)
theorem dX4_groupFact_198 : decode cX4_groupFact 198 = .ok (.iconst 2, 1) := dk_5 (dk_at dksX4_groupFact_8 13 rfl rfl)
theorem dX4_groupFact_199 : decode cX4_groupFact 199 = .ok (.if_icmp .ne 8, 3) := dk_160 0 8 (dk_at dksX4_groupFact_8 14 rfl rfl)
theorem dX4_groupFact_202 : decode cX4_groupFact 202 = .ok (.iload 7, 2) := dk_21 7 (dk_at dksX4_groupFact_8 17 rfl rfl)
theorem dX4_groupFact_204 : decode cX4_groupFact 204 = .ok (.goto 5, 3) := dk_167 0 5 (dk_at dksX4_groupFact_8 19 rfl rfl)
theorem dX4_groupFact_207 : decode cX4_groupFact 207 = .ok (.iload 8, 2) := dk_21 8 (dk_at dksX4_groupFact_8 22 rfl rfl)
theorem dX4_groupFact_209 : decode cX4_groupFact 209 = .ok (.istore 9, 2) := dk_54 9 (dk_at dksX4_groupFact_9 0 rfl rfl)
theorem dX4_groupFact_211 : decode cX4_groupFact 211 = .ok (.aload_n 0, 1) := dk_42 (dk_at dksX4_groupFact_9 2 rfl rfl)
theorem dX4_groupFact_212 : decode cX4_groupFact 212 = .ok (.getfield 97, 3) := dk_180 0 97 (dk_at dksX4_groupFact_9 3 rfl rfl)
theorem dX4_groupFact_215 : decode cX4_groupFact 215 = .ok (.iload_n 2, 1) := dk_28 (dk_at dksX4_groupFact_9 6 rfl rfl)
theorem dX4_groupFact_216 : decode cX4_groupFact 216 = .ok (.iaload, 1) := dk_46 (dk_at dksX4_groupFact_9 7 rfl rfl)
theorem dX4_groupFact_217 : decode cX4_groupFact 217 = .ok (.iload_n 3, 1) := dk_29 (dk_at dksX4_groupFact_9 8 rfl rfl)
theorem dX4_groupFact_218 : decode cX4_groupFact 218 = .ok (.invokestatic 189, 3) := dk_184 0 189 (dk_at dksX4_groupFact_9 9 rfl rfl)
theorem dX4_groupFact_221 : decode cX4_groupFact 221 = .ok (.iload 9, 2) := dk_21 9 (dk_at dksX4_groupFact_9 12 rfl rfl)
theorem dX4_groupFact_223 : decode cX4_groupFact 223 = .ok (.bipush 99, 2) := dk_16 99 (dk_at dksX4_groupFact_9 14 rfl rfl)
theorem dX4_groupFact_225 : decode cX4_groupFact 225 = .ok (.if_icmp .le 8, 3) := dk_164 0 8 (dk_at dksX4_groupFact_9 16 rfl rfl)
theorem dX4_groupFact_228 : decode cX4_groupFact 228 = .ok (.bipush 99, 2) := dk_16 99 (dk_at dksX4_groupFact_9 19 rfl rfl)
theorem dX4_groupFact_230 : decode cX4_groupFact 230 = .ok (.goto 5, 3) := dk_167 0 5 (dk_at dksX4_groupFact_9 21 rfl rfl)
theorem dX4_groupFact_233 : decode cX4_groupFact 233 = .ok (.iload 9, 2) := dk_21 9 (dk_at dksX4_groupFact_10 0 rfl rfl)
theorem dX4_groupFact_235 : decode cX4_groupFact 235 = .ok (.imul, 1) := dk_104 (dk_at dksX4_groupFact_10 2 rfl rfl)
theorem dX4_groupFact_236 : decode cX4_groupFact 236 = .ok (.iadd, 1) := dk_96 (dk_at dksX4_groupFact_10 3 rfl rfl)
theorem dX4_groupFact_237 : decode cX4_groupFact 237 = .ok (.ireturn, 1) := dk_172 (dk_at dksX4_groupFact_10 4 rfl rfl)
abbrev cX4_expect : ByteArray := prog_19_method_37_code
def yX4_expect : MethodName := ⟨RX4, "expect", "(I)V"⟩
def dkwX4_expect_3 : List UInt8 := [180, 0, 242, 27, 79, 42, 89, 180, 0, 242, 4, 96, 181, 0, 242, 177]
abbrev dktX4_expect_3 : List UInt8 := dkwX4_expect_3 ++ []
def dkwX4_expect_2 : List UInt8 := [132, 3, 1, 167, 255, 225, 28, 154, 0, 32, 42, 180, 0, 242, 16, 60, 163, 0, 23, 42, 180, 0, 82, 42]
abbrev dktX4_expect_2 : List UInt8 := dkwX4_expect_2 ++ dktX4_expect_3
def dkwX4_expect_1 : List UInt8 := [162, 0, 29, 28, 154, 0, 13, 42, 180, 0, 82, 29, 46, 27, 160, 0, 7, 4, 167, 0, 4, 3, 61]
abbrev dktX4_expect_1 : List UInt8 := dkwX4_expect_1 ++ dktX4_expect_2
def dkwX4_expect_0 : List UInt8 := [42, 27, 182, 0, 192, 2, 159, 0, 7, 4, 167, 0, 4, 3, 61, 3, 62, 29, 42, 180, 0, 242]
abbrev dktX4_expect_0 : List UInt8 := dkwX4_expect_0 ++ dktX4_expect_1
theorem dksX4_expect_0 : cX4_expect.data.toList.drop 0 = dktX4_expect_0 := by decide +kernel
theorem dksX4_expect_1 : cX4_expect.data.toList.drop 22 = dktX4_expect_1 := dk_seg dksX4_expect_0 22 rfl rfl
theorem dksX4_expect_2 : cX4_expect.data.toList.drop 45 = dktX4_expect_2 := dk_seg dksX4_expect_1 23 rfl rfl
theorem dksX4_expect_3 : cX4_expect.data.toList.drop 69 = dktX4_expect_3 := dk_seg dksX4_expect_2 24 rfl rfl
theorem dX4_expect_0 : decode cX4_expect 0 = .ok (.aload_n 0, 1) := dk_42 (dk_at dksX4_expect_0 0 rfl rfl)
theorem dX4_expect_1 : decode cX4_expect 1 = .ok (.iload_n 1, 1) := dk_27 (dk_at dksX4_expect_0 1 rfl rfl)
theorem dX4_expect_2 : decode cX4_expect 2 = .ok (.invokevirtual 192, 3) := dk_182 0 192 (dk_at dksX4_expect_0 2 rfl rfl)
theorem dX4_expect_5 : decode cX4_expect 5 = .ok (.iconst (-1), 1) := dk_2 (dk_at dksX4_expect_0 5 rfl rfl)
theorem dX4_expect_6 : decode cX4_expect 6 = .ok (.if_icmp .eq 7, 3) := dk_159 0 7 (dk_at dksX4_expect_0 6 rfl rfl)
theorem dX4_expect_9 : decode cX4_expect 9 = .ok (.iconst 1, 1) := dk_4 (dk_at dksX4_expect_0 9 rfl rfl)
theorem dX4_expect_10 : decode cX4_expect 10 = .ok (.goto 4, 3) := dk_167 0 4 (dk_at dksX4_expect_0 10 rfl rfl)
theorem dX4_expect_13 : decode cX4_expect 13 = .ok (.iconst 0, 1) := dk_3 (dk_at dksX4_expect_0 13 rfl rfl)
theorem dX4_expect_14 : decode cX4_expect 14 = .ok (.istore_n 2, 1) := dk_61 (dk_at dksX4_expect_0 14 rfl rfl)
theorem dX4_expect_15 : decode cX4_expect 15 = .ok (.iconst 0, 1) := dk_3 (dk_at dksX4_expect_0 15 rfl rfl)
theorem dX4_expect_16 : decode cX4_expect 16 = .ok (.istore_n 3, 1) := dk_62 (dk_at dksX4_expect_0 16 rfl rfl)
theorem dX4_expect_17 : decode cX4_expect 17 = .ok (.iload_n 3, 1) := dk_29 (dk_at dksX4_expect_0 17 rfl rfl)
theorem dX4_expect_18 : decode cX4_expect 18 = .ok (.aload_n 0, 1) := dk_42 (dk_at dksX4_expect_0 18 rfl rfl)
theorem dX4_expect_19 : decode cX4_expect 19 = .ok (.getfield 242, 3) := dk_180 0 242 (dk_at dksX4_expect_0 19 rfl rfl)
theorem dX4_expect_22 : decode cX4_expect 22 = .ok (.if_icmp .ge 29, 3) := dk_162 0 29 (dk_at dksX4_expect_1 0 rfl rfl)
theorem dX4_expect_25 : decode cX4_expect 25 = .ok (.iload_n 2, 1) := dk_28 (dk_at dksX4_expect_1 3 rfl rfl)
theorem dX4_expect_26 : decode cX4_expect 26 = .ok (.ifCond .ne 13, 3) := dk_154 0 13 (dk_at dksX4_expect_1 4 rfl rfl)
theorem dX4_expect_29 : decode cX4_expect 29 = .ok (.aload_n 0, 1) := dk_42 (dk_at dksX4_expect_1 7 rfl rfl)
theorem dX4_expect_30 : decode cX4_expect 30 = .ok (.getfield 82, 3) := dk_180 0 82 (dk_at dksX4_expect_1 8 rfl rfl)
theorem dX4_expect_33 : decode cX4_expect 33 = .ok (.iload_n 3, 1) := dk_29 (dk_at dksX4_expect_1 11 rfl rfl)
theorem dX4_expect_34 : decode cX4_expect 34 = .ok (.iaload, 1) := dk_46 (dk_at dksX4_expect_1 12 rfl rfl)
theorem dX4_expect_35 : decode cX4_expect 35 = .ok (.iload_n 1, 1) := dk_27 (dk_at dksX4_expect_1 13 rfl rfl)
theorem dX4_expect_36 : decode cX4_expect 36 = .ok (.if_icmp .ne 7, 3) := dk_160 0 7 (dk_at dksX4_expect_1 14 rfl rfl)
theorem dX4_expect_39 : decode cX4_expect 39 = .ok (.iconst 1, 1) := dk_4 (dk_at dksX4_expect_1 17 rfl rfl)
theorem dX4_expect_40 : decode cX4_expect 40 = .ok (.goto 4, 3) := dk_167 0 4 (dk_at dksX4_expect_1 18 rfl rfl)
theorem dX4_expect_43 : decode cX4_expect 43 = .ok (.iconst 0, 1) := dk_3 (dk_at dksX4_expect_1 21 rfl rfl)
theorem dX4_expect_44 : decode cX4_expect 44 = .ok (.istore_n 2, 1) := dk_61 (dk_at dksX4_expect_1 22 rfl rfl)
theorem dX4_expect_45 : decode cX4_expect 45 = .ok (.iinc 3 1, 3) := dk_132 3 1 (dk_at dksX4_expect_2 0 rfl rfl)
theorem dX4_expect_48 : decode cX4_expect 48 = .ok (.goto (-31), 3) := dk_167 255 225 (dk_at dksX4_expect_2 3 rfl rfl)
theorem dX4_expect_51 : decode cX4_expect 51 = .ok (.iload_n 2, 1) := dk_28 (dk_at dksX4_expect_2 6 rfl rfl)
theorem dX4_expect_52 : decode cX4_expect 52 = .ok (.ifCond .ne 32, 3) := dk_154 0 32 (dk_at dksX4_expect_2 7 rfl rfl)
theorem dX4_expect_55 : decode cX4_expect 55 = .ok (.aload_n 0, 1) := dk_42 (dk_at dksX4_expect_2 10 rfl rfl)
theorem dX4_expect_56 : decode cX4_expect 56 = .ok (.getfield 242, 3) := dk_180 0 242 (dk_at dksX4_expect_2 11 rfl rfl)
theorem dX4_expect_59 : decode cX4_expect 59 = .ok (.bipush 60, 2) := dk_16 60 (dk_at dksX4_expect_2 14 rfl rfl)
theorem dX4_expect_61 : decode cX4_expect 61 = .ok (.if_icmp .gt 23, 3) := dk_163 0 23 (dk_at dksX4_expect_2 16 rfl rfl)
theorem dX4_expect_64 : decode cX4_expect 64 = .ok (.aload_n 0, 1) := dk_42 (dk_at dksX4_expect_2 19 rfl rfl)
theorem dX4_expect_65 : decode cX4_expect 65 = .ok (.getfield 82, 3) := dk_180 0 82 (dk_at dksX4_expect_2 20 rfl rfl)
theorem dX4_expect_68 : decode cX4_expect 68 = .ok (.aload_n 0, 1) := dk_42 (dk_at dksX4_expect_2 23 rfl rfl)
theorem dX4_expect_69 : decode cX4_expect 69 = .ok (.getfield 242, 3) := dk_180 0 242 (dk_at dksX4_expect_3 0 rfl rfl)
theorem dX4_expect_72 : decode cX4_expect 72 = .ok (.iload_n 1, 1) := dk_27 (dk_at dksX4_expect_3 3 rfl rfl)
theorem dX4_expect_73 : decode cX4_expect 73 = .ok (.iastore, 1) := dk_79 (dk_at dksX4_expect_3 4 rfl rfl)
theorem dX4_expect_74 : decode cX4_expect 74 = .ok (.aload_n 0, 1) := dk_42 (dk_at dksX4_expect_3 5 rfl rfl)
theorem dX4_expect_75 : decode cX4_expect 75 = .ok (.dup, 1) := dk_89 (dk_at dksX4_expect_3 6 rfl rfl)
theorem dX4_expect_76 : decode cX4_expect 76 = .ok (.getfield 242, 3) := dk_180 0 242 (dk_at dksX4_expect_3 7 rfl rfl)
theorem dX4_expect_79 : decode cX4_expect 79 = .ok (.iconst 1, 1) := dk_4 (dk_at dksX4_expect_3 10 rfl rfl)
theorem dX4_expect_80 : decode cX4_expect 80 = .ok (.iadd, 1) := dk_96 (dk_at dksX4_expect_3 11 rfl rfl)
theorem dX4_expect_81 : decode cX4_expect 81 = .ok (.putfield 242, 3) := dk_181 0 242 (dk_at dksX4_expect_3 12 rfl rfl)
theorem dX4_expect_84 : decode cX4_expect 84 = .ok (.return_, 1) := dk_177 (dk_at dksX4_expect_3 15 rfl rfl)
abbrev cX4_giveTags : ByteArray := prog_19_method_40_code
def yX4_giveTags : MethodName := ⟨RX4, "giveTags", "(I)V"⟩
def dkwX4_giveTags_4 : List UInt8 := [167, 0, 4, 29, 79, 132, 2, 1, 167, 255, 157, 177]
abbrev dktX4_giveTags_4 : List UInt8 := dkwX4_giveTags_4 ++ []
def dkwX4_giveTags_3 : List UInt8 := [167, 0, 4, 3, 96, 79, 42, 180, 0, 55, 28, 29, 154, 0, 13, 42, 180, 0, 7, 16, 7, 46]
abbrev dktX4_giveTags_3 : List UInt8 := dkwX4_giveTags_3 ++ dktX4_giveTags_4
def dkwX4_giveTags_2 : List UInt8 := [167, 0, 4, 29, 62, 132, 4, 1, 167, 255, 219, 42, 180, 0, 7, 16, 7, 92, 46, 29, 154, 0, 7, 4]
abbrev dktX4_giveTags_2 : List UInt8 := dkwX4_giveTags_2 ++ dktX4_giveTags_3
def dkwX4_giveTags_1 : List UInt8 := [42, 180, 0, 76, 21, 4, 46, 42, 180, 0, 52, 28, 46, 160, 0, 13, 42, 180, 0, 79, 21, 4, 46]
abbrev dktX4_giveTags_1 : List UInt8 := dkwX4_giveTags_1 ++ dktX4_giveTags_2
def dkwX4_giveTags_0 : List UInt8 := [3, 61, 28, 42, 180, 0, 7, 16, 6, 46, 162, 0, 94, 3, 62, 3, 54, 4, 21, 4, 27, 162, 0, 37]
abbrev dktX4_giveTags_0 : List UInt8 := dkwX4_giveTags_0 ++ dktX4_giveTags_1
theorem dksX4_giveTags_0 : cX4_giveTags.data.toList.drop 0 = dktX4_giveTags_0 := by decide +kernel
theorem dksX4_giveTags_1 : cX4_giveTags.data.toList.drop 24 = dktX4_giveTags_1 := dk_seg dksX4_giveTags_0 24 rfl rfl
theorem dksX4_giveTags_2 : cX4_giveTags.data.toList.drop 47 = dktX4_giveTags_2 := dk_seg dksX4_giveTags_1 23 rfl rfl
theorem dksX4_giveTags_3 : cX4_giveTags.data.toList.drop 71 = dktX4_giveTags_3 := dk_seg dksX4_giveTags_2 24 rfl rfl
theorem dksX4_giveTags_4 : cX4_giveTags.data.toList.drop 93 = dktX4_giveTags_4 := dk_seg dksX4_giveTags_3 22 rfl rfl
theorem dX4_giveTags_0 : decode cX4_giveTags 0 = .ok (.iconst 0, 1) := dk_3 (dk_at dksX4_giveTags_0 0 rfl rfl)
theorem dX4_giveTags_1 : decode cX4_giveTags 1 = .ok (.istore_n 2, 1) := dk_61 (dk_at dksX4_giveTags_0 1 rfl rfl)
theorem dX4_giveTags_2 : decode cX4_giveTags 2 = .ok (.iload_n 2, 1) := dk_28 (dk_at dksX4_giveTags_0 2 rfl rfl)
theorem dX4_giveTags_3 : decode cX4_giveTags 3 = .ok (.aload_n 0, 1) := dk_42 (dk_at dksX4_giveTags_0 3 rfl rfl)
theorem dX4_giveTags_4 : decode cX4_giveTags 4 = .ok (.getfield 7, 3) := dk_180 0 7 (dk_at dksX4_giveTags_0 4 rfl rfl)
theorem dX4_giveTags_7 : decode cX4_giveTags 7 = .ok (.bipush 6, 2) := dk_16 6 (dk_at dksX4_giveTags_0 7 rfl rfl)
theorem dX4_giveTags_9 : decode cX4_giveTags 9 = .ok (.iaload, 1) := dk_46 (dk_at dksX4_giveTags_0 9 rfl rfl)
theorem dX4_giveTags_10 : decode cX4_giveTags 10 = .ok (.if_icmp .ge 94, 3) := dk_162 0 94 (dk_at dksX4_giveTags_0 10 rfl rfl)
theorem dX4_giveTags_13 : decode cX4_giveTags 13 = .ok (.iconst 0, 1) := dk_3 (dk_at dksX4_giveTags_0 13 rfl rfl)
theorem dX4_giveTags_14 : decode cX4_giveTags 14 = .ok (.istore_n 3, 1) := dk_62 (dk_at dksX4_giveTags_0 14 rfl rfl)
theorem dX4_giveTags_15 : decode cX4_giveTags 15 = .ok (.iconst 0, 1) := dk_3 (dk_at dksX4_giveTags_0 15 rfl rfl)
theorem dX4_giveTags_16 : decode cX4_giveTags 16 = .ok (.istore 4, 2) := dk_54 4 (dk_at dksX4_giveTags_0 16 rfl rfl)
theorem dX4_giveTags_18 : decode cX4_giveTags 18 = .ok (.iload 4, 2) := dk_21 4 (dk_at dksX4_giveTags_0 18 rfl rfl)
theorem dX4_giveTags_20 : decode cX4_giveTags 20 = .ok (.iload_n 1, 1) := dk_27 (dk_at dksX4_giveTags_0 20 rfl rfl)
theorem dX4_giveTags_21 : decode cX4_giveTags 21 = .ok (.if_icmp .ge 37, 3) := dk_162 0 37 (dk_at dksX4_giveTags_0 21 rfl rfl)
theorem dX4_giveTags_24 : decode cX4_giveTags 24 = .ok (.aload_n 0, 1) := dk_42 (dk_at dksX4_giveTags_1 0 rfl rfl)
theorem dX4_giveTags_25 : decode cX4_giveTags 25 = .ok (.getfield 76, 3) := dk_180 0 76 (dk_at dksX4_giveTags_1 1 rfl rfl)
theorem dX4_giveTags_28 : decode cX4_giveTags 28 = .ok (.iload 4, 2) := dk_21 4 (dk_at dksX4_giveTags_1 4 rfl rfl)
theorem dX4_giveTags_30 : decode cX4_giveTags 30 = .ok (.iaload, 1) := dk_46 (dk_at dksX4_giveTags_1 6 rfl rfl)
theorem dX4_giveTags_31 : decode cX4_giveTags 31 = .ok (.aload_n 0, 1) := dk_42 (dk_at dksX4_giveTags_1 7 rfl rfl)
theorem dX4_giveTags_32 : decode cX4_giveTags 32 = .ok (.getfield 52, 3) := dk_180 0 52 (dk_at dksX4_giveTags_1 8 rfl rfl)
theorem dX4_giveTags_35 : decode cX4_giveTags 35 = .ok (.iload_n 2, 1) := dk_28 (dk_at dksX4_giveTags_1 11 rfl rfl)
theorem dX4_giveTags_36 : decode cX4_giveTags 36 = .ok (.iaload, 1) := dk_46 (dk_at dksX4_giveTags_1 12 rfl rfl)
theorem dX4_giveTags_37 : decode cX4_giveTags 37 = .ok (.if_icmp .ne 13, 3) := dk_160 0 13 (dk_at dksX4_giveTags_1 13 rfl rfl)
theorem dX4_giveTags_40 : decode cX4_giveTags 40 = .ok (.aload_n 0, 1) := dk_42 (dk_at dksX4_giveTags_1 16 rfl rfl)
theorem dX4_giveTags_41 : decode cX4_giveTags 41 = .ok (.getfield 79, 3) := dk_180 0 79 (dk_at dksX4_giveTags_1 17 rfl rfl)
theorem dX4_giveTags_44 : decode cX4_giveTags 44 = .ok (.iload 4, 2) := dk_21 4 (dk_at dksX4_giveTags_1 20 rfl rfl)
theorem dX4_giveTags_46 : decode cX4_giveTags 46 = .ok (.iaload, 1) := dk_46 (dk_at dksX4_giveTags_1 22 rfl rfl)
theorem dX4_giveTags_47 : decode cX4_giveTags 47 = .ok (.goto 4, 3) := dk_167 0 4 (dk_at dksX4_giveTags_2 0 rfl rfl)
theorem dX4_giveTags_50 : decode cX4_giveTags 50 = .ok (.iload_n 3, 1) := dk_29 (dk_at dksX4_giveTags_2 3 rfl rfl)
theorem dX4_giveTags_51 : decode cX4_giveTags 51 = .ok (.istore_n 3, 1) := dk_62 (dk_at dksX4_giveTags_2 4 rfl rfl)
theorem dX4_giveTags_52 : decode cX4_giveTags 52 = .ok (.iinc 4 1, 3) := dk_132 4 1 (dk_at dksX4_giveTags_2 5 rfl rfl)
theorem dX4_giveTags_55 : decode cX4_giveTags 55 = .ok (.goto (-37), 3) := dk_167 255 219 (dk_at dksX4_giveTags_2 8 rfl rfl)
theorem dX4_giveTags_58 : decode cX4_giveTags 58 = .ok (.aload_n 0, 1) := dk_42 (dk_at dksX4_giveTags_2 11 rfl rfl)
theorem dX4_giveTags_59 : decode cX4_giveTags 59 = .ok (.getfield 7, 3) := dk_180 0 7 (dk_at dksX4_giveTags_2 12 rfl rfl)
theorem dX4_giveTags_62 : decode cX4_giveTags 62 = .ok (.bipush 7, 2) := dk_16 7 (dk_at dksX4_giveTags_2 15 rfl rfl)
theorem dX4_giveTags_64 : decode cX4_giveTags 64 = .ok (.dup2, 1) := dk_92 (dk_at dksX4_giveTags_2 17 rfl rfl)
theorem dX4_giveTags_65 : decode cX4_giveTags 65 = .ok (.iaload, 1) := dk_46 (dk_at dksX4_giveTags_2 18 rfl rfl)
theorem dX4_giveTags_66 : decode cX4_giveTags 66 = .ok (.iload_n 3, 1) := dk_29 (dk_at dksX4_giveTags_2 19 rfl rfl)
theorem dX4_giveTags_67 : decode cX4_giveTags 67 = .ok (.ifCond .ne 7, 3) := dk_154 0 7 (dk_at dksX4_giveTags_2 20 rfl rfl)
theorem dX4_giveTags_70 : decode cX4_giveTags 70 = .ok (.iconst 1, 1) := dk_4 (dk_at dksX4_giveTags_2 23 rfl rfl)
theorem dX4_giveTags_71 : decode cX4_giveTags 71 = .ok (.goto 4, 3) := dk_167 0 4 (dk_at dksX4_giveTags_3 0 rfl rfl)
theorem dX4_giveTags_74 : decode cX4_giveTags 74 = .ok (.iconst 0, 1) := dk_3 (dk_at dksX4_giveTags_3 3 rfl rfl)
theorem dX4_giveTags_75 : decode cX4_giveTags 75 = .ok (.iadd, 1) := dk_96 (dk_at dksX4_giveTags_3 4 rfl rfl)
theorem dX4_giveTags_76 : decode cX4_giveTags 76 = .ok (.iastore, 1) := dk_79 (dk_at dksX4_giveTags_3 5 rfl rfl)
theorem dX4_giveTags_77 : decode cX4_giveTags 77 = .ok (.aload_n 0, 1) := dk_42 (dk_at dksX4_giveTags_3 6 rfl rfl)
theorem dX4_giveTags_78 : decode cX4_giveTags 78 = .ok (.getfield 55, 3) := dk_180 0 55 (dk_at dksX4_giveTags_3 7 rfl rfl)
theorem dX4_giveTags_81 : decode cX4_giveTags 81 = .ok (.iload_n 2, 1) := dk_28 (dk_at dksX4_giveTags_3 10 rfl rfl)
theorem dX4_giveTags_82 : decode cX4_giveTags 82 = .ok (.iload_n 3, 1) := dk_29 (dk_at dksX4_giveTags_3 11 rfl rfl)
theorem dX4_giveTags_83 : decode cX4_giveTags 83 = .ok (.ifCond .ne 13, 3) := dk_154 0 13 (dk_at dksX4_giveTags_3 12 rfl rfl)
theorem dX4_giveTags_86 : decode cX4_giveTags 86 = .ok (.aload_n 0, 1) := dk_42 (dk_at dksX4_giveTags_3 15 rfl rfl)
theorem dX4_giveTags_87 : decode cX4_giveTags 87 = .ok (.getfield 7, 3) := dk_180 0 7 (dk_at dksX4_giveTags_3 16 rfl rfl)
theorem dX4_giveTags_90 : decode cX4_giveTags 90 = .ok (.bipush 7, 2) := dk_16 7 (dk_at dksX4_giveTags_3 19 rfl rfl)
theorem dX4_giveTags_92 : decode cX4_giveTags 92 = .ok (.iaload, 1) := dk_46 (dk_at dksX4_giveTags_3 21 rfl rfl)
theorem dX4_giveTags_93 : decode cX4_giveTags 93 = .ok (.goto 4, 3) := dk_167 0 4 (dk_at dksX4_giveTags_4 0 rfl rfl)
theorem dX4_giveTags_96 : decode cX4_giveTags 96 = .ok (.iload_n 3, 1) := dk_29 (dk_at dksX4_giveTags_4 3 rfl rfl)
theorem dX4_giveTags_97 : decode cX4_giveTags 97 = .ok (.iastore, 1) := dk_79 (dk_at dksX4_giveTags_4 4 rfl rfl)
theorem dX4_giveTags_98 : decode cX4_giveTags 98 = .ok (.iinc 2 1, 3) := dk_132 2 1 (dk_at dksX4_giveTags_4 5 rfl rfl)
theorem dX4_giveTags_101 : decode cX4_giveTags 101 = .ok (.goto (-99), 3) := dk_167 255 157 (dk_at dksX4_giveTags_4 8 rfl rfl)
theorem dX4_giveTags_104 : decode cX4_giveTags 104 = .ok (.return_, 1) := dk_177 (dk_at dksX4_giveTags_4 11 rfl rfl)
abbrev cX4_bringBack : ByteArray := prog_19_method_11_code
def yX4_bringBack : MethodName := ⟨RX4, "bringBack", "(I)V"⟩
def dkwX4_bringBack_14 : List UInt8 := [3, 16, 8, 184, 0, 144, 61, 177]
abbrev dktX4_bringBack_14 : List UInt8 := dkwX4_bringBack_14 ++ []
def dkwX4_bringBack_13 : List UInt8 := [42, 180, 0, 55, 3, 16, 60, 184, 0, 144, 61, 42, 180, 0, 70, 29, 17, 0, 248, 96, 42, 180, 0, 58]
abbrev dktX4_bringBack_13 : List UInt8 := dkwX4_bringBack_13 ++ dktX4_bringBack_14
def dkwX4_bringBack_12 : List UInt8 := [17, 0, 128, 96, 42, 180, 0, 52, 3, 16, 60, 184, 0, 144, 61, 42, 180, 0, 70, 29, 17, 0, 188, 96]
abbrev dktX4_bringBack_12 : List UInt8 := dkwX4_bringBack_12 ++ dktX4_bringBack_13
def dkwX4_bringBack_11 : List UInt8 := [180, 0, 70, 29, 16, 68, 96, 42, 180, 0, 49, 3, 16, 60, 184, 0, 144, 61, 42, 180, 0, 70, 29]
abbrev dktX4_bringBack_11 : List UInt8 := dkwX4_bringBack_11 ++ dktX4_bringBack_12
def dkwX4_bringBack_10 : List UInt8 := [184, 0, 144, 61, 42, 180, 0, 70, 29, 16, 8, 96, 42, 180, 0, 46, 3, 16, 60, 184, 0, 144, 61, 42]
abbrev dktX4_bringBack_10 : List UInt8 := dkwX4_bringBack_10 ++ dktX4_bringBack_11
def dkwX4_bringBack_9 : List UInt8 := [16, 16, 184, 0, 144, 61, 17, 1, 0, 27, 104, 62, 42, 180, 0, 70, 29, 42, 180, 0, 13, 3, 16, 8]
abbrev dktX4_bringBack_9 : List UInt8 := dkwX4_bringBack_9 ++ dktX4_bringBack_10
def dkwX4_bringBack_8 : List UInt8 := [180, 0, 40, 3, 16, 16, 184, 0, 144, 61, 42, 180, 0, 67, 29, 17, 2, 134, 96, 42, 180, 0, 43, 3]
abbrev dktX4_bringBack_8 : List UInt8 := dkwX4_bringBack_8 ++ dktX4_bringBack_9
def dkwX4_bringBack_7 : List UInt8 := [96, 42, 180, 0, 37, 3, 16, 16, 184, 0, 144, 61, 42, 180, 0, 67, 29, 17, 2, 117, 96, 42]
abbrev dktX4_bringBack_7 : List UInt8 := dkwX4_bringBack_7 ++ dktX4_bringBack_8
def dkwX4_bringBack_6 : List UInt8 := [17, 1, 50, 96, 42, 180, 0, 34, 3, 17, 1, 32, 184, 0, 144, 61, 42, 180, 0, 67, 29, 17, 2, 100]
abbrev dktX4_bringBack_6 : List UInt8 := dkwX4_bringBack_6 ++ dktX4_bringBack_7
def dkwX4_bringBack_5 : List UInt8 := [180, 0, 67, 29, 17, 0, 204, 96, 42, 180, 0, 31, 3, 16, 96, 184, 0, 144, 61, 42, 180, 0, 67, 29]
abbrev dktX4_bringBack_5 : List UInt8 := dkwX4_bringBack_5 ++ dktX4_bringBack_6
def dkwX4_bringBack_4 : List UInt8 := [184, 0, 144, 61, 42, 180, 0, 67, 29, 16, 102, 96, 42, 180, 0, 28, 3, 16, 96, 184, 0, 144, 61, 42]
abbrev dktX4_bringBack_4 : List UInt8 := dkwX4_bringBack_4 ++ dktX4_bringBack_5
def dkwX4_bringBack_3 : List UInt8 := [3, 16, 48, 184, 0, 144, 61, 42, 180, 0, 67, 29, 16, 85, 96, 42, 180, 0, 25, 3, 16, 16]
abbrev dktX4_bringBack_3 : List UInt8 := dkwX4_bringBack_3 ++ dktX4_bringBack_4
def dkwX4_bringBack_2 : List UInt8 := [96, 42, 180, 0, 19, 3, 16, 16, 184, 0, 144, 61, 42, 180, 0, 67, 29, 16, 34, 96, 42, 180, 0, 22]
abbrev dktX4_bringBack_2 : List UInt8 := dkwX4_bringBack_2 ++ dktX4_bringBack_3
def dkwX4_bringBack_1 : List UInt8 := [62, 42, 180, 0, 67, 29, 42, 180, 0, 16, 3, 16, 16, 184, 0, 144, 61, 42, 180, 0, 67, 29, 16, 17]
abbrev dktX4_bringBack_1 : List UInt8 := dkwX4_bringBack_1 ++ dktX4_bringBack_2
def dkwX4_bringBack_0 : List UInt8 := [42, 180, 0, 64, 16, 11, 27, 104, 42, 180, 0, 7, 3, 16, 11, 184, 0, 144, 61, 17, 2, 168, 27, 104]
abbrev dktX4_bringBack_0 : List UInt8 := dkwX4_bringBack_0 ++ dktX4_bringBack_1
theorem dksX4_bringBack_0 : cX4_bringBack.data.toList.drop 0 = dktX4_bringBack_0 := by decide +kernel
theorem dksX4_bringBack_1 : cX4_bringBack.data.toList.drop 24 = dktX4_bringBack_1 := dk_seg dksX4_bringBack_0 24 rfl rfl
theorem dksX4_bringBack_2 : cX4_bringBack.data.toList.drop 48 = dktX4_bringBack_2 := dk_seg dksX4_bringBack_1 24 rfl rfl
theorem dksX4_bringBack_3 : cX4_bringBack.data.toList.drop 72 = dktX4_bringBack_3 := dk_seg dksX4_bringBack_2 24 rfl rfl
theorem dksX4_bringBack_4 : cX4_bringBack.data.toList.drop 94 = dktX4_bringBack_4 := dk_seg dksX4_bringBack_3 22 rfl rfl
theorem dksX4_bringBack_5 : cX4_bringBack.data.toList.drop 118 = dktX4_bringBack_5 := dk_seg dksX4_bringBack_4 24 rfl rfl
theorem dksX4_bringBack_6 : cX4_bringBack.data.toList.drop 142 = dktX4_bringBack_6 := dk_seg dksX4_bringBack_5 24 rfl rfl
theorem dksX4_bringBack_7 : cX4_bringBack.data.toList.drop 166 = dktX4_bringBack_7 := dk_seg dksX4_bringBack_6 24 rfl rfl
theorem dksX4_bringBack_8 : cX4_bringBack.data.toList.drop 188 = dktX4_bringBack_8 := dk_seg dksX4_bringBack_7 22 rfl rfl
theorem dksX4_bringBack_9 : cX4_bringBack.data.toList.drop 212 = dktX4_bringBack_9 := dk_seg dksX4_bringBack_8 24 rfl rfl
theorem dksX4_bringBack_10 : cX4_bringBack.data.toList.drop 236 = dktX4_bringBack_10 := dk_seg dksX4_bringBack_9 24 rfl rfl
theorem dksX4_bringBack_11 : cX4_bringBack.data.toList.drop 260 = dktX4_bringBack_11 := dk_seg dksX4_bringBack_10 24 rfl rfl
theorem dksX4_bringBack_12 : cX4_bringBack.data.toList.drop 283 = dktX4_bringBack_12 := dk_seg dksX4_bringBack_11 23 rfl rfl
theorem dksX4_bringBack_13 : cX4_bringBack.data.toList.drop 307 = dktX4_bringBack_13 := dk_seg dksX4_bringBack_12 24 rfl rfl
theorem dksX4_bringBack_14 : cX4_bringBack.data.toList.drop 331 = dktX4_bringBack_14 := dk_seg dksX4_bringBack_13 24 rfl rfl
theorem dX4_bringBack_0 : decode cX4_bringBack 0 = .ok (.aload_n 0, 1) := dk_42 (dk_at dksX4_bringBack_0 0 rfl rfl)
theorem dX4_bringBack_1 : decode cX4_bringBack 1 = .ok (.getfield 64, 3) := dk_180 0 64 (dk_at dksX4_bringBack_0 1 rfl rfl)
theorem dX4_bringBack_4 : decode cX4_bringBack 4 = .ok (.bipush 11, 2) := dk_16 11 (dk_at dksX4_bringBack_0 4 rfl rfl)
theorem dX4_bringBack_6 : decode cX4_bringBack 6 = .ok (.iload_n 1, 1) := dk_27 (dk_at dksX4_bringBack_0 6 rfl rfl)
theorem dX4_bringBack_7 : decode cX4_bringBack 7 = .ok (.imul, 1) := dk_104 (dk_at dksX4_bringBack_0 7 rfl rfl)
theorem dX4_bringBack_8 : decode cX4_bringBack 8 = .ok (.aload_n 0, 1) := dk_42 (dk_at dksX4_bringBack_0 8 rfl rfl)
theorem dX4_bringBack_9 : decode cX4_bringBack 9 = .ok (.getfield 7, 3) := dk_180 0 7 (dk_at dksX4_bringBack_0 9 rfl rfl)
theorem dX4_bringBack_12 : decode cX4_bringBack 12 = .ok (.iconst 0, 1) := dk_3 (dk_at dksX4_bringBack_0 12 rfl rfl)
theorem dX4_bringBack_13 : decode cX4_bringBack 13 = .ok (.bipush 11, 2) := dk_16 11 (dk_at dksX4_bringBack_0 13 rfl rfl)
theorem dX4_bringBack_15 : decode cX4_bringBack 15 = .ok (.invokestatic 144, 3) := dk_184 0 144 (dk_at dksX4_bringBack_0 15 rfl rfl)
theorem dX4_bringBack_18 : decode cX4_bringBack 18 = .ok (.istore_n 2, 1) := dk_61 (dk_at dksX4_bringBack_0 18 rfl rfl)
theorem dX4_bringBack_19 : decode cX4_bringBack 19 = .ok (.sipush 680, 3) := dk_17 2 168 (dk_at dksX4_bringBack_0 19 rfl rfl)
theorem dX4_bringBack_22 : decode cX4_bringBack 22 = .ok (.iload_n 1, 1) := dk_27 (dk_at dksX4_bringBack_0 22 rfl rfl)
theorem dX4_bringBack_23 : decode cX4_bringBack 23 = .ok (.imul, 1) := dk_104 (dk_at dksX4_bringBack_0 23 rfl rfl)
theorem dX4_bringBack_24 : decode cX4_bringBack 24 = .ok (.istore_n 3, 1) := dk_62 (dk_at dksX4_bringBack_1 0 rfl rfl)
theorem dX4_bringBack_25 : decode cX4_bringBack 25 = .ok (.aload_n 0, 1) := dk_42 (dk_at dksX4_bringBack_1 1 rfl rfl)
theorem dX4_bringBack_26 : decode cX4_bringBack 26 = .ok (.getfield 67, 3) := dk_180 0 67 (dk_at dksX4_bringBack_1 2 rfl rfl)
theorem dX4_bringBack_29 : decode cX4_bringBack 29 = .ok (.iload_n 3, 1) := dk_29 (dk_at dksX4_bringBack_1 5 rfl rfl)
theorem dX4_bringBack_30 : decode cX4_bringBack 30 = .ok (.aload_n 0, 1) := dk_42 (dk_at dksX4_bringBack_1 6 rfl rfl)
theorem dX4_bringBack_31 : decode cX4_bringBack 31 = .ok (.getfield 16, 3) := dk_180 0 16 (dk_at dksX4_bringBack_1 7 rfl rfl)
theorem dX4_bringBack_34 : decode cX4_bringBack 34 = .ok (.iconst 0, 1) := dk_3 (dk_at dksX4_bringBack_1 10 rfl rfl)
theorem dX4_bringBack_35 : decode cX4_bringBack 35 = .ok (.bipush 16, 2) := dk_16 16 (dk_at dksX4_bringBack_1 11 rfl rfl)
theorem dX4_bringBack_37 : decode cX4_bringBack 37 = .ok (.invokestatic 144, 3) := dk_184 0 144 (dk_at dksX4_bringBack_1 13 rfl rfl)
theorem dX4_bringBack_40 : decode cX4_bringBack 40 = .ok (.istore_n 2, 1) := dk_61 (dk_at dksX4_bringBack_1 16 rfl rfl)
theorem dX4_bringBack_41 : decode cX4_bringBack 41 = .ok (.aload_n 0, 1) := dk_42 (dk_at dksX4_bringBack_1 17 rfl rfl)
theorem dX4_bringBack_42 : decode cX4_bringBack 42 = .ok (.getfield 67, 3) := dk_180 0 67 (dk_at dksX4_bringBack_1 18 rfl rfl)
theorem dX4_bringBack_45 : decode cX4_bringBack 45 = .ok (.iload_n 3, 1) := dk_29 (dk_at dksX4_bringBack_1 21 rfl rfl)
theorem dX4_bringBack_46 : decode cX4_bringBack 46 = .ok (.bipush 17, 2) := dk_16 17 (dk_at dksX4_bringBack_1 22 rfl rfl)
theorem dX4_bringBack_48 : decode cX4_bringBack 48 = .ok (.iadd, 1) := dk_96 (dk_at dksX4_bringBack_2 0 rfl rfl)
theorem dX4_bringBack_49 : decode cX4_bringBack 49 = .ok (.aload_n 0, 1) := dk_42 (dk_at dksX4_bringBack_2 1 rfl rfl)
theorem dX4_bringBack_50 : decode cX4_bringBack 50 = .ok (.getfield 19, 3) := dk_180 0 19 (dk_at dksX4_bringBack_2 2 rfl rfl)
theorem dX4_bringBack_53 : decode cX4_bringBack 53 = .ok (.iconst 0, 1) := dk_3 (dk_at dksX4_bringBack_2 5 rfl rfl)
theorem dX4_bringBack_54 : decode cX4_bringBack 54 = .ok (.bipush 16, 2) := dk_16 16 (dk_at dksX4_bringBack_2 6 rfl rfl)
theorem dX4_bringBack_56 : decode cX4_bringBack 56 = .ok (.invokestatic 144, 3) := dk_184 0 144 (dk_at dksX4_bringBack_2 8 rfl rfl)
theorem dX4_bringBack_59 : decode cX4_bringBack 59 = .ok (.istore_n 2, 1) := dk_61 (dk_at dksX4_bringBack_2 11 rfl rfl)
theorem dX4_bringBack_60 : decode cX4_bringBack 60 = .ok (.aload_n 0, 1) := dk_42 (dk_at dksX4_bringBack_2 12 rfl rfl)
theorem dX4_bringBack_61 : decode cX4_bringBack 61 = .ok (.getfield 67, 3) := dk_180 0 67 (dk_at dksX4_bringBack_2 13 rfl rfl)
theorem dX4_bringBack_64 : decode cX4_bringBack 64 = .ok (.iload_n 3, 1) := dk_29 (dk_at dksX4_bringBack_2 16 rfl rfl)
theorem dX4_bringBack_65 : decode cX4_bringBack 65 = .ok (.bipush 34, 2) := dk_16 34 (dk_at dksX4_bringBack_2 17 rfl rfl)
theorem dX4_bringBack_67 : decode cX4_bringBack 67 = .ok (.iadd, 1) := dk_96 (dk_at dksX4_bringBack_2 19 rfl rfl)
theorem dX4_bringBack_68 : decode cX4_bringBack 68 = .ok (.aload_n 0, 1) := dk_42 (dk_at dksX4_bringBack_2 20 rfl rfl)
theorem dX4_bringBack_69 : decode cX4_bringBack 69 = .ok (.getfield 22, 3) := dk_180 0 22 (dk_at dksX4_bringBack_2 21 rfl rfl)
theorem dX4_bringBack_72 : decode cX4_bringBack 72 = .ok (.iconst 0, 1) := dk_3 (dk_at dksX4_bringBack_3 0 rfl rfl)
theorem dX4_bringBack_73 : decode cX4_bringBack 73 = .ok (.bipush 48, 2) := dk_16 48 (dk_at dksX4_bringBack_3 1 rfl rfl)
theorem dX4_bringBack_75 : decode cX4_bringBack 75 = .ok (.invokestatic 144, 3) := dk_184 0 144 (dk_at dksX4_bringBack_3 3 rfl rfl)
theorem dX4_bringBack_78 : decode cX4_bringBack 78 = .ok (.istore_n 2, 1) := dk_61 (dk_at dksX4_bringBack_3 6 rfl rfl)
theorem dX4_bringBack_79 : decode cX4_bringBack 79 = .ok (.aload_n 0, 1) := dk_42 (dk_at dksX4_bringBack_3 7 rfl rfl)
theorem dX4_bringBack_80 : decode cX4_bringBack 80 = .ok (.getfield 67, 3) := dk_180 0 67 (dk_at dksX4_bringBack_3 8 rfl rfl)
theorem dX4_bringBack_83 : decode cX4_bringBack 83 = .ok (.iload_n 3, 1) := dk_29 (dk_at dksX4_bringBack_3 11 rfl rfl)
theorem dX4_bringBack_84 : decode cX4_bringBack 84 = .ok (.bipush 85, 2) := dk_16 85 (dk_at dksX4_bringBack_3 12 rfl rfl)
theorem dX4_bringBack_86 : decode cX4_bringBack 86 = .ok (.iadd, 1) := dk_96 (dk_at dksX4_bringBack_3 14 rfl rfl)
theorem dX4_bringBack_87 : decode cX4_bringBack 87 = .ok (.aload_n 0, 1) := dk_42 (dk_at dksX4_bringBack_3 15 rfl rfl)
theorem dX4_bringBack_88 : decode cX4_bringBack 88 = .ok (.getfield 25, 3) := dk_180 0 25 (dk_at dksX4_bringBack_3 16 rfl rfl)
theorem dX4_bringBack_91 : decode cX4_bringBack 91 = .ok (.iconst 0, 1) := dk_3 (dk_at dksX4_bringBack_3 19 rfl rfl)
theorem dX4_bringBack_92 : decode cX4_bringBack 92 = .ok (.bipush 16, 2) := dk_16 16 (dk_at dksX4_bringBack_3 20 rfl rfl)
theorem dX4_bringBack_94 : decode cX4_bringBack 94 = .ok (.invokestatic 144, 3) := dk_184 0 144 (dk_at dksX4_bringBack_4 0 rfl rfl)
theorem dX4_bringBack_97 : decode cX4_bringBack 97 = .ok (.istore_n 2, 1) := dk_61 (dk_at dksX4_bringBack_4 3 rfl rfl)
theorem dX4_bringBack_98 : decode cX4_bringBack 98 = .ok (.aload_n 0, 1) := dk_42 (dk_at dksX4_bringBack_4 4 rfl rfl)
theorem dX4_bringBack_99 : decode cX4_bringBack 99 = .ok (.getfield 67, 3) := dk_180 0 67 (dk_at dksX4_bringBack_4 5 rfl rfl)
theorem dX4_bringBack_102 : decode cX4_bringBack 102 = .ok (.iload_n 3, 1) := dk_29 (dk_at dksX4_bringBack_4 8 rfl rfl)
theorem dX4_bringBack_103 : decode cX4_bringBack 103 = .ok (.bipush 102, 2) := dk_16 102 (dk_at dksX4_bringBack_4 9 rfl rfl)
theorem dX4_bringBack_105 : decode cX4_bringBack 105 = .ok (.iadd, 1) := dk_96 (dk_at dksX4_bringBack_4 11 rfl rfl)
theorem dX4_bringBack_106 : decode cX4_bringBack 106 = .ok (.aload_n 0, 1) := dk_42 (dk_at dksX4_bringBack_4 12 rfl rfl)
theorem dX4_bringBack_107 : decode cX4_bringBack 107 = .ok (.getfield 28, 3) := dk_180 0 28 (dk_at dksX4_bringBack_4 13 rfl rfl)
theorem dX4_bringBack_110 : decode cX4_bringBack 110 = .ok (.iconst 0, 1) := dk_3 (dk_at dksX4_bringBack_4 16 rfl rfl)
theorem dX4_bringBack_111 : decode cX4_bringBack 111 = .ok (.bipush 96, 2) := dk_16 96 (dk_at dksX4_bringBack_4 17 rfl rfl)
theorem dX4_bringBack_113 : decode cX4_bringBack 113 = .ok (.invokestatic 144, 3) := dk_184 0 144 (dk_at dksX4_bringBack_4 19 rfl rfl)
theorem dX4_bringBack_116 : decode cX4_bringBack 116 = .ok (.istore_n 2, 1) := dk_61 (dk_at dksX4_bringBack_4 22 rfl rfl)
theorem dX4_bringBack_117 : decode cX4_bringBack 117 = .ok (.aload_n 0, 1) := dk_42 (dk_at dksX4_bringBack_4 23 rfl rfl)
theorem dX4_bringBack_118 : decode cX4_bringBack 118 = .ok (.getfield 67, 3) := dk_180 0 67 (dk_at dksX4_bringBack_5 0 rfl rfl)
theorem dX4_bringBack_121 : decode cX4_bringBack 121 = .ok (.iload_n 3, 1) := dk_29 (dk_at dksX4_bringBack_5 3 rfl rfl)
theorem dX4_bringBack_122 : decode cX4_bringBack 122 = .ok (.sipush 204, 3) := dk_17 0 204 (dk_at dksX4_bringBack_5 4 rfl rfl)
theorem dX4_bringBack_125 : decode cX4_bringBack 125 = .ok (.iadd, 1) := dk_96 (dk_at dksX4_bringBack_5 7 rfl rfl)
theorem dX4_bringBack_126 : decode cX4_bringBack 126 = .ok (.aload_n 0, 1) := dk_42 (dk_at dksX4_bringBack_5 8 rfl rfl)
theorem dX4_bringBack_127 : decode cX4_bringBack 127 = .ok (.getfield 31, 3) := dk_180 0 31 (dk_at dksX4_bringBack_5 9 rfl rfl)
theorem dX4_bringBack_130 : decode cX4_bringBack 130 = .ok (.iconst 0, 1) := dk_3 (dk_at dksX4_bringBack_5 12 rfl rfl)
theorem dX4_bringBack_131 : decode cX4_bringBack 131 = .ok (.bipush 96, 2) := dk_16 96 (dk_at dksX4_bringBack_5 13 rfl rfl)
theorem dX4_bringBack_133 : decode cX4_bringBack 133 = .ok (.invokestatic 144, 3) := dk_184 0 144 (dk_at dksX4_bringBack_5 15 rfl rfl)
theorem dX4_bringBack_136 : decode cX4_bringBack 136 = .ok (.istore_n 2, 1) := dk_61 (dk_at dksX4_bringBack_5 18 rfl rfl)
theorem dX4_bringBack_137 : decode cX4_bringBack 137 = .ok (.aload_n 0, 1) := dk_42 (dk_at dksX4_bringBack_5 19 rfl rfl)
theorem dX4_bringBack_138 : decode cX4_bringBack 138 = .ok (.getfield 67, 3) := dk_180 0 67 (dk_at dksX4_bringBack_5 20 rfl rfl)
theorem dX4_bringBack_141 : decode cX4_bringBack 141 = .ok (.iload_n 3, 1) := dk_29 (dk_at dksX4_bringBack_5 23 rfl rfl)
theorem dX4_bringBack_142 : decode cX4_bringBack 142 = .ok (.sipush 306, 3) := dk_17 1 50 (dk_at dksX4_bringBack_6 0 rfl rfl)
theorem dX4_bringBack_145 : decode cX4_bringBack 145 = .ok (.iadd, 1) := dk_96 (dk_at dksX4_bringBack_6 3 rfl rfl)
theorem dX4_bringBack_146 : decode cX4_bringBack 146 = .ok (.aload_n 0, 1) := dk_42 (dk_at dksX4_bringBack_6 4 rfl rfl)
theorem dX4_bringBack_147 : decode cX4_bringBack 147 = .ok (.getfield 34, 3) := dk_180 0 34 (dk_at dksX4_bringBack_6 5 rfl rfl)
theorem dX4_bringBack_150 : decode cX4_bringBack 150 = .ok (.iconst 0, 1) := dk_3 (dk_at dksX4_bringBack_6 8 rfl rfl)
theorem dX4_bringBack_151 : decode cX4_bringBack 151 = .ok (.sipush 288, 3) := dk_17 1 32 (dk_at dksX4_bringBack_6 9 rfl rfl)
theorem dX4_bringBack_154 : decode cX4_bringBack 154 = .ok (.invokestatic 144, 3) := dk_184 0 144 (dk_at dksX4_bringBack_6 12 rfl rfl)
theorem dX4_bringBack_157 : decode cX4_bringBack 157 = .ok (.istore_n 2, 1) := dk_61 (dk_at dksX4_bringBack_6 15 rfl rfl)
theorem dX4_bringBack_158 : decode cX4_bringBack 158 = .ok (.aload_n 0, 1) := dk_42 (dk_at dksX4_bringBack_6 16 rfl rfl)
theorem dX4_bringBack_159 : decode cX4_bringBack 159 = .ok (.getfield 67, 3) := dk_180 0 67 (dk_at dksX4_bringBack_6 17 rfl rfl)
theorem dX4_bringBack_162 : decode cX4_bringBack 162 = .ok (.iload_n 3, 1) := dk_29 (dk_at dksX4_bringBack_6 20 rfl rfl)
theorem dX4_bringBack_163 : decode cX4_bringBack 163 = .ok (.sipush 612, 3) := dk_17 2 100 (dk_at dksX4_bringBack_6 21 rfl rfl)
theorem dX4_bringBack_166 : decode cX4_bringBack 166 = .ok (.iadd, 1) := dk_96 (dk_at dksX4_bringBack_7 0 rfl rfl)
theorem dX4_bringBack_167 : decode cX4_bringBack 167 = .ok (.aload_n 0, 1) := dk_42 (dk_at dksX4_bringBack_7 1 rfl rfl)
theorem dX4_bringBack_168 : decode cX4_bringBack 168 = .ok (.getfield 37, 3) := dk_180 0 37 (dk_at dksX4_bringBack_7 2 rfl rfl)
theorem dX4_bringBack_171 : decode cX4_bringBack 171 = .ok (.iconst 0, 1) := dk_3 (dk_at dksX4_bringBack_7 5 rfl rfl)
theorem dX4_bringBack_172 : decode cX4_bringBack 172 = .ok (.bipush 16, 2) := dk_16 16 (dk_at dksX4_bringBack_7 6 rfl rfl)
theorem dX4_bringBack_174 : decode cX4_bringBack 174 = .ok (.invokestatic 144, 3) := dk_184 0 144 (dk_at dksX4_bringBack_7 8 rfl rfl)
theorem dX4_bringBack_177 : decode cX4_bringBack 177 = .ok (.istore_n 2, 1) := dk_61 (dk_at dksX4_bringBack_7 11 rfl rfl)
theorem dX4_bringBack_178 : decode cX4_bringBack 178 = .ok (.aload_n 0, 1) := dk_42 (dk_at dksX4_bringBack_7 12 rfl rfl)
theorem dX4_bringBack_179 : decode cX4_bringBack 179 = .ok (.getfield 67, 3) := dk_180 0 67 (dk_at dksX4_bringBack_7 13 rfl rfl)
theorem dX4_bringBack_182 : decode cX4_bringBack 182 = .ok (.iload_n 3, 1) := dk_29 (dk_at dksX4_bringBack_7 16 rfl rfl)
theorem dX4_bringBack_183 : decode cX4_bringBack 183 = .ok (.sipush 629, 3) := dk_17 2 117 (dk_at dksX4_bringBack_7 17 rfl rfl)
theorem dX4_bringBack_186 : decode cX4_bringBack 186 = .ok (.iadd, 1) := dk_96 (dk_at dksX4_bringBack_7 20 rfl rfl)
theorem dX4_bringBack_187 : decode cX4_bringBack 187 = .ok (.aload_n 0, 1) := dk_42 (dk_at dksX4_bringBack_7 21 rfl rfl)
theorem dX4_bringBack_188 : decode cX4_bringBack 188 = .ok (.getfield 40, 3) := dk_180 0 40 (dk_at dksX4_bringBack_8 0 rfl rfl)
theorem dX4_bringBack_191 : decode cX4_bringBack 191 = .ok (.iconst 0, 1) := dk_3 (dk_at dksX4_bringBack_8 3 rfl rfl)
theorem dX4_bringBack_192 : decode cX4_bringBack 192 = .ok (.bipush 16, 2) := dk_16 16 (dk_at dksX4_bringBack_8 4 rfl rfl)
theorem dX4_bringBack_194 : decode cX4_bringBack 194 = .ok (.invokestatic 144, 3) := dk_184 0 144 (dk_at dksX4_bringBack_8 6 rfl rfl)
theorem dX4_bringBack_197 : decode cX4_bringBack 197 = .ok (.istore_n 2, 1) := dk_61 (dk_at dksX4_bringBack_8 9 rfl rfl)
theorem dX4_bringBack_198 : decode cX4_bringBack 198 = .ok (.aload_n 0, 1) := dk_42 (dk_at dksX4_bringBack_8 10 rfl rfl)
theorem dX4_bringBack_199 : decode cX4_bringBack 199 = .ok (.getfield 67, 3) := dk_180 0 67 (dk_at dksX4_bringBack_8 11 rfl rfl)
theorem dX4_bringBack_202 : decode cX4_bringBack 202 = .ok (.iload_n 3, 1) := dk_29 (dk_at dksX4_bringBack_8 14 rfl rfl)
theorem dX4_bringBack_203 : decode cX4_bringBack 203 = .ok (.sipush 646, 3) := dk_17 2 134 (dk_at dksX4_bringBack_8 15 rfl rfl)
theorem dX4_bringBack_206 : decode cX4_bringBack 206 = .ok (.iadd, 1) := dk_96 (dk_at dksX4_bringBack_8 18 rfl rfl)
theorem dX4_bringBack_207 : decode cX4_bringBack 207 = .ok (.aload_n 0, 1) := dk_42 (dk_at dksX4_bringBack_8 19 rfl rfl)
theorem dX4_bringBack_208 : decode cX4_bringBack 208 = .ok (.getfield 43, 3) := dk_180 0 43 (dk_at dksX4_bringBack_8 20 rfl rfl)
theorem dX4_bringBack_211 : decode cX4_bringBack 211 = .ok (.iconst 0, 1) := dk_3 (dk_at dksX4_bringBack_8 23 rfl rfl)
theorem dX4_bringBack_212 : decode cX4_bringBack 212 = .ok (.bipush 16, 2) := dk_16 16 (dk_at dksX4_bringBack_9 0 rfl rfl)
theorem dX4_bringBack_214 : decode cX4_bringBack 214 = .ok (.invokestatic 144, 3) := dk_184 0 144 (dk_at dksX4_bringBack_9 2 rfl rfl)
theorem dX4_bringBack_217 : decode cX4_bringBack 217 = .ok (.istore_n 2, 1) := dk_61 (dk_at dksX4_bringBack_9 5 rfl rfl)
theorem dX4_bringBack_218 : decode cX4_bringBack 218 = .ok (.sipush 256, 3) := dk_17 1 0 (dk_at dksX4_bringBack_9 6 rfl rfl)
theorem dX4_bringBack_221 : decode cX4_bringBack 221 = .ok (.iload_n 1, 1) := dk_27 (dk_at dksX4_bringBack_9 9 rfl rfl)
theorem dX4_bringBack_222 : decode cX4_bringBack 222 = .ok (.imul, 1) := dk_104 (dk_at dksX4_bringBack_9 10 rfl rfl)
theorem dX4_bringBack_223 : decode cX4_bringBack 223 = .ok (.istore_n 3, 1) := dk_62 (dk_at dksX4_bringBack_9 11 rfl rfl)
theorem dX4_bringBack_224 : decode cX4_bringBack 224 = .ok (.aload_n 0, 1) := dk_42 (dk_at dksX4_bringBack_9 12 rfl rfl)
theorem dX4_bringBack_225 : decode cX4_bringBack 225 = .ok (.getfield 70, 3) := dk_180 0 70 (dk_at dksX4_bringBack_9 13 rfl rfl)
theorem dX4_bringBack_228 : decode cX4_bringBack 228 = .ok (.iload_n 3, 1) := dk_29 (dk_at dksX4_bringBack_9 16 rfl rfl)
theorem dX4_bringBack_229 : decode cX4_bringBack 229 = .ok (.aload_n 0, 1) := dk_42 (dk_at dksX4_bringBack_9 17 rfl rfl)
theorem dX4_bringBack_230 : decode cX4_bringBack 230 = .ok (.getfield 13, 3) := dk_180 0 13 (dk_at dksX4_bringBack_9 18 rfl rfl)
theorem dX4_bringBack_233 : decode cX4_bringBack 233 = .ok (.iconst 0, 1) := dk_3 (dk_at dksX4_bringBack_9 21 rfl rfl)
theorem dX4_bringBack_234 : decode cX4_bringBack 234 = .ok (.bipush 8, 2) := dk_16 8 (dk_at dksX4_bringBack_9 22 rfl rfl)
theorem dX4_bringBack_236 : decode cX4_bringBack 236 = .ok (.invokestatic 144, 3) := dk_184 0 144 (dk_at dksX4_bringBack_10 0 rfl rfl)
theorem dX4_bringBack_239 : decode cX4_bringBack 239 = .ok (.istore_n 2, 1) := dk_61 (dk_at dksX4_bringBack_10 3 rfl rfl)
theorem dX4_bringBack_240 : decode cX4_bringBack 240 = .ok (.aload_n 0, 1) := dk_42 (dk_at dksX4_bringBack_10 4 rfl rfl)
theorem dX4_bringBack_241 : decode cX4_bringBack 241 = .ok (.getfield 70, 3) := dk_180 0 70 (dk_at dksX4_bringBack_10 5 rfl rfl)
theorem dX4_bringBack_244 : decode cX4_bringBack 244 = .ok (.iload_n 3, 1) := dk_29 (dk_at dksX4_bringBack_10 8 rfl rfl)
theorem dX4_bringBack_245 : decode cX4_bringBack 245 = .ok (.bipush 8, 2) := dk_16 8 (dk_at dksX4_bringBack_10 9 rfl rfl)
theorem dX4_bringBack_247 : decode cX4_bringBack 247 = .ok (.iadd, 1) := dk_96 (dk_at dksX4_bringBack_10 11 rfl rfl)
theorem dX4_bringBack_248 : decode cX4_bringBack 248 = .ok (.aload_n 0, 1) := dk_42 (dk_at dksX4_bringBack_10 12 rfl rfl)
theorem dX4_bringBack_249 : decode cX4_bringBack 249 = .ok (.getfield 46, 3) := dk_180 0 46 (dk_at dksX4_bringBack_10 13 rfl rfl)
theorem dX4_bringBack_252 : decode cX4_bringBack 252 = .ok (.iconst 0, 1) := dk_3 (dk_at dksX4_bringBack_10 16 rfl rfl)
theorem dX4_bringBack_253 : decode cX4_bringBack 253 = .ok (.bipush 60, 2) := dk_16 60 (dk_at dksX4_bringBack_10 17 rfl rfl)
theorem dX4_bringBack_255 : decode cX4_bringBack 255 = .ok (.invokestatic 144, 3) := dk_184 0 144 (dk_at dksX4_bringBack_10 19 rfl rfl)
theorem dX4_bringBack_258 : decode cX4_bringBack 258 = .ok (.istore_n 2, 1) := dk_61 (dk_at dksX4_bringBack_10 22 rfl rfl)
theorem dX4_bringBack_259 : decode cX4_bringBack 259 = .ok (.aload_n 0, 1) := dk_42 (dk_at dksX4_bringBack_10 23 rfl rfl)
theorem dX4_bringBack_260 : decode cX4_bringBack 260 = .ok (.getfield 70, 3) := dk_180 0 70 (dk_at dksX4_bringBack_11 0 rfl rfl)
theorem dX4_bringBack_263 : decode cX4_bringBack 263 = .ok (.iload_n 3, 1) := dk_29 (dk_at dksX4_bringBack_11 3 rfl rfl)
theorem dX4_bringBack_264 : decode cX4_bringBack 264 = .ok (.bipush 68, 2) := dk_16 68 (dk_at dksX4_bringBack_11 4 rfl rfl)
theorem dX4_bringBack_266 : decode cX4_bringBack 266 = .ok (.iadd, 1) := dk_96 (dk_at dksX4_bringBack_11 6 rfl rfl)
theorem dX4_bringBack_267 : decode cX4_bringBack 267 = .ok (.aload_n 0, 1) := dk_42 (dk_at dksX4_bringBack_11 7 rfl rfl)
theorem dX4_bringBack_268 : decode cX4_bringBack 268 = .ok (.getfield 49, 3) := dk_180 0 49 (dk_at dksX4_bringBack_11 8 rfl rfl)
theorem dX4_bringBack_271 : decode cX4_bringBack 271 = .ok (.iconst 0, 1) := dk_3 (dk_at dksX4_bringBack_11 11 rfl rfl)
theorem dX4_bringBack_272 : decode cX4_bringBack 272 = .ok (.bipush 60, 2) := dk_16 60 (dk_at dksX4_bringBack_11 12 rfl rfl)
theorem dX4_bringBack_274 : decode cX4_bringBack 274 = .ok (.invokestatic 144, 3) := dk_184 0 144 (dk_at dksX4_bringBack_11 14 rfl rfl)
theorem dX4_bringBack_277 : decode cX4_bringBack 277 = .ok (.istore_n 2, 1) := dk_61 (dk_at dksX4_bringBack_11 17 rfl rfl)
theorem dX4_bringBack_278 : decode cX4_bringBack 278 = .ok (.aload_n 0, 1) := dk_42 (dk_at dksX4_bringBack_11 18 rfl rfl)
theorem dX4_bringBack_279 : decode cX4_bringBack 279 = .ok (.getfield 70, 3) := dk_180 0 70 (dk_at dksX4_bringBack_11 19 rfl rfl)
theorem dX4_bringBack_282 : decode cX4_bringBack 282 = .ok (.iload_n 3, 1) := dk_29 (dk_at dksX4_bringBack_11 22 rfl rfl)
theorem dX4_bringBack_283 : decode cX4_bringBack 283 = .ok (.sipush 128, 3) := dk_17 0 128 (dk_at dksX4_bringBack_12 0 rfl rfl)
theorem dX4_bringBack_286 : decode cX4_bringBack 286 = .ok (.iadd, 1) := dk_96 (dk_at dksX4_bringBack_12 3 rfl rfl)
theorem dX4_bringBack_287 : decode cX4_bringBack 287 = .ok (.aload_n 0, 1) := dk_42 (dk_at dksX4_bringBack_12 4 rfl rfl)
theorem dX4_bringBack_288 : decode cX4_bringBack 288 = .ok (.getfield 52, 3) := dk_180 0 52 (dk_at dksX4_bringBack_12 5 rfl rfl)
theorem dX4_bringBack_291 : decode cX4_bringBack 291 = .ok (.iconst 0, 1) := dk_3 (dk_at dksX4_bringBack_12 8 rfl rfl)
theorem dX4_bringBack_292 : decode cX4_bringBack 292 = .ok (.bipush 60, 2) := dk_16 60 (dk_at dksX4_bringBack_12 9 rfl rfl)
theorem dX4_bringBack_294 : decode cX4_bringBack 294 = .ok (.invokestatic 144, 3) := dk_184 0 144 (dk_at dksX4_bringBack_12 11 rfl rfl)
theorem dX4_bringBack_297 : decode cX4_bringBack 297 = .ok (.istore_n 2, 1) := dk_61 (dk_at dksX4_bringBack_12 14 rfl rfl)
theorem dX4_bringBack_298 : decode cX4_bringBack 298 = .ok (.aload_n 0, 1) := dk_42 (dk_at dksX4_bringBack_12 15 rfl rfl)
theorem dX4_bringBack_299 : decode cX4_bringBack 299 = .ok (.getfield 70, 3) := dk_180 0 70 (dk_at dksX4_bringBack_12 16 rfl rfl)
theorem dX4_bringBack_302 : decode cX4_bringBack 302 = .ok (.iload_n 3, 1) := dk_29 (dk_at dksX4_bringBack_12 19 rfl rfl)
theorem dX4_bringBack_303 : decode cX4_bringBack 303 = .ok (.sipush 188, 3) := dk_17 0 188 (dk_at dksX4_bringBack_12 20 rfl rfl)
theorem dX4_bringBack_306 : decode cX4_bringBack 306 = .ok (.iadd, 1) := dk_96 (dk_at dksX4_bringBack_12 23 rfl rfl)
theorem dX4_bringBack_307 : decode cX4_bringBack 307 = .ok (.aload_n 0, 1) := dk_42 (dk_at dksX4_bringBack_13 0 rfl rfl)
theorem dX4_bringBack_308 : decode cX4_bringBack 308 = .ok (.getfield 55, 3) := dk_180 0 55 (dk_at dksX4_bringBack_13 1 rfl rfl)
theorem dX4_bringBack_311 : decode cX4_bringBack 311 = .ok (.iconst 0, 1) := dk_3 (dk_at dksX4_bringBack_13 4 rfl rfl)
theorem dX4_bringBack_312 : decode cX4_bringBack 312 = .ok (.bipush 60, 2) := dk_16 60 (dk_at dksX4_bringBack_13 5 rfl rfl)
theorem dX4_bringBack_314 : decode cX4_bringBack 314 = .ok (.invokestatic 144, 3) := dk_184 0 144 (dk_at dksX4_bringBack_13 7 rfl rfl)
theorem dX4_bringBack_317 : decode cX4_bringBack 317 = .ok (.istore_n 2, 1) := dk_61 (dk_at dksX4_bringBack_13 10 rfl rfl)
theorem dX4_bringBack_318 : decode cX4_bringBack 318 = .ok (.aload_n 0, 1) := dk_42 (dk_at dksX4_bringBack_13 11 rfl rfl)
theorem dX4_bringBack_319 : decode cX4_bringBack 319 = .ok (.getfield 70, 3) := dk_180 0 70 (dk_at dksX4_bringBack_13 12 rfl rfl)
theorem dX4_bringBack_322 : decode cX4_bringBack 322 = .ok (.iload_n 3, 1) := dk_29 (dk_at dksX4_bringBack_13 15 rfl rfl)
theorem dX4_bringBack_323 : decode cX4_bringBack 323 = .ok (.sipush 248, 3) := dk_17 0 248 (dk_at dksX4_bringBack_13 16 rfl rfl)
theorem dX4_bringBack_326 : decode cX4_bringBack 326 = .ok (.iadd, 1) := dk_96 (dk_at dksX4_bringBack_13 19 rfl rfl)
theorem dX4_bringBack_327 : decode cX4_bringBack 327 = .ok (.aload_n 0, 1) := dk_42 (dk_at dksX4_bringBack_13 20 rfl rfl)
theorem dX4_bringBack_328 : decode cX4_bringBack 328 = .ok (.getfield 58, 3) := dk_180 0 58 (dk_at dksX4_bringBack_13 21 rfl rfl)
theorem dX4_bringBack_331 : decode cX4_bringBack 331 = .ok (.iconst 0, 1) := dk_3 (dk_at dksX4_bringBack_14 0 rfl rfl)
theorem dX4_bringBack_332 : decode cX4_bringBack 332 = .ok (.bipush 8, 2) := dk_16 8 (dk_at dksX4_bringBack_14 1 rfl rfl)
theorem dX4_bringBack_334 : decode cX4_bringBack 334 = .ok (.invokestatic 144, 3) := dk_184 0 144 (dk_at dksX4_bringBack_14 3 rfl rfl)
theorem dX4_bringBack_337 : decode cX4_bringBack 337 = .ok (.istore_n 2, 1) := dk_61 (dk_at dksX4_bringBack_14 6 rfl rfl)
theorem dX4_bringBack_338 : decode cX4_bringBack 338 = .ok (.return_, 1) := dk_177 (dk_at dksX4_bringBack_14 7 rfl rfl)
abbrev cX4_take : ByteArray := prog_19_method_47_code
def yX4_take : MethodName := ⟨RX4, "take", "(I)I"⟩
def dkwX4_take_2 : List UInt8 := [182, 1, 34, 42, 6, 182, 1, 25, 172]
abbrev dktX4_take_2 : List UInt8 := dkwX4_take_2 ++ []
def dkwX4_take_1 : List UInt8 := [6, 167, 0, 4, 3, 182, 1, 10, 154, 0, 5, 3, 172, 42, 6, 182, 1, 19, 42, 42, 27, 182, 1, 13]
abbrev dktX4_take_1 : List UInt8 := dkwX4_take_1 ++ dktX4_take_2
def dkwX4_take_0 : List UInt8 := [42, 27, 182, 1, 16, 61, 42, 28, 158, 0, 7, 28, 167, 0, 17, 42, 27, 182, 1, 13, 2, 160, 0, 7]
abbrev dktX4_take_0 : List UInt8 := dkwX4_take_0 ++ dktX4_take_1
theorem dksX4_take_0 : cX4_take.data.toList.drop 0 = dktX4_take_0 := by decide +kernel
theorem dksX4_take_1 : cX4_take.data.toList.drop 24 = dktX4_take_1 := dk_seg dksX4_take_0 24 rfl rfl
theorem dksX4_take_2 : cX4_take.data.toList.drop 48 = dktX4_take_2 := dk_seg dksX4_take_1 24 rfl rfl
theorem dX4_take_0 : decode cX4_take 0 = .ok (.aload_n 0, 1) := dk_42 (dk_at dksX4_take_0 0 rfl rfl)
theorem dX4_take_1 : decode cX4_take 1 = .ok (.iload_n 1, 1) := dk_27 (dk_at dksX4_take_0 1 rfl rfl)
theorem dX4_take_2 : decode cX4_take 2 = .ok (.invokevirtual 272, 3) := dk_182 1 16 (dk_at dksX4_take_0 2 rfl rfl)
theorem dX4_take_5 : decode cX4_take 5 = .ok (.istore_n 2, 1) := dk_61 (dk_at dksX4_take_0 5 rfl rfl)
theorem dX4_take_6 : decode cX4_take 6 = .ok (.aload_n 0, 1) := dk_42 (dk_at dksX4_take_0 6 rfl rfl)
theorem dX4_take_7 : decode cX4_take 7 = .ok (.iload_n 2, 1) := dk_28 (dk_at dksX4_take_0 7 rfl rfl)
theorem dX4_take_8 : decode cX4_take 8 = .ok (.ifCond .le 7, 3) := dk_158 0 7 (dk_at dksX4_take_0 8 rfl rfl)
theorem dX4_take_11 : decode cX4_take 11 = .ok (.iload_n 2, 1) := dk_28 (dk_at dksX4_take_0 11 rfl rfl)
theorem dX4_take_12 : decode cX4_take 12 = .ok (.goto 17, 3) := dk_167 0 17 (dk_at dksX4_take_0 12 rfl rfl)
theorem dX4_take_15 : decode cX4_take 15 = .ok (.aload_n 0, 1) := dk_42 (dk_at dksX4_take_0 15 rfl rfl)
theorem dX4_take_16 : decode cX4_take 16 = .ok (.iload_n 1, 1) := dk_27 (dk_at dksX4_take_0 16 rfl rfl)
theorem dX4_take_17 : decode cX4_take 17 = .ok (.invokevirtual 269, 3) := dk_182 1 13 (dk_at dksX4_take_0 17 rfl rfl)
theorem dX4_take_20 : decode cX4_take 20 = .ok (.iconst (-1), 1) := dk_2 (dk_at dksX4_take_0 20 rfl rfl)
theorem dX4_take_21 : decode cX4_take 21 = .ok (.if_icmp .ne 7, 3) := dk_160 0 7 (dk_at dksX4_take_0 21 rfl rfl)
theorem dX4_take_24 : decode cX4_take 24 = .ok (.iconst 3, 1) := dk_6 (dk_at dksX4_take_1 0 rfl rfl)
theorem dX4_take_25 : decode cX4_take 25 = .ok (.goto 4, 3) := dk_167 0 4 (dk_at dksX4_take_1 1 rfl rfl)
theorem dX4_take_28 : decode cX4_take 28 = .ok (.iconst 0, 1) := dk_3 (dk_at dksX4_take_1 4 rfl rfl)
theorem dX4_take_29 : decode cX4_take 29 = .ok (.invokevirtual 266, 3) := dk_182 1 10 (dk_at dksX4_take_1 5 rfl rfl)
theorem dX4_take_32 : decode cX4_take 32 = .ok (.ifCond .ne 5, 3) := dk_154 0 5 (dk_at dksX4_take_1 8 rfl rfl)
theorem dX4_take_35 : decode cX4_take 35 = .ok (.iconst 0, 1) := dk_3 (dk_at dksX4_take_1 11 rfl rfl)
theorem dX4_take_36 : decode cX4_take 36 = .ok (.ireturn, 1) := dk_172 (dk_at dksX4_take_1 12 rfl rfl)
theorem dX4_take_37 : decode cX4_take 37 = .ok (.aload_n 0, 1) := dk_42 (dk_at dksX4_take_1 13 rfl rfl)
theorem dX4_take_38 : decode cX4_take 38 = .ok (.iconst 3, 1) := dk_6 (dk_at dksX4_take_1 14 rfl rfl)
theorem dX4_take_39 : decode cX4_take 39 = .ok (.invokevirtual 275, 3) := dk_182 1 19 (dk_at dksX4_take_1 15 rfl rfl)
theorem dX4_take_42 : decode cX4_take 42 = .ok (.aload_n 0, 1) := dk_42 (dk_at dksX4_take_1 18 rfl rfl)
theorem dX4_take_43 : decode cX4_take 43 = .ok (.aload_n 0, 1) := dk_42 (dk_at dksX4_take_1 19 rfl rfl)
theorem dX4_take_44 : decode cX4_take 44 = .ok (.iload_n 1, 1) := dk_27 (dk_at dksX4_take_1 20 rfl rfl)
theorem dX4_take_45 : decode cX4_take 45 = .ok (.invokevirtual 269, 3) := dk_182 1 13 (dk_at dksX4_take_1 21 rfl rfl)
theorem dX4_take_48 : decode cX4_take 48 = .ok (.invokevirtual 290, 3) := dk_182 1 34 (dk_at dksX4_take_2 0 rfl rfl)
theorem dX4_take_51 : decode cX4_take 51 = .ok (.aload_n 0, 1) := dk_42 (dk_at dksX4_take_2 3 rfl rfl)
theorem dX4_take_52 : decode cX4_take 52 = .ok (.iconst 3, 1) := dk_6 (dk_at dksX4_take_2 4 rfl rfl)
theorem dX4_take_53 : decode cX4_take 53 = .ok (.invokevirtual 281, 3) := dk_182 1 25 (dk_at dksX4_take_2 5 rfl rfl)
theorem dX4_take_56 : decode cX4_take 56 = .ok (.ireturn, 1) := dk_172 (dk_at dksX4_take_2 8 rfl rfl)
abbrev cX4_takeFact : ByteArray := prog_19_method_44_code
def yX4_takeFact : MethodName := ⟨RX4, "takeFact", "(I)V"⟩
def dkwX4_takeFact_2 : List UInt8 := [96, 46, 79, 132, 2, 1, 167, 255, 215, 177]
abbrev dktX4_takeFact_2 : List UInt8 := dkwX4_takeFact_2 ++ []
def dkwX4_takeFact_1 : List UInt8 := [180, 0, 46, 28, 42, 180, 0, 46, 28, 4, 96, 46, 79, 42, 180, 0, 49, 28, 42, 180, 0, 49, 28, 4]
abbrev dktX4_takeFact_1 : List UInt8 := dkwX4_takeFact_1 ++ dktX4_takeFact_2
def dkwX4_takeFact_0 : List UInt8 := [42, 180, 0, 7, 8, 92, 46, 4, 100, 79, 27, 61, 28, 42, 180, 0, 7, 8, 46, 162, 0, 37, 42]
abbrev dktX4_takeFact_0 : List UInt8 := dkwX4_takeFact_0 ++ dktX4_takeFact_1
theorem dksX4_takeFact_0 : cX4_takeFact.data.toList.drop 0 = dktX4_takeFact_0 := by decide +kernel
theorem dksX4_takeFact_1 : cX4_takeFact.data.toList.drop 23 = dktX4_takeFact_1 := dk_seg dksX4_takeFact_0 23 rfl rfl
theorem dksX4_takeFact_2 : cX4_takeFact.data.toList.drop 47 = dktX4_takeFact_2 := dk_seg dksX4_takeFact_1 24 rfl rfl
theorem dX4_takeFact_0 : decode cX4_takeFact 0 = .ok (.aload_n 0, 1) := dk_42 (dk_at dksX4_takeFact_0 0 rfl rfl)
theorem dX4_takeFact_1 : decode cX4_takeFact 1 = .ok (.getfield 7, 3) := dk_180 0 7 (dk_at dksX4_takeFact_0 1 rfl rfl)
theorem dX4_takeFact_4 : decode cX4_takeFact 4 = .ok (.iconst 5, 1) := dk_8 (dk_at dksX4_takeFact_0 4 rfl rfl)
theorem dX4_takeFact_5 : decode cX4_takeFact 5 = .ok (.dup2, 1) := dk_92 (dk_at dksX4_takeFact_0 5 rfl rfl)
theorem dX4_takeFact_6 : decode cX4_takeFact 6 = .ok (.iaload, 1) := dk_46 (dk_at dksX4_takeFact_0 6 rfl rfl)
theorem dX4_takeFact_7 : decode cX4_takeFact 7 = .ok (.iconst 1, 1) := dk_4 (dk_at dksX4_takeFact_0 7 rfl rfl)
theorem dX4_takeFact_8 : decode cX4_takeFact 8 = .ok (.isub, 1) := dk_100 (dk_at dksX4_takeFact_0 8 rfl rfl)
theorem dX4_takeFact_9 : decode cX4_takeFact 9 = .ok (.iastore, 1) := dk_79 (dk_at dksX4_takeFact_0 9 rfl rfl)
theorem dX4_takeFact_10 : decode cX4_takeFact 10 = .ok (.iload_n 1, 1) := dk_27 (dk_at dksX4_takeFact_0 10 rfl rfl)
theorem dX4_takeFact_11 : decode cX4_takeFact 11 = .ok (.istore_n 2, 1) := dk_61 (dk_at dksX4_takeFact_0 11 rfl rfl)
theorem dX4_takeFact_12 : decode cX4_takeFact 12 = .ok (.iload_n 2, 1) := dk_28 (dk_at dksX4_takeFact_0 12 rfl rfl)
theorem dX4_takeFact_13 : decode cX4_takeFact 13 = .ok (.aload_n 0, 1) := dk_42 (dk_at dksX4_takeFact_0 13 rfl rfl)
theorem dX4_takeFact_14 : decode cX4_takeFact 14 = .ok (.getfield 7, 3) := dk_180 0 7 (dk_at dksX4_takeFact_0 14 rfl rfl)
theorem dX4_takeFact_17 : decode cX4_takeFact 17 = .ok (.iconst 5, 1) := dk_8 (dk_at dksX4_takeFact_0 17 rfl rfl)
theorem dX4_takeFact_18 : decode cX4_takeFact 18 = .ok (.iaload, 1) := dk_46 (dk_at dksX4_takeFact_0 18 rfl rfl)
theorem dX4_takeFact_19 : decode cX4_takeFact 19 = .ok (.if_icmp .ge 37, 3) := dk_162 0 37 (dk_at dksX4_takeFact_0 19 rfl rfl)
theorem dX4_takeFact_22 : decode cX4_takeFact 22 = .ok (.aload_n 0, 1) := dk_42 (dk_at dksX4_takeFact_0 22 rfl rfl)
theorem dX4_takeFact_23 : decode cX4_takeFact 23 = .ok (.getfield 46, 3) := dk_180 0 46 (dk_at dksX4_takeFact_1 0 rfl rfl)
theorem dX4_takeFact_26 : decode cX4_takeFact 26 = .ok (.iload_n 2, 1) := dk_28 (dk_at dksX4_takeFact_1 3 rfl rfl)
theorem dX4_takeFact_27 : decode cX4_takeFact 27 = .ok (.aload_n 0, 1) := dk_42 (dk_at dksX4_takeFact_1 4 rfl rfl)
theorem dX4_takeFact_28 : decode cX4_takeFact 28 = .ok (.getfield 46, 3) := dk_180 0 46 (dk_at dksX4_takeFact_1 5 rfl rfl)
theorem dX4_takeFact_31 : decode cX4_takeFact 31 = .ok (.iload_n 2, 1) := dk_28 (dk_at dksX4_takeFact_1 8 rfl rfl)
theorem dX4_takeFact_32 : decode cX4_takeFact 32 = .ok (.iconst 1, 1) := dk_4 (dk_at dksX4_takeFact_1 9 rfl rfl)
theorem dX4_takeFact_33 : decode cX4_takeFact 33 = .ok (.iadd, 1) := dk_96 (dk_at dksX4_takeFact_1 10 rfl rfl)
theorem dX4_takeFact_34 : decode cX4_takeFact 34 = .ok (.iaload, 1) := dk_46 (dk_at dksX4_takeFact_1 11 rfl rfl)
theorem dX4_takeFact_35 : decode cX4_takeFact 35 = .ok (.iastore, 1) := dk_79 (dk_at dksX4_takeFact_1 12 rfl rfl)
theorem dX4_takeFact_36 : decode cX4_takeFact 36 = .ok (.aload_n 0, 1) := dk_42 (dk_at dksX4_takeFact_1 13 rfl rfl)
theorem dX4_takeFact_37 : decode cX4_takeFact 37 = .ok (.getfield 49, 3) := dk_180 0 49 (dk_at dksX4_takeFact_1 14 rfl rfl)
theorem dX4_takeFact_40 : decode cX4_takeFact 40 = .ok (.iload_n 2, 1) := dk_28 (dk_at dksX4_takeFact_1 17 rfl rfl)
theorem dX4_takeFact_41 : decode cX4_takeFact 41 = .ok (.aload_n 0, 1) := dk_42 (dk_at dksX4_takeFact_1 18 rfl rfl)
theorem dX4_takeFact_42 : decode cX4_takeFact 42 = .ok (.getfield 49, 3) := dk_180 0 49 (dk_at dksX4_takeFact_1 19 rfl rfl)
theorem dX4_takeFact_45 : decode cX4_takeFact 45 = .ok (.iload_n 2, 1) := dk_28 (dk_at dksX4_takeFact_1 22 rfl rfl)
theorem dX4_takeFact_46 : decode cX4_takeFact 46 = .ok (.iconst 1, 1) := dk_4 (dk_at dksX4_takeFact_1 23 rfl rfl)
theorem dX4_takeFact_47 : decode cX4_takeFact 47 = .ok (.iadd, 1) := dk_96 (dk_at dksX4_takeFact_2 0 rfl rfl)
theorem dX4_takeFact_48 : decode cX4_takeFact 48 = .ok (.iaload, 1) := dk_46 (dk_at dksX4_takeFact_2 1 rfl rfl)
theorem dX4_takeFact_49 : decode cX4_takeFact 49 = .ok (.iastore, 1) := dk_79 (dk_at dksX4_takeFact_2 2 rfl rfl)
theorem dX4_takeFact_50 : decode cX4_takeFact 50 = .ok (.iinc 2 1, 3) := dk_132 2 1 (dk_at dksX4_takeFact_2 3 rfl rfl)
theorem dX4_takeFact_53 : decode cX4_takeFact 53 = .ok (.goto (-41), 3) := dk_167 255 215 (dk_at dksX4_takeFact_2 6 rfl rfl)
theorem dX4_takeFact_56 : decode cX4_takeFact 56 = .ok (.return_, 1) := dk_177 (dk_at dksX4_takeFact_2 9 rfl rfl)
abbrev cX4_stands : ByteArray := prog_19_method_48_code
def yX4_stands : MethodName := ⟨RX4, "stands", "(I)Z"⟩
def dkwX4_stands_0 : List UInt8 := [42, 27, 182, 1, 37, 172]
abbrev dktX4_stands_0 : List UInt8 := dkwX4_stands_0 ++ []
theorem dksX4_stands_0 : cX4_stands.data.toList.drop 0 = dktX4_stands_0 := by decide +kernel
theorem dX4_stands_0 : decode cX4_stands 0 = .ok (.aload_n 0, 1) := dk_42 (dk_at dksX4_stands_0 0 rfl rfl)
theorem dX4_stands_1 : decode cX4_stands 1 = .ok (.iload_n 1, 1) := dk_27 (dk_at dksX4_stands_0 1 rfl rfl)
theorem dX4_stands_2 : decode cX4_stands 2 = .ok (.invokevirtual 293, 3) := dk_182 1 37 (dk_at dksX4_stands_0 2 rfl rfl)
theorem dX4_stands_5 : decode cX4_stands 5 = .ok (.ireturn, 1) := dk_172 (dk_at dksX4_stands_0 5 rfl rfl)
abbrev cX4_standsByRounds : ByteArray := prog_19_method_49_code
def yX4_standsByRounds : MethodName := ⟨RX4, "standsByRounds", "(I)Z"⟩
def dkwX4_standsByRounds_1 : List UInt8 := [167, 0, 4, 3, 172]
abbrev dktX4_standsByRounds_1 : List UInt8 := dkwX4_standsByRounds_1 ++ []
def dkwX4_standsByRounds_0 : List UInt8 := [42, 42, 27, 182, 1, 16, 182, 1, 10, 153, 0, 16, 42, 27, 182, 0, 192, 2, 159, 0, 7, 4]
abbrev dktX4_standsByRounds_0 : List UInt8 := dkwX4_standsByRounds_0 ++ dktX4_standsByRounds_1
theorem dksX4_standsByRounds_0 : cX4_standsByRounds.data.toList.drop 0 = dktX4_standsByRounds_0 := by decide +kernel
theorem dksX4_standsByRounds_1 : cX4_standsByRounds.data.toList.drop 22 = dktX4_standsByRounds_1 := dk_seg dksX4_standsByRounds_0 22 rfl rfl
theorem dX4_standsByRounds_0 : decode cX4_standsByRounds 0 = .ok (.aload_n 0, 1) := dk_42 (dk_at dksX4_standsByRounds_0 0 rfl rfl)
theorem dX4_standsByRounds_1 : decode cX4_standsByRounds 1 = .ok (.aload_n 0, 1) := dk_42 (dk_at dksX4_standsByRounds_0 1 rfl rfl)
theorem dX4_standsByRounds_2 : decode cX4_standsByRounds 2 = .ok (.iload_n 1, 1) := dk_27 (dk_at dksX4_standsByRounds_0 2 rfl rfl)
theorem dX4_standsByRounds_3 : decode cX4_standsByRounds 3 = .ok (.invokevirtual 272, 3) := dk_182 1 16 (dk_at dksX4_standsByRounds_0 3 rfl rfl)
theorem dX4_standsByRounds_6 : decode cX4_standsByRounds 6 = .ok (.invokevirtual 266, 3) := dk_182 1 10 (dk_at dksX4_standsByRounds_0 6 rfl rfl)
theorem dX4_standsByRounds_9 : decode cX4_standsByRounds 9 = .ok (.ifCond .eq 16, 3) := dk_153 0 16 (dk_at dksX4_standsByRounds_0 9 rfl rfl)
theorem dX4_standsByRounds_12 : decode cX4_standsByRounds 12 = .ok (.aload_n 0, 1) := dk_42 (dk_at dksX4_standsByRounds_0 12 rfl rfl)
theorem dX4_standsByRounds_13 : decode cX4_standsByRounds 13 = .ok (.iload_n 1, 1) := dk_27 (dk_at dksX4_standsByRounds_0 13 rfl rfl)
theorem dX4_standsByRounds_14 : decode cX4_standsByRounds 14 = .ok (.invokevirtual 192, 3) := dk_182 0 192 (dk_at dksX4_standsByRounds_0 14 rfl rfl)
theorem dX4_standsByRounds_17 : decode cX4_standsByRounds 17 = .ok (.iconst (-1), 1) := dk_2 (dk_at dksX4_standsByRounds_0 17 rfl rfl)
theorem dX4_standsByRounds_18 : decode cX4_standsByRounds 18 = .ok (.if_icmp .eq 7, 3) := dk_159 0 7 (dk_at dksX4_standsByRounds_0 18 rfl rfl)
theorem dX4_standsByRounds_21 : decode cX4_standsByRounds 21 = .ok (.iconst 1, 1) := dk_4 (dk_at dksX4_standsByRounds_0 21 rfl rfl)
theorem dX4_standsByRounds_22 : decode cX4_standsByRounds 22 = .ok (.goto 4, 3) := dk_167 0 4 (dk_at dksX4_standsByRounds_1 0 rfl rfl)
theorem dX4_standsByRounds_25 : decode cX4_standsByRounds 25 = .ok (.iconst 0, 1) := dk_3 (dk_at dksX4_standsByRounds_1 3 rfl rfl)
theorem dX4_standsByRounds_26 : decode cX4_standsByRounds 26 = .ok (.ireturn, 1) := dk_172 (dk_at dksX4_standsByRounds_1 4 rfl rfl)
abbrev cX4_endOf : ByteArray := prog_19_method_50_code
def yX4_endOf : MethodName := ⟨RX4, "endOf", "(I)I"⟩
def dkwX4_endOf_1 : List UInt8 := [160, 0, 7, 2, 167, 0, 9, 42, 180, 0, 49, 28, 46, 172]
abbrev dktX4_endOf_1 : List UInt8 := dkwX4_endOf_1 ++ []
def dkwX4_endOf_0 : List UInt8 := [42, 42, 27, 182, 1, 16, 182, 1, 10, 154, 0, 5, 3, 172, 42, 27, 182, 1, 13, 61, 28, 2]
abbrev dktX4_endOf_0 : List UInt8 := dkwX4_endOf_0 ++ dktX4_endOf_1
theorem dksX4_endOf_0 : cX4_endOf.data.toList.drop 0 = dktX4_endOf_0 := by decide +kernel
theorem dksX4_endOf_1 : cX4_endOf.data.toList.drop 22 = dktX4_endOf_1 := dk_seg dksX4_endOf_0 22 rfl rfl
theorem dX4_endOf_0 : decode cX4_endOf 0 = .ok (.aload_n 0, 1) := dk_42 (dk_at dksX4_endOf_0 0 rfl rfl)
theorem dX4_endOf_1 : decode cX4_endOf 1 = .ok (.aload_n 0, 1) := dk_42 (dk_at dksX4_endOf_0 1 rfl rfl)
theorem dX4_endOf_2 : decode cX4_endOf 2 = .ok (.iload_n 1, 1) := dk_27 (dk_at dksX4_endOf_0 2 rfl rfl)
theorem dX4_endOf_3 : decode cX4_endOf 3 = .ok (.invokevirtual 272, 3) := dk_182 1 16 (dk_at dksX4_endOf_0 3 rfl rfl)
theorem dX4_endOf_6 : decode cX4_endOf 6 = .ok (.invokevirtual 266, 3) := dk_182 1 10 (dk_at dksX4_endOf_0 6 rfl rfl)
theorem dX4_endOf_9 : decode cX4_endOf 9 = .ok (.ifCond .ne 5, 3) := dk_154 0 5 (dk_at dksX4_endOf_0 9 rfl rfl)
theorem dX4_endOf_12 : decode cX4_endOf 12 = .ok (.iconst 0, 1) := dk_3 (dk_at dksX4_endOf_0 12 rfl rfl)
theorem dX4_endOf_13 : decode cX4_endOf 13 = .ok (.ireturn, 1) := dk_172 (dk_at dksX4_endOf_0 13 rfl rfl)
theorem dX4_endOf_14 : decode cX4_endOf 14 = .ok (.aload_n 0, 1) := dk_42 (dk_at dksX4_endOf_0 14 rfl rfl)
theorem dX4_endOf_15 : decode cX4_endOf 15 = .ok (.iload_n 1, 1) := dk_27 (dk_at dksX4_endOf_0 15 rfl rfl)
theorem dX4_endOf_16 : decode cX4_endOf 16 = .ok (.invokevirtual 269, 3) := dk_182 1 13 (dk_at dksX4_endOf_0 16 rfl rfl)
theorem dX4_endOf_19 : decode cX4_endOf 19 = .ok (.istore_n 2, 1) := dk_61 (dk_at dksX4_endOf_0 19 rfl rfl)
theorem dX4_endOf_20 : decode cX4_endOf 20 = .ok (.iload_n 2, 1) := dk_28 (dk_at dksX4_endOf_0 20 rfl rfl)
theorem dX4_endOf_21 : decode cX4_endOf 21 = .ok (.iconst (-1), 1) := dk_2 (dk_at dksX4_endOf_0 21 rfl rfl)
theorem dX4_endOf_22 : decode cX4_endOf 22 = .ok (.if_icmp .ne 7, 3) := dk_160 0 7 (dk_at dksX4_endOf_1 0 rfl rfl)
theorem dX4_endOf_25 : decode cX4_endOf 25 = .ok (.iconst (-1), 1) := dk_2 (dk_at dksX4_endOf_1 3 rfl rfl)
theorem dX4_endOf_26 : decode cX4_endOf 26 = .ok (.goto 9, 3) := dk_167 0 9 (dk_at dksX4_endOf_1 4 rfl rfl)
theorem dX4_endOf_29 : decode cX4_endOf 29 = .ok (.aload_n 0, 1) := dk_42 (dk_at dksX4_endOf_1 7 rfl rfl)
theorem dX4_endOf_30 : decode cX4_endOf 30 = .ok (.getfield 49, 3) := dk_180 0 49 (dk_at dksX4_endOf_1 8 rfl rfl)
theorem dX4_endOf_33 : decode cX4_endOf 33 = .ok (.iload_n 2, 1) := dk_28 (dk_at dksX4_endOf_1 11 rfl rfl)
theorem dX4_endOf_34 : decode cX4_endOf 34 = .ok (.iaload, 1) := dk_46 (dk_at dksX4_endOf_1 12 rfl rfl)
theorem dX4_endOf_35 : decode cX4_endOf 35 = .ok (.ireturn, 1) := dk_172 (dk_at dksX4_endOf_1 13 rfl rfl)
abbrev cX4_tag : ByteArray := prog_19_method_51_code
def yX4_tag : MethodName := ⟨RX4, "tag", "(I)I"⟩
def dkwX4_tag_1 : List UInt8 := [160, 0, 7, 2, 167, 0, 9, 42, 180, 0, 55, 28, 46, 172]
abbrev dktX4_tag_1 : List UInt8 := dkwX4_tag_1 ++ []
def dkwX4_tag_0 : List UInt8 := [42, 42, 27, 182, 1, 16, 182, 1, 10, 154, 0, 5, 3, 172, 42, 27, 182, 0, 192, 61, 28, 2]
abbrev dktX4_tag_0 : List UInt8 := dkwX4_tag_0 ++ dktX4_tag_1
theorem dksX4_tag_0 : cX4_tag.data.toList.drop 0 = dktX4_tag_0 := by decide +kernel
theorem dksX4_tag_1 : cX4_tag.data.toList.drop 22 = dktX4_tag_1 := dk_seg dksX4_tag_0 22 rfl rfl
theorem dX4_tag_0 : decode cX4_tag 0 = .ok (.aload_n 0, 1) := dk_42 (dk_at dksX4_tag_0 0 rfl rfl)
theorem dX4_tag_1 : decode cX4_tag 1 = .ok (.aload_n 0, 1) := dk_42 (dk_at dksX4_tag_0 1 rfl rfl)
theorem dX4_tag_2 : decode cX4_tag 2 = .ok (.iload_n 1, 1) := dk_27 (dk_at dksX4_tag_0 2 rfl rfl)
theorem dX4_tag_3 : decode cX4_tag 3 = .ok (.invokevirtual 272, 3) := dk_182 1 16 (dk_at dksX4_tag_0 3 rfl rfl)
theorem dX4_tag_6 : decode cX4_tag 6 = .ok (.invokevirtual 266, 3) := dk_182 1 10 (dk_at dksX4_tag_0 6 rfl rfl)
theorem dX4_tag_9 : decode cX4_tag 9 = .ok (.ifCond .ne 5, 3) := dk_154 0 5 (dk_at dksX4_tag_0 9 rfl rfl)
theorem dX4_tag_12 : decode cX4_tag 12 = .ok (.iconst 0, 1) := dk_3 (dk_at dksX4_tag_0 12 rfl rfl)
theorem dX4_tag_13 : decode cX4_tag 13 = .ok (.ireturn, 1) := dk_172 (dk_at dksX4_tag_0 13 rfl rfl)
theorem dX4_tag_14 : decode cX4_tag 14 = .ok (.aload_n 0, 1) := dk_42 (dk_at dksX4_tag_0 14 rfl rfl)
theorem dX4_tag_15 : decode cX4_tag 15 = .ok (.iload_n 1, 1) := dk_27 (dk_at dksX4_tag_0 15 rfl rfl)
theorem dX4_tag_16 : decode cX4_tag 16 = .ok (.invokevirtual 192, 3) := dk_182 0 192 (dk_at dksX4_tag_0 16 rfl rfl)
theorem dX4_tag_19 : decode cX4_tag 19 = .ok (.istore_n 2, 1) := dk_61 (dk_at dksX4_tag_0 19 rfl rfl)
theorem dX4_tag_20 : decode cX4_tag 20 = .ok (.iload_n 2, 1) := dk_28 (dk_at dksX4_tag_0 20 rfl rfl)
theorem dX4_tag_21 : decode cX4_tag 21 = .ok (.iconst (-1), 1) := dk_2 (dk_at dksX4_tag_0 21 rfl rfl)
theorem dX4_tag_22 : decode cX4_tag 22 = .ok (.if_icmp .ne 7, 3) := dk_160 0 7 (dk_at dksX4_tag_1 0 rfl rfl)
theorem dX4_tag_25 : decode cX4_tag 25 = .ok (.iconst (-1), 1) := dk_2 (dk_at dksX4_tag_1 3 rfl rfl)
theorem dX4_tag_26 : decode cX4_tag 26 = .ok (.goto 9, 3) := dk_167 0 9 (dk_at dksX4_tag_1 4 rfl rfl)
theorem dX4_tag_29 : decode cX4_tag 29 = .ok (.aload_n 0, 1) := dk_42 (dk_at dksX4_tag_1 7 rfl rfl)
theorem dX4_tag_30 : decode cX4_tag 30 = .ok (.getfield 55, 3) := dk_180 0 55 (dk_at dksX4_tag_1 8 rfl rfl)
theorem dX4_tag_33 : decode cX4_tag 33 = .ok (.iload_n 2, 1) := dk_28 (dk_at dksX4_tag_1 11 rfl rfl)
theorem dX4_tag_34 : decode cX4_tag 34 = .ok (.iaload, 1) := dk_46 (dk_at dksX4_tag_1 12 rfl rfl)
theorem dX4_tag_35 : decode cX4_tag 35 = .ok (.ireturn, 1) := dk_172 (dk_at dksX4_tag_1 13 rfl rfl)
abbrev cX4_standing : ByteArray := prog_19_method_52_code
def yX4_standing : MethodName := ⟨RX4, "standing", "()I"⟩
def dkwX4_standing_0 : List UInt8 := [42, 3, 181, 0, 131, 42, 180, 0, 7, 16, 6, 46, 172]
abbrev dktX4_standing_0 : List UInt8 := dkwX4_standing_0 ++ []
theorem dksX4_standing_0 : cX4_standing.data.toList.drop 0 = dktX4_standing_0 := by decide +kernel
theorem dX4_standing_0 : decode cX4_standing 0 = .ok (.aload_n 0, 1) := dk_42 (dk_at dksX4_standing_0 0 rfl rfl)
theorem dX4_standing_1 : decode cX4_standing 1 = .ok (.iconst 0, 1) := dk_3 (dk_at dksX4_standing_0 1 rfl rfl)
theorem dX4_standing_2 : decode cX4_standing 2 = .ok (.putfield 131, 3) := dk_181 0 131 (dk_at dksX4_standing_0 2 rfl rfl)
theorem dX4_standing_5 : decode cX4_standing 5 = .ok (.aload_n 0, 1) := dk_42 (dk_at dksX4_standing_0 5 rfl rfl)
theorem dX4_standing_6 : decode cX4_standing 6 = .ok (.getfield 7, 3) := dk_180 0 7 (dk_at dksX4_standing_0 6 rfl rfl)
theorem dX4_standing_9 : decode cX4_standing 9 = .ok (.bipush 6, 2) := dk_16 6 (dk_at dksX4_standing_0 9 rfl rfl)
theorem dX4_standing_11 : decode cX4_standing 11 = .ok (.iaload, 1) := dk_46 (dk_at dksX4_standing_0 11 rfl rfl)
theorem dX4_standing_12 : decode cX4_standing 12 = .ok (.ireturn, 1) := dk_172 (dk_at dksX4_standing_0 12 rfl rfl)
abbrev cX4_standingAt : ByteArray := prog_19_method_53_code
def yX4_standingAt : MethodName := ⟨RX4, "standingAt", "(I)I"⟩
def dkwX4_standingAt_1 : List UInt8 := [182, 1, 10, 153, 0, 12, 42, 180, 0, 52, 27, 46, 167, 0, 4, 3, 172]
abbrev dktX4_standingAt_1 : List UInt8 := dkwX4_standingAt_1 ++ []
def dkwX4_standingAt_0 : List UInt8 := [42, 27, 3, 42, 180, 0, 7, 16, 6, 46, 4, 100, 184, 0, 135, 153, 0, 7, 3, 167, 0, 4, 4]
abbrev dktX4_standingAt_0 : List UInt8 := dkwX4_standingAt_0 ++ dktX4_standingAt_1
theorem dksX4_standingAt_0 : cX4_standingAt.data.toList.drop 0 = dktX4_standingAt_0 := by decide +kernel
theorem dksX4_standingAt_1 : cX4_standingAt.data.toList.drop 23 = dktX4_standingAt_1 := dk_seg dksX4_standingAt_0 23 rfl rfl
theorem dX4_standingAt_0 : decode cX4_standingAt 0 = .ok (.aload_n 0, 1) := dk_42 (dk_at dksX4_standingAt_0 0 rfl rfl)
theorem dX4_standingAt_1 : decode cX4_standingAt 1 = .ok (.iload_n 1, 1) := dk_27 (dk_at dksX4_standingAt_0 1 rfl rfl)
theorem dX4_standingAt_2 : decode cX4_standingAt 2 = .ok (.iconst 0, 1) := dk_3 (dk_at dksX4_standingAt_0 2 rfl rfl)
theorem dX4_standingAt_3 : decode cX4_standingAt 3 = .ok (.aload_n 0, 1) := dk_42 (dk_at dksX4_standingAt_0 3 rfl rfl)
theorem dX4_standingAt_4 : decode cX4_standingAt 4 = .ok (.getfield 7, 3) := dk_180 0 7 (dk_at dksX4_standingAt_0 4 rfl rfl)
theorem dX4_standingAt_7 : decode cX4_standingAt 7 = .ok (.bipush 6, 2) := dk_16 6 (dk_at dksX4_standingAt_0 7 rfl rfl)
theorem dX4_standingAt_9 : decode cX4_standingAt 9 = .ok (.iaload, 1) := dk_46 (dk_at dksX4_standingAt_0 9 rfl rfl)
theorem dX4_standingAt_10 : decode cX4_standingAt 10 = .ok (.iconst 1, 1) := dk_4 (dk_at dksX4_standingAt_0 10 rfl rfl)
theorem dX4_standingAt_11 : decode cX4_standingAt 11 = .ok (.isub, 1) := dk_100 (dk_at dksX4_standingAt_0 11 rfl rfl)
theorem dX4_standingAt_12 : decode cX4_standingAt 12 = .ok (.invokestatic 135, 3) := dk_184 0 135 (dk_at dksX4_standingAt_0 12 rfl rfl)
theorem dX4_standingAt_15 : decode cX4_standingAt 15 = .ok (.ifCond .eq 7, 3) := dk_153 0 7 (dk_at dksX4_standingAt_0 15 rfl rfl)
theorem dX4_standingAt_18 : decode cX4_standingAt 18 = .ok (.iconst 0, 1) := dk_3 (dk_at dksX4_standingAt_0 18 rfl rfl)
theorem dX4_standingAt_19 : decode cX4_standingAt 19 = .ok (.goto 4, 3) := dk_167 0 4 (dk_at dksX4_standingAt_0 19 rfl rfl)
theorem dX4_standingAt_22 : decode cX4_standingAt 22 = .ok (.iconst 1, 1) := dk_4 (dk_at dksX4_standingAt_0 22 rfl rfl)
theorem dX4_standingAt_23 : decode cX4_standingAt 23 = .ok (.invokevirtual 266, 3) := dk_182 1 10 (dk_at dksX4_standingAt_1 0 rfl rfl)
theorem dX4_standingAt_26 : decode cX4_standingAt 26 = .ok (.ifCond .eq 12, 3) := dk_153 0 12 (dk_at dksX4_standingAt_1 3 rfl rfl)
theorem dX4_standingAt_29 : decode cX4_standingAt 29 = .ok (.aload_n 0, 1) := dk_42 (dk_at dksX4_standingAt_1 6 rfl rfl)
theorem dX4_standingAt_30 : decode cX4_standingAt 30 = .ok (.getfield 52, 3) := dk_180 0 52 (dk_at dksX4_standingAt_1 7 rfl rfl)
theorem dX4_standingAt_33 : decode cX4_standingAt 33 = .ok (.iload_n 1, 1) := dk_27 (dk_at dksX4_standingAt_1 10 rfl rfl)
theorem dX4_standingAt_34 : decode cX4_standingAt 34 = .ok (.iaload, 1) := dk_46 (dk_at dksX4_standingAt_1 11 rfl rfl)
theorem dX4_standingAt_35 : decode cX4_standingAt 35 = .ok (.goto 4, 3) := dk_167 0 4 (dk_at dksX4_standingAt_1 12 rfl rfl)
theorem dX4_standingAt_38 : decode cX4_standingAt 38 = .ok (.iconst 0, 1) := dk_3 (dk_at dksX4_standingAt_1 15 rfl rfl)
theorem dX4_standingAt_39 : decode cX4_standingAt 39 = .ok (.ireturn, 1) := dk_172 (dk_at dksX4_standingAt_1 16 rfl rfl)
abbrev cX4_rule : ByteArray := prog_19_method_57_code
def yX4_rule : MethodName := ⟨RX4, "rule", "(I)V"⟩
def dkwX4_rule_1 : List UInt8 := [3, 182, 1, 10, 153, 0, 9, 42, 4, 27, 182, 1, 49, 177]
abbrev dktX4_rule_1 : List UInt8 := dkwX4_rule_1 ++ []
def dkwX4_rule_0 : List UInt8 := [42, 42, 27, 182, 0, 140, 154, 0, 7, 4, 167, 0, 15, 42, 180, 1, 46, 158, 0, 7, 5, 167, 0, 4]
abbrev dktX4_rule_0 : List UInt8 := dkwX4_rule_0 ++ dktX4_rule_1
theorem dksX4_rule_0 : cX4_rule.data.toList.drop 0 = dktX4_rule_0 := by decide +kernel
theorem dksX4_rule_1 : cX4_rule.data.toList.drop 24 = dktX4_rule_1 := dk_seg dksX4_rule_0 24 rfl rfl
theorem dX4_rule_0 : decode cX4_rule 0 = .ok (.aload_n 0, 1) := dk_42 (dk_at dksX4_rule_0 0 rfl rfl)
theorem dX4_rule_1 : decode cX4_rule 1 = .ok (.aload_n 0, 1) := dk_42 (dk_at dksX4_rule_0 1 rfl rfl)
theorem dX4_rule_2 : decode cX4_rule 2 = .ok (.iload_n 1, 1) := dk_27 (dk_at dksX4_rule_0 2 rfl rfl)
theorem dX4_rule_3 : decode cX4_rule 3 = .ok (.invokevirtual 140, 3) := dk_182 0 140 (dk_at dksX4_rule_0 3 rfl rfl)
theorem dX4_rule_6 : decode cX4_rule 6 = .ok (.ifCond .ne 7, 3) := dk_154 0 7 (dk_at dksX4_rule_0 6 rfl rfl)
theorem dX4_rule_9 : decode cX4_rule 9 = .ok (.iconst 1, 1) := dk_4 (dk_at dksX4_rule_0 9 rfl rfl)
theorem dX4_rule_10 : decode cX4_rule 10 = .ok (.goto 15, 3) := dk_167 0 15 (dk_at dksX4_rule_0 10 rfl rfl)
theorem dX4_rule_13 : decode cX4_rule 13 = .ok (.aload_n 0, 1) := dk_42 (dk_at dksX4_rule_0 13 rfl rfl)
theorem dX4_rule_14 : decode cX4_rule 14 = .ok (.getfield 302, 3) := dk_180 1 46 (dk_at dksX4_rule_0 14 rfl rfl)
theorem dX4_rule_17 : decode cX4_rule 17 = .ok (.ifCond .le 7, 3) := dk_158 0 7 (dk_at dksX4_rule_0 17 rfl rfl)
theorem dX4_rule_20 : decode cX4_rule 20 = .ok (.iconst 2, 1) := dk_5 (dk_at dksX4_rule_0 20 rfl rfl)
theorem dX4_rule_21 : decode cX4_rule 21 = .ok (.goto 4, 3) := dk_167 0 4 (dk_at dksX4_rule_0 21 rfl rfl)
theorem dX4_rule_24 : decode cX4_rule 24 = .ok (.iconst 0, 1) := dk_3 (dk_at dksX4_rule_1 0 rfl rfl)
theorem dX4_rule_25 : decode cX4_rule 25 = .ok (.invokevirtual 266, 3) := dk_182 1 10 (dk_at dksX4_rule_1 1 rfl rfl)
theorem dX4_rule_28 : decode cX4_rule 28 = .ok (.ifCond .eq 9, 3) := dk_153 0 9 (dk_at dksX4_rule_1 4 rfl rfl)
theorem dX4_rule_31 : decode cX4_rule 31 = .ok (.aload_n 0, 1) := dk_42 (dk_at dksX4_rule_1 7 rfl rfl)
theorem dX4_rule_32 : decode cX4_rule 32 = .ok (.iconst 1, 1) := dk_4 (dk_at dksX4_rule_1 8 rfl rfl)
theorem dX4_rule_33 : decode cX4_rule 33 = .ok (.iload_n 1, 1) := dk_27 (dk_at dksX4_rule_1 9 rfl rfl)
theorem dX4_rule_34 : decode cX4_rule 34 = .ok (.invokevirtual 305, 3) := dk_182 1 49 (dk_at dksX4_rule_1 10 rfl rfl)
theorem dX4_rule_37 : decode cX4_rule 37 = .ok (.return_, 1) := dk_177 (dk_at dksX4_rule_1 13 rfl rfl)
abbrev cX4_beginDraft : ByteArray := prog_19_method_56_code
def yX4_beginDraft : MethodName := ⟨RX4, "beginDraft", "(II)V"⟩
def dkwX4_beginDraft_2 : List UInt8 := [167, 255, 238, 177]
abbrev dktX4_beginDraft_2 : List UInt8 := dkwX4_beginDraft_2 ++ []
def dkwX4_beginDraft_1 : List UInt8 := [3, 79, 3, 62, 29, 6, 162, 0, 19, 42, 180, 0, 22, 16, 48, 29, 96, 3, 79, 132, 3, 1]
abbrev dktX4_beginDraft_1 : List UInt8 := dkwX4_beginDraft_1 ++ dktX4_beginDraft_2
def dkwX4_beginDraft_0 : List UInt8 := [42, 27, 181, 1, 46, 42, 3, 181, 1, 40, 42, 180, 0, 19, 16, 16, 28, 79, 42, 180, 0, 25, 16, 16]
abbrev dktX4_beginDraft_0 : List UInt8 := dkwX4_beginDraft_0 ++ dktX4_beginDraft_1
theorem dksX4_beginDraft_0 : cX4_beginDraft.data.toList.drop 0 = dktX4_beginDraft_0 := by decide +kernel
theorem dksX4_beginDraft_1 : cX4_beginDraft.data.toList.drop 24 = dktX4_beginDraft_1 := dk_seg dksX4_beginDraft_0 24 rfl rfl
theorem dksX4_beginDraft_2 : cX4_beginDraft.data.toList.drop 46 = dktX4_beginDraft_2 := dk_seg dksX4_beginDraft_1 22 rfl rfl
theorem dX4_beginDraft_0 : decode cX4_beginDraft 0 = .ok (.aload_n 0, 1) := dk_42 (dk_at dksX4_beginDraft_0 0 rfl rfl)
theorem dX4_beginDraft_1 : decode cX4_beginDraft 1 = .ok (.iload_n 1, 1) := dk_27 (dk_at dksX4_beginDraft_0 1 rfl rfl)
theorem dX4_beginDraft_2 : decode cX4_beginDraft 2 = .ok (.putfield 302, 3) := dk_181 1 46 (dk_at dksX4_beginDraft_0 2 rfl rfl)
theorem dX4_beginDraft_5 : decode cX4_beginDraft 5 = .ok (.aload_n 0, 1) := dk_42 (dk_at dksX4_beginDraft_0 5 rfl rfl)
theorem dX4_beginDraft_6 : decode cX4_beginDraft 6 = .ok (.iconst 0, 1) := dk_3 (dk_at dksX4_beginDraft_0 6 rfl rfl)
theorem dX4_beginDraft_7 : decode cX4_beginDraft 7 = .ok (.putfield 296, 3) := dk_181 1 40 (dk_at dksX4_beginDraft_0 7 rfl rfl)
theorem dX4_beginDraft_10 : decode cX4_beginDraft 10 = .ok (.aload_n 0, 1) := dk_42 (dk_at dksX4_beginDraft_0 10 rfl rfl)
theorem dX4_beginDraft_11 : decode cX4_beginDraft 11 = .ok (.getfield 19, 3) := dk_180 0 19 (dk_at dksX4_beginDraft_0 11 rfl rfl)
theorem dX4_beginDraft_14 : decode cX4_beginDraft 14 = .ok (.bipush 16, 2) := dk_16 16 (dk_at dksX4_beginDraft_0 14 rfl rfl)
theorem dX4_beginDraft_16 : decode cX4_beginDraft 16 = .ok (.iload_n 2, 1) := dk_28 (dk_at dksX4_beginDraft_0 16 rfl rfl)
theorem dX4_beginDraft_17 : decode cX4_beginDraft 17 = .ok (.iastore, 1) := dk_79 (dk_at dksX4_beginDraft_0 17 rfl rfl)
theorem dX4_beginDraft_18 : decode cX4_beginDraft 18 = .ok (.aload_n 0, 1) := dk_42 (dk_at dksX4_beginDraft_0 18 rfl rfl)
theorem dX4_beginDraft_19 : decode cX4_beginDraft 19 = .ok (.getfield 25, 3) := dk_180 0 25 (dk_at dksX4_beginDraft_0 19 rfl rfl)
theorem dX4_beginDraft_22 : decode cX4_beginDraft 22 = .ok (.bipush 16, 2) := dk_16 16 (dk_at dksX4_beginDraft_0 22 rfl rfl)
theorem dX4_beginDraft_24 : decode cX4_beginDraft 24 = .ok (.iconst 0, 1) := dk_3 (dk_at dksX4_beginDraft_1 0 rfl rfl)
theorem dX4_beginDraft_25 : decode cX4_beginDraft 25 = .ok (.iastore, 1) := dk_79 (dk_at dksX4_beginDraft_1 1 rfl rfl)
theorem dX4_beginDraft_26 : decode cX4_beginDraft 26 = .ok (.iconst 0, 1) := dk_3 (dk_at dksX4_beginDraft_1 2 rfl rfl)
theorem dX4_beginDraft_27 : decode cX4_beginDraft 27 = .ok (.istore_n 3, 1) := dk_62 (dk_at dksX4_beginDraft_1 3 rfl rfl)
theorem dX4_beginDraft_28 : decode cX4_beginDraft 28 = .ok (.iload_n 3, 1) := dk_29 (dk_at dksX4_beginDraft_1 4 rfl rfl)
theorem dX4_beginDraft_29 : decode cX4_beginDraft 29 = .ok (.iconst 3, 1) := dk_6 (dk_at dksX4_beginDraft_1 5 rfl rfl)
theorem dX4_beginDraft_30 : decode cX4_beginDraft 30 = .ok (.if_icmp .ge 19, 3) := dk_162 0 19 (dk_at dksX4_beginDraft_1 6 rfl rfl)
theorem dX4_beginDraft_33 : decode cX4_beginDraft 33 = .ok (.aload_n 0, 1) := dk_42 (dk_at dksX4_beginDraft_1 9 rfl rfl)
theorem dX4_beginDraft_34 : decode cX4_beginDraft 34 = .ok (.getfield 22, 3) := dk_180 0 22 (dk_at dksX4_beginDraft_1 10 rfl rfl)
theorem dX4_beginDraft_37 : decode cX4_beginDraft 37 = .ok (.bipush 48, 2) := dk_16 48 (dk_at dksX4_beginDraft_1 13 rfl rfl)
theorem dX4_beginDraft_39 : decode cX4_beginDraft 39 = .ok (.iload_n 3, 1) := dk_29 (dk_at dksX4_beginDraft_1 15 rfl rfl)
theorem dX4_beginDraft_40 : decode cX4_beginDraft 40 = .ok (.iadd, 1) := dk_96 (dk_at dksX4_beginDraft_1 16 rfl rfl)
theorem dX4_beginDraft_41 : decode cX4_beginDraft 41 = .ok (.iconst 0, 1) := dk_3 (dk_at dksX4_beginDraft_1 17 rfl rfl)
theorem dX4_beginDraft_42 : decode cX4_beginDraft 42 = .ok (.iastore, 1) := dk_79 (dk_at dksX4_beginDraft_1 18 rfl rfl)
theorem dX4_beginDraft_43 : decode cX4_beginDraft 43 = .ok (.iinc 3 1, 3) := dk_132 3 1 (dk_at dksX4_beginDraft_1 19 rfl rfl)
theorem dX4_beginDraft_46 : decode cX4_beginDraft 46 = .ok (.goto (-18), 3) := dk_167 255 238 (dk_at dksX4_beginDraft_2 0 rfl rfl)
theorem dX4_beginDraft_49 : decode cX4_beginDraft 49 = .ok (.return_, 1) := dk_177 (dk_at dksX4_beginDraft_2 3 rfl rfl)
abbrev cX4_deed : ByteArray := prog_19_method_58_code
def yX4_deed : MethodName := ⟨RX4, "deed", "(IIZI)V"⟩
def dkwX4_deed_4 : List UInt8 := [180, 0, 43, 16, 16, 29, 153, 0, 7, 4, 167, 0, 4, 3, 79, 177]
abbrev dktX4_deed_4 : List UInt8 := dkwX4_deed_4 ++ []
def dkwX4_deed_3 : List UInt8 := [21, 4, 182, 1, 49, 42, 180, 0, 37, 16, 16, 27, 79, 42, 180, 0, 40, 16, 16, 28, 79, 42]
abbrev dktX4_deed_3 : List UInt8 := dkwX4_deed_3 ++ dktX4_deed_4
def dkwX4_deed_2 : List UInt8 := [167, 0, 15, 42, 180, 1, 46, 158, 0, 7, 6, 167, 0, 4, 3, 182, 1, 10, 153, 0, 42, 42, 5]
abbrev dktX4_deed_2 : List UInt8 := dkwX4_deed_2 ++ dktX4_deed_3
def dkwX4_deed_1 : List UInt8 := [3, 54, 5, 42, 42, 21, 4, 182, 0, 140, 154, 0, 7, 4, 167, 0, 24, 21, 5, 154, 0, 7, 5]
abbrev dktX4_deed_1 : List UInt8 := dkwX4_deed_1 ++ dktX4_deed_2
def dkwX4_deed_0 : List UInt8 := [27, 3, 6, 184, 0, 135, 153, 0, 18, 28, 16, 246, 16, 10, 184, 0, 135, 153, 0, 7, 4, 167, 0, 4]
abbrev dktX4_deed_0 : List UInt8 := dkwX4_deed_0 ++ dktX4_deed_1
theorem dksX4_deed_0 : cX4_deed.data.toList.drop 0 = dktX4_deed_0 := by decide +kernel
theorem dksX4_deed_1 : cX4_deed.data.toList.drop 24 = dktX4_deed_1 := dk_seg dksX4_deed_0 24 rfl rfl
theorem dksX4_deed_2 : cX4_deed.data.toList.drop 47 = dktX4_deed_2 := dk_seg dksX4_deed_1 23 rfl rfl
theorem dksX4_deed_3 : cX4_deed.data.toList.drop 70 = dktX4_deed_3 := dk_seg dksX4_deed_2 23 rfl rfl
theorem dksX4_deed_4 : cX4_deed.data.toList.drop 92 = dktX4_deed_4 := dk_seg dksX4_deed_3 22 rfl rfl
theorem dX4_deed_0 : decode cX4_deed 0 = .ok (.iload_n 1, 1) := dk_27 (dk_at dksX4_deed_0 0 rfl rfl)
theorem dX4_deed_1 : decode cX4_deed 1 = .ok (.iconst 0, 1) := dk_3 (dk_at dksX4_deed_0 1 rfl rfl)
theorem dX4_deed_2 : decode cX4_deed 2 = .ok (.iconst 3, 1) := dk_6 (dk_at dksX4_deed_0 2 rfl rfl)
theorem dX4_deed_3 : decode cX4_deed 3 = .ok (.invokestatic 135, 3) := dk_184 0 135 (dk_at dksX4_deed_0 3 rfl rfl)
theorem dX4_deed_6 : decode cX4_deed 6 = .ok (.ifCond .eq 18, 3) := dk_153 0 18 (dk_at dksX4_deed_0 6 rfl rfl)
theorem dX4_deed_9 : decode cX4_deed 9 = .ok (.iload_n 2, 1) := dk_28 (dk_at dksX4_deed_0 9 rfl rfl)
theorem dX4_deed_10 : decode cX4_deed 10 = .ok (.bipush (-10), 2) := dk_16 246 (dk_at dksX4_deed_0 10 rfl rfl)
theorem dX4_deed_12 : decode cX4_deed 12 = .ok (.bipush 10, 2) := dk_16 10 (dk_at dksX4_deed_0 12 rfl rfl)
theorem dX4_deed_14 : decode cX4_deed 14 = .ok (.invokestatic 135, 3) := dk_184 0 135 (dk_at dksX4_deed_0 14 rfl rfl)
theorem dX4_deed_17 : decode cX4_deed 17 = .ok (.ifCond .eq 7, 3) := dk_153 0 7 (dk_at dksX4_deed_0 17 rfl rfl)
theorem dX4_deed_20 : decode cX4_deed 20 = .ok (.iconst 1, 1) := dk_4 (dk_at dksX4_deed_0 20 rfl rfl)
theorem dX4_deed_21 : decode cX4_deed 21 = .ok (.goto 4, 3) := dk_167 0 4 (dk_at dksX4_deed_0 21 rfl rfl)
theorem dX4_deed_24 : decode cX4_deed 24 = .ok (.iconst 0, 1) := dk_3 (dk_at dksX4_deed_1 0 rfl rfl)
theorem dX4_deed_25 : decode cX4_deed 25 = .ok (.istore 5, 2) := dk_54 5 (dk_at dksX4_deed_1 1 rfl rfl)
theorem dX4_deed_27 : decode cX4_deed 27 = .ok (.aload_n 0, 1) := dk_42 (dk_at dksX4_deed_1 3 rfl rfl)
theorem dX4_deed_28 : decode cX4_deed 28 = .ok (.aload_n 0, 1) := dk_42 (dk_at dksX4_deed_1 4 rfl rfl)
theorem dX4_deed_29 : decode cX4_deed 29 = .ok (.iload 4, 2) := dk_21 4 (dk_at dksX4_deed_1 5 rfl rfl)
theorem dX4_deed_31 : decode cX4_deed 31 = .ok (.invokevirtual 140, 3) := dk_182 0 140 (dk_at dksX4_deed_1 7 rfl rfl)
theorem dX4_deed_34 : decode cX4_deed 34 = .ok (.ifCond .ne 7, 3) := dk_154 0 7 (dk_at dksX4_deed_1 10 rfl rfl)
theorem dX4_deed_37 : decode cX4_deed 37 = .ok (.iconst 1, 1) := dk_4 (dk_at dksX4_deed_1 13 rfl rfl)
theorem dX4_deed_38 : decode cX4_deed 38 = .ok (.goto 24, 3) := dk_167 0 24 (dk_at dksX4_deed_1 14 rfl rfl)
theorem dX4_deed_41 : decode cX4_deed 41 = .ok (.iload 5, 2) := dk_21 5 (dk_at dksX4_deed_1 17 rfl rfl)
theorem dX4_deed_43 : decode cX4_deed 43 = .ok (.ifCond .ne 7, 3) := dk_154 0 7 (dk_at dksX4_deed_1 19 rfl rfl)
theorem dX4_deed_46 : decode cX4_deed 46 = .ok (.iconst 2, 1) := dk_5 (dk_at dksX4_deed_1 22 rfl rfl)
theorem dX4_deed_47 : decode cX4_deed 47 = .ok (.goto 15, 3) := dk_167 0 15 (dk_at dksX4_deed_2 0 rfl rfl)
theorem dX4_deed_50 : decode cX4_deed 50 = .ok (.aload_n 0, 1) := dk_42 (dk_at dksX4_deed_2 3 rfl rfl)
theorem dX4_deed_51 : decode cX4_deed 51 = .ok (.getfield 302, 3) := dk_180 1 46 (dk_at dksX4_deed_2 4 rfl rfl)
theorem dX4_deed_54 : decode cX4_deed 54 = .ok (.ifCond .le 7, 3) := dk_158 0 7 (dk_at dksX4_deed_2 7 rfl rfl)
theorem dX4_deed_57 : decode cX4_deed 57 = .ok (.iconst 3, 1) := dk_6 (dk_at dksX4_deed_2 10 rfl rfl)
theorem dX4_deed_58 : decode cX4_deed 58 = .ok (.goto 4, 3) := dk_167 0 4 (dk_at dksX4_deed_2 11 rfl rfl)
theorem dX4_deed_61 : decode cX4_deed 61 = .ok (.iconst 0, 1) := dk_3 (dk_at dksX4_deed_2 14 rfl rfl)
theorem dX4_deed_62 : decode cX4_deed 62 = .ok (.invokevirtual 266, 3) := dk_182 1 10 (dk_at dksX4_deed_2 15 rfl rfl)
theorem dX4_deed_65 : decode cX4_deed 65 = .ok (.ifCond .eq 42, 3) := dk_153 0 42 (dk_at dksX4_deed_2 18 rfl rfl)
theorem dX4_deed_68 : decode cX4_deed 68 = .ok (.aload_n 0, 1) := dk_42 (dk_at dksX4_deed_2 21 rfl rfl)
theorem dX4_deed_69 : decode cX4_deed 69 = .ok (.iconst 2, 1) := dk_5 (dk_at dksX4_deed_2 22 rfl rfl)
theorem dX4_deed_70 : decode cX4_deed 70 = .ok (.iload 4, 2) := dk_21 4 (dk_at dksX4_deed_3 0 rfl rfl)
theorem dX4_deed_72 : decode cX4_deed 72 = .ok (.invokevirtual 305, 3) := dk_182 1 49 (dk_at dksX4_deed_3 2 rfl rfl)
theorem dX4_deed_75 : decode cX4_deed 75 = .ok (.aload_n 0, 1) := dk_42 (dk_at dksX4_deed_3 5 rfl rfl)
theorem dX4_deed_76 : decode cX4_deed 76 = .ok (.getfield 37, 3) := dk_180 0 37 (dk_at dksX4_deed_3 6 rfl rfl)
theorem dX4_deed_79 : decode cX4_deed 79 = .ok (.bipush 16, 2) := dk_16 16 (dk_at dksX4_deed_3 9 rfl rfl)
theorem dX4_deed_81 : decode cX4_deed 81 = .ok (.iload_n 1, 1) := dk_27 (dk_at dksX4_deed_3 11 rfl rfl)
theorem dX4_deed_82 : decode cX4_deed 82 = .ok (.iastore, 1) := dk_79 (dk_at dksX4_deed_3 12 rfl rfl)
theorem dX4_deed_83 : decode cX4_deed 83 = .ok (.aload_n 0, 1) := dk_42 (dk_at dksX4_deed_3 13 rfl rfl)
theorem dX4_deed_84 : decode cX4_deed 84 = .ok (.getfield 40, 3) := dk_180 0 40 (dk_at dksX4_deed_3 14 rfl rfl)
theorem dX4_deed_87 : decode cX4_deed 87 = .ok (.bipush 16, 2) := dk_16 16 (dk_at dksX4_deed_3 17 rfl rfl)
theorem dX4_deed_89 : decode cX4_deed 89 = .ok (.iload_n 2, 1) := dk_28 (dk_at dksX4_deed_3 19 rfl rfl)
theorem dX4_deed_90 : decode cX4_deed 90 = .ok (.iastore, 1) := dk_79 (dk_at dksX4_deed_3 20 rfl rfl)
theorem dX4_deed_91 : decode cX4_deed 91 = .ok (.aload_n 0, 1) := dk_42 (dk_at dksX4_deed_3 21 rfl rfl)
theorem dX4_deed_92 : decode cX4_deed 92 = .ok (.getfield 43, 3) := dk_180 0 43 (dk_at dksX4_deed_4 0 rfl rfl)
theorem dX4_deed_95 : decode cX4_deed 95 = .ok (.bipush 16, 2) := dk_16 16 (dk_at dksX4_deed_4 3 rfl rfl)
theorem dX4_deed_97 : decode cX4_deed 97 = .ok (.iload_n 3, 1) := dk_29 (dk_at dksX4_deed_4 5 rfl rfl)
theorem dX4_deed_98 : decode cX4_deed 98 = .ok (.ifCond .eq 7, 3) := dk_153 0 7 (dk_at dksX4_deed_4 6 rfl rfl)
theorem dX4_deed_101 : decode cX4_deed 101 = .ok (.iconst 1, 1) := dk_4 (dk_at dksX4_deed_4 9 rfl rfl)
theorem dX4_deed_102 : decode cX4_deed 102 = .ok (.goto 4, 3) := dk_167 0 4 (dk_at dksX4_deed_4 10 rfl rfl)
theorem dX4_deed_105 : decode cX4_deed 105 = .ok (.iconst 0, 1) := dk_3 (dk_at dksX4_deed_4 13 rfl rfl)
theorem dX4_deed_106 : decode cX4_deed 106 = .ok (.iastore, 1) := dk_79 (dk_at dksX4_deed_4 14 rfl rfl)
theorem dX4_deed_107 : decode cX4_deed 107 = .ok (.return_, 1) := dk_177 (dk_at dksX4_deed_4 15 rfl rfl)
abbrev cX4_variable : ByteArray := prog_19_method_60_code
def yX4_variable : MethodName := ⟨RX4, "variable", "(I)V"⟩
def dkwX4_variable_2 : List UInt8 := [182, 1, 55, 177]
abbrev dktX4_variable_2 : List UInt8 := dkwX4_variable_2 ++ []
def dkwX4_variable_1 : List UInt8 := [182, 1, 52, 154, 0, 7, 5, 167, 0, 4, 3, 182, 1, 10, 153, 0, 11, 42, 16, 100, 27, 96]
abbrev dktX4_variable_1 : List UInt8 := dkwX4_variable_1 ++ dktX4_variable_2
def dkwX4_variable_0 : List UInt8 := [42, 27, 3, 16, 7, 184, 0, 135, 154, 0, 7, 4, 167, 0, 22, 42, 180, 1, 46, 153, 0, 10, 42]
abbrev dktX4_variable_0 : List UInt8 := dkwX4_variable_0 ++ dktX4_variable_1
theorem dksX4_variable_0 : cX4_variable.data.toList.drop 0 = dktX4_variable_0 := by decide +kernel
theorem dksX4_variable_1 : cX4_variable.data.toList.drop 23 = dktX4_variable_1 := dk_seg dksX4_variable_0 23 rfl rfl
theorem dksX4_variable_2 : cX4_variable.data.toList.drop 45 = dktX4_variable_2 := dk_seg dksX4_variable_1 22 rfl rfl
theorem dX4_variable_0 : decode cX4_variable 0 = .ok (.aload_n 0, 1) := dk_42 (dk_at dksX4_variable_0 0 rfl rfl)
theorem dX4_variable_1 : decode cX4_variable 1 = .ok (.iload_n 1, 1) := dk_27 (dk_at dksX4_variable_0 1 rfl rfl)
theorem dX4_variable_2 : decode cX4_variable 2 = .ok (.iconst 0, 1) := dk_3 (dk_at dksX4_variable_0 2 rfl rfl)
theorem dX4_variable_3 : decode cX4_variable 3 = .ok (.bipush 7, 2) := dk_16 7 (dk_at dksX4_variable_0 3 rfl rfl)
theorem dX4_variable_5 : decode cX4_variable 5 = .ok (.invokestatic 135, 3) := dk_184 0 135 (dk_at dksX4_variable_0 5 rfl rfl)
theorem dX4_variable_8 : decode cX4_variable 8 = .ok (.ifCond .ne 7, 3) := dk_154 0 7 (dk_at dksX4_variable_0 8 rfl rfl)
theorem dX4_variable_11 : decode cX4_variable 11 = .ok (.iconst 1, 1) := dk_4 (dk_at dksX4_variable_0 11 rfl rfl)
theorem dX4_variable_12 : decode cX4_variable 12 = .ok (.goto 22, 3) := dk_167 0 22 (dk_at dksX4_variable_0 12 rfl rfl)
theorem dX4_variable_15 : decode cX4_variable 15 = .ok (.aload_n 0, 1) := dk_42 (dk_at dksX4_variable_0 15 rfl rfl)
theorem dX4_variable_16 : decode cX4_variable 16 = .ok (.getfield 302, 3) := dk_180 1 46 (dk_at dksX4_variable_0 16 rfl rfl)
theorem dX4_variable_19 : decode cX4_variable 19 = .ok (.ifCond .eq 10, 3) := dk_153 0 10 (dk_at dksX4_variable_0 19 rfl rfl)
theorem dX4_variable_22 : decode cX4_variable 22 = .ok (.aload_n 0, 1) := dk_42 (dk_at dksX4_variable_0 22 rfl rfl)
theorem dX4_variable_23 : decode cX4_variable 23 = .ok (.invokevirtual 308, 3) := dk_182 1 52 (dk_at dksX4_variable_1 0 rfl rfl)
theorem dX4_variable_26 : decode cX4_variable 26 = .ok (.ifCond .ne 7, 3) := dk_154 0 7 (dk_at dksX4_variable_1 3 rfl rfl)
theorem dX4_variable_29 : decode cX4_variable 29 = .ok (.iconst 2, 1) := dk_5 (dk_at dksX4_variable_1 6 rfl rfl)
theorem dX4_variable_30 : decode cX4_variable 30 = .ok (.goto 4, 3) := dk_167 0 4 (dk_at dksX4_variable_1 7 rfl rfl)
theorem dX4_variable_33 : decode cX4_variable 33 = .ok (.iconst 0, 1) := dk_3 (dk_at dksX4_variable_1 10 rfl rfl)
theorem dX4_variable_34 : decode cX4_variable 34 = .ok (.invokevirtual 266, 3) := dk_182 1 10 (dk_at dksX4_variable_1 11 rfl rfl)
theorem dX4_variable_37 : decode cX4_variable 37 = .ok (.ifCond .eq 11, 3) := dk_153 0 11 (dk_at dksX4_variable_1 14 rfl rfl)
theorem dX4_variable_40 : decode cX4_variable 40 = .ok (.aload_n 0, 1) := dk_42 (dk_at dksX4_variable_1 17 rfl rfl)
theorem dX4_variable_41 : decode cX4_variable 41 = .ok (.bipush 100, 2) := dk_16 100 (dk_at dksX4_variable_1 18 rfl rfl)
theorem dX4_variable_43 : decode cX4_variable 43 = .ok (.iload_n 1, 1) := dk_27 (dk_at dksX4_variable_1 20 rfl rfl)
theorem dX4_variable_44 : decode cX4_variable 44 = .ok (.iadd, 1) := dk_96 (dk_at dksX4_variable_1 21 rfl rfl)
theorem dX4_variable_45 : decode cX4_variable 45 = .ok (.invokevirtual 311, 3) := dk_182 1 55 (dk_at dksX4_variable_2 0 rfl rfl)
theorem dX4_variable_48 : decode cX4_variable 48 = .ok (.return_, 1) := dk_177 (dk_at dksX4_variable_2 3 rfl rfl)
abbrev cX4_lacksTerm : ByteArray := prog_19_method_54_code
def yX4_lacksTerm : MethodName := ⟨RX4, "lacksTerm", "()Z"⟩
def dkwX4_lacksTerm_2 : List UInt8 := [167, 0, 4, 3, 172]
abbrev dktX4_lacksTerm_2 : List UInt8 := dkwX4_lacksTerm_2 ++ []
def dkwX4_lacksTerm_1 : List UInt8 := [46, 46, 167, 0, 18, 42, 16, 16, 42, 180, 0, 25, 16, 16, 46, 4, 100, 182, 1, 43, 162, 0, 7, 4]
abbrev dktX4_lacksTerm_1 : List UInt8 := dkwX4_lacksTerm_1 ++ dktX4_lacksTerm_2
def dkwX4_lacksTerm_0 : List UInt8 := [42, 180, 1, 40, 42, 180, 0, 25, 16, 16, 46, 154, 0, 18, 42, 180, 0, 13, 42, 180, 0, 19, 16, 16]
abbrev dktX4_lacksTerm_0 : List UInt8 := dkwX4_lacksTerm_0 ++ dktX4_lacksTerm_1
theorem dksX4_lacksTerm_0 : cX4_lacksTerm.data.toList.drop 0 = dktX4_lacksTerm_0 := by decide +kernel
theorem dksX4_lacksTerm_1 : cX4_lacksTerm.data.toList.drop 24 = dktX4_lacksTerm_1 := dk_seg dksX4_lacksTerm_0 24 rfl rfl
theorem dksX4_lacksTerm_2 : cX4_lacksTerm.data.toList.drop 48 = dktX4_lacksTerm_2 := dk_seg dksX4_lacksTerm_1 24 rfl rfl
theorem dX4_lacksTerm_0 : decode cX4_lacksTerm 0 = .ok (.aload_n 0, 1) := dk_42 (dk_at dksX4_lacksTerm_0 0 rfl rfl)
theorem dX4_lacksTerm_1 : decode cX4_lacksTerm 1 = .ok (.getfield 296, 3) := dk_180 1 40 (dk_at dksX4_lacksTerm_0 1 rfl rfl)
theorem dX4_lacksTerm_4 : decode cX4_lacksTerm 4 = .ok (.aload_n 0, 1) := dk_42 (dk_at dksX4_lacksTerm_0 4 rfl rfl)
theorem dX4_lacksTerm_5 : decode cX4_lacksTerm 5 = .ok (.getfield 25, 3) := dk_180 0 25 (dk_at dksX4_lacksTerm_0 5 rfl rfl)
theorem dX4_lacksTerm_8 : decode cX4_lacksTerm 8 = .ok (.bipush 16, 2) := dk_16 16 (dk_at dksX4_lacksTerm_0 8 rfl rfl)
theorem dX4_lacksTerm_10 : decode cX4_lacksTerm 10 = .ok (.iaload, 1) := dk_46 (dk_at dksX4_lacksTerm_0 10 rfl rfl)
theorem dX4_lacksTerm_11 : decode cX4_lacksTerm 11 = .ok (.ifCond .ne 18, 3) := dk_154 0 18 (dk_at dksX4_lacksTerm_0 11 rfl rfl)
theorem dX4_lacksTerm_14 : decode cX4_lacksTerm 14 = .ok (.aload_n 0, 1) := dk_42 (dk_at dksX4_lacksTerm_0 14 rfl rfl)
theorem dX4_lacksTerm_15 : decode cX4_lacksTerm 15 = .ok (.getfield 13, 3) := dk_180 0 13 (dk_at dksX4_lacksTerm_0 15 rfl rfl)
theorem dX4_lacksTerm_18 : decode cX4_lacksTerm 18 = .ok (.aload_n 0, 1) := dk_42 (dk_at dksX4_lacksTerm_0 18 rfl rfl)
theorem dX4_lacksTerm_19 : decode cX4_lacksTerm 19 = .ok (.getfield 19, 3) := dk_180 0 19 (dk_at dksX4_lacksTerm_0 19 rfl rfl)
theorem dX4_lacksTerm_22 : decode cX4_lacksTerm 22 = .ok (.bipush 16, 2) := dk_16 16 (dk_at dksX4_lacksTerm_0 22 rfl rfl)
theorem dX4_lacksTerm_24 : decode cX4_lacksTerm 24 = .ok (.iaload, 1) := dk_46 (dk_at dksX4_lacksTerm_1 0 rfl rfl)
theorem dX4_lacksTerm_25 : decode cX4_lacksTerm 25 = .ok (.iaload, 1) := dk_46 (dk_at dksX4_lacksTerm_1 1 rfl rfl)
theorem dX4_lacksTerm_26 : decode cX4_lacksTerm 26 = .ok (.goto 18, 3) := dk_167 0 18 (dk_at dksX4_lacksTerm_1 2 rfl rfl)
theorem dX4_lacksTerm_29 : decode cX4_lacksTerm 29 = .ok (.aload_n 0, 1) := dk_42 (dk_at dksX4_lacksTerm_1 5 rfl rfl)
theorem dX4_lacksTerm_30 : decode cX4_lacksTerm 30 = .ok (.bipush 16, 2) := dk_16 16 (dk_at dksX4_lacksTerm_1 6 rfl rfl)
theorem dX4_lacksTerm_32 : decode cX4_lacksTerm 32 = .ok (.aload_n 0, 1) := dk_42 (dk_at dksX4_lacksTerm_1 8 rfl rfl)
theorem dX4_lacksTerm_33 : decode cX4_lacksTerm 33 = .ok (.getfield 25, 3) := dk_180 0 25 (dk_at dksX4_lacksTerm_1 9 rfl rfl)
theorem dX4_lacksTerm_36 : decode cX4_lacksTerm 36 = .ok (.bipush 16, 2) := dk_16 16 (dk_at dksX4_lacksTerm_1 12 rfl rfl)
theorem dX4_lacksTerm_38 : decode cX4_lacksTerm 38 = .ok (.iaload, 1) := dk_46 (dk_at dksX4_lacksTerm_1 14 rfl rfl)
theorem dX4_lacksTerm_39 : decode cX4_lacksTerm 39 = .ok (.iconst 1, 1) := dk_4 (dk_at dksX4_lacksTerm_1 15 rfl rfl)
theorem dX4_lacksTerm_40 : decode cX4_lacksTerm 40 = .ok (.isub, 1) := dk_100 (dk_at dksX4_lacksTerm_1 16 rfl rfl)
theorem dX4_lacksTerm_41 : decode cX4_lacksTerm 41 = .ok (.invokevirtual 299, 3) := dk_182 1 43 (dk_at dksX4_lacksTerm_1 17 rfl rfl)
theorem dX4_lacksTerm_44 : decode cX4_lacksTerm 44 = .ok (.if_icmp .ge 7, 3) := dk_162 0 7 (dk_at dksX4_lacksTerm_1 20 rfl rfl)
theorem dX4_lacksTerm_47 : decode cX4_lacksTerm 47 = .ok (.iconst 1, 1) := dk_4 (dk_at dksX4_lacksTerm_1 23 rfl rfl)
theorem dX4_lacksTerm_48 : decode cX4_lacksTerm 48 = .ok (.goto 4, 3) := dk_167 0 4 (dk_at dksX4_lacksTerm_2 0 rfl rfl)
theorem dX4_lacksTerm_51 : decode cX4_lacksTerm 51 = .ok (.iconst 0, 1) := dk_3 (dk_at dksX4_lacksTerm_2 3 rfl rfl)
theorem dX4_lacksTerm_52 : decode cX4_lacksTerm 52 = .ok (.ireturn, 1) := dk_172 (dk_at dksX4_lacksTerm_2 4 rfl rfl)
abbrev cX4_termsOf : ByteArray := prog_19_method_15_code
def yX4_termsOf : MethodName := ⟨RX4, "termsOf", "(II)I"⟩
def dkwX4_termsOf_1 : List UInt8 := [167, 0, 13, 29, 5, 160, 0, 7, 5, 167, 0, 4, 6, 172]
abbrev dktX4_termsOf_1 : List UInt8 := dkwX4_termsOf_1 ++ []
def dkwX4_termsOf_0 : List UInt8 := [42, 27, 28, 182, 0, 148, 62, 29, 5, 162, 0, 17, 42, 180, 0, 13, 42, 27, 28, 182, 0, 152, 46]
abbrev dktX4_termsOf_0 : List UInt8 := dkwX4_termsOf_0 ++ dktX4_termsOf_1
theorem dksX4_termsOf_0 : cX4_termsOf.data.toList.drop 0 = dktX4_termsOf_0 := by decide +kernel
theorem dksX4_termsOf_1 : cX4_termsOf.data.toList.drop 23 = dktX4_termsOf_1 := dk_seg dksX4_termsOf_0 23 rfl rfl
theorem dX4_termsOf_0 : decode cX4_termsOf 0 = .ok (.aload_n 0, 1) := dk_42 (dk_at dksX4_termsOf_0 0 rfl rfl)
theorem dX4_termsOf_1 : decode cX4_termsOf 1 = .ok (.iload_n 1, 1) := dk_27 (dk_at dksX4_termsOf_0 1 rfl rfl)
theorem dX4_termsOf_2 : decode cX4_termsOf 2 = .ok (.iload_n 2, 1) := dk_28 (dk_at dksX4_termsOf_0 2 rfl rfl)
theorem dX4_termsOf_3 : decode cX4_termsOf 3 = .ok (.invokevirtual 148, 3) := dk_182 0 148 (dk_at dksX4_termsOf_0 3 rfl rfl)
theorem dX4_termsOf_6 : decode cX4_termsOf 6 = .ok (.istore_n 3, 1) := dk_62 (dk_at dksX4_termsOf_0 6 rfl rfl)
theorem dX4_termsOf_7 : decode cX4_termsOf 7 = .ok (.iload_n 3, 1) := dk_29 (dk_at dksX4_termsOf_0 7 rfl rfl)
theorem dX4_termsOf_8 : decode cX4_termsOf 8 = .ok (.iconst 2, 1) := dk_5 (dk_at dksX4_termsOf_0 8 rfl rfl)
theorem dX4_termsOf_9 : decode cX4_termsOf 9 = .ok (.if_icmp .ge 17, 3) := dk_162 0 17 (dk_at dksX4_termsOf_0 9 rfl rfl)
theorem dX4_termsOf_12 : decode cX4_termsOf 12 = .ok (.aload_n 0, 1) := dk_42 (dk_at dksX4_termsOf_0 12 rfl rfl)
theorem dX4_termsOf_13 : decode cX4_termsOf 13 = .ok (.getfield 13, 3) := dk_180 0 13 (dk_at dksX4_termsOf_0 13 rfl rfl)
theorem dX4_termsOf_16 : decode cX4_termsOf 16 = .ok (.aload_n 0, 1) := dk_42 (dk_at dksX4_termsOf_0 16 rfl rfl)
theorem dX4_termsOf_17 : decode cX4_termsOf 17 = .ok (.iload_n 1, 1) := dk_27 (dk_at dksX4_termsOf_0 17 rfl rfl)
theorem dX4_termsOf_18 : decode cX4_termsOf 18 = .ok (.iload_n 2, 1) := dk_28 (dk_at dksX4_termsOf_0 18 rfl rfl)
theorem dX4_termsOf_19 : decode cX4_termsOf 19 = .ok (.invokevirtual 152, 3) := dk_182 0 152 (dk_at dksX4_termsOf_0 19 rfl rfl)
theorem dX4_termsOf_22 : decode cX4_termsOf 22 = .ok (.iaload, 1) := dk_46 (dk_at dksX4_termsOf_0 22 rfl rfl)
theorem dX4_termsOf_23 : decode cX4_termsOf 23 = .ok (.goto 13, 3) := dk_167 0 13 (dk_at dksX4_termsOf_1 0 rfl rfl)
theorem dX4_termsOf_26 : decode cX4_termsOf 26 = .ok (.iload_n 3, 1) := dk_29 (dk_at dksX4_termsOf_1 3 rfl rfl)
theorem dX4_termsOf_27 : decode cX4_termsOf 27 = .ok (.iconst 2, 1) := dk_5 (dk_at dksX4_termsOf_1 4 rfl rfl)
theorem dX4_termsOf_28 : decode cX4_termsOf 28 = .ok (.if_icmp .ne 7, 3) := dk_160 0 7 (dk_at dksX4_termsOf_1 5 rfl rfl)
theorem dX4_termsOf_31 : decode cX4_termsOf 31 = .ok (.iconst 2, 1) := dk_5 (dk_at dksX4_termsOf_1 8 rfl rfl)
theorem dX4_termsOf_32 : decode cX4_termsOf 32 = .ok (.goto 4, 3) := dk_167 0 4 (dk_at dksX4_termsOf_1 9 rfl rfl)
theorem dX4_termsOf_35 : decode cX4_termsOf 35 = .ok (.iconst 3, 1) := dk_6 (dk_at dksX4_termsOf_1 12 rfl rfl)
theorem dX4_termsOf_36 : decode cX4_termsOf 36 = .ok (.ireturn, 1) := dk_172 (dk_at dksX4_termsOf_1 13 rfl rfl)
abbrev cX4_addTerm : ByteArray := prog_19_method_59_code
def yX4_addTerm : MethodName := ⟨RX4, "addTerm", "(I)V"⟩
def dkwX4_addTerm_2 : List UInt8 := [180, 1, 40, 96, 27, 79, 42, 89, 180, 1, 40, 4, 96, 181, 1, 40, 177]
abbrev dktX4_addTerm_2 : List UInt8 := dkwX4_addTerm_2 ++ []
def dkwX4_addTerm_1 : List UInt8 := [167, 0, 28, 42, 180, 0, 34, 6, 16, 96, 42, 180, 0, 25, 16, 16, 46, 96, 4, 100, 104, 42]
abbrev dktX4_addTerm_1 : List UInt8 := dkwX4_addTerm_1 ++ dktX4_addTerm_2
def dkwX4_addTerm_0 : List UInt8 := [42, 180, 0, 25, 16, 16, 46, 154, 0, 19, 42, 180, 0, 22, 16, 48, 42, 180, 1, 40, 96, 27, 79]
abbrev dktX4_addTerm_0 : List UInt8 := dkwX4_addTerm_0 ++ dktX4_addTerm_1
theorem dksX4_addTerm_0 : cX4_addTerm.data.toList.drop 0 = dktX4_addTerm_0 := by decide +kernel
theorem dksX4_addTerm_1 : cX4_addTerm.data.toList.drop 23 = dktX4_addTerm_1 := dk_seg dksX4_addTerm_0 23 rfl rfl
theorem dksX4_addTerm_2 : cX4_addTerm.data.toList.drop 45 = dktX4_addTerm_2 := dk_seg dksX4_addTerm_1 22 rfl rfl
theorem dX4_addTerm_0 : decode cX4_addTerm 0 = .ok (.aload_n 0, 1) := dk_42 (dk_at dksX4_addTerm_0 0 rfl rfl)
theorem dX4_addTerm_1 : decode cX4_addTerm 1 = .ok (.getfield 25, 3) := dk_180 0 25 (dk_at dksX4_addTerm_0 1 rfl rfl)
theorem dX4_addTerm_4 : decode cX4_addTerm 4 = .ok (.bipush 16, 2) := dk_16 16 (dk_at dksX4_addTerm_0 4 rfl rfl)
theorem dX4_addTerm_6 : decode cX4_addTerm 6 = .ok (.iaload, 1) := dk_46 (dk_at dksX4_addTerm_0 6 rfl rfl)
theorem dX4_addTerm_7 : decode cX4_addTerm 7 = .ok (.ifCond .ne 19, 3) := dk_154 0 19 (dk_at dksX4_addTerm_0 7 rfl rfl)
theorem dX4_addTerm_10 : decode cX4_addTerm 10 = .ok (.aload_n 0, 1) := dk_42 (dk_at dksX4_addTerm_0 10 rfl rfl)
theorem dX4_addTerm_11 : decode cX4_addTerm 11 = .ok (.getfield 22, 3) := dk_180 0 22 (dk_at dksX4_addTerm_0 11 rfl rfl)
theorem dX4_addTerm_14 : decode cX4_addTerm 14 = .ok (.bipush 48, 2) := dk_16 48 (dk_at dksX4_addTerm_0 14 rfl rfl)
theorem dX4_addTerm_16 : decode cX4_addTerm 16 = .ok (.aload_n 0, 1) := dk_42 (dk_at dksX4_addTerm_0 16 rfl rfl)
theorem dX4_addTerm_17 : decode cX4_addTerm 17 = .ok (.getfield 296, 3) := dk_180 1 40 (dk_at dksX4_addTerm_0 17 rfl rfl)
theorem dX4_addTerm_20 : decode cX4_addTerm 20 = .ok (.iadd, 1) := dk_96 (dk_at dksX4_addTerm_0 20 rfl rfl)
theorem dX4_addTerm_21 : decode cX4_addTerm 21 = .ok (.iload_n 1, 1) := dk_27 (dk_at dksX4_addTerm_0 21 rfl rfl)
theorem dX4_addTerm_22 : decode cX4_addTerm 22 = .ok (.iastore, 1) := dk_79 (dk_at dksX4_addTerm_0 22 rfl rfl)
theorem dX4_addTerm_23 : decode cX4_addTerm 23 = .ok (.goto 28, 3) := dk_167 0 28 (dk_at dksX4_addTerm_1 0 rfl rfl)
theorem dX4_addTerm_26 : decode cX4_addTerm 26 = .ok (.aload_n 0, 1) := dk_42 (dk_at dksX4_addTerm_1 3 rfl rfl)
theorem dX4_addTerm_27 : decode cX4_addTerm 27 = .ok (.getfield 34, 3) := dk_180 0 34 (dk_at dksX4_addTerm_1 4 rfl rfl)
theorem dX4_addTerm_30 : decode cX4_addTerm 30 = .ok (.iconst 3, 1) := dk_6 (dk_at dksX4_addTerm_1 7 rfl rfl)
theorem dX4_addTerm_31 : decode cX4_addTerm 31 = .ok (.bipush 96, 2) := dk_16 96 (dk_at dksX4_addTerm_1 8 rfl rfl)
theorem dX4_addTerm_33 : decode cX4_addTerm 33 = .ok (.aload_n 0, 1) := dk_42 (dk_at dksX4_addTerm_1 10 rfl rfl)
theorem dX4_addTerm_34 : decode cX4_addTerm 34 = .ok (.getfield 25, 3) := dk_180 0 25 (dk_at dksX4_addTerm_1 11 rfl rfl)
theorem dX4_addTerm_37 : decode cX4_addTerm 37 = .ok (.bipush 16, 2) := dk_16 16 (dk_at dksX4_addTerm_1 14 rfl rfl)
theorem dX4_addTerm_39 : decode cX4_addTerm 39 = .ok (.iaload, 1) := dk_46 (dk_at dksX4_addTerm_1 16 rfl rfl)
theorem dX4_addTerm_40 : decode cX4_addTerm 40 = .ok (.iadd, 1) := dk_96 (dk_at dksX4_addTerm_1 17 rfl rfl)
theorem dX4_addTerm_41 : decode cX4_addTerm 41 = .ok (.iconst 1, 1) := dk_4 (dk_at dksX4_addTerm_1 18 rfl rfl)
theorem dX4_addTerm_42 : decode cX4_addTerm 42 = .ok (.isub, 1) := dk_100 (dk_at dksX4_addTerm_1 19 rfl rfl)
theorem dX4_addTerm_43 : decode cX4_addTerm 43 = .ok (.imul, 1) := dk_104 (dk_at dksX4_addTerm_1 20 rfl rfl)
theorem dX4_addTerm_44 : decode cX4_addTerm 44 = .ok (.aload_n 0, 1) := dk_42 (dk_at dksX4_addTerm_1 21 rfl rfl)
theorem dX4_addTerm_45 : decode cX4_addTerm 45 = .ok (.getfield 296, 3) := dk_180 1 40 (dk_at dksX4_addTerm_2 0 rfl rfl)
theorem dX4_addTerm_48 : decode cX4_addTerm 48 = .ok (.iadd, 1) := dk_96 (dk_at dksX4_addTerm_2 3 rfl rfl)
theorem dX4_addTerm_49 : decode cX4_addTerm 49 = .ok (.iload_n 1, 1) := dk_27 (dk_at dksX4_addTerm_2 4 rfl rfl)
theorem dX4_addTerm_50 : decode cX4_addTerm 50 = .ok (.iastore, 1) := dk_79 (dk_at dksX4_addTerm_2 5 rfl rfl)
theorem dX4_addTerm_51 : decode cX4_addTerm 51 = .ok (.aload_n 0, 1) := dk_42 (dk_at dksX4_addTerm_2 6 rfl rfl)
theorem dX4_addTerm_52 : decode cX4_addTerm 52 = .ok (.dup, 1) := dk_89 (dk_at dksX4_addTerm_2 7 rfl rfl)
theorem dX4_addTerm_53 : decode cX4_addTerm 53 = .ok (.getfield 296, 3) := dk_180 1 40 (dk_at dksX4_addTerm_2 8 rfl rfl)
theorem dX4_addTerm_56 : decode cX4_addTerm 56 = .ok (.iconst 1, 1) := dk_4 (dk_at dksX4_addTerm_2 11 rfl rfl)
theorem dX4_addTerm_57 : decode cX4_addTerm 57 = .ok (.iadd, 1) := dk_96 (dk_at dksX4_addTerm_2 12 rfl rfl)
theorem dX4_addTerm_58 : decode cX4_addTerm 58 = .ok (.putfield 296, 3) := dk_181 1 40 (dk_at dksX4_addTerm_2 13 rfl rfl)
theorem dX4_addTerm_61 : decode cX4_addTerm 61 = .ok (.return_, 1) := dk_177 (dk_at dksX4_addTerm_2 16 rfl rfl)
abbrev cX4_value : ByteArray := prog_19_method_61_code
def yX4_value : MethodName := ⟨RX4, "value", "(I)V"⟩
def dkwX4_value_1 : List UInt8 := [182, 1, 52, 154, 0, 7, 5, 167, 0, 4, 3, 182, 1, 10, 153, 0, 8, 42, 27, 182, 1, 55, 177]
abbrev dktX4_value_1 : List UInt8 := dkwX4_value_1 ++ []
def dkwX4_value_0 : List UInt8 := [42, 27, 3, 16, 99, 184, 0, 135, 154, 0, 7, 4, 167, 0, 22, 42, 180, 1, 46, 153, 0, 10, 42]
abbrev dktX4_value_0 : List UInt8 := dkwX4_value_0 ++ dktX4_value_1
theorem dksX4_value_0 : cX4_value.data.toList.drop 0 = dktX4_value_0 := by decide +kernel
theorem dksX4_value_1 : cX4_value.data.toList.drop 23 = dktX4_value_1 := dk_seg dksX4_value_0 23 rfl rfl
theorem dX4_value_0 : decode cX4_value 0 = .ok (.aload_n 0, 1) := dk_42 (dk_at dksX4_value_0 0 rfl rfl)
theorem dX4_value_1 : decode cX4_value 1 = .ok (.iload_n 1, 1) := dk_27 (dk_at dksX4_value_0 1 rfl rfl)
theorem dX4_value_2 : decode cX4_value 2 = .ok (.iconst 0, 1) := dk_3 (dk_at dksX4_value_0 2 rfl rfl)
theorem dX4_value_3 : decode cX4_value 3 = .ok (.bipush 99, 2) := dk_16 99 (dk_at dksX4_value_0 3 rfl rfl)
theorem dX4_value_5 : decode cX4_value 5 = .ok (.invokestatic 135, 3) := dk_184 0 135 (dk_at dksX4_value_0 5 rfl rfl)
theorem dX4_value_8 : decode cX4_value 8 = .ok (.ifCond .ne 7, 3) := dk_154 0 7 (dk_at dksX4_value_0 8 rfl rfl)
theorem dX4_value_11 : decode cX4_value 11 = .ok (.iconst 1, 1) := dk_4 (dk_at dksX4_value_0 11 rfl rfl)
theorem dX4_value_12 : decode cX4_value 12 = .ok (.goto 22, 3) := dk_167 0 22 (dk_at dksX4_value_0 12 rfl rfl)
theorem dX4_value_15 : decode cX4_value 15 = .ok (.aload_n 0, 1) := dk_42 (dk_at dksX4_value_0 15 rfl rfl)
theorem dX4_value_16 : decode cX4_value 16 = .ok (.getfield 302, 3) := dk_180 1 46 (dk_at dksX4_value_0 16 rfl rfl)
theorem dX4_value_19 : decode cX4_value 19 = .ok (.ifCond .eq 10, 3) := dk_153 0 10 (dk_at dksX4_value_0 19 rfl rfl)
theorem dX4_value_22 : decode cX4_value 22 = .ok (.aload_n 0, 1) := dk_42 (dk_at dksX4_value_0 22 rfl rfl)
theorem dX4_value_23 : decode cX4_value 23 = .ok (.invokevirtual 308, 3) := dk_182 1 52 (dk_at dksX4_value_1 0 rfl rfl)
theorem dX4_value_26 : decode cX4_value 26 = .ok (.ifCond .ne 7, 3) := dk_154 0 7 (dk_at dksX4_value_1 3 rfl rfl)
theorem dX4_value_29 : decode cX4_value 29 = .ok (.iconst 2, 1) := dk_5 (dk_at dksX4_value_1 6 rfl rfl)
theorem dX4_value_30 : decode cX4_value 30 = .ok (.goto 4, 3) := dk_167 0 4 (dk_at dksX4_value_1 7 rfl rfl)
theorem dX4_value_33 : decode cX4_value 33 = .ok (.iconst 0, 1) := dk_3 (dk_at dksX4_value_1 10 rfl rfl)
theorem dX4_value_34 : decode cX4_value 34 = .ok (.invokevirtual 266, 3) := dk_182 1 10 (dk_at dksX4_value_1 11 rfl rfl)
theorem dX4_value_37 : decode cX4_value 37 = .ok (.ifCond .eq 8, 3) := dk_153 0 8 (dk_at dksX4_value_1 14 rfl rfl)
theorem dX4_value_40 : decode cX4_value 40 = .ok (.aload_n 0, 1) := dk_42 (dk_at dksX4_value_1 17 rfl rfl)
theorem dX4_value_41 : decode cX4_value 41 = .ok (.iload_n 1, 1) := dk_27 (dk_at dksX4_value_1 18 rfl rfl)
theorem dX4_value_42 : decode cX4_value 42 = .ok (.invokevirtual 311, 3) := dk_182 1 55 (dk_at dksX4_value_1 19 rfl rfl)
theorem dX4_value_45 : decode cX4_value 45 = .ok (.return_, 1) := dk_177 (dk_at dksX4_value_1 22 rfl rfl)
abbrev cX4_gather : ByteArray := prog_19_method_62_code
def yX4_gather : MethodName := ⟨RX4, "gather", "(II)V"⟩
def dkwX4_gather_4 : List UInt8 := [16, 8, 27, 104, 96, 28, 96, 182, 1, 55, 177]
abbrev dktX4_gather_4 : List UInt8 := dkwX4_gather_4 ++ []
def dkwX4_gather_3 : List UInt8 := [4, 167, 0, 13, 21, 4, 153, 0, 7, 3, 167, 0, 4, 5, 182, 1, 10, 153, 0, 17, 42, 17, 0, 200]
abbrev dktX4_gather_3 : List UInt8 := dkwX4_gather_3 ++ dktX4_gather_4
def dkwX4_gather_2 : List UInt8 := [153, 0, 16, 42, 16, 16, 182, 0, 236, 154, 0, 7, 4, 167, 0, 4, 3, 54, 4, 42, 29, 154, 0, 7]
abbrev dktX4_gather_2 : List UInt8 := dkwX4_gather_2 ++ dktX4_gather_3
def dkwX4_gather_1 : List UInt8 := [62, 42, 180, 1, 46, 4, 160, 0, 33, 42, 180, 0, 25, 16, 16, 46, 154, 0, 23, 42, 182, 1, 52]
abbrev dktX4_gather_1 : List UInt8 := dkwX4_gather_1 ++ dktX4_gather_2
def dkwX4_gather_0 : List UInt8 := [27, 3, 6, 184, 0, 135, 153, 0, 17, 28, 3, 16, 7, 184, 0, 135, 153, 0, 7, 4, 167, 0, 4, 3]
abbrev dktX4_gather_0 : List UInt8 := dkwX4_gather_0 ++ dktX4_gather_1
theorem dksX4_gather_0 : cX4_gather.data.toList.drop 0 = dktX4_gather_0 := by decide +kernel
theorem dksX4_gather_1 : cX4_gather.data.toList.drop 24 = dktX4_gather_1 := dk_seg dksX4_gather_0 24 rfl rfl
theorem dksX4_gather_2 : cX4_gather.data.toList.drop 47 = dktX4_gather_2 := dk_seg dksX4_gather_1 23 rfl rfl
theorem dksX4_gather_3 : cX4_gather.data.toList.drop 71 = dktX4_gather_3 := dk_seg dksX4_gather_2 24 rfl rfl
theorem dksX4_gather_4 : cX4_gather.data.toList.drop 95 = dktX4_gather_4 := dk_seg dksX4_gather_3 24 rfl rfl
theorem dX4_gather_0 : decode cX4_gather 0 = .ok (.iload_n 1, 1) := dk_27 (dk_at dksX4_gather_0 0 rfl rfl)
theorem dX4_gather_1 : decode cX4_gather 1 = .ok (.iconst 0, 1) := dk_3 (dk_at dksX4_gather_0 1 rfl rfl)
theorem dX4_gather_2 : decode cX4_gather 2 = .ok (.iconst 3, 1) := dk_6 (dk_at dksX4_gather_0 2 rfl rfl)
theorem dX4_gather_3 : decode cX4_gather 3 = .ok (.invokestatic 135, 3) := dk_184 0 135 (dk_at dksX4_gather_0 3 rfl rfl)
theorem dX4_gather_6 : decode cX4_gather 6 = .ok (.ifCond .eq 17, 3) := dk_153 0 17 (dk_at dksX4_gather_0 6 rfl rfl)
theorem dX4_gather_9 : decode cX4_gather 9 = .ok (.iload_n 2, 1) := dk_28 (dk_at dksX4_gather_0 9 rfl rfl)
theorem dX4_gather_10 : decode cX4_gather 10 = .ok (.iconst 0, 1) := dk_3 (dk_at dksX4_gather_0 10 rfl rfl)
theorem dX4_gather_11 : decode cX4_gather 11 = .ok (.bipush 7, 2) := dk_16 7 (dk_at dksX4_gather_0 11 rfl rfl)
theorem dX4_gather_13 : decode cX4_gather 13 = .ok (.invokestatic 135, 3) := dk_184 0 135 (dk_at dksX4_gather_0 13 rfl rfl)
theorem dX4_gather_16 : decode cX4_gather 16 = .ok (.ifCond .eq 7, 3) := dk_153 0 7 (dk_at dksX4_gather_0 16 rfl rfl)
theorem dX4_gather_19 : decode cX4_gather 19 = .ok (.iconst 1, 1) := dk_4 (dk_at dksX4_gather_0 19 rfl rfl)
theorem dX4_gather_20 : decode cX4_gather 20 = .ok (.goto 4, 3) := dk_167 0 4 (dk_at dksX4_gather_0 20 rfl rfl)
theorem dX4_gather_23 : decode cX4_gather 23 = .ok (.iconst 0, 1) := dk_3 (dk_at dksX4_gather_0 23 rfl rfl)
theorem dX4_gather_24 : decode cX4_gather 24 = .ok (.istore_n 3, 1) := dk_62 (dk_at dksX4_gather_1 0 rfl rfl)
theorem dX4_gather_25 : decode cX4_gather 25 = .ok (.aload_n 0, 1) := dk_42 (dk_at dksX4_gather_1 1 rfl rfl)
theorem dX4_gather_26 : decode cX4_gather 26 = .ok (.getfield 302, 3) := dk_180 1 46 (dk_at dksX4_gather_1 2 rfl rfl)
theorem dX4_gather_29 : decode cX4_gather 29 = .ok (.iconst 1, 1) := dk_4 (dk_at dksX4_gather_1 5 rfl rfl)
theorem dX4_gather_30 : decode cX4_gather 30 = .ok (.if_icmp .ne 33, 3) := dk_160 0 33 (dk_at dksX4_gather_1 6 rfl rfl)
theorem dX4_gather_33 : decode cX4_gather 33 = .ok (.aload_n 0, 1) := dk_42 (dk_at dksX4_gather_1 9 rfl rfl)
theorem dX4_gather_34 : decode cX4_gather 34 = .ok (.getfield 25, 3) := dk_180 0 25 (dk_at dksX4_gather_1 10 rfl rfl)
theorem dX4_gather_37 : decode cX4_gather 37 = .ok (.bipush 16, 2) := dk_16 16 (dk_at dksX4_gather_1 13 rfl rfl)
theorem dX4_gather_39 : decode cX4_gather 39 = .ok (.iaload, 1) := dk_46 (dk_at dksX4_gather_1 15 rfl rfl)
theorem dX4_gather_40 : decode cX4_gather 40 = .ok (.ifCond .ne 23, 3) := dk_154 0 23 (dk_at dksX4_gather_1 16 rfl rfl)
theorem dX4_gather_43 : decode cX4_gather 43 = .ok (.aload_n 0, 1) := dk_42 (dk_at dksX4_gather_1 19 rfl rfl)
theorem dX4_gather_44 : decode cX4_gather 44 = .ok (.invokevirtual 308, 3) := dk_182 1 52 (dk_at dksX4_gather_1 20 rfl rfl)
theorem dX4_gather_47 : decode cX4_gather 47 = .ok (.ifCond .eq 16, 3) := dk_153 0 16 (dk_at dksX4_gather_2 0 rfl rfl)
theorem dX4_gather_50 : decode cX4_gather 50 = .ok (.aload_n 0, 1) := dk_42 (dk_at dksX4_gather_2 3 rfl rfl)
theorem dX4_gather_51 : decode cX4_gather 51 = .ok (.bipush 16, 2) := dk_16 16 (dk_at dksX4_gather_2 4 rfl rfl)
theorem dX4_gather_53 : decode cX4_gather 53 = .ok (.invokevirtual 236, 3) := dk_182 0 236 (dk_at dksX4_gather_2 6 rfl rfl)
theorem dX4_gather_56 : decode cX4_gather 56 = .ok (.ifCond .ne 7, 3) := dk_154 0 7 (dk_at dksX4_gather_2 9 rfl rfl)
theorem dX4_gather_59 : decode cX4_gather 59 = .ok (.iconst 1, 1) := dk_4 (dk_at dksX4_gather_2 12 rfl rfl)
theorem dX4_gather_60 : decode cX4_gather 60 = .ok (.goto 4, 3) := dk_167 0 4 (dk_at dksX4_gather_2 13 rfl rfl)
theorem dX4_gather_63 : decode cX4_gather 63 = .ok (.iconst 0, 1) := dk_3 (dk_at dksX4_gather_2 16 rfl rfl)
theorem dX4_gather_64 : decode cX4_gather 64 = .ok (.istore 4, 2) := dk_54 4 (dk_at dksX4_gather_2 17 rfl rfl)
theorem dX4_gather_66 : decode cX4_gather 66 = .ok (.aload_n 0, 1) := dk_42 (dk_at dksX4_gather_2 19 rfl rfl)
theorem dX4_gather_67 : decode cX4_gather 67 = .ok (.iload_n 3, 1) := dk_29 (dk_at dksX4_gather_2 20 rfl rfl)
theorem dX4_gather_68 : decode cX4_gather 68 = .ok (.ifCond .ne 7, 3) := dk_154 0 7 (dk_at dksX4_gather_2 21 rfl rfl)
theorem dX4_gather_71 : decode cX4_gather 71 = .ok (.iconst 1, 1) := dk_4 (dk_at dksX4_gather_3 0 rfl rfl)
theorem dX4_gather_72 : decode cX4_gather 72 = .ok (.goto 13, 3) := dk_167 0 13 (dk_at dksX4_gather_3 1 rfl rfl)
theorem dX4_gather_75 : decode cX4_gather 75 = .ok (.iload 4, 2) := dk_21 4 (dk_at dksX4_gather_3 4 rfl rfl)
theorem dX4_gather_77 : decode cX4_gather 77 = .ok (.ifCond .eq 7, 3) := dk_153 0 7 (dk_at dksX4_gather_3 6 rfl rfl)
theorem dX4_gather_80 : decode cX4_gather 80 = .ok (.iconst 0, 1) := dk_3 (dk_at dksX4_gather_3 9 rfl rfl)
theorem dX4_gather_81 : decode cX4_gather 81 = .ok (.goto 4, 3) := dk_167 0 4 (dk_at dksX4_gather_3 10 rfl rfl)
theorem dX4_gather_84 : decode cX4_gather 84 = .ok (.iconst 2, 1) := dk_5 (dk_at dksX4_gather_3 13 rfl rfl)
theorem dX4_gather_85 : decode cX4_gather 85 = .ok (.invokevirtual 266, 3) := dk_182 1 10 (dk_at dksX4_gather_3 14 rfl rfl)
theorem dX4_gather_88 : decode cX4_gather 88 = .ok (.ifCond .eq 17, 3) := dk_153 0 17 (dk_at dksX4_gather_3 17 rfl rfl)
theorem dX4_gather_91 : decode cX4_gather 91 = .ok (.aload_n 0, 1) := dk_42 (dk_at dksX4_gather_3 20 rfl rfl)
theorem dX4_gather_92 : decode cX4_gather 92 = .ok (.sipush 200, 3) := dk_17 0 200 (dk_at dksX4_gather_3 21 rfl rfl)
theorem dX4_gather_95 : decode cX4_gather 95 = .ok (.bipush 8, 2) := dk_16 8 (dk_at dksX4_gather_4 0 rfl rfl)
theorem dX4_gather_97 : decode cX4_gather 97 = .ok (.iload_n 1, 1) := dk_27 (dk_at dksX4_gather_4 2 rfl rfl)
theorem dX4_gather_98 : decode cX4_gather 98 = .ok (.imul, 1) := dk_104 (dk_at dksX4_gather_4 3 rfl rfl)
theorem dX4_gather_99 : decode cX4_gather 99 = .ok (.iadd, 1) := dk_96 (dk_at dksX4_gather_4 4 rfl rfl)
theorem dX4_gather_100 : decode cX4_gather 100 = .ok (.iload_n 2, 1) := dk_28 (dk_at dksX4_gather_4 5 rfl rfl)
theorem dX4_gather_101 : decode cX4_gather 101 = .ok (.iadd, 1) := dk_96 (dk_at dksX4_gather_4 6 rfl rfl)
theorem dX4_gather_102 : decode cX4_gather 102 = .ok (.invokevirtual 311, 3) := dk_182 1 55 (dk_at dksX4_gather_4 7 rfl rfl)
theorem dX4_gather_105 : decode cX4_gather 105 = .ok (.return_, 1) := dk_177 (dk_at dksX4_gather_4 10 rfl rfl)
abbrev cX4_atom : ByteArray := prog_19_method_65_code
def yX4_atom : MethodName := ⟨RX4, "atom", "(I)V"⟩
def dkwX4_atom_2 : List UInt8 := [177]
abbrev dktX4_atom_2 : List UInt8 := dkwX4_atom_2 ++ []
def dkwX4_atom_1 : List UInt8 := [182, 1, 61, 6, 162, 0, 7, 3, 167, 0, 4, 5, 182, 1, 10, 153, 0, 9, 42, 3, 27, 182, 1, 64]
abbrev dktX4_atom_1 : List UInt8 := dkwX4_atom_1 ++ dktX4_atom_2
def dkwX4_atom_0 : List UInt8 := [42, 42, 27, 182, 0, 140, 154, 0, 7, 4, 167, 0, 25, 42, 182, 1, 58, 153, 0, 17, 42, 16, 16]
abbrev dktX4_atom_0 : List UInt8 := dkwX4_atom_0 ++ dktX4_atom_1
theorem dksX4_atom_0 : cX4_atom.data.toList.drop 0 = dktX4_atom_0 := by decide +kernel
theorem dksX4_atom_1 : cX4_atom.data.toList.drop 23 = dktX4_atom_1 := dk_seg dksX4_atom_0 23 rfl rfl
theorem dksX4_atom_2 : cX4_atom.data.toList.drop 47 = dktX4_atom_2 := dk_seg dksX4_atom_1 24 rfl rfl
theorem dX4_atom_0 : decode cX4_atom 0 = .ok (.aload_n 0, 1) := dk_42 (dk_at dksX4_atom_0 0 rfl rfl)
theorem dX4_atom_1 : decode cX4_atom 1 = .ok (.aload_n 0, 1) := dk_42 (dk_at dksX4_atom_0 1 rfl rfl)
theorem dX4_atom_2 : decode cX4_atom 2 = .ok (.iload_n 1, 1) := dk_27 (dk_at dksX4_atom_0 2 rfl rfl)
theorem dX4_atom_3 : decode cX4_atom 3 = .ok (.invokevirtual 140, 3) := dk_182 0 140 (dk_at dksX4_atom_0 3 rfl rfl)
theorem dX4_atom_6 : decode cX4_atom 6 = .ok (.ifCond .ne 7, 3) := dk_154 0 7 (dk_at dksX4_atom_0 6 rfl rfl)
theorem dX4_atom_9 : decode cX4_atom 9 = .ok (.iconst 1, 1) := dk_4 (dk_at dksX4_atom_0 9 rfl rfl)
theorem dX4_atom_10 : decode cX4_atom 10 = .ok (.goto 25, 3) := dk_167 0 25 (dk_at dksX4_atom_0 10 rfl rfl)
theorem dX4_atom_13 : decode cX4_atom 13 = .ok (.aload_n 0, 1) := dk_42 (dk_at dksX4_atom_0 13 rfl rfl)
theorem dX4_atom_14 : decode cX4_atom 14 = .ok (.invokevirtual 314, 3) := dk_182 1 58 (dk_at dksX4_atom_0 14 rfl rfl)
theorem dX4_atom_17 : decode cX4_atom 17 = .ok (.ifCond .eq 17, 3) := dk_153 0 17 (dk_at dksX4_atom_0 17 rfl rfl)
theorem dX4_atom_20 : decode cX4_atom 20 = .ok (.aload_n 0, 1) := dk_42 (dk_at dksX4_atom_0 20 rfl rfl)
theorem dX4_atom_21 : decode cX4_atom 21 = .ok (.bipush 16, 2) := dk_16 16 (dk_at dksX4_atom_0 21 rfl rfl)
theorem dX4_atom_23 : decode cX4_atom 23 = .ok (.invokevirtual 317, 3) := dk_182 1 61 (dk_at dksX4_atom_1 0 rfl rfl)
theorem dX4_atom_26 : decode cX4_atom 26 = .ok (.iconst 3, 1) := dk_6 (dk_at dksX4_atom_1 3 rfl rfl)
theorem dX4_atom_27 : decode cX4_atom 27 = .ok (.if_icmp .ge 7, 3) := dk_162 0 7 (dk_at dksX4_atom_1 4 rfl rfl)
theorem dX4_atom_30 : decode cX4_atom 30 = .ok (.iconst 0, 1) := dk_3 (dk_at dksX4_atom_1 7 rfl rfl)
theorem dX4_atom_31 : decode cX4_atom 31 = .ok (.goto 4, 3) := dk_167 0 4 (dk_at dksX4_atom_1 8 rfl rfl)
theorem dX4_atom_34 : decode cX4_atom 34 = .ok (.iconst 2, 1) := dk_5 (dk_at dksX4_atom_1 11 rfl rfl)
theorem dX4_atom_35 : decode cX4_atom 35 = .ok (.invokevirtual 266, 3) := dk_182 1 10 (dk_at dksX4_atom_1 12 rfl rfl)
theorem dX4_atom_38 : decode cX4_atom 38 = .ok (.ifCond .eq 9, 3) := dk_153 0 9 (dk_at dksX4_atom_1 15 rfl rfl)
theorem dX4_atom_41 : decode cX4_atom 41 = .ok (.aload_n 0, 1) := dk_42 (dk_at dksX4_atom_1 18 rfl rfl)
theorem dX4_atom_42 : decode cX4_atom 42 = .ok (.iconst 0, 1) := dk_3 (dk_at dksX4_atom_1 19 rfl rfl)
theorem dX4_atom_43 : decode cX4_atom 43 = .ok (.iload_n 1, 1) := dk_27 (dk_at dksX4_atom_1 20 rfl rfl)
theorem dX4_atom_44 : decode cX4_atom 44 = .ok (.invokevirtual 320, 3) := dk_182 1 64 (dk_at dksX4_atom_1 21 rfl rfl)
theorem dX4_atom_47 : decode cX4_atom 47 = .ok (.return_, 1) := dk_177 (dk_at dksX4_atom_2 0 rfl rfl)
abbrev cX4_canAdd : ByteArray := prog_19_method_63_code
def yX4_canAdd : MethodName := ⟨RX4, "canAdd", "()Z"⟩
def dkwX4_canAdd_1 : List UInt8 := [162, 0, 7, 4, 167, 0, 4, 3, 172]
abbrev dktX4_canAdd_1 : List UInt8 := dkwX4_canAdd_1 ++ []
def dkwX4_canAdd_0 : List UInt8 := [42, 180, 1, 46, 158, 0, 26, 42, 182, 1, 52, 154, 0, 19, 42, 180, 0, 25, 16, 16, 46, 16, 6]
abbrev dktX4_canAdd_0 : List UInt8 := dkwX4_canAdd_0 ++ dktX4_canAdd_1
theorem dksX4_canAdd_0 : cX4_canAdd.data.toList.drop 0 = dktX4_canAdd_0 := by decide +kernel
theorem dksX4_canAdd_1 : cX4_canAdd.data.toList.drop 23 = dktX4_canAdd_1 := dk_seg dksX4_canAdd_0 23 rfl rfl
theorem dX4_canAdd_0 : decode cX4_canAdd 0 = .ok (.aload_n 0, 1) := dk_42 (dk_at dksX4_canAdd_0 0 rfl rfl)
theorem dX4_canAdd_1 : decode cX4_canAdd 1 = .ok (.getfield 302, 3) := dk_180 1 46 (dk_at dksX4_canAdd_0 1 rfl rfl)
theorem dX4_canAdd_4 : decode cX4_canAdd 4 = .ok (.ifCond .le 26, 3) := dk_158 0 26 (dk_at dksX4_canAdd_0 4 rfl rfl)
theorem dX4_canAdd_7 : decode cX4_canAdd 7 = .ok (.aload_n 0, 1) := dk_42 (dk_at dksX4_canAdd_0 7 rfl rfl)
theorem dX4_canAdd_8 : decode cX4_canAdd 8 = .ok (.invokevirtual 308, 3) := dk_182 1 52 (dk_at dksX4_canAdd_0 8 rfl rfl)
theorem dX4_canAdd_11 : decode cX4_canAdd 11 = .ok (.ifCond .ne 19, 3) := dk_154 0 19 (dk_at dksX4_canAdd_0 11 rfl rfl)
theorem dX4_canAdd_14 : decode cX4_canAdd 14 = .ok (.aload_n 0, 1) := dk_42 (dk_at dksX4_canAdd_0 14 rfl rfl)
theorem dX4_canAdd_15 : decode cX4_canAdd 15 = .ok (.getfield 25, 3) := dk_180 0 25 (dk_at dksX4_canAdd_0 15 rfl rfl)
theorem dX4_canAdd_18 : decode cX4_canAdd 18 = .ok (.bipush 16, 2) := dk_16 16 (dk_at dksX4_canAdd_0 18 rfl rfl)
theorem dX4_canAdd_20 : decode cX4_canAdd 20 = .ok (.iaload, 1) := dk_46 (dk_at dksX4_canAdd_0 20 rfl rfl)
theorem dX4_canAdd_21 : decode cX4_canAdd 21 = .ok (.bipush 6, 2) := dk_16 6 (dk_at dksX4_canAdd_0 21 rfl rfl)
theorem dX4_canAdd_23 : decode cX4_canAdd 23 = .ok (.if_icmp .ge 7, 3) := dk_162 0 7 (dk_at dksX4_canAdd_1 0 rfl rfl)
theorem dX4_canAdd_26 : decode cX4_canAdd 26 = .ok (.iconst 1, 1) := dk_4 (dk_at dksX4_canAdd_1 3 rfl rfl)
theorem dX4_canAdd_27 : decode cX4_canAdd 27 = .ok (.goto 4, 3) := dk_167 0 4 (dk_at dksX4_canAdd_1 4 rfl rfl)
theorem dX4_canAdd_30 : decode cX4_canAdd 30 = .ok (.iconst 0, 1) := dk_3 (dk_at dksX4_canAdd_1 7 rfl rfl)
theorem dX4_canAdd_31 : decode cX4_canAdd 31 = .ok (.ireturn, 1) := dk_172 (dk_at dksX4_canAdd_1 8 rfl rfl)
abbrev cX4_atomsOf : ByteArray := prog_19_method_55_code
def yX4_atomsOf : MethodName := ⟨RX4, "atomsOf", "(I)I"⟩
def dkwX4_atomsOf_1 : List UInt8 := [4, 167, 0, 4, 3, 96, 61, 132, 3, 1, 167, 255, 226, 28, 172]
abbrev dktX4_atomsOf_1 : List UInt8 := dkwX4_atomsOf_1 ++ []
def dkwX4_atomsOf_0 : List UInt8 := [3, 61, 3, 62, 29, 42, 180, 0, 25, 27, 46, 162, 0, 26, 28, 42, 27, 29, 182, 0, 148, 154, 0, 7]
abbrev dktX4_atomsOf_0 : List UInt8 := dkwX4_atomsOf_0 ++ dktX4_atomsOf_1
theorem dksX4_atomsOf_0 : cX4_atomsOf.data.toList.drop 0 = dktX4_atomsOf_0 := by decide +kernel
theorem dksX4_atomsOf_1 : cX4_atomsOf.data.toList.drop 24 = dktX4_atomsOf_1 := dk_seg dksX4_atomsOf_0 24 rfl rfl
theorem dX4_atomsOf_0 : decode cX4_atomsOf 0 = .ok (.iconst 0, 1) := dk_3 (dk_at dksX4_atomsOf_0 0 rfl rfl)
theorem dX4_atomsOf_1 : decode cX4_atomsOf 1 = .ok (.istore_n 2, 1) := dk_61 (dk_at dksX4_atomsOf_0 1 rfl rfl)
theorem dX4_atomsOf_2 : decode cX4_atomsOf 2 = .ok (.iconst 0, 1) := dk_3 (dk_at dksX4_atomsOf_0 2 rfl rfl)
theorem dX4_atomsOf_3 : decode cX4_atomsOf 3 = .ok (.istore_n 3, 1) := dk_62 (dk_at dksX4_atomsOf_0 3 rfl rfl)
theorem dX4_atomsOf_4 : decode cX4_atomsOf 4 = .ok (.iload_n 3, 1) := dk_29 (dk_at dksX4_atomsOf_0 4 rfl rfl)
theorem dX4_atomsOf_5 : decode cX4_atomsOf 5 = .ok (.aload_n 0, 1) := dk_42 (dk_at dksX4_atomsOf_0 5 rfl rfl)
theorem dX4_atomsOf_6 : decode cX4_atomsOf 6 = .ok (.getfield 25, 3) := dk_180 0 25 (dk_at dksX4_atomsOf_0 6 rfl rfl)
theorem dX4_atomsOf_9 : decode cX4_atomsOf 9 = .ok (.iload_n 1, 1) := dk_27 (dk_at dksX4_atomsOf_0 9 rfl rfl)
theorem dX4_atomsOf_10 : decode cX4_atomsOf 10 = .ok (.iaload, 1) := dk_46 (dk_at dksX4_atomsOf_0 10 rfl rfl)
theorem dX4_atomsOf_11 : decode cX4_atomsOf 11 = .ok (.if_icmp .ge 26, 3) := dk_162 0 26 (dk_at dksX4_atomsOf_0 11 rfl rfl)
theorem dX4_atomsOf_14 : decode cX4_atomsOf 14 = .ok (.iload_n 2, 1) := dk_28 (dk_at dksX4_atomsOf_0 14 rfl rfl)
theorem dX4_atomsOf_15 : decode cX4_atomsOf 15 = .ok (.aload_n 0, 1) := dk_42 (dk_at dksX4_atomsOf_0 15 rfl rfl)
theorem dX4_atomsOf_16 : decode cX4_atomsOf 16 = .ok (.iload_n 1, 1) := dk_27 (dk_at dksX4_atomsOf_0 16 rfl rfl)
theorem dX4_atomsOf_17 : decode cX4_atomsOf 17 = .ok (.iload_n 3, 1) := dk_29 (dk_at dksX4_atomsOf_0 17 rfl rfl)
theorem dX4_atomsOf_18 : decode cX4_atomsOf 18 = .ok (.invokevirtual 148, 3) := dk_182 0 148 (dk_at dksX4_atomsOf_0 18 rfl rfl)
theorem dX4_atomsOf_21 : decode cX4_atomsOf 21 = .ok (.ifCond .ne 7, 3) := dk_154 0 7 (dk_at dksX4_atomsOf_0 21 rfl rfl)
theorem dX4_atomsOf_24 : decode cX4_atomsOf 24 = .ok (.iconst 1, 1) := dk_4 (dk_at dksX4_atomsOf_1 0 rfl rfl)
theorem dX4_atomsOf_25 : decode cX4_atomsOf 25 = .ok (.goto 4, 3) := dk_167 0 4 (dk_at dksX4_atomsOf_1 1 rfl rfl)
theorem dX4_atomsOf_28 : decode cX4_atomsOf 28 = .ok (.iconst 0, 1) := dk_3 (dk_at dksX4_atomsOf_1 4 rfl rfl)
theorem dX4_atomsOf_29 : decode cX4_atomsOf 29 = .ok (.iadd, 1) := dk_96 (dk_at dksX4_atomsOf_1 5 rfl rfl)
theorem dX4_atomsOf_30 : decode cX4_atomsOf 30 = .ok (.istore_n 2, 1) := dk_61 (dk_at dksX4_atomsOf_1 6 rfl rfl)
theorem dX4_atomsOf_31 : decode cX4_atomsOf 31 = .ok (.iinc 3 1, 3) := dk_132 3 1 (dk_at dksX4_atomsOf_1 7 rfl rfl)
theorem dX4_atomsOf_34 : decode cX4_atomsOf 34 = .ok (.goto (-30), 3) := dk_167 255 226 (dk_at dksX4_atomsOf_1 10 rfl rfl)
theorem dX4_atomsOf_37 : decode cX4_atomsOf 37 = .ok (.iload_n 2, 1) := dk_28 (dk_at dksX4_atomsOf_1 13 rfl rfl)
theorem dX4_atomsOf_38 : decode cX4_atomsOf 38 = .ok (.ireturn, 1) := dk_172 (dk_at dksX4_atomsOf_1 14 rfl rfl)
abbrev cX4_addItem : ByteArray := prog_19_method_64_code
def yX4_addItem : MethodName := ⟨RX4, "addItem", "(II)V"⟩
def dkwX4_addItem_2 : List UInt8 := [181, 1, 40, 177]
abbrev dktX4_addItem_2 : List UInt8 := dkwX4_addItem_2 ++ []
def dkwX4_addItem_1 : List UInt8 := [180, 0, 25, 16, 16, 46, 96, 28, 79, 42, 180, 0, 25, 16, 16, 92, 46, 4, 96, 79, 42, 3]
abbrev dktX4_addItem_1 : List UInt8 := dkwX4_addItem_1 ++ dktX4_addItem_2
def dkwX4_addItem_0 : List UInt8 := [42, 180, 0, 28, 16, 96, 42, 180, 0, 25, 16, 16, 46, 96, 27, 79, 42, 180, 0, 31, 16, 96, 42]
abbrev dktX4_addItem_0 : List UInt8 := dkwX4_addItem_0 ++ dktX4_addItem_1
theorem dksX4_addItem_0 : cX4_addItem.data.toList.drop 0 = dktX4_addItem_0 := by decide +kernel
theorem dksX4_addItem_1 : cX4_addItem.data.toList.drop 23 = dktX4_addItem_1 := dk_seg dksX4_addItem_0 23 rfl rfl
theorem dksX4_addItem_2 : cX4_addItem.data.toList.drop 45 = dktX4_addItem_2 := dk_seg dksX4_addItem_1 22 rfl rfl
theorem dX4_addItem_0 : decode cX4_addItem 0 = .ok (.aload_n 0, 1) := dk_42 (dk_at dksX4_addItem_0 0 rfl rfl)
theorem dX4_addItem_1 : decode cX4_addItem 1 = .ok (.getfield 28, 3) := dk_180 0 28 (dk_at dksX4_addItem_0 1 rfl rfl)
theorem dX4_addItem_4 : decode cX4_addItem 4 = .ok (.bipush 96, 2) := dk_16 96 (dk_at dksX4_addItem_0 4 rfl rfl)
theorem dX4_addItem_6 : decode cX4_addItem 6 = .ok (.aload_n 0, 1) := dk_42 (dk_at dksX4_addItem_0 6 rfl rfl)
theorem dX4_addItem_7 : decode cX4_addItem 7 = .ok (.getfield 25, 3) := dk_180 0 25 (dk_at dksX4_addItem_0 7 rfl rfl)
theorem dX4_addItem_10 : decode cX4_addItem 10 = .ok (.bipush 16, 2) := dk_16 16 (dk_at dksX4_addItem_0 10 rfl rfl)
theorem dX4_addItem_12 : decode cX4_addItem 12 = .ok (.iaload, 1) := dk_46 (dk_at dksX4_addItem_0 12 rfl rfl)
theorem dX4_addItem_13 : decode cX4_addItem 13 = .ok (.iadd, 1) := dk_96 (dk_at dksX4_addItem_0 13 rfl rfl)
theorem dX4_addItem_14 : decode cX4_addItem 14 = .ok (.iload_n 1, 1) := dk_27 (dk_at dksX4_addItem_0 14 rfl rfl)
theorem dX4_addItem_15 : decode cX4_addItem 15 = .ok (.iastore, 1) := dk_79 (dk_at dksX4_addItem_0 15 rfl rfl)
theorem dX4_addItem_16 : decode cX4_addItem 16 = .ok (.aload_n 0, 1) := dk_42 (dk_at dksX4_addItem_0 16 rfl rfl)
theorem dX4_addItem_17 : decode cX4_addItem 17 = .ok (.getfield 31, 3) := dk_180 0 31 (dk_at dksX4_addItem_0 17 rfl rfl)
theorem dX4_addItem_20 : decode cX4_addItem 20 = .ok (.bipush 96, 2) := dk_16 96 (dk_at dksX4_addItem_0 20 rfl rfl)
theorem dX4_addItem_22 : decode cX4_addItem 22 = .ok (.aload_n 0, 1) := dk_42 (dk_at dksX4_addItem_0 22 rfl rfl)
theorem dX4_addItem_23 : decode cX4_addItem 23 = .ok (.getfield 25, 3) := dk_180 0 25 (dk_at dksX4_addItem_1 0 rfl rfl)
theorem dX4_addItem_26 : decode cX4_addItem 26 = .ok (.bipush 16, 2) := dk_16 16 (dk_at dksX4_addItem_1 3 rfl rfl)
theorem dX4_addItem_28 : decode cX4_addItem 28 = .ok (.iaload, 1) := dk_46 (dk_at dksX4_addItem_1 5 rfl rfl)
theorem dX4_addItem_29 : decode cX4_addItem 29 = .ok (.iadd, 1) := dk_96 (dk_at dksX4_addItem_1 6 rfl rfl)
theorem dX4_addItem_30 : decode cX4_addItem 30 = .ok (.iload_n 2, 1) := dk_28 (dk_at dksX4_addItem_1 7 rfl rfl)
theorem dX4_addItem_31 : decode cX4_addItem 31 = .ok (.iastore, 1) := dk_79 (dk_at dksX4_addItem_1 8 rfl rfl)
theorem dX4_addItem_32 : decode cX4_addItem 32 = .ok (.aload_n 0, 1) := dk_42 (dk_at dksX4_addItem_1 9 rfl rfl)
theorem dX4_addItem_33 : decode cX4_addItem 33 = .ok (.getfield 25, 3) := dk_180 0 25 (dk_at dksX4_addItem_1 10 rfl rfl)
theorem dX4_addItem_36 : decode cX4_addItem 36 = .ok (.bipush 16, 2) := dk_16 16 (dk_at dksX4_addItem_1 13 rfl rfl)
theorem dX4_addItem_38 : decode cX4_addItem 38 = .ok (.dup2, 1) := dk_92 (dk_at dksX4_addItem_1 15 rfl rfl)
theorem dX4_addItem_39 : decode cX4_addItem 39 = .ok (.iaload, 1) := dk_46 (dk_at dksX4_addItem_1 16 rfl rfl)
theorem dX4_addItem_40 : decode cX4_addItem 40 = .ok (.iconst 1, 1) := dk_4 (dk_at dksX4_addItem_1 17 rfl rfl)
theorem dX4_addItem_41 : decode cX4_addItem 41 = .ok (.iadd, 1) := dk_96 (dk_at dksX4_addItem_1 18 rfl rfl)
theorem dX4_addItem_42 : decode cX4_addItem 42 = .ok (.iastore, 1) := dk_79 (dk_at dksX4_addItem_1 19 rfl rfl)
theorem dX4_addItem_43 : decode cX4_addItem 43 = .ok (.aload_n 0, 1) := dk_42 (dk_at dksX4_addItem_1 20 rfl rfl)
theorem dX4_addItem_44 : decode cX4_addItem 44 = .ok (.iconst 0, 1) := dk_3 (dk_at dksX4_addItem_1 21 rfl rfl)
theorem dX4_addItem_45 : decode cX4_addItem 45 = .ok (.putfield 296, 3) := dk_181 1 40 (dk_at dksX4_addItem_2 0 rfl rfl)
theorem dX4_addItem_48 : decode cX4_addItem 48 = .ok (.return_, 1) := dk_177 (dk_at dksX4_addItem_2 3 rfl rfl)
abbrev cX4_not : ByteArray := prog_19_method_66_code
def yX4_not : MethodName := ⟨RX4, "not", "(I)V"⟩
def dkwX4_not_1 : List UInt8 := [5, 182, 1, 10, 153, 0, 9, 42, 4, 27, 182, 1, 64, 177]
abbrev dktX4_not_1 : List UInt8 := dkwX4_not_1 ++ []
def dkwX4_not_0 : List UInt8 := [42, 42, 27, 182, 0, 140, 154, 0, 7, 4, 167, 0, 15, 42, 182, 1, 58, 153, 0, 7, 3, 167, 0, 4]
abbrev dktX4_not_0 : List UInt8 := dkwX4_not_0 ++ dktX4_not_1
theorem dksX4_not_0 : cX4_not.data.toList.drop 0 = dktX4_not_0 := by decide +kernel
theorem dksX4_not_1 : cX4_not.data.toList.drop 24 = dktX4_not_1 := dk_seg dksX4_not_0 24 rfl rfl
theorem dX4_not_0 : decode cX4_not 0 = .ok (.aload_n 0, 1) := dk_42 (dk_at dksX4_not_0 0 rfl rfl)
theorem dX4_not_1 : decode cX4_not 1 = .ok (.aload_n 0, 1) := dk_42 (dk_at dksX4_not_0 1 rfl rfl)
theorem dX4_not_2 : decode cX4_not 2 = .ok (.iload_n 1, 1) := dk_27 (dk_at dksX4_not_0 2 rfl rfl)
theorem dX4_not_3 : decode cX4_not 3 = .ok (.invokevirtual 140, 3) := dk_182 0 140 (dk_at dksX4_not_0 3 rfl rfl)
theorem dX4_not_6 : decode cX4_not 6 = .ok (.ifCond .ne 7, 3) := dk_154 0 7 (dk_at dksX4_not_0 6 rfl rfl)
theorem dX4_not_9 : decode cX4_not 9 = .ok (.iconst 1, 1) := dk_4 (dk_at dksX4_not_0 9 rfl rfl)
theorem dX4_not_10 : decode cX4_not 10 = .ok (.goto 15, 3) := dk_167 0 15 (dk_at dksX4_not_0 10 rfl rfl)
theorem dX4_not_13 : decode cX4_not 13 = .ok (.aload_n 0, 1) := dk_42 (dk_at dksX4_not_0 13 rfl rfl)
theorem dX4_not_14 : decode cX4_not 14 = .ok (.invokevirtual 314, 3) := dk_182 1 58 (dk_at dksX4_not_0 14 rfl rfl)
theorem dX4_not_17 : decode cX4_not 17 = .ok (.ifCond .eq 7, 3) := dk_153 0 7 (dk_at dksX4_not_0 17 rfl rfl)
theorem dX4_not_20 : decode cX4_not 20 = .ok (.iconst 0, 1) := dk_3 (dk_at dksX4_not_0 20 rfl rfl)
theorem dX4_not_21 : decode cX4_not 21 = .ok (.goto 4, 3) := dk_167 0 4 (dk_at dksX4_not_0 21 rfl rfl)
theorem dX4_not_24 : decode cX4_not 24 = .ok (.iconst 2, 1) := dk_5 (dk_at dksX4_not_1 0 rfl rfl)
theorem dX4_not_25 : decode cX4_not 25 = .ok (.invokevirtual 266, 3) := dk_182 1 10 (dk_at dksX4_not_1 1 rfl rfl)
theorem dX4_not_28 : decode cX4_not 28 = .ok (.ifCond .eq 9, 3) := dk_153 0 9 (dk_at dksX4_not_1 4 rfl rfl)
theorem dX4_not_31 : decode cX4_not 31 = .ok (.aload_n 0, 1) := dk_42 (dk_at dksX4_not_1 7 rfl rfl)
theorem dX4_not_32 : decode cX4_not 32 = .ok (.iconst 1, 1) := dk_4 (dk_at dksX4_not_1 8 rfl rfl)
theorem dX4_not_33 : decode cX4_not 33 = .ok (.iload_n 1, 1) := dk_27 (dk_at dksX4_not_1 9 rfl rfl)
theorem dX4_not_34 : decode cX4_not 34 = .ok (.invokevirtual 320, 3) := dk_182 1 64 (dk_at dksX4_not_1 10 rfl rfl)
theorem dX4_not_37 : decode cX4_not 37 = .ok (.return_, 1) := dk_177 (dk_at dksX4_not_1 13 rfl rfl)
abbrev cX4_test : ByteArray := prog_19_method_67_code
def yX4_test : MethodName := ⟨RX4, "test", "(I)V"⟩
def dkwX4_test_1 : List UInt8 := [167, 0, 4, 5, 182, 1, 10, 153, 0, 9, 42, 5, 27, 182, 1, 64, 177]
abbrev dktX4_test_1 : List UInt8 := dkwX4_test_1 ++ []
def dkwX4_test_0 : List UInt8 := [42, 27, 3, 5, 184, 0, 135, 154, 0, 7, 4, 167, 0, 15, 42, 182, 1, 58, 153, 0, 7, 3]
abbrev dktX4_test_0 : List UInt8 := dkwX4_test_0 ++ dktX4_test_1
theorem dksX4_test_0 : cX4_test.data.toList.drop 0 = dktX4_test_0 := by decide +kernel
theorem dksX4_test_1 : cX4_test.data.toList.drop 22 = dktX4_test_1 := dk_seg dksX4_test_0 22 rfl rfl
theorem dX4_test_0 : decode cX4_test 0 = .ok (.aload_n 0, 1) := dk_42 (dk_at dksX4_test_0 0 rfl rfl)
theorem dX4_test_1 : decode cX4_test 1 = .ok (.iload_n 1, 1) := dk_27 (dk_at dksX4_test_0 1 rfl rfl)
theorem dX4_test_2 : decode cX4_test 2 = .ok (.iconst 0, 1) := dk_3 (dk_at dksX4_test_0 2 rfl rfl)
theorem dX4_test_3 : decode cX4_test 3 = .ok (.iconst 2, 1) := dk_5 (dk_at dksX4_test_0 3 rfl rfl)
theorem dX4_test_4 : decode cX4_test 4 = .ok (.invokestatic 135, 3) := dk_184 0 135 (dk_at dksX4_test_0 4 rfl rfl)
theorem dX4_test_7 : decode cX4_test 7 = .ok (.ifCond .ne 7, 3) := dk_154 0 7 (dk_at dksX4_test_0 7 rfl rfl)
theorem dX4_test_10 : decode cX4_test 10 = .ok (.iconst 1, 1) := dk_4 (dk_at dksX4_test_0 10 rfl rfl)
theorem dX4_test_11 : decode cX4_test 11 = .ok (.goto 15, 3) := dk_167 0 15 (dk_at dksX4_test_0 11 rfl rfl)
theorem dX4_test_14 : decode cX4_test 14 = .ok (.aload_n 0, 1) := dk_42 (dk_at dksX4_test_0 14 rfl rfl)
theorem dX4_test_15 : decode cX4_test 15 = .ok (.invokevirtual 314, 3) := dk_182 1 58 (dk_at dksX4_test_0 15 rfl rfl)
theorem dX4_test_18 : decode cX4_test 18 = .ok (.ifCond .eq 7, 3) := dk_153 0 7 (dk_at dksX4_test_0 18 rfl rfl)
theorem dX4_test_21 : decode cX4_test 21 = .ok (.iconst 0, 1) := dk_3 (dk_at dksX4_test_0 21 rfl rfl)
theorem dX4_test_22 : decode cX4_test 22 = .ok (.goto 4, 3) := dk_167 0 4 (dk_at dksX4_test_1 0 rfl rfl)
theorem dX4_test_25 : decode cX4_test 25 = .ok (.iconst 2, 1) := dk_5 (dk_at dksX4_test_1 3 rfl rfl)
theorem dX4_test_26 : decode cX4_test 26 = .ok (.invokevirtual 266, 3) := dk_182 1 10 (dk_at dksX4_test_1 4 rfl rfl)
theorem dX4_test_29 : decode cX4_test 29 = .ok (.ifCond .eq 9, 3) := dk_153 0 9 (dk_at dksX4_test_1 7 rfl rfl)
theorem dX4_test_32 : decode cX4_test 32 = .ok (.aload_n 0, 1) := dk_42 (dk_at dksX4_test_1 10 rfl rfl)
theorem dX4_test_33 : decode cX4_test 33 = .ok (.iconst 2, 1) := dk_5 (dk_at dksX4_test_1 11 rfl rfl)
theorem dX4_test_34 : decode cX4_test 34 = .ok (.iload_n 1, 1) := dk_27 (dk_at dksX4_test_1 12 rfl rfl)
theorem dX4_test_35 : decode cX4_test 35 = .ok (.invokevirtual 320, 3) := dk_182 1 64 (dk_at dksX4_test_1 13 rfl rfl)
theorem dX4_test_38 : decode cX4_test 38 = .ok (.return_, 1) := dk_177 (dk_at dksX4_test_1 16 rfl rfl)
abbrev cX4_plus : ByteArray := prog_19_method_68_code
def yX4_plus : MethodName := ⟨RX4, "plus", "()V"⟩
def dkwX4_plus_1 : List UInt8 := [182, 1, 64, 177]
abbrev dktX4_plus_1 : List UInt8 := dkwX4_plus_1 ++ []
def dkwX4_plus_0 : List UInt8 := [42, 42, 182, 1, 58, 153, 0, 7, 3, 167, 0, 4, 4, 182, 1, 10, 153, 0, 9, 42, 6, 3]
abbrev dktX4_plus_0 : List UInt8 := dkwX4_plus_0 ++ dktX4_plus_1
theorem dksX4_plus_0 : cX4_plus.data.toList.drop 0 = dktX4_plus_0 := by decide +kernel
theorem dksX4_plus_1 : cX4_plus.data.toList.drop 22 = dktX4_plus_1 := dk_seg dksX4_plus_0 22 rfl rfl
theorem dX4_plus_0 : decode cX4_plus 0 = .ok (.aload_n 0, 1) := dk_42 (dk_at dksX4_plus_0 0 rfl rfl)
theorem dX4_plus_1 : decode cX4_plus 1 = .ok (.aload_n 0, 1) := dk_42 (dk_at dksX4_plus_0 1 rfl rfl)
theorem dX4_plus_2 : decode cX4_plus 2 = .ok (.invokevirtual 314, 3) := dk_182 1 58 (dk_at dksX4_plus_0 2 rfl rfl)
theorem dX4_plus_5 : decode cX4_plus 5 = .ok (.ifCond .eq 7, 3) := dk_153 0 7 (dk_at dksX4_plus_0 5 rfl rfl)
theorem dX4_plus_8 : decode cX4_plus 8 = .ok (.iconst 0, 1) := dk_3 (dk_at dksX4_plus_0 8 rfl rfl)
theorem dX4_plus_9 : decode cX4_plus 9 = .ok (.goto 4, 3) := dk_167 0 4 (dk_at dksX4_plus_0 9 rfl rfl)
theorem dX4_plus_12 : decode cX4_plus 12 = .ok (.iconst 1, 1) := dk_4 (dk_at dksX4_plus_0 12 rfl rfl)
theorem dX4_plus_13 : decode cX4_plus 13 = .ok (.invokevirtual 266, 3) := dk_182 1 10 (dk_at dksX4_plus_0 13 rfl rfl)
theorem dX4_plus_16 : decode cX4_plus 16 = .ok (.ifCond .eq 9, 3) := dk_153 0 9 (dk_at dksX4_plus_0 16 rfl rfl)
theorem dX4_plus_19 : decode cX4_plus 19 = .ok (.aload_n 0, 1) := dk_42 (dk_at dksX4_plus_0 19 rfl rfl)
theorem dX4_plus_20 : decode cX4_plus 20 = .ok (.iconst 3, 1) := dk_6 (dk_at dksX4_plus_0 20 rfl rfl)
theorem dX4_plus_21 : decode cX4_plus 21 = .ok (.iconst 0, 1) := dk_3 (dk_at dksX4_plus_0 21 rfl rfl)
theorem dX4_plus_22 : decode cX4_plus 22 = .ok (.invokevirtual 320, 3) := dk_182 1 64 (dk_at dksX4_plus_1 0 rfl rfl)
theorem dX4_plus_25 : decode cX4_plus 25 = .ok (.return_, 1) := dk_177 (dk_at dksX4_plus_1 3 rfl rfl)
abbrev cX4_done : ByteArray := prog_19_method_71_code
def yX4_done : MethodName := ⟨RX4, "done", "()I"⟩
def dkwX4_done_11 : List UInt8 := [42, 6, 182, 1, 31, 3, 172, 42, 3, 181, 1, 46, 42, 180, 0, 16, 16, 16, 46, 172]
abbrev dktX4_done_11 : List UInt8 := dkwX4_done_11 ++ []
def dkwX4_done_10 : List UInt8 := [182, 1, 1, 153, 0, 14, 42, 182, 1, 28, 153, 0, 7, 3, 167, 0, 4, 4, 182, 1, 10, 154, 0, 10]
abbrev dktX4_done_10 : List UInt8 := dkwX4_done_10 ++ dktX4_done_11
def dkwX4_done_9 : List UInt8 := [42, 180, 0, 7, 4, 92, 46, 4, 96, 79, 42, 180, 0, 7, 6, 92, 46, 4, 96, 79, 42, 42]
abbrev dktX4_done_9 : List UInt8 := dkwX4_done_9 ++ dktX4_done_10
def dkwX4_done_8 : List UInt8 := [180, 0, 16, 16, 16, 42, 180, 0, 7, 6, 46, 79, 42, 16, 16, 42, 180, 0, 7, 4, 46, 182, 1, 70]
abbrev dktX4_done_8 : List UInt8 := dkwX4_done_8 ++ dktX4_done_9
def dkwX4_done_7 : List UInt8 := [4, 96, 79, 42, 180, 0, 7, 7, 92, 46, 4, 96, 79, 167, 0, 86, 42, 6, 182, 1, 19, 42]
abbrev dktX4_done_7 : List UInt8 := dkwX4_done_7 ++ dktX4_done_8
def dkwX4_done_6 : List UInt8 := [46, 79, 42, 16, 16, 16, 10, 42, 180, 0, 7, 5, 46, 96, 182, 1, 70, 42, 180, 0, 7, 5, 92, 46]
abbrev dktX4_done_6 : List UInt8 := dkwX4_done_6 ++ dktX4_done_7
def dkwX4_done_5 : List UInt8 := [154, 0, 5, 3, 172, 42, 180, 1, 46, 5, 160, 0, 54, 42, 180, 0, 16, 16, 16, 42, 180, 0, 7, 7]
abbrev dktX4_done_5 : List UInt8 := dkwX4_done_5 ++ dktX4_done_6
def dkwX4_done_4 : List UInt8 := [167, 0, 4, 3, 61, 42, 27, 153, 0, 11, 28, 153, 0, 7, 3, 167, 0, 4, 4, 182, 1, 10]
abbrev dktX4_done_4 : List UInt8 := dkwX4_done_4 ++ dktX4_done_5
def dkwX4_done_3 : List UInt8 := [162, 0, 7, 4, 167, 0, 23, 3, 167, 0, 19, 42, 180, 0, 7, 5, 46, 16, 6, 162, 0, 7, 4]
abbrev dktX4_done_3 : List UInt8 := dkwX4_done_3 ++ dktX4_done_4
def dkwX4_done_2 : List UInt8 := [4, 167, 0, 4, 3, 60, 42, 180, 1, 46, 4, 160, 0, 22, 42, 180, 0, 7, 4, 46, 16, 10]
abbrev dktX4_done_2 : List UInt8 := dkwX4_done_2 ++ dktX4_done_3
def dkwX4_done_1 : List UInt8 := [42, 180, 1, 46, 4, 159, 0, 12, 42, 16, 16, 182, 1, 61, 158, 0, 14, 42, 182, 1, 67, 153, 0, 7]
abbrev dktX4_done_1 : List UInt8 := dkwX4_done_1 ++ dktX4_done_2
def dkwX4_done_0 : List UInt8 := [42, 180, 1, 46, 158, 0, 48, 42, 182, 1, 52, 154, 0, 41, 42, 180, 0, 25, 16, 16, 46, 158, 0, 31]
abbrev dktX4_done_0 : List UInt8 := dkwX4_done_0 ++ dktX4_done_1
theorem dksX4_done_0 : cX4_done.data.toList.drop 0 = dktX4_done_0 := by decide +kernel
theorem dksX4_done_1 : cX4_done.data.toList.drop 24 = dktX4_done_1 := dk_seg dksX4_done_0 24 rfl rfl
theorem dksX4_done_2 : cX4_done.data.toList.drop 48 = dktX4_done_2 := dk_seg dksX4_done_1 24 rfl rfl
theorem dksX4_done_3 : cX4_done.data.toList.drop 70 = dktX4_done_3 := dk_seg dksX4_done_2 22 rfl rfl
theorem dksX4_done_4 : cX4_done.data.toList.drop 93 = dktX4_done_4 := dk_seg dksX4_done_3 23 rfl rfl
theorem dksX4_done_5 : cX4_done.data.toList.drop 115 = dktX4_done_5 := dk_seg dksX4_done_4 22 rfl rfl
theorem dksX4_done_6 : cX4_done.data.toList.drop 139 = dktX4_done_6 := dk_seg dksX4_done_5 24 rfl rfl
theorem dksX4_done_7 : cX4_done.data.toList.drop 163 = dktX4_done_7 := dk_seg dksX4_done_6 24 rfl rfl
theorem dksX4_done_8 : cX4_done.data.toList.drop 185 = dktX4_done_8 := dk_seg dksX4_done_7 22 rfl rfl
theorem dksX4_done_9 : cX4_done.data.toList.drop 209 = dktX4_done_9 := dk_seg dksX4_done_8 24 rfl rfl
theorem dksX4_done_10 : cX4_done.data.toList.drop 231 = dktX4_done_10 := dk_seg dksX4_done_9 22 rfl rfl
theorem dksX4_done_11 : cX4_done.data.toList.drop 255 = dktX4_done_11 := dk_seg dksX4_done_10 24 rfl rfl
theorem dX4_done_0 : decode cX4_done 0 = .ok (.aload_n 0, 1) := dk_42 (dk_at dksX4_done_0 0 rfl rfl)
theorem dX4_done_1 : decode cX4_done 1 = .ok (.getfield 302, 3) := dk_180 1 46 (dk_at dksX4_done_0 1 rfl rfl)
theorem dX4_done_4 : decode cX4_done 4 = .ok (.ifCond .le 48, 3) := dk_158 0 48 (dk_at dksX4_done_0 4 rfl rfl)
theorem dX4_done_7 : decode cX4_done 7 = .ok (.aload_n 0, 1) := dk_42 (dk_at dksX4_done_0 7 rfl rfl)
theorem dX4_done_8 : decode cX4_done 8 = .ok (.invokevirtual 308, 3) := dk_182 1 52 (dk_at dksX4_done_0 8 rfl rfl)
theorem dX4_done_11 : decode cX4_done 11 = .ok (.ifCond .ne 41, 3) := dk_154 0 41 (dk_at dksX4_done_0 11 rfl rfl)
theorem dX4_done_14 : decode cX4_done 14 = .ok (.aload_n 0, 1) := dk_42 (dk_at dksX4_done_0 14 rfl rfl)
theorem dX4_done_15 : decode cX4_done 15 = .ok (.getfield 25, 3) := dk_180 0 25 (dk_at dksX4_done_0 15 rfl rfl)
theorem dX4_done_18 : decode cX4_done 18 = .ok (.bipush 16, 2) := dk_16 16 (dk_at dksX4_done_0 18 rfl rfl)
theorem dX4_done_20 : decode cX4_done 20 = .ok (.iaload, 1) := dk_46 (dk_at dksX4_done_0 20 rfl rfl)
theorem dX4_done_21 : decode cX4_done 21 = .ok (.ifCond .le 31, 3) := dk_158 0 31 (dk_at dksX4_done_0 21 rfl rfl)
theorem dX4_done_24 : decode cX4_done 24 = .ok (.aload_n 0, 1) := dk_42 (dk_at dksX4_done_1 0 rfl rfl)
theorem dX4_done_25 : decode cX4_done 25 = .ok (.getfield 302, 3) := dk_180 1 46 (dk_at dksX4_done_1 1 rfl rfl)
theorem dX4_done_28 : decode cX4_done 28 = .ok (.iconst 1, 1) := dk_4 (dk_at dksX4_done_1 4 rfl rfl)
theorem dX4_done_29 : decode cX4_done 29 = .ok (.if_icmp .eq 12, 3) := dk_159 0 12 (dk_at dksX4_done_1 5 rfl rfl)
theorem dX4_done_32 : decode cX4_done 32 = .ok (.aload_n 0, 1) := dk_42 (dk_at dksX4_done_1 8 rfl rfl)
theorem dX4_done_33 : decode cX4_done 33 = .ok (.bipush 16, 2) := dk_16 16 (dk_at dksX4_done_1 9 rfl rfl)
theorem dX4_done_35 : decode cX4_done 35 = .ok (.invokevirtual 317, 3) := dk_182 1 61 (dk_at dksX4_done_1 11 rfl rfl)
theorem dX4_done_38 : decode cX4_done 38 = .ok (.ifCond .le 14, 3) := dk_158 0 14 (dk_at dksX4_done_1 14 rfl rfl)
theorem dX4_done_41 : decode cX4_done 41 = .ok (.aload_n 0, 1) := dk_42 (dk_at dksX4_done_1 17 rfl rfl)
theorem dX4_done_42 : decode cX4_done 42 = .ok (.invokevirtual 323, 3) := dk_182 1 67 (dk_at dksX4_done_1 18 rfl rfl)
theorem dX4_done_45 : decode cX4_done 45 = .ok (.ifCond .eq 7, 3) := dk_153 0 7 (dk_at dksX4_done_1 21 rfl rfl)
theorem dX4_done_48 : decode cX4_done 48 = .ok (.iconst 1, 1) := dk_4 (dk_at dksX4_done_2 0 rfl rfl)
theorem dX4_done_49 : decode cX4_done 49 = .ok (.goto 4, 3) := dk_167 0 4 (dk_at dksX4_done_2 1 rfl rfl)
theorem dX4_done_52 : decode cX4_done 52 = .ok (.iconst 0, 1) := dk_3 (dk_at dksX4_done_2 4 rfl rfl)
theorem dX4_done_53 : decode cX4_done 53 = .ok (.istore_n 1, 1) := dk_60 (dk_at dksX4_done_2 5 rfl rfl)
theorem dX4_done_54 : decode cX4_done 54 = .ok (.aload_n 0, 1) := dk_42 (dk_at dksX4_done_2 6 rfl rfl)
theorem dX4_done_55 : decode cX4_done 55 = .ok (.getfield 302, 3) := dk_180 1 46 (dk_at dksX4_done_2 7 rfl rfl)
theorem dX4_done_58 : decode cX4_done 58 = .ok (.iconst 1, 1) := dk_4 (dk_at dksX4_done_2 10 rfl rfl)
theorem dX4_done_59 : decode cX4_done 59 = .ok (.if_icmp .ne 22, 3) := dk_160 0 22 (dk_at dksX4_done_2 11 rfl rfl)
theorem dX4_done_62 : decode cX4_done 62 = .ok (.aload_n 0, 1) := dk_42 (dk_at dksX4_done_2 14 rfl rfl)
theorem dX4_done_63 : decode cX4_done 63 = .ok (.getfield 7, 3) := dk_180 0 7 (dk_at dksX4_done_2 15 rfl rfl)
theorem dX4_done_66 : decode cX4_done 66 = .ok (.iconst 1, 1) := dk_4 (dk_at dksX4_done_2 18 rfl rfl)
theorem dX4_done_67 : decode cX4_done 67 = .ok (.iaload, 1) := dk_46 (dk_at dksX4_done_2 19 rfl rfl)
theorem dX4_done_68 : decode cX4_done 68 = .ok (.bipush 10, 2) := dk_16 10 (dk_at dksX4_done_2 20 rfl rfl)
theorem dX4_done_70 : decode cX4_done 70 = .ok (.if_icmp .ge 7, 3) := dk_162 0 7 (dk_at dksX4_done_3 0 rfl rfl)
theorem dX4_done_73 : decode cX4_done 73 = .ok (.iconst 1, 1) := dk_4 (dk_at dksX4_done_3 3 rfl rfl)
theorem dX4_done_74 : decode cX4_done 74 = .ok (.goto 23, 3) := dk_167 0 23 (dk_at dksX4_done_3 4 rfl rfl)
theorem dX4_done_77 : decode cX4_done 77 = .ok (.iconst 0, 1) := dk_3 (dk_at dksX4_done_3 7 rfl rfl)
theorem dX4_done_78 : decode cX4_done 78 = .ok (.goto 19, 3) := dk_167 0 19 (dk_at dksX4_done_3 8 rfl rfl)
theorem dX4_done_81 : decode cX4_done 81 = .ok (.aload_n 0, 1) := dk_42 (dk_at dksX4_done_3 11 rfl rfl)
theorem dX4_done_82 : decode cX4_done 82 = .ok (.getfield 7, 3) := dk_180 0 7 (dk_at dksX4_done_3 12 rfl rfl)
theorem dX4_done_85 : decode cX4_done 85 = .ok (.iconst 2, 1) := dk_5 (dk_at dksX4_done_3 15 rfl rfl)
theorem dX4_done_86 : decode cX4_done 86 = .ok (.iaload, 1) := dk_46 (dk_at dksX4_done_3 16 rfl rfl)
theorem dX4_done_87 : decode cX4_done 87 = .ok (.bipush 6, 2) := dk_16 6 (dk_at dksX4_done_3 17 rfl rfl)
theorem dX4_done_89 : decode cX4_done 89 = .ok (.if_icmp .ge 7, 3) := dk_162 0 7 (dk_at dksX4_done_3 19 rfl rfl)
theorem dX4_done_92 : decode cX4_done 92 = .ok (.iconst 1, 1) := dk_4 (dk_at dksX4_done_3 22 rfl rfl)
theorem dX4_done_93 : decode cX4_done 93 = .ok (.goto 4, 3) := dk_167 0 4 (dk_at dksX4_done_4 0 rfl rfl)
theorem dX4_done_96 : decode cX4_done 96 = .ok (.iconst 0, 1) := dk_3 (dk_at dksX4_done_4 3 rfl rfl)
theorem dX4_done_97 : decode cX4_done 97 = .ok (.istore_n 2, 1) := dk_61 (dk_at dksX4_done_4 4 rfl rfl)
theorem dX4_done_98 : decode cX4_done 98 = .ok (.aload_n 0, 1) := dk_42 (dk_at dksX4_done_4 5 rfl rfl)
theorem dX4_done_99 : decode cX4_done 99 = .ok (.iload_n 1, 1) := dk_27 (dk_at dksX4_done_4 6 rfl rfl)
theorem dX4_done_100 : decode cX4_done 100 = .ok (.ifCond .eq 11, 3) := dk_153 0 11 (dk_at dksX4_done_4 7 rfl rfl)
theorem dX4_done_103 : decode cX4_done 103 = .ok (.iload_n 2, 1) := dk_28 (dk_at dksX4_done_4 10 rfl rfl)
theorem dX4_done_104 : decode cX4_done 104 = .ok (.ifCond .eq 7, 3) := dk_153 0 7 (dk_at dksX4_done_4 11 rfl rfl)
theorem dX4_done_107 : decode cX4_done 107 = .ok (.iconst 0, 1) := dk_3 (dk_at dksX4_done_4 14 rfl rfl)
theorem dX4_done_108 : decode cX4_done 108 = .ok (.goto 4, 3) := dk_167 0 4 (dk_at dksX4_done_4 15 rfl rfl)
theorem dX4_done_111 : decode cX4_done 111 = .ok (.iconst 1, 1) := dk_4 (dk_at dksX4_done_4 18 rfl rfl)
theorem dX4_done_112 : decode cX4_done 112 = .ok (.invokevirtual 266, 3) := dk_182 1 10 (dk_at dksX4_done_4 19 rfl rfl)
theorem dX4_done_115 : decode cX4_done 115 = .ok (.ifCond .ne 5, 3) := dk_154 0 5 (dk_at dksX4_done_5 0 rfl rfl)
theorem dX4_done_118 : decode cX4_done 118 = .ok (.iconst 0, 1) := dk_3 (dk_at dksX4_done_5 3 rfl rfl)
theorem dX4_done_119 : decode cX4_done 119 = .ok (.ireturn, 1) := dk_172 (dk_at dksX4_done_5 4 rfl rfl)
theorem dX4_done_120 : decode cX4_done 120 = .ok (.aload_n 0, 1) := dk_42 (dk_at dksX4_done_5 5 rfl rfl)
theorem dX4_done_121 : decode cX4_done 121 = .ok (.getfield 302, 3) := dk_180 1 46 (dk_at dksX4_done_5 6 rfl rfl)
theorem dX4_done_124 : decode cX4_done 124 = .ok (.iconst 2, 1) := dk_5 (dk_at dksX4_done_5 9 rfl rfl)
theorem dX4_done_125 : decode cX4_done 125 = .ok (.if_icmp .ne 54, 3) := dk_160 0 54 (dk_at dksX4_done_5 10 rfl rfl)
theorem dX4_done_128 : decode cX4_done 128 = .ok (.aload_n 0, 1) := dk_42 (dk_at dksX4_done_5 13 rfl rfl)
theorem dX4_done_129 : decode cX4_done 129 = .ok (.getfield 16, 3) := dk_180 0 16 (dk_at dksX4_done_5 14 rfl rfl)
theorem dX4_done_132 : decode cX4_done 132 = .ok (.bipush 16, 2) := dk_16 16 (dk_at dksX4_done_5 17 rfl rfl)
theorem dX4_done_134 : decode cX4_done 134 = .ok (.aload_n 0, 1) := dk_42 (dk_at dksX4_done_5 19 rfl rfl)
theorem dX4_done_135 : decode cX4_done 135 = .ok (.getfield 7, 3) := dk_180 0 7 (dk_at dksX4_done_5 20 rfl rfl)
theorem dX4_done_138 : decode cX4_done 138 = .ok (.iconst 4, 1) := dk_7 (dk_at dksX4_done_5 23 rfl rfl)
theorem dX4_done_139 : decode cX4_done 139 = .ok (.iaload, 1) := dk_46 (dk_at dksX4_done_6 0 rfl rfl)
theorem dX4_done_140 : decode cX4_done 140 = .ok (.iastore, 1) := dk_79 (dk_at dksX4_done_6 1 rfl rfl)
theorem dX4_done_141 : decode cX4_done 141 = .ok (.aload_n 0, 1) := dk_42 (dk_at dksX4_done_6 2 rfl rfl)
theorem dX4_done_142 : decode cX4_done 142 = .ok (.bipush 16, 2) := dk_16 16 (dk_at dksX4_done_6 3 rfl rfl)
theorem dX4_done_144 : decode cX4_done 144 = .ok (.bipush 10, 2) := dk_16 10 (dk_at dksX4_done_6 5 rfl rfl)
theorem dX4_done_146 : decode cX4_done 146 = .ok (.aload_n 0, 1) := dk_42 (dk_at dksX4_done_6 7 rfl rfl)
theorem dX4_done_147 : decode cX4_done 147 = .ok (.getfield 7, 3) := dk_180 0 7 (dk_at dksX4_done_6 8 rfl rfl)
theorem dX4_done_150 : decode cX4_done 150 = .ok (.iconst 2, 1) := dk_5 (dk_at dksX4_done_6 11 rfl rfl)
theorem dX4_done_151 : decode cX4_done 151 = .ok (.iaload, 1) := dk_46 (dk_at dksX4_done_6 12 rfl rfl)
theorem dX4_done_152 : decode cX4_done 152 = .ok (.iadd, 1) := dk_96 (dk_at dksX4_done_6 13 rfl rfl)
theorem dX4_done_153 : decode cX4_done 153 = .ok (.invokevirtual 326, 3) := dk_182 1 70 (dk_at dksX4_done_6 14 rfl rfl)
theorem dX4_done_156 : decode cX4_done 156 = .ok (.aload_n 0, 1) := dk_42 (dk_at dksX4_done_6 17 rfl rfl)
theorem dX4_done_157 : decode cX4_done 157 = .ok (.getfield 7, 3) := dk_180 0 7 (dk_at dksX4_done_6 18 rfl rfl)
theorem dX4_done_160 : decode cX4_done 160 = .ok (.iconst 2, 1) := dk_5 (dk_at dksX4_done_6 21 rfl rfl)
theorem dX4_done_161 : decode cX4_done 161 = .ok (.dup2, 1) := dk_92 (dk_at dksX4_done_6 22 rfl rfl)
theorem dX4_done_162 : decode cX4_done 162 = .ok (.iaload, 1) := dk_46 (dk_at dksX4_done_6 23 rfl rfl)
theorem dX4_done_163 : decode cX4_done 163 = .ok (.iconst 1, 1) := dk_4 (dk_at dksX4_done_7 0 rfl rfl)
theorem dX4_done_164 : decode cX4_done 164 = .ok (.iadd, 1) := dk_96 (dk_at dksX4_done_7 1 rfl rfl)
theorem dX4_done_165 : decode cX4_done 165 = .ok (.iastore, 1) := dk_79 (dk_at dksX4_done_7 2 rfl rfl)
theorem dX4_done_166 : decode cX4_done 166 = .ok (.aload_n 0, 1) := dk_42 (dk_at dksX4_done_7 3 rfl rfl)
theorem dX4_done_167 : decode cX4_done 167 = .ok (.getfield 7, 3) := dk_180 0 7 (dk_at dksX4_done_7 4 rfl rfl)
theorem dX4_done_170 : decode cX4_done 170 = .ok (.iconst 4, 1) := dk_7 (dk_at dksX4_done_7 7 rfl rfl)
theorem dX4_done_171 : decode cX4_done 171 = .ok (.dup2, 1) := dk_92 (dk_at dksX4_done_7 8 rfl rfl)
theorem dX4_done_172 : decode cX4_done 172 = .ok (.iaload, 1) := dk_46 (dk_at dksX4_done_7 9 rfl rfl)
theorem dX4_done_173 : decode cX4_done 173 = .ok (.iconst 1, 1) := dk_4 (dk_at dksX4_done_7 10 rfl rfl)
theorem dX4_done_174 : decode cX4_done 174 = .ok (.iadd, 1) := dk_96 (dk_at dksX4_done_7 11 rfl rfl)
theorem dX4_done_175 : decode cX4_done 175 = .ok (.iastore, 1) := dk_79 (dk_at dksX4_done_7 12 rfl rfl)
theorem dX4_done_176 : decode cX4_done 176 = .ok (.goto 86, 3) := dk_167 0 86 (dk_at dksX4_done_7 13 rfl rfl)
theorem dX4_done_179 : decode cX4_done 179 = .ok (.aload_n 0, 1) := dk_42 (dk_at dksX4_done_7 16 rfl rfl)
theorem dX4_done_180 : decode cX4_done 180 = .ok (.iconst 3, 1) := dk_6 (dk_at dksX4_done_7 17 rfl rfl)
theorem dX4_done_181 : decode cX4_done 181 = .ok (.invokevirtual 275, 3) := dk_182 1 19 (dk_at dksX4_done_7 18 rfl rfl)
theorem dX4_done_184 : decode cX4_done 184 = .ok (.aload_n 0, 1) := dk_42 (dk_at dksX4_done_7 21 rfl rfl)
theorem dX4_done_185 : decode cX4_done 185 = .ok (.getfield 16, 3) := dk_180 0 16 (dk_at dksX4_done_8 0 rfl rfl)
theorem dX4_done_188 : decode cX4_done 188 = .ok (.bipush 16, 2) := dk_16 16 (dk_at dksX4_done_8 3 rfl rfl)
theorem dX4_done_190 : decode cX4_done 190 = .ok (.aload_n 0, 1) := dk_42 (dk_at dksX4_done_8 5 rfl rfl)
theorem dX4_done_191 : decode cX4_done 191 = .ok (.getfield 7, 3) := dk_180 0 7 (dk_at dksX4_done_8 6 rfl rfl)
theorem dX4_done_194 : decode cX4_done 194 = .ok (.iconst 3, 1) := dk_6 (dk_at dksX4_done_8 9 rfl rfl)
theorem dX4_done_195 : decode cX4_done 195 = .ok (.iaload, 1) := dk_46 (dk_at dksX4_done_8 10 rfl rfl)
theorem dX4_done_196 : decode cX4_done 196 = .ok (.iastore, 1) := dk_79 (dk_at dksX4_done_8 11 rfl rfl)
theorem dX4_done_197 : decode cX4_done 197 = .ok (.aload_n 0, 1) := dk_42 (dk_at dksX4_done_8 12 rfl rfl)
theorem dX4_done_198 : decode cX4_done 198 = .ok (.bipush 16, 2) := dk_16 16 (dk_at dksX4_done_8 13 rfl rfl)
theorem dX4_done_200 : decode cX4_done 200 = .ok (.aload_n 0, 1) := dk_42 (dk_at dksX4_done_8 15 rfl rfl)
theorem dX4_done_201 : decode cX4_done 201 = .ok (.getfield 7, 3) := dk_180 0 7 (dk_at dksX4_done_8 16 rfl rfl)
theorem dX4_done_204 : decode cX4_done 204 = .ok (.iconst 1, 1) := dk_4 (dk_at dksX4_done_8 19 rfl rfl)
theorem dX4_done_205 : decode cX4_done 205 = .ok (.iaload, 1) := dk_46 (dk_at dksX4_done_8 20 rfl rfl)
theorem dX4_done_206 : decode cX4_done 206 = .ok (.invokevirtual 326, 3) := dk_182 1 70 (dk_at dksX4_done_8 21 rfl rfl)
theorem dX4_done_209 : decode cX4_done 209 = .ok (.aload_n 0, 1) := dk_42 (dk_at dksX4_done_9 0 rfl rfl)
theorem dX4_done_210 : decode cX4_done 210 = .ok (.getfield 7, 3) := dk_180 0 7 (dk_at dksX4_done_9 1 rfl rfl)
theorem dX4_done_213 : decode cX4_done 213 = .ok (.iconst 1, 1) := dk_4 (dk_at dksX4_done_9 4 rfl rfl)
theorem dX4_done_214 : decode cX4_done 214 = .ok (.dup2, 1) := dk_92 (dk_at dksX4_done_9 5 rfl rfl)
theorem dX4_done_215 : decode cX4_done 215 = .ok (.iaload, 1) := dk_46 (dk_at dksX4_done_9 6 rfl rfl)
theorem dX4_done_216 : decode cX4_done 216 = .ok (.iconst 1, 1) := dk_4 (dk_at dksX4_done_9 7 rfl rfl)
theorem dX4_done_217 : decode cX4_done 217 = .ok (.iadd, 1) := dk_96 (dk_at dksX4_done_9 8 rfl rfl)
theorem dX4_done_218 : decode cX4_done 218 = .ok (.iastore, 1) := dk_79 (dk_at dksX4_done_9 9 rfl rfl)
theorem dX4_done_219 : decode cX4_done 219 = .ok (.aload_n 0, 1) := dk_42 (dk_at dksX4_done_9 10 rfl rfl)
theorem dX4_done_220 : decode cX4_done 220 = .ok (.getfield 7, 3) := dk_180 0 7 (dk_at dksX4_done_9 11 rfl rfl)
theorem dX4_done_223 : decode cX4_done 223 = .ok (.iconst 3, 1) := dk_6 (dk_at dksX4_done_9 14 rfl rfl)
theorem dX4_done_224 : decode cX4_done 224 = .ok (.dup2, 1) := dk_92 (dk_at dksX4_done_9 15 rfl rfl)
theorem dX4_done_225 : decode cX4_done 225 = .ok (.iaload, 1) := dk_46 (dk_at dksX4_done_9 16 rfl rfl)
theorem dX4_done_226 : decode cX4_done 226 = .ok (.iconst 1, 1) := dk_4 (dk_at dksX4_done_9 17 rfl rfl)
theorem dX4_done_227 : decode cX4_done 227 = .ok (.iadd, 1) := dk_96 (dk_at dksX4_done_9 18 rfl rfl)
theorem dX4_done_228 : decode cX4_done 228 = .ok (.iastore, 1) := dk_79 (dk_at dksX4_done_9 19 rfl rfl)
theorem dX4_done_229 : decode cX4_done 229 = .ok (.aload_n 0, 1) := dk_42 (dk_at dksX4_done_9 20 rfl rfl)
theorem dX4_done_230 : decode cX4_done 230 = .ok (.aload_n 0, 1) := dk_42 (dk_at dksX4_done_9 21 rfl rfl)
theorem dX4_done_231 : decode cX4_done 231 = .ok (.invokevirtual 257, 3) := dk_182 1 1 (dk_at dksX4_done_10 0 rfl rfl)
theorem dX4_done_234 : decode cX4_done 234 = .ok (.ifCond .eq 14, 3) := dk_153 0 14 (dk_at dksX4_done_10 3 rfl rfl)
theorem dX4_done_237 : decode cX4_done 237 = .ok (.aload_n 0, 1) := dk_42 (dk_at dksX4_done_10 6 rfl rfl)
theorem dX4_done_238 : decode cX4_done 238 = .ok (.invokevirtual 284, 3) := dk_182 1 28 (dk_at dksX4_done_10 7 rfl rfl)
theorem dX4_done_241 : decode cX4_done 241 = .ok (.ifCond .eq 7, 3) := dk_153 0 7 (dk_at dksX4_done_10 10 rfl rfl)
theorem dX4_done_244 : decode cX4_done 244 = .ok (.iconst 0, 1) := dk_3 (dk_at dksX4_done_10 13 rfl rfl)
theorem dX4_done_245 : decode cX4_done 245 = .ok (.goto 4, 3) := dk_167 0 4 (dk_at dksX4_done_10 14 rfl rfl)
theorem dX4_done_248 : decode cX4_done 248 = .ok (.iconst 1, 1) := dk_4 (dk_at dksX4_done_10 17 rfl rfl)
theorem dX4_done_249 : decode cX4_done 249 = .ok (.invokevirtual 266, 3) := dk_182 1 10 (dk_at dksX4_done_10 18 rfl rfl)
theorem dX4_done_252 : decode cX4_done 252 = .ok (.ifCond .ne 10, 3) := dk_154 0 10 (dk_at dksX4_done_10 21 rfl rfl)
theorem dX4_done_255 : decode cX4_done 255 = .ok (.aload_n 0, 1) := dk_42 (dk_at dksX4_done_11 0 rfl rfl)
theorem dX4_done_256 : decode cX4_done 256 = .ok (.iconst 3, 1) := dk_6 (dk_at dksX4_done_11 1 rfl rfl)
theorem dX4_done_257 : decode cX4_done 257 = .ok (.invokevirtual 287, 3) := dk_182 1 31 (dk_at dksX4_done_11 2 rfl rfl)
theorem dX4_done_260 : decode cX4_done 260 = .ok (.iconst 0, 1) := dk_3 (dk_at dksX4_done_11 5 rfl rfl)
theorem dX4_done_261 : decode cX4_done 261 = .ok (.ireturn, 1) := dk_172 (dk_at dksX4_done_11 6 rfl rfl)
theorem dX4_done_262 : decode cX4_done 262 = .ok (.aload_n 0, 1) := dk_42 (dk_at dksX4_done_11 7 rfl rfl)
theorem dX4_done_263 : decode cX4_done 263 = .ok (.iconst 0, 1) := dk_3 (dk_at dksX4_done_11 8 rfl rfl)
theorem dX4_done_264 : decode cX4_done 264 = .ok (.putfield 302, 3) := dk_181 1 46 (dk_at dksX4_done_11 9 rfl rfl)
theorem dX4_done_267 : decode cX4_done 267 = .ok (.aload_n 0, 1) := dk_42 (dk_at dksX4_done_11 12 rfl rfl)
theorem dX4_done_268 : decode cX4_done 268 = .ok (.getfield 16, 3) := dk_180 0 16 (dk_at dksX4_done_11 13 rfl rfl)
theorem dX4_done_271 : decode cX4_done 271 = .ok (.bipush 16, 2) := dk_16 16 (dk_at dksX4_done_11 16 rfl rfl)
theorem dX4_done_273 : decode cX4_done 273 = .ok (.iaload, 1) := dk_46 (dk_at dksX4_done_11 18 rfl rfl)
theorem dX4_done_274 : decode cX4_done 274 = .ok (.ireturn, 1) := dk_172 (dk_at dksX4_done_11 19 rfl rfl)
abbrev cX4_isSound : ByteArray := prog_19_method_69_code
def yX4_isSound : MethodName := ⟨RX4, "isSound", "()Z"⟩
def dkwX4_isSound_11 : List UInt8 := [167, 255, 172, 28, 172]
abbrev dktX4_isSound_11 : List UInt8 := dkwX4_isSound_11 ++ []
def dkwX4_isSound_10 : List UInt8 := [161, 0, 13, 27, 21, 5, 122, 4, 126, 4, 160, 0, 7, 4, 167, 0, 4, 3, 61, 132, 3, 1]
abbrev dktX4_isSound_10 : List UInt8 := dkwX4_isSound_10 ++ dktX4_isSound_11
def dkwX4_isSound_9 : List UInt8 := [100, 16, 8, 112, 167, 0, 8, 21, 4, 16, 100, 100, 54, 5, 28, 153, 0, 24, 21, 4, 16, 100]
abbrev dktX4_isSound_9 : List UInt8 := dkwX4_isSound_9 ++ dktX4_isSound_10
def dkwX4_isSound_8 : List UInt8 := [42, 180, 0, 22, 16, 48, 29, 96, 46, 54, 4, 21, 4, 17, 0, 200, 161, 0, 15, 21, 4, 17, 0, 200]
abbrev dktX4_isSound_8 : List UInt8 := dkwX4_isSound_8 ++ dktX4_isSound_9
def dkwX4_isSound_7 : List UInt8 := [132, 3, 1, 167, 255, 96, 3, 62, 29, 42, 180, 0, 13, 42, 180, 0, 19, 16, 16, 46, 46, 162, 0, 74]
abbrev dktX4_isSound_7 : List UInt8 := dkwX4_isSound_7 ++ dktX4_isSound_8
def dkwX4_isSound_6 : List UInt8 := [16, 100, 100, 120, 167, 0, 4, 3, 128, 54, 5, 132, 6, 1, 167, 255, 133, 27, 21, 5, 128, 60]
abbrev dktX4_isSound_6 : List UInt8 := dkwX4_isSound_6 ++ dktX4_isSound_7
def dkwX4_isSound_5 : List UInt8 := [160, 0, 7, 4, 167, 0, 4, 3, 61, 21, 5, 21, 8, 153, 0, 18, 21, 9, 153, 0, 13, 4, 21, 7]
abbrev dktX4_isSound_5 : List UInt8 := dkwX4_isSound_5 ++ dktX4_isSound_6
def dkwX4_isSound_4 : List UInt8 := [153, 0, 30, 21, 8, 153, 0, 21, 21, 9, 154, 0, 16, 27, 21, 7, 16, 100, 100, 122, 4, 126, 4]
abbrev dktX4_isSound_4 : List UInt8 := dkwX4_isSound_4 ++ dktX4_isSound_5
def dkwX4_isSound_3 : List UInt8 := [153, 0, 15, 21, 4, 6, 160, 0, 13, 21, 6, 5, 160, 0, 7, 4, 167, 0, 4, 3, 54, 9, 28]
abbrev dktX4_isSound_3 : List UInt8 := dkwX4_isSound_3 ++ dktX4_isSound_4
def dkwX4_isSound_2 : List UInt8 := [21, 6, 182, 0, 172, 54, 7, 21, 7, 16, 100, 161, 0, 7, 4, 167, 0, 4, 3, 54, 8, 21, 4]
abbrev dktX4_isSound_2 : List UInt8 := dkwX4_isSound_2 ++ dktX4_isSound_3
def dkwX4_isSound_1 : List UInt8 := [54, 4, 3, 54, 5, 3, 54, 6, 21, 6, 42, 16, 16, 29, 182, 1, 43, 162, 0, 117, 42, 16, 16, 29]
abbrev dktX4_isSound_1 : List UInt8 := dkwX4_isSound_1 ++ dktX4_isSound_2
def dkwX4_isSound_0 : List UInt8 := [3, 60, 4, 61, 3, 62, 29, 42, 180, 0, 25, 16, 16, 46, 162, 0, 155, 42, 16, 16, 29, 182, 0, 148]
abbrev dktX4_isSound_0 : List UInt8 := dkwX4_isSound_0 ++ dktX4_isSound_1
theorem dksX4_isSound_0 : cX4_isSound.data.toList.drop 0 = dktX4_isSound_0 := by decide +kernel
theorem dksX4_isSound_1 : cX4_isSound.data.toList.drop 24 = dktX4_isSound_1 := dk_seg dksX4_isSound_0 24 rfl rfl
theorem dksX4_isSound_2 : cX4_isSound.data.toList.drop 48 = dktX4_isSound_2 := dk_seg dksX4_isSound_1 24 rfl rfl
theorem dksX4_isSound_3 : cX4_isSound.data.toList.drop 71 = dktX4_isSound_3 := dk_seg dksX4_isSound_2 23 rfl rfl
theorem dksX4_isSound_4 : cX4_isSound.data.toList.drop 94 = dktX4_isSound_4 := dk_seg dksX4_isSound_3 23 rfl rfl
theorem dksX4_isSound_5 : cX4_isSound.data.toList.drop 117 = dktX4_isSound_5 := dk_seg dksX4_isSound_4 23 rfl rfl
theorem dksX4_isSound_6 : cX4_isSound.data.toList.drop 141 = dktX4_isSound_6 := dk_seg dksX4_isSound_5 24 rfl rfl
theorem dksX4_isSound_7 : cX4_isSound.data.toList.drop 163 = dktX4_isSound_7 := dk_seg dksX4_isSound_6 22 rfl rfl
theorem dksX4_isSound_8 : cX4_isSound.data.toList.drop 187 = dktX4_isSound_8 := dk_seg dksX4_isSound_7 24 rfl rfl
theorem dksX4_isSound_9 : cX4_isSound.data.toList.drop 211 = dktX4_isSound_9 := dk_seg dksX4_isSound_8 24 rfl rfl
theorem dksX4_isSound_10 : cX4_isSound.data.toList.drop 233 = dktX4_isSound_10 := dk_seg dksX4_isSound_9 22 rfl rfl
theorem dksX4_isSound_11 : cX4_isSound.data.toList.drop 255 = dktX4_isSound_11 := dk_seg dksX4_isSound_10 22 rfl rfl
theorem dX4_isSound_0 : decode cX4_isSound 0 = .ok (.iconst 0, 1) := dk_3 (dk_at dksX4_isSound_0 0 rfl rfl)
theorem dX4_isSound_1 : decode cX4_isSound 1 = .ok (.istore_n 1, 1) := dk_60 (dk_at dksX4_isSound_0 1 rfl rfl)
theorem dX4_isSound_2 : decode cX4_isSound 2 = .ok (.iconst 1, 1) := dk_4 (dk_at dksX4_isSound_0 2 rfl rfl)
theorem dX4_isSound_3 : decode cX4_isSound 3 = .ok (.istore_n 2, 1) := dk_61 (dk_at dksX4_isSound_0 3 rfl rfl)
theorem dX4_isSound_4 : decode cX4_isSound 4 = .ok (.iconst 0, 1) := dk_3 (dk_at dksX4_isSound_0 4 rfl rfl)
theorem dX4_isSound_5 : decode cX4_isSound 5 = .ok (.istore_n 3, 1) := dk_62 (dk_at dksX4_isSound_0 5 rfl rfl)
theorem dX4_isSound_6 : decode cX4_isSound 6 = .ok (.iload_n 3, 1) := dk_29 (dk_at dksX4_isSound_0 6 rfl rfl)
theorem dX4_isSound_7 : decode cX4_isSound 7 = .ok (.aload_n 0, 1) := dk_42 (dk_at dksX4_isSound_0 7 rfl rfl)
theorem dX4_isSound_8 : decode cX4_isSound 8 = .ok (.getfield 25, 3) := dk_180 0 25 (dk_at dksX4_isSound_0 8 rfl rfl)
theorem dX4_isSound_11 : decode cX4_isSound 11 = .ok (.bipush 16, 2) := dk_16 16 (dk_at dksX4_isSound_0 11 rfl rfl)
theorem dX4_isSound_13 : decode cX4_isSound 13 = .ok (.iaload, 1) := dk_46 (dk_at dksX4_isSound_0 13 rfl rfl)
theorem dX4_isSound_14 : decode cX4_isSound 14 = .ok (.if_icmp .ge 155, 3) := dk_162 0 155 (dk_at dksX4_isSound_0 14 rfl rfl)
theorem dX4_isSound_17 : decode cX4_isSound 17 = .ok (.aload_n 0, 1) := dk_42 (dk_at dksX4_isSound_0 17 rfl rfl)
theorem dX4_isSound_18 : decode cX4_isSound 18 = .ok (.bipush 16, 2) := dk_16 16 (dk_at dksX4_isSound_0 18 rfl rfl)
theorem dX4_isSound_20 : decode cX4_isSound 20 = .ok (.iload_n 3, 1) := dk_29 (dk_at dksX4_isSound_0 20 rfl rfl)
theorem dX4_isSound_21 : decode cX4_isSound 21 = .ok (.invokevirtual 148, 3) := dk_182 0 148 (dk_at dksX4_isSound_0 21 rfl rfl)
theorem dX4_isSound_24 : decode cX4_isSound 24 = .ok (.istore 4, 2) := dk_54 4 (dk_at dksX4_isSound_1 0 rfl rfl)
theorem dX4_isSound_26 : decode cX4_isSound 26 = .ok (.iconst 0, 1) := dk_3 (dk_at dksX4_isSound_1 2 rfl rfl)
theorem dX4_isSound_27 : decode cX4_isSound 27 = .ok (.istore 5, 2) := dk_54 5 (dk_at dksX4_isSound_1 3 rfl rfl)
theorem dX4_isSound_29 : decode cX4_isSound 29 = .ok (.iconst 0, 1) := dk_3 (dk_at dksX4_isSound_1 5 rfl rfl)
theorem dX4_isSound_30 : decode cX4_isSound 30 = .ok (.istore 6, 2) := dk_54 6 (dk_at dksX4_isSound_1 6 rfl rfl)
theorem dX4_isSound_32 : decode cX4_isSound 32 = .ok (.iload 6, 2) := dk_21 6 (dk_at dksX4_isSound_1 8 rfl rfl)
theorem dX4_isSound_34 : decode cX4_isSound 34 = .ok (.aload_n 0, 1) := dk_42 (dk_at dksX4_isSound_1 10 rfl rfl)
theorem dX4_isSound_35 : decode cX4_isSound 35 = .ok (.bipush 16, 2) := dk_16 16 (dk_at dksX4_isSound_1 11 rfl rfl)
theorem dX4_isSound_37 : decode cX4_isSound 37 = .ok (.iload_n 3, 1) := dk_29 (dk_at dksX4_isSound_1 13 rfl rfl)
theorem dX4_isSound_38 : decode cX4_isSound 38 = .ok (.invokevirtual 299, 3) := dk_182 1 43 (dk_at dksX4_isSound_1 14 rfl rfl)
theorem dX4_isSound_41 : decode cX4_isSound 41 = .ok (.if_icmp .ge 117, 3) := dk_162 0 117 (dk_at dksX4_isSound_1 17 rfl rfl)
theorem dX4_isSound_44 : decode cX4_isSound 44 = .ok (.aload_n 0, 1) := dk_42 (dk_at dksX4_isSound_1 20 rfl rfl)
theorem dX4_isSound_45 : decode cX4_isSound 45 = .ok (.bipush 16, 2) := dk_16 16 (dk_at dksX4_isSound_1 21 rfl rfl)
theorem dX4_isSound_47 : decode cX4_isSound 47 = .ok (.iload_n 3, 1) := dk_29 (dk_at dksX4_isSound_1 23 rfl rfl)
theorem dX4_isSound_48 : decode cX4_isSound 48 = .ok (.iload 6, 2) := dk_21 6 (dk_at dksX4_isSound_2 0 rfl rfl)
theorem dX4_isSound_50 : decode cX4_isSound 50 = .ok (.invokevirtual 172, 3) := dk_182 0 172 (dk_at dksX4_isSound_2 2 rfl rfl)
theorem dX4_isSound_53 : decode cX4_isSound 53 = .ok (.istore 7, 2) := dk_54 7 (dk_at dksX4_isSound_2 5 rfl rfl)
theorem dX4_isSound_55 : decode cX4_isSound 55 = .ok (.iload 7, 2) := dk_21 7 (dk_at dksX4_isSound_2 7 rfl rfl)
theorem dX4_isSound_57 : decode cX4_isSound 57 = .ok (.bipush 100, 2) := dk_16 100 (dk_at dksX4_isSound_2 9 rfl rfl)
theorem dX4_isSound_59 : decode cX4_isSound 59 = .ok (.if_icmp .lt 7, 3) := dk_161 0 7 (dk_at dksX4_isSound_2 11 rfl rfl)
theorem dX4_isSound_62 : decode cX4_isSound 62 = .ok (.iconst 1, 1) := dk_4 (dk_at dksX4_isSound_2 14 rfl rfl)
theorem dX4_isSound_63 : decode cX4_isSound 63 = .ok (.goto 4, 3) := dk_167 0 4 (dk_at dksX4_isSound_2 15 rfl rfl)
theorem dX4_isSound_66 : decode cX4_isSound 66 = .ok (.iconst 0, 1) := dk_3 (dk_at dksX4_isSound_2 18 rfl rfl)
theorem dX4_isSound_67 : decode cX4_isSound 67 = .ok (.istore 8, 2) := dk_54 8 (dk_at dksX4_isSound_2 19 rfl rfl)
theorem dX4_isSound_69 : decode cX4_isSound 69 = .ok (.iload 4, 2) := dk_21 4 (dk_at dksX4_isSound_2 21 rfl rfl)
theorem dX4_isSound_71 : decode cX4_isSound 71 = .ok (.ifCond .eq 15, 3) := dk_153 0 15 (dk_at dksX4_isSound_3 0 rfl rfl)
theorem dX4_isSound_74 : decode cX4_isSound 74 = .ok (.iload 4, 2) := dk_21 4 (dk_at dksX4_isSound_3 3 rfl rfl)
theorem dX4_isSound_76 : decode cX4_isSound 76 = .ok (.iconst 3, 1) := dk_6 (dk_at dksX4_isSound_3 5 rfl rfl)
theorem dX4_isSound_77 : decode cX4_isSound 77 = .ok (.if_icmp .ne 13, 3) := dk_160 0 13 (dk_at dksX4_isSound_3 6 rfl rfl)
theorem dX4_isSound_80 : decode cX4_isSound 80 = .ok (.iload 6, 2) := dk_21 6 (dk_at dksX4_isSound_3 9 rfl rfl)
theorem dX4_isSound_82 : decode cX4_isSound 82 = .ok (.iconst 2, 1) := dk_5 (dk_at dksX4_isSound_3 11 rfl rfl)
theorem dX4_isSound_83 : decode cX4_isSound 83 = .ok (.if_icmp .ne 7, 3) := dk_160 0 7 (dk_at dksX4_isSound_3 12 rfl rfl)
theorem dX4_isSound_86 : decode cX4_isSound 86 = .ok (.iconst 1, 1) := dk_4 (dk_at dksX4_isSound_3 15 rfl rfl)
theorem dX4_isSound_87 : decode cX4_isSound 87 = .ok (.goto 4, 3) := dk_167 0 4 (dk_at dksX4_isSound_3 16 rfl rfl)
theorem dX4_isSound_90 : decode cX4_isSound 90 = .ok (.iconst 0, 1) := dk_3 (dk_at dksX4_isSound_3 19 rfl rfl)
theorem dX4_isSound_91 : decode cX4_isSound 91 = .ok (.istore 9, 2) := dk_54 9 (dk_at dksX4_isSound_3 20 rfl rfl)
theorem dX4_isSound_93 : decode cX4_isSound 93 = .ok (.iload_n 2, 1) := dk_28 (dk_at dksX4_isSound_3 22 rfl rfl)
theorem dX4_isSound_94 : decode cX4_isSound 94 = .ok (.ifCond .eq 30, 3) := dk_153 0 30 (dk_at dksX4_isSound_4 0 rfl rfl)
theorem dX4_isSound_97 : decode cX4_isSound 97 = .ok (.iload 8, 2) := dk_21 8 (dk_at dksX4_isSound_4 3 rfl rfl)
theorem dX4_isSound_99 : decode cX4_isSound 99 = .ok (.ifCond .eq 21, 3) := dk_153 0 21 (dk_at dksX4_isSound_4 5 rfl rfl)
theorem dX4_isSound_102 : decode cX4_isSound 102 = .ok (.iload 9, 2) := dk_21 9 (dk_at dksX4_isSound_4 8 rfl rfl)
theorem dX4_isSound_104 : decode cX4_isSound 104 = .ok (.ifCond .ne 16, 3) := dk_154 0 16 (dk_at dksX4_isSound_4 10 rfl rfl)
theorem dX4_isSound_107 : decode cX4_isSound 107 = .ok (.iload_n 1, 1) := dk_27 (dk_at dksX4_isSound_4 13 rfl rfl)
theorem dX4_isSound_108 : decode cX4_isSound 108 = .ok (.iload 7, 2) := dk_21 7 (dk_at dksX4_isSound_4 14 rfl rfl)
theorem dX4_isSound_110 : decode cX4_isSound 110 = .ok (.bipush 100, 2) := dk_16 100 (dk_at dksX4_isSound_4 16 rfl rfl)
theorem dX4_isSound_112 : decode cX4_isSound 112 = .ok (.isub, 1) := dk_100 (dk_at dksX4_isSound_4 18 rfl rfl)
theorem dX4_isSound_113 : decode cX4_isSound 113 = .ok (.ishr, 1) := dk_122 (dk_at dksX4_isSound_4 19 rfl rfl)
theorem dX4_isSound_114 : decode cX4_isSound 114 = .ok (.iconst 1, 1) := dk_4 (dk_at dksX4_isSound_4 20 rfl rfl)
theorem dX4_isSound_115 : decode cX4_isSound 115 = .ok (.iand, 1) := dk_126 (dk_at dksX4_isSound_4 21 rfl rfl)
theorem dX4_isSound_116 : decode cX4_isSound 116 = .ok (.iconst 1, 1) := dk_4 (dk_at dksX4_isSound_4 22 rfl rfl)
theorem dX4_isSound_117 : decode cX4_isSound 117 = .ok (.if_icmp .ne 7, 3) := dk_160 0 7 (dk_at dksX4_isSound_5 0 rfl rfl)
theorem dX4_isSound_120 : decode cX4_isSound 120 = .ok (.iconst 1, 1) := dk_4 (dk_at dksX4_isSound_5 3 rfl rfl)
theorem dX4_isSound_121 : decode cX4_isSound 121 = .ok (.goto 4, 3) := dk_167 0 4 (dk_at dksX4_isSound_5 4 rfl rfl)
theorem dX4_isSound_124 : decode cX4_isSound 124 = .ok (.iconst 0, 1) := dk_3 (dk_at dksX4_isSound_5 7 rfl rfl)
theorem dX4_isSound_125 : decode cX4_isSound 125 = .ok (.istore_n 2, 1) := dk_61 (dk_at dksX4_isSound_5 8 rfl rfl)
theorem dX4_isSound_126 : decode cX4_isSound 126 = .ok (.iload 5, 2) := dk_21 5 (dk_at dksX4_isSound_5 9 rfl rfl)
theorem dX4_isSound_128 : decode cX4_isSound 128 = .ok (.iload 8, 2) := dk_21 8 (dk_at dksX4_isSound_5 11 rfl rfl)
theorem dX4_isSound_130 : decode cX4_isSound 130 = .ok (.ifCond .eq 18, 3) := dk_153 0 18 (dk_at dksX4_isSound_5 13 rfl rfl)
theorem dX4_isSound_133 : decode cX4_isSound 133 = .ok (.iload 9, 2) := dk_21 9 (dk_at dksX4_isSound_5 16 rfl rfl)
theorem dX4_isSound_135 : decode cX4_isSound 135 = .ok (.ifCond .eq 13, 3) := dk_153 0 13 (dk_at dksX4_isSound_5 18 rfl rfl)
theorem dX4_isSound_138 : decode cX4_isSound 138 = .ok (.iconst 1, 1) := dk_4 (dk_at dksX4_isSound_5 21 rfl rfl)
theorem dX4_isSound_139 : decode cX4_isSound 139 = .ok (.iload 7, 2) := dk_21 7 (dk_at dksX4_isSound_5 22 rfl rfl)
theorem dX4_isSound_141 : decode cX4_isSound 141 = .ok (.bipush 100, 2) := dk_16 100 (dk_at dksX4_isSound_6 0 rfl rfl)
theorem dX4_isSound_143 : decode cX4_isSound 143 = .ok (.isub, 1) := dk_100 (dk_at dksX4_isSound_6 2 rfl rfl)
theorem dX4_isSound_144 : decode cX4_isSound 144 = .ok (.ishl, 1) := dk_120 (dk_at dksX4_isSound_6 3 rfl rfl)
theorem dX4_isSound_145 : decode cX4_isSound 145 = .ok (.goto 4, 3) := dk_167 0 4 (dk_at dksX4_isSound_6 4 rfl rfl)
theorem dX4_isSound_148 : decode cX4_isSound 148 = .ok (.iconst 0, 1) := dk_3 (dk_at dksX4_isSound_6 7 rfl rfl)
theorem dX4_isSound_149 : decode cX4_isSound 149 = .ok (.ior, 1) := dk_128 (dk_at dksX4_isSound_6 8 rfl rfl)
theorem dX4_isSound_150 : decode cX4_isSound 150 = .ok (.istore 5, 2) := dk_54 5 (dk_at dksX4_isSound_6 9 rfl rfl)
theorem dX4_isSound_152 : decode cX4_isSound 152 = .ok (.iinc 6 1, 3) := dk_132 6 1 (dk_at dksX4_isSound_6 11 rfl rfl)
theorem dX4_isSound_155 : decode cX4_isSound 155 = .ok (.goto (-123), 3) := dk_167 255 133 (dk_at dksX4_isSound_6 14 rfl rfl)
theorem dX4_isSound_158 : decode cX4_isSound 158 = .ok (.iload_n 1, 1) := dk_27 (dk_at dksX4_isSound_6 17 rfl rfl)
theorem dX4_isSound_159 : decode cX4_isSound 159 = .ok (.iload 5, 2) := dk_21 5 (dk_at dksX4_isSound_6 18 rfl rfl)
theorem dX4_isSound_161 : decode cX4_isSound 161 = .ok (.ior, 1) := dk_128 (dk_at dksX4_isSound_6 20 rfl rfl)
theorem dX4_isSound_162 : decode cX4_isSound 162 = .ok (.istore_n 1, 1) := dk_60 (dk_at dksX4_isSound_6 21 rfl rfl)
theorem dX4_isSound_163 : decode cX4_isSound 163 = .ok (.iinc 3 1, 3) := dk_132 3 1 (dk_at dksX4_isSound_7 0 rfl rfl)
theorem dX4_isSound_166 : decode cX4_isSound 166 = .ok (.goto (-160), 3) := dk_167 255 96 (dk_at dksX4_isSound_7 3 rfl rfl)
theorem dX4_isSound_169 : decode cX4_isSound 169 = .ok (.iconst 0, 1) := dk_3 (dk_at dksX4_isSound_7 6 rfl rfl)
theorem dX4_isSound_170 : decode cX4_isSound 170 = .ok (.istore_n 3, 1) := dk_62 (dk_at dksX4_isSound_7 7 rfl rfl)
theorem dX4_isSound_171 : decode cX4_isSound 171 = .ok (.iload_n 3, 1) := dk_29 (dk_at dksX4_isSound_7 8 rfl rfl)
theorem dX4_isSound_172 : decode cX4_isSound 172 = .ok (.aload_n 0, 1) := dk_42 (dk_at dksX4_isSound_7 9 rfl rfl)
theorem dX4_isSound_173 : decode cX4_isSound 173 = .ok (.getfield 13, 3) := dk_180 0 13 (dk_at dksX4_isSound_7 10 rfl rfl)
theorem dX4_isSound_176 : decode cX4_isSound 176 = .ok (.aload_n 0, 1) := dk_42 (dk_at dksX4_isSound_7 13 rfl rfl)
theorem dX4_isSound_177 : decode cX4_isSound 177 = .ok (.getfield 19, 3) := dk_180 0 19 (dk_at dksX4_isSound_7 14 rfl rfl)
theorem dX4_isSound_180 : decode cX4_isSound 180 = .ok (.bipush 16, 2) := dk_16 16 (dk_at dksX4_isSound_7 17 rfl rfl)
theorem dX4_isSound_182 : decode cX4_isSound 182 = .ok (.iaload, 1) := dk_46 (dk_at dksX4_isSound_7 19 rfl rfl)
theorem dX4_isSound_183 : decode cX4_isSound 183 = .ok (.iaload, 1) := dk_46 (dk_at dksX4_isSound_7 20 rfl rfl)
theorem dX4_isSound_184 : decode cX4_isSound 184 = .ok (.if_icmp .ge 74, 3) := dk_162 0 74 (dk_at dksX4_isSound_7 21 rfl rfl)
theorem dX4_isSound_187 : decode cX4_isSound 187 = .ok (.aload_n 0, 1) := dk_42 (dk_at dksX4_isSound_8 0 rfl rfl)
theorem dX4_isSound_188 : decode cX4_isSound 188 = .ok (.getfield 22, 3) := dk_180 0 22 (dk_at dksX4_isSound_8 1 rfl rfl)
theorem dX4_isSound_191 : decode cX4_isSound 191 = .ok (.bipush 48, 2) := dk_16 48 (dk_at dksX4_isSound_8 4 rfl rfl)
theorem dX4_isSound_193 : decode cX4_isSound 193 = .ok (.iload_n 3, 1) := dk_29 (dk_at dksX4_isSound_8 6 rfl rfl)
theorem dX4_isSound_194 : decode cX4_isSound 194 = .ok (.iadd, 1) := dk_96 (dk_at dksX4_isSound_8 7 rfl rfl)
theorem dX4_isSound_195 : decode cX4_isSound 195 = .ok (.iaload, 1) := dk_46 (dk_at dksX4_isSound_8 8 rfl rfl)
theorem dX4_isSound_196 : decode cX4_isSound 196 = .ok (.istore 4, 2) := dk_54 4 (dk_at dksX4_isSound_8 9 rfl rfl)
theorem dX4_isSound_198 : decode cX4_isSound 198 = .ok (.iload 4, 2) := dk_21 4 (dk_at dksX4_isSound_8 11 rfl rfl)
theorem dX4_isSound_200 : decode cX4_isSound 200 = .ok (.sipush 200, 3) := dk_17 0 200 (dk_at dksX4_isSound_8 13 rfl rfl)
theorem dX4_isSound_203 : decode cX4_isSound 203 = .ok (.if_icmp .lt 15, 3) := dk_161 0 15 (dk_at dksX4_isSound_8 16 rfl rfl)
theorem dX4_isSound_206 : decode cX4_isSound 206 = .ok (.iload 4, 2) := dk_21 4 (dk_at dksX4_isSound_8 19 rfl rfl)
theorem dX4_isSound_208 : decode cX4_isSound 208 = .ok (.sipush 200, 3) := dk_17 0 200 (dk_at dksX4_isSound_8 21 rfl rfl)
theorem dX4_isSound_211 : decode cX4_isSound 211 = .ok (.isub, 1) := dk_100 (dk_at dksX4_isSound_9 0 rfl rfl)
theorem dX4_isSound_212 : decode cX4_isSound 212 = .ok (.bipush 8, 2) := dk_16 8 (dk_at dksX4_isSound_9 1 rfl rfl)
theorem dX4_isSound_214 : decode cX4_isSound 214 = .ok (.irem, 1) := dk_112 (dk_at dksX4_isSound_9 3 rfl rfl)
theorem dX4_isSound_215 : decode cX4_isSound 215 = .ok (.goto 8, 3) := dk_167 0 8 (dk_at dksX4_isSound_9 4 rfl rfl)
theorem dX4_isSound_218 : decode cX4_isSound 218 = .ok (.iload 4, 2) := dk_21 4 (dk_at dksX4_isSound_9 7 rfl rfl)
theorem dX4_isSound_220 : decode cX4_isSound 220 = .ok (.bipush 100, 2) := dk_16 100 (dk_at dksX4_isSound_9 9 rfl rfl)
theorem dX4_isSound_222 : decode cX4_isSound 222 = .ok (.isub, 1) := dk_100 (dk_at dksX4_isSound_9 11 rfl rfl)
theorem dX4_isSound_223 : decode cX4_isSound 223 = .ok (.istore 5, 2) := dk_54 5 (dk_at dksX4_isSound_9 12 rfl rfl)
theorem dX4_isSound_225 : decode cX4_isSound 225 = .ok (.iload_n 2, 1) := dk_28 (dk_at dksX4_isSound_9 14 rfl rfl)
theorem dX4_isSound_226 : decode cX4_isSound 226 = .ok (.ifCond .eq 24, 3) := dk_153 0 24 (dk_at dksX4_isSound_9 15 rfl rfl)
theorem dX4_isSound_229 : decode cX4_isSound 229 = .ok (.iload 4, 2) := dk_21 4 (dk_at dksX4_isSound_9 18 rfl rfl)
theorem dX4_isSound_231 : decode cX4_isSound 231 = .ok (.bipush 100, 2) := dk_16 100 (dk_at dksX4_isSound_9 20 rfl rfl)
theorem dX4_isSound_233 : decode cX4_isSound 233 = .ok (.if_icmp .lt 13, 3) := dk_161 0 13 (dk_at dksX4_isSound_10 0 rfl rfl)
theorem dX4_isSound_236 : decode cX4_isSound 236 = .ok (.iload_n 1, 1) := dk_27 (dk_at dksX4_isSound_10 3 rfl rfl)
theorem dX4_isSound_237 : decode cX4_isSound 237 = .ok (.iload 5, 2) := dk_21 5 (dk_at dksX4_isSound_10 4 rfl rfl)
theorem dX4_isSound_239 : decode cX4_isSound 239 = .ok (.ishr, 1) := dk_122 (dk_at dksX4_isSound_10 6 rfl rfl)
theorem dX4_isSound_240 : decode cX4_isSound 240 = .ok (.iconst 1, 1) := dk_4 (dk_at dksX4_isSound_10 7 rfl rfl)
theorem dX4_isSound_241 : decode cX4_isSound 241 = .ok (.iand, 1) := dk_126 (dk_at dksX4_isSound_10 8 rfl rfl)
theorem dX4_isSound_242 : decode cX4_isSound 242 = .ok (.iconst 1, 1) := dk_4 (dk_at dksX4_isSound_10 9 rfl rfl)
theorem dX4_isSound_243 : decode cX4_isSound 243 = .ok (.if_icmp .ne 7, 3) := dk_160 0 7 (dk_at dksX4_isSound_10 10 rfl rfl)
theorem dX4_isSound_246 : decode cX4_isSound 246 = .ok (.iconst 1, 1) := dk_4 (dk_at dksX4_isSound_10 13 rfl rfl)
theorem dX4_isSound_247 : decode cX4_isSound 247 = .ok (.goto 4, 3) := dk_167 0 4 (dk_at dksX4_isSound_10 14 rfl rfl)
theorem dX4_isSound_250 : decode cX4_isSound 250 = .ok (.iconst 0, 1) := dk_3 (dk_at dksX4_isSound_10 17 rfl rfl)
theorem dX4_isSound_251 : decode cX4_isSound 251 = .ok (.istore_n 2, 1) := dk_61 (dk_at dksX4_isSound_10 18 rfl rfl)
theorem dX4_isSound_252 : decode cX4_isSound 252 = .ok (.iinc 3 1, 3) := dk_132 3 1 (dk_at dksX4_isSound_10 19 rfl rfl)
theorem dX4_isSound_255 : decode cX4_isSound 255 = .ok (.goto (-84), 3) := dk_167 255 172 (dk_at dksX4_isSound_11 0 rfl rfl)
theorem dX4_isSound_258 : decode cX4_isSound 258 = .ok (.iload_n 2, 1) := dk_28 (dk_at dksX4_isSound_11 3 rfl rfl)
theorem dX4_isSound_259 : decode cX4_isSound 259 = .ok (.ireturn, 1) := dk_172 (dk_at dksX4_isSound_11 4 rfl rfl)
abbrev cX4_copyBody : ByteArray := prog_19_method_70_code
def yX4_copyBody : MethodName := ⟨RX4, "copyBody", "(II)V"⟩
def dkwX4_copyBody_6 : List UInt8 := [42, 180, 0, 34, 16, 18, 28, 104, 16, 18, 184, 0, 144, 62, 177]
abbrev dktX4_copyBody_6 : List UInt8 := dkwX4_copyBody_6 ++ []
def dkwX4_copyBody_5 : List UInt8 := [27, 104, 42, 180, 0, 31, 16, 6, 28, 104, 16, 6, 184, 0, 144, 62, 42, 180, 0, 34, 16, 18, 27, 104]
abbrev dktX4_copyBody_5 : List UInt8 := dkwX4_copyBody_5 ++ dktX4_copyBody_6
def dkwX4_copyBody_4 : List UInt8 := [16, 6, 27, 104, 42, 180, 0, 28, 16, 6, 28, 104, 16, 6, 184, 0, 144, 62, 42, 180, 0, 31, 16, 6]
abbrev dktX4_copyBody_4 : List UInt8 := dkwX4_copyBody_4 ++ dktX4_copyBody_5
def dkwX4_copyBody_3 : List UInt8 := [42, 180, 0, 22, 6, 27, 104, 42, 180, 0, 22, 6, 28, 104, 6, 184, 0, 144, 62, 42, 180, 0, 28]
abbrev dktX4_copyBody_3 : List UInt8 := dkwX4_copyBody_3 ++ dktX4_copyBody_4
def dkwX4_copyBody_2 : List UInt8 := [42, 180, 0, 40, 28, 42, 180, 0, 40, 27, 46, 79, 42, 180, 0, 43, 28, 42, 180, 0, 43, 27, 46, 79]
abbrev dktX4_copyBody_2 : List UInt8 := dkwX4_copyBody_2 ++ dktX4_copyBody_3
def dkwX4_copyBody_1 : List UInt8 := [42, 180, 0, 25, 28, 42, 180, 0, 25, 27, 46, 79, 42, 180, 0, 37, 28, 42, 180, 0, 37, 27, 46, 79]
abbrev dktX4_copyBody_1 : List UInt8 := dkwX4_copyBody_1 ++ dktX4_copyBody_2
def dkwX4_copyBody_0 : List UInt8 := [42, 180, 0, 16, 28, 42, 180, 0, 16, 27, 46, 79, 42, 180, 0, 19, 28, 42, 180, 0, 19, 27, 46, 79]
abbrev dktX4_copyBody_0 : List UInt8 := dkwX4_copyBody_0 ++ dktX4_copyBody_1
theorem dksX4_copyBody_0 : cX4_copyBody.data.toList.drop 0 = dktX4_copyBody_0 := by decide +kernel
theorem dksX4_copyBody_1 : cX4_copyBody.data.toList.drop 24 = dktX4_copyBody_1 := dk_seg dksX4_copyBody_0 24 rfl rfl
theorem dksX4_copyBody_2 : cX4_copyBody.data.toList.drop 48 = dktX4_copyBody_2 := dk_seg dksX4_copyBody_1 24 rfl rfl
theorem dksX4_copyBody_3 : cX4_copyBody.data.toList.drop 72 = dktX4_copyBody_3 := dk_seg dksX4_copyBody_2 24 rfl rfl
theorem dksX4_copyBody_4 : cX4_copyBody.data.toList.drop 95 = dktX4_copyBody_4 := dk_seg dksX4_copyBody_3 23 rfl rfl
theorem dksX4_copyBody_5 : cX4_copyBody.data.toList.drop 119 = dktX4_copyBody_5 := dk_seg dksX4_copyBody_4 24 rfl rfl
theorem dksX4_copyBody_6 : cX4_copyBody.data.toList.drop 143 = dktX4_copyBody_6 := dk_seg dksX4_copyBody_5 24 rfl rfl
theorem dX4_copyBody_0 : decode cX4_copyBody 0 = .ok (.aload_n 0, 1) := dk_42 (dk_at dksX4_copyBody_0 0 rfl rfl)
theorem dX4_copyBody_1 : decode cX4_copyBody 1 = .ok (.getfield 16, 3) := dk_180 0 16 (dk_at dksX4_copyBody_0 1 rfl rfl)
theorem dX4_copyBody_4 : decode cX4_copyBody 4 = .ok (.iload_n 2, 1) := dk_28 (dk_at dksX4_copyBody_0 4 rfl rfl)
theorem dX4_copyBody_5 : decode cX4_copyBody 5 = .ok (.aload_n 0, 1) := dk_42 (dk_at dksX4_copyBody_0 5 rfl rfl)
theorem dX4_copyBody_6 : decode cX4_copyBody 6 = .ok (.getfield 16, 3) := dk_180 0 16 (dk_at dksX4_copyBody_0 6 rfl rfl)
theorem dX4_copyBody_9 : decode cX4_copyBody 9 = .ok (.iload_n 1, 1) := dk_27 (dk_at dksX4_copyBody_0 9 rfl rfl)
theorem dX4_copyBody_10 : decode cX4_copyBody 10 = .ok (.iaload, 1) := dk_46 (dk_at dksX4_copyBody_0 10 rfl rfl)
theorem dX4_copyBody_11 : decode cX4_copyBody 11 = .ok (.iastore, 1) := dk_79 (dk_at dksX4_copyBody_0 11 rfl rfl)
theorem dX4_copyBody_12 : decode cX4_copyBody 12 = .ok (.aload_n 0, 1) := dk_42 (dk_at dksX4_copyBody_0 12 rfl rfl)
theorem dX4_copyBody_13 : decode cX4_copyBody 13 = .ok (.getfield 19, 3) := dk_180 0 19 (dk_at dksX4_copyBody_0 13 rfl rfl)
theorem dX4_copyBody_16 : decode cX4_copyBody 16 = .ok (.iload_n 2, 1) := dk_28 (dk_at dksX4_copyBody_0 16 rfl rfl)
theorem dX4_copyBody_17 : decode cX4_copyBody 17 = .ok (.aload_n 0, 1) := dk_42 (dk_at dksX4_copyBody_0 17 rfl rfl)
theorem dX4_copyBody_18 : decode cX4_copyBody 18 = .ok (.getfield 19, 3) := dk_180 0 19 (dk_at dksX4_copyBody_0 18 rfl rfl)
theorem dX4_copyBody_21 : decode cX4_copyBody 21 = .ok (.iload_n 1, 1) := dk_27 (dk_at dksX4_copyBody_0 21 rfl rfl)
theorem dX4_copyBody_22 : decode cX4_copyBody 22 = .ok (.iaload, 1) := dk_46 (dk_at dksX4_copyBody_0 22 rfl rfl)
theorem dX4_copyBody_23 : decode cX4_copyBody 23 = .ok (.iastore, 1) := dk_79 (dk_at dksX4_copyBody_0 23 rfl rfl)
theorem dX4_copyBody_24 : decode cX4_copyBody 24 = .ok (.aload_n 0, 1) := dk_42 (dk_at dksX4_copyBody_1 0 rfl rfl)
theorem dX4_copyBody_25 : decode cX4_copyBody 25 = .ok (.getfield 25, 3) := dk_180 0 25 (dk_at dksX4_copyBody_1 1 rfl rfl)
theorem dX4_copyBody_28 : decode cX4_copyBody 28 = .ok (.iload_n 2, 1) := dk_28 (dk_at dksX4_copyBody_1 4 rfl rfl)
theorem dX4_copyBody_29 : decode cX4_copyBody 29 = .ok (.aload_n 0, 1) := dk_42 (dk_at dksX4_copyBody_1 5 rfl rfl)
theorem dX4_copyBody_30 : decode cX4_copyBody 30 = .ok (.getfield 25, 3) := dk_180 0 25 (dk_at dksX4_copyBody_1 6 rfl rfl)
theorem dX4_copyBody_33 : decode cX4_copyBody 33 = .ok (.iload_n 1, 1) := dk_27 (dk_at dksX4_copyBody_1 9 rfl rfl)
theorem dX4_copyBody_34 : decode cX4_copyBody 34 = .ok (.iaload, 1) := dk_46 (dk_at dksX4_copyBody_1 10 rfl rfl)
theorem dX4_copyBody_35 : decode cX4_copyBody 35 = .ok (.iastore, 1) := dk_79 (dk_at dksX4_copyBody_1 11 rfl rfl)
theorem dX4_copyBody_36 : decode cX4_copyBody 36 = .ok (.aload_n 0, 1) := dk_42 (dk_at dksX4_copyBody_1 12 rfl rfl)
theorem dX4_copyBody_37 : decode cX4_copyBody 37 = .ok (.getfield 37, 3) := dk_180 0 37 (dk_at dksX4_copyBody_1 13 rfl rfl)
theorem dX4_copyBody_40 : decode cX4_copyBody 40 = .ok (.iload_n 2, 1) := dk_28 (dk_at dksX4_copyBody_1 16 rfl rfl)
theorem dX4_copyBody_41 : decode cX4_copyBody 41 = .ok (.aload_n 0, 1) := dk_42 (dk_at dksX4_copyBody_1 17 rfl rfl)
theorem dX4_copyBody_42 : decode cX4_copyBody 42 = .ok (.getfield 37, 3) := dk_180 0 37 (dk_at dksX4_copyBody_1 18 rfl rfl)
theorem dX4_copyBody_45 : decode cX4_copyBody 45 = .ok (.iload_n 1, 1) := dk_27 (dk_at dksX4_copyBody_1 21 rfl rfl)
theorem dX4_copyBody_46 : decode cX4_copyBody 46 = .ok (.iaload, 1) := dk_46 (dk_at dksX4_copyBody_1 22 rfl rfl)
theorem dX4_copyBody_47 : decode cX4_copyBody 47 = .ok (.iastore, 1) := dk_79 (dk_at dksX4_copyBody_1 23 rfl rfl)
theorem dX4_copyBody_48 : decode cX4_copyBody 48 = .ok (.aload_n 0, 1) := dk_42 (dk_at dksX4_copyBody_2 0 rfl rfl)
theorem dX4_copyBody_49 : decode cX4_copyBody 49 = .ok (.getfield 40, 3) := dk_180 0 40 (dk_at dksX4_copyBody_2 1 rfl rfl)
theorem dX4_copyBody_52 : decode cX4_copyBody 52 = .ok (.iload_n 2, 1) := dk_28 (dk_at dksX4_copyBody_2 4 rfl rfl)
theorem dX4_copyBody_53 : decode cX4_copyBody 53 = .ok (.aload_n 0, 1) := dk_42 (dk_at dksX4_copyBody_2 5 rfl rfl)
theorem dX4_copyBody_54 : decode cX4_copyBody 54 = .ok (.getfield 40, 3) := dk_180 0 40 (dk_at dksX4_copyBody_2 6 rfl rfl)
theorem dX4_copyBody_57 : decode cX4_copyBody 57 = .ok (.iload_n 1, 1) := dk_27 (dk_at dksX4_copyBody_2 9 rfl rfl)
theorem dX4_copyBody_58 : decode cX4_copyBody 58 = .ok (.iaload, 1) := dk_46 (dk_at dksX4_copyBody_2 10 rfl rfl)
theorem dX4_copyBody_59 : decode cX4_copyBody 59 = .ok (.iastore, 1) := dk_79 (dk_at dksX4_copyBody_2 11 rfl rfl)
theorem dX4_copyBody_60 : decode cX4_copyBody 60 = .ok (.aload_n 0, 1) := dk_42 (dk_at dksX4_copyBody_2 12 rfl rfl)
theorem dX4_copyBody_61 : decode cX4_copyBody 61 = .ok (.getfield 43, 3) := dk_180 0 43 (dk_at dksX4_copyBody_2 13 rfl rfl)
theorem dX4_copyBody_64 : decode cX4_copyBody 64 = .ok (.iload_n 2, 1) := dk_28 (dk_at dksX4_copyBody_2 16 rfl rfl)
theorem dX4_copyBody_65 : decode cX4_copyBody 65 = .ok (.aload_n 0, 1) := dk_42 (dk_at dksX4_copyBody_2 17 rfl rfl)
theorem dX4_copyBody_66 : decode cX4_copyBody 66 = .ok (.getfield 43, 3) := dk_180 0 43 (dk_at dksX4_copyBody_2 18 rfl rfl)
theorem dX4_copyBody_69 : decode cX4_copyBody 69 = .ok (.iload_n 1, 1) := dk_27 (dk_at dksX4_copyBody_2 21 rfl rfl)
theorem dX4_copyBody_70 : decode cX4_copyBody 70 = .ok (.iaload, 1) := dk_46 (dk_at dksX4_copyBody_2 22 rfl rfl)
theorem dX4_copyBody_71 : decode cX4_copyBody 71 = .ok (.iastore, 1) := dk_79 (dk_at dksX4_copyBody_2 23 rfl rfl)
theorem dX4_copyBody_72 : decode cX4_copyBody 72 = .ok (.aload_n 0, 1) := dk_42 (dk_at dksX4_copyBody_3 0 rfl rfl)
theorem dX4_copyBody_73 : decode cX4_copyBody 73 = .ok (.getfield 22, 3) := dk_180 0 22 (dk_at dksX4_copyBody_3 1 rfl rfl)
theorem dX4_copyBody_76 : decode cX4_copyBody 76 = .ok (.iconst 3, 1) := dk_6 (dk_at dksX4_copyBody_3 4 rfl rfl)
theorem dX4_copyBody_77 : decode cX4_copyBody 77 = .ok (.iload_n 1, 1) := dk_27 (dk_at dksX4_copyBody_3 5 rfl rfl)
theorem dX4_copyBody_78 : decode cX4_copyBody 78 = .ok (.imul, 1) := dk_104 (dk_at dksX4_copyBody_3 6 rfl rfl)
theorem dX4_copyBody_79 : decode cX4_copyBody 79 = .ok (.aload_n 0, 1) := dk_42 (dk_at dksX4_copyBody_3 7 rfl rfl)
theorem dX4_copyBody_80 : decode cX4_copyBody 80 = .ok (.getfield 22, 3) := dk_180 0 22 (dk_at dksX4_copyBody_3 8 rfl rfl)
theorem dX4_copyBody_83 : decode cX4_copyBody 83 = .ok (.iconst 3, 1) := dk_6 (dk_at dksX4_copyBody_3 11 rfl rfl)
theorem dX4_copyBody_84 : decode cX4_copyBody 84 = .ok (.iload_n 2, 1) := dk_28 (dk_at dksX4_copyBody_3 12 rfl rfl)
theorem dX4_copyBody_85 : decode cX4_copyBody 85 = .ok (.imul, 1) := dk_104 (dk_at dksX4_copyBody_3 13 rfl rfl)
theorem dX4_copyBody_86 : decode cX4_copyBody 86 = .ok (.iconst 3, 1) := dk_6 (dk_at dksX4_copyBody_3 14 rfl rfl)
theorem dX4_copyBody_87 : decode cX4_copyBody 87 = .ok (.invokestatic 144, 3) := dk_184 0 144 (dk_at dksX4_copyBody_3 15 rfl rfl)
theorem dX4_copyBody_90 : decode cX4_copyBody 90 = .ok (.istore_n 3, 1) := dk_62 (dk_at dksX4_copyBody_3 18 rfl rfl)
theorem dX4_copyBody_91 : decode cX4_copyBody 91 = .ok (.aload_n 0, 1) := dk_42 (dk_at dksX4_copyBody_3 19 rfl rfl)
theorem dX4_copyBody_92 : decode cX4_copyBody 92 = .ok (.getfield 28, 3) := dk_180 0 28 (dk_at dksX4_copyBody_3 20 rfl rfl)
theorem dX4_copyBody_95 : decode cX4_copyBody 95 = .ok (.bipush 6, 2) := dk_16 6 (dk_at dksX4_copyBody_4 0 rfl rfl)
theorem dX4_copyBody_97 : decode cX4_copyBody 97 = .ok (.iload_n 1, 1) := dk_27 (dk_at dksX4_copyBody_4 2 rfl rfl)
theorem dX4_copyBody_98 : decode cX4_copyBody 98 = .ok (.imul, 1) := dk_104 (dk_at dksX4_copyBody_4 3 rfl rfl)
theorem dX4_copyBody_99 : decode cX4_copyBody 99 = .ok (.aload_n 0, 1) := dk_42 (dk_at dksX4_copyBody_4 4 rfl rfl)
theorem dX4_copyBody_100 : decode cX4_copyBody 100 = .ok (.getfield 28, 3) := dk_180 0 28 (dk_at dksX4_copyBody_4 5 rfl rfl)
theorem dX4_copyBody_103 : decode cX4_copyBody 103 = .ok (.bipush 6, 2) := dk_16 6 (dk_at dksX4_copyBody_4 8 rfl rfl)
theorem dX4_copyBody_105 : decode cX4_copyBody 105 = .ok (.iload_n 2, 1) := dk_28 (dk_at dksX4_copyBody_4 10 rfl rfl)
theorem dX4_copyBody_106 : decode cX4_copyBody 106 = .ok (.imul, 1) := dk_104 (dk_at dksX4_copyBody_4 11 rfl rfl)
theorem dX4_copyBody_107 : decode cX4_copyBody 107 = .ok (.bipush 6, 2) := dk_16 6 (dk_at dksX4_copyBody_4 12 rfl rfl)
theorem dX4_copyBody_109 : decode cX4_copyBody 109 = .ok (.invokestatic 144, 3) := dk_184 0 144 (dk_at dksX4_copyBody_4 14 rfl rfl)
theorem dX4_copyBody_112 : decode cX4_copyBody 112 = .ok (.istore_n 3, 1) := dk_62 (dk_at dksX4_copyBody_4 17 rfl rfl)
theorem dX4_copyBody_113 : decode cX4_copyBody 113 = .ok (.aload_n 0, 1) := dk_42 (dk_at dksX4_copyBody_4 18 rfl rfl)
theorem dX4_copyBody_114 : decode cX4_copyBody 114 = .ok (.getfield 31, 3) := dk_180 0 31 (dk_at dksX4_copyBody_4 19 rfl rfl)
theorem dX4_copyBody_117 : decode cX4_copyBody 117 = .ok (.bipush 6, 2) := dk_16 6 (dk_at dksX4_copyBody_4 22 rfl rfl)
theorem dX4_copyBody_119 : decode cX4_copyBody 119 = .ok (.iload_n 1, 1) := dk_27 (dk_at dksX4_copyBody_5 0 rfl rfl)
theorem dX4_copyBody_120 : decode cX4_copyBody 120 = .ok (.imul, 1) := dk_104 (dk_at dksX4_copyBody_5 1 rfl rfl)
theorem dX4_copyBody_121 : decode cX4_copyBody 121 = .ok (.aload_n 0, 1) := dk_42 (dk_at dksX4_copyBody_5 2 rfl rfl)
theorem dX4_copyBody_122 : decode cX4_copyBody 122 = .ok (.getfield 31, 3) := dk_180 0 31 (dk_at dksX4_copyBody_5 3 rfl rfl)
theorem dX4_copyBody_125 : decode cX4_copyBody 125 = .ok (.bipush 6, 2) := dk_16 6 (dk_at dksX4_copyBody_5 6 rfl rfl)
theorem dX4_copyBody_127 : decode cX4_copyBody 127 = .ok (.iload_n 2, 1) := dk_28 (dk_at dksX4_copyBody_5 8 rfl rfl)
theorem dX4_copyBody_128 : decode cX4_copyBody 128 = .ok (.imul, 1) := dk_104 (dk_at dksX4_copyBody_5 9 rfl rfl)
theorem dX4_copyBody_129 : decode cX4_copyBody 129 = .ok (.bipush 6, 2) := dk_16 6 (dk_at dksX4_copyBody_5 10 rfl rfl)
theorem dX4_copyBody_131 : decode cX4_copyBody 131 = .ok (.invokestatic 144, 3) := dk_184 0 144 (dk_at dksX4_copyBody_5 12 rfl rfl)
theorem dX4_copyBody_134 : decode cX4_copyBody 134 = .ok (.istore_n 3, 1) := dk_62 (dk_at dksX4_copyBody_5 15 rfl rfl)
theorem dX4_copyBody_135 : decode cX4_copyBody 135 = .ok (.aload_n 0, 1) := dk_42 (dk_at dksX4_copyBody_5 16 rfl rfl)
theorem dX4_copyBody_136 : decode cX4_copyBody 136 = .ok (.getfield 34, 3) := dk_180 0 34 (dk_at dksX4_copyBody_5 17 rfl rfl)
theorem dX4_copyBody_139 : decode cX4_copyBody 139 = .ok (.bipush 18, 2) := dk_16 18 (dk_at dksX4_copyBody_5 20 rfl rfl)
theorem dX4_copyBody_141 : decode cX4_copyBody 141 = .ok (.iload_n 1, 1) := dk_27 (dk_at dksX4_copyBody_5 22 rfl rfl)
theorem dX4_copyBody_142 : decode cX4_copyBody 142 = .ok (.imul, 1) := dk_104 (dk_at dksX4_copyBody_5 23 rfl rfl)
theorem dX4_copyBody_143 : decode cX4_copyBody 143 = .ok (.aload_n 0, 1) := dk_42 (dk_at dksX4_copyBody_6 0 rfl rfl)
theorem dX4_copyBody_144 : decode cX4_copyBody 144 = .ok (.getfield 34, 3) := dk_180 0 34 (dk_at dksX4_copyBody_6 1 rfl rfl)
theorem dX4_copyBody_147 : decode cX4_copyBody 147 = .ok (.bipush 18, 2) := dk_16 18 (dk_at dksX4_copyBody_6 4 rfl rfl)
theorem dX4_copyBody_149 : decode cX4_copyBody 149 = .ok (.iload_n 2, 1) := dk_28 (dk_at dksX4_copyBody_6 6 rfl rfl)
theorem dX4_copyBody_150 : decode cX4_copyBody 150 = .ok (.imul, 1) := dk_104 (dk_at dksX4_copyBody_6 7 rfl rfl)
theorem dX4_copyBody_151 : decode cX4_copyBody 151 = .ok (.bipush 18, 2) := dk_16 18 (dk_at dksX4_copyBody_6 8 rfl rfl)
theorem dX4_copyBody_153 : decode cX4_copyBody 153 = .ok (.invokestatic 144, 3) := dk_184 0 144 (dk_at dksX4_copyBody_6 10 rfl rfl)
theorem dX4_copyBody_156 : decode cX4_copyBody 156 = .ok (.istore_n 3, 1) := dk_62 (dk_at dksX4_copyBody_6 13 rfl rfl)
theorem dX4_copyBody_157 : decode cX4_copyBody 157 = .ok (.return_, 1) := dk_177 (dk_at dksX4_copyBody_6 14 rfl rfl)
abbrev cX4_cancel : ByteArray := prog_19_method_72_code
def yX4_cancel : MethodName := ⟨RX4, "cancel", "()Z"⟩
def dkwX4_cancel_1 : List UInt8 := [172]
abbrev dktX4_cancel_1 : List UInt8 := dkwX4_cancel_1 ++ []
def dkwX4_cancel_0 : List UInt8 := [42, 3, 181, 0, 131, 42, 180, 1, 46, 158, 0, 7, 4, 167, 0, 4, 3, 60, 42, 3, 181, 1, 46, 27]
abbrev dktX4_cancel_0 : List UInt8 := dkwX4_cancel_0 ++ dktX4_cancel_1
theorem dksX4_cancel_0 : cX4_cancel.data.toList.drop 0 = dktX4_cancel_0 := by decide +kernel
theorem dksX4_cancel_1 : cX4_cancel.data.toList.drop 24 = dktX4_cancel_1 := dk_seg dksX4_cancel_0 24 rfl rfl
theorem dX4_cancel_0 : decode cX4_cancel 0 = .ok (.aload_n 0, 1) := dk_42 (dk_at dksX4_cancel_0 0 rfl rfl)
theorem dX4_cancel_1 : decode cX4_cancel 1 = .ok (.iconst 0, 1) := dk_3 (dk_at dksX4_cancel_0 1 rfl rfl)
theorem dX4_cancel_2 : decode cX4_cancel 2 = .ok (.putfield 131, 3) := dk_181 0 131 (dk_at dksX4_cancel_0 2 rfl rfl)
theorem dX4_cancel_5 : decode cX4_cancel 5 = .ok (.aload_n 0, 1) := dk_42 (dk_at dksX4_cancel_0 5 rfl rfl)
theorem dX4_cancel_6 : decode cX4_cancel 6 = .ok (.getfield 302, 3) := dk_180 1 46 (dk_at dksX4_cancel_0 6 rfl rfl)
theorem dX4_cancel_9 : decode cX4_cancel 9 = .ok (.ifCond .le 7, 3) := dk_158 0 7 (dk_at dksX4_cancel_0 9 rfl rfl)
theorem dX4_cancel_12 : decode cX4_cancel 12 = .ok (.iconst 1, 1) := dk_4 (dk_at dksX4_cancel_0 12 rfl rfl)
theorem dX4_cancel_13 : decode cX4_cancel 13 = .ok (.goto 4, 3) := dk_167 0 4 (dk_at dksX4_cancel_0 13 rfl rfl)
theorem dX4_cancel_16 : decode cX4_cancel 16 = .ok (.iconst 0, 1) := dk_3 (dk_at dksX4_cancel_0 16 rfl rfl)
theorem dX4_cancel_17 : decode cX4_cancel 17 = .ok (.istore_n 1, 1) := dk_60 (dk_at dksX4_cancel_0 17 rfl rfl)
theorem dX4_cancel_18 : decode cX4_cancel 18 = .ok (.aload_n 0, 1) := dk_42 (dk_at dksX4_cancel_0 18 rfl rfl)
theorem dX4_cancel_19 : decode cX4_cancel 19 = .ok (.iconst 0, 1) := dk_3 (dk_at dksX4_cancel_0 19 rfl rfl)
theorem dX4_cancel_20 : decode cX4_cancel 20 = .ok (.putfield 302, 3) := dk_181 1 46 (dk_at dksX4_cancel_0 20 rfl rfl)
theorem dX4_cancel_23 : decode cX4_cancel 23 = .ok (.iload_n 1, 1) := dk_27 (dk_at dksX4_cancel_0 23 rfl rfl)
theorem dX4_cancel_24 : decode cX4_cancel 24 = .ok (.ireturn, 1) := dk_172 (dk_at dksX4_cancel_1 0 rfl rfl)
abbrev cX4_drop : ByteArray := prog_19_method_75_code
def yX4_drop : MethodName := ⟨RX4, "drop", "(I)I"⟩
def dkwX4_drop_2 : List UInt8 := [46, 162, 0, 17, 42, 29, 4, 96, 29, 182, 1, 70, 132, 3, 1, 167, 255, 235, 42, 5, 182, 1, 25, 172]
abbrev dktX4_drop_2 : List UInt8 := dkwX4_drop_2 ++ []
def dkwX4_drop_1 : List UInt8 := [172, 42, 6, 182, 1, 19, 42, 180, 0, 7, 4, 92, 46, 4, 100, 79, 28, 62, 29, 42, 180, 0, 7, 4]
abbrev dktX4_drop_1 : List UInt8 := dkwX4_drop_1 ++ dktX4_drop_2
def dkwX4_drop_0 : List UInt8 := [42, 27, 182, 1, 76, 61, 42, 28, 2, 160, 0, 7, 4, 167, 0, 4, 3, 182, 1, 10, 154, 0, 5, 3]
abbrev dktX4_drop_0 : List UInt8 := dkwX4_drop_0 ++ dktX4_drop_1
theorem dksX4_drop_0 : cX4_drop.data.toList.drop 0 = dktX4_drop_0 := by decide +kernel
theorem dksX4_drop_1 : cX4_drop.data.toList.drop 24 = dktX4_drop_1 := dk_seg dksX4_drop_0 24 rfl rfl
theorem dksX4_drop_2 : cX4_drop.data.toList.drop 48 = dktX4_drop_2 := dk_seg dksX4_drop_1 24 rfl rfl
theorem dX4_drop_0 : decode cX4_drop 0 = .ok (.aload_n 0, 1) := dk_42 (dk_at dksX4_drop_0 0 rfl rfl)
theorem dX4_drop_1 : decode cX4_drop 1 = .ok (.iload_n 1, 1) := dk_27 (dk_at dksX4_drop_0 1 rfl rfl)
theorem dX4_drop_2 : decode cX4_drop 2 = .ok (.invokevirtual 332, 3) := dk_182 1 76 (dk_at dksX4_drop_0 2 rfl rfl)
theorem dX4_drop_5 : decode cX4_drop 5 = .ok (.istore_n 2, 1) := dk_61 (dk_at dksX4_drop_0 5 rfl rfl)
theorem dX4_drop_6 : decode cX4_drop 6 = .ok (.aload_n 0, 1) := dk_42 (dk_at dksX4_drop_0 6 rfl rfl)
theorem dX4_drop_7 : decode cX4_drop 7 = .ok (.iload_n 2, 1) := dk_28 (dk_at dksX4_drop_0 7 rfl rfl)
theorem dX4_drop_8 : decode cX4_drop 8 = .ok (.iconst (-1), 1) := dk_2 (dk_at dksX4_drop_0 8 rfl rfl)
theorem dX4_drop_9 : decode cX4_drop 9 = .ok (.if_icmp .ne 7, 3) := dk_160 0 7 (dk_at dksX4_drop_0 9 rfl rfl)
theorem dX4_drop_12 : decode cX4_drop 12 = .ok (.iconst 1, 1) := dk_4 (dk_at dksX4_drop_0 12 rfl rfl)
theorem dX4_drop_13 : decode cX4_drop 13 = .ok (.goto 4, 3) := dk_167 0 4 (dk_at dksX4_drop_0 13 rfl rfl)
theorem dX4_drop_16 : decode cX4_drop 16 = .ok (.iconst 0, 1) := dk_3 (dk_at dksX4_drop_0 16 rfl rfl)
theorem dX4_drop_17 : decode cX4_drop 17 = .ok (.invokevirtual 266, 3) := dk_182 1 10 (dk_at dksX4_drop_0 17 rfl rfl)
theorem dX4_drop_20 : decode cX4_drop 20 = .ok (.ifCond .ne 5, 3) := dk_154 0 5 (dk_at dksX4_drop_0 20 rfl rfl)
theorem dX4_drop_23 : decode cX4_drop 23 = .ok (.iconst 0, 1) := dk_3 (dk_at dksX4_drop_0 23 rfl rfl)
theorem dX4_drop_24 : decode cX4_drop 24 = .ok (.ireturn, 1) := dk_172 (dk_at dksX4_drop_1 0 rfl rfl)
theorem dX4_drop_25 : decode cX4_drop 25 = .ok (.aload_n 0, 1) := dk_42 (dk_at dksX4_drop_1 1 rfl rfl)
theorem dX4_drop_26 : decode cX4_drop 26 = .ok (.iconst 3, 1) := dk_6 (dk_at dksX4_drop_1 2 rfl rfl)
theorem dX4_drop_27 : decode cX4_drop 27 = .ok (.invokevirtual 275, 3) := dk_182 1 19 (dk_at dksX4_drop_1 3 rfl rfl)
theorem dX4_drop_30 : decode cX4_drop 30 = .ok (.aload_n 0, 1) := dk_42 (dk_at dksX4_drop_1 6 rfl rfl)
theorem dX4_drop_31 : decode cX4_drop 31 = .ok (.getfield 7, 3) := dk_180 0 7 (dk_at dksX4_drop_1 7 rfl rfl)
theorem dX4_drop_34 : decode cX4_drop 34 = .ok (.iconst 1, 1) := dk_4 (dk_at dksX4_drop_1 10 rfl rfl)
theorem dX4_drop_35 : decode cX4_drop 35 = .ok (.dup2, 1) := dk_92 (dk_at dksX4_drop_1 11 rfl rfl)
theorem dX4_drop_36 : decode cX4_drop 36 = .ok (.iaload, 1) := dk_46 (dk_at dksX4_drop_1 12 rfl rfl)
theorem dX4_drop_37 : decode cX4_drop 37 = .ok (.iconst 1, 1) := dk_4 (dk_at dksX4_drop_1 13 rfl rfl)
theorem dX4_drop_38 : decode cX4_drop 38 = .ok (.isub, 1) := dk_100 (dk_at dksX4_drop_1 14 rfl rfl)
theorem dX4_drop_39 : decode cX4_drop 39 = .ok (.iastore, 1) := dk_79 (dk_at dksX4_drop_1 15 rfl rfl)
theorem dX4_drop_40 : decode cX4_drop 40 = .ok (.iload_n 2, 1) := dk_28 (dk_at dksX4_drop_1 16 rfl rfl)
theorem dX4_drop_41 : decode cX4_drop 41 = .ok (.istore_n 3, 1) := dk_62 (dk_at dksX4_drop_1 17 rfl rfl)
theorem dX4_drop_42 : decode cX4_drop 42 = .ok (.iload_n 3, 1) := dk_29 (dk_at dksX4_drop_1 18 rfl rfl)
theorem dX4_drop_43 : decode cX4_drop 43 = .ok (.aload_n 0, 1) := dk_42 (dk_at dksX4_drop_1 19 rfl rfl)
theorem dX4_drop_44 : decode cX4_drop 44 = .ok (.getfield 7, 3) := dk_180 0 7 (dk_at dksX4_drop_1 20 rfl rfl)
theorem dX4_drop_47 : decode cX4_drop 47 = .ok (.iconst 1, 1) := dk_4 (dk_at dksX4_drop_1 23 rfl rfl)
theorem dX4_drop_48 : decode cX4_drop 48 = .ok (.iaload, 1) := dk_46 (dk_at dksX4_drop_2 0 rfl rfl)
theorem dX4_drop_49 : decode cX4_drop 49 = .ok (.if_icmp .ge 17, 3) := dk_162 0 17 (dk_at dksX4_drop_2 1 rfl rfl)
theorem dX4_drop_52 : decode cX4_drop 52 = .ok (.aload_n 0, 1) := dk_42 (dk_at dksX4_drop_2 4 rfl rfl)
theorem dX4_drop_53 : decode cX4_drop 53 = .ok (.iload_n 3, 1) := dk_29 (dk_at dksX4_drop_2 5 rfl rfl)
theorem dX4_drop_54 : decode cX4_drop 54 = .ok (.iconst 1, 1) := dk_4 (dk_at dksX4_drop_2 6 rfl rfl)
theorem dX4_drop_55 : decode cX4_drop 55 = .ok (.iadd, 1) := dk_96 (dk_at dksX4_drop_2 7 rfl rfl)
theorem dX4_drop_56 : decode cX4_drop 56 = .ok (.iload_n 3, 1) := dk_29 (dk_at dksX4_drop_2 8 rfl rfl)
theorem dX4_drop_57 : decode cX4_drop 57 = .ok (.invokevirtual 326, 3) := dk_182 1 70 (dk_at dksX4_drop_2 9 rfl rfl)
theorem dX4_drop_60 : decode cX4_drop 60 = .ok (.iinc 3 1, 3) := dk_132 3 1 (dk_at dksX4_drop_2 12 rfl rfl)
theorem dX4_drop_63 : decode cX4_drop 63 = .ok (.goto (-21), 3) := dk_167 255 235 (dk_at dksX4_drop_2 15 rfl rfl)
theorem dX4_drop_66 : decode cX4_drop 66 = .ok (.aload_n 0, 1) := dk_42 (dk_at dksX4_drop_2 18 rfl rfl)
theorem dX4_drop_67 : decode cX4_drop 67 = .ok (.iconst 2, 1) := dk_5 (dk_at dksX4_drop_2 19 rfl rfl)
theorem dX4_drop_68 : decode cX4_drop 68 = .ok (.invokevirtual 281, 3) := dk_182 1 25 (dk_at dksX4_drop_2 20 rfl rfl)
theorem dX4_drop_71 : decode cX4_drop 71 = .ok (.ireturn, 1) := dk_172 (dk_at dksX4_drop_2 23 rfl rfl)
abbrev cX4_ruleAt : ByteArray := prog_19_method_74_code
def yX4_ruleAt : MethodName := ⟨RX4, "ruleAt", "(I)I"⟩
def dkwX4_ruleAt_0 : List UInt8 := [42, 27, 3, 42, 180, 0, 7, 4, 46, 182, 1, 73, 172]
abbrev dktX4_ruleAt_0 : List UInt8 := dkwX4_ruleAt_0 ++ []
theorem dksX4_ruleAt_0 : cX4_ruleAt.data.toList.drop 0 = dktX4_ruleAt_0 := by decide +kernel
theorem dX4_ruleAt_0 : decode cX4_ruleAt 0 = .ok (.aload_n 0, 1) := dk_42 (dk_at dksX4_ruleAt_0 0 rfl rfl)
theorem dX4_ruleAt_1 : decode cX4_ruleAt 1 = .ok (.iload_n 1, 1) := dk_27 (dk_at dksX4_ruleAt_0 1 rfl rfl)
theorem dX4_ruleAt_2 : decode cX4_ruleAt 2 = .ok (.iconst 0, 1) := dk_3 (dk_at dksX4_ruleAt_0 2 rfl rfl)
theorem dX4_ruleAt_3 : decode cX4_ruleAt 3 = .ok (.aload_n 0, 1) := dk_42 (dk_at dksX4_ruleAt_0 3 rfl rfl)
theorem dX4_ruleAt_4 : decode cX4_ruleAt 4 = .ok (.getfield 7, 3) := dk_180 0 7 (dk_at dksX4_ruleAt_0 4 rfl rfl)
theorem dX4_ruleAt_7 : decode cX4_ruleAt 7 = .ok (.iconst 1, 1) := dk_4 (dk_at dksX4_ruleAt_0 7 rfl rfl)
theorem dX4_ruleAt_8 : decode cX4_ruleAt 8 = .ok (.iaload, 1) := dk_46 (dk_at dksX4_ruleAt_0 8 rfl rfl)
theorem dX4_ruleAt_9 : decode cX4_ruleAt 9 = .ok (.invokevirtual 329, 3) := dk_182 1 73 (dk_at dksX4_ruleAt_0 9 rfl rfl)
theorem dX4_ruleAt_12 : decode cX4_ruleAt 12 = .ok (.ireturn, 1) := dk_172 (dk_at dksX4_ruleAt_0 12 rfl rfl)
abbrev cX4_placeOf : ByteArray := prog_19_method_73_code
def yX4_placeOf : MethodName := ⟨RX4, "placeOf", "(III)I"⟩
def dkwX4_placeOf_1 : List UInt8 := [160, 0, 8, 21, 5, 167, 0, 5, 21, 4, 54, 4, 132, 5, 1, 167, 255, 225, 21, 4, 172]
abbrev dktX4_placeOf_1 : List UInt8 := dkwX4_placeOf_1 ++ []
def dkwX4_placeOf_0 : List UInt8 := [2, 54, 4, 28, 54, 5, 21, 5, 28, 29, 96, 162, 0, 29, 42, 180, 0, 16, 21, 5, 46, 27]
abbrev dktX4_placeOf_0 : List UInt8 := dkwX4_placeOf_0 ++ dktX4_placeOf_1
theorem dksX4_placeOf_0 : cX4_placeOf.data.toList.drop 0 = dktX4_placeOf_0 := by decide +kernel
theorem dksX4_placeOf_1 : cX4_placeOf.data.toList.drop 22 = dktX4_placeOf_1 := dk_seg dksX4_placeOf_0 22 rfl rfl
theorem dX4_placeOf_0 : decode cX4_placeOf 0 = .ok (.iconst (-1), 1) := dk_2 (dk_at dksX4_placeOf_0 0 rfl rfl)
theorem dX4_placeOf_1 : decode cX4_placeOf 1 = .ok (.istore 4, 2) := dk_54 4 (dk_at dksX4_placeOf_0 1 rfl rfl)
theorem dX4_placeOf_3 : decode cX4_placeOf 3 = .ok (.iload_n 2, 1) := dk_28 (dk_at dksX4_placeOf_0 3 rfl rfl)
theorem dX4_placeOf_4 : decode cX4_placeOf 4 = .ok (.istore 5, 2) := dk_54 5 (dk_at dksX4_placeOf_0 4 rfl rfl)
theorem dX4_placeOf_6 : decode cX4_placeOf 6 = .ok (.iload 5, 2) := dk_21 5 (dk_at dksX4_placeOf_0 6 rfl rfl)
theorem dX4_placeOf_8 : decode cX4_placeOf 8 = .ok (.iload_n 2, 1) := dk_28 (dk_at dksX4_placeOf_0 8 rfl rfl)
theorem dX4_placeOf_9 : decode cX4_placeOf 9 = .ok (.iload_n 3, 1) := dk_29 (dk_at dksX4_placeOf_0 9 rfl rfl)
theorem dX4_placeOf_10 : decode cX4_placeOf 10 = .ok (.iadd, 1) := dk_96 (dk_at dksX4_placeOf_0 10 rfl rfl)
theorem dX4_placeOf_11 : decode cX4_placeOf 11 = .ok (.if_icmp .ge 29, 3) := dk_162 0 29 (dk_at dksX4_placeOf_0 11 rfl rfl)
theorem dX4_placeOf_14 : decode cX4_placeOf 14 = .ok (.aload_n 0, 1) := dk_42 (dk_at dksX4_placeOf_0 14 rfl rfl)
theorem dX4_placeOf_15 : decode cX4_placeOf 15 = .ok (.getfield 16, 3) := dk_180 0 16 (dk_at dksX4_placeOf_0 15 rfl rfl)
theorem dX4_placeOf_18 : decode cX4_placeOf 18 = .ok (.iload 5, 2) := dk_21 5 (dk_at dksX4_placeOf_0 18 rfl rfl)
theorem dX4_placeOf_20 : decode cX4_placeOf 20 = .ok (.iaload, 1) := dk_46 (dk_at dksX4_placeOf_0 20 rfl rfl)
theorem dX4_placeOf_21 : decode cX4_placeOf 21 = .ok (.iload_n 1, 1) := dk_27 (dk_at dksX4_placeOf_0 21 rfl rfl)
theorem dX4_placeOf_22 : decode cX4_placeOf 22 = .ok (.if_icmp .ne 8, 3) := dk_160 0 8 (dk_at dksX4_placeOf_1 0 rfl rfl)
theorem dX4_placeOf_25 : decode cX4_placeOf 25 = .ok (.iload 5, 2) := dk_21 5 (dk_at dksX4_placeOf_1 3 rfl rfl)
theorem dX4_placeOf_27 : decode cX4_placeOf 27 = .ok (.goto 5, 3) := dk_167 0 5 (dk_at dksX4_placeOf_1 5 rfl rfl)
theorem dX4_placeOf_30 : decode cX4_placeOf 30 = .ok (.iload 4, 2) := dk_21 4 (dk_at dksX4_placeOf_1 8 rfl rfl)
theorem dX4_placeOf_32 : decode cX4_placeOf 32 = .ok (.istore 4, 2) := dk_54 4 (dk_at dksX4_placeOf_1 10 rfl rfl)
theorem dX4_placeOf_34 : decode cX4_placeOf 34 = .ok (.iinc 5 1, 3) := dk_132 5 1 (dk_at dksX4_placeOf_1 12 rfl rfl)
theorem dX4_placeOf_37 : decode cX4_placeOf 37 = .ok (.goto (-31), 3) := dk_167 255 225 (dk_at dksX4_placeOf_1 15 rfl rfl)
theorem dX4_placeOf_40 : decode cX4_placeOf 40 = .ok (.iload 4, 2) := dk_21 4 (dk_at dksX4_placeOf_1 18 rfl rfl)
theorem dX4_placeOf_42 : decode cX4_placeOf 42 = .ok (.ireturn, 1) := dk_172 (dk_at dksX4_placeOf_1 20 rfl rfl)
abbrev cX4_dropDeed : ByteArray := prog_19_method_76_code
def yX4_dropDeed : MethodName := ⟨RX4, "dropDeed", "(I)I"⟩
def dkwX4_dropDeed_3 : List UInt8 := [42, 180, 0, 7, 5, 46, 172]
abbrev dktX4_dropDeed_3 : List UInt8 := dkwX4_dropDeed_3 ++ []
def dkwX4_dropDeed_2 : List UInt8 := [42, 180, 0, 7, 5, 46, 96, 162, 0, 17, 42, 29, 4, 96, 29, 182, 1, 70, 132, 3, 1, 167, 255, 232]
abbrev dktX4_dropDeed_2 : List UInt8 := dkwX4_dropDeed_2 ++ dktX4_dropDeed_3
def dkwX4_dropDeed_1 : List UInt8 := [3, 182, 1, 10, 154, 0, 5, 3, 172, 42, 180, 0, 7, 5, 92, 46, 4, 100, 79, 28, 62, 29, 16, 10]
abbrev dktX4_dropDeed_1 : List UInt8 := dkwX4_dropDeed_1 ++ dktX4_dropDeed_2
def dkwX4_dropDeed_0 : List UInt8 := [42, 27, 16, 10, 42, 180, 0, 7, 5, 46, 182, 1, 73, 61, 42, 28, 2, 160, 0, 7, 4, 167, 0, 4]
abbrev dktX4_dropDeed_0 : List UInt8 := dkwX4_dropDeed_0 ++ dktX4_dropDeed_1
theorem dksX4_dropDeed_0 : cX4_dropDeed.data.toList.drop 0 = dktX4_dropDeed_0 := by decide +kernel
theorem dksX4_dropDeed_1 : cX4_dropDeed.data.toList.drop 24 = dktX4_dropDeed_1 := dk_seg dksX4_dropDeed_0 24 rfl rfl
theorem dksX4_dropDeed_2 : cX4_dropDeed.data.toList.drop 48 = dktX4_dropDeed_2 := dk_seg dksX4_dropDeed_1 24 rfl rfl
theorem dksX4_dropDeed_3 : cX4_dropDeed.data.toList.drop 72 = dktX4_dropDeed_3 := dk_seg dksX4_dropDeed_2 24 rfl rfl
theorem dX4_dropDeed_0 : decode cX4_dropDeed 0 = .ok (.aload_n 0, 1) := dk_42 (dk_at dksX4_dropDeed_0 0 rfl rfl)
theorem dX4_dropDeed_1 : decode cX4_dropDeed 1 = .ok (.iload_n 1, 1) := dk_27 (dk_at dksX4_dropDeed_0 1 rfl rfl)
theorem dX4_dropDeed_2 : decode cX4_dropDeed 2 = .ok (.bipush 10, 2) := dk_16 10 (dk_at dksX4_dropDeed_0 2 rfl rfl)
theorem dX4_dropDeed_4 : decode cX4_dropDeed 4 = .ok (.aload_n 0, 1) := dk_42 (dk_at dksX4_dropDeed_0 4 rfl rfl)
theorem dX4_dropDeed_5 : decode cX4_dropDeed 5 = .ok (.getfield 7, 3) := dk_180 0 7 (dk_at dksX4_dropDeed_0 5 rfl rfl)
theorem dX4_dropDeed_8 : decode cX4_dropDeed 8 = .ok (.iconst 2, 1) := dk_5 (dk_at dksX4_dropDeed_0 8 rfl rfl)
theorem dX4_dropDeed_9 : decode cX4_dropDeed 9 = .ok (.iaload, 1) := dk_46 (dk_at dksX4_dropDeed_0 9 rfl rfl)
theorem dX4_dropDeed_10 : decode cX4_dropDeed 10 = .ok (.invokevirtual 329, 3) := dk_182 1 73 (dk_at dksX4_dropDeed_0 10 rfl rfl)
theorem dX4_dropDeed_13 : decode cX4_dropDeed 13 = .ok (.istore_n 2, 1) := dk_61 (dk_at dksX4_dropDeed_0 13 rfl rfl)
theorem dX4_dropDeed_14 : decode cX4_dropDeed 14 = .ok (.aload_n 0, 1) := dk_42 (dk_at dksX4_dropDeed_0 14 rfl rfl)
theorem dX4_dropDeed_15 : decode cX4_dropDeed 15 = .ok (.iload_n 2, 1) := dk_28 (dk_at dksX4_dropDeed_0 15 rfl rfl)
theorem dX4_dropDeed_16 : decode cX4_dropDeed 16 = .ok (.iconst (-1), 1) := dk_2 (dk_at dksX4_dropDeed_0 16 rfl rfl)
theorem dX4_dropDeed_17 : decode cX4_dropDeed 17 = .ok (.if_icmp .ne 7, 3) := dk_160 0 7 (dk_at dksX4_dropDeed_0 17 rfl rfl)
theorem dX4_dropDeed_20 : decode cX4_dropDeed 20 = .ok (.iconst 1, 1) := dk_4 (dk_at dksX4_dropDeed_0 20 rfl rfl)
theorem dX4_dropDeed_21 : decode cX4_dropDeed 21 = .ok (.goto 4, 3) := dk_167 0 4 (dk_at dksX4_dropDeed_0 21 rfl rfl)
theorem dX4_dropDeed_24 : decode cX4_dropDeed 24 = .ok (.iconst 0, 1) := dk_3 (dk_at dksX4_dropDeed_1 0 rfl rfl)
theorem dX4_dropDeed_25 : decode cX4_dropDeed 25 = .ok (.invokevirtual 266, 3) := dk_182 1 10 (dk_at dksX4_dropDeed_1 1 rfl rfl)
theorem dX4_dropDeed_28 : decode cX4_dropDeed 28 = .ok (.ifCond .ne 5, 3) := dk_154 0 5 (dk_at dksX4_dropDeed_1 4 rfl rfl)
theorem dX4_dropDeed_31 : decode cX4_dropDeed 31 = .ok (.iconst 0, 1) := dk_3 (dk_at dksX4_dropDeed_1 7 rfl rfl)
theorem dX4_dropDeed_32 : decode cX4_dropDeed 32 = .ok (.ireturn, 1) := dk_172 (dk_at dksX4_dropDeed_1 8 rfl rfl)
theorem dX4_dropDeed_33 : decode cX4_dropDeed 33 = .ok (.aload_n 0, 1) := dk_42 (dk_at dksX4_dropDeed_1 9 rfl rfl)
theorem dX4_dropDeed_34 : decode cX4_dropDeed 34 = .ok (.getfield 7, 3) := dk_180 0 7 (dk_at dksX4_dropDeed_1 10 rfl rfl)
theorem dX4_dropDeed_37 : decode cX4_dropDeed 37 = .ok (.iconst 2, 1) := dk_5 (dk_at dksX4_dropDeed_1 13 rfl rfl)
theorem dX4_dropDeed_38 : decode cX4_dropDeed 38 = .ok (.dup2, 1) := dk_92 (dk_at dksX4_dropDeed_1 14 rfl rfl)
theorem dX4_dropDeed_39 : decode cX4_dropDeed 39 = .ok (.iaload, 1) := dk_46 (dk_at dksX4_dropDeed_1 15 rfl rfl)
theorem dX4_dropDeed_40 : decode cX4_dropDeed 40 = .ok (.iconst 1, 1) := dk_4 (dk_at dksX4_dropDeed_1 16 rfl rfl)
theorem dX4_dropDeed_41 : decode cX4_dropDeed 41 = .ok (.isub, 1) := dk_100 (dk_at dksX4_dropDeed_1 17 rfl rfl)
theorem dX4_dropDeed_42 : decode cX4_dropDeed 42 = .ok (.iastore, 1) := dk_79 (dk_at dksX4_dropDeed_1 18 rfl rfl)
theorem dX4_dropDeed_43 : decode cX4_dropDeed 43 = .ok (.iload_n 2, 1) := dk_28 (dk_at dksX4_dropDeed_1 19 rfl rfl)
theorem dX4_dropDeed_44 : decode cX4_dropDeed 44 = .ok (.istore_n 3, 1) := dk_62 (dk_at dksX4_dropDeed_1 20 rfl rfl)
theorem dX4_dropDeed_45 : decode cX4_dropDeed 45 = .ok (.iload_n 3, 1) := dk_29 (dk_at dksX4_dropDeed_1 21 rfl rfl)
theorem dX4_dropDeed_46 : decode cX4_dropDeed 46 = .ok (.bipush 10, 2) := dk_16 10 (dk_at dksX4_dropDeed_1 22 rfl rfl)
theorem dX4_dropDeed_48 : decode cX4_dropDeed 48 = .ok (.aload_n 0, 1) := dk_42 (dk_at dksX4_dropDeed_2 0 rfl rfl)
theorem dX4_dropDeed_49 : decode cX4_dropDeed 49 = .ok (.getfield 7, 3) := dk_180 0 7 (dk_at dksX4_dropDeed_2 1 rfl rfl)
theorem dX4_dropDeed_52 : decode cX4_dropDeed 52 = .ok (.iconst 2, 1) := dk_5 (dk_at dksX4_dropDeed_2 4 rfl rfl)
theorem dX4_dropDeed_53 : decode cX4_dropDeed 53 = .ok (.iaload, 1) := dk_46 (dk_at dksX4_dropDeed_2 5 rfl rfl)
theorem dX4_dropDeed_54 : decode cX4_dropDeed 54 = .ok (.iadd, 1) := dk_96 (dk_at dksX4_dropDeed_2 6 rfl rfl)
theorem dX4_dropDeed_55 : decode cX4_dropDeed 55 = .ok (.if_icmp .ge 17, 3) := dk_162 0 17 (dk_at dksX4_dropDeed_2 7 rfl rfl)
theorem dX4_dropDeed_58 : decode cX4_dropDeed 58 = .ok (.aload_n 0, 1) := dk_42 (dk_at dksX4_dropDeed_2 10 rfl rfl)
theorem dX4_dropDeed_59 : decode cX4_dropDeed 59 = .ok (.iload_n 3, 1) := dk_29 (dk_at dksX4_dropDeed_2 11 rfl rfl)
theorem dX4_dropDeed_60 : decode cX4_dropDeed 60 = .ok (.iconst 1, 1) := dk_4 (dk_at dksX4_dropDeed_2 12 rfl rfl)
theorem dX4_dropDeed_61 : decode cX4_dropDeed 61 = .ok (.iadd, 1) := dk_96 (dk_at dksX4_dropDeed_2 13 rfl rfl)
theorem dX4_dropDeed_62 : decode cX4_dropDeed 62 = .ok (.iload_n 3, 1) := dk_29 (dk_at dksX4_dropDeed_2 14 rfl rfl)
theorem dX4_dropDeed_63 : decode cX4_dropDeed 63 = .ok (.invokevirtual 326, 3) := dk_182 1 70 (dk_at dksX4_dropDeed_2 15 rfl rfl)
theorem dX4_dropDeed_66 : decode cX4_dropDeed 66 = .ok (.iinc 3 1, 3) := dk_132 3 1 (dk_at dksX4_dropDeed_2 18 rfl rfl)
theorem dX4_dropDeed_69 : decode cX4_dropDeed 69 = .ok (.goto (-24), 3) := dk_167 255 232 (dk_at dksX4_dropDeed_2 21 rfl rfl)
theorem dX4_dropDeed_72 : decode cX4_dropDeed 72 = .ok (.aload_n 0, 1) := dk_42 (dk_at dksX4_dropDeed_3 0 rfl rfl)
theorem dX4_dropDeed_73 : decode cX4_dropDeed 73 = .ok (.getfield 7, 3) := dk_180 0 7 (dk_at dksX4_dropDeed_3 1 rfl rfl)
theorem dX4_dropDeed_76 : decode cX4_dropDeed 76 = .ok (.iconst 2, 1) := dk_5 (dk_at dksX4_dropDeed_3 4 rfl rfl)
theorem dX4_dropDeed_77 : decode cX4_dropDeed 77 = .ok (.iaload, 1) := dk_46 (dk_at dksX4_dropDeed_3 5 rfl rfl)
theorem dX4_dropDeed_78 : decode cX4_dropDeed 78 = .ok (.ireturn, 1) := dk_172 (dk_at dksX4_dropDeed_3 6 rfl rfl)
abbrev cX4_stratum : ByteArray := prog_19_method_77_code
def yX4_stratum : MethodName := ⟨RX4, "stratum", "(I)I"⟩
def dkwX4_stratum_1 : List UInt8 := [182, 1, 1, 61, 42, 180, 0, 73, 27, 46, 172]
abbrev dktX4_stratum_1 : List UInt8 := dkwX4_stratum_1 ++ []
def dkwX4_stratum_0 : List UInt8 := [42, 42, 27, 182, 0, 140, 153, 0, 7, 3, 167, 0, 4, 4, 182, 1, 10, 154, 0, 5, 3, 172, 42]
abbrev dktX4_stratum_0 : List UInt8 := dkwX4_stratum_0 ++ dktX4_stratum_1
theorem dksX4_stratum_0 : cX4_stratum.data.toList.drop 0 = dktX4_stratum_0 := by decide +kernel
theorem dksX4_stratum_1 : cX4_stratum.data.toList.drop 23 = dktX4_stratum_1 := dk_seg dksX4_stratum_0 23 rfl rfl
theorem dX4_stratum_0 : decode cX4_stratum 0 = .ok (.aload_n 0, 1) := dk_42 (dk_at dksX4_stratum_0 0 rfl rfl)
theorem dX4_stratum_1 : decode cX4_stratum 1 = .ok (.aload_n 0, 1) := dk_42 (dk_at dksX4_stratum_0 1 rfl rfl)
theorem dX4_stratum_2 : decode cX4_stratum 2 = .ok (.iload_n 1, 1) := dk_27 (dk_at dksX4_stratum_0 2 rfl rfl)
theorem dX4_stratum_3 : decode cX4_stratum 3 = .ok (.invokevirtual 140, 3) := dk_182 0 140 (dk_at dksX4_stratum_0 3 rfl rfl)
theorem dX4_stratum_6 : decode cX4_stratum 6 = .ok (.ifCond .eq 7, 3) := dk_153 0 7 (dk_at dksX4_stratum_0 6 rfl rfl)
theorem dX4_stratum_9 : decode cX4_stratum 9 = .ok (.iconst 0, 1) := dk_3 (dk_at dksX4_stratum_0 9 rfl rfl)
theorem dX4_stratum_10 : decode cX4_stratum 10 = .ok (.goto 4, 3) := dk_167 0 4 (dk_at dksX4_stratum_0 10 rfl rfl)
theorem dX4_stratum_13 : decode cX4_stratum 13 = .ok (.iconst 1, 1) := dk_4 (dk_at dksX4_stratum_0 13 rfl rfl)
theorem dX4_stratum_14 : decode cX4_stratum 14 = .ok (.invokevirtual 266, 3) := dk_182 1 10 (dk_at dksX4_stratum_0 14 rfl rfl)
theorem dX4_stratum_17 : decode cX4_stratum 17 = .ok (.ifCond .ne 5, 3) := dk_154 0 5 (dk_at dksX4_stratum_0 17 rfl rfl)
theorem dX4_stratum_20 : decode cX4_stratum 20 = .ok (.iconst 0, 1) := dk_3 (dk_at dksX4_stratum_0 20 rfl rfl)
theorem dX4_stratum_21 : decode cX4_stratum 21 = .ok (.ireturn, 1) := dk_172 (dk_at dksX4_stratum_0 21 rfl rfl)
theorem dX4_stratum_22 : decode cX4_stratum 22 = .ok (.aload_n 0, 1) := dk_42 (dk_at dksX4_stratum_0 22 rfl rfl)
theorem dX4_stratum_23 : decode cX4_stratum 23 = .ok (.invokevirtual 257, 3) := dk_182 1 1 (dk_at dksX4_stratum_1 0 rfl rfl)
theorem dX4_stratum_26 : decode cX4_stratum 26 = .ok (.istore_n 2, 1) := dk_61 (dk_at dksX4_stratum_1 3 rfl rfl)
theorem dX4_stratum_27 : decode cX4_stratum 27 = .ok (.aload_n 0, 1) := dk_42 (dk_at dksX4_stratum_1 4 rfl rfl)
theorem dX4_stratum_28 : decode cX4_stratum 28 = .ok (.getfield 73, 3) := dk_180 0 73 (dk_at dksX4_stratum_1 5 rfl rfl)
theorem dX4_stratum_31 : decode cX4_stratum 31 = .ok (.iload_n 1, 1) := dk_27 (dk_at dksX4_stratum_1 8 rfl rfl)
theorem dX4_stratum_32 : decode cX4_stratum 32 = .ok (.iaload, 1) := dk_46 (dk_at dksX4_stratum_1 9 rfl rfl)
theorem dX4_stratum_33 : decode cX4_stratum 33 = .ok (.ireturn, 1) := dk_172 (dk_at dksX4_stratum_1 10 rfl rfl)
abbrev cX4_depth : ByteArray := prog_19_method_81_code
def yX4_depth : MethodName := ⟨RX4, "depth", "(I)I"⟩
def dkwX4_depth_1 : List UInt8 := [28, 2, 160, 0, 7, 2, 167, 0, 9, 42, 180, 0, 113, 28, 46, 172]
abbrev dktX4_depth_1 : List UInt8 := dkwX4_depth_1 ++ []
def dkwX4_depth_0 : List UInt8 := [42, 42, 27, 182, 1, 16, 182, 1, 10, 154, 0, 5, 3, 172, 42, 27, 182, 0, 192, 61, 42, 182, 1, 85]
abbrev dktX4_depth_0 : List UInt8 := dkwX4_depth_0 ++ dktX4_depth_1
theorem dksX4_depth_0 : cX4_depth.data.toList.drop 0 = dktX4_depth_0 := by decide +kernel
theorem dksX4_depth_1 : cX4_depth.data.toList.drop 24 = dktX4_depth_1 := dk_seg dksX4_depth_0 24 rfl rfl
theorem dX4_depth_0 : decode cX4_depth 0 = .ok (.aload_n 0, 1) := dk_42 (dk_at dksX4_depth_0 0 rfl rfl)
theorem dX4_depth_1 : decode cX4_depth 1 = .ok (.aload_n 0, 1) := dk_42 (dk_at dksX4_depth_0 1 rfl rfl)
theorem dX4_depth_2 : decode cX4_depth 2 = .ok (.iload_n 1, 1) := dk_27 (dk_at dksX4_depth_0 2 rfl rfl)
theorem dX4_depth_3 : decode cX4_depth 3 = .ok (.invokevirtual 272, 3) := dk_182 1 16 (dk_at dksX4_depth_0 3 rfl rfl)
theorem dX4_depth_6 : decode cX4_depth 6 = .ok (.invokevirtual 266, 3) := dk_182 1 10 (dk_at dksX4_depth_0 6 rfl rfl)
theorem dX4_depth_9 : decode cX4_depth 9 = .ok (.ifCond .ne 5, 3) := dk_154 0 5 (dk_at dksX4_depth_0 9 rfl rfl)
theorem dX4_depth_12 : decode cX4_depth 12 = .ok (.iconst 0, 1) := dk_3 (dk_at dksX4_depth_0 12 rfl rfl)
theorem dX4_depth_13 : decode cX4_depth 13 = .ok (.ireturn, 1) := dk_172 (dk_at dksX4_depth_0 13 rfl rfl)
theorem dX4_depth_14 : decode cX4_depth 14 = .ok (.aload_n 0, 1) := dk_42 (dk_at dksX4_depth_0 14 rfl rfl)
theorem dX4_depth_15 : decode cX4_depth 15 = .ok (.iload_n 1, 1) := dk_27 (dk_at dksX4_depth_0 15 rfl rfl)
theorem dX4_depth_16 : decode cX4_depth 16 = .ok (.invokevirtual 192, 3) := dk_182 0 192 (dk_at dksX4_depth_0 16 rfl rfl)
theorem dX4_depth_19 : decode cX4_depth 19 = .ok (.istore_n 2, 1) := dk_61 (dk_at dksX4_depth_0 19 rfl rfl)
theorem dX4_depth_20 : decode cX4_depth 20 = .ok (.aload_n 0, 1) := dk_42 (dk_at dksX4_depth_0 20 rfl rfl)
theorem dX4_depth_21 : decode cX4_depth 21 = .ok (.invokevirtual 341, 3) := dk_182 1 85 (dk_at dksX4_depth_0 21 rfl rfl)
theorem dX4_depth_24 : decode cX4_depth 24 = .ok (.iload_n 2, 1) := dk_28 (dk_at dksX4_depth_1 0 rfl rfl)
theorem dX4_depth_25 : decode cX4_depth 25 = .ok (.iconst (-1), 1) := dk_2 (dk_at dksX4_depth_1 1 rfl rfl)
theorem dX4_depth_26 : decode cX4_depth 26 = .ok (.if_icmp .ne 7, 3) := dk_160 0 7 (dk_at dksX4_depth_1 2 rfl rfl)
theorem dX4_depth_29 : decode cX4_depth 29 = .ok (.iconst (-1), 1) := dk_2 (dk_at dksX4_depth_1 5 rfl rfl)
theorem dX4_depth_30 : decode cX4_depth 30 = .ok (.goto 9, 3) := dk_167 0 9 (dk_at dksX4_depth_1 6 rfl rfl)
theorem dX4_depth_33 : decode cX4_depth 33 = .ok (.aload_n 0, 1) := dk_42 (dk_at dksX4_depth_1 9 rfl rfl)
theorem dX4_depth_34 : decode cX4_depth 34 = .ok (.getfield 113, 3) := dk_180 0 113 (dk_at dksX4_depth_1 10 rfl rfl)
theorem dX4_depth_37 : decode cX4_depth 37 = .ok (.iload_n 2, 1) := dk_28 (dk_at dksX4_depth_1 13 rfl rfl)
theorem dX4_depth_38 : decode cX4_depth 38 = .ok (.iaload, 1) := dk_46 (dk_at dksX4_depth_1 14 rfl rfl)
theorem dX4_depth_39 : decode cX4_depth 39 = .ok (.ireturn, 1) := dk_172 (dk_at dksX4_depth_1 15 rfl rfl)
abbrev cX4_findDepths : ByteArray := prog_19_method_79_code
def yX4_findDepths : MethodName := ⟨RX4, "findDepths", "()V"⟩
def dkwX4_findDepths_3 : List UInt8 := [154, 0, 7, 27, 153, 0, 7, 4, 167, 0, 4, 3, 60, 132, 2, 1, 167, 255, 225, 167, 255, 214, 177]
abbrev dktX4_findDepths_3 : List UInt8 := dkwX4_findDepths_3 ++ []
def dkwX4_findDepths_2 : List UInt8 := [153, 0, 44, 3, 60, 3, 61, 28, 42, 180, 0, 7, 4, 46, 162, 0, 27, 42, 28, 182, 1, 79]
abbrev dktX4_findDepths_2 : List UInt8 := dkwX4_findDepths_2 ++ dktX4_findDepths_3
def dkwX4_findDepths_1 : List UInt8 := [46, 182, 1, 13, 2, 160, 0, 8, 18, 139, 167, 0, 4, 3, 79, 132, 1, 1, 167, 255, 216, 4, 60, 27]
abbrev dktX4_findDepths_1 : List UInt8 := dkwX4_findDepths_1 ++ dktX4_findDepths_2
def dkwX4_findDepths_0 : List UInt8 := [3, 60, 27, 42, 180, 0, 7, 16, 6, 46, 162, 0, 35, 42, 180, 0, 113, 27, 42, 42, 180, 0, 52, 27]
abbrev dktX4_findDepths_0 : List UInt8 := dkwX4_findDepths_0 ++ dktX4_findDepths_1
theorem dksX4_findDepths_0 : cX4_findDepths.data.toList.drop 0 = dktX4_findDepths_0 := by decide +kernel
theorem dksX4_findDepths_1 : cX4_findDepths.data.toList.drop 24 = dktX4_findDepths_1 := dk_seg dksX4_findDepths_0 24 rfl rfl
theorem dksX4_findDepths_2 : cX4_findDepths.data.toList.drop 48 = dktX4_findDepths_2 := dk_seg dksX4_findDepths_1 24 rfl rfl
theorem dksX4_findDepths_3 : cX4_findDepths.data.toList.drop 70 = dktX4_findDepths_3 := dk_seg dksX4_findDepths_2 22 rfl rfl
theorem dX4_findDepths_0 : decode cX4_findDepths 0 = .ok (.iconst 0, 1) := dk_3 (dk_at dksX4_findDepths_0 0 rfl rfl)
theorem dX4_findDepths_1 : decode cX4_findDepths 1 = .ok (.istore_n 1, 1) := dk_60 (dk_at dksX4_findDepths_0 1 rfl rfl)
theorem dX4_findDepths_2 : decode cX4_findDepths 2 = .ok (.iload_n 1, 1) := dk_27 (dk_at dksX4_findDepths_0 2 rfl rfl)
theorem dX4_findDepths_3 : decode cX4_findDepths 3 = .ok (.aload_n 0, 1) := dk_42 (dk_at dksX4_findDepths_0 3 rfl rfl)
theorem dX4_findDepths_4 : decode cX4_findDepths 4 = .ok (.getfield 7, 3) := dk_180 0 7 (dk_at dksX4_findDepths_0 4 rfl rfl)
theorem dX4_findDepths_7 : decode cX4_findDepths 7 = .ok (.bipush 6, 2) := dk_16 6 (dk_at dksX4_findDepths_0 7 rfl rfl)
theorem dX4_findDepths_9 : decode cX4_findDepths 9 = .ok (.iaload, 1) := dk_46 (dk_at dksX4_findDepths_0 9 rfl rfl)
theorem dX4_findDepths_10 : decode cX4_findDepths 10 = .ok (.if_icmp .ge 35, 3) := dk_162 0 35 (dk_at dksX4_findDepths_0 10 rfl rfl)
theorem dX4_findDepths_13 : decode cX4_findDepths 13 = .ok (.aload_n 0, 1) := dk_42 (dk_at dksX4_findDepths_0 13 rfl rfl)
theorem dX4_findDepths_14 : decode cX4_findDepths 14 = .ok (.getfield 113, 3) := dk_180 0 113 (dk_at dksX4_findDepths_0 14 rfl rfl)
theorem dX4_findDepths_17 : decode cX4_findDepths 17 = .ok (.iload_n 1, 1) := dk_27 (dk_at dksX4_findDepths_0 17 rfl rfl)
theorem dX4_findDepths_18 : decode cX4_findDepths 18 = .ok (.aload_n 0, 1) := dk_42 (dk_at dksX4_findDepths_0 18 rfl rfl)
theorem dX4_findDepths_19 : decode cX4_findDepths 19 = .ok (.aload_n 0, 1) := dk_42 (dk_at dksX4_findDepths_0 19 rfl rfl)
theorem dX4_findDepths_20 : decode cX4_findDepths 20 = .ok (.getfield 52, 3) := dk_180 0 52 (dk_at dksX4_findDepths_0 20 rfl rfl)
theorem dX4_findDepths_23 : decode cX4_findDepths 23 = .ok (.iload_n 1, 1) := dk_27 (dk_at dksX4_findDepths_0 23 rfl rfl)
theorem dX4_findDepths_24 : decode cX4_findDepths 24 = .ok (.iaload, 1) := dk_46 (dk_at dksX4_findDepths_1 0 rfl rfl)
theorem dX4_findDepths_25 : decode cX4_findDepths 25 = .ok (.invokevirtual 269, 3) := dk_182 1 13 (dk_at dksX4_findDepths_1 1 rfl rfl)
theorem dX4_findDepths_28 : decode cX4_findDepths 28 = .ok (.iconst (-1), 1) := dk_2 (dk_at dksX4_findDepths_1 4 rfl rfl)
theorem dX4_findDepths_29 : decode cX4_findDepths 29 = .ok (.if_icmp .ne 8, 3) := dk_160 0 8 (dk_at dksX4_findDepths_1 5 rfl rfl)
theorem dX4_findDepths_32 : decode cX4_findDepths 32 = .ok (.ldc 139, 2) := dk_18 139 (dk_at dksX4_findDepths_1 8 rfl rfl)
theorem dX4_findDepths_34 : decode cX4_findDepths 34 = .ok (.goto 4, 3) := dk_167 0 4 (dk_at dksX4_findDepths_1 10 rfl rfl)
theorem dX4_findDepths_37 : decode cX4_findDepths 37 = .ok (.iconst 0, 1) := dk_3 (dk_at dksX4_findDepths_1 13 rfl rfl)
theorem dX4_findDepths_38 : decode cX4_findDepths 38 = .ok (.iastore, 1) := dk_79 (dk_at dksX4_findDepths_1 14 rfl rfl)
theorem dX4_findDepths_39 : decode cX4_findDepths 39 = .ok (.iinc 1 1, 3) := dk_132 1 1 (dk_at dksX4_findDepths_1 15 rfl rfl)
theorem dX4_findDepths_42 : decode cX4_findDepths 42 = .ok (.goto (-40), 3) := dk_167 255 216 (dk_at dksX4_findDepths_1 18 rfl rfl)
theorem dX4_findDepths_45 : decode cX4_findDepths 45 = .ok (.iconst 1, 1) := dk_4 (dk_at dksX4_findDepths_1 21 rfl rfl)
theorem dX4_findDepths_46 : decode cX4_findDepths 46 = .ok (.istore_n 1, 1) := dk_60 (dk_at dksX4_findDepths_1 22 rfl rfl)
theorem dX4_findDepths_47 : decode cX4_findDepths 47 = .ok (.iload_n 1, 1) := dk_27 (dk_at dksX4_findDepths_1 23 rfl rfl)
theorem dX4_findDepths_48 : decode cX4_findDepths 48 = .ok (.ifCond .eq 44, 3) := dk_153 0 44 (dk_at dksX4_findDepths_2 0 rfl rfl)
theorem dX4_findDepths_51 : decode cX4_findDepths 51 = .ok (.iconst 0, 1) := dk_3 (dk_at dksX4_findDepths_2 3 rfl rfl)
theorem dX4_findDepths_52 : decode cX4_findDepths 52 = .ok (.istore_n 1, 1) := dk_60 (dk_at dksX4_findDepths_2 4 rfl rfl)
theorem dX4_findDepths_53 : decode cX4_findDepths 53 = .ok (.iconst 0, 1) := dk_3 (dk_at dksX4_findDepths_2 5 rfl rfl)
theorem dX4_findDepths_54 : decode cX4_findDepths 54 = .ok (.istore_n 2, 1) := dk_61 (dk_at dksX4_findDepths_2 6 rfl rfl)
theorem dX4_findDepths_55 : decode cX4_findDepths 55 = .ok (.iload_n 2, 1) := dk_28 (dk_at dksX4_findDepths_2 7 rfl rfl)
theorem dX4_findDepths_56 : decode cX4_findDepths 56 = .ok (.aload_n 0, 1) := dk_42 (dk_at dksX4_findDepths_2 8 rfl rfl)
theorem dX4_findDepths_57 : decode cX4_findDepths 57 = .ok (.getfield 7, 3) := dk_180 0 7 (dk_at dksX4_findDepths_2 9 rfl rfl)
theorem dX4_findDepths_60 : decode cX4_findDepths 60 = .ok (.iconst 1, 1) := dk_4 (dk_at dksX4_findDepths_2 12 rfl rfl)
theorem dX4_findDepths_61 : decode cX4_findDepths 61 = .ok (.iaload, 1) := dk_46 (dk_at dksX4_findDepths_2 13 rfl rfl)
theorem dX4_findDepths_62 : decode cX4_findDepths 62 = .ok (.if_icmp .ge 27, 3) := dk_162 0 27 (dk_at dksX4_findDepths_2 14 rfl rfl)
theorem dX4_findDepths_65 : decode cX4_findDepths 65 = .ok (.aload_n 0, 1) := dk_42 (dk_at dksX4_findDepths_2 17 rfl rfl)
theorem dX4_findDepths_66 : decode cX4_findDepths 66 = .ok (.iload_n 2, 1) := dk_28 (dk_at dksX4_findDepths_2 18 rfl rfl)
theorem dX4_findDepths_67 : decode cX4_findDepths 67 = .ok (.invokevirtual 335, 3) := dk_182 1 79 (dk_at dksX4_findDepths_2 19 rfl rfl)
theorem dX4_findDepths_70 : decode cX4_findDepths 70 = .ok (.ifCond .ne 7, 3) := dk_154 0 7 (dk_at dksX4_findDepths_3 0 rfl rfl)
theorem dX4_findDepths_73 : decode cX4_findDepths 73 = .ok (.iload_n 1, 1) := dk_27 (dk_at dksX4_findDepths_3 3 rfl rfl)
theorem dX4_findDepths_74 : decode cX4_findDepths 74 = .ok (.ifCond .eq 7, 3) := dk_153 0 7 (dk_at dksX4_findDepths_3 4 rfl rfl)
theorem dX4_findDepths_77 : decode cX4_findDepths 77 = .ok (.iconst 1, 1) := dk_4 (dk_at dksX4_findDepths_3 7 rfl rfl)
theorem dX4_findDepths_78 : decode cX4_findDepths 78 = .ok (.goto 4, 3) := dk_167 0 4 (dk_at dksX4_findDepths_3 8 rfl rfl)
theorem dX4_findDepths_81 : decode cX4_findDepths 81 = .ok (.iconst 0, 1) := dk_3 (dk_at dksX4_findDepths_3 11 rfl rfl)
theorem dX4_findDepths_82 : decode cX4_findDepths 82 = .ok (.istore_n 1, 1) := dk_60 (dk_at dksX4_findDepths_3 12 rfl rfl)
theorem dX4_findDepths_83 : decode cX4_findDepths 83 = .ok (.iinc 2 1, 3) := dk_132 2 1 (dk_at dksX4_findDepths_3 13 rfl rfl)
theorem dX4_findDepths_86 : decode cX4_findDepths 86 = .ok (.goto (-31), 3) := dk_167 255 225 (dk_at dksX4_findDepths_3 16 rfl rfl)
theorem dX4_findDepths_89 : decode cX4_findDepths 89 = .ok (.goto (-42), 3) := dk_167 255 214 (dk_at dksX4_findDepths_3 19 rfl rfl)
theorem dX4_findDepths_92 : decode cX4_findDepths 92 = .ok (.return_, 1) := dk_177 (dk_at dksX4_findDepths_3 22 rfl rfl)
abbrev cX4_lowerBy : ByteArray := prog_19_method_80_code
def yX4_lowerBy : MethodName := ⟨RX4, "lowerBy", "(I)Z"⟩
def dkwX4_lowerBy_5 : List UInt8 := [172]
abbrev dktX4_lowerBy_5 : List UInt8 := dkwX4_lowerBy_5 ++ []
def dkwX4_lowerBy_4 : List UInt8 := [182, 0, 225, 96, 182, 1, 82, 154, 0, 7, 28, 153, 0, 7, 4, 167, 0, 4, 3, 61, 167, 255, 221, 28]
abbrev dktX4_lowerBy_4 : List UInt8 := dkwX4_lowerBy_4 ++ dktX4_lowerBy_5
def dkwX4_lowerBy_3 : List UInt8 := [42, 180, 0, 25, 27, 46, 182, 0, 214, 42, 182, 0, 218, 153, 0, 34, 42, 42, 27, 182, 0, 222, 4, 42]
abbrev dktX4_lowerBy_3 : List UInt8 := dkwX4_lowerBy_3 ++ dktX4_lowerBy_4
def dkwX4_lowerBy_2 : List UInt8 := [28, 153, 0, 7, 4, 167, 0, 4, 3, 61, 132, 3, 1, 167, 255, 214, 28, 172, 42, 182, 0, 211, 42, 27]
abbrev dktX4_lowerBy_2 : List UInt8 := dkwX4_lowerBy_2 ++ dktX4_lowerBy_3
def dkwX4_lowerBy_1 : List UInt8 := [162, 0, 40, 42, 42, 27, 29, 182, 0, 248, 4, 42, 180, 0, 107, 29, 46, 96, 182, 1, 82, 154, 0, 7]
abbrev dktX4_lowerBy_1 : List UInt8 := dkwX4_lowerBy_1 ++ dktX4_lowerBy_2
def dkwX4_lowerBy_0 : List UInt8 := [3, 61, 42, 27, 182, 0, 236, 153, 0, 57, 42, 27, 182, 0, 245, 3, 62, 29, 42, 180, 0, 208]
abbrev dktX4_lowerBy_0 : List UInt8 := dkwX4_lowerBy_0 ++ dktX4_lowerBy_1
theorem dksX4_lowerBy_0 : cX4_lowerBy.data.toList.drop 0 = dktX4_lowerBy_0 := by decide +kernel
theorem dksX4_lowerBy_1 : cX4_lowerBy.data.toList.drop 22 = dktX4_lowerBy_1 := dk_seg dksX4_lowerBy_0 22 rfl rfl
theorem dksX4_lowerBy_2 : cX4_lowerBy.data.toList.drop 46 = dktX4_lowerBy_2 := dk_seg dksX4_lowerBy_1 24 rfl rfl
theorem dksX4_lowerBy_3 : cX4_lowerBy.data.toList.drop 70 = dktX4_lowerBy_3 := dk_seg dksX4_lowerBy_2 24 rfl rfl
theorem dksX4_lowerBy_4 : cX4_lowerBy.data.toList.drop 94 = dktX4_lowerBy_4 := dk_seg dksX4_lowerBy_3 24 rfl rfl
theorem dksX4_lowerBy_5 : cX4_lowerBy.data.toList.drop 118 = dktX4_lowerBy_5 := dk_seg dksX4_lowerBy_4 24 rfl rfl
theorem dX4_lowerBy_0 : decode cX4_lowerBy 0 = .ok (.iconst 0, 1) := dk_3 (dk_at dksX4_lowerBy_0 0 rfl rfl)
theorem dX4_lowerBy_1 : decode cX4_lowerBy 1 = .ok (.istore_n 2, 1) := dk_61 (dk_at dksX4_lowerBy_0 1 rfl rfl)
theorem dX4_lowerBy_2 : decode cX4_lowerBy 2 = .ok (.aload_n 0, 1) := dk_42 (dk_at dksX4_lowerBy_0 2 rfl rfl)
theorem dX4_lowerBy_3 : decode cX4_lowerBy 3 = .ok (.iload_n 1, 1) := dk_27 (dk_at dksX4_lowerBy_0 3 rfl rfl)
theorem dX4_lowerBy_4 : decode cX4_lowerBy 4 = .ok (.invokevirtual 236, 3) := dk_182 0 236 (dk_at dksX4_lowerBy_0 4 rfl rfl)
theorem dX4_lowerBy_7 : decode cX4_lowerBy 7 = .ok (.ifCond .eq 57, 3) := dk_153 0 57 (dk_at dksX4_lowerBy_0 7 rfl rfl)
theorem dX4_lowerBy_10 : decode cX4_lowerBy 10 = .ok (.aload_n 0, 1) := dk_42 (dk_at dksX4_lowerBy_0 10 rfl rfl)
theorem dX4_lowerBy_11 : decode cX4_lowerBy 11 = .ok (.iload_n 1, 1) := dk_27 (dk_at dksX4_lowerBy_0 11 rfl rfl)
theorem dX4_lowerBy_12 : decode cX4_lowerBy 12 = .ok (.invokevirtual 245, 3) := dk_182 0 245 (dk_at dksX4_lowerBy_0 12 rfl rfl)
theorem dX4_lowerBy_15 : decode cX4_lowerBy 15 = .ok (.iconst 0, 1) := dk_3 (dk_at dksX4_lowerBy_0 15 rfl rfl)
theorem dX4_lowerBy_16 : decode cX4_lowerBy 16 = .ok (.istore_n 3, 1) := dk_62 (dk_at dksX4_lowerBy_0 16 rfl rfl)
theorem dX4_lowerBy_17 : decode cX4_lowerBy 17 = .ok (.iload_n 3, 1) := dk_29 (dk_at dksX4_lowerBy_0 17 rfl rfl)
theorem dX4_lowerBy_18 : decode cX4_lowerBy 18 = .ok (.aload_n 0, 1) := dk_42 (dk_at dksX4_lowerBy_0 18 rfl rfl)
theorem dX4_lowerBy_19 : decode cX4_lowerBy 19 = .ok (.getfield 208, 3) := dk_180 0 208 (dk_at dksX4_lowerBy_0 19 rfl rfl)
theorem dX4_lowerBy_22 : decode cX4_lowerBy 22 = .ok (.if_icmp .ge 40, 3) := dk_162 0 40 (dk_at dksX4_lowerBy_1 0 rfl rfl)
theorem dX4_lowerBy_25 : decode cX4_lowerBy 25 = .ok (.aload_n 0, 1) := dk_42 (dk_at dksX4_lowerBy_1 3 rfl rfl)
theorem dX4_lowerBy_26 : decode cX4_lowerBy 26 = .ok (.aload_n 0, 1) := dk_42 (dk_at dksX4_lowerBy_1 4 rfl rfl)
theorem dX4_lowerBy_27 : decode cX4_lowerBy 27 = .ok (.iload_n 1, 1) := dk_27 (dk_at dksX4_lowerBy_1 5 rfl rfl)
theorem dX4_lowerBy_28 : decode cX4_lowerBy 28 = .ok (.iload_n 3, 1) := dk_29 (dk_at dksX4_lowerBy_1 6 rfl rfl)
theorem dX4_lowerBy_29 : decode cX4_lowerBy 29 = .ok (.invokevirtual 248, 3) := dk_182 0 248 (dk_at dksX4_lowerBy_1 7 rfl rfl)
theorem dX4_lowerBy_32 : decode cX4_lowerBy 32 = .ok (.iconst 1, 1) := dk_4 (dk_at dksX4_lowerBy_1 10 rfl rfl)
theorem dX4_lowerBy_33 : decode cX4_lowerBy 33 = .ok (.aload_n 0, 1) := dk_42 (dk_at dksX4_lowerBy_1 11 rfl rfl)
theorem dX4_lowerBy_34 : decode cX4_lowerBy 34 = .ok (.getfield 107, 3) := dk_180 0 107 (dk_at dksX4_lowerBy_1 12 rfl rfl)
theorem dX4_lowerBy_37 : decode cX4_lowerBy 37 = .ok (.iload_n 3, 1) := dk_29 (dk_at dksX4_lowerBy_1 15 rfl rfl)
theorem dX4_lowerBy_38 : decode cX4_lowerBy 38 = .ok (.iaload, 1) := dk_46 (dk_at dksX4_lowerBy_1 16 rfl rfl)
theorem dX4_lowerBy_39 : decode cX4_lowerBy 39 = .ok (.iadd, 1) := dk_96 (dk_at dksX4_lowerBy_1 17 rfl rfl)
theorem dX4_lowerBy_40 : decode cX4_lowerBy 40 = .ok (.invokevirtual 338, 3) := dk_182 1 82 (dk_at dksX4_lowerBy_1 18 rfl rfl)
theorem dX4_lowerBy_43 : decode cX4_lowerBy 43 = .ok (.ifCond .ne 7, 3) := dk_154 0 7 (dk_at dksX4_lowerBy_1 21 rfl rfl)
theorem dX4_lowerBy_46 : decode cX4_lowerBy 46 = .ok (.iload_n 2, 1) := dk_28 (dk_at dksX4_lowerBy_2 0 rfl rfl)
theorem dX4_lowerBy_47 : decode cX4_lowerBy 47 = .ok (.ifCond .eq 7, 3) := dk_153 0 7 (dk_at dksX4_lowerBy_2 1 rfl rfl)
theorem dX4_lowerBy_50 : decode cX4_lowerBy 50 = .ok (.iconst 1, 1) := dk_4 (dk_at dksX4_lowerBy_2 4 rfl rfl)
theorem dX4_lowerBy_51 : decode cX4_lowerBy 51 = .ok (.goto 4, 3) := dk_167 0 4 (dk_at dksX4_lowerBy_2 5 rfl rfl)
theorem dX4_lowerBy_54 : decode cX4_lowerBy 54 = .ok (.iconst 0, 1) := dk_3 (dk_at dksX4_lowerBy_2 8 rfl rfl)
theorem dX4_lowerBy_55 : decode cX4_lowerBy 55 = .ok (.istore_n 2, 1) := dk_61 (dk_at dksX4_lowerBy_2 9 rfl rfl)
theorem dX4_lowerBy_56 : decode cX4_lowerBy 56 = .ok (.iinc 3 1, 3) := dk_132 3 1 (dk_at dksX4_lowerBy_2 10 rfl rfl)
theorem dX4_lowerBy_59 : decode cX4_lowerBy 59 = .ok (.goto (-42), 3) := dk_167 255 214 (dk_at dksX4_lowerBy_2 13 rfl rfl)
theorem dX4_lowerBy_62 : decode cX4_lowerBy 62 = .ok (.iload_n 2, 1) := dk_28 (dk_at dksX4_lowerBy_2 16 rfl rfl)
theorem dX4_lowerBy_63 : decode cX4_lowerBy 63 = .ok (.ireturn, 1) := dk_172 (dk_at dksX4_lowerBy_2 17 rfl rfl)
theorem dX4_lowerBy_64 : decode cX4_lowerBy 64 = .ok (.aload_n 0, 1) := dk_42 (dk_at dksX4_lowerBy_2 18 rfl rfl)
theorem dX4_lowerBy_65 : decode cX4_lowerBy 65 = .ok (.invokevirtual 211, 3) := dk_182 0 211 (dk_at dksX4_lowerBy_2 19 rfl rfl)
theorem dX4_lowerBy_68 : decode cX4_lowerBy 68 = .ok (.aload_n 0, 1) := dk_42 (dk_at dksX4_lowerBy_2 22 rfl rfl)
theorem dX4_lowerBy_69 : decode cX4_lowerBy 69 = .ok (.iload_n 1, 1) := dk_27 (dk_at dksX4_lowerBy_2 23 rfl rfl)
theorem dX4_lowerBy_70 : decode cX4_lowerBy 70 = .ok (.aload_n 0, 1) := dk_42 (dk_at dksX4_lowerBy_3 0 rfl rfl)
theorem dX4_lowerBy_71 : decode cX4_lowerBy 71 = .ok (.getfield 25, 3) := dk_180 0 25 (dk_at dksX4_lowerBy_3 1 rfl rfl)
theorem dX4_lowerBy_74 : decode cX4_lowerBy 74 = .ok (.iload_n 1, 1) := dk_27 (dk_at dksX4_lowerBy_3 4 rfl rfl)
theorem dX4_lowerBy_75 : decode cX4_lowerBy 75 = .ok (.iaload, 1) := dk_46 (dk_at dksX4_lowerBy_3 5 rfl rfl)
theorem dX4_lowerBy_76 : decode cX4_lowerBy 76 = .ok (.invokevirtual 214, 3) := dk_182 0 214 (dk_at dksX4_lowerBy_3 6 rfl rfl)
theorem dX4_lowerBy_79 : decode cX4_lowerBy 79 = .ok (.aload_n 0, 1) := dk_42 (dk_at dksX4_lowerBy_3 9 rfl rfl)
theorem dX4_lowerBy_80 : decode cX4_lowerBy 80 = .ok (.invokevirtual 218, 3) := dk_182 0 218 (dk_at dksX4_lowerBy_3 10 rfl rfl)
theorem dX4_lowerBy_83 : decode cX4_lowerBy 83 = .ok (.ifCond .eq 34, 3) := dk_153 0 34 (dk_at dksX4_lowerBy_3 13 rfl rfl)
theorem dX4_lowerBy_86 : decode cX4_lowerBy 86 = .ok (.aload_n 0, 1) := dk_42 (dk_at dksX4_lowerBy_3 16 rfl rfl)
theorem dX4_lowerBy_87 : decode cX4_lowerBy 87 = .ok (.aload_n 0, 1) := dk_42 (dk_at dksX4_lowerBy_3 17 rfl rfl)
theorem dX4_lowerBy_88 : decode cX4_lowerBy 88 = .ok (.iload_n 1, 1) := dk_27 (dk_at dksX4_lowerBy_3 18 rfl rfl)
theorem dX4_lowerBy_89 : decode cX4_lowerBy 89 = .ok (.invokevirtual 222, 3) := dk_182 0 222 (dk_at dksX4_lowerBy_3 19 rfl rfl)
theorem dX4_lowerBy_92 : decode cX4_lowerBy 92 = .ok (.iconst 1, 1) := dk_4 (dk_at dksX4_lowerBy_3 22 rfl rfl)
theorem dX4_lowerBy_93 : decode cX4_lowerBy 93 = .ok (.aload_n 0, 1) := dk_42 (dk_at dksX4_lowerBy_3 23 rfl rfl)
theorem dX4_lowerBy_94 : decode cX4_lowerBy 94 = .ok (.invokevirtual 225, 3) := dk_182 0 225 (dk_at dksX4_lowerBy_4 0 rfl rfl)
theorem dX4_lowerBy_97 : decode cX4_lowerBy 97 = .ok (.iadd, 1) := dk_96 (dk_at dksX4_lowerBy_4 3 rfl rfl)
theorem dX4_lowerBy_98 : decode cX4_lowerBy 98 = .ok (.invokevirtual 338, 3) := dk_182 1 82 (dk_at dksX4_lowerBy_4 4 rfl rfl)
theorem dX4_lowerBy_101 : decode cX4_lowerBy 101 = .ok (.ifCond .ne 7, 3) := dk_154 0 7 (dk_at dksX4_lowerBy_4 7 rfl rfl)
theorem dX4_lowerBy_104 : decode cX4_lowerBy 104 = .ok (.iload_n 2, 1) := dk_28 (dk_at dksX4_lowerBy_4 10 rfl rfl)
theorem dX4_lowerBy_105 : decode cX4_lowerBy 105 = .ok (.ifCond .eq 7, 3) := dk_153 0 7 (dk_at dksX4_lowerBy_4 11 rfl rfl)
theorem dX4_lowerBy_108 : decode cX4_lowerBy 108 = .ok (.iconst 1, 1) := dk_4 (dk_at dksX4_lowerBy_4 14 rfl rfl)
theorem dX4_lowerBy_109 : decode cX4_lowerBy 109 = .ok (.goto 4, 3) := dk_167 0 4 (dk_at dksX4_lowerBy_4 15 rfl rfl)
theorem dX4_lowerBy_112 : decode cX4_lowerBy 112 = .ok (.iconst 0, 1) := dk_3 (dk_at dksX4_lowerBy_4 18 rfl rfl)
theorem dX4_lowerBy_113 : decode cX4_lowerBy 113 = .ok (.istore_n 2, 1) := dk_61 (dk_at dksX4_lowerBy_4 19 rfl rfl)
theorem dX4_lowerBy_114 : decode cX4_lowerBy 114 = .ok (.goto (-35), 3) := dk_167 255 221 (dk_at dksX4_lowerBy_4 20 rfl rfl)
theorem dX4_lowerBy_117 : decode cX4_lowerBy 117 = .ok (.iload_n 2, 1) := dk_28 (dk_at dksX4_lowerBy_4 23 rfl rfl)
theorem dX4_lowerBy_118 : decode cX4_lowerBy 118 = .ok (.ireturn, 1) := dk_172 (dk_at dksX4_lowerBy_5 0 rfl rfl)
abbrev cX4_lower : ByteArray := prog_19_method_78_code
def yX4_lower : MethodName := ⟨RX4, "lower", "(II)Z"⟩
def dkwX4_lower_1 : List UInt8 := [180, 0, 113, 29, 21, 4, 153, 0, 7, 28, 167, 0, 9, 42, 180, 0, 113, 29, 46, 79, 21, 4, 172]
abbrev dktX4_lower_1 : List UInt8 := dkwX4_lower_1 ++ []
def dkwX4_lower_0 : List UInt8 := [42, 27, 182, 0, 192, 62, 28, 42, 180, 0, 113, 29, 46, 162, 0, 7, 4, 167, 0, 4, 3, 54, 4, 42]
abbrev dktX4_lower_0 : List UInt8 := dkwX4_lower_0 ++ dktX4_lower_1
theorem dksX4_lower_0 : cX4_lower.data.toList.drop 0 = dktX4_lower_0 := by decide +kernel
theorem dksX4_lower_1 : cX4_lower.data.toList.drop 24 = dktX4_lower_1 := dk_seg dksX4_lower_0 24 rfl rfl
theorem dX4_lower_0 : decode cX4_lower 0 = .ok (.aload_n 0, 1) := dk_42 (dk_at dksX4_lower_0 0 rfl rfl)
theorem dX4_lower_1 : decode cX4_lower 1 = .ok (.iload_n 1, 1) := dk_27 (dk_at dksX4_lower_0 1 rfl rfl)
theorem dX4_lower_2 : decode cX4_lower 2 = .ok (.invokevirtual 192, 3) := dk_182 0 192 (dk_at dksX4_lower_0 2 rfl rfl)
theorem dX4_lower_5 : decode cX4_lower 5 = .ok (.istore_n 3, 1) := dk_62 (dk_at dksX4_lower_0 5 rfl rfl)
theorem dX4_lower_6 : decode cX4_lower 6 = .ok (.iload_n 2, 1) := dk_28 (dk_at dksX4_lower_0 6 rfl rfl)
theorem dX4_lower_7 : decode cX4_lower 7 = .ok (.aload_n 0, 1) := dk_42 (dk_at dksX4_lower_0 7 rfl rfl)
theorem dX4_lower_8 : decode cX4_lower 8 = .ok (.getfield 113, 3) := dk_180 0 113 (dk_at dksX4_lower_0 8 rfl rfl)
theorem dX4_lower_11 : decode cX4_lower 11 = .ok (.iload_n 3, 1) := dk_29 (dk_at dksX4_lower_0 11 rfl rfl)
theorem dX4_lower_12 : decode cX4_lower 12 = .ok (.iaload, 1) := dk_46 (dk_at dksX4_lower_0 12 rfl rfl)
theorem dX4_lower_13 : decode cX4_lower 13 = .ok (.if_icmp .ge 7, 3) := dk_162 0 7 (dk_at dksX4_lower_0 13 rfl rfl)
theorem dX4_lower_16 : decode cX4_lower 16 = .ok (.iconst 1, 1) := dk_4 (dk_at dksX4_lower_0 16 rfl rfl)
theorem dX4_lower_17 : decode cX4_lower 17 = .ok (.goto 4, 3) := dk_167 0 4 (dk_at dksX4_lower_0 17 rfl rfl)
theorem dX4_lower_20 : decode cX4_lower 20 = .ok (.iconst 0, 1) := dk_3 (dk_at dksX4_lower_0 20 rfl rfl)
theorem dX4_lower_21 : decode cX4_lower 21 = .ok (.istore 4, 2) := dk_54 4 (dk_at dksX4_lower_0 21 rfl rfl)
theorem dX4_lower_23 : decode cX4_lower 23 = .ok (.aload_n 0, 1) := dk_42 (dk_at dksX4_lower_0 23 rfl rfl)
theorem dX4_lower_24 : decode cX4_lower 24 = .ok (.getfield 113, 3) := dk_180 0 113 (dk_at dksX4_lower_1 0 rfl rfl)
theorem dX4_lower_27 : decode cX4_lower 27 = .ok (.iload_n 3, 1) := dk_29 (dk_at dksX4_lower_1 3 rfl rfl)
theorem dX4_lower_28 : decode cX4_lower 28 = .ok (.iload 4, 2) := dk_21 4 (dk_at dksX4_lower_1 4 rfl rfl)
theorem dX4_lower_30 : decode cX4_lower 30 = .ok (.ifCond .eq 7, 3) := dk_153 0 7 (dk_at dksX4_lower_1 6 rfl rfl)
theorem dX4_lower_33 : decode cX4_lower 33 = .ok (.iload_n 2, 1) := dk_28 (dk_at dksX4_lower_1 9 rfl rfl)
theorem dX4_lower_34 : decode cX4_lower 34 = .ok (.goto 9, 3) := dk_167 0 9 (dk_at dksX4_lower_1 10 rfl rfl)
theorem dX4_lower_37 : decode cX4_lower 37 = .ok (.aload_n 0, 1) := dk_42 (dk_at dksX4_lower_1 13 rfl rfl)
theorem dX4_lower_38 : decode cX4_lower 38 = .ok (.getfield 113, 3) := dk_180 0 113 (dk_at dksX4_lower_1 14 rfl rfl)
theorem dX4_lower_41 : decode cX4_lower 41 = .ok (.iload_n 3, 1) := dk_29 (dk_at dksX4_lower_1 17 rfl rfl)
theorem dX4_lower_42 : decode cX4_lower 42 = .ok (.iaload, 1) := dk_46 (dk_at dksX4_lower_1 18 rfl rfl)
theorem dX4_lower_43 : decode cX4_lower 43 = .ok (.iastore, 1) := dk_79 (dk_at dksX4_lower_1 19 rfl rfl)
theorem dX4_lower_44 : decode cX4_lower 44 = .ok (.iload 4, 2) := dk_21 4 (dk_at dksX4_lower_1 20 rfl rfl)
theorem dX4_lower_46 : decode cX4_lower 46 = .ok (.ireturn, 1) := dk_172 (dk_at dksX4_lower_1 22 rfl rfl)
abbrev cX4_why : ByteArray := prog_19_method_85_code
def yX4_why : MethodName := ⟨RX4, "why", "(I)I"⟩
def dkwX4_why_2 : List UInt8 := [46, 172]
abbrev dktX4_why_2 : List UInt8 := dkwX4_why_2 ++ []
def dkwX4_why_1 : List UInt8 := [17, 3, 232, 172, 42, 27, 182, 1, 98, 61, 28, 2, 160, 0, 7, 2, 167, 0, 9, 42, 180, 0, 16, 28]
abbrev dktX4_why_1 : List UInt8 := dkwX4_why_1 ++ dktX4_why_2
def dkwX4_why_0 : List UInt8 := [42, 42, 27, 182, 1, 16, 182, 1, 10, 154, 0, 5, 3, 172, 42, 27, 182, 1, 13, 2, 159, 0, 7]
abbrev dktX4_why_0 : List UInt8 := dkwX4_why_0 ++ dktX4_why_1
theorem dksX4_why_0 : cX4_why.data.toList.drop 0 = dktX4_why_0 := by decide +kernel
theorem dksX4_why_1 : cX4_why.data.toList.drop 23 = dktX4_why_1 := dk_seg dksX4_why_0 23 rfl rfl
theorem dksX4_why_2 : cX4_why.data.toList.drop 47 = dktX4_why_2 := dk_seg dksX4_why_1 24 rfl rfl
theorem dX4_why_0 : decode cX4_why 0 = .ok (.aload_n 0, 1) := dk_42 (dk_at dksX4_why_0 0 rfl rfl)
theorem dX4_why_1 : decode cX4_why 1 = .ok (.aload_n 0, 1) := dk_42 (dk_at dksX4_why_0 1 rfl rfl)
theorem dX4_why_2 : decode cX4_why 2 = .ok (.iload_n 1, 1) := dk_27 (dk_at dksX4_why_0 2 rfl rfl)
theorem dX4_why_3 : decode cX4_why 3 = .ok (.invokevirtual 272, 3) := dk_182 1 16 (dk_at dksX4_why_0 3 rfl rfl)
theorem dX4_why_6 : decode cX4_why 6 = .ok (.invokevirtual 266, 3) := dk_182 1 10 (dk_at dksX4_why_0 6 rfl rfl)
theorem dX4_why_9 : decode cX4_why 9 = .ok (.ifCond .ne 5, 3) := dk_154 0 5 (dk_at dksX4_why_0 9 rfl rfl)
theorem dX4_why_12 : decode cX4_why 12 = .ok (.iconst 0, 1) := dk_3 (dk_at dksX4_why_0 12 rfl rfl)
theorem dX4_why_13 : decode cX4_why 13 = .ok (.ireturn, 1) := dk_172 (dk_at dksX4_why_0 13 rfl rfl)
theorem dX4_why_14 : decode cX4_why 14 = .ok (.aload_n 0, 1) := dk_42 (dk_at dksX4_why_0 14 rfl rfl)
theorem dX4_why_15 : decode cX4_why 15 = .ok (.iload_n 1, 1) := dk_27 (dk_at dksX4_why_0 15 rfl rfl)
theorem dX4_why_16 : decode cX4_why 16 = .ok (.invokevirtual 269, 3) := dk_182 1 13 (dk_at dksX4_why_0 16 rfl rfl)
theorem dX4_why_19 : decode cX4_why 19 = .ok (.iconst (-1), 1) := dk_2 (dk_at dksX4_why_0 19 rfl rfl)
theorem dX4_why_20 : decode cX4_why 20 = .ok (.if_icmp .eq 7, 3) := dk_159 0 7 (dk_at dksX4_why_0 20 rfl rfl)
theorem dX4_why_23 : decode cX4_why 23 = .ok (.sipush 1000, 3) := dk_17 3 232 (dk_at dksX4_why_1 0 rfl rfl)
theorem dX4_why_26 : decode cX4_why 26 = .ok (.ireturn, 1) := dk_172 (dk_at dksX4_why_1 3 rfl rfl)
theorem dX4_why_27 : decode cX4_why 27 = .ok (.aload_n 0, 1) := dk_42 (dk_at dksX4_why_1 4 rfl rfl)
theorem dX4_why_28 : decode cX4_why 28 = .ok (.iload_n 1, 1) := dk_27 (dk_at dksX4_why_1 5 rfl rfl)
theorem dX4_why_29 : decode cX4_why 29 = .ok (.invokevirtual 354, 3) := dk_182 1 98 (dk_at dksX4_why_1 6 rfl rfl)
theorem dX4_why_32 : decode cX4_why 32 = .ok (.istore_n 2, 1) := dk_61 (dk_at dksX4_why_1 9 rfl rfl)
theorem dX4_why_33 : decode cX4_why 33 = .ok (.iload_n 2, 1) := dk_28 (dk_at dksX4_why_1 10 rfl rfl)
theorem dX4_why_34 : decode cX4_why 34 = .ok (.iconst (-1), 1) := dk_2 (dk_at dksX4_why_1 11 rfl rfl)
theorem dX4_why_35 : decode cX4_why 35 = .ok (.if_icmp .ne 7, 3) := dk_160 0 7 (dk_at dksX4_why_1 12 rfl rfl)
theorem dX4_why_38 : decode cX4_why 38 = .ok (.iconst (-1), 1) := dk_2 (dk_at dksX4_why_1 15 rfl rfl)
theorem dX4_why_39 : decode cX4_why 39 = .ok (.goto 9, 3) := dk_167 0 9 (dk_at dksX4_why_1 16 rfl rfl)
theorem dX4_why_42 : decode cX4_why 42 = .ok (.aload_n 0, 1) := dk_42 (dk_at dksX4_why_1 19 rfl rfl)
theorem dX4_why_43 : decode cX4_why 43 = .ok (.getfield 16, 3) := dk_180 0 16 (dk_at dksX4_why_1 20 rfl rfl)
theorem dX4_why_46 : decode cX4_why 46 = .ok (.iload_n 2, 1) := dk_28 (dk_at dksX4_why_1 23 rfl rfl)
theorem dX4_why_47 : decode cX4_why 47 = .ok (.iaload, 1) := dk_46 (dk_at dksX4_why_2 0 rfl rfl)
theorem dX4_why_48 : decode cX4_why 48 = .ok (.ireturn, 1) := dk_172 (dk_at dksX4_why_2 1 rfl rfl)
abbrev cX4_findReasons : ByteArray := prog_19_method_84_code
def yX4_findReasons : MethodName := ⟨RX4, "findReasons", "(I)I"⟩
def dkwX4_findReasons_2 : List UInt8 := [42, 180, 0, 113, 28, 46, 182, 1, 95, 153, 0, 5, 29, 172, 132, 3, 1, 167, 255, 226, 2, 172]
abbrev dktX4_findReasons_2 : List UInt8 := dkwX4_findReasons_2 ++ []
def dkwX4_findReasons_1 : List UInt8 := [159, 0, 5, 2, 172, 42, 182, 1, 85, 3, 62, 29, 42, 180, 0, 7, 4, 46, 162, 0, 26, 42, 29, 27]
abbrev dktX4_findReasons_1 : List UInt8 := dkwX4_findReasons_1 ++ dktX4_findReasons_2
def dkwX4_findReasons_0 : List UInt8 := [42, 3, 181, 1, 88, 42, 27, 182, 0, 192, 61, 28, 2, 159, 0, 12, 42, 27, 182, 1, 13, 2]
abbrev dktX4_findReasons_0 : List UInt8 := dkwX4_findReasons_0 ++ dktX4_findReasons_1
theorem dksX4_findReasons_0 : cX4_findReasons.data.toList.drop 0 = dktX4_findReasons_0 := by decide +kernel
theorem dksX4_findReasons_1 : cX4_findReasons.data.toList.drop 22 = dktX4_findReasons_1 := dk_seg dksX4_findReasons_0 22 rfl rfl
theorem dksX4_findReasons_2 : cX4_findReasons.data.toList.drop 46 = dktX4_findReasons_2 := dk_seg dksX4_findReasons_1 24 rfl rfl
theorem dX4_findReasons_0 : decode cX4_findReasons 0 = .ok (.aload_n 0, 1) := dk_42 (dk_at dksX4_findReasons_0 0 rfl rfl)
theorem dX4_findReasons_1 : decode cX4_findReasons 1 = .ok (.iconst 0, 1) := dk_3 (dk_at dksX4_findReasons_0 1 rfl rfl)
theorem dX4_findReasons_2 : decode cX4_findReasons 2 = .ok (.putfield 344, 3) := dk_181 1 88 (dk_at dksX4_findReasons_0 2 rfl rfl)
theorem dX4_findReasons_5 : decode cX4_findReasons 5 = .ok (.aload_n 0, 1) := dk_42 (dk_at dksX4_findReasons_0 5 rfl rfl)
theorem dX4_findReasons_6 : decode cX4_findReasons 6 = .ok (.iload_n 1, 1) := dk_27 (dk_at dksX4_findReasons_0 6 rfl rfl)
theorem dX4_findReasons_7 : decode cX4_findReasons 7 = .ok (.invokevirtual 192, 3) := dk_182 0 192 (dk_at dksX4_findReasons_0 7 rfl rfl)
theorem dX4_findReasons_10 : decode cX4_findReasons 10 = .ok (.istore_n 2, 1) := dk_61 (dk_at dksX4_findReasons_0 10 rfl rfl)
theorem dX4_findReasons_11 : decode cX4_findReasons 11 = .ok (.iload_n 2, 1) := dk_28 (dk_at dksX4_findReasons_0 11 rfl rfl)
theorem dX4_findReasons_12 : decode cX4_findReasons 12 = .ok (.iconst (-1), 1) := dk_2 (dk_at dksX4_findReasons_0 12 rfl rfl)
theorem dX4_findReasons_13 : decode cX4_findReasons 13 = .ok (.if_icmp .eq 12, 3) := dk_159 0 12 (dk_at dksX4_findReasons_0 13 rfl rfl)
theorem dX4_findReasons_16 : decode cX4_findReasons 16 = .ok (.aload_n 0, 1) := dk_42 (dk_at dksX4_findReasons_0 16 rfl rfl)
theorem dX4_findReasons_17 : decode cX4_findReasons 17 = .ok (.iload_n 1, 1) := dk_27 (dk_at dksX4_findReasons_0 17 rfl rfl)
theorem dX4_findReasons_18 : decode cX4_findReasons 18 = .ok (.invokevirtual 269, 3) := dk_182 1 13 (dk_at dksX4_findReasons_0 18 rfl rfl)
theorem dX4_findReasons_21 : decode cX4_findReasons 21 = .ok (.iconst (-1), 1) := dk_2 (dk_at dksX4_findReasons_0 21 rfl rfl)
theorem dX4_findReasons_22 : decode cX4_findReasons 22 = .ok (.if_icmp .eq 5, 3) := dk_159 0 5 (dk_at dksX4_findReasons_1 0 rfl rfl)
theorem dX4_findReasons_25 : decode cX4_findReasons 25 = .ok (.iconst (-1), 1) := dk_2 (dk_at dksX4_findReasons_1 3 rfl rfl)
theorem dX4_findReasons_26 : decode cX4_findReasons 26 = .ok (.ireturn, 1) := dk_172 (dk_at dksX4_findReasons_1 4 rfl rfl)
theorem dX4_findReasons_27 : decode cX4_findReasons 27 = .ok (.aload_n 0, 1) := dk_42 (dk_at dksX4_findReasons_1 5 rfl rfl)
theorem dX4_findReasons_28 : decode cX4_findReasons 28 = .ok (.invokevirtual 341, 3) := dk_182 1 85 (dk_at dksX4_findReasons_1 6 rfl rfl)
theorem dX4_findReasons_31 : decode cX4_findReasons 31 = .ok (.iconst 0, 1) := dk_3 (dk_at dksX4_findReasons_1 9 rfl rfl)
theorem dX4_findReasons_32 : decode cX4_findReasons 32 = .ok (.istore_n 3, 1) := dk_62 (dk_at dksX4_findReasons_1 10 rfl rfl)
theorem dX4_findReasons_33 : decode cX4_findReasons 33 = .ok (.iload_n 3, 1) := dk_29 (dk_at dksX4_findReasons_1 11 rfl rfl)
theorem dX4_findReasons_34 : decode cX4_findReasons 34 = .ok (.aload_n 0, 1) := dk_42 (dk_at dksX4_findReasons_1 12 rfl rfl)
theorem dX4_findReasons_35 : decode cX4_findReasons 35 = .ok (.getfield 7, 3) := dk_180 0 7 (dk_at dksX4_findReasons_1 13 rfl rfl)
theorem dX4_findReasons_38 : decode cX4_findReasons 38 = .ok (.iconst 1, 1) := dk_4 (dk_at dksX4_findReasons_1 16 rfl rfl)
theorem dX4_findReasons_39 : decode cX4_findReasons 39 = .ok (.iaload, 1) := dk_46 (dk_at dksX4_findReasons_1 17 rfl rfl)
theorem dX4_findReasons_40 : decode cX4_findReasons 40 = .ok (.if_icmp .ge 26, 3) := dk_162 0 26 (dk_at dksX4_findReasons_1 18 rfl rfl)
theorem dX4_findReasons_43 : decode cX4_findReasons 43 = .ok (.aload_n 0, 1) := dk_42 (dk_at dksX4_findReasons_1 21 rfl rfl)
theorem dX4_findReasons_44 : decode cX4_findReasons 44 = .ok (.iload_n 3, 1) := dk_29 (dk_at dksX4_findReasons_1 22 rfl rfl)
theorem dX4_findReasons_45 : decode cX4_findReasons 45 = .ok (.iload_n 1, 1) := dk_27 (dk_at dksX4_findReasons_1 23 rfl rfl)
theorem dX4_findReasons_46 : decode cX4_findReasons 46 = .ok (.aload_n 0, 1) := dk_42 (dk_at dksX4_findReasons_2 0 rfl rfl)
theorem dX4_findReasons_47 : decode cX4_findReasons 47 = .ok (.getfield 113, 3) := dk_180 0 113 (dk_at dksX4_findReasons_2 1 rfl rfl)
theorem dX4_findReasons_50 : decode cX4_findReasons 50 = .ok (.iload_n 2, 1) := dk_28 (dk_at dksX4_findReasons_2 4 rfl rfl)
theorem dX4_findReasons_51 : decode cX4_findReasons 51 = .ok (.iaload, 1) := dk_46 (dk_at dksX4_findReasons_2 5 rfl rfl)
theorem dX4_findReasons_52 : decode cX4_findReasons 52 = .ok (.invokevirtual 351, 3) := dk_182 1 95 (dk_at dksX4_findReasons_2 6 rfl rfl)
theorem dX4_findReasons_55 : decode cX4_findReasons 55 = .ok (.ifCond .eq 5, 3) := dk_153 0 5 (dk_at dksX4_findReasons_2 9 rfl rfl)
theorem dX4_findReasons_58 : decode cX4_findReasons 58 = .ok (.iload_n 3, 1) := dk_29 (dk_at dksX4_findReasons_2 12 rfl rfl)
theorem dX4_findReasons_59 : decode cX4_findReasons 59 = .ok (.ireturn, 1) := dk_172 (dk_at dksX4_findReasons_2 13 rfl rfl)
theorem dX4_findReasons_60 : decode cX4_findReasons 60 = .ok (.iinc 3 1, 3) := dk_132 3 1 (dk_at dksX4_findReasons_2 14 rfl rfl)
theorem dX4_findReasons_63 : decode cX4_findReasons 63 = .ok (.goto (-30), 3) := dk_167 255 226 (dk_at dksX4_findReasons_2 17 rfl rfl)
theorem dX4_findReasons_66 : decode cX4_findReasons 66 = .ok (.iconst (-1), 1) := dk_2 (dk_at dksX4_findReasons_2 20 rfl rfl)
theorem dX4_findReasons_67 : decode cX4_findReasons 67 = .ok (.ireturn, 1) := dk_172 (dk_at dksX4_findReasons_2 21 rfl rfl)
abbrev cX4_givesWith : ByteArray := prog_19_method_82_code
def yX4_givesWith : MethodName := ⟨RX4, "givesWith", "(III)Z"⟩
def dkwX4_givesWith_7 : List UInt8 := [154, 0, 7, 4, 167, 0, 4, 3, 96, 181, 1, 88, 132, 4, 1, 167, 255, 197, 4, 172, 3, 172]
abbrev dktX4_givesWith_7 : List UInt8 := dkwX4_givesWith_7 ++ []
def dkwX4_givesWith_6 : List UInt8 := [180, 0, 52, 42, 180, 0, 88, 21, 4, 46, 46, 79, 42, 89, 180, 1, 88, 42, 27, 21, 4, 182, 0, 148]
abbrev dktX4_givesWith_6 : List UInt8 := dkwX4_givesWith_6 ++ dktX4_givesWith_7
def dkwX4_givesWith_5 : List UInt8 := [54, 4, 21, 4, 42, 180, 0, 25, 27, 46, 162, 0, 54, 42, 180, 0, 119, 42, 180, 1, 88, 42]
abbrev dktX4_givesWith_5 : List UInt8 := dkwX4_givesWith_5 ++ dktX4_givesWith_6
def dkwX4_givesWith_4 : List UInt8 := [153, 0, 89, 42, 27, 182, 0, 222, 28, 160, 255, 243, 4, 42, 182, 0, 225, 96, 29, 160, 255, 233, 3]
abbrev dktX4_givesWith_4 : List UInt8 := dkwX4_givesWith_4 ++ dktX4_givesWith_5
def dkwX4_givesWith_3 : List UInt8 := [167, 255, 207, 3, 172, 42, 182, 0, 211, 42, 27, 42, 180, 0, 25, 27, 46, 182, 0, 214, 42, 182, 0, 218]
abbrev dktX4_givesWith_3 : List UInt8 := dkwX4_givesWith_3 ++ dktX4_givesWith_4
def dkwX4_givesWith_2 : List UInt8 := [46, 96, 29, 160, 0, 16, 42, 42, 180, 0, 110, 21, 4, 47, 182, 1, 91, 4, 172, 132, 4, 1]
abbrev dktX4_givesWith_2 : List UInt8 := dkwX4_givesWith_2 ++ dktX4_givesWith_3
def dkwX4_givesWith_1 : List UInt8 := [180, 0, 208, 162, 0, 46, 42, 27, 21, 4, 182, 0, 248, 28, 160, 0, 29, 4, 42, 180, 0, 107, 21, 4]
abbrev dktX4_givesWith_1 : List UInt8 := dkwX4_givesWith_1 ++ dktX4_givesWith_2
def dkwX4_givesWith_0 : List UInt8 := [42, 3, 181, 1, 88, 42, 27, 182, 0, 236, 153, 0, 65, 42, 27, 182, 0, 245, 3, 54, 4, 21, 4, 42]
abbrev dktX4_givesWith_0 : List UInt8 := dkwX4_givesWith_0 ++ dktX4_givesWith_1
theorem dksX4_givesWith_0 : cX4_givesWith.data.toList.drop 0 = dktX4_givesWith_0 := by decide +kernel
theorem dksX4_givesWith_1 : cX4_givesWith.data.toList.drop 24 = dktX4_givesWith_1 := dk_seg dksX4_givesWith_0 24 rfl rfl
theorem dksX4_givesWith_2 : cX4_givesWith.data.toList.drop 48 = dktX4_givesWith_2 := dk_seg dksX4_givesWith_1 24 rfl rfl
theorem dksX4_givesWith_3 : cX4_givesWith.data.toList.drop 70 = dktX4_givesWith_3 := dk_seg dksX4_givesWith_2 22 rfl rfl
theorem dksX4_givesWith_4 : cX4_givesWith.data.toList.drop 94 = dktX4_givesWith_4 := dk_seg dksX4_givesWith_3 24 rfl rfl
theorem dksX4_givesWith_5 : cX4_givesWith.data.toList.drop 117 = dktX4_givesWith_5 := dk_seg dksX4_givesWith_4 23 rfl rfl
theorem dksX4_givesWith_6 : cX4_givesWith.data.toList.drop 139 = dktX4_givesWith_6 := dk_seg dksX4_givesWith_5 22 rfl rfl
theorem dksX4_givesWith_7 : cX4_givesWith.data.toList.drop 163 = dktX4_givesWith_7 := dk_seg dksX4_givesWith_6 24 rfl rfl
theorem dX4_givesWith_0 : decode cX4_givesWith 0 = .ok (.aload_n 0, 1) := dk_42 (dk_at dksX4_givesWith_0 0 rfl rfl)
theorem dX4_givesWith_1 : decode cX4_givesWith 1 = .ok (.iconst 0, 1) := dk_3 (dk_at dksX4_givesWith_0 1 rfl rfl)
theorem dX4_givesWith_2 : decode cX4_givesWith 2 = .ok (.putfield 344, 3) := dk_181 1 88 (dk_at dksX4_givesWith_0 2 rfl rfl)
theorem dX4_givesWith_5 : decode cX4_givesWith 5 = .ok (.aload_n 0, 1) := dk_42 (dk_at dksX4_givesWith_0 5 rfl rfl)
theorem dX4_givesWith_6 : decode cX4_givesWith 6 = .ok (.iload_n 1, 1) := dk_27 (dk_at dksX4_givesWith_0 6 rfl rfl)
theorem dX4_givesWith_7 : decode cX4_givesWith 7 = .ok (.invokevirtual 236, 3) := dk_182 0 236 (dk_at dksX4_givesWith_0 7 rfl rfl)
theorem dX4_givesWith_10 : decode cX4_givesWith 10 = .ok (.ifCond .eq 65, 3) := dk_153 0 65 (dk_at dksX4_givesWith_0 10 rfl rfl)
theorem dX4_givesWith_13 : decode cX4_givesWith 13 = .ok (.aload_n 0, 1) := dk_42 (dk_at dksX4_givesWith_0 13 rfl rfl)
theorem dX4_givesWith_14 : decode cX4_givesWith 14 = .ok (.iload_n 1, 1) := dk_27 (dk_at dksX4_givesWith_0 14 rfl rfl)
theorem dX4_givesWith_15 : decode cX4_givesWith 15 = .ok (.invokevirtual 245, 3) := dk_182 0 245 (dk_at dksX4_givesWith_0 15 rfl rfl)
theorem dX4_givesWith_18 : decode cX4_givesWith 18 = .ok (.iconst 0, 1) := dk_3 (dk_at dksX4_givesWith_0 18 rfl rfl)
theorem dX4_givesWith_19 : decode cX4_givesWith 19 = .ok (.istore 4, 2) := dk_54 4 (dk_at dksX4_givesWith_0 19 rfl rfl)
theorem dX4_givesWith_21 : decode cX4_givesWith 21 = .ok (.iload 4, 2) := dk_21 4 (dk_at dksX4_givesWith_0 21 rfl rfl)
theorem dX4_givesWith_23 : decode cX4_givesWith 23 = .ok (.aload_n 0, 1) := dk_42 (dk_at dksX4_givesWith_0 23 rfl rfl)
theorem dX4_givesWith_24 : decode cX4_givesWith 24 = .ok (.getfield 208, 3) := dk_180 0 208 (dk_at dksX4_givesWith_1 0 rfl rfl)
theorem dX4_givesWith_27 : decode cX4_givesWith 27 = .ok (.if_icmp .ge 46, 3) := dk_162 0 46 (dk_at dksX4_givesWith_1 3 rfl rfl)
theorem dX4_givesWith_30 : decode cX4_givesWith 30 = .ok (.aload_n 0, 1) := dk_42 (dk_at dksX4_givesWith_1 6 rfl rfl)
theorem dX4_givesWith_31 : decode cX4_givesWith 31 = .ok (.iload_n 1, 1) := dk_27 (dk_at dksX4_givesWith_1 7 rfl rfl)
theorem dX4_givesWith_32 : decode cX4_givesWith 32 = .ok (.iload 4, 2) := dk_21 4 (dk_at dksX4_givesWith_1 8 rfl rfl)
theorem dX4_givesWith_34 : decode cX4_givesWith 34 = .ok (.invokevirtual 248, 3) := dk_182 0 248 (dk_at dksX4_givesWith_1 10 rfl rfl)
theorem dX4_givesWith_37 : decode cX4_givesWith 37 = .ok (.iload_n 2, 1) := dk_28 (dk_at dksX4_givesWith_1 13 rfl rfl)
theorem dX4_givesWith_38 : decode cX4_givesWith 38 = .ok (.if_icmp .ne 29, 3) := dk_160 0 29 (dk_at dksX4_givesWith_1 14 rfl rfl)
theorem dX4_givesWith_41 : decode cX4_givesWith 41 = .ok (.iconst 1, 1) := dk_4 (dk_at dksX4_givesWith_1 17 rfl rfl)
theorem dX4_givesWith_42 : decode cX4_givesWith 42 = .ok (.aload_n 0, 1) := dk_42 (dk_at dksX4_givesWith_1 18 rfl rfl)
theorem dX4_givesWith_43 : decode cX4_givesWith 43 = .ok (.getfield 107, 3) := dk_180 0 107 (dk_at dksX4_givesWith_1 19 rfl rfl)
theorem dX4_givesWith_46 : decode cX4_givesWith 46 = .ok (.iload 4, 2) := dk_21 4 (dk_at dksX4_givesWith_1 22 rfl rfl)
theorem dX4_givesWith_48 : decode cX4_givesWith 48 = .ok (.iaload, 1) := dk_46 (dk_at dksX4_givesWith_2 0 rfl rfl)
theorem dX4_givesWith_49 : decode cX4_givesWith 49 = .ok (.iadd, 1) := dk_96 (dk_at dksX4_givesWith_2 1 rfl rfl)
theorem dX4_givesWith_50 : decode cX4_givesWith 50 = .ok (.iload_n 3, 1) := dk_29 (dk_at dksX4_givesWith_2 2 rfl rfl)
theorem dX4_givesWith_51 : decode cX4_givesWith 51 = .ok (.if_icmp .ne 16, 3) := dk_160 0 16 (dk_at dksX4_givesWith_2 3 rfl rfl)
theorem dX4_givesWith_54 : decode cX4_givesWith 54 = .ok (.aload_n 0, 1) := dk_42 (dk_at dksX4_givesWith_2 6 rfl rfl)
theorem dX4_givesWith_55 : decode cX4_givesWith 55 = .ok (.aload_n 0, 1) := dk_42 (dk_at dksX4_givesWith_2 7 rfl rfl)
theorem dX4_givesWith_56 : decode cX4_givesWith 56 = .ok (.getfield 110, 3) := dk_180 0 110 (dk_at dksX4_givesWith_2 8 rfl rfl)
theorem dX4_givesWith_59 : decode cX4_givesWith 59 = .ok (.iload 4, 2) := dk_21 4 (dk_at dksX4_givesWith_2 11 rfl rfl)
theorem dX4_givesWith_61 : decode cX4_givesWith 61 = .ok (.laload, 1) := dk_47 (dk_at dksX4_givesWith_2 13 rfl rfl)
theorem dX4_givesWith_62 : decode cX4_givesWith 62 = .ok (.invokevirtual 347, 3) := dk_182 1 91 (dk_at dksX4_givesWith_2 14 rfl rfl)
theorem dX4_givesWith_65 : decode cX4_givesWith 65 = .ok (.iconst 1, 1) := dk_4 (dk_at dksX4_givesWith_2 17 rfl rfl)
theorem dX4_givesWith_66 : decode cX4_givesWith 66 = .ok (.ireturn, 1) := dk_172 (dk_at dksX4_givesWith_2 18 rfl rfl)
theorem dX4_givesWith_67 : decode cX4_givesWith 67 = .ok (.iinc 4 1, 3) := dk_132 4 1 (dk_at dksX4_givesWith_2 19 rfl rfl)
theorem dX4_givesWith_70 : decode cX4_givesWith 70 = .ok (.goto (-49), 3) := dk_167 255 207 (dk_at dksX4_givesWith_3 0 rfl rfl)
theorem dX4_givesWith_73 : decode cX4_givesWith 73 = .ok (.iconst 0, 1) := dk_3 (dk_at dksX4_givesWith_3 3 rfl rfl)
theorem dX4_givesWith_74 : decode cX4_givesWith 74 = .ok (.ireturn, 1) := dk_172 (dk_at dksX4_givesWith_3 4 rfl rfl)
theorem dX4_givesWith_75 : decode cX4_givesWith 75 = .ok (.aload_n 0, 1) := dk_42 (dk_at dksX4_givesWith_3 5 rfl rfl)
theorem dX4_givesWith_76 : decode cX4_givesWith 76 = .ok (.invokevirtual 211, 3) := dk_182 0 211 (dk_at dksX4_givesWith_3 6 rfl rfl)
theorem dX4_givesWith_79 : decode cX4_givesWith 79 = .ok (.aload_n 0, 1) := dk_42 (dk_at dksX4_givesWith_3 9 rfl rfl)
theorem dX4_givesWith_80 : decode cX4_givesWith 80 = .ok (.iload_n 1, 1) := dk_27 (dk_at dksX4_givesWith_3 10 rfl rfl)
theorem dX4_givesWith_81 : decode cX4_givesWith 81 = .ok (.aload_n 0, 1) := dk_42 (dk_at dksX4_givesWith_3 11 rfl rfl)
theorem dX4_givesWith_82 : decode cX4_givesWith 82 = .ok (.getfield 25, 3) := dk_180 0 25 (dk_at dksX4_givesWith_3 12 rfl rfl)
theorem dX4_givesWith_85 : decode cX4_givesWith 85 = .ok (.iload_n 1, 1) := dk_27 (dk_at dksX4_givesWith_3 15 rfl rfl)
theorem dX4_givesWith_86 : decode cX4_givesWith 86 = .ok (.iaload, 1) := dk_46 (dk_at dksX4_givesWith_3 16 rfl rfl)
theorem dX4_givesWith_87 : decode cX4_givesWith 87 = .ok (.invokevirtual 214, 3) := dk_182 0 214 (dk_at dksX4_givesWith_3 17 rfl rfl)
theorem dX4_givesWith_90 : decode cX4_givesWith 90 = .ok (.aload_n 0, 1) := dk_42 (dk_at dksX4_givesWith_3 20 rfl rfl)
theorem dX4_givesWith_91 : decode cX4_givesWith 91 = .ok (.invokevirtual 218, 3) := dk_182 0 218 (dk_at dksX4_givesWith_3 21 rfl rfl)
theorem dX4_givesWith_94 : decode cX4_givesWith 94 = .ok (.ifCond .eq 89, 3) := dk_153 0 89 (dk_at dksX4_givesWith_4 0 rfl rfl)
theorem dX4_givesWith_97 : decode cX4_givesWith 97 = .ok (.aload_n 0, 1) := dk_42 (dk_at dksX4_givesWith_4 3 rfl rfl)
theorem dX4_givesWith_98 : decode cX4_givesWith 98 = .ok (.iload_n 1, 1) := dk_27 (dk_at dksX4_givesWith_4 4 rfl rfl)
theorem dX4_givesWith_99 : decode cX4_givesWith 99 = .ok (.invokevirtual 222, 3) := dk_182 0 222 (dk_at dksX4_givesWith_4 5 rfl rfl)
theorem dX4_givesWith_102 : decode cX4_givesWith 102 = .ok (.iload_n 2, 1) := dk_28 (dk_at dksX4_givesWith_4 8 rfl rfl)
theorem dX4_givesWith_103 : decode cX4_givesWith 103 = .ok (.if_icmp .ne (-13), 3) := dk_160 255 243 (dk_at dksX4_givesWith_4 9 rfl rfl)
theorem dX4_givesWith_106 : decode cX4_givesWith 106 = .ok (.iconst 1, 1) := dk_4 (dk_at dksX4_givesWith_4 12 rfl rfl)
theorem dX4_givesWith_107 : decode cX4_givesWith 107 = .ok (.aload_n 0, 1) := dk_42 (dk_at dksX4_givesWith_4 13 rfl rfl)
theorem dX4_givesWith_108 : decode cX4_givesWith 108 = .ok (.invokevirtual 225, 3) := dk_182 0 225 (dk_at dksX4_givesWith_4 14 rfl rfl)
theorem dX4_givesWith_111 : decode cX4_givesWith 111 = .ok (.iadd, 1) := dk_96 (dk_at dksX4_givesWith_4 17 rfl rfl)
theorem dX4_givesWith_112 : decode cX4_givesWith 112 = .ok (.iload_n 3, 1) := dk_29 (dk_at dksX4_givesWith_4 18 rfl rfl)
theorem dX4_givesWith_113 : decode cX4_givesWith 113 = .ok (.if_icmp .ne (-23), 3) := dk_160 255 233 (dk_at dksX4_givesWith_4 19 rfl rfl)
theorem dX4_givesWith_116 : decode cX4_givesWith 116 = .ok (.iconst 0, 1) := dk_3 (dk_at dksX4_givesWith_4 22 rfl rfl)
theorem dX4_givesWith_117 : decode cX4_givesWith 117 = .ok (.istore 4, 2) := dk_54 4 (dk_at dksX4_givesWith_5 0 rfl rfl)
theorem dX4_givesWith_119 : decode cX4_givesWith 119 = .ok (.iload 4, 2) := dk_21 4 (dk_at dksX4_givesWith_5 2 rfl rfl)
theorem dX4_givesWith_121 : decode cX4_givesWith 121 = .ok (.aload_n 0, 1) := dk_42 (dk_at dksX4_givesWith_5 4 rfl rfl)
theorem dX4_givesWith_122 : decode cX4_givesWith 122 = .ok (.getfield 25, 3) := dk_180 0 25 (dk_at dksX4_givesWith_5 5 rfl rfl)
theorem dX4_givesWith_125 : decode cX4_givesWith 125 = .ok (.iload_n 1, 1) := dk_27 (dk_at dksX4_givesWith_5 8 rfl rfl)
theorem dX4_givesWith_126 : decode cX4_givesWith 126 = .ok (.iaload, 1) := dk_46 (dk_at dksX4_givesWith_5 9 rfl rfl)
theorem dX4_givesWith_127 : decode cX4_givesWith 127 = .ok (.if_icmp .ge 54, 3) := dk_162 0 54 (dk_at dksX4_givesWith_5 10 rfl rfl)
theorem dX4_givesWith_130 : decode cX4_givesWith 130 = .ok (.aload_n 0, 1) := dk_42 (dk_at dksX4_givesWith_5 13 rfl rfl)
theorem dX4_givesWith_131 : decode cX4_givesWith 131 = .ok (.getfield 119, 3) := dk_180 0 119 (dk_at dksX4_givesWith_5 14 rfl rfl)
theorem dX4_givesWith_134 : decode cX4_givesWith 134 = .ok (.aload_n 0, 1) := dk_42 (dk_at dksX4_givesWith_5 17 rfl rfl)
theorem dX4_givesWith_135 : decode cX4_givesWith 135 = .ok (.getfield 344, 3) := dk_180 1 88 (dk_at dksX4_givesWith_5 18 rfl rfl)
theorem dX4_givesWith_138 : decode cX4_givesWith 138 = .ok (.aload_n 0, 1) := dk_42 (dk_at dksX4_givesWith_5 21 rfl rfl)
theorem dX4_givesWith_139 : decode cX4_givesWith 139 = .ok (.getfield 52, 3) := dk_180 0 52 (dk_at dksX4_givesWith_6 0 rfl rfl)
theorem dX4_givesWith_142 : decode cX4_givesWith 142 = .ok (.aload_n 0, 1) := dk_42 (dk_at dksX4_givesWith_6 3 rfl rfl)
theorem dX4_givesWith_143 : decode cX4_givesWith 143 = .ok (.getfield 88, 3) := dk_180 0 88 (dk_at dksX4_givesWith_6 4 rfl rfl)
theorem dX4_givesWith_146 : decode cX4_givesWith 146 = .ok (.iload 4, 2) := dk_21 4 (dk_at dksX4_givesWith_6 7 rfl rfl)
theorem dX4_givesWith_148 : decode cX4_givesWith 148 = .ok (.iaload, 1) := dk_46 (dk_at dksX4_givesWith_6 9 rfl rfl)
theorem dX4_givesWith_149 : decode cX4_givesWith 149 = .ok (.iaload, 1) := dk_46 (dk_at dksX4_givesWith_6 10 rfl rfl)
theorem dX4_givesWith_150 : decode cX4_givesWith 150 = .ok (.iastore, 1) := dk_79 (dk_at dksX4_givesWith_6 11 rfl rfl)
theorem dX4_givesWith_151 : decode cX4_givesWith 151 = .ok (.aload_n 0, 1) := dk_42 (dk_at dksX4_givesWith_6 12 rfl rfl)
theorem dX4_givesWith_152 : decode cX4_givesWith 152 = .ok (.dup, 1) := dk_89 (dk_at dksX4_givesWith_6 13 rfl rfl)
theorem dX4_givesWith_153 : decode cX4_givesWith 153 = .ok (.getfield 344, 3) := dk_180 1 88 (dk_at dksX4_givesWith_6 14 rfl rfl)
theorem dX4_givesWith_156 : decode cX4_givesWith 156 = .ok (.aload_n 0, 1) := dk_42 (dk_at dksX4_givesWith_6 17 rfl rfl)
theorem dX4_givesWith_157 : decode cX4_givesWith 157 = .ok (.iload_n 1, 1) := dk_27 (dk_at dksX4_givesWith_6 18 rfl rfl)
theorem dX4_givesWith_158 : decode cX4_givesWith 158 = .ok (.iload 4, 2) := dk_21 4 (dk_at dksX4_givesWith_6 19 rfl rfl)
theorem dX4_givesWith_160 : decode cX4_givesWith 160 = .ok (.invokevirtual 148, 3) := dk_182 0 148 (dk_at dksX4_givesWith_6 21 rfl rfl)
theorem dX4_givesWith_163 : decode cX4_givesWith 163 = .ok (.ifCond .ne 7, 3) := dk_154 0 7 (dk_at dksX4_givesWith_7 0 rfl rfl)
theorem dX4_givesWith_166 : decode cX4_givesWith 166 = .ok (.iconst 1, 1) := dk_4 (dk_at dksX4_givesWith_7 3 rfl rfl)
theorem dX4_givesWith_167 : decode cX4_givesWith 167 = .ok (.goto 4, 3) := dk_167 0 4 (dk_at dksX4_givesWith_7 4 rfl rfl)
theorem dX4_givesWith_170 : decode cX4_givesWith 170 = .ok (.iconst 0, 1) := dk_3 (dk_at dksX4_givesWith_7 7 rfl rfl)
theorem dX4_givesWith_171 : decode cX4_givesWith 171 = .ok (.iadd, 1) := dk_96 (dk_at dksX4_givesWith_7 8 rfl rfl)
theorem dX4_givesWith_172 : decode cX4_givesWith 172 = .ok (.putfield 344, 3) := dk_181 1 88 (dk_at dksX4_givesWith_7 9 rfl rfl)
theorem dX4_givesWith_175 : decode cX4_givesWith 175 = .ok (.iinc 4 1, 3) := dk_132 4 1 (dk_at dksX4_givesWith_7 12 rfl rfl)
theorem dX4_givesWith_178 : decode cX4_givesWith 178 = .ok (.goto (-59), 3) := dk_167 255 197 (dk_at dksX4_givesWith_7 15 rfl rfl)
theorem dX4_givesWith_181 : decode cX4_givesWith 181 = .ok (.iconst 1, 1) := dk_4 (dk_at dksX4_givesWith_7 18 rfl rfl)
theorem dX4_givesWith_182 : decode cX4_givesWith 182 = .ok (.ireturn, 1) := dk_172 (dk_at dksX4_givesWith_7 19 rfl rfl)
theorem dX4_givesWith_183 : decode cX4_givesWith 183 = .ok (.iconst 0, 1) := dk_3 (dk_at dksX4_givesWith_7 20 rfl rfl)
theorem dX4_givesWith_184 : decode cX4_givesWith 184 = .ok (.ireturn, 1) := dk_172 (dk_at dksX4_givesWith_7 21 rfl rfl)
abbrev cX4_layReasons : ByteArray := prog_19_method_83_code
def yX4_layReasons : MethodName := ⟨RX4, "layReasons", "(J)V"⟩
def dkwX4_layReasons_2 : List UInt8 := [167, 0, 4, 3, 96, 181, 1, 88, 132, 3, 1, 167, 255, 203, 177]
abbrev dktX4_layReasons_2 : List UInt8 := dkwX4_layReasons_2 ++ []
def dkwX4_layReasons_1 : List UInt8 := [180, 0, 52, 29, 46, 79, 42, 89, 180, 1, 88, 31, 29, 123, 10, 127, 10, 148, 154, 0, 7, 4]
abbrev dktX4_layReasons_1 : List UInt8 := dkwX4_layReasons_1 ++ dktX4_layReasons_2
def dkwX4_layReasons_0 : List UInt8 := [3, 62, 29, 42, 180, 0, 7, 16, 6, 46, 162, 0, 48, 42, 180, 0, 119, 42, 180, 1, 88, 42]
abbrev dktX4_layReasons_0 : List UInt8 := dkwX4_layReasons_0 ++ dktX4_layReasons_1
theorem dksX4_layReasons_0 : cX4_layReasons.data.toList.drop 0 = dktX4_layReasons_0 := by decide +kernel
theorem dksX4_layReasons_1 : cX4_layReasons.data.toList.drop 22 = dktX4_layReasons_1 := dk_seg dksX4_layReasons_0 22 rfl rfl
theorem dksX4_layReasons_2 : cX4_layReasons.data.toList.drop 44 = dktX4_layReasons_2 := dk_seg dksX4_layReasons_1 22 rfl rfl
theorem dX4_layReasons_0 : decode cX4_layReasons 0 = .ok (.iconst 0, 1) := dk_3 (dk_at dksX4_layReasons_0 0 rfl rfl)
theorem dX4_layReasons_1 : decode cX4_layReasons 1 = .ok (.istore_n 3, 1) := dk_62 (dk_at dksX4_layReasons_0 1 rfl rfl)
theorem dX4_layReasons_2 : decode cX4_layReasons 2 = .ok (.iload_n 3, 1) := dk_29 (dk_at dksX4_layReasons_0 2 rfl rfl)
theorem dX4_layReasons_3 : decode cX4_layReasons 3 = .ok (.aload_n 0, 1) := dk_42 (dk_at dksX4_layReasons_0 3 rfl rfl)
theorem dX4_layReasons_4 : decode cX4_layReasons 4 = .ok (.getfield 7, 3) := dk_180 0 7 (dk_at dksX4_layReasons_0 4 rfl rfl)
theorem dX4_layReasons_7 : decode cX4_layReasons 7 = .ok (.bipush 6, 2) := dk_16 6 (dk_at dksX4_layReasons_0 7 rfl rfl)
theorem dX4_layReasons_9 : decode cX4_layReasons 9 = .ok (.iaload, 1) := dk_46 (dk_at dksX4_layReasons_0 9 rfl rfl)
theorem dX4_layReasons_10 : decode cX4_layReasons 10 = .ok (.if_icmp .ge 48, 3) := dk_162 0 48 (dk_at dksX4_layReasons_0 10 rfl rfl)
theorem dX4_layReasons_13 : decode cX4_layReasons 13 = .ok (.aload_n 0, 1) := dk_42 (dk_at dksX4_layReasons_0 13 rfl rfl)
theorem dX4_layReasons_14 : decode cX4_layReasons 14 = .ok (.getfield 119, 3) := dk_180 0 119 (dk_at dksX4_layReasons_0 14 rfl rfl)
theorem dX4_layReasons_17 : decode cX4_layReasons 17 = .ok (.aload_n 0, 1) := dk_42 (dk_at dksX4_layReasons_0 17 rfl rfl)
theorem dX4_layReasons_18 : decode cX4_layReasons 18 = .ok (.getfield 344, 3) := dk_180 1 88 (dk_at dksX4_layReasons_0 18 rfl rfl)
theorem dX4_layReasons_21 : decode cX4_layReasons 21 = .ok (.aload_n 0, 1) := dk_42 (dk_at dksX4_layReasons_0 21 rfl rfl)
theorem dX4_layReasons_22 : decode cX4_layReasons 22 = .ok (.getfield 52, 3) := dk_180 0 52 (dk_at dksX4_layReasons_1 0 rfl rfl)
theorem dX4_layReasons_25 : decode cX4_layReasons 25 = .ok (.iload_n 3, 1) := dk_29 (dk_at dksX4_layReasons_1 3 rfl rfl)
theorem dX4_layReasons_26 : decode cX4_layReasons 26 = .ok (.iaload, 1) := dk_46 (dk_at dksX4_layReasons_1 4 rfl rfl)
theorem dX4_layReasons_27 : decode cX4_layReasons 27 = .ok (.iastore, 1) := dk_79 (dk_at dksX4_layReasons_1 5 rfl rfl)
theorem dX4_layReasons_28 : decode cX4_layReasons 28 = .ok (.aload_n 0, 1) := dk_42 (dk_at dksX4_layReasons_1 6 rfl rfl)
theorem dX4_layReasons_29 : decode cX4_layReasons 29 = .ok (.dup, 1) := dk_89 (dk_at dksX4_layReasons_1 7 rfl rfl)
theorem dX4_layReasons_30 : decode cX4_layReasons 30 = .ok (.getfield 344, 3) := dk_180 1 88 (dk_at dksX4_layReasons_1 8 rfl rfl)
theorem dX4_layReasons_33 : decode cX4_layReasons 33 = .ok (.lload_n 1, 1) := dk_31 (dk_at dksX4_layReasons_1 11 rfl rfl)
theorem dX4_layReasons_34 : decode cX4_layReasons 34 = .ok (.iload_n 3, 1) := dk_29 (dk_at dksX4_layReasons_1 12 rfl rfl)
theorem dX4_layReasons_35 : decode cX4_layReasons 35 = .ok (.lshr, 1) := dk_123 (dk_at dksX4_layReasons_1 13 rfl rfl)
theorem dX4_layReasons_36 : decode cX4_layReasons 36 = .ok (.lconst 1, 1) := dk_10 (dk_at dksX4_layReasons_1 14 rfl rfl)
theorem dX4_layReasons_37 : decode cX4_layReasons 37 = .ok (.land, 1) := dk_127 (dk_at dksX4_layReasons_1 15 rfl rfl)
theorem dX4_layReasons_38 : decode cX4_layReasons 38 = .ok (.lconst 1, 1) := dk_10 (dk_at dksX4_layReasons_1 16 rfl rfl)
theorem dX4_layReasons_39 : decode cX4_layReasons 39 = .ok (.lcmp, 1) := dk_148 (dk_at dksX4_layReasons_1 17 rfl rfl)
theorem dX4_layReasons_40 : decode cX4_layReasons 40 = .ok (.ifCond .ne 7, 3) := dk_154 0 7 (dk_at dksX4_layReasons_1 18 rfl rfl)
theorem dX4_layReasons_43 : decode cX4_layReasons 43 = .ok (.iconst 1, 1) := dk_4 (dk_at dksX4_layReasons_1 21 rfl rfl)
theorem dX4_layReasons_44 : decode cX4_layReasons 44 = .ok (.goto 4, 3) := dk_167 0 4 (dk_at dksX4_layReasons_2 0 rfl rfl)
theorem dX4_layReasons_47 : decode cX4_layReasons 47 = .ok (.iconst 0, 1) := dk_3 (dk_at dksX4_layReasons_2 3 rfl rfl)
theorem dX4_layReasons_48 : decode cX4_layReasons 48 = .ok (.iadd, 1) := dk_96 (dk_at dksX4_layReasons_2 4 rfl rfl)
theorem dX4_layReasons_49 : decode cX4_layReasons 49 = .ok (.putfield 344, 3) := dk_181 1 88 (dk_at dksX4_layReasons_2 5 rfl rfl)
theorem dX4_layReasons_52 : decode cX4_layReasons 52 = .ok (.iinc 3 1, 3) := dk_132 3 1 (dk_at dksX4_layReasons_2 8 rfl rfl)
theorem dX4_layReasons_55 : decode cX4_layReasons 55 = .ok (.goto (-53), 3) := dk_167 255 203 (dk_at dksX4_layReasons_2 11 rfl rfl)
theorem dX4_layReasons_58 : decode cX4_layReasons 58 = .ok (.return_, 1) := dk_177 (dk_at dksX4_layReasons_2 14 rfl rfl)
abbrev cX4_reasons : ByteArray := prog_19_method_86_code
def yX4_reasons : MethodName := ⟨RX4, "reasons", "(I)I"⟩
def dkwX4_reasons_1 : List UInt8 := [172]
abbrev dktX4_reasons_1 : List UInt8 := dkwX4_reasons_1 ++ []
def dkwX4_reasons_0 : List UInt8 := [42, 42, 27, 182, 1, 16, 182, 1, 10, 154, 0, 5, 3, 172, 42, 27, 182, 1, 98, 61, 42, 180, 1, 88]
abbrev dktX4_reasons_0 : List UInt8 := dkwX4_reasons_0 ++ dktX4_reasons_1
theorem dksX4_reasons_0 : cX4_reasons.data.toList.drop 0 = dktX4_reasons_0 := by decide +kernel
theorem dksX4_reasons_1 : cX4_reasons.data.toList.drop 24 = dktX4_reasons_1 := dk_seg dksX4_reasons_0 24 rfl rfl
theorem dX4_reasons_0 : decode cX4_reasons 0 = .ok (.aload_n 0, 1) := dk_42 (dk_at dksX4_reasons_0 0 rfl rfl)
theorem dX4_reasons_1 : decode cX4_reasons 1 = .ok (.aload_n 0, 1) := dk_42 (dk_at dksX4_reasons_0 1 rfl rfl)
theorem dX4_reasons_2 : decode cX4_reasons 2 = .ok (.iload_n 1, 1) := dk_27 (dk_at dksX4_reasons_0 2 rfl rfl)
theorem dX4_reasons_3 : decode cX4_reasons 3 = .ok (.invokevirtual 272, 3) := dk_182 1 16 (dk_at dksX4_reasons_0 3 rfl rfl)
theorem dX4_reasons_6 : decode cX4_reasons 6 = .ok (.invokevirtual 266, 3) := dk_182 1 10 (dk_at dksX4_reasons_0 6 rfl rfl)
theorem dX4_reasons_9 : decode cX4_reasons 9 = .ok (.ifCond .ne 5, 3) := dk_154 0 5 (dk_at dksX4_reasons_0 9 rfl rfl)
theorem dX4_reasons_12 : decode cX4_reasons 12 = .ok (.iconst 0, 1) := dk_3 (dk_at dksX4_reasons_0 12 rfl rfl)
theorem dX4_reasons_13 : decode cX4_reasons 13 = .ok (.ireturn, 1) := dk_172 (dk_at dksX4_reasons_0 13 rfl rfl)
theorem dX4_reasons_14 : decode cX4_reasons 14 = .ok (.aload_n 0, 1) := dk_42 (dk_at dksX4_reasons_0 14 rfl rfl)
theorem dX4_reasons_15 : decode cX4_reasons 15 = .ok (.iload_n 1, 1) := dk_27 (dk_at dksX4_reasons_0 15 rfl rfl)
theorem dX4_reasons_16 : decode cX4_reasons 16 = .ok (.invokevirtual 354, 3) := dk_182 1 98 (dk_at dksX4_reasons_0 16 rfl rfl)
theorem dX4_reasons_19 : decode cX4_reasons 19 = .ok (.istore_n 2, 1) := dk_61 (dk_at dksX4_reasons_0 19 rfl rfl)
theorem dX4_reasons_20 : decode cX4_reasons 20 = .ok (.aload_n 0, 1) := dk_42 (dk_at dksX4_reasons_0 20 rfl rfl)
theorem dX4_reasons_21 : decode cX4_reasons 21 = .ok (.getfield 344, 3) := dk_180 1 88 (dk_at dksX4_reasons_0 21 rfl rfl)
theorem dX4_reasons_24 : decode cX4_reasons 24 = .ok (.ireturn, 1) := dk_172 (dk_at dksX4_reasons_1 0 rfl rfl)
abbrev cX4_reasonAt : ByteArray := prog_19_method_87_code
def yX4_reasonAt : MethodName := ⟨RX4, "reasonAt", "(II)I"⟩
def dkwX4_reasonAt_3 : List UInt8 := [153, 0, 12, 42, 180, 0, 119, 28, 46, 167, 0, 4, 3, 172]
abbrev dktX4_reasonAt_3 : List UInt8 := dkwX4_reasonAt_3 ++ []
def dkwX4_reasonAt_2 : List UInt8 := [42, 29, 158, 0, 7, 29, 167, 0, 13, 21, 5, 153, 0, 7, 3, 167, 0, 4, 4, 182, 1, 10]
abbrev dktX4_reasonAt_2 : List UInt8 := dkwX4_reasonAt_2 ++ dktX4_reasonAt_3
def dkwX4_reasonAt_1 : List UInt8 := [154, 0, 21, 28, 3, 42, 180, 1, 88, 4, 100, 184, 0, 135, 153, 0, 7, 4, 167, 0, 4, 3, 54, 5]
abbrev dktX4_reasonAt_1 : List UInt8 := dkwX4_reasonAt_1 ++ dktX4_reasonAt_2
def dkwX4_reasonAt_0 : List UInt8 := [42, 27, 182, 1, 16, 62, 29, 154, 0, 11, 42, 27, 182, 1, 98, 167, 0, 4, 2, 54, 4, 29]
abbrev dktX4_reasonAt_0 : List UInt8 := dkwX4_reasonAt_0 ++ dktX4_reasonAt_1
theorem dksX4_reasonAt_0 : cX4_reasonAt.data.toList.drop 0 = dktX4_reasonAt_0 := by decide +kernel
theorem dksX4_reasonAt_1 : cX4_reasonAt.data.toList.drop 22 = dktX4_reasonAt_1 := dk_seg dksX4_reasonAt_0 22 rfl rfl
theorem dksX4_reasonAt_2 : cX4_reasonAt.data.toList.drop 46 = dktX4_reasonAt_2 := dk_seg dksX4_reasonAt_1 24 rfl rfl
theorem dksX4_reasonAt_3 : cX4_reasonAt.data.toList.drop 68 = dktX4_reasonAt_3 := dk_seg dksX4_reasonAt_2 22 rfl rfl
theorem dX4_reasonAt_0 : decode cX4_reasonAt 0 = .ok (.aload_n 0, 1) := dk_42 (dk_at dksX4_reasonAt_0 0 rfl rfl)
theorem dX4_reasonAt_1 : decode cX4_reasonAt 1 = .ok (.iload_n 1, 1) := dk_27 (dk_at dksX4_reasonAt_0 1 rfl rfl)
theorem dX4_reasonAt_2 : decode cX4_reasonAt 2 = .ok (.invokevirtual 272, 3) := dk_182 1 16 (dk_at dksX4_reasonAt_0 2 rfl rfl)
theorem dX4_reasonAt_5 : decode cX4_reasonAt 5 = .ok (.istore_n 3, 1) := dk_62 (dk_at dksX4_reasonAt_0 5 rfl rfl)
theorem dX4_reasonAt_6 : decode cX4_reasonAt 6 = .ok (.iload_n 3, 1) := dk_29 (dk_at dksX4_reasonAt_0 6 rfl rfl)
theorem dX4_reasonAt_7 : decode cX4_reasonAt 7 = .ok (.ifCond .ne 11, 3) := dk_154 0 11 (dk_at dksX4_reasonAt_0 7 rfl rfl)
theorem dX4_reasonAt_10 : decode cX4_reasonAt 10 = .ok (.aload_n 0, 1) := dk_42 (dk_at dksX4_reasonAt_0 10 rfl rfl)
theorem dX4_reasonAt_11 : decode cX4_reasonAt 11 = .ok (.iload_n 1, 1) := dk_27 (dk_at dksX4_reasonAt_0 11 rfl rfl)
theorem dX4_reasonAt_12 : decode cX4_reasonAt 12 = .ok (.invokevirtual 354, 3) := dk_182 1 98 (dk_at dksX4_reasonAt_0 12 rfl rfl)
theorem dX4_reasonAt_15 : decode cX4_reasonAt 15 = .ok (.goto 4, 3) := dk_167 0 4 (dk_at dksX4_reasonAt_0 15 rfl rfl)
theorem dX4_reasonAt_18 : decode cX4_reasonAt 18 = .ok (.iconst (-1), 1) := dk_2 (dk_at dksX4_reasonAt_0 18 rfl rfl)
theorem dX4_reasonAt_19 : decode cX4_reasonAt 19 = .ok (.istore 4, 2) := dk_54 4 (dk_at dksX4_reasonAt_0 19 rfl rfl)
theorem dX4_reasonAt_21 : decode cX4_reasonAt 21 = .ok (.iload_n 3, 1) := dk_29 (dk_at dksX4_reasonAt_0 21 rfl rfl)
theorem dX4_reasonAt_22 : decode cX4_reasonAt 22 = .ok (.ifCond .ne 21, 3) := dk_154 0 21 (dk_at dksX4_reasonAt_1 0 rfl rfl)
theorem dX4_reasonAt_25 : decode cX4_reasonAt 25 = .ok (.iload_n 2, 1) := dk_28 (dk_at dksX4_reasonAt_1 3 rfl rfl)
theorem dX4_reasonAt_26 : decode cX4_reasonAt 26 = .ok (.iconst 0, 1) := dk_3 (dk_at dksX4_reasonAt_1 4 rfl rfl)
theorem dX4_reasonAt_27 : decode cX4_reasonAt 27 = .ok (.aload_n 0, 1) := dk_42 (dk_at dksX4_reasonAt_1 5 rfl rfl)
theorem dX4_reasonAt_28 : decode cX4_reasonAt 28 = .ok (.getfield 344, 3) := dk_180 1 88 (dk_at dksX4_reasonAt_1 6 rfl rfl)
theorem dX4_reasonAt_31 : decode cX4_reasonAt 31 = .ok (.iconst 1, 1) := dk_4 (dk_at dksX4_reasonAt_1 9 rfl rfl)
theorem dX4_reasonAt_32 : decode cX4_reasonAt 32 = .ok (.isub, 1) := dk_100 (dk_at dksX4_reasonAt_1 10 rfl rfl)
theorem dX4_reasonAt_33 : decode cX4_reasonAt 33 = .ok (.invokestatic 135, 3) := dk_184 0 135 (dk_at dksX4_reasonAt_1 11 rfl rfl)
theorem dX4_reasonAt_36 : decode cX4_reasonAt 36 = .ok (.ifCond .eq 7, 3) := dk_153 0 7 (dk_at dksX4_reasonAt_1 14 rfl rfl)
theorem dX4_reasonAt_39 : decode cX4_reasonAt 39 = .ok (.iconst 1, 1) := dk_4 (dk_at dksX4_reasonAt_1 17 rfl rfl)
theorem dX4_reasonAt_40 : decode cX4_reasonAt 40 = .ok (.goto 4, 3) := dk_167 0 4 (dk_at dksX4_reasonAt_1 18 rfl rfl)
theorem dX4_reasonAt_43 : decode cX4_reasonAt 43 = .ok (.iconst 0, 1) := dk_3 (dk_at dksX4_reasonAt_1 21 rfl rfl)
theorem dX4_reasonAt_44 : decode cX4_reasonAt 44 = .ok (.istore 5, 2) := dk_54 5 (dk_at dksX4_reasonAt_1 22 rfl rfl)
theorem dX4_reasonAt_46 : decode cX4_reasonAt 46 = .ok (.aload_n 0, 1) := dk_42 (dk_at dksX4_reasonAt_2 0 rfl rfl)
theorem dX4_reasonAt_47 : decode cX4_reasonAt 47 = .ok (.iload_n 3, 1) := dk_29 (dk_at dksX4_reasonAt_2 1 rfl rfl)
theorem dX4_reasonAt_48 : decode cX4_reasonAt 48 = .ok (.ifCond .le 7, 3) := dk_158 0 7 (dk_at dksX4_reasonAt_2 2 rfl rfl)
theorem dX4_reasonAt_51 : decode cX4_reasonAt 51 = .ok (.iload_n 3, 1) := dk_29 (dk_at dksX4_reasonAt_2 5 rfl rfl)
theorem dX4_reasonAt_52 : decode cX4_reasonAt 52 = .ok (.goto 13, 3) := dk_167 0 13 (dk_at dksX4_reasonAt_2 6 rfl rfl)
theorem dX4_reasonAt_55 : decode cX4_reasonAt 55 = .ok (.iload 5, 2) := dk_21 5 (dk_at dksX4_reasonAt_2 9 rfl rfl)
theorem dX4_reasonAt_57 : decode cX4_reasonAt 57 = .ok (.ifCond .eq 7, 3) := dk_153 0 7 (dk_at dksX4_reasonAt_2 11 rfl rfl)
theorem dX4_reasonAt_60 : decode cX4_reasonAt 60 = .ok (.iconst 0, 1) := dk_3 (dk_at dksX4_reasonAt_2 14 rfl rfl)
theorem dX4_reasonAt_61 : decode cX4_reasonAt 61 = .ok (.goto 4, 3) := dk_167 0 4 (dk_at dksX4_reasonAt_2 15 rfl rfl)
theorem dX4_reasonAt_64 : decode cX4_reasonAt 64 = .ok (.iconst 1, 1) := dk_4 (dk_at dksX4_reasonAt_2 18 rfl rfl)
theorem dX4_reasonAt_65 : decode cX4_reasonAt 65 = .ok (.invokevirtual 266, 3) := dk_182 1 10 (dk_at dksX4_reasonAt_2 19 rfl rfl)
theorem dX4_reasonAt_68 : decode cX4_reasonAt 68 = .ok (.ifCond .eq 12, 3) := dk_153 0 12 (dk_at dksX4_reasonAt_3 0 rfl rfl)
theorem dX4_reasonAt_71 : decode cX4_reasonAt 71 = .ok (.aload_n 0, 1) := dk_42 (dk_at dksX4_reasonAt_3 3 rfl rfl)
theorem dX4_reasonAt_72 : decode cX4_reasonAt 72 = .ok (.getfield 119, 3) := dk_180 0 119 (dk_at dksX4_reasonAt_3 4 rfl rfl)
theorem dX4_reasonAt_75 : decode cX4_reasonAt 75 = .ok (.iload_n 2, 1) := dk_28 (dk_at dksX4_reasonAt_3 7 rfl rfl)
theorem dX4_reasonAt_76 : decode cX4_reasonAt 76 = .ok (.iaload, 1) := dk_46 (dk_at dksX4_reasonAt_3 8 rfl rfl)
theorem dX4_reasonAt_77 : decode cX4_reasonAt 77 = .ok (.goto 4, 3) := dk_167 0 4 (dk_at dksX4_reasonAt_3 9 rfl rfl)
theorem dX4_reasonAt_80 : decode cX4_reasonAt 80 = .ok (.iconst 0, 1) := dk_3 (dk_at dksX4_reasonAt_3 12 rfl rfl)
theorem dX4_reasonAt_81 : decode cX4_reasonAt 81 = .ok (.ireturn, 1) := dk_172 (dk_at dksX4_reasonAt_3 13 rfl rfl)
abbrev cX4_dependsOn : ByteArray := prog_19_method_89_code
def yX4_dependsOn : MethodName := ⟨RX4, "dependsOn", "(II)Z"⟩
def dkwX4_dependsOn_4 : List UInt8 := [123, 10, 127, 10, 148, 154, 0, 7, 4, 167, 0, 4, 3, 172]
abbrev dktX4_dependsOn_4 : List UInt8 := dkwX4_dependsOn_4 ++ []
def dkwX4_dependsOn_3 : List UInt8 := [159, 0, 9, 21, 5, 2, 160, 0, 5, 3, 172, 42, 182, 1, 101, 42, 180, 0, 116, 21, 4, 47, 21, 5]
abbrev dktX4_dependsOn_3 : List UInt8 := dkwX4_dependsOn_3 ++ dktX4_dependsOn_4
def dkwX4_dependsOn_2 : List UInt8 := [154, 0, 5, 3, 172, 42, 27, 182, 0, 192, 54, 4, 42, 28, 182, 0, 192, 54, 5, 21, 4, 2]
abbrev dktX4_dependsOn_2 : List UInt8 := dkwX4_dependsOn_2 ++ dktX4_dependsOn_3
def dkwX4_dependsOn_1 : List UInt8 := [182, 1, 16, 42, 28, 182, 1, 16, 96, 158, 0, 7, 5, 167, 0, 4, 3, 62, 42, 29, 182, 1, 10]
abbrev dktX4_dependsOn_1 : List UInt8 := dkwX4_dependsOn_1 ++ dktX4_dependsOn_2
def dkwX4_dependsOn_0 : List UInt8 := [42, 27, 182, 1, 16, 4, 159, 0, 12, 42, 28, 182, 1, 16, 4, 160, 0, 7, 4, 167, 0, 22, 42, 27]
abbrev dktX4_dependsOn_0 : List UInt8 := dkwX4_dependsOn_0 ++ dktX4_dependsOn_1
theorem dksX4_dependsOn_0 : cX4_dependsOn.data.toList.drop 0 = dktX4_dependsOn_0 := by decide +kernel
theorem dksX4_dependsOn_1 : cX4_dependsOn.data.toList.drop 24 = dktX4_dependsOn_1 := dk_seg dksX4_dependsOn_0 24 rfl rfl
theorem dksX4_dependsOn_2 : cX4_dependsOn.data.toList.drop 47 = dktX4_dependsOn_2 := dk_seg dksX4_dependsOn_1 23 rfl rfl
theorem dksX4_dependsOn_3 : cX4_dependsOn.data.toList.drop 69 = dktX4_dependsOn_3 := dk_seg dksX4_dependsOn_2 22 rfl rfl
theorem dksX4_dependsOn_4 : cX4_dependsOn.data.toList.drop 93 = dktX4_dependsOn_4 := dk_seg dksX4_dependsOn_3 24 rfl rfl
theorem dX4_dependsOn_0 : decode cX4_dependsOn 0 = .ok (.aload_n 0, 1) := dk_42 (dk_at dksX4_dependsOn_0 0 rfl rfl)
theorem dX4_dependsOn_1 : decode cX4_dependsOn 1 = .ok (.iload_n 1, 1) := dk_27 (dk_at dksX4_dependsOn_0 1 rfl rfl)
theorem dX4_dependsOn_2 : decode cX4_dependsOn 2 = .ok (.invokevirtual 272, 3) := dk_182 1 16 (dk_at dksX4_dependsOn_0 2 rfl rfl)
theorem dX4_dependsOn_5 : decode cX4_dependsOn 5 = .ok (.iconst 1, 1) := dk_4 (dk_at dksX4_dependsOn_0 5 rfl rfl)
theorem dX4_dependsOn_6 : decode cX4_dependsOn 6 = .ok (.if_icmp .eq 12, 3) := dk_159 0 12 (dk_at dksX4_dependsOn_0 6 rfl rfl)
theorem dX4_dependsOn_9 : decode cX4_dependsOn 9 = .ok (.aload_n 0, 1) := dk_42 (dk_at dksX4_dependsOn_0 9 rfl rfl)
theorem dX4_dependsOn_10 : decode cX4_dependsOn 10 = .ok (.iload_n 2, 1) := dk_28 (dk_at dksX4_dependsOn_0 10 rfl rfl)
theorem dX4_dependsOn_11 : decode cX4_dependsOn 11 = .ok (.invokevirtual 272, 3) := dk_182 1 16 (dk_at dksX4_dependsOn_0 11 rfl rfl)
theorem dX4_dependsOn_14 : decode cX4_dependsOn 14 = .ok (.iconst 1, 1) := dk_4 (dk_at dksX4_dependsOn_0 14 rfl rfl)
theorem dX4_dependsOn_15 : decode cX4_dependsOn 15 = .ok (.if_icmp .ne 7, 3) := dk_160 0 7 (dk_at dksX4_dependsOn_0 15 rfl rfl)
theorem dX4_dependsOn_18 : decode cX4_dependsOn 18 = .ok (.iconst 1, 1) := dk_4 (dk_at dksX4_dependsOn_0 18 rfl rfl)
theorem dX4_dependsOn_19 : decode cX4_dependsOn 19 = .ok (.goto 22, 3) := dk_167 0 22 (dk_at dksX4_dependsOn_0 19 rfl rfl)
theorem dX4_dependsOn_22 : decode cX4_dependsOn 22 = .ok (.aload_n 0, 1) := dk_42 (dk_at dksX4_dependsOn_0 22 rfl rfl)
theorem dX4_dependsOn_23 : decode cX4_dependsOn 23 = .ok (.iload_n 1, 1) := dk_27 (dk_at dksX4_dependsOn_0 23 rfl rfl)
theorem dX4_dependsOn_24 : decode cX4_dependsOn 24 = .ok (.invokevirtual 272, 3) := dk_182 1 16 (dk_at dksX4_dependsOn_1 0 rfl rfl)
theorem dX4_dependsOn_27 : decode cX4_dependsOn 27 = .ok (.aload_n 0, 1) := dk_42 (dk_at dksX4_dependsOn_1 3 rfl rfl)
theorem dX4_dependsOn_28 : decode cX4_dependsOn 28 = .ok (.iload_n 2, 1) := dk_28 (dk_at dksX4_dependsOn_1 4 rfl rfl)
theorem dX4_dependsOn_29 : decode cX4_dependsOn 29 = .ok (.invokevirtual 272, 3) := dk_182 1 16 (dk_at dksX4_dependsOn_1 5 rfl rfl)
theorem dX4_dependsOn_32 : decode cX4_dependsOn 32 = .ok (.iadd, 1) := dk_96 (dk_at dksX4_dependsOn_1 8 rfl rfl)
theorem dX4_dependsOn_33 : decode cX4_dependsOn 33 = .ok (.ifCond .le 7, 3) := dk_158 0 7 (dk_at dksX4_dependsOn_1 9 rfl rfl)
theorem dX4_dependsOn_36 : decode cX4_dependsOn 36 = .ok (.iconst 2, 1) := dk_5 (dk_at dksX4_dependsOn_1 12 rfl rfl)
theorem dX4_dependsOn_37 : decode cX4_dependsOn 37 = .ok (.goto 4, 3) := dk_167 0 4 (dk_at dksX4_dependsOn_1 13 rfl rfl)
theorem dX4_dependsOn_40 : decode cX4_dependsOn 40 = .ok (.iconst 0, 1) := dk_3 (dk_at dksX4_dependsOn_1 16 rfl rfl)
theorem dX4_dependsOn_41 : decode cX4_dependsOn 41 = .ok (.istore_n 3, 1) := dk_62 (dk_at dksX4_dependsOn_1 17 rfl rfl)
theorem dX4_dependsOn_42 : decode cX4_dependsOn 42 = .ok (.aload_n 0, 1) := dk_42 (dk_at dksX4_dependsOn_1 18 rfl rfl)
theorem dX4_dependsOn_43 : decode cX4_dependsOn 43 = .ok (.iload_n 3, 1) := dk_29 (dk_at dksX4_dependsOn_1 19 rfl rfl)
theorem dX4_dependsOn_44 : decode cX4_dependsOn 44 = .ok (.invokevirtual 266, 3) := dk_182 1 10 (dk_at dksX4_dependsOn_1 20 rfl rfl)
theorem dX4_dependsOn_47 : decode cX4_dependsOn 47 = .ok (.ifCond .ne 5, 3) := dk_154 0 5 (dk_at dksX4_dependsOn_2 0 rfl rfl)
theorem dX4_dependsOn_50 : decode cX4_dependsOn 50 = .ok (.iconst 0, 1) := dk_3 (dk_at dksX4_dependsOn_2 3 rfl rfl)
theorem dX4_dependsOn_51 : decode cX4_dependsOn 51 = .ok (.ireturn, 1) := dk_172 (dk_at dksX4_dependsOn_2 4 rfl rfl)
theorem dX4_dependsOn_52 : decode cX4_dependsOn 52 = .ok (.aload_n 0, 1) := dk_42 (dk_at dksX4_dependsOn_2 5 rfl rfl)
theorem dX4_dependsOn_53 : decode cX4_dependsOn 53 = .ok (.iload_n 1, 1) := dk_27 (dk_at dksX4_dependsOn_2 6 rfl rfl)
theorem dX4_dependsOn_54 : decode cX4_dependsOn 54 = .ok (.invokevirtual 192, 3) := dk_182 0 192 (dk_at dksX4_dependsOn_2 7 rfl rfl)
theorem dX4_dependsOn_57 : decode cX4_dependsOn 57 = .ok (.istore 4, 2) := dk_54 4 (dk_at dksX4_dependsOn_2 10 rfl rfl)
theorem dX4_dependsOn_59 : decode cX4_dependsOn 59 = .ok (.aload_n 0, 1) := dk_42 (dk_at dksX4_dependsOn_2 12 rfl rfl)
theorem dX4_dependsOn_60 : decode cX4_dependsOn 60 = .ok (.iload_n 2, 1) := dk_28 (dk_at dksX4_dependsOn_2 13 rfl rfl)
theorem dX4_dependsOn_61 : decode cX4_dependsOn 61 = .ok (.invokevirtual 192, 3) := dk_182 0 192 (dk_at dksX4_dependsOn_2 14 rfl rfl)
theorem dX4_dependsOn_64 : decode cX4_dependsOn 64 = .ok (.istore 5, 2) := dk_54 5 (dk_at dksX4_dependsOn_2 17 rfl rfl)
theorem dX4_dependsOn_66 : decode cX4_dependsOn 66 = .ok (.iload 4, 2) := dk_21 4 (dk_at dksX4_dependsOn_2 19 rfl rfl)
theorem dX4_dependsOn_68 : decode cX4_dependsOn 68 = .ok (.iconst (-1), 1) := dk_2 (dk_at dksX4_dependsOn_2 21 rfl rfl)
theorem dX4_dependsOn_69 : decode cX4_dependsOn 69 = .ok (.if_icmp .eq 9, 3) := dk_159 0 9 (dk_at dksX4_dependsOn_3 0 rfl rfl)
theorem dX4_dependsOn_72 : decode cX4_dependsOn 72 = .ok (.iload 5, 2) := dk_21 5 (dk_at dksX4_dependsOn_3 3 rfl rfl)
theorem dX4_dependsOn_74 : decode cX4_dependsOn 74 = .ok (.iconst (-1), 1) := dk_2 (dk_at dksX4_dependsOn_3 5 rfl rfl)
theorem dX4_dependsOn_75 : decode cX4_dependsOn 75 = .ok (.if_icmp .ne 5, 3) := dk_160 0 5 (dk_at dksX4_dependsOn_3 6 rfl rfl)
theorem dX4_dependsOn_78 : decode cX4_dependsOn 78 = .ok (.iconst 0, 1) := dk_3 (dk_at dksX4_dependsOn_3 9 rfl rfl)
theorem dX4_dependsOn_79 : decode cX4_dependsOn 79 = .ok (.ireturn, 1) := dk_172 (dk_at dksX4_dependsOn_3 10 rfl rfl)
theorem dX4_dependsOn_80 : decode cX4_dependsOn 80 = .ok (.aload_n 0, 1) := dk_42 (dk_at dksX4_dependsOn_3 11 rfl rfl)
theorem dX4_dependsOn_81 : decode cX4_dependsOn 81 = .ok (.invokevirtual 357, 3) := dk_182 1 101 (dk_at dksX4_dependsOn_3 12 rfl rfl)
theorem dX4_dependsOn_84 : decode cX4_dependsOn 84 = .ok (.aload_n 0, 1) := dk_42 (dk_at dksX4_dependsOn_3 15 rfl rfl)
theorem dX4_dependsOn_85 : decode cX4_dependsOn 85 = .ok (.getfield 116, 3) := dk_180 0 116 (dk_at dksX4_dependsOn_3 16 rfl rfl)
theorem dX4_dependsOn_88 : decode cX4_dependsOn 88 = .ok (.iload 4, 2) := dk_21 4 (dk_at dksX4_dependsOn_3 19 rfl rfl)
theorem dX4_dependsOn_90 : decode cX4_dependsOn 90 = .ok (.laload, 1) := dk_47 (dk_at dksX4_dependsOn_3 21 rfl rfl)
theorem dX4_dependsOn_91 : decode cX4_dependsOn 91 = .ok (.iload 5, 2) := dk_21 5 (dk_at dksX4_dependsOn_3 22 rfl rfl)
theorem dX4_dependsOn_93 : decode cX4_dependsOn 93 = .ok (.lshr, 1) := dk_123 (dk_at dksX4_dependsOn_4 0 rfl rfl)
theorem dX4_dependsOn_94 : decode cX4_dependsOn 94 = .ok (.lconst 1, 1) := dk_10 (dk_at dksX4_dependsOn_4 1 rfl rfl)
theorem dX4_dependsOn_95 : decode cX4_dependsOn 95 = .ok (.land, 1) := dk_127 (dk_at dksX4_dependsOn_4 2 rfl rfl)
theorem dX4_dependsOn_96 : decode cX4_dependsOn 96 = .ok (.lconst 1, 1) := dk_10 (dk_at dksX4_dependsOn_4 3 rfl rfl)
theorem dX4_dependsOn_97 : decode cX4_dependsOn 97 = .ok (.lcmp, 1) := dk_148 (dk_at dksX4_dependsOn_4 4 rfl rfl)
theorem dX4_dependsOn_98 : decode cX4_dependsOn 98 = .ok (.ifCond .ne 7, 3) := dk_154 0 7 (dk_at dksX4_dependsOn_4 5 rfl rfl)
theorem dX4_dependsOn_101 : decode cX4_dependsOn 101 = .ok (.iconst 1, 1) := dk_4 (dk_at dksX4_dependsOn_4 8 rfl rfl)
theorem dX4_dependsOn_102 : decode cX4_dependsOn 102 = .ok (.goto 4, 3) := dk_167 0 4 (dk_at dksX4_dependsOn_4 9 rfl rfl)
theorem dX4_dependsOn_105 : decode cX4_dependsOn 105 = .ok (.iconst 0, 1) := dk_3 (dk_at dksX4_dependsOn_4 12 rfl rfl)
theorem dX4_dependsOn_106 : decode cX4_dependsOn 106 = .ok (.ireturn, 1) := dk_172 (dk_at dksX4_dependsOn_4 13 rfl rfl)
abbrev cX4_findRests : ByteArray := prog_19_method_88_code
def yX4_findRests : MethodName := ⟨RX4, "findRests", "()V"⟩
def dkwX4_findRests_9 : List UInt8 := [167, 255, 208, 132, 1, 1, 167, 255, 189, 177]
abbrev dktX4_findRests_9 : List UInt8 := dkwX4_findRests_9 ++ []
def dkwX4_findRests_8 : List UInt8 := [27, 123, 10, 127, 10, 148, 154, 0, 12, 42, 180, 0, 116, 27, 47, 167, 0, 4, 9, 129, 80, 132, 2, 1]
abbrev dktX4_findRests_8 : List UInt8 := dkwX4_findRests_8 ++ dktX4_findRests_9
def dkwX4_findRests_7 : List UInt8 := [28, 42, 180, 0, 7, 16, 6, 46, 162, 0, 43, 42, 180, 0, 116, 28, 92, 47, 42, 180, 0, 116, 28, 47]
abbrev dktX4_findRests_7 : List UInt8 := dkwX4_findRests_7 ++ dktX4_findRests_8
def dkwX4_findRests_6 : List UInt8 := [167, 255, 228, 132, 1, 1, 167, 255, 141, 3, 60, 27, 42, 180, 0, 7, 16, 6, 46, 162, 0, 62, 3, 61]
abbrev dktX4_findRests_6 : List UInt8 := dkwX4_findRests_6 ++ dktX4_findRests_7
def dkwX4_findRests_5 : List UInt8 := [153, 0, 27, 42, 180, 0, 116, 42, 42, 27, 182, 0, 222, 182, 0, 192, 92, 47, 42, 182, 0, 229, 129, 80]
abbrev dktX4_findRests_5 : List UInt8 := dkwX4_findRests_5 ++ dktX4_findRests_6
def dkwX4_findRests_4 : List UInt8 := [167, 0, 49, 42, 182, 0, 211, 42, 27, 42, 180, 0, 25, 27, 46, 182, 0, 214, 42, 182, 0, 218]
abbrev dktX4_findRests_4 : List UInt8 := dkwX4_findRests_4 ++ dktX4_findRests_5
def dkwX4_findRests_3 : List UInt8 := [182, 0, 248, 182, 0, 192, 92, 47, 42, 180, 0, 110, 28, 47, 129, 80, 132, 2, 1, 167, 255, 221]
abbrev dktX4_findRests_3 : List UInt8 := dkwX4_findRests_3 ++ dktX4_findRests_4
def dkwX4_findRests_2 : List UInt8 := [27, 182, 0, 245, 3, 61, 28, 42, 180, 0, 208, 162, 0, 33, 42, 180, 0, 116, 42, 42, 27, 28]
abbrev dktX4_findRests_2 : List UInt8 := dkwX4_findRests_2 ++ dktX4_findRests_3
def dkwX4_findRests_1 : List UInt8 := [167, 255, 235, 3, 60, 27, 42, 180, 0, 7, 4, 46, 162, 0, 111, 42, 27, 182, 0, 236, 153, 0, 51, 42]
abbrev dktX4_findRests_1 : List UInt8 := dkwX4_findRests_1 ++ dktX4_findRests_2
def dkwX4_findRests_0 : List UInt8 := [3, 60, 27, 42, 180, 0, 7, 16, 6, 46, 162, 0, 16, 42, 180, 0, 116, 27, 9, 80, 132, 1, 1]
abbrev dktX4_findRests_0 : List UInt8 := dkwX4_findRests_0 ++ dktX4_findRests_1
theorem dksX4_findRests_0 : cX4_findRests.data.toList.drop 0 = dktX4_findRests_0 := by decide +kernel
theorem dksX4_findRests_1 : cX4_findRests.data.toList.drop 23 = dktX4_findRests_1 := dk_seg dksX4_findRests_0 23 rfl rfl
theorem dksX4_findRests_2 : cX4_findRests.data.toList.drop 47 = dktX4_findRests_2 := dk_seg dksX4_findRests_1 24 rfl rfl
theorem dksX4_findRests_3 : cX4_findRests.data.toList.drop 69 = dktX4_findRests_3 := dk_seg dksX4_findRests_2 22 rfl rfl
theorem dksX4_findRests_4 : cX4_findRests.data.toList.drop 91 = dktX4_findRests_4 := dk_seg dksX4_findRests_3 22 rfl rfl
theorem dksX4_findRests_5 : cX4_findRests.data.toList.drop 113 = dktX4_findRests_5 := dk_seg dksX4_findRests_4 22 rfl rfl
theorem dksX4_findRests_6 : cX4_findRests.data.toList.drop 137 = dktX4_findRests_6 := dk_seg dksX4_findRests_5 24 rfl rfl
theorem dksX4_findRests_7 : cX4_findRests.data.toList.drop 161 = dktX4_findRests_7 := dk_seg dksX4_findRests_6 24 rfl rfl
theorem dksX4_findRests_8 : cX4_findRests.data.toList.drop 185 = dktX4_findRests_8 := dk_seg dksX4_findRests_7 24 rfl rfl
theorem dksX4_findRests_9 : cX4_findRests.data.toList.drop 209 = dktX4_findRests_9 := dk_seg dksX4_findRests_8 24 rfl rfl
theorem dX4_findRests_0 : decode cX4_findRests 0 = .ok (.iconst 0, 1) := dk_3 (dk_at dksX4_findRests_0 0 rfl rfl)
theorem dX4_findRests_1 : decode cX4_findRests 1 = .ok (.istore_n 1, 1) := dk_60 (dk_at dksX4_findRests_0 1 rfl rfl)
theorem dX4_findRests_2 : decode cX4_findRests 2 = .ok (.iload_n 1, 1) := dk_27 (dk_at dksX4_findRests_0 2 rfl rfl)
theorem dX4_findRests_3 : decode cX4_findRests 3 = .ok (.aload_n 0, 1) := dk_42 (dk_at dksX4_findRests_0 3 rfl rfl)
theorem dX4_findRests_4 : decode cX4_findRests 4 = .ok (.getfield 7, 3) := dk_180 0 7 (dk_at dksX4_findRests_0 4 rfl rfl)
theorem dX4_findRests_7 : decode cX4_findRests 7 = .ok (.bipush 6, 2) := dk_16 6 (dk_at dksX4_findRests_0 7 rfl rfl)
theorem dX4_findRests_9 : decode cX4_findRests 9 = .ok (.iaload, 1) := dk_46 (dk_at dksX4_findRests_0 9 rfl rfl)
theorem dX4_findRests_10 : decode cX4_findRests 10 = .ok (.if_icmp .ge 16, 3) := dk_162 0 16 (dk_at dksX4_findRests_0 10 rfl rfl)
theorem dX4_findRests_13 : decode cX4_findRests 13 = .ok (.aload_n 0, 1) := dk_42 (dk_at dksX4_findRests_0 13 rfl rfl)
theorem dX4_findRests_14 : decode cX4_findRests 14 = .ok (.getfield 116, 3) := dk_180 0 116 (dk_at dksX4_findRests_0 14 rfl rfl)
theorem dX4_findRests_17 : decode cX4_findRests 17 = .ok (.iload_n 1, 1) := dk_27 (dk_at dksX4_findRests_0 17 rfl rfl)
theorem dX4_findRests_18 : decode cX4_findRests 18 = .ok (.lconst 0, 1) := dk_9 (dk_at dksX4_findRests_0 18 rfl rfl)
theorem dX4_findRests_19 : decode cX4_findRests 19 = .ok (.lastore, 1) := dk_80 (dk_at dksX4_findRests_0 19 rfl rfl)
theorem dX4_findRests_20 : decode cX4_findRests 20 = .ok (.iinc 1 1, 3) := dk_132 1 1 (dk_at dksX4_findRests_0 20 rfl rfl)
theorem dX4_findRests_23 : decode cX4_findRests 23 = .ok (.goto (-21), 3) := dk_167 255 235 (dk_at dksX4_findRests_1 0 rfl rfl)
theorem dX4_findRests_26 : decode cX4_findRests 26 = .ok (.iconst 0, 1) := dk_3 (dk_at dksX4_findRests_1 3 rfl rfl)
theorem dX4_findRests_27 : decode cX4_findRests 27 = .ok (.istore_n 1, 1) := dk_60 (dk_at dksX4_findRests_1 4 rfl rfl)
theorem dX4_findRests_28 : decode cX4_findRests 28 = .ok (.iload_n 1, 1) := dk_27 (dk_at dksX4_findRests_1 5 rfl rfl)
theorem dX4_findRests_29 : decode cX4_findRests 29 = .ok (.aload_n 0, 1) := dk_42 (dk_at dksX4_findRests_1 6 rfl rfl)
theorem dX4_findRests_30 : decode cX4_findRests 30 = .ok (.getfield 7, 3) := dk_180 0 7 (dk_at dksX4_findRests_1 7 rfl rfl)
theorem dX4_findRests_33 : decode cX4_findRests 33 = .ok (.iconst 1, 1) := dk_4 (dk_at dksX4_findRests_1 10 rfl rfl)
theorem dX4_findRests_34 : decode cX4_findRests 34 = .ok (.iaload, 1) := dk_46 (dk_at dksX4_findRests_1 11 rfl rfl)
theorem dX4_findRests_35 : decode cX4_findRests 35 = .ok (.if_icmp .ge 111, 3) := dk_162 0 111 (dk_at dksX4_findRests_1 12 rfl rfl)
theorem dX4_findRests_38 : decode cX4_findRests 38 = .ok (.aload_n 0, 1) := dk_42 (dk_at dksX4_findRests_1 15 rfl rfl)
theorem dX4_findRests_39 : decode cX4_findRests 39 = .ok (.iload_n 1, 1) := dk_27 (dk_at dksX4_findRests_1 16 rfl rfl)
theorem dX4_findRests_40 : decode cX4_findRests 40 = .ok (.invokevirtual 236, 3) := dk_182 0 236 (dk_at dksX4_findRests_1 17 rfl rfl)
theorem dX4_findRests_43 : decode cX4_findRests 43 = .ok (.ifCond .eq 51, 3) := dk_153 0 51 (dk_at dksX4_findRests_1 20 rfl rfl)
theorem dX4_findRests_46 : decode cX4_findRests 46 = .ok (.aload_n 0, 1) := dk_42 (dk_at dksX4_findRests_1 23 rfl rfl)
theorem dX4_findRests_47 : decode cX4_findRests 47 = .ok (.iload_n 1, 1) := dk_27 (dk_at dksX4_findRests_2 0 rfl rfl)
theorem dX4_findRests_48 : decode cX4_findRests 48 = .ok (.invokevirtual 245, 3) := dk_182 0 245 (dk_at dksX4_findRests_2 1 rfl rfl)
theorem dX4_findRests_51 : decode cX4_findRests 51 = .ok (.iconst 0, 1) := dk_3 (dk_at dksX4_findRests_2 4 rfl rfl)
theorem dX4_findRests_52 : decode cX4_findRests 52 = .ok (.istore_n 2, 1) := dk_61 (dk_at dksX4_findRests_2 5 rfl rfl)
theorem dX4_findRests_53 : decode cX4_findRests 53 = .ok (.iload_n 2, 1) := dk_28 (dk_at dksX4_findRests_2 6 rfl rfl)
theorem dX4_findRests_54 : decode cX4_findRests 54 = .ok (.aload_n 0, 1) := dk_42 (dk_at dksX4_findRests_2 7 rfl rfl)
theorem dX4_findRests_55 : decode cX4_findRests 55 = .ok (.getfield 208, 3) := dk_180 0 208 (dk_at dksX4_findRests_2 8 rfl rfl)
theorem dX4_findRests_58 : decode cX4_findRests 58 = .ok (.if_icmp .ge 33, 3) := dk_162 0 33 (dk_at dksX4_findRests_2 11 rfl rfl)
theorem dX4_findRests_61 : decode cX4_findRests 61 = .ok (.aload_n 0, 1) := dk_42 (dk_at dksX4_findRests_2 14 rfl rfl)
theorem dX4_findRests_62 : decode cX4_findRests 62 = .ok (.getfield 116, 3) := dk_180 0 116 (dk_at dksX4_findRests_2 15 rfl rfl)
theorem dX4_findRests_65 : decode cX4_findRests 65 = .ok (.aload_n 0, 1) := dk_42 (dk_at dksX4_findRests_2 18 rfl rfl)
theorem dX4_findRests_66 : decode cX4_findRests 66 = .ok (.aload_n 0, 1) := dk_42 (dk_at dksX4_findRests_2 19 rfl rfl)
theorem dX4_findRests_67 : decode cX4_findRests 67 = .ok (.iload_n 1, 1) := dk_27 (dk_at dksX4_findRests_2 20 rfl rfl)
theorem dX4_findRests_68 : decode cX4_findRests 68 = .ok (.iload_n 2, 1) := dk_28 (dk_at dksX4_findRests_2 21 rfl rfl)
theorem dX4_findRests_69 : decode cX4_findRests 69 = .ok (.invokevirtual 248, 3) := dk_182 0 248 (dk_at dksX4_findRests_3 0 rfl rfl)
theorem dX4_findRests_72 : decode cX4_findRests 72 = .ok (.invokevirtual 192, 3) := dk_182 0 192 (dk_at dksX4_findRests_3 3 rfl rfl)
theorem dX4_findRests_75 : decode cX4_findRests 75 = .ok (.dup2, 1) := dk_92 (dk_at dksX4_findRests_3 6 rfl rfl)
theorem dX4_findRests_76 : decode cX4_findRests 76 = .ok (.laload, 1) := dk_47 (dk_at dksX4_findRests_3 7 rfl rfl)
theorem dX4_findRests_77 : decode cX4_findRests 77 = .ok (.aload_n 0, 1) := dk_42 (dk_at dksX4_findRests_3 8 rfl rfl)
theorem dX4_findRests_78 : decode cX4_findRests 78 = .ok (.getfield 110, 3) := dk_180 0 110 (dk_at dksX4_findRests_3 9 rfl rfl)
theorem dX4_findRests_81 : decode cX4_findRests 81 = .ok (.iload_n 2, 1) := dk_28 (dk_at dksX4_findRests_3 12 rfl rfl)
theorem dX4_findRests_82 : decode cX4_findRests 82 = .ok (.laload, 1) := dk_47 (dk_at dksX4_findRests_3 13 rfl rfl)
theorem dX4_findRests_83 : decode cX4_findRests 83 = .ok (.lor, 1) := dk_129 (dk_at dksX4_findRests_3 14 rfl rfl)
theorem dX4_findRests_84 : decode cX4_findRests 84 = .ok (.lastore, 1) := dk_80 (dk_at dksX4_findRests_3 15 rfl rfl)
theorem dX4_findRests_85 : decode cX4_findRests 85 = .ok (.iinc 2 1, 3) := dk_132 2 1 (dk_at dksX4_findRests_3 16 rfl rfl)
theorem dX4_findRests_88 : decode cX4_findRests 88 = .ok (.goto (-35), 3) := dk_167 255 221 (dk_at dksX4_findRests_3 19 rfl rfl)
theorem dX4_findRests_91 : decode cX4_findRests 91 = .ok (.goto 49, 3) := dk_167 0 49 (dk_at dksX4_findRests_4 0 rfl rfl)
theorem dX4_findRests_94 : decode cX4_findRests 94 = .ok (.aload_n 0, 1) := dk_42 (dk_at dksX4_findRests_4 3 rfl rfl)
theorem dX4_findRests_95 : decode cX4_findRests 95 = .ok (.invokevirtual 211, 3) := dk_182 0 211 (dk_at dksX4_findRests_4 4 rfl rfl)
theorem dX4_findRests_98 : decode cX4_findRests 98 = .ok (.aload_n 0, 1) := dk_42 (dk_at dksX4_findRests_4 7 rfl rfl)
theorem dX4_findRests_99 : decode cX4_findRests 99 = .ok (.iload_n 1, 1) := dk_27 (dk_at dksX4_findRests_4 8 rfl rfl)
theorem dX4_findRests_100 : decode cX4_findRests 100 = .ok (.aload_n 0, 1) := dk_42 (dk_at dksX4_findRests_4 9 rfl rfl)
theorem dX4_findRests_101 : decode cX4_findRests 101 = .ok (.getfield 25, 3) := dk_180 0 25 (dk_at dksX4_findRests_4 10 rfl rfl)
theorem dX4_findRests_104 : decode cX4_findRests 104 = .ok (.iload_n 1, 1) := dk_27 (dk_at dksX4_findRests_4 13 rfl rfl)
theorem dX4_findRests_105 : decode cX4_findRests 105 = .ok (.iaload, 1) := dk_46 (dk_at dksX4_findRests_4 14 rfl rfl)
theorem dX4_findRests_106 : decode cX4_findRests 106 = .ok (.invokevirtual 214, 3) := dk_182 0 214 (dk_at dksX4_findRests_4 15 rfl rfl)
theorem dX4_findRests_109 : decode cX4_findRests 109 = .ok (.aload_n 0, 1) := dk_42 (dk_at dksX4_findRests_4 18 rfl rfl)
theorem dX4_findRests_110 : decode cX4_findRests 110 = .ok (.invokevirtual 218, 3) := dk_182 0 218 (dk_at dksX4_findRests_4 19 rfl rfl)
theorem dX4_findRests_113 : decode cX4_findRests 113 = .ok (.ifCond .eq 27, 3) := dk_153 0 27 (dk_at dksX4_findRests_5 0 rfl rfl)
theorem dX4_findRests_116 : decode cX4_findRests 116 = .ok (.aload_n 0, 1) := dk_42 (dk_at dksX4_findRests_5 3 rfl rfl)
theorem dX4_findRests_117 : decode cX4_findRests 117 = .ok (.getfield 116, 3) := dk_180 0 116 (dk_at dksX4_findRests_5 4 rfl rfl)
theorem dX4_findRests_120 : decode cX4_findRests 120 = .ok (.aload_n 0, 1) := dk_42 (dk_at dksX4_findRests_5 7 rfl rfl)
theorem dX4_findRests_121 : decode cX4_findRests 121 = .ok (.aload_n 0, 1) := dk_42 (dk_at dksX4_findRests_5 8 rfl rfl)
theorem dX4_findRests_122 : decode cX4_findRests 122 = .ok (.iload_n 1, 1) := dk_27 (dk_at dksX4_findRests_5 9 rfl rfl)
theorem dX4_findRests_123 : decode cX4_findRests 123 = .ok (.invokevirtual 222, 3) := dk_182 0 222 (dk_at dksX4_findRests_5 10 rfl rfl)
theorem dX4_findRests_126 : decode cX4_findRests 126 = .ok (.invokevirtual 192, 3) := dk_182 0 192 (dk_at dksX4_findRests_5 13 rfl rfl)
theorem dX4_findRests_129 : decode cX4_findRests 129 = .ok (.dup2, 1) := dk_92 (dk_at dksX4_findRests_5 16 rfl rfl)
theorem dX4_findRests_130 : decode cX4_findRests 130 = .ok (.laload, 1) := dk_47 (dk_at dksX4_findRests_5 17 rfl rfl)
theorem dX4_findRests_131 : decode cX4_findRests 131 = .ok (.aload_n 0, 1) := dk_42 (dk_at dksX4_findRests_5 18 rfl rfl)
theorem dX4_findRests_132 : decode cX4_findRests 132 = .ok (.invokevirtual 229, 3) := dk_182 0 229 (dk_at dksX4_findRests_5 19 rfl rfl)
theorem dX4_findRests_135 : decode cX4_findRests 135 = .ok (.lor, 1) := dk_129 (dk_at dksX4_findRests_5 22 rfl rfl)
theorem dX4_findRests_136 : decode cX4_findRests 136 = .ok (.lastore, 1) := dk_80 (dk_at dksX4_findRests_5 23 rfl rfl)
theorem dX4_findRests_137 : decode cX4_findRests 137 = .ok (.goto (-28), 3) := dk_167 255 228 (dk_at dksX4_findRests_6 0 rfl rfl)
theorem dX4_findRests_140 : decode cX4_findRests 140 = .ok (.iinc 1 1, 3) := dk_132 1 1 (dk_at dksX4_findRests_6 3 rfl rfl)
theorem dX4_findRests_143 : decode cX4_findRests 143 = .ok (.goto (-115), 3) := dk_167 255 141 (dk_at dksX4_findRests_6 6 rfl rfl)
theorem dX4_findRests_146 : decode cX4_findRests 146 = .ok (.iconst 0, 1) := dk_3 (dk_at dksX4_findRests_6 9 rfl rfl)
theorem dX4_findRests_147 : decode cX4_findRests 147 = .ok (.istore_n 1, 1) := dk_60 (dk_at dksX4_findRests_6 10 rfl rfl)
theorem dX4_findRests_148 : decode cX4_findRests 148 = .ok (.iload_n 1, 1) := dk_27 (dk_at dksX4_findRests_6 11 rfl rfl)
theorem dX4_findRests_149 : decode cX4_findRests 149 = .ok (.aload_n 0, 1) := dk_42 (dk_at dksX4_findRests_6 12 rfl rfl)
theorem dX4_findRests_150 : decode cX4_findRests 150 = .ok (.getfield 7, 3) := dk_180 0 7 (dk_at dksX4_findRests_6 13 rfl rfl)
theorem dX4_findRests_153 : decode cX4_findRests 153 = .ok (.bipush 6, 2) := dk_16 6 (dk_at dksX4_findRests_6 16 rfl rfl)
theorem dX4_findRests_155 : decode cX4_findRests 155 = .ok (.iaload, 1) := dk_46 (dk_at dksX4_findRests_6 18 rfl rfl)
theorem dX4_findRests_156 : decode cX4_findRests 156 = .ok (.if_icmp .ge 62, 3) := dk_162 0 62 (dk_at dksX4_findRests_6 19 rfl rfl)
theorem dX4_findRests_159 : decode cX4_findRests 159 = .ok (.iconst 0, 1) := dk_3 (dk_at dksX4_findRests_6 22 rfl rfl)
theorem dX4_findRests_160 : decode cX4_findRests 160 = .ok (.istore_n 2, 1) := dk_61 (dk_at dksX4_findRests_6 23 rfl rfl)
theorem dX4_findRests_161 : decode cX4_findRests 161 = .ok (.iload_n 2, 1) := dk_28 (dk_at dksX4_findRests_7 0 rfl rfl)
theorem dX4_findRests_162 : decode cX4_findRests 162 = .ok (.aload_n 0, 1) := dk_42 (dk_at dksX4_findRests_7 1 rfl rfl)
theorem dX4_findRests_163 : decode cX4_findRests 163 = .ok (.getfield 7, 3) := dk_180 0 7 (dk_at dksX4_findRests_7 2 rfl rfl)
theorem dX4_findRests_166 : decode cX4_findRests 166 = .ok (.bipush 6, 2) := dk_16 6 (dk_at dksX4_findRests_7 5 rfl rfl)
theorem dX4_findRests_168 : decode cX4_findRests 168 = .ok (.iaload, 1) := dk_46 (dk_at dksX4_findRests_7 7 rfl rfl)
theorem dX4_findRests_169 : decode cX4_findRests 169 = .ok (.if_icmp .ge 43, 3) := dk_162 0 43 (dk_at dksX4_findRests_7 8 rfl rfl)
theorem dX4_findRests_172 : decode cX4_findRests 172 = .ok (.aload_n 0, 1) := dk_42 (dk_at dksX4_findRests_7 11 rfl rfl)
theorem dX4_findRests_173 : decode cX4_findRests 173 = .ok (.getfield 116, 3) := dk_180 0 116 (dk_at dksX4_findRests_7 12 rfl rfl)
theorem dX4_findRests_176 : decode cX4_findRests 176 = .ok (.iload_n 2, 1) := dk_28 (dk_at dksX4_findRests_7 15 rfl rfl)
theorem dX4_findRests_177 : decode cX4_findRests 177 = .ok (.dup2, 1) := dk_92 (dk_at dksX4_findRests_7 16 rfl rfl)
theorem dX4_findRests_178 : decode cX4_findRests 178 = .ok (.laload, 1) := dk_47 (dk_at dksX4_findRests_7 17 rfl rfl)
theorem dX4_findRests_179 : decode cX4_findRests 179 = .ok (.aload_n 0, 1) := dk_42 (dk_at dksX4_findRests_7 18 rfl rfl)
theorem dX4_findRests_180 : decode cX4_findRests 180 = .ok (.getfield 116, 3) := dk_180 0 116 (dk_at dksX4_findRests_7 19 rfl rfl)
theorem dX4_findRests_183 : decode cX4_findRests 183 = .ok (.iload_n 2, 1) := dk_28 (dk_at dksX4_findRests_7 22 rfl rfl)
theorem dX4_findRests_184 : decode cX4_findRests 184 = .ok (.laload, 1) := dk_47 (dk_at dksX4_findRests_7 23 rfl rfl)
theorem dX4_findRests_185 : decode cX4_findRests 185 = .ok (.iload_n 1, 1) := dk_27 (dk_at dksX4_findRests_8 0 rfl rfl)
theorem dX4_findRests_186 : decode cX4_findRests 186 = .ok (.lshr, 1) := dk_123 (dk_at dksX4_findRests_8 1 rfl rfl)
theorem dX4_findRests_187 : decode cX4_findRests 187 = .ok (.lconst 1, 1) := dk_10 (dk_at dksX4_findRests_8 2 rfl rfl)
theorem dX4_findRests_188 : decode cX4_findRests 188 = .ok (.land, 1) := dk_127 (dk_at dksX4_findRests_8 3 rfl rfl)
theorem dX4_findRests_189 : decode cX4_findRests 189 = .ok (.lconst 1, 1) := dk_10 (dk_at dksX4_findRests_8 4 rfl rfl)
theorem dX4_findRests_190 : decode cX4_findRests 190 = .ok (.lcmp, 1) := dk_148 (dk_at dksX4_findRests_8 5 rfl rfl)
theorem dX4_findRests_191 : decode cX4_findRests 191 = .ok (.ifCond .ne 12, 3) := dk_154 0 12 (dk_at dksX4_findRests_8 6 rfl rfl)
theorem dX4_findRests_194 : decode cX4_findRests 194 = .ok (.aload_n 0, 1) := dk_42 (dk_at dksX4_findRests_8 9 rfl rfl)
theorem dX4_findRests_195 : decode cX4_findRests 195 = .ok (.getfield 116, 3) := dk_180 0 116 (dk_at dksX4_findRests_8 10 rfl rfl)
theorem dX4_findRests_198 : decode cX4_findRests 198 = .ok (.iload_n 1, 1) := dk_27 (dk_at dksX4_findRests_8 13 rfl rfl)
theorem dX4_findRests_199 : decode cX4_findRests 199 = .ok (.laload, 1) := dk_47 (dk_at dksX4_findRests_8 14 rfl rfl)
theorem dX4_findRests_200 : decode cX4_findRests 200 = .ok (.goto 4, 3) := dk_167 0 4 (dk_at dksX4_findRests_8 15 rfl rfl)
theorem dX4_findRests_203 : decode cX4_findRests 203 = .ok (.lconst 0, 1) := dk_9 (dk_at dksX4_findRests_8 18 rfl rfl)
theorem dX4_findRests_204 : decode cX4_findRests 204 = .ok (.lor, 1) := dk_129 (dk_at dksX4_findRests_8 19 rfl rfl)
theorem dX4_findRests_205 : decode cX4_findRests 205 = .ok (.lastore, 1) := dk_80 (dk_at dksX4_findRests_8 20 rfl rfl)
theorem dX4_findRests_206 : decode cX4_findRests 206 = .ok (.iinc 2 1, 3) := dk_132 2 1 (dk_at dksX4_findRests_8 21 rfl rfl)
theorem dX4_findRests_209 : decode cX4_findRests 209 = .ok (.goto (-48), 3) := dk_167 255 208 (dk_at dksX4_findRests_9 0 rfl rfl)
theorem dX4_findRests_212 : decode cX4_findRests 212 = .ok (.iinc 1 1, 3) := dk_132 1 1 (dk_at dksX4_findRests_9 3 rfl rfl)
theorem dX4_findRests_215 : decode cX4_findRests 215 = .ok (.goto (-67), 3) := dk_167 255 189 (dk_at dksX4_findRests_9 6 rfl rfl)
theorem dX4_findRests_218 : decode cX4_findRests 218 = .ok (.return_, 1) := dk_177 (dk_at dksX4_findRests_9 9 rfl rfl)
abbrev cX4_whyNot : ByteArray := prog_19_method_91_code
def yX4_whyNot : MethodName := ⟨RX4, "whyNot", "(II)I"⟩
def dkwX4_whyNot_5 : List UInt8 := [180, 0, 165, 172]
abbrev dktX4_whyNot_5 : List UInt8 := dkwX4_whyNot_5 ++ []
def dkwX4_whyNot_4 : List UInt8 := [21, 4, 46, 182, 0, 214, 42, 182, 0, 218, 153, 0, 13, 42, 180, 0, 25, 21, 4, 46, 167, 0, 7, 42]
abbrev dktX4_whyNot_4 : List UInt8 := dkwX4_whyNot_4 ++ dktX4_whyNot_5
def dkwX4_whyNot_3 : List UInt8 := [153, 0, 7, 4, 167, 0, 4, 3, 54, 5, 21, 5, 154, 0, 5, 2, 172, 42, 21, 4, 42, 180, 0, 25]
abbrev dktX4_whyNot_3 : List UInt8 := dkwX4_whyNot_3 ++ dktX4_whyNot_4
def dkwX4_whyNot_2 : List UInt8 := [160, 0, 31, 42, 21, 4, 28, 3, 184, 0, 176, 28, 4, 184, 0, 176, 28, 5, 184, 0, 176, 182, 1, 104]
abbrev dktX4_whyNot_2 : List UInt8 := dkwX4_whyNot_2 ++ dktX4_whyNot_3
def dkwX4_whyNot_1 : List UInt8 := [154, 0, 5, 3, 172, 42, 27, 182, 1, 76, 54, 4, 42, 180, 0, 19, 21, 4, 46, 28, 18, 139, 108]
abbrev dktX4_whyNot_1 : List UInt8 := dkwX4_whyNot_1 ++ dktX4_whyNot_2
def dkwX4_whyNot_0 : List UInt8 := [42, 27, 182, 1, 76, 2, 160, 0, 7, 4, 167, 0, 8, 42, 28, 182, 1, 16, 62, 42, 29, 182, 1, 10]
abbrev dktX4_whyNot_0 : List UInt8 := dkwX4_whyNot_0 ++ dktX4_whyNot_1
theorem dksX4_whyNot_0 : cX4_whyNot.data.toList.drop 0 = dktX4_whyNot_0 := by decide +kernel
theorem dksX4_whyNot_1 : cX4_whyNot.data.toList.drop 24 = dktX4_whyNot_1 := dk_seg dksX4_whyNot_0 24 rfl rfl
theorem dksX4_whyNot_2 : cX4_whyNot.data.toList.drop 47 = dktX4_whyNot_2 := dk_seg dksX4_whyNot_1 23 rfl rfl
theorem dksX4_whyNot_3 : cX4_whyNot.data.toList.drop 71 = dktX4_whyNot_3 := dk_seg dksX4_whyNot_2 24 rfl rfl
theorem dksX4_whyNot_4 : cX4_whyNot.data.toList.drop 95 = dktX4_whyNot_4 := dk_seg dksX4_whyNot_3 24 rfl rfl
theorem dksX4_whyNot_5 : cX4_whyNot.data.toList.drop 119 = dktX4_whyNot_5 := dk_seg dksX4_whyNot_4 24 rfl rfl
theorem dX4_whyNot_0 : decode cX4_whyNot 0 = .ok (.aload_n 0, 1) := dk_42 (dk_at dksX4_whyNot_0 0 rfl rfl)
theorem dX4_whyNot_1 : decode cX4_whyNot 1 = .ok (.iload_n 1, 1) := dk_27 (dk_at dksX4_whyNot_0 1 rfl rfl)
theorem dX4_whyNot_2 : decode cX4_whyNot 2 = .ok (.invokevirtual 332, 3) := dk_182 1 76 (dk_at dksX4_whyNot_0 2 rfl rfl)
theorem dX4_whyNot_5 : decode cX4_whyNot 5 = .ok (.iconst (-1), 1) := dk_2 (dk_at dksX4_whyNot_0 5 rfl rfl)
theorem dX4_whyNot_6 : decode cX4_whyNot 6 = .ok (.if_icmp .ne 7, 3) := dk_160 0 7 (dk_at dksX4_whyNot_0 6 rfl rfl)
theorem dX4_whyNot_9 : decode cX4_whyNot 9 = .ok (.iconst 1, 1) := dk_4 (dk_at dksX4_whyNot_0 9 rfl rfl)
theorem dX4_whyNot_10 : decode cX4_whyNot 10 = .ok (.goto 8, 3) := dk_167 0 8 (dk_at dksX4_whyNot_0 10 rfl rfl)
theorem dX4_whyNot_13 : decode cX4_whyNot 13 = .ok (.aload_n 0, 1) := dk_42 (dk_at dksX4_whyNot_0 13 rfl rfl)
theorem dX4_whyNot_14 : decode cX4_whyNot 14 = .ok (.iload_n 2, 1) := dk_28 (dk_at dksX4_whyNot_0 14 rfl rfl)
theorem dX4_whyNot_15 : decode cX4_whyNot 15 = .ok (.invokevirtual 272, 3) := dk_182 1 16 (dk_at dksX4_whyNot_0 15 rfl rfl)
theorem dX4_whyNot_18 : decode cX4_whyNot 18 = .ok (.istore_n 3, 1) := dk_62 (dk_at dksX4_whyNot_0 18 rfl rfl)
theorem dX4_whyNot_19 : decode cX4_whyNot 19 = .ok (.aload_n 0, 1) := dk_42 (dk_at dksX4_whyNot_0 19 rfl rfl)
theorem dX4_whyNot_20 : decode cX4_whyNot 20 = .ok (.iload_n 3, 1) := dk_29 (dk_at dksX4_whyNot_0 20 rfl rfl)
theorem dX4_whyNot_21 : decode cX4_whyNot 21 = .ok (.invokevirtual 266, 3) := dk_182 1 10 (dk_at dksX4_whyNot_0 21 rfl rfl)
theorem dX4_whyNot_24 : decode cX4_whyNot 24 = .ok (.ifCond .ne 5, 3) := dk_154 0 5 (dk_at dksX4_whyNot_1 0 rfl rfl)
theorem dX4_whyNot_27 : decode cX4_whyNot 27 = .ok (.iconst 0, 1) := dk_3 (dk_at dksX4_whyNot_1 3 rfl rfl)
theorem dX4_whyNot_28 : decode cX4_whyNot 28 = .ok (.ireturn, 1) := dk_172 (dk_at dksX4_whyNot_1 4 rfl rfl)
theorem dX4_whyNot_29 : decode cX4_whyNot 29 = .ok (.aload_n 0, 1) := dk_42 (dk_at dksX4_whyNot_1 5 rfl rfl)
theorem dX4_whyNot_30 : decode cX4_whyNot 30 = .ok (.iload_n 1, 1) := dk_27 (dk_at dksX4_whyNot_1 6 rfl rfl)
theorem dX4_whyNot_31 : decode cX4_whyNot 31 = .ok (.invokevirtual 332, 3) := dk_182 1 76 (dk_at dksX4_whyNot_1 7 rfl rfl)
theorem dX4_whyNot_34 : decode cX4_whyNot 34 = .ok (.istore 4, 2) := dk_54 4 (dk_at dksX4_whyNot_1 10 rfl rfl)
theorem dX4_whyNot_36 : decode cX4_whyNot 36 = .ok (.aload_n 0, 1) := dk_42 (dk_at dksX4_whyNot_1 12 rfl rfl)
theorem dX4_whyNot_37 : decode cX4_whyNot 37 = .ok (.getfield 19, 3) := dk_180 0 19 (dk_at dksX4_whyNot_1 13 rfl rfl)
theorem dX4_whyNot_40 : decode cX4_whyNot 40 = .ok (.iload 4, 2) := dk_21 4 (dk_at dksX4_whyNot_1 16 rfl rfl)
theorem dX4_whyNot_42 : decode cX4_whyNot 42 = .ok (.iaload, 1) := dk_46 (dk_at dksX4_whyNot_1 18 rfl rfl)
theorem dX4_whyNot_43 : decode cX4_whyNot 43 = .ok (.iload_n 2, 1) := dk_28 (dk_at dksX4_whyNot_1 19 rfl rfl)
theorem dX4_whyNot_44 : decode cX4_whyNot 44 = .ok (.ldc 139, 2) := dk_18 139 (dk_at dksX4_whyNot_1 20 rfl rfl)
theorem dX4_whyNot_46 : decode cX4_whyNot 46 = .ok (.idiv, 1) := dk_108 (dk_at dksX4_whyNot_1 22 rfl rfl)
theorem dX4_whyNot_47 : decode cX4_whyNot 47 = .ok (.if_icmp .ne 31, 3) := dk_160 0 31 (dk_at dksX4_whyNot_2 0 rfl rfl)
theorem dX4_whyNot_50 : decode cX4_whyNot 50 = .ok (.aload_n 0, 1) := dk_42 (dk_at dksX4_whyNot_2 3 rfl rfl)
theorem dX4_whyNot_51 : decode cX4_whyNot 51 = .ok (.iload 4, 2) := dk_21 4 (dk_at dksX4_whyNot_2 4 rfl rfl)
theorem dX4_whyNot_53 : decode cX4_whyNot 53 = .ok (.iload_n 2, 1) := dk_28 (dk_at dksX4_whyNot_2 6 rfl rfl)
theorem dX4_whyNot_54 : decode cX4_whyNot 54 = .ok (.iconst 0, 1) := dk_3 (dk_at dksX4_whyNot_2 7 rfl rfl)
theorem dX4_whyNot_55 : decode cX4_whyNot 55 = .ok (.invokestatic 176, 3) := dk_184 0 176 (dk_at dksX4_whyNot_2 8 rfl rfl)
theorem dX4_whyNot_58 : decode cX4_whyNot 58 = .ok (.iload_n 2, 1) := dk_28 (dk_at dksX4_whyNot_2 11 rfl rfl)
theorem dX4_whyNot_59 : decode cX4_whyNot 59 = .ok (.iconst 1, 1) := dk_4 (dk_at dksX4_whyNot_2 12 rfl rfl)
theorem dX4_whyNot_60 : decode cX4_whyNot 60 = .ok (.invokestatic 176, 3) := dk_184 0 176 (dk_at dksX4_whyNot_2 13 rfl rfl)
theorem dX4_whyNot_63 : decode cX4_whyNot 63 = .ok (.iload_n 2, 1) := dk_28 (dk_at dksX4_whyNot_2 16 rfl rfl)
theorem dX4_whyNot_64 : decode cX4_whyNot 64 = .ok (.iconst 2, 1) := dk_5 (dk_at dksX4_whyNot_2 17 rfl rfl)
theorem dX4_whyNot_65 : decode cX4_whyNot 65 = .ok (.invokestatic 176, 3) := dk_184 0 176 (dk_at dksX4_whyNot_2 18 rfl rfl)
theorem dX4_whyNot_68 : decode cX4_whyNot 68 = .ok (.invokevirtual 360, 3) := dk_182 1 104 (dk_at dksX4_whyNot_2 21 rfl rfl)
theorem dX4_whyNot_71 : decode cX4_whyNot 71 = .ok (.ifCond .eq 7, 3) := dk_153 0 7 (dk_at dksX4_whyNot_3 0 rfl rfl)
theorem dX4_whyNot_74 : decode cX4_whyNot 74 = .ok (.iconst 1, 1) := dk_4 (dk_at dksX4_whyNot_3 3 rfl rfl)
theorem dX4_whyNot_75 : decode cX4_whyNot 75 = .ok (.goto 4, 3) := dk_167 0 4 (dk_at dksX4_whyNot_3 4 rfl rfl)
theorem dX4_whyNot_78 : decode cX4_whyNot 78 = .ok (.iconst 0, 1) := dk_3 (dk_at dksX4_whyNot_3 7 rfl rfl)
theorem dX4_whyNot_79 : decode cX4_whyNot 79 = .ok (.istore 5, 2) := dk_54 5 (dk_at dksX4_whyNot_3 8 rfl rfl)
theorem dX4_whyNot_81 : decode cX4_whyNot 81 = .ok (.iload 5, 2) := dk_21 5 (dk_at dksX4_whyNot_3 10 rfl rfl)
theorem dX4_whyNot_83 : decode cX4_whyNot 83 = .ok (.ifCond .ne 5, 3) := dk_154 0 5 (dk_at dksX4_whyNot_3 12 rfl rfl)
theorem dX4_whyNot_86 : decode cX4_whyNot 86 = .ok (.iconst (-1), 1) := dk_2 (dk_at dksX4_whyNot_3 15 rfl rfl)
theorem dX4_whyNot_87 : decode cX4_whyNot 87 = .ok (.ireturn, 1) := dk_172 (dk_at dksX4_whyNot_3 16 rfl rfl)
theorem dX4_whyNot_88 : decode cX4_whyNot 88 = .ok (.aload_n 0, 1) := dk_42 (dk_at dksX4_whyNot_3 17 rfl rfl)
theorem dX4_whyNot_89 : decode cX4_whyNot 89 = .ok (.iload 4, 2) := dk_21 4 (dk_at dksX4_whyNot_3 18 rfl rfl)
theorem dX4_whyNot_91 : decode cX4_whyNot 91 = .ok (.aload_n 0, 1) := dk_42 (dk_at dksX4_whyNot_3 20 rfl rfl)
theorem dX4_whyNot_92 : decode cX4_whyNot 92 = .ok (.getfield 25, 3) := dk_180 0 25 (dk_at dksX4_whyNot_3 21 rfl rfl)
theorem dX4_whyNot_95 : decode cX4_whyNot 95 = .ok (.iload 4, 2) := dk_21 4 (dk_at dksX4_whyNot_4 0 rfl rfl)
theorem dX4_whyNot_97 : decode cX4_whyNot 97 = .ok (.iaload, 1) := dk_46 (dk_at dksX4_whyNot_4 2 rfl rfl)
theorem dX4_whyNot_98 : decode cX4_whyNot 98 = .ok (.invokevirtual 214, 3) := dk_182 0 214 (dk_at dksX4_whyNot_4 3 rfl rfl)
theorem dX4_whyNot_101 : decode cX4_whyNot 101 = .ok (.aload_n 0, 1) := dk_42 (dk_at dksX4_whyNot_4 6 rfl rfl)
theorem dX4_whyNot_102 : decode cX4_whyNot 102 = .ok (.invokevirtual 218, 3) := dk_182 0 218 (dk_at dksX4_whyNot_4 7 rfl rfl)
theorem dX4_whyNot_105 : decode cX4_whyNot 105 = .ok (.ifCond .eq 13, 3) := dk_153 0 13 (dk_at dksX4_whyNot_4 10 rfl rfl)
theorem dX4_whyNot_108 : decode cX4_whyNot 108 = .ok (.aload_n 0, 1) := dk_42 (dk_at dksX4_whyNot_4 13 rfl rfl)
theorem dX4_whyNot_109 : decode cX4_whyNot 109 = .ok (.getfield 25, 3) := dk_180 0 25 (dk_at dksX4_whyNot_4 14 rfl rfl)
theorem dX4_whyNot_112 : decode cX4_whyNot 112 = .ok (.iload 4, 2) := dk_21 4 (dk_at dksX4_whyNot_4 17 rfl rfl)
theorem dX4_whyNot_114 : decode cX4_whyNot 114 = .ok (.iaload, 1) := dk_46 (dk_at dksX4_whyNot_4 19 rfl rfl)
theorem dX4_whyNot_115 : decode cX4_whyNot 115 = .ok (.goto 7, 3) := dk_167 0 7 (dk_at dksX4_whyNot_4 20 rfl rfl)
theorem dX4_whyNot_118 : decode cX4_whyNot 118 = .ok (.aload_n 0, 1) := dk_42 (dk_at dksX4_whyNot_4 23 rfl rfl)
theorem dX4_whyNot_119 : decode cX4_whyNot 119 = .ok (.getfield 165, 3) := dk_180 0 165 (dk_at dksX4_whyNot_5 0 rfl rfl)
theorem dX4_whyNot_122 : decode cX4_whyNot 122 = .ok (.ireturn, 1) := dk_172 (dk_at dksX4_whyNot_5 3 rfl rfl)
abbrev cX4_layHead : ByteArray := prog_19_method_90_code
def yX4_layHead : MethodName := ⟨RX4, "layHead", "(IIII)Z"⟩
def dkwX4_layHead_4 : List UInt8 := [172]
abbrev dktX4_layHead_4 : List UInt8 := dkwX4_layHead_4 ++ []
def dkwX4_layHead_3 : List UInt8 := [159, 0, 17, 42, 21, 6, 21, 7, 2, 182, 0, 179, 154, 0, 5, 3, 172, 132, 5, 1, 167, 255, 173, 4]
abbrev dktX4_layHead_3 : List UInt8 := dkwX4_layHead_3 ++ dktX4_layHead_4
def dkwX4_layHead_2 : List UInt8 := [160, 0, 7, 29, 167, 0, 5, 21, 4, 54, 7, 21, 6, 17, 0, 200, 162, 0, 23, 21, 7, 2]
abbrev dktX4_layHead_2 : List UInt8 := dkwX4_layHead_2 ++ dktX4_layHead_3
def dkwX4_layHead_1 : List UInt8 := [180, 0, 22, 6, 27, 104, 21, 5, 96, 46, 54, 6, 21, 5, 154, 0, 7, 28, 167, 0, 15, 21, 5, 4]
abbrev dktX4_layHead_1 : List UInt8 := dkwX4_layHead_1 ++ dktX4_layHead_2
def dkwX4_layHead_0 : List UInt8 := [42, 182, 0, 211, 3, 54, 5, 21, 5, 42, 180, 0, 13, 42, 180, 0, 19, 27, 46, 46, 162, 0, 73, 42]
abbrev dktX4_layHead_0 : List UInt8 := dkwX4_layHead_0 ++ dktX4_layHead_1
theorem dksX4_layHead_0 : cX4_layHead.data.toList.drop 0 = dktX4_layHead_0 := by decide +kernel
theorem dksX4_layHead_1 : cX4_layHead.data.toList.drop 24 = dktX4_layHead_1 := dk_seg dksX4_layHead_0 24 rfl rfl
theorem dksX4_layHead_2 : cX4_layHead.data.toList.drop 48 = dktX4_layHead_2 := dk_seg dksX4_layHead_1 24 rfl rfl
theorem dksX4_layHead_3 : cX4_layHead.data.toList.drop 70 = dktX4_layHead_3 := dk_seg dksX4_layHead_2 22 rfl rfl
theorem dksX4_layHead_4 : cX4_layHead.data.toList.drop 94 = dktX4_layHead_4 := dk_seg dksX4_layHead_3 24 rfl rfl
theorem dX4_layHead_0 : decode cX4_layHead 0 = .ok (.aload_n 0, 1) := dk_42 (dk_at dksX4_layHead_0 0 rfl rfl)
theorem dX4_layHead_1 : decode cX4_layHead 1 = .ok (.invokevirtual 211, 3) := dk_182 0 211 (dk_at dksX4_layHead_0 1 rfl rfl)
theorem dX4_layHead_4 : decode cX4_layHead 4 = .ok (.iconst 0, 1) := dk_3 (dk_at dksX4_layHead_0 4 rfl rfl)
theorem dX4_layHead_5 : decode cX4_layHead 5 = .ok (.istore 5, 2) := dk_54 5 (dk_at dksX4_layHead_0 5 rfl rfl)
theorem dX4_layHead_7 : decode cX4_layHead 7 = .ok (.iload 5, 2) := dk_21 5 (dk_at dksX4_layHead_0 7 rfl rfl)
theorem dX4_layHead_9 : decode cX4_layHead 9 = .ok (.aload_n 0, 1) := dk_42 (dk_at dksX4_layHead_0 9 rfl rfl)
theorem dX4_layHead_10 : decode cX4_layHead 10 = .ok (.getfield 13, 3) := dk_180 0 13 (dk_at dksX4_layHead_0 10 rfl rfl)
theorem dX4_layHead_13 : decode cX4_layHead 13 = .ok (.aload_n 0, 1) := dk_42 (dk_at dksX4_layHead_0 13 rfl rfl)
theorem dX4_layHead_14 : decode cX4_layHead 14 = .ok (.getfield 19, 3) := dk_180 0 19 (dk_at dksX4_layHead_0 14 rfl rfl)
theorem dX4_layHead_17 : decode cX4_layHead 17 = .ok (.iload_n 1, 1) := dk_27 (dk_at dksX4_layHead_0 17 rfl rfl)
theorem dX4_layHead_18 : decode cX4_layHead 18 = .ok (.iaload, 1) := dk_46 (dk_at dksX4_layHead_0 18 rfl rfl)
theorem dX4_layHead_19 : decode cX4_layHead 19 = .ok (.iaload, 1) := dk_46 (dk_at dksX4_layHead_0 19 rfl rfl)
theorem dX4_layHead_20 : decode cX4_layHead 20 = .ok (.if_icmp .ge 73, 3) := dk_162 0 73 (dk_at dksX4_layHead_0 20 rfl rfl)
theorem dX4_layHead_23 : decode cX4_layHead 23 = .ok (.aload_n 0, 1) := dk_42 (dk_at dksX4_layHead_0 23 rfl rfl)
theorem dX4_layHead_24 : decode cX4_layHead 24 = .ok (.getfield 22, 3) := dk_180 0 22 (dk_at dksX4_layHead_1 0 rfl rfl)
theorem dX4_layHead_27 : decode cX4_layHead 27 = .ok (.iconst 3, 1) := dk_6 (dk_at dksX4_layHead_1 3 rfl rfl)
theorem dX4_layHead_28 : decode cX4_layHead 28 = .ok (.iload_n 1, 1) := dk_27 (dk_at dksX4_layHead_1 4 rfl rfl)
theorem dX4_layHead_29 : decode cX4_layHead 29 = .ok (.imul, 1) := dk_104 (dk_at dksX4_layHead_1 5 rfl rfl)
theorem dX4_layHead_30 : decode cX4_layHead 30 = .ok (.iload 5, 2) := dk_21 5 (dk_at dksX4_layHead_1 6 rfl rfl)
theorem dX4_layHead_32 : decode cX4_layHead 32 = .ok (.iadd, 1) := dk_96 (dk_at dksX4_layHead_1 8 rfl rfl)
theorem dX4_layHead_33 : decode cX4_layHead 33 = .ok (.iaload, 1) := dk_46 (dk_at dksX4_layHead_1 9 rfl rfl)
theorem dX4_layHead_34 : decode cX4_layHead 34 = .ok (.istore 6, 2) := dk_54 6 (dk_at dksX4_layHead_1 10 rfl rfl)
theorem dX4_layHead_36 : decode cX4_layHead 36 = .ok (.iload 5, 2) := dk_21 5 (dk_at dksX4_layHead_1 12 rfl rfl)
theorem dX4_layHead_38 : decode cX4_layHead 38 = .ok (.ifCond .ne 7, 3) := dk_154 0 7 (dk_at dksX4_layHead_1 14 rfl rfl)
theorem dX4_layHead_41 : decode cX4_layHead 41 = .ok (.iload_n 2, 1) := dk_28 (dk_at dksX4_layHead_1 17 rfl rfl)
theorem dX4_layHead_42 : decode cX4_layHead 42 = .ok (.goto 15, 3) := dk_167 0 15 (dk_at dksX4_layHead_1 18 rfl rfl)
theorem dX4_layHead_45 : decode cX4_layHead 45 = .ok (.iload 5, 2) := dk_21 5 (dk_at dksX4_layHead_1 21 rfl rfl)
theorem dX4_layHead_47 : decode cX4_layHead 47 = .ok (.iconst 1, 1) := dk_4 (dk_at dksX4_layHead_1 23 rfl rfl)
theorem dX4_layHead_48 : decode cX4_layHead 48 = .ok (.if_icmp .ne 7, 3) := dk_160 0 7 (dk_at dksX4_layHead_2 0 rfl rfl)
theorem dX4_layHead_51 : decode cX4_layHead 51 = .ok (.iload_n 3, 1) := dk_29 (dk_at dksX4_layHead_2 3 rfl rfl)
theorem dX4_layHead_52 : decode cX4_layHead 52 = .ok (.goto 5, 3) := dk_167 0 5 (dk_at dksX4_layHead_2 4 rfl rfl)
theorem dX4_layHead_55 : decode cX4_layHead 55 = .ok (.iload 4, 2) := dk_21 4 (dk_at dksX4_layHead_2 7 rfl rfl)
theorem dX4_layHead_57 : decode cX4_layHead 57 = .ok (.istore 7, 2) := dk_54 7 (dk_at dksX4_layHead_2 9 rfl rfl)
theorem dX4_layHead_59 : decode cX4_layHead 59 = .ok (.iload 6, 2) := dk_21 6 (dk_at dksX4_layHead_2 11 rfl rfl)
theorem dX4_layHead_61 : decode cX4_layHead 61 = .ok (.sipush 200, 3) := dk_17 0 200 (dk_at dksX4_layHead_2 13 rfl rfl)
theorem dX4_layHead_64 : decode cX4_layHead 64 = .ok (.if_icmp .ge 23, 3) := dk_162 0 23 (dk_at dksX4_layHead_2 16 rfl rfl)
theorem dX4_layHead_67 : decode cX4_layHead 67 = .ok (.iload 7, 2) := dk_21 7 (dk_at dksX4_layHead_2 19 rfl rfl)
theorem dX4_layHead_69 : decode cX4_layHead 69 = .ok (.iconst (-1), 1) := dk_2 (dk_at dksX4_layHead_2 21 rfl rfl)
theorem dX4_layHead_70 : decode cX4_layHead 70 = .ok (.if_icmp .eq 17, 3) := dk_159 0 17 (dk_at dksX4_layHead_3 0 rfl rfl)
theorem dX4_layHead_73 : decode cX4_layHead 73 = .ok (.aload_n 0, 1) := dk_42 (dk_at dksX4_layHead_3 3 rfl rfl)
theorem dX4_layHead_74 : decode cX4_layHead 74 = .ok (.iload 6, 2) := dk_21 6 (dk_at dksX4_layHead_3 4 rfl rfl)
theorem dX4_layHead_76 : decode cX4_layHead 76 = .ok (.iload 7, 2) := dk_21 7 (dk_at dksX4_layHead_3 6 rfl rfl)
theorem dX4_layHead_78 : decode cX4_layHead 78 = .ok (.iconst (-1), 1) := dk_2 (dk_at dksX4_layHead_3 8 rfl rfl)
theorem dX4_layHead_79 : decode cX4_layHead 79 = .ok (.invokevirtual 179, 3) := dk_182 0 179 (dk_at dksX4_layHead_3 9 rfl rfl)
theorem dX4_layHead_82 : decode cX4_layHead 82 = .ok (.ifCond .ne 5, 3) := dk_154 0 5 (dk_at dksX4_layHead_3 12 rfl rfl)
theorem dX4_layHead_85 : decode cX4_layHead 85 = .ok (.iconst 0, 1) := dk_3 (dk_at dksX4_layHead_3 15 rfl rfl)
theorem dX4_layHead_86 : decode cX4_layHead 86 = .ok (.ireturn, 1) := dk_172 (dk_at dksX4_layHead_3 16 rfl rfl)
theorem dX4_layHead_87 : decode cX4_layHead 87 = .ok (.iinc 5 1, 3) := dk_132 5 1 (dk_at dksX4_layHead_3 17 rfl rfl)
theorem dX4_layHead_90 : decode cX4_layHead 90 = .ok (.goto (-83), 3) := dk_167 255 173 (dk_at dksX4_layHead_3 20 rfl rfl)
theorem dX4_layHead_93 : decode cX4_layHead 93 = .ok (.iconst 1, 1) := dk_4 (dk_at dksX4_layHead_3 23 rfl rfl)
theorem dX4_layHead_94 : decode cX4_layHead 94 = .ok (.ireturn, 1) := dk_172 (dk_at dksX4_layHead_4 0 rfl rfl)
abbrev cX4_answers : ByteArray := prog_19_method_93_code
def yX4_answers : MethodName := ⟨RX4, "answers", "(IIII)I"⟩
def dkwX4_answers_6 : List UInt8 := [96, 54, 5, 132, 6, 1, 167, 255, 154, 21, 5, 172]
abbrev dktX4_answers_6 : List UInt8 := dkwX4_answers_6 ++ []
def dkwX4_answers_5 : List UInt8 := [3, 54, 8, 21, 5, 21, 8, 153, 0, 16, 21, 7, 18, 139, 108, 27, 160, 0, 7, 4, 167, 0, 4, 3]
abbrev dktX4_answers_5 : List UInt8 := dkwX4_answers_5 ++ dktX4_answers_6
def dkwX4_answers_4 : List UInt8 := [160, 0, 24, 21, 4, 2, 159, 0, 14, 21, 7, 5, 184, 0, 176, 21, 4, 160, 0, 7, 4, 167, 0, 4]
abbrev dktX4_answers_4 : List UInt8 := dkwX4_answers_4 ++ dktX4_answers_5
def dkwX4_answers_3 : List UInt8 := [21, 7, 3, 184, 0, 176, 28, 160, 0, 39, 29, 2, 159, 0, 13, 21, 7, 4, 184, 0, 176, 29]
abbrev dktX4_answers_3 : List UInt8 := dkwX4_answers_3 ++ dktX4_answers_4
def dkwX4_answers_2 : List UInt8 := [42, 180, 0, 7, 16, 6, 46, 162, 0, 96, 42, 180, 0, 52, 21, 6, 46, 54, 7, 28, 2, 159, 0, 13]
abbrev dktX4_answers_2 : List UInt8 := dkwX4_answers_2 ++ dktX4_answers_3
def dkwX4_answers_1 : List UInt8 := [153, 0, 7, 3, 167, 0, 4, 5, 182, 1, 10, 154, 0, 5, 3, 172, 3, 54, 5, 3, 54, 6, 21, 6]
abbrev dktX4_answers_1 : List UInt8 := dkwX4_answers_1 ++ dktX4_answers_2
def dkwX4_answers_0 : List UInt8 := [42, 42, 27, 182, 0, 140, 154, 0, 7, 4, 167, 0, 20, 42, 27, 28, 29, 21, 4, 182, 1, 108]
abbrev dktX4_answers_0 : List UInt8 := dkwX4_answers_0 ++ dktX4_answers_1
theorem dksX4_answers_0 : cX4_answers.data.toList.drop 0 = dktX4_answers_0 := by decide +kernel
theorem dksX4_answers_1 : cX4_answers.data.toList.drop 22 = dktX4_answers_1 := dk_seg dksX4_answers_0 22 rfl rfl
theorem dksX4_answers_2 : cX4_answers.data.toList.drop 46 = dktX4_answers_2 := dk_seg dksX4_answers_1 24 rfl rfl
theorem dksX4_answers_3 : cX4_answers.data.toList.drop 70 = dktX4_answers_3 := dk_seg dksX4_answers_2 24 rfl rfl
theorem dksX4_answers_4 : cX4_answers.data.toList.drop 92 = dktX4_answers_4 := dk_seg dksX4_answers_3 22 rfl rfl
theorem dksX4_answers_5 : cX4_answers.data.toList.drop 116 = dktX4_answers_5 := dk_seg dksX4_answers_4 24 rfl rfl
theorem dksX4_answers_6 : cX4_answers.data.toList.drop 140 = dktX4_answers_6 := dk_seg dksX4_answers_5 24 rfl rfl
theorem dX4_answers_0 : decode cX4_answers 0 = .ok (.aload_n 0, 1) := dk_42 (dk_at dksX4_answers_0 0 rfl rfl)
theorem dX4_answers_1 : decode cX4_answers 1 = .ok (.aload_n 0, 1) := dk_42 (dk_at dksX4_answers_0 1 rfl rfl)
theorem dX4_answers_2 : decode cX4_answers 2 = .ok (.iload_n 1, 1) := dk_27 (dk_at dksX4_answers_0 2 rfl rfl)
theorem dX4_answers_3 : decode cX4_answers 3 = .ok (.invokevirtual 140, 3) := dk_182 0 140 (dk_at dksX4_answers_0 3 rfl rfl)
theorem dX4_answers_6 : decode cX4_answers 6 = .ok (.ifCond .ne 7, 3) := dk_154 0 7 (dk_at dksX4_answers_0 6 rfl rfl)
theorem dX4_answers_9 : decode cX4_answers 9 = .ok (.iconst 1, 1) := dk_4 (dk_at dksX4_answers_0 9 rfl rfl)
theorem dX4_answers_10 : decode cX4_answers 10 = .ok (.goto 20, 3) := dk_167 0 20 (dk_at dksX4_answers_0 10 rfl rfl)
theorem dX4_answers_13 : decode cX4_answers 13 = .ok (.aload_n 0, 1) := dk_42 (dk_at dksX4_answers_0 13 rfl rfl)
theorem dX4_answers_14 : decode cX4_answers 14 = .ok (.iload_n 1, 1) := dk_27 (dk_at dksX4_answers_0 14 rfl rfl)
theorem dX4_answers_15 : decode cX4_answers 15 = .ok (.iload_n 2, 1) := dk_28 (dk_at dksX4_answers_0 15 rfl rfl)
theorem dX4_answers_16 : decode cX4_answers 16 = .ok (.iload_n 3, 1) := dk_29 (dk_at dksX4_answers_0 16 rfl rfl)
theorem dX4_answers_17 : decode cX4_answers 17 = .ok (.iload 4, 2) := dk_21 4 (dk_at dksX4_answers_0 17 rfl rfl)
theorem dX4_answers_19 : decode cX4_answers 19 = .ok (.invokevirtual 364, 3) := dk_182 1 108 (dk_at dksX4_answers_0 19 rfl rfl)
theorem dX4_answers_22 : decode cX4_answers 22 = .ok (.ifCond .eq 7, 3) := dk_153 0 7 (dk_at dksX4_answers_1 0 rfl rfl)
theorem dX4_answers_25 : decode cX4_answers 25 = .ok (.iconst 0, 1) := dk_3 (dk_at dksX4_answers_1 3 rfl rfl)
theorem dX4_answers_26 : decode cX4_answers 26 = .ok (.goto 4, 3) := dk_167 0 4 (dk_at dksX4_answers_1 4 rfl rfl)
theorem dX4_answers_29 : decode cX4_answers 29 = .ok (.iconst 2, 1) := dk_5 (dk_at dksX4_answers_1 7 rfl rfl)
theorem dX4_answers_30 : decode cX4_answers 30 = .ok (.invokevirtual 266, 3) := dk_182 1 10 (dk_at dksX4_answers_1 8 rfl rfl)
theorem dX4_answers_33 : decode cX4_answers 33 = .ok (.ifCond .ne 5, 3) := dk_154 0 5 (dk_at dksX4_answers_1 11 rfl rfl)
theorem dX4_answers_36 : decode cX4_answers 36 = .ok (.iconst 0, 1) := dk_3 (dk_at dksX4_answers_1 14 rfl rfl)
theorem dX4_answers_37 : decode cX4_answers 37 = .ok (.ireturn, 1) := dk_172 (dk_at dksX4_answers_1 15 rfl rfl)
theorem dX4_answers_38 : decode cX4_answers 38 = .ok (.iconst 0, 1) := dk_3 (dk_at dksX4_answers_1 16 rfl rfl)
theorem dX4_answers_39 : decode cX4_answers 39 = .ok (.istore 5, 2) := dk_54 5 (dk_at dksX4_answers_1 17 rfl rfl)
theorem dX4_answers_41 : decode cX4_answers 41 = .ok (.iconst 0, 1) := dk_3 (dk_at dksX4_answers_1 19 rfl rfl)
theorem dX4_answers_42 : decode cX4_answers 42 = .ok (.istore 6, 2) := dk_54 6 (dk_at dksX4_answers_1 20 rfl rfl)
theorem dX4_answers_44 : decode cX4_answers 44 = .ok (.iload 6, 2) := dk_21 6 (dk_at dksX4_answers_1 22 rfl rfl)
theorem dX4_answers_46 : decode cX4_answers 46 = .ok (.aload_n 0, 1) := dk_42 (dk_at dksX4_answers_2 0 rfl rfl)
theorem dX4_answers_47 : decode cX4_answers 47 = .ok (.getfield 7, 3) := dk_180 0 7 (dk_at dksX4_answers_2 1 rfl rfl)
theorem dX4_answers_50 : decode cX4_answers 50 = .ok (.bipush 6, 2) := dk_16 6 (dk_at dksX4_answers_2 4 rfl rfl)
theorem dX4_answers_52 : decode cX4_answers 52 = .ok (.iaload, 1) := dk_46 (dk_at dksX4_answers_2 6 rfl rfl)
theorem dX4_answers_53 : decode cX4_answers 53 = .ok (.if_icmp .ge 96, 3) := dk_162 0 96 (dk_at dksX4_answers_2 7 rfl rfl)
theorem dX4_answers_56 : decode cX4_answers 56 = .ok (.aload_n 0, 1) := dk_42 (dk_at dksX4_answers_2 10 rfl rfl)
theorem dX4_answers_57 : decode cX4_answers 57 = .ok (.getfield 52, 3) := dk_180 0 52 (dk_at dksX4_answers_2 11 rfl rfl)
theorem dX4_answers_60 : decode cX4_answers 60 = .ok (.iload 6, 2) := dk_21 6 (dk_at dksX4_answers_2 14 rfl rfl)
theorem dX4_answers_62 : decode cX4_answers 62 = .ok (.iaload, 1) := dk_46 (dk_at dksX4_answers_2 16 rfl rfl)
theorem dX4_answers_63 : decode cX4_answers 63 = .ok (.istore 7, 2) := dk_54 7 (dk_at dksX4_answers_2 17 rfl rfl)
theorem dX4_answers_65 : decode cX4_answers 65 = .ok (.iload_n 2, 1) := dk_28 (dk_at dksX4_answers_2 19 rfl rfl)
theorem dX4_answers_66 : decode cX4_answers 66 = .ok (.iconst (-1), 1) := dk_2 (dk_at dksX4_answers_2 20 rfl rfl)
theorem dX4_answers_67 : decode cX4_answers 67 = .ok (.if_icmp .eq 13, 3) := dk_159 0 13 (dk_at dksX4_answers_2 21 rfl rfl)
theorem dX4_answers_70 : decode cX4_answers 70 = .ok (.iload 7, 2) := dk_21 7 (dk_at dksX4_answers_3 0 rfl rfl)
theorem dX4_answers_72 : decode cX4_answers 72 = .ok (.iconst 0, 1) := dk_3 (dk_at dksX4_answers_3 2 rfl rfl)
theorem dX4_answers_73 : decode cX4_answers 73 = .ok (.invokestatic 176, 3) := dk_184 0 176 (dk_at dksX4_answers_3 3 rfl rfl)
theorem dX4_answers_76 : decode cX4_answers 76 = .ok (.iload_n 2, 1) := dk_28 (dk_at dksX4_answers_3 6 rfl rfl)
theorem dX4_answers_77 : decode cX4_answers 77 = .ok (.if_icmp .ne 39, 3) := dk_160 0 39 (dk_at dksX4_answers_3 7 rfl rfl)
theorem dX4_answers_80 : decode cX4_answers 80 = .ok (.iload_n 3, 1) := dk_29 (dk_at dksX4_answers_3 10 rfl rfl)
theorem dX4_answers_81 : decode cX4_answers 81 = .ok (.iconst (-1), 1) := dk_2 (dk_at dksX4_answers_3 11 rfl rfl)
theorem dX4_answers_82 : decode cX4_answers 82 = .ok (.if_icmp .eq 13, 3) := dk_159 0 13 (dk_at dksX4_answers_3 12 rfl rfl)
theorem dX4_answers_85 : decode cX4_answers 85 = .ok (.iload 7, 2) := dk_21 7 (dk_at dksX4_answers_3 15 rfl rfl)
theorem dX4_answers_87 : decode cX4_answers 87 = .ok (.iconst 1, 1) := dk_4 (dk_at dksX4_answers_3 17 rfl rfl)
theorem dX4_answers_88 : decode cX4_answers 88 = .ok (.invokestatic 176, 3) := dk_184 0 176 (dk_at dksX4_answers_3 18 rfl rfl)
theorem dX4_answers_91 : decode cX4_answers 91 = .ok (.iload_n 3, 1) := dk_29 (dk_at dksX4_answers_3 21 rfl rfl)
theorem dX4_answers_92 : decode cX4_answers 92 = .ok (.if_icmp .ne 24, 3) := dk_160 0 24 (dk_at dksX4_answers_4 0 rfl rfl)
theorem dX4_answers_95 : decode cX4_answers 95 = .ok (.iload 4, 2) := dk_21 4 (dk_at dksX4_answers_4 3 rfl rfl)
theorem dX4_answers_97 : decode cX4_answers 97 = .ok (.iconst (-1), 1) := dk_2 (dk_at dksX4_answers_4 5 rfl rfl)
theorem dX4_answers_98 : decode cX4_answers 98 = .ok (.if_icmp .eq 14, 3) := dk_159 0 14 (dk_at dksX4_answers_4 6 rfl rfl)
theorem dX4_answers_101 : decode cX4_answers 101 = .ok (.iload 7, 2) := dk_21 7 (dk_at dksX4_answers_4 9 rfl rfl)
theorem dX4_answers_103 : decode cX4_answers 103 = .ok (.iconst 2, 1) := dk_5 (dk_at dksX4_answers_4 11 rfl rfl)
theorem dX4_answers_104 : decode cX4_answers 104 = .ok (.invokestatic 176, 3) := dk_184 0 176 (dk_at dksX4_answers_4 12 rfl rfl)
theorem dX4_answers_107 : decode cX4_answers 107 = .ok (.iload 4, 2) := dk_21 4 (dk_at dksX4_answers_4 15 rfl rfl)
theorem dX4_answers_109 : decode cX4_answers 109 = .ok (.if_icmp .ne 7, 3) := dk_160 0 7 (dk_at dksX4_answers_4 17 rfl rfl)
theorem dX4_answers_112 : decode cX4_answers 112 = .ok (.iconst 1, 1) := dk_4 (dk_at dksX4_answers_4 20 rfl rfl)
theorem dX4_answers_113 : decode cX4_answers 113 = .ok (.goto 4, 3) := dk_167 0 4 (dk_at dksX4_answers_4 21 rfl rfl)
theorem dX4_answers_116 : decode cX4_answers 116 = .ok (.iconst 0, 1) := dk_3 (dk_at dksX4_answers_5 0 rfl rfl)
theorem dX4_answers_117 : decode cX4_answers 117 = .ok (.istore 8, 2) := dk_54 8 (dk_at dksX4_answers_5 1 rfl rfl)
theorem dX4_answers_119 : decode cX4_answers 119 = .ok (.iload 5, 2) := dk_21 5 (dk_at dksX4_answers_5 3 rfl rfl)
theorem dX4_answers_121 : decode cX4_answers 121 = .ok (.iload 8, 2) := dk_21 8 (dk_at dksX4_answers_5 5 rfl rfl)
theorem dX4_answers_123 : decode cX4_answers 123 = .ok (.ifCond .eq 16, 3) := dk_153 0 16 (dk_at dksX4_answers_5 7 rfl rfl)
theorem dX4_answers_126 : decode cX4_answers 126 = .ok (.iload 7, 2) := dk_21 7 (dk_at dksX4_answers_5 10 rfl rfl)
theorem dX4_answers_128 : decode cX4_answers 128 = .ok (.ldc 139, 2) := dk_18 139 (dk_at dksX4_answers_5 12 rfl rfl)
theorem dX4_answers_130 : decode cX4_answers 130 = .ok (.idiv, 1) := dk_108 (dk_at dksX4_answers_5 14 rfl rfl)
theorem dX4_answers_131 : decode cX4_answers 131 = .ok (.iload_n 1, 1) := dk_27 (dk_at dksX4_answers_5 15 rfl rfl)
theorem dX4_answers_132 : decode cX4_answers 132 = .ok (.if_icmp .ne 7, 3) := dk_160 0 7 (dk_at dksX4_answers_5 16 rfl rfl)
theorem dX4_answers_135 : decode cX4_answers 135 = .ok (.iconst 1, 1) := dk_4 (dk_at dksX4_answers_5 19 rfl rfl)
theorem dX4_answers_136 : decode cX4_answers 136 = .ok (.goto 4, 3) := dk_167 0 4 (dk_at dksX4_answers_5 20 rfl rfl)
theorem dX4_answers_139 : decode cX4_answers 139 = .ok (.iconst 0, 1) := dk_3 (dk_at dksX4_answers_5 23 rfl rfl)
theorem dX4_answers_140 : decode cX4_answers 140 = .ok (.iadd, 1) := dk_96 (dk_at dksX4_answers_6 0 rfl rfl)
theorem dX4_answers_141 : decode cX4_answers 141 = .ok (.istore 5, 2) := dk_54 5 (dk_at dksX4_answers_6 1 rfl rfl)
theorem dX4_answers_143 : decode cX4_answers 143 = .ok (.iinc 6 1, 3) := dk_132 6 1 (dk_at dksX4_answers_6 3 rfl rfl)
theorem dX4_answers_146 : decode cX4_answers 146 = .ok (.goto (-102), 3) := dk_167 255 154 (dk_at dksX4_answers_6 6 rfl rfl)
theorem dX4_answers_149 : decode cX4_answers 149 = .ok (.iload 5, 2) := dk_21 5 (dk_at dksX4_answers_6 9 rfl rfl)
theorem dX4_answers_151 : decode cX4_answers 151 = .ok (.ireturn, 1) := dk_172 (dk_at dksX4_answers_6 11 rfl rfl)
abbrev cX4_isGoal : ByteArray := prog_19_method_92_code
def yX4_isGoal : MethodName := ⟨RX4, "isGoal", "(IIII)Z"⟩
def dkwX4_isGoal_3 : List UInt8 := [21, 5, 153, 0, 7, 4, 167, 0, 4, 3, 172]
abbrev dktX4_isGoal_3 : List UInt8 := dkwX4_isGoal_3 ++ []
def dkwX4_isGoal_2 : List UInt8 := [153, 0, 33, 29, 2, 16, 99, 184, 0, 135, 153, 0, 23, 21, 4, 2, 16, 99, 184, 0, 135, 153, 0, 12]
abbrev dktX4_isGoal_2 : List UInt8 := dkwX4_isGoal_2 ++ dktX4_isGoal_3
def dkwX4_isGoal_1 : List UInt8 := [163, 0, 9, 21, 4, 2, 160, 0, 7, 4, 167, 0, 4, 3, 54, 5, 28, 2, 16, 99, 184, 0, 135]
abbrev dktX4_isGoal_1 : List UInt8 := dkwX4_isGoal_1 ++ dktX4_isGoal_2
def dkwX4_isGoal_0 : List UInt8 := [42, 180, 0, 13, 27, 46, 4, 163, 0, 8, 29, 2, 160, 0, 23, 42, 180, 0, 13, 27, 46, 5]
abbrev dktX4_isGoal_0 : List UInt8 := dkwX4_isGoal_0 ++ dktX4_isGoal_1
theorem dksX4_isGoal_0 : cX4_isGoal.data.toList.drop 0 = dktX4_isGoal_0 := by decide +kernel
theorem dksX4_isGoal_1 : cX4_isGoal.data.toList.drop 22 = dktX4_isGoal_1 := dk_seg dksX4_isGoal_0 22 rfl rfl
theorem dksX4_isGoal_2 : cX4_isGoal.data.toList.drop 45 = dktX4_isGoal_2 := dk_seg dksX4_isGoal_1 23 rfl rfl
theorem dksX4_isGoal_3 : cX4_isGoal.data.toList.drop 69 = dktX4_isGoal_3 := dk_seg dksX4_isGoal_2 24 rfl rfl
theorem dX4_isGoal_0 : decode cX4_isGoal 0 = .ok (.aload_n 0, 1) := dk_42 (dk_at dksX4_isGoal_0 0 rfl rfl)
theorem dX4_isGoal_1 : decode cX4_isGoal 1 = .ok (.getfield 13, 3) := dk_180 0 13 (dk_at dksX4_isGoal_0 1 rfl rfl)
theorem dX4_isGoal_4 : decode cX4_isGoal 4 = .ok (.iload_n 1, 1) := dk_27 (dk_at dksX4_isGoal_0 4 rfl rfl)
theorem dX4_isGoal_5 : decode cX4_isGoal 5 = .ok (.iaload, 1) := dk_46 (dk_at dksX4_isGoal_0 5 rfl rfl)
theorem dX4_isGoal_6 : decode cX4_isGoal 6 = .ok (.iconst 1, 1) := dk_4 (dk_at dksX4_isGoal_0 6 rfl rfl)
theorem dX4_isGoal_7 : decode cX4_isGoal 7 = .ok (.if_icmp .gt 8, 3) := dk_163 0 8 (dk_at dksX4_isGoal_0 7 rfl rfl)
theorem dX4_isGoal_10 : decode cX4_isGoal 10 = .ok (.iload_n 3, 1) := dk_29 (dk_at dksX4_isGoal_0 10 rfl rfl)
theorem dX4_isGoal_11 : decode cX4_isGoal 11 = .ok (.iconst (-1), 1) := dk_2 (dk_at dksX4_isGoal_0 11 rfl rfl)
theorem dX4_isGoal_12 : decode cX4_isGoal 12 = .ok (.if_icmp .ne 23, 3) := dk_160 0 23 (dk_at dksX4_isGoal_0 12 rfl rfl)
theorem dX4_isGoal_15 : decode cX4_isGoal 15 = .ok (.aload_n 0, 1) := dk_42 (dk_at dksX4_isGoal_0 15 rfl rfl)
theorem dX4_isGoal_16 : decode cX4_isGoal 16 = .ok (.getfield 13, 3) := dk_180 0 13 (dk_at dksX4_isGoal_0 16 rfl rfl)
theorem dX4_isGoal_19 : decode cX4_isGoal 19 = .ok (.iload_n 1, 1) := dk_27 (dk_at dksX4_isGoal_0 19 rfl rfl)
theorem dX4_isGoal_20 : decode cX4_isGoal 20 = .ok (.iaload, 1) := dk_46 (dk_at dksX4_isGoal_0 20 rfl rfl)
theorem dX4_isGoal_21 : decode cX4_isGoal 21 = .ok (.iconst 2, 1) := dk_5 (dk_at dksX4_isGoal_0 21 rfl rfl)
theorem dX4_isGoal_22 : decode cX4_isGoal 22 = .ok (.if_icmp .gt 9, 3) := dk_163 0 9 (dk_at dksX4_isGoal_1 0 rfl rfl)
theorem dX4_isGoal_25 : decode cX4_isGoal 25 = .ok (.iload 4, 2) := dk_21 4 (dk_at dksX4_isGoal_1 3 rfl rfl)
theorem dX4_isGoal_27 : decode cX4_isGoal 27 = .ok (.iconst (-1), 1) := dk_2 (dk_at dksX4_isGoal_1 5 rfl rfl)
theorem dX4_isGoal_28 : decode cX4_isGoal 28 = .ok (.if_icmp .ne 7, 3) := dk_160 0 7 (dk_at dksX4_isGoal_1 6 rfl rfl)
theorem dX4_isGoal_31 : decode cX4_isGoal 31 = .ok (.iconst 1, 1) := dk_4 (dk_at dksX4_isGoal_1 9 rfl rfl)
theorem dX4_isGoal_32 : decode cX4_isGoal 32 = .ok (.goto 4, 3) := dk_167 0 4 (dk_at dksX4_isGoal_1 10 rfl rfl)
theorem dX4_isGoal_35 : decode cX4_isGoal 35 = .ok (.iconst 0, 1) := dk_3 (dk_at dksX4_isGoal_1 13 rfl rfl)
theorem dX4_isGoal_36 : decode cX4_isGoal 36 = .ok (.istore 5, 2) := dk_54 5 (dk_at dksX4_isGoal_1 14 rfl rfl)
theorem dX4_isGoal_38 : decode cX4_isGoal 38 = .ok (.iload_n 2, 1) := dk_28 (dk_at dksX4_isGoal_1 16 rfl rfl)
theorem dX4_isGoal_39 : decode cX4_isGoal 39 = .ok (.iconst (-1), 1) := dk_2 (dk_at dksX4_isGoal_1 17 rfl rfl)
theorem dX4_isGoal_40 : decode cX4_isGoal 40 = .ok (.bipush 99, 2) := dk_16 99 (dk_at dksX4_isGoal_1 18 rfl rfl)
theorem dX4_isGoal_42 : decode cX4_isGoal 42 = .ok (.invokestatic 135, 3) := dk_184 0 135 (dk_at dksX4_isGoal_1 20 rfl rfl)
theorem dX4_isGoal_45 : decode cX4_isGoal 45 = .ok (.ifCond .eq 33, 3) := dk_153 0 33 (dk_at dksX4_isGoal_2 0 rfl rfl)
theorem dX4_isGoal_48 : decode cX4_isGoal 48 = .ok (.iload_n 3, 1) := dk_29 (dk_at dksX4_isGoal_2 3 rfl rfl)
theorem dX4_isGoal_49 : decode cX4_isGoal 49 = .ok (.iconst (-1), 1) := dk_2 (dk_at dksX4_isGoal_2 4 rfl rfl)
theorem dX4_isGoal_50 : decode cX4_isGoal 50 = .ok (.bipush 99, 2) := dk_16 99 (dk_at dksX4_isGoal_2 5 rfl rfl)
theorem dX4_isGoal_52 : decode cX4_isGoal 52 = .ok (.invokestatic 135, 3) := dk_184 0 135 (dk_at dksX4_isGoal_2 7 rfl rfl)
theorem dX4_isGoal_55 : decode cX4_isGoal 55 = .ok (.ifCond .eq 23, 3) := dk_153 0 23 (dk_at dksX4_isGoal_2 10 rfl rfl)
theorem dX4_isGoal_58 : decode cX4_isGoal 58 = .ok (.iload 4, 2) := dk_21 4 (dk_at dksX4_isGoal_2 13 rfl rfl)
theorem dX4_isGoal_60 : decode cX4_isGoal 60 = .ok (.iconst (-1), 1) := dk_2 (dk_at dksX4_isGoal_2 15 rfl rfl)
theorem dX4_isGoal_61 : decode cX4_isGoal 61 = .ok (.bipush 99, 2) := dk_16 99 (dk_at dksX4_isGoal_2 16 rfl rfl)
theorem dX4_isGoal_63 : decode cX4_isGoal 63 = .ok (.invokestatic 135, 3) := dk_184 0 135 (dk_at dksX4_isGoal_2 18 rfl rfl)
theorem dX4_isGoal_66 : decode cX4_isGoal 66 = .ok (.ifCond .eq 12, 3) := dk_153 0 12 (dk_at dksX4_isGoal_2 21 rfl rfl)
theorem dX4_isGoal_69 : decode cX4_isGoal 69 = .ok (.iload 5, 2) := dk_21 5 (dk_at dksX4_isGoal_3 0 rfl rfl)
theorem dX4_isGoal_71 : decode cX4_isGoal 71 = .ok (.ifCond .eq 7, 3) := dk_153 0 7 (dk_at dksX4_isGoal_3 2 rfl rfl)
theorem dX4_isGoal_74 : decode cX4_isGoal 74 = .ok (.iconst 1, 1) := dk_4 (dk_at dksX4_isGoal_3 5 rfl rfl)
theorem dX4_isGoal_75 : decode cX4_isGoal 75 = .ok (.goto 4, 3) := dk_167 0 4 (dk_at dksX4_isGoal_3 6 rfl rfl)
theorem dX4_isGoal_78 : decode cX4_isGoal 78 = .ok (.iconst 0, 1) := dk_3 (dk_at dksX4_isGoal_3 9 rfl rfl)
theorem dX4_isGoal_79 : decode cX4_isGoal 79 = .ok (.ireturn, 1) := dk_172 (dk_at dksX4_isGoal_3 10 rfl rfl)
abbrev cX4_goals : ByteArray := prog_19_method_98_code
def yX4_goals : MethodName := ⟨RX4, "goals", "(IIII)I"⟩
def dkwX4_goals_4 : List UInt8 := [167, 255, 223, 42, 180, 1, 111, 17, 0, 200, 164, 0, 9, 17, 0, 200, 167, 0, 7, 42, 180, 1, 111, 172]
abbrev dktX4_goals_4 : List UInt8 := dkwX4_goals_4 ++ []
def dkwX4_goals_3 : List UInt8 := [180, 1, 111, 17, 0, 200, 163, 0, 20, 42, 42, 180, 0, 122, 21, 5, 46, 182, 1, 125, 132, 5, 1]
abbrev dktX4_goals_3 : List UInt8 := dkwX4_goals_3 ++ dktX4_goals_4
def dkwX4_goals_2 : List UInt8 := [29, 21, 4, 184, 1, 118, 182, 1, 122, 3, 54, 5, 21, 5, 42, 180, 1, 111, 162, 0, 30, 42]
abbrev dktX4_goals_2 : List UInt8 := dkwX4_goals_2 ++ dktX4_goals_3
def dkwX4_goals_1 : List UInt8 := [153, 0, 7, 3, 167, 0, 4, 5, 182, 1, 10, 154, 0, 5, 3, 172, 42, 3, 181, 1, 111, 42, 27, 28]
abbrev dktX4_goals_1 : List UInt8 := dkwX4_goals_1 ++ dktX4_goals_2
def dkwX4_goals_0 : List UInt8 := [42, 42, 27, 182, 0, 140, 154, 0, 7, 4, 167, 0, 20, 42, 27, 28, 29, 21, 4, 182, 1, 108]
abbrev dktX4_goals_0 : List UInt8 := dkwX4_goals_0 ++ dktX4_goals_1
theorem dksX4_goals_0 : cX4_goals.data.toList.drop 0 = dktX4_goals_0 := by decide +kernel
theorem dksX4_goals_1 : cX4_goals.data.toList.drop 22 = dktX4_goals_1 := dk_seg dksX4_goals_0 22 rfl rfl
theorem dksX4_goals_2 : cX4_goals.data.toList.drop 46 = dktX4_goals_2 := dk_seg dksX4_goals_1 24 rfl rfl
theorem dksX4_goals_3 : cX4_goals.data.toList.drop 68 = dktX4_goals_3 := dk_seg dksX4_goals_2 22 rfl rfl
theorem dksX4_goals_4 : cX4_goals.data.toList.drop 91 = dktX4_goals_4 := dk_seg dksX4_goals_3 23 rfl rfl
theorem dX4_goals_0 : decode cX4_goals 0 = .ok (.aload_n 0, 1) := dk_42 (dk_at dksX4_goals_0 0 rfl rfl)
theorem dX4_goals_1 : decode cX4_goals 1 = .ok (.aload_n 0, 1) := dk_42 (dk_at dksX4_goals_0 1 rfl rfl)
theorem dX4_goals_2 : decode cX4_goals 2 = .ok (.iload_n 1, 1) := dk_27 (dk_at dksX4_goals_0 2 rfl rfl)
theorem dX4_goals_3 : decode cX4_goals 3 = .ok (.invokevirtual 140, 3) := dk_182 0 140 (dk_at dksX4_goals_0 3 rfl rfl)
theorem dX4_goals_6 : decode cX4_goals 6 = .ok (.ifCond .ne 7, 3) := dk_154 0 7 (dk_at dksX4_goals_0 6 rfl rfl)
theorem dX4_goals_9 : decode cX4_goals 9 = .ok (.iconst 1, 1) := dk_4 (dk_at dksX4_goals_0 9 rfl rfl)
theorem dX4_goals_10 : decode cX4_goals 10 = .ok (.goto 20, 3) := dk_167 0 20 (dk_at dksX4_goals_0 10 rfl rfl)
theorem dX4_goals_13 : decode cX4_goals 13 = .ok (.aload_n 0, 1) := dk_42 (dk_at dksX4_goals_0 13 rfl rfl)
theorem dX4_goals_14 : decode cX4_goals 14 = .ok (.iload_n 1, 1) := dk_27 (dk_at dksX4_goals_0 14 rfl rfl)
theorem dX4_goals_15 : decode cX4_goals 15 = .ok (.iload_n 2, 1) := dk_28 (dk_at dksX4_goals_0 15 rfl rfl)
theorem dX4_goals_16 : decode cX4_goals 16 = .ok (.iload_n 3, 1) := dk_29 (dk_at dksX4_goals_0 16 rfl rfl)
theorem dX4_goals_17 : decode cX4_goals 17 = .ok (.iload 4, 2) := dk_21 4 (dk_at dksX4_goals_0 17 rfl rfl)
theorem dX4_goals_19 : decode cX4_goals 19 = .ok (.invokevirtual 364, 3) := dk_182 1 108 (dk_at dksX4_goals_0 19 rfl rfl)
theorem dX4_goals_22 : decode cX4_goals 22 = .ok (.ifCond .eq 7, 3) := dk_153 0 7 (dk_at dksX4_goals_1 0 rfl rfl)
theorem dX4_goals_25 : decode cX4_goals 25 = .ok (.iconst 0, 1) := dk_3 (dk_at dksX4_goals_1 3 rfl rfl)
theorem dX4_goals_26 : decode cX4_goals 26 = .ok (.goto 4, 3) := dk_167 0 4 (dk_at dksX4_goals_1 4 rfl rfl)
theorem dX4_goals_29 : decode cX4_goals 29 = .ok (.iconst 2, 1) := dk_5 (dk_at dksX4_goals_1 7 rfl rfl)
theorem dX4_goals_30 : decode cX4_goals 30 = .ok (.invokevirtual 266, 3) := dk_182 1 10 (dk_at dksX4_goals_1 8 rfl rfl)
theorem dX4_goals_33 : decode cX4_goals 33 = .ok (.ifCond .ne 5, 3) := dk_154 0 5 (dk_at dksX4_goals_1 11 rfl rfl)
theorem dX4_goals_36 : decode cX4_goals 36 = .ok (.iconst 0, 1) := dk_3 (dk_at dksX4_goals_1 14 rfl rfl)
theorem dX4_goals_37 : decode cX4_goals 37 = .ok (.ireturn, 1) := dk_172 (dk_at dksX4_goals_1 15 rfl rfl)
theorem dX4_goals_38 : decode cX4_goals 38 = .ok (.aload_n 0, 1) := dk_42 (dk_at dksX4_goals_1 16 rfl rfl)
theorem dX4_goals_39 : decode cX4_goals 39 = .ok (.iconst 0, 1) := dk_3 (dk_at dksX4_goals_1 17 rfl rfl)
theorem dX4_goals_40 : decode cX4_goals 40 = .ok (.putfield 367, 3) := dk_181 1 111 (dk_at dksX4_goals_1 18 rfl rfl)
theorem dX4_goals_43 : decode cX4_goals 43 = .ok (.aload_n 0, 1) := dk_42 (dk_at dksX4_goals_1 21 rfl rfl)
theorem dX4_goals_44 : decode cX4_goals 44 = .ok (.iload_n 1, 1) := dk_27 (dk_at dksX4_goals_1 22 rfl rfl)
theorem dX4_goals_45 : decode cX4_goals 45 = .ok (.iload_n 2, 1) := dk_28 (dk_at dksX4_goals_1 23 rfl rfl)
theorem dX4_goals_46 : decode cX4_goals 46 = .ok (.iload_n 3, 1) := dk_29 (dk_at dksX4_goals_2 0 rfl rfl)
theorem dX4_goals_47 : decode cX4_goals 47 = .ok (.iload 4, 2) := dk_21 4 (dk_at dksX4_goals_2 1 rfl rfl)
theorem dX4_goals_49 : decode cX4_goals 49 = .ok (.invokestatic 374, 3) := dk_184 1 118 (dk_at dksX4_goals_2 3 rfl rfl)
theorem dX4_goals_52 : decode cX4_goals 52 = .ok (.invokevirtual 378, 3) := dk_182 1 122 (dk_at dksX4_goals_2 6 rfl rfl)
theorem dX4_goals_55 : decode cX4_goals 55 = .ok (.iconst 0, 1) := dk_3 (dk_at dksX4_goals_2 9 rfl rfl)
theorem dX4_goals_56 : decode cX4_goals 56 = .ok (.istore 5, 2) := dk_54 5 (dk_at dksX4_goals_2 10 rfl rfl)
theorem dX4_goals_58 : decode cX4_goals 58 = .ok (.iload 5, 2) := dk_21 5 (dk_at dksX4_goals_2 12 rfl rfl)
theorem dX4_goals_60 : decode cX4_goals 60 = .ok (.aload_n 0, 1) := dk_42 (dk_at dksX4_goals_2 14 rfl rfl)
theorem dX4_goals_61 : decode cX4_goals 61 = .ok (.getfield 367, 3) := dk_180 1 111 (dk_at dksX4_goals_2 15 rfl rfl)
theorem dX4_goals_64 : decode cX4_goals 64 = .ok (.if_icmp .ge 30, 3) := dk_162 0 30 (dk_at dksX4_goals_2 18 rfl rfl)
theorem dX4_goals_67 : decode cX4_goals 67 = .ok (.aload_n 0, 1) := dk_42 (dk_at dksX4_goals_2 21 rfl rfl)
theorem dX4_goals_68 : decode cX4_goals 68 = .ok (.getfield 367, 3) := dk_180 1 111 (dk_at dksX4_goals_3 0 rfl rfl)
theorem dX4_goals_71 : decode cX4_goals 71 = .ok (.sipush 200, 3) := dk_17 0 200 (dk_at dksX4_goals_3 3 rfl rfl)
theorem dX4_goals_74 : decode cX4_goals 74 = .ok (.if_icmp .gt 20, 3) := dk_163 0 20 (dk_at dksX4_goals_3 6 rfl rfl)
theorem dX4_goals_77 : decode cX4_goals 77 = .ok (.aload_n 0, 1) := dk_42 (dk_at dksX4_goals_3 9 rfl rfl)
theorem dX4_goals_78 : decode cX4_goals 78 = .ok (.aload_n 0, 1) := dk_42 (dk_at dksX4_goals_3 10 rfl rfl)
theorem dX4_goals_79 : decode cX4_goals 79 = .ok (.getfield 122, 3) := dk_180 0 122 (dk_at dksX4_goals_3 11 rfl rfl)
theorem dX4_goals_82 : decode cX4_goals 82 = .ok (.iload 5, 2) := dk_21 5 (dk_at dksX4_goals_3 14 rfl rfl)
theorem dX4_goals_84 : decode cX4_goals 84 = .ok (.iaload, 1) := dk_46 (dk_at dksX4_goals_3 16 rfl rfl)
theorem dX4_goals_85 : decode cX4_goals 85 = .ok (.invokevirtual 381, 3) := dk_182 1 125 (dk_at dksX4_goals_3 17 rfl rfl)
theorem dX4_goals_88 : decode cX4_goals 88 = .ok (.iinc 5 1, 3) := dk_132 5 1 (dk_at dksX4_goals_3 20 rfl rfl)
theorem dX4_goals_91 : decode cX4_goals 91 = .ok (.goto (-33), 3) := dk_167 255 223 (dk_at dksX4_goals_4 0 rfl rfl)
theorem dX4_goals_94 : decode cX4_goals 94 = .ok (.aload_n 0, 1) := dk_42 (dk_at dksX4_goals_4 3 rfl rfl)
theorem dX4_goals_95 : decode cX4_goals 95 = .ok (.getfield 367, 3) := dk_180 1 111 (dk_at dksX4_goals_4 4 rfl rfl)
theorem dX4_goals_98 : decode cX4_goals 98 = .ok (.sipush 200, 3) := dk_17 0 200 (dk_at dksX4_goals_4 7 rfl rfl)
theorem dX4_goals_101 : decode cX4_goals 101 = .ok (.if_icmp .le 9, 3) := dk_164 0 9 (dk_at dksX4_goals_4 10 rfl rfl)
theorem dX4_goals_104 : decode cX4_goals 104 = .ok (.sipush 200, 3) := dk_17 0 200 (dk_at dksX4_goals_4 13 rfl rfl)
theorem dX4_goals_107 : decode cX4_goals 107 = .ok (.goto 7, 3) := dk_167 0 7 (dk_at dksX4_goals_4 16 rfl rfl)
theorem dX4_goals_110 : decode cX4_goals 110 = .ok (.aload_n 0, 1) := dk_42 (dk_at dksX4_goals_4 19 rfl rfl)
theorem dX4_goals_111 : decode cX4_goals 111 = .ok (.getfield 367, 3) := dk_180 1 111 (dk_at dksX4_goals_4 20 rfl rfl)
theorem dX4_goals_114 : decode cX4_goals 114 = .ok (.ireturn, 1) := dk_172 (dk_at dksX4_goals_4 23 rfl rfl)
abbrev cX4_goalOf : ByteArray := prog_19_method_95_code
def yX4_goalOf : MethodName := ⟨RX4, "goalOf", "(IIII)I"⟩
def dkwX4_goalOf_1 : List UInt8 := [172]
abbrev dktX4_goalOf_1 : List UInt8 := dkwX4_goalOf_1 ++ []
def dkwX4_goalOf_0 : List UInt8 := [19, 1, 114, 26, 104, 17, 39, 217, 27, 4, 96, 104, 96, 16, 101, 28, 4, 96, 104, 96, 29, 96, 4, 96]
abbrev dktX4_goalOf_0 : List UInt8 := dkwX4_goalOf_0 ++ dktX4_goalOf_1
theorem dksX4_goalOf_0 : cX4_goalOf.data.toList.drop 0 = dktX4_goalOf_0 := by decide +kernel
theorem dksX4_goalOf_1 : cX4_goalOf.data.toList.drop 24 = dktX4_goalOf_1 := dk_seg dksX4_goalOf_0 24 rfl rfl
theorem dX4_goalOf_0 : decode cX4_goalOf 0 = .ok (.ldc_w 370, 3) := dk_19 1 114 (dk_at dksX4_goalOf_0 0 rfl rfl)
theorem dX4_goalOf_3 : decode cX4_goalOf 3 = .ok (.iload_n 0, 1) := dk_26 (dk_at dksX4_goalOf_0 3 rfl rfl)
theorem dX4_goalOf_4 : decode cX4_goalOf 4 = .ok (.imul, 1) := dk_104 (dk_at dksX4_goalOf_0 4 rfl rfl)
theorem dX4_goalOf_5 : decode cX4_goalOf 5 = .ok (.sipush 10201, 3) := dk_17 39 217 (dk_at dksX4_goalOf_0 5 rfl rfl)
theorem dX4_goalOf_8 : decode cX4_goalOf 8 = .ok (.iload_n 1, 1) := dk_27 (dk_at dksX4_goalOf_0 8 rfl rfl)
theorem dX4_goalOf_9 : decode cX4_goalOf 9 = .ok (.iconst 1, 1) := dk_4 (dk_at dksX4_goalOf_0 9 rfl rfl)
theorem dX4_goalOf_10 : decode cX4_goalOf 10 = .ok (.iadd, 1) := dk_96 (dk_at dksX4_goalOf_0 10 rfl rfl)
theorem dX4_goalOf_11 : decode cX4_goalOf 11 = .ok (.imul, 1) := dk_104 (dk_at dksX4_goalOf_0 11 rfl rfl)
theorem dX4_goalOf_12 : decode cX4_goalOf 12 = .ok (.iadd, 1) := dk_96 (dk_at dksX4_goalOf_0 12 rfl rfl)
theorem dX4_goalOf_13 : decode cX4_goalOf 13 = .ok (.bipush 101, 2) := dk_16 101 (dk_at dksX4_goalOf_0 13 rfl rfl)
theorem dX4_goalOf_15 : decode cX4_goalOf 15 = .ok (.iload_n 2, 1) := dk_28 (dk_at dksX4_goalOf_0 15 rfl rfl)
theorem dX4_goalOf_16 : decode cX4_goalOf 16 = .ok (.iconst 1, 1) := dk_4 (dk_at dksX4_goalOf_0 16 rfl rfl)
theorem dX4_goalOf_17 : decode cX4_goalOf 17 = .ok (.iadd, 1) := dk_96 (dk_at dksX4_goalOf_0 17 rfl rfl)
theorem dX4_goalOf_18 : decode cX4_goalOf 18 = .ok (.imul, 1) := dk_104 (dk_at dksX4_goalOf_0 18 rfl rfl)
theorem dX4_goalOf_19 : decode cX4_goalOf 19 = .ok (.iadd, 1) := dk_96 (dk_at dksX4_goalOf_0 19 rfl rfl)
theorem dX4_goalOf_20 : decode cX4_goalOf 20 = .ok (.iload_n 3, 1) := dk_29 (dk_at dksX4_goalOf_0 20 rfl rfl)
theorem dX4_goalOf_21 : decode cX4_goalOf 21 = .ok (.iadd, 1) := dk_96 (dk_at dksX4_goalOf_0 21 rfl rfl)
theorem dX4_goalOf_22 : decode cX4_goalOf 22 = .ok (.iconst 1, 1) := dk_4 (dk_at dksX4_goalOf_0 22 rfl rfl)
theorem dX4_goalOf_23 : decode cX4_goalOf 23 = .ok (.iadd, 1) := dk_96 (dk_at dksX4_goalOf_0 23 rfl rfl)
theorem dX4_goalOf_24 : decode cX4_goalOf 24 = .ok (.ireturn, 1) := dk_172 (dk_at dksX4_goalOf_1 0 rfl rfl)
abbrev cX4_addGoal : ByteArray := prog_19_method_94_code
def yX4_addGoal : MethodName := ⟨RX4, "addGoal", "(I)V"⟩
def dkwX4_addGoal_3 : List UInt8 := [181, 1, 111, 177]
abbrev dktX4_addGoal_3 : List UInt8 := dkwX4_addGoal_3 ++ []
def dkwX4_addGoal_2 : List UInt8 := [17, 0, 200, 163, 0, 23, 42, 180, 0, 122, 42, 180, 1, 111, 27, 79, 42, 89, 180, 1, 111, 4, 96]
abbrev dktX4_addGoal_2 : List UInt8 := dkwX4_addGoal_2 ++ dktX4_addGoal_3
def dkwX4_addGoal_1 : List UInt8 := [160, 0, 7, 4, 167, 0, 4, 3, 61, 132, 3, 1, 167, 255, 225, 28, 154, 0, 33, 42, 180, 1, 111]
abbrev dktX4_addGoal_1 : List UInt8 := dkwX4_addGoal_1 ++ dktX4_addGoal_2
def dkwX4_addGoal_0 : List UInt8 := [3, 61, 3, 62, 29, 42, 180, 1, 111, 162, 0, 29, 28, 154, 0, 13, 42, 180, 0, 122, 29, 46, 27]
abbrev dktX4_addGoal_0 : List UInt8 := dkwX4_addGoal_0 ++ dktX4_addGoal_1
theorem dksX4_addGoal_0 : cX4_addGoal.data.toList.drop 0 = dktX4_addGoal_0 := by decide +kernel
theorem dksX4_addGoal_1 : cX4_addGoal.data.toList.drop 23 = dktX4_addGoal_1 := dk_seg dksX4_addGoal_0 23 rfl rfl
theorem dksX4_addGoal_2 : cX4_addGoal.data.toList.drop 46 = dktX4_addGoal_2 := dk_seg dksX4_addGoal_1 23 rfl rfl
theorem dksX4_addGoal_3 : cX4_addGoal.data.toList.drop 69 = dktX4_addGoal_3 := dk_seg dksX4_addGoal_2 23 rfl rfl
theorem dX4_addGoal_0 : decode cX4_addGoal 0 = .ok (.iconst 0, 1) := dk_3 (dk_at dksX4_addGoal_0 0 rfl rfl)
theorem dX4_addGoal_1 : decode cX4_addGoal 1 = .ok (.istore_n 2, 1) := dk_61 (dk_at dksX4_addGoal_0 1 rfl rfl)
theorem dX4_addGoal_2 : decode cX4_addGoal 2 = .ok (.iconst 0, 1) := dk_3 (dk_at dksX4_addGoal_0 2 rfl rfl)
theorem dX4_addGoal_3 : decode cX4_addGoal 3 = .ok (.istore_n 3, 1) := dk_62 (dk_at dksX4_addGoal_0 3 rfl rfl)
theorem dX4_addGoal_4 : decode cX4_addGoal 4 = .ok (.iload_n 3, 1) := dk_29 (dk_at dksX4_addGoal_0 4 rfl rfl)
theorem dX4_addGoal_5 : decode cX4_addGoal 5 = .ok (.aload_n 0, 1) := dk_42 (dk_at dksX4_addGoal_0 5 rfl rfl)
theorem dX4_addGoal_6 : decode cX4_addGoal 6 = .ok (.getfield 367, 3) := dk_180 1 111 (dk_at dksX4_addGoal_0 6 rfl rfl)
theorem dX4_addGoal_9 : decode cX4_addGoal 9 = .ok (.if_icmp .ge 29, 3) := dk_162 0 29 (dk_at dksX4_addGoal_0 9 rfl rfl)
theorem dX4_addGoal_12 : decode cX4_addGoal 12 = .ok (.iload_n 2, 1) := dk_28 (dk_at dksX4_addGoal_0 12 rfl rfl)
theorem dX4_addGoal_13 : decode cX4_addGoal 13 = .ok (.ifCond .ne 13, 3) := dk_154 0 13 (dk_at dksX4_addGoal_0 13 rfl rfl)
theorem dX4_addGoal_16 : decode cX4_addGoal 16 = .ok (.aload_n 0, 1) := dk_42 (dk_at dksX4_addGoal_0 16 rfl rfl)
theorem dX4_addGoal_17 : decode cX4_addGoal 17 = .ok (.getfield 122, 3) := dk_180 0 122 (dk_at dksX4_addGoal_0 17 rfl rfl)
theorem dX4_addGoal_20 : decode cX4_addGoal 20 = .ok (.iload_n 3, 1) := dk_29 (dk_at dksX4_addGoal_0 20 rfl rfl)
theorem dX4_addGoal_21 : decode cX4_addGoal 21 = .ok (.iaload, 1) := dk_46 (dk_at dksX4_addGoal_0 21 rfl rfl)
theorem dX4_addGoal_22 : decode cX4_addGoal 22 = .ok (.iload_n 1, 1) := dk_27 (dk_at dksX4_addGoal_0 22 rfl rfl)
theorem dX4_addGoal_23 : decode cX4_addGoal 23 = .ok (.if_icmp .ne 7, 3) := dk_160 0 7 (dk_at dksX4_addGoal_1 0 rfl rfl)
theorem dX4_addGoal_26 : decode cX4_addGoal 26 = .ok (.iconst 1, 1) := dk_4 (dk_at dksX4_addGoal_1 3 rfl rfl)
theorem dX4_addGoal_27 : decode cX4_addGoal 27 = .ok (.goto 4, 3) := dk_167 0 4 (dk_at dksX4_addGoal_1 4 rfl rfl)
theorem dX4_addGoal_30 : decode cX4_addGoal 30 = .ok (.iconst 0, 1) := dk_3 (dk_at dksX4_addGoal_1 7 rfl rfl)
theorem dX4_addGoal_31 : decode cX4_addGoal 31 = .ok (.istore_n 2, 1) := dk_61 (dk_at dksX4_addGoal_1 8 rfl rfl)
theorem dX4_addGoal_32 : decode cX4_addGoal 32 = .ok (.iinc 3 1, 3) := dk_132 3 1 (dk_at dksX4_addGoal_1 9 rfl rfl)
theorem dX4_addGoal_35 : decode cX4_addGoal 35 = .ok (.goto (-31), 3) := dk_167 255 225 (dk_at dksX4_addGoal_1 12 rfl rfl)
theorem dX4_addGoal_38 : decode cX4_addGoal 38 = .ok (.iload_n 2, 1) := dk_28 (dk_at dksX4_addGoal_1 15 rfl rfl)
theorem dX4_addGoal_39 : decode cX4_addGoal 39 = .ok (.ifCond .ne 33, 3) := dk_154 0 33 (dk_at dksX4_addGoal_1 16 rfl rfl)
theorem dX4_addGoal_42 : decode cX4_addGoal 42 = .ok (.aload_n 0, 1) := dk_42 (dk_at dksX4_addGoal_1 19 rfl rfl)
theorem dX4_addGoal_43 : decode cX4_addGoal 43 = .ok (.getfield 367, 3) := dk_180 1 111 (dk_at dksX4_addGoal_1 20 rfl rfl)
theorem dX4_addGoal_46 : decode cX4_addGoal 46 = .ok (.sipush 200, 3) := dk_17 0 200 (dk_at dksX4_addGoal_2 0 rfl rfl)
theorem dX4_addGoal_49 : decode cX4_addGoal 49 = .ok (.if_icmp .gt 23, 3) := dk_163 0 23 (dk_at dksX4_addGoal_2 3 rfl rfl)
theorem dX4_addGoal_52 : decode cX4_addGoal 52 = .ok (.aload_n 0, 1) := dk_42 (dk_at dksX4_addGoal_2 6 rfl rfl)
theorem dX4_addGoal_53 : decode cX4_addGoal 53 = .ok (.getfield 122, 3) := dk_180 0 122 (dk_at dksX4_addGoal_2 7 rfl rfl)
theorem dX4_addGoal_56 : decode cX4_addGoal 56 = .ok (.aload_n 0, 1) := dk_42 (dk_at dksX4_addGoal_2 10 rfl rfl)
theorem dX4_addGoal_57 : decode cX4_addGoal 57 = .ok (.getfield 367, 3) := dk_180 1 111 (dk_at dksX4_addGoal_2 11 rfl rfl)
theorem dX4_addGoal_60 : decode cX4_addGoal 60 = .ok (.iload_n 1, 1) := dk_27 (dk_at dksX4_addGoal_2 14 rfl rfl)
theorem dX4_addGoal_61 : decode cX4_addGoal 61 = .ok (.iastore, 1) := dk_79 (dk_at dksX4_addGoal_2 15 rfl rfl)
theorem dX4_addGoal_62 : decode cX4_addGoal 62 = .ok (.aload_n 0, 1) := dk_42 (dk_at dksX4_addGoal_2 16 rfl rfl)
theorem dX4_addGoal_63 : decode cX4_addGoal 63 = .ok (.dup, 1) := dk_89 (dk_at dksX4_addGoal_2 17 rfl rfl)
theorem dX4_addGoal_64 : decode cX4_addGoal 64 = .ok (.getfield 367, 3) := dk_180 1 111 (dk_at dksX4_addGoal_2 18 rfl rfl)
theorem dX4_addGoal_67 : decode cX4_addGoal 67 = .ok (.iconst 1, 1) := dk_4 (dk_at dksX4_addGoal_2 21 rfl rfl)
theorem dX4_addGoal_68 : decode cX4_addGoal 68 = .ok (.iadd, 1) := dk_96 (dk_at dksX4_addGoal_2 22 rfl rfl)
theorem dX4_addGoal_69 : decode cX4_addGoal 69 = .ok (.putfield 367, 3) := dk_181 1 111 (dk_at dksX4_addGoal_3 0 rfl rfl)
theorem dX4_addGoal_72 : decode cX4_addGoal 72 = .ok (.return_, 1) := dk_177 (dk_at dksX4_addGoal_3 3 rfl rfl)
abbrev cX4_setUp : ByteArray := prog_19_method_97_code
def yX4_setUp : MethodName := ⟨RX4, "setUp", "(I)V"⟩
def dkwX4_setUp_7 : List UInt8 := [184, 1, 118, 182, 1, 122, 167, 255, 197, 132, 7, 1, 167, 255, 134, 132, 6, 1, 167, 255, 114, 177]
abbrev dktX4_setUp_7 : List UInt8 := dkwX4_setUp_7 ++ []
def dkwX4_setUp_6 : List UInt8 := [3, 182, 1, 115, 42, 21, 6, 21, 7, 4, 182, 1, 115, 42, 21, 6, 21, 7, 5, 182, 1, 115]
abbrev dktX4_setUp_6 : List UInt8 := dkwX4_setUp_6 ++ dktX4_setUp_7
def dkwX4_setUp_5 : List UInt8 := [163, 0, 55, 42, 182, 0, 218, 153, 0, 48, 42, 42, 21, 6, 21, 7, 182, 0, 152, 42, 21, 6, 21, 7]
abbrev dktX4_setUp_5 : List UInt8 := dkwX4_setUp_5 ++ dktX4_setUp_6
def dkwX4_setUp_4 : List UInt8 := [21, 5, 182, 1, 104, 153, 0, 73, 42, 21, 6, 21, 7, 182, 0, 214, 42, 180, 1, 111, 17, 0, 200]
abbrev dktX4_setUp_4 : List UInt8 := dkwX4_setUp_4 ++ dktX4_setUp_5
def dkwX4_setUp_3 : List UInt8 := [46, 28, 160, 0, 105, 42, 21, 6, 21, 7, 182, 0, 148, 5, 162, 0, 87, 42, 21, 6, 29, 21, 4]
abbrev dktX4_setUp_3 : List UInt8 := dkwX4_setUp_3 ++ dktX4_setUp_4
def dkwX4_setUp_2 : List UInt8 := [162, 0, 137, 3, 54, 7, 21, 7, 42, 180, 0, 25, 21, 6, 46, 162, 0, 116, 42, 180, 0, 19, 21, 6]
abbrev dktX4_setUp_2 : List UInt8 := dkwX4_setUp_2 ++ dktX4_setUp_3
def dkwX4_setUp_1 : List UInt8 := [4, 100, 54, 4, 27, 16, 101, 112, 4, 100, 54, 5, 3, 54, 6, 21, 6, 42, 180, 0, 7, 4, 46]
abbrev dktX4_setUp_1 : List UInt8 := dkwX4_setUp_1 ++ dktX4_setUp_2
def dkwX4_setUp_0 : List UInt8 := [27, 19, 1, 114, 108, 61, 27, 17, 39, 217, 108, 16, 101, 112, 4, 100, 62, 27, 16, 101, 108, 16, 101, 112]
abbrev dktX4_setUp_0 : List UInt8 := dkwX4_setUp_0 ++ dktX4_setUp_1
theorem dksX4_setUp_0 : cX4_setUp.data.toList.drop 0 = dktX4_setUp_0 := by decide +kernel
theorem dksX4_setUp_1 : cX4_setUp.data.toList.drop 24 = dktX4_setUp_1 := dk_seg dksX4_setUp_0 24 rfl rfl
theorem dksX4_setUp_2 : cX4_setUp.data.toList.drop 47 = dktX4_setUp_2 := dk_seg dksX4_setUp_1 23 rfl rfl
theorem dksX4_setUp_3 : cX4_setUp.data.toList.drop 71 = dktX4_setUp_3 := dk_seg dksX4_setUp_2 24 rfl rfl
theorem dksX4_setUp_4 : cX4_setUp.data.toList.drop 94 = dktX4_setUp_4 := dk_seg dksX4_setUp_3 23 rfl rfl
theorem dksX4_setUp_5 : cX4_setUp.data.toList.drop 117 = dktX4_setUp_5 := dk_seg dksX4_setUp_4 23 rfl rfl
theorem dksX4_setUp_6 : cX4_setUp.data.toList.drop 141 = dktX4_setUp_6 := dk_seg dksX4_setUp_5 24 rfl rfl
theorem dksX4_setUp_7 : cX4_setUp.data.toList.drop 163 = dktX4_setUp_7 := dk_seg dksX4_setUp_6 22 rfl rfl
theorem dX4_setUp_0 : decode cX4_setUp 0 = .ok (.iload_n 1, 1) := dk_27 (dk_at dksX4_setUp_0 0 rfl rfl)
theorem dX4_setUp_1 : decode cX4_setUp 1 = .ok (.ldc_w 370, 3) := dk_19 1 114 (dk_at dksX4_setUp_0 1 rfl rfl)
theorem dX4_setUp_4 : decode cX4_setUp 4 = .ok (.idiv, 1) := dk_108 (dk_at dksX4_setUp_0 4 rfl rfl)
theorem dX4_setUp_5 : decode cX4_setUp 5 = .ok (.istore_n 2, 1) := dk_61 (dk_at dksX4_setUp_0 5 rfl rfl)
theorem dX4_setUp_6 : decode cX4_setUp 6 = .ok (.iload_n 1, 1) := dk_27 (dk_at dksX4_setUp_0 6 rfl rfl)
theorem dX4_setUp_7 : decode cX4_setUp 7 = .ok (.sipush 10201, 3) := dk_17 39 217 (dk_at dksX4_setUp_0 7 rfl rfl)
theorem dX4_setUp_10 : decode cX4_setUp 10 = .ok (.idiv, 1) := dk_108 (dk_at dksX4_setUp_0 10 rfl rfl)
theorem dX4_setUp_11 : decode cX4_setUp 11 = .ok (.bipush 101, 2) := dk_16 101 (dk_at dksX4_setUp_0 11 rfl rfl)
theorem dX4_setUp_13 : decode cX4_setUp 13 = .ok (.irem, 1) := dk_112 (dk_at dksX4_setUp_0 13 rfl rfl)
theorem dX4_setUp_14 : decode cX4_setUp 14 = .ok (.iconst 1, 1) := dk_4 (dk_at dksX4_setUp_0 14 rfl rfl)
theorem dX4_setUp_15 : decode cX4_setUp 15 = .ok (.isub, 1) := dk_100 (dk_at dksX4_setUp_0 15 rfl rfl)
theorem dX4_setUp_16 : decode cX4_setUp 16 = .ok (.istore_n 3, 1) := dk_62 (dk_at dksX4_setUp_0 16 rfl rfl)
theorem dX4_setUp_17 : decode cX4_setUp 17 = .ok (.iload_n 1, 1) := dk_27 (dk_at dksX4_setUp_0 17 rfl rfl)
theorem dX4_setUp_18 : decode cX4_setUp 18 = .ok (.bipush 101, 2) := dk_16 101 (dk_at dksX4_setUp_0 18 rfl rfl)
theorem dX4_setUp_20 : decode cX4_setUp 20 = .ok (.idiv, 1) := dk_108 (dk_at dksX4_setUp_0 20 rfl rfl)
theorem dX4_setUp_21 : decode cX4_setUp 21 = .ok (.bipush 101, 2) := dk_16 101 (dk_at dksX4_setUp_0 21 rfl rfl)
theorem dX4_setUp_23 : decode cX4_setUp 23 = .ok (.irem, 1) := dk_112 (dk_at dksX4_setUp_0 23 rfl rfl)
theorem dX4_setUp_24 : decode cX4_setUp 24 = .ok (.iconst 1, 1) := dk_4 (dk_at dksX4_setUp_1 0 rfl rfl)
theorem dX4_setUp_25 : decode cX4_setUp 25 = .ok (.isub, 1) := dk_100 (dk_at dksX4_setUp_1 1 rfl rfl)
theorem dX4_setUp_26 : decode cX4_setUp 26 = .ok (.istore 4, 2) := dk_54 4 (dk_at dksX4_setUp_1 2 rfl rfl)
theorem dX4_setUp_28 : decode cX4_setUp 28 = .ok (.iload_n 1, 1) := dk_27 (dk_at dksX4_setUp_1 4 rfl rfl)
theorem dX4_setUp_29 : decode cX4_setUp 29 = .ok (.bipush 101, 2) := dk_16 101 (dk_at dksX4_setUp_1 5 rfl rfl)
theorem dX4_setUp_31 : decode cX4_setUp 31 = .ok (.irem, 1) := dk_112 (dk_at dksX4_setUp_1 7 rfl rfl)
theorem dX4_setUp_32 : decode cX4_setUp 32 = .ok (.iconst 1, 1) := dk_4 (dk_at dksX4_setUp_1 8 rfl rfl)
theorem dX4_setUp_33 : decode cX4_setUp 33 = .ok (.isub, 1) := dk_100 (dk_at dksX4_setUp_1 9 rfl rfl)
theorem dX4_setUp_34 : decode cX4_setUp 34 = .ok (.istore 5, 2) := dk_54 5 (dk_at dksX4_setUp_1 10 rfl rfl)
theorem dX4_setUp_36 : decode cX4_setUp 36 = .ok (.iconst 0, 1) := dk_3 (dk_at dksX4_setUp_1 12 rfl rfl)
theorem dX4_setUp_37 : decode cX4_setUp 37 = .ok (.istore 6, 2) := dk_54 6 (dk_at dksX4_setUp_1 13 rfl rfl)
theorem dX4_setUp_39 : decode cX4_setUp 39 = .ok (.iload 6, 2) := dk_21 6 (dk_at dksX4_setUp_1 15 rfl rfl)
theorem dX4_setUp_41 : decode cX4_setUp 41 = .ok (.aload_n 0, 1) := dk_42 (dk_at dksX4_setUp_1 17 rfl rfl)
theorem dX4_setUp_42 : decode cX4_setUp 42 = .ok (.getfield 7, 3) := dk_180 0 7 (dk_at dksX4_setUp_1 18 rfl rfl)
theorem dX4_setUp_45 : decode cX4_setUp 45 = .ok (.iconst 1, 1) := dk_4 (dk_at dksX4_setUp_1 21 rfl rfl)
theorem dX4_setUp_46 : decode cX4_setUp 46 = .ok (.iaload, 1) := dk_46 (dk_at dksX4_setUp_1 22 rfl rfl)
theorem dX4_setUp_47 : decode cX4_setUp 47 = .ok (.if_icmp .ge 137, 3) := dk_162 0 137 (dk_at dksX4_setUp_2 0 rfl rfl)
theorem dX4_setUp_50 : decode cX4_setUp 50 = .ok (.iconst 0, 1) := dk_3 (dk_at dksX4_setUp_2 3 rfl rfl)
theorem dX4_setUp_51 : decode cX4_setUp 51 = .ok (.istore 7, 2) := dk_54 7 (dk_at dksX4_setUp_2 4 rfl rfl)
theorem dX4_setUp_53 : decode cX4_setUp 53 = .ok (.iload 7, 2) := dk_21 7 (dk_at dksX4_setUp_2 6 rfl rfl)
theorem dX4_setUp_55 : decode cX4_setUp 55 = .ok (.aload_n 0, 1) := dk_42 (dk_at dksX4_setUp_2 8 rfl rfl)
theorem dX4_setUp_56 : decode cX4_setUp 56 = .ok (.getfield 25, 3) := dk_180 0 25 (dk_at dksX4_setUp_2 9 rfl rfl)
theorem dX4_setUp_59 : decode cX4_setUp 59 = .ok (.iload 6, 2) := dk_21 6 (dk_at dksX4_setUp_2 12 rfl rfl)
theorem dX4_setUp_61 : decode cX4_setUp 61 = .ok (.iaload, 1) := dk_46 (dk_at dksX4_setUp_2 14 rfl rfl)
theorem dX4_setUp_62 : decode cX4_setUp 62 = .ok (.if_icmp .ge 116, 3) := dk_162 0 116 (dk_at dksX4_setUp_2 15 rfl rfl)
theorem dX4_setUp_65 : decode cX4_setUp 65 = .ok (.aload_n 0, 1) := dk_42 (dk_at dksX4_setUp_2 18 rfl rfl)
theorem dX4_setUp_66 : decode cX4_setUp 66 = .ok (.getfield 19, 3) := dk_180 0 19 (dk_at dksX4_setUp_2 19 rfl rfl)
theorem dX4_setUp_69 : decode cX4_setUp 69 = .ok (.iload 6, 2) := dk_21 6 (dk_at dksX4_setUp_2 22 rfl rfl)
theorem dX4_setUp_71 : decode cX4_setUp 71 = .ok (.iaload, 1) := dk_46 (dk_at dksX4_setUp_3 0 rfl rfl)
theorem dX4_setUp_72 : decode cX4_setUp 72 = .ok (.iload_n 2, 1) := dk_28 (dk_at dksX4_setUp_3 1 rfl rfl)
theorem dX4_setUp_73 : decode cX4_setUp 73 = .ok (.if_icmp .ne 105, 3) := dk_160 0 105 (dk_at dksX4_setUp_3 2 rfl rfl)
theorem dX4_setUp_76 : decode cX4_setUp 76 = .ok (.aload_n 0, 1) := dk_42 (dk_at dksX4_setUp_3 5 rfl rfl)
theorem dX4_setUp_77 : decode cX4_setUp 77 = .ok (.iload 6, 2) := dk_21 6 (dk_at dksX4_setUp_3 6 rfl rfl)
theorem dX4_setUp_79 : decode cX4_setUp 79 = .ok (.iload 7, 2) := dk_21 7 (dk_at dksX4_setUp_3 8 rfl rfl)
theorem dX4_setUp_81 : decode cX4_setUp 81 = .ok (.invokevirtual 148, 3) := dk_182 0 148 (dk_at dksX4_setUp_3 10 rfl rfl)
theorem dX4_setUp_84 : decode cX4_setUp 84 = .ok (.iconst 2, 1) := dk_5 (dk_at dksX4_setUp_3 13 rfl rfl)
theorem dX4_setUp_85 : decode cX4_setUp 85 = .ok (.if_icmp .ge 87, 3) := dk_162 0 87 (dk_at dksX4_setUp_3 14 rfl rfl)
theorem dX4_setUp_88 : decode cX4_setUp 88 = .ok (.aload_n 0, 1) := dk_42 (dk_at dksX4_setUp_3 17 rfl rfl)
theorem dX4_setUp_89 : decode cX4_setUp 89 = .ok (.iload 6, 2) := dk_21 6 (dk_at dksX4_setUp_3 18 rfl rfl)
theorem dX4_setUp_91 : decode cX4_setUp 91 = .ok (.iload_n 3, 1) := dk_29 (dk_at dksX4_setUp_3 20 rfl rfl)
theorem dX4_setUp_92 : decode cX4_setUp 92 = .ok (.iload 4, 2) := dk_21 4 (dk_at dksX4_setUp_3 21 rfl rfl)
theorem dX4_setUp_94 : decode cX4_setUp 94 = .ok (.iload 5, 2) := dk_21 5 (dk_at dksX4_setUp_4 0 rfl rfl)
theorem dX4_setUp_96 : decode cX4_setUp 96 = .ok (.invokevirtual 360, 3) := dk_182 1 104 (dk_at dksX4_setUp_4 2 rfl rfl)
theorem dX4_setUp_99 : decode cX4_setUp 99 = .ok (.ifCond .eq 73, 3) := dk_153 0 73 (dk_at dksX4_setUp_4 5 rfl rfl)
theorem dX4_setUp_102 : decode cX4_setUp 102 = .ok (.aload_n 0, 1) := dk_42 (dk_at dksX4_setUp_4 8 rfl rfl)
theorem dX4_setUp_103 : decode cX4_setUp 103 = .ok (.iload 6, 2) := dk_21 6 (dk_at dksX4_setUp_4 9 rfl rfl)
theorem dX4_setUp_105 : decode cX4_setUp 105 = .ok (.iload 7, 2) := dk_21 7 (dk_at dksX4_setUp_4 11 rfl rfl)
theorem dX4_setUp_107 : decode cX4_setUp 107 = .ok (.invokevirtual 214, 3) := dk_182 0 214 (dk_at dksX4_setUp_4 13 rfl rfl)
theorem dX4_setUp_110 : decode cX4_setUp 110 = .ok (.aload_n 0, 1) := dk_42 (dk_at dksX4_setUp_4 16 rfl rfl)
theorem dX4_setUp_111 : decode cX4_setUp 111 = .ok (.getfield 367, 3) := dk_180 1 111 (dk_at dksX4_setUp_4 17 rfl rfl)
theorem dX4_setUp_114 : decode cX4_setUp 114 = .ok (.sipush 200, 3) := dk_17 0 200 (dk_at dksX4_setUp_4 20 rfl rfl)
theorem dX4_setUp_117 : decode cX4_setUp 117 = .ok (.if_icmp .gt 55, 3) := dk_163 0 55 (dk_at dksX4_setUp_5 0 rfl rfl)
theorem dX4_setUp_120 : decode cX4_setUp 120 = .ok (.aload_n 0, 1) := dk_42 (dk_at dksX4_setUp_5 3 rfl rfl)
theorem dX4_setUp_121 : decode cX4_setUp 121 = .ok (.invokevirtual 218, 3) := dk_182 0 218 (dk_at dksX4_setUp_5 4 rfl rfl)
theorem dX4_setUp_124 : decode cX4_setUp 124 = .ok (.ifCond .eq 48, 3) := dk_153 0 48 (dk_at dksX4_setUp_5 7 rfl rfl)
theorem dX4_setUp_127 : decode cX4_setUp 127 = .ok (.aload_n 0, 1) := dk_42 (dk_at dksX4_setUp_5 10 rfl rfl)
theorem dX4_setUp_128 : decode cX4_setUp 128 = .ok (.aload_n 0, 1) := dk_42 (dk_at dksX4_setUp_5 11 rfl rfl)
theorem dX4_setUp_129 : decode cX4_setUp 129 = .ok (.iload 6, 2) := dk_21 6 (dk_at dksX4_setUp_5 12 rfl rfl)
theorem dX4_setUp_131 : decode cX4_setUp 131 = .ok (.iload 7, 2) := dk_21 7 (dk_at dksX4_setUp_5 14 rfl rfl)
theorem dX4_setUp_133 : decode cX4_setUp 133 = .ok (.invokevirtual 152, 3) := dk_182 0 152 (dk_at dksX4_setUp_5 16 rfl rfl)
theorem dX4_setUp_136 : decode cX4_setUp 136 = .ok (.aload_n 0, 1) := dk_42 (dk_at dksX4_setUp_5 19 rfl rfl)
theorem dX4_setUp_137 : decode cX4_setUp 137 = .ok (.iload 6, 2) := dk_21 6 (dk_at dksX4_setUp_5 20 rfl rfl)
theorem dX4_setUp_139 : decode cX4_setUp 139 = .ok (.iload 7, 2) := dk_21 7 (dk_at dksX4_setUp_5 22 rfl rfl)
theorem dX4_setUp_141 : decode cX4_setUp 141 = .ok (.iconst 0, 1) := dk_3 (dk_at dksX4_setUp_6 0 rfl rfl)
theorem dX4_setUp_142 : decode cX4_setUp 142 = .ok (.invokevirtual 371, 3) := dk_182 1 115 (dk_at dksX4_setUp_6 1 rfl rfl)
theorem dX4_setUp_145 : decode cX4_setUp 145 = .ok (.aload_n 0, 1) := dk_42 (dk_at dksX4_setUp_6 4 rfl rfl)
theorem dX4_setUp_146 : decode cX4_setUp 146 = .ok (.iload 6, 2) := dk_21 6 (dk_at dksX4_setUp_6 5 rfl rfl)
theorem dX4_setUp_148 : decode cX4_setUp 148 = .ok (.iload 7, 2) := dk_21 7 (dk_at dksX4_setUp_6 7 rfl rfl)
theorem dX4_setUp_150 : decode cX4_setUp 150 = .ok (.iconst 1, 1) := dk_4 (dk_at dksX4_setUp_6 9 rfl rfl)
theorem dX4_setUp_151 : decode cX4_setUp 151 = .ok (.invokevirtual 371, 3) := dk_182 1 115 (dk_at dksX4_setUp_6 10 rfl rfl)
theorem dX4_setUp_154 : decode cX4_setUp 154 = .ok (.aload_n 0, 1) := dk_42 (dk_at dksX4_setUp_6 13 rfl rfl)
theorem dX4_setUp_155 : decode cX4_setUp 155 = .ok (.iload 6, 2) := dk_21 6 (dk_at dksX4_setUp_6 14 rfl rfl)
theorem dX4_setUp_157 : decode cX4_setUp 157 = .ok (.iload 7, 2) := dk_21 7 (dk_at dksX4_setUp_6 16 rfl rfl)
theorem dX4_setUp_159 : decode cX4_setUp 159 = .ok (.iconst 2, 1) := dk_5 (dk_at dksX4_setUp_6 18 rfl rfl)
theorem dX4_setUp_160 : decode cX4_setUp 160 = .ok (.invokevirtual 371, 3) := dk_182 1 115 (dk_at dksX4_setUp_6 19 rfl rfl)
theorem dX4_setUp_163 : decode cX4_setUp 163 = .ok (.invokestatic 374, 3) := dk_184 1 118 (dk_at dksX4_setUp_7 0 rfl rfl)
theorem dX4_setUp_166 : decode cX4_setUp 166 = .ok (.invokevirtual 378, 3) := dk_182 1 122 (dk_at dksX4_setUp_7 3 rfl rfl)
theorem dX4_setUp_169 : decode cX4_setUp 169 = .ok (.goto (-59), 3) := dk_167 255 197 (dk_at dksX4_setUp_7 6 rfl rfl)
theorem dX4_setUp_172 : decode cX4_setUp 172 = .ok (.iinc 7 1, 3) := dk_132 7 1 (dk_at dksX4_setUp_7 9 rfl rfl)
theorem dX4_setUp_175 : decode cX4_setUp 175 = .ok (.goto (-122), 3) := dk_167 255 134 (dk_at dksX4_setUp_7 12 rfl rfl)
theorem dX4_setUp_178 : decode cX4_setUp 178 = .ok (.iinc 6 1, 3) := dk_132 6 1 (dk_at dksX4_setUp_7 15 rfl rfl)
theorem dX4_setUp_181 : decode cX4_setUp 181 = .ok (.goto (-142), 3) := dk_167 255 114 (dk_at dksX4_setUp_7 18 rfl rfl)
theorem dX4_setUp_184 : decode cX4_setUp 184 = .ok (.return_, 1) := dk_177 (dk_at dksX4_setUp_7 21 rfl rfl)
abbrev cX4_openValue : ByteArray := prog_19_method_96_code
def yX4_openValue : MethodName := ⟨RX4, "openValue", "(III)I"⟩
def dkwX4_openValue_1 : List UInt8 := [182, 0, 168, 167, 0, 4, 2, 172]
abbrev dktX4_openValue_1 : List UInt8 := dkwX4_openValue_1 ++ []
def dkwX4_openValue_0 : List UInt8 := [29, 42, 180, 0, 13, 42, 27, 28, 182, 0, 152, 46, 162, 0, 17, 42, 42, 27, 28, 29, 182, 0, 172]
abbrev dktX4_openValue_0 : List UInt8 := dkwX4_openValue_0 ++ dktX4_openValue_1
theorem dksX4_openValue_0 : cX4_openValue.data.toList.drop 0 = dktX4_openValue_0 := by decide +kernel
theorem dksX4_openValue_1 : cX4_openValue.data.toList.drop 23 = dktX4_openValue_1 := dk_seg dksX4_openValue_0 23 rfl rfl
theorem dX4_openValue_0 : decode cX4_openValue 0 = .ok (.iload_n 3, 1) := dk_29 (dk_at dksX4_openValue_0 0 rfl rfl)
theorem dX4_openValue_1 : decode cX4_openValue 1 = .ok (.aload_n 0, 1) := dk_42 (dk_at dksX4_openValue_0 1 rfl rfl)
theorem dX4_openValue_2 : decode cX4_openValue 2 = .ok (.getfield 13, 3) := dk_180 0 13 (dk_at dksX4_openValue_0 2 rfl rfl)
theorem dX4_openValue_5 : decode cX4_openValue 5 = .ok (.aload_n 0, 1) := dk_42 (dk_at dksX4_openValue_0 5 rfl rfl)
theorem dX4_openValue_6 : decode cX4_openValue 6 = .ok (.iload_n 1, 1) := dk_27 (dk_at dksX4_openValue_0 6 rfl rfl)
theorem dX4_openValue_7 : decode cX4_openValue 7 = .ok (.iload_n 2, 1) := dk_28 (dk_at dksX4_openValue_0 7 rfl rfl)
theorem dX4_openValue_8 : decode cX4_openValue 8 = .ok (.invokevirtual 152, 3) := dk_182 0 152 (dk_at dksX4_openValue_0 8 rfl rfl)
theorem dX4_openValue_11 : decode cX4_openValue 11 = .ok (.iaload, 1) := dk_46 (dk_at dksX4_openValue_0 11 rfl rfl)
theorem dX4_openValue_12 : decode cX4_openValue 12 = .ok (.if_icmp .ge 17, 3) := dk_162 0 17 (dk_at dksX4_openValue_0 12 rfl rfl)
theorem dX4_openValue_15 : decode cX4_openValue 15 = .ok (.aload_n 0, 1) := dk_42 (dk_at dksX4_openValue_0 15 rfl rfl)
theorem dX4_openValue_16 : decode cX4_openValue 16 = .ok (.aload_n 0, 1) := dk_42 (dk_at dksX4_openValue_0 16 rfl rfl)
theorem dX4_openValue_17 : decode cX4_openValue 17 = .ok (.iload_n 1, 1) := dk_27 (dk_at dksX4_openValue_0 17 rfl rfl)
theorem dX4_openValue_18 : decode cX4_openValue 18 = .ok (.iload_n 2, 1) := dk_28 (dk_at dksX4_openValue_0 18 rfl rfl)
theorem dX4_openValue_19 : decode cX4_openValue 19 = .ok (.iload_n 3, 1) := dk_29 (dk_at dksX4_openValue_0 19 rfl rfl)
theorem dX4_openValue_20 : decode cX4_openValue 20 = .ok (.invokevirtual 172, 3) := dk_182 0 172 (dk_at dksX4_openValue_0 20 rfl rfl)
theorem dX4_openValue_23 : decode cX4_openValue 23 = .ok (.invokevirtual 168, 3) := dk_182 0 168 (dk_at dksX4_openValue_1 0 rfl rfl)
theorem dX4_openValue_26 : decode cX4_openValue 26 = .ok (.goto 4, 3) := dk_167 0 4 (dk_at dksX4_openValue_1 3 rfl rfl)
theorem dX4_openValue_29 : decode cX4_openValue 29 = .ok (.iconst (-1), 1) := dk_2 (dk_at dksX4_openValue_1 6 rfl rfl)
theorem dX4_openValue_30 : decode cX4_openValue 30 = .ok (.ireturn, 1) := dk_172 (dk_at dksX4_openValue_1 7 rfl rfl)
abbrev cX4_beginnings : ByteArray := prog_19_method_102_code
def yX4_beginnings : MethodName := ⟨RX4, "beginnings", "()I"⟩
def dkwX4_beginnings_2 : List UInt8 := [182, 1, 134, 100, 167, 0, 4, 3, 96, 60, 132, 2, 1, 167, 255, 205, 27, 172]
abbrev dktX4_beginnings_2 : List UInt8 := dkwX4_beginnings_2 ++ []
def dkwX4_beginnings_1 : List UInt8 := [42, 180, 0, 7, 4, 46, 161, 0, 9, 28, 16, 10, 161, 0, 18, 42, 180, 0, 25, 28, 46, 42, 28]
abbrev dktX4_beginnings_1 : List UInt8 := dkwX4_beginnings_1 ++ dktX4_beginnings_2
def dkwX4_beginnings_0 : List UInt8 := [42, 3, 181, 0, 131, 3, 60, 3, 61, 28, 16, 10, 42, 180, 0, 7, 5, 46, 96, 162, 0, 44, 27, 28]
abbrev dktX4_beginnings_0 : List UInt8 := dkwX4_beginnings_0 ++ dktX4_beginnings_1
theorem dksX4_beginnings_0 : cX4_beginnings.data.toList.drop 0 = dktX4_beginnings_0 := by decide +kernel
theorem dksX4_beginnings_1 : cX4_beginnings.data.toList.drop 24 = dktX4_beginnings_1 := dk_seg dksX4_beginnings_0 24 rfl rfl
theorem dksX4_beginnings_2 : cX4_beginnings.data.toList.drop 47 = dktX4_beginnings_2 := dk_seg dksX4_beginnings_1 23 rfl rfl
theorem dX4_beginnings_0 : decode cX4_beginnings 0 = .ok (.aload_n 0, 1) := dk_42 (dk_at dksX4_beginnings_0 0 rfl rfl)
theorem dX4_beginnings_1 : decode cX4_beginnings 1 = .ok (.iconst 0, 1) := dk_3 (dk_at dksX4_beginnings_0 1 rfl rfl)
theorem dX4_beginnings_2 : decode cX4_beginnings 2 = .ok (.putfield 131, 3) := dk_181 0 131 (dk_at dksX4_beginnings_0 2 rfl rfl)
theorem dX4_beginnings_5 : decode cX4_beginnings 5 = .ok (.iconst 0, 1) := dk_3 (dk_at dksX4_beginnings_0 5 rfl rfl)
theorem dX4_beginnings_6 : decode cX4_beginnings 6 = .ok (.istore_n 1, 1) := dk_60 (dk_at dksX4_beginnings_0 6 rfl rfl)
theorem dX4_beginnings_7 : decode cX4_beginnings 7 = .ok (.iconst 0, 1) := dk_3 (dk_at dksX4_beginnings_0 7 rfl rfl)
theorem dX4_beginnings_8 : decode cX4_beginnings 8 = .ok (.istore_n 2, 1) := dk_61 (dk_at dksX4_beginnings_0 8 rfl rfl)
theorem dX4_beginnings_9 : decode cX4_beginnings 9 = .ok (.iload_n 2, 1) := dk_28 (dk_at dksX4_beginnings_0 9 rfl rfl)
theorem dX4_beginnings_10 : decode cX4_beginnings 10 = .ok (.bipush 10, 2) := dk_16 10 (dk_at dksX4_beginnings_0 10 rfl rfl)
theorem dX4_beginnings_12 : decode cX4_beginnings 12 = .ok (.aload_n 0, 1) := dk_42 (dk_at dksX4_beginnings_0 12 rfl rfl)
theorem dX4_beginnings_13 : decode cX4_beginnings 13 = .ok (.getfield 7, 3) := dk_180 0 7 (dk_at dksX4_beginnings_0 13 rfl rfl)
theorem dX4_beginnings_16 : decode cX4_beginnings 16 = .ok (.iconst 2, 1) := dk_5 (dk_at dksX4_beginnings_0 16 rfl rfl)
theorem dX4_beginnings_17 : decode cX4_beginnings 17 = .ok (.iaload, 1) := dk_46 (dk_at dksX4_beginnings_0 17 rfl rfl)
theorem dX4_beginnings_18 : decode cX4_beginnings 18 = .ok (.iadd, 1) := dk_96 (dk_at dksX4_beginnings_0 18 rfl rfl)
theorem dX4_beginnings_19 : decode cX4_beginnings 19 = .ok (.if_icmp .ge 44, 3) := dk_162 0 44 (dk_at dksX4_beginnings_0 19 rfl rfl)
theorem dX4_beginnings_22 : decode cX4_beginnings 22 = .ok (.iload_n 1, 1) := dk_27 (dk_at dksX4_beginnings_0 22 rfl rfl)
theorem dX4_beginnings_23 : decode cX4_beginnings 23 = .ok (.iload_n 2, 1) := dk_28 (dk_at dksX4_beginnings_0 23 rfl rfl)
theorem dX4_beginnings_24 : decode cX4_beginnings 24 = .ok (.aload_n 0, 1) := dk_42 (dk_at dksX4_beginnings_1 0 rfl rfl)
theorem dX4_beginnings_25 : decode cX4_beginnings 25 = .ok (.getfield 7, 3) := dk_180 0 7 (dk_at dksX4_beginnings_1 1 rfl rfl)
theorem dX4_beginnings_28 : decode cX4_beginnings 28 = .ok (.iconst 1, 1) := dk_4 (dk_at dksX4_beginnings_1 4 rfl rfl)
theorem dX4_beginnings_29 : decode cX4_beginnings 29 = .ok (.iaload, 1) := dk_46 (dk_at dksX4_beginnings_1 5 rfl rfl)
theorem dX4_beginnings_30 : decode cX4_beginnings 30 = .ok (.if_icmp .lt 9, 3) := dk_161 0 9 (dk_at dksX4_beginnings_1 6 rfl rfl)
theorem dX4_beginnings_33 : decode cX4_beginnings 33 = .ok (.iload_n 2, 1) := dk_28 (dk_at dksX4_beginnings_1 9 rfl rfl)
theorem dX4_beginnings_34 : decode cX4_beginnings 34 = .ok (.bipush 10, 2) := dk_16 10 (dk_at dksX4_beginnings_1 10 rfl rfl)
theorem dX4_beginnings_36 : decode cX4_beginnings 36 = .ok (.if_icmp .lt 18, 3) := dk_161 0 18 (dk_at dksX4_beginnings_1 12 rfl rfl)
theorem dX4_beginnings_39 : decode cX4_beginnings 39 = .ok (.aload_n 0, 1) := dk_42 (dk_at dksX4_beginnings_1 15 rfl rfl)
theorem dX4_beginnings_40 : decode cX4_beginnings 40 = .ok (.getfield 25, 3) := dk_180 0 25 (dk_at dksX4_beginnings_1 16 rfl rfl)
theorem dX4_beginnings_43 : decode cX4_beginnings 43 = .ok (.iload_n 2, 1) := dk_28 (dk_at dksX4_beginnings_1 19 rfl rfl)
theorem dX4_beginnings_44 : decode cX4_beginnings 44 = .ok (.iaload, 1) := dk_46 (dk_at dksX4_beginnings_1 20 rfl rfl)
theorem dX4_beginnings_45 : decode cX4_beginnings 45 = .ok (.aload_n 0, 1) := dk_42 (dk_at dksX4_beginnings_1 21 rfl rfl)
theorem dX4_beginnings_46 : decode cX4_beginnings 46 = .ok (.iload_n 2, 1) := dk_28 (dk_at dksX4_beginnings_1 22 rfl rfl)
theorem dX4_beginnings_47 : decode cX4_beginnings 47 = .ok (.invokevirtual 390, 3) := dk_182 1 134 (dk_at dksX4_beginnings_2 0 rfl rfl)
theorem dX4_beginnings_50 : decode cX4_beginnings 50 = .ok (.isub, 1) := dk_100 (dk_at dksX4_beginnings_2 3 rfl rfl)
theorem dX4_beginnings_51 : decode cX4_beginnings 51 = .ok (.goto 4, 3) := dk_167 0 4 (dk_at dksX4_beginnings_2 4 rfl rfl)
theorem dX4_beginnings_54 : decode cX4_beginnings 54 = .ok (.iconst 0, 1) := dk_3 (dk_at dksX4_beginnings_2 7 rfl rfl)
theorem dX4_beginnings_55 : decode cX4_beginnings 55 = .ok (.iadd, 1) := dk_96 (dk_at dksX4_beginnings_2 8 rfl rfl)
theorem dX4_beginnings_56 : decode cX4_beginnings 56 = .ok (.istore_n 1, 1) := dk_60 (dk_at dksX4_beginnings_2 9 rfl rfl)
theorem dX4_beginnings_57 : decode cX4_beginnings 57 = .ok (.iinc 2 1, 3) := dk_132 2 1 (dk_at dksX4_beginnings_2 10 rfl rfl)
theorem dX4_beginnings_60 : decode cX4_beginnings 60 = .ok (.goto (-51), 3) := dk_167 255 205 (dk_at dksX4_beginnings_2 13 rfl rfl)
theorem dX4_beginnings_63 : decode cX4_beginnings 63 = .ok (.iload_n 1, 1) := dk_27 (dk_at dksX4_beginnings_2 16 rfl rfl)
theorem dX4_beginnings_64 : decode cX4_beginnings 64 = .ok (.ireturn, 1) := dk_172 (dk_at dksX4_beginnings_2 17 rfl rfl)
abbrev cX4_alikeAhead : ByteArray := prog_19_method_101_code
def yX4_alikeAhead : MethodName := ⟨RX4, "alikeAhead", "(I)I"⟩
def dkwX4_alikeAhead_4 : List UInt8 := [132, 3, 1, 167, 255, 165, 28, 172]
abbrev dktX4_alikeAhead_4 : List UInt8 := dkwX4_alikeAhead_4 ++ []
def dkwX4_alikeAhead_3 : List UInt8 := [153, 0, 9, 132, 5, 1, 167, 255, 215, 21, 5, 28, 164, 0, 8, 21, 5, 167, 0, 4, 28, 61]
abbrev dktX4_alikeAhead_3 : List UInt8 := dkwX4_alikeAhead_3 ++ dktX4_alikeAhead_4
def dkwX4_alikeAhead_2 : List UInt8 := [27, 46, 162, 0, 31, 21, 5, 42, 180, 0, 25, 29, 46, 162, 0, 20, 42, 27, 29, 21, 5, 182, 1, 131]
abbrev dktX4_alikeAhead_2 : List UInt8 := dkwX4_alikeAhead_2 ++ dktX4_alikeAhead_3
def dkwX4_alikeAhead_1 : List UInt8 := [161, 0, 7, 4, 167, 0, 4, 3, 54, 4, 3, 54, 5, 21, 4, 153, 0, 42, 21, 5, 42, 180, 0, 25]
abbrev dktX4_alikeAhead_1 : List UInt8 := dkwX4_alikeAhead_1 ++ dktX4_alikeAhead_2
def dkwX4_alikeAhead_0 : List UInt8 := [3, 61, 3, 62, 29, 27, 162, 0, 92, 29, 42, 180, 0, 7, 4, 46, 161, 0, 9, 29, 16, 10]
abbrev dktX4_alikeAhead_0 : List UInt8 := dkwX4_alikeAhead_0 ++ dktX4_alikeAhead_1
theorem dksX4_alikeAhead_0 : cX4_alikeAhead.data.toList.drop 0 = dktX4_alikeAhead_0 := by decide +kernel
theorem dksX4_alikeAhead_1 : cX4_alikeAhead.data.toList.drop 22 = dktX4_alikeAhead_1 := dk_seg dksX4_alikeAhead_0 22 rfl rfl
theorem dksX4_alikeAhead_2 : cX4_alikeAhead.data.toList.drop 46 = dktX4_alikeAhead_2 := dk_seg dksX4_alikeAhead_1 24 rfl rfl
theorem dksX4_alikeAhead_3 : cX4_alikeAhead.data.toList.drop 70 = dktX4_alikeAhead_3 := dk_seg dksX4_alikeAhead_2 24 rfl rfl
theorem dksX4_alikeAhead_4 : cX4_alikeAhead.data.toList.drop 92 = dktX4_alikeAhead_4 := dk_seg dksX4_alikeAhead_3 22 rfl rfl
theorem dX4_alikeAhead_0 : decode cX4_alikeAhead 0 = .ok (.iconst 0, 1) := dk_3 (dk_at dksX4_alikeAhead_0 0 rfl rfl)
theorem dX4_alikeAhead_1 : decode cX4_alikeAhead 1 = .ok (.istore_n 2, 1) := dk_61 (dk_at dksX4_alikeAhead_0 1 rfl rfl)
theorem dX4_alikeAhead_2 : decode cX4_alikeAhead 2 = .ok (.iconst 0, 1) := dk_3 (dk_at dksX4_alikeAhead_0 2 rfl rfl)
theorem dX4_alikeAhead_3 : decode cX4_alikeAhead 3 = .ok (.istore_n 3, 1) := dk_62 (dk_at dksX4_alikeAhead_0 3 rfl rfl)
theorem dX4_alikeAhead_4 : decode cX4_alikeAhead 4 = .ok (.iload_n 3, 1) := dk_29 (dk_at dksX4_alikeAhead_0 4 rfl rfl)
theorem dX4_alikeAhead_5 : decode cX4_alikeAhead 5 = .ok (.iload_n 1, 1) := dk_27 (dk_at dksX4_alikeAhead_0 5 rfl rfl)
theorem dX4_alikeAhead_6 : decode cX4_alikeAhead 6 = .ok (.if_icmp .ge 92, 3) := dk_162 0 92 (dk_at dksX4_alikeAhead_0 6 rfl rfl)
theorem dX4_alikeAhead_9 : decode cX4_alikeAhead 9 = .ok (.iload_n 3, 1) := dk_29 (dk_at dksX4_alikeAhead_0 9 rfl rfl)
theorem dX4_alikeAhead_10 : decode cX4_alikeAhead 10 = .ok (.aload_n 0, 1) := dk_42 (dk_at dksX4_alikeAhead_0 10 rfl rfl)
theorem dX4_alikeAhead_11 : decode cX4_alikeAhead 11 = .ok (.getfield 7, 3) := dk_180 0 7 (dk_at dksX4_alikeAhead_0 11 rfl rfl)
theorem dX4_alikeAhead_14 : decode cX4_alikeAhead 14 = .ok (.iconst 1, 1) := dk_4 (dk_at dksX4_alikeAhead_0 14 rfl rfl)
theorem dX4_alikeAhead_15 : decode cX4_alikeAhead 15 = .ok (.iaload, 1) := dk_46 (dk_at dksX4_alikeAhead_0 15 rfl rfl)
theorem dX4_alikeAhead_16 : decode cX4_alikeAhead 16 = .ok (.if_icmp .lt 9, 3) := dk_161 0 9 (dk_at dksX4_alikeAhead_0 16 rfl rfl)
theorem dX4_alikeAhead_19 : decode cX4_alikeAhead 19 = .ok (.iload_n 3, 1) := dk_29 (dk_at dksX4_alikeAhead_0 19 rfl rfl)
theorem dX4_alikeAhead_20 : decode cX4_alikeAhead 20 = .ok (.bipush 10, 2) := dk_16 10 (dk_at dksX4_alikeAhead_0 20 rfl rfl)
theorem dX4_alikeAhead_22 : decode cX4_alikeAhead 22 = .ok (.if_icmp .lt 7, 3) := dk_161 0 7 (dk_at dksX4_alikeAhead_1 0 rfl rfl)
theorem dX4_alikeAhead_25 : decode cX4_alikeAhead 25 = .ok (.iconst 1, 1) := dk_4 (dk_at dksX4_alikeAhead_1 3 rfl rfl)
theorem dX4_alikeAhead_26 : decode cX4_alikeAhead 26 = .ok (.goto 4, 3) := dk_167 0 4 (dk_at dksX4_alikeAhead_1 4 rfl rfl)
theorem dX4_alikeAhead_29 : decode cX4_alikeAhead 29 = .ok (.iconst 0, 1) := dk_3 (dk_at dksX4_alikeAhead_1 7 rfl rfl)
theorem dX4_alikeAhead_30 : decode cX4_alikeAhead 30 = .ok (.istore 4, 2) := dk_54 4 (dk_at dksX4_alikeAhead_1 8 rfl rfl)
theorem dX4_alikeAhead_32 : decode cX4_alikeAhead 32 = .ok (.iconst 0, 1) := dk_3 (dk_at dksX4_alikeAhead_1 10 rfl rfl)
theorem dX4_alikeAhead_33 : decode cX4_alikeAhead 33 = .ok (.istore 5, 2) := dk_54 5 (dk_at dksX4_alikeAhead_1 11 rfl rfl)
theorem dX4_alikeAhead_35 : decode cX4_alikeAhead 35 = .ok (.iload 4, 2) := dk_21 4 (dk_at dksX4_alikeAhead_1 13 rfl rfl)
theorem dX4_alikeAhead_37 : decode cX4_alikeAhead 37 = .ok (.ifCond .eq 42, 3) := dk_153 0 42 (dk_at dksX4_alikeAhead_1 15 rfl rfl)
theorem dX4_alikeAhead_40 : decode cX4_alikeAhead 40 = .ok (.iload 5, 2) := dk_21 5 (dk_at dksX4_alikeAhead_1 18 rfl rfl)
theorem dX4_alikeAhead_42 : decode cX4_alikeAhead 42 = .ok (.aload_n 0, 1) := dk_42 (dk_at dksX4_alikeAhead_1 20 rfl rfl)
theorem dX4_alikeAhead_43 : decode cX4_alikeAhead 43 = .ok (.getfield 25, 3) := dk_180 0 25 (dk_at dksX4_alikeAhead_1 21 rfl rfl)
theorem dX4_alikeAhead_46 : decode cX4_alikeAhead 46 = .ok (.iload_n 1, 1) := dk_27 (dk_at dksX4_alikeAhead_2 0 rfl rfl)
theorem dX4_alikeAhead_47 : decode cX4_alikeAhead 47 = .ok (.iaload, 1) := dk_46 (dk_at dksX4_alikeAhead_2 1 rfl rfl)
theorem dX4_alikeAhead_48 : decode cX4_alikeAhead 48 = .ok (.if_icmp .ge 31, 3) := dk_162 0 31 (dk_at dksX4_alikeAhead_2 2 rfl rfl)
theorem dX4_alikeAhead_51 : decode cX4_alikeAhead 51 = .ok (.iload 5, 2) := dk_21 5 (dk_at dksX4_alikeAhead_2 5 rfl rfl)
theorem dX4_alikeAhead_53 : decode cX4_alikeAhead 53 = .ok (.aload_n 0, 1) := dk_42 (dk_at dksX4_alikeAhead_2 7 rfl rfl)
theorem dX4_alikeAhead_54 : decode cX4_alikeAhead 54 = .ok (.getfield 25, 3) := dk_180 0 25 (dk_at dksX4_alikeAhead_2 8 rfl rfl)
theorem dX4_alikeAhead_57 : decode cX4_alikeAhead 57 = .ok (.iload_n 3, 1) := dk_29 (dk_at dksX4_alikeAhead_2 11 rfl rfl)
theorem dX4_alikeAhead_58 : decode cX4_alikeAhead 58 = .ok (.iaload, 1) := dk_46 (dk_at dksX4_alikeAhead_2 12 rfl rfl)
theorem dX4_alikeAhead_59 : decode cX4_alikeAhead 59 = .ok (.if_icmp .ge 20, 3) := dk_162 0 20 (dk_at dksX4_alikeAhead_2 13 rfl rfl)
theorem dX4_alikeAhead_62 : decode cX4_alikeAhead 62 = .ok (.aload_n 0, 1) := dk_42 (dk_at dksX4_alikeAhead_2 16 rfl rfl)
theorem dX4_alikeAhead_63 : decode cX4_alikeAhead 63 = .ok (.iload_n 1, 1) := dk_27 (dk_at dksX4_alikeAhead_2 17 rfl rfl)
theorem dX4_alikeAhead_64 : decode cX4_alikeAhead 64 = .ok (.iload_n 3, 1) := dk_29 (dk_at dksX4_alikeAhead_2 18 rfl rfl)
theorem dX4_alikeAhead_65 : decode cX4_alikeAhead 65 = .ok (.iload 5, 2) := dk_21 5 (dk_at dksX4_alikeAhead_2 19 rfl rfl)
theorem dX4_alikeAhead_67 : decode cX4_alikeAhead 67 = .ok (.invokevirtual 387, 3) := dk_182 1 131 (dk_at dksX4_alikeAhead_2 21 rfl rfl)
theorem dX4_alikeAhead_70 : decode cX4_alikeAhead 70 = .ok (.ifCond .eq 9, 3) := dk_153 0 9 (dk_at dksX4_alikeAhead_3 0 rfl rfl)
theorem dX4_alikeAhead_73 : decode cX4_alikeAhead 73 = .ok (.iinc 5 1, 3) := dk_132 5 1 (dk_at dksX4_alikeAhead_3 3 rfl rfl)
theorem dX4_alikeAhead_76 : decode cX4_alikeAhead 76 = .ok (.goto (-41), 3) := dk_167 255 215 (dk_at dksX4_alikeAhead_3 6 rfl rfl)
theorem dX4_alikeAhead_79 : decode cX4_alikeAhead 79 = .ok (.iload 5, 2) := dk_21 5 (dk_at dksX4_alikeAhead_3 9 rfl rfl)
theorem dX4_alikeAhead_81 : decode cX4_alikeAhead 81 = .ok (.iload_n 2, 1) := dk_28 (dk_at dksX4_alikeAhead_3 11 rfl rfl)
theorem dX4_alikeAhead_82 : decode cX4_alikeAhead 82 = .ok (.if_icmp .le 8, 3) := dk_164 0 8 (dk_at dksX4_alikeAhead_3 12 rfl rfl)
theorem dX4_alikeAhead_85 : decode cX4_alikeAhead 85 = .ok (.iload 5, 2) := dk_21 5 (dk_at dksX4_alikeAhead_3 15 rfl rfl)
theorem dX4_alikeAhead_87 : decode cX4_alikeAhead 87 = .ok (.goto 4, 3) := dk_167 0 4 (dk_at dksX4_alikeAhead_3 17 rfl rfl)
theorem dX4_alikeAhead_90 : decode cX4_alikeAhead 90 = .ok (.iload_n 2, 1) := dk_28 (dk_at dksX4_alikeAhead_3 20 rfl rfl)
theorem dX4_alikeAhead_91 : decode cX4_alikeAhead 91 = .ok (.istore_n 2, 1) := dk_61 (dk_at dksX4_alikeAhead_3 21 rfl rfl)
theorem dX4_alikeAhead_92 : decode cX4_alikeAhead 92 = .ok (.iinc 3 1, 3) := dk_132 3 1 (dk_at dksX4_alikeAhead_4 0 rfl rfl)
theorem dX4_alikeAhead_95 : decode cX4_alikeAhead 95 = .ok (.goto (-91), 3) := dk_167 255 165 (dk_at dksX4_alikeAhead_4 3 rfl rfl)
theorem dX4_alikeAhead_98 : decode cX4_alikeAhead 98 = .ok (.iload_n 2, 1) := dk_28 (dk_at dksX4_alikeAhead_4 6 rfl rfl)
theorem dX4_alikeAhead_99 : decode cX4_alikeAhead 99 = .ok (.ireturn, 1) := dk_172 (dk_at dksX4_alikeAhead_4 7 rfl rfl)
abbrev cX4_areAlike : ByteArray := prog_19_method_100_code
def yX4_areAlike : MethodName := ⟨RX4, "areAlike", "(III)Z"⟩
def dkwX4_areAlike_6 : List UInt8 := [182, 1, 128, 160, 0, 7, 4, 167, 0, 4, 3, 54, 4, 132, 5, 1, 167, 255, 137, 21, 4, 172]
abbrev dktX4_areAlike_6 : List UInt8 := dkwX4_areAlike_6 ++ []
def dkwX4_areAlike_5 : List UInt8 := [162, 0, 13, 21, 6, 21, 7, 160, 0, 27, 167, 0, 20, 42, 27, 21, 6, 182, 1, 128, 42, 28, 21, 7]
abbrev dktX4_areAlike_5 : List UInt8 := dkwX4_areAlike_5 ++ dktX4_areAlike_6
def dkwX4_areAlike_4 : List UInt8 := [4, 167, 0, 4, 3, 160, 0, 7, 4, 167, 0, 4, 3, 54, 4, 21, 4, 153, 0, 41, 21, 6, 16, 100]
abbrev dktX4_areAlike_4 : List UInt8 := dkwX4_areAlike_4 ++ dktX4_areAlike_5
def dkwX4_areAlike_3 : List UInt8 := [182, 0, 172, 54, 7, 21, 6, 16, 100, 161, 0, 7, 4, 167, 0, 4, 3, 21, 7, 16, 100, 161, 0, 7]
abbrev dktX4_areAlike_3 : List UInt8 := dkwX4_areAlike_3 ++ dktX4_areAlike_4
def dkwX4_areAlike_2 : List UInt8 := [27, 29, 182, 1, 43, 162, 0, 109, 42, 27, 29, 21, 5, 182, 0, 172, 54, 6, 42, 28, 29, 21, 5]
abbrev dktX4_areAlike_2 : List UInt8 := dkwX4_areAlike_2 ++ dktX4_areAlike_3
def dkwX4_areAlike_1 : List UInt8 := [182, 0, 152, 160, 0, 7, 4, 167, 0, 4, 3, 54, 4, 3, 54, 5, 21, 4, 153, 0, 120, 21, 5, 42]
abbrev dktX4_areAlike_1 : List UInt8 := dkwX4_areAlike_1 ++ dktX4_areAlike_2
def dkwX4_areAlike_0 : List UInt8 := [42, 27, 29, 182, 0, 148, 42, 28, 29, 182, 0, 148, 160, 0, 22, 42, 27, 29, 182, 0, 152, 42, 28, 29]
abbrev dktX4_areAlike_0 : List UInt8 := dkwX4_areAlike_0 ++ dktX4_areAlike_1
theorem dksX4_areAlike_0 : cX4_areAlike.data.toList.drop 0 = dktX4_areAlike_0 := by decide +kernel
theorem dksX4_areAlike_1 : cX4_areAlike.data.toList.drop 24 = dktX4_areAlike_1 := dk_seg dksX4_areAlike_0 24 rfl rfl
theorem dksX4_areAlike_2 : cX4_areAlike.data.toList.drop 48 = dktX4_areAlike_2 := dk_seg dksX4_areAlike_1 24 rfl rfl
theorem dksX4_areAlike_3 : cX4_areAlike.data.toList.drop 71 = dktX4_areAlike_3 := dk_seg dksX4_areAlike_2 23 rfl rfl
theorem dksX4_areAlike_4 : cX4_areAlike.data.toList.drop 95 = dktX4_areAlike_4 := dk_seg dksX4_areAlike_3 24 rfl rfl
theorem dksX4_areAlike_5 : cX4_areAlike.data.toList.drop 119 = dktX4_areAlike_5 := dk_seg dksX4_areAlike_4 24 rfl rfl
theorem dksX4_areAlike_6 : cX4_areAlike.data.toList.drop 143 = dktX4_areAlike_6 := dk_seg dksX4_areAlike_5 24 rfl rfl
theorem dX4_areAlike_0 : decode cX4_areAlike 0 = .ok (.aload_n 0, 1) := dk_42 (dk_at dksX4_areAlike_0 0 rfl rfl)
theorem dX4_areAlike_1 : decode cX4_areAlike 1 = .ok (.iload_n 1, 1) := dk_27 (dk_at dksX4_areAlike_0 1 rfl rfl)
theorem dX4_areAlike_2 : decode cX4_areAlike 2 = .ok (.iload_n 3, 1) := dk_29 (dk_at dksX4_areAlike_0 2 rfl rfl)
theorem dX4_areAlike_3 : decode cX4_areAlike 3 = .ok (.invokevirtual 148, 3) := dk_182 0 148 (dk_at dksX4_areAlike_0 3 rfl rfl)
theorem dX4_areAlike_6 : decode cX4_areAlike 6 = .ok (.aload_n 0, 1) := dk_42 (dk_at dksX4_areAlike_0 6 rfl rfl)
theorem dX4_areAlike_7 : decode cX4_areAlike 7 = .ok (.iload_n 2, 1) := dk_28 (dk_at dksX4_areAlike_0 7 rfl rfl)
theorem dX4_areAlike_8 : decode cX4_areAlike 8 = .ok (.iload_n 3, 1) := dk_29 (dk_at dksX4_areAlike_0 8 rfl rfl)
theorem dX4_areAlike_9 : decode cX4_areAlike 9 = .ok (.invokevirtual 148, 3) := dk_182 0 148 (dk_at dksX4_areAlike_0 9 rfl rfl)
theorem dX4_areAlike_12 : decode cX4_areAlike 12 = .ok (.if_icmp .ne 22, 3) := dk_160 0 22 (dk_at dksX4_areAlike_0 12 rfl rfl)
theorem dX4_areAlike_15 : decode cX4_areAlike 15 = .ok (.aload_n 0, 1) := dk_42 (dk_at dksX4_areAlike_0 15 rfl rfl)
theorem dX4_areAlike_16 : decode cX4_areAlike 16 = .ok (.iload_n 1, 1) := dk_27 (dk_at dksX4_areAlike_0 16 rfl rfl)
theorem dX4_areAlike_17 : decode cX4_areAlike 17 = .ok (.iload_n 3, 1) := dk_29 (dk_at dksX4_areAlike_0 17 rfl rfl)
theorem dX4_areAlike_18 : decode cX4_areAlike 18 = .ok (.invokevirtual 152, 3) := dk_182 0 152 (dk_at dksX4_areAlike_0 18 rfl rfl)
theorem dX4_areAlike_21 : decode cX4_areAlike 21 = .ok (.aload_n 0, 1) := dk_42 (dk_at dksX4_areAlike_0 21 rfl rfl)
theorem dX4_areAlike_22 : decode cX4_areAlike 22 = .ok (.iload_n 2, 1) := dk_28 (dk_at dksX4_areAlike_0 22 rfl rfl)
theorem dX4_areAlike_23 : decode cX4_areAlike 23 = .ok (.iload_n 3, 1) := dk_29 (dk_at dksX4_areAlike_0 23 rfl rfl)
theorem dX4_areAlike_24 : decode cX4_areAlike 24 = .ok (.invokevirtual 152, 3) := dk_182 0 152 (dk_at dksX4_areAlike_1 0 rfl rfl)
theorem dX4_areAlike_27 : decode cX4_areAlike 27 = .ok (.if_icmp .ne 7, 3) := dk_160 0 7 (dk_at dksX4_areAlike_1 3 rfl rfl)
theorem dX4_areAlike_30 : decode cX4_areAlike 30 = .ok (.iconst 1, 1) := dk_4 (dk_at dksX4_areAlike_1 6 rfl rfl)
theorem dX4_areAlike_31 : decode cX4_areAlike 31 = .ok (.goto 4, 3) := dk_167 0 4 (dk_at dksX4_areAlike_1 7 rfl rfl)
theorem dX4_areAlike_34 : decode cX4_areAlike 34 = .ok (.iconst 0, 1) := dk_3 (dk_at dksX4_areAlike_1 10 rfl rfl)
theorem dX4_areAlike_35 : decode cX4_areAlike 35 = .ok (.istore 4, 2) := dk_54 4 (dk_at dksX4_areAlike_1 11 rfl rfl)
theorem dX4_areAlike_37 : decode cX4_areAlike 37 = .ok (.iconst 0, 1) := dk_3 (dk_at dksX4_areAlike_1 13 rfl rfl)
theorem dX4_areAlike_38 : decode cX4_areAlike 38 = .ok (.istore 5, 2) := dk_54 5 (dk_at dksX4_areAlike_1 14 rfl rfl)
theorem dX4_areAlike_40 : decode cX4_areAlike 40 = .ok (.iload 4, 2) := dk_21 4 (dk_at dksX4_areAlike_1 16 rfl rfl)
theorem dX4_areAlike_42 : decode cX4_areAlike 42 = .ok (.ifCond .eq 120, 3) := dk_153 0 120 (dk_at dksX4_areAlike_1 18 rfl rfl)
theorem dX4_areAlike_45 : decode cX4_areAlike 45 = .ok (.iload 5, 2) := dk_21 5 (dk_at dksX4_areAlike_1 21 rfl rfl)
theorem dX4_areAlike_47 : decode cX4_areAlike 47 = .ok (.aload_n 0, 1) := dk_42 (dk_at dksX4_areAlike_1 23 rfl rfl)
theorem dX4_areAlike_48 : decode cX4_areAlike 48 = .ok (.iload_n 1, 1) := dk_27 (dk_at dksX4_areAlike_2 0 rfl rfl)
theorem dX4_areAlike_49 : decode cX4_areAlike 49 = .ok (.iload_n 3, 1) := dk_29 (dk_at dksX4_areAlike_2 1 rfl rfl)
theorem dX4_areAlike_50 : decode cX4_areAlike 50 = .ok (.invokevirtual 299, 3) := dk_182 1 43 (dk_at dksX4_areAlike_2 2 rfl rfl)
theorem dX4_areAlike_53 : decode cX4_areAlike 53 = .ok (.if_icmp .ge 109, 3) := dk_162 0 109 (dk_at dksX4_areAlike_2 5 rfl rfl)
theorem dX4_areAlike_56 : decode cX4_areAlike 56 = .ok (.aload_n 0, 1) := dk_42 (dk_at dksX4_areAlike_2 8 rfl rfl)
theorem dX4_areAlike_57 : decode cX4_areAlike 57 = .ok (.iload_n 1, 1) := dk_27 (dk_at dksX4_areAlike_2 9 rfl rfl)
theorem dX4_areAlike_58 : decode cX4_areAlike 58 = .ok (.iload_n 3, 1) := dk_29 (dk_at dksX4_areAlike_2 10 rfl rfl)
theorem dX4_areAlike_59 : decode cX4_areAlike 59 = .ok (.iload 5, 2) := dk_21 5 (dk_at dksX4_areAlike_2 11 rfl rfl)
theorem dX4_areAlike_61 : decode cX4_areAlike 61 = .ok (.invokevirtual 172, 3) := dk_182 0 172 (dk_at dksX4_areAlike_2 13 rfl rfl)
theorem dX4_areAlike_64 : decode cX4_areAlike 64 = .ok (.istore 6, 2) := dk_54 6 (dk_at dksX4_areAlike_2 16 rfl rfl)
theorem dX4_areAlike_66 : decode cX4_areAlike 66 = .ok (.aload_n 0, 1) := dk_42 (dk_at dksX4_areAlike_2 18 rfl rfl)
theorem dX4_areAlike_67 : decode cX4_areAlike 67 = .ok (.iload_n 2, 1) := dk_28 (dk_at dksX4_areAlike_2 19 rfl rfl)
theorem dX4_areAlike_68 : decode cX4_areAlike 68 = .ok (.iload_n 3, 1) := dk_29 (dk_at dksX4_areAlike_2 20 rfl rfl)
theorem dX4_areAlike_69 : decode cX4_areAlike 69 = .ok (.iload 5, 2) := dk_21 5 (dk_at dksX4_areAlike_2 21 rfl rfl)
theorem dX4_areAlike_71 : decode cX4_areAlike 71 = .ok (.invokevirtual 172, 3) := dk_182 0 172 (dk_at dksX4_areAlike_3 0 rfl rfl)
theorem dX4_areAlike_74 : decode cX4_areAlike 74 = .ok (.istore 7, 2) := dk_54 7 (dk_at dksX4_areAlike_3 3 rfl rfl)
theorem dX4_areAlike_76 : decode cX4_areAlike 76 = .ok (.iload 6, 2) := dk_21 6 (dk_at dksX4_areAlike_3 5 rfl rfl)
theorem dX4_areAlike_78 : decode cX4_areAlike 78 = .ok (.bipush 100, 2) := dk_16 100 (dk_at dksX4_areAlike_3 7 rfl rfl)
theorem dX4_areAlike_80 : decode cX4_areAlike 80 = .ok (.if_icmp .lt 7, 3) := dk_161 0 7 (dk_at dksX4_areAlike_3 9 rfl rfl)
theorem dX4_areAlike_83 : decode cX4_areAlike 83 = .ok (.iconst 1, 1) := dk_4 (dk_at dksX4_areAlike_3 12 rfl rfl)
theorem dX4_areAlike_84 : decode cX4_areAlike 84 = .ok (.goto 4, 3) := dk_167 0 4 (dk_at dksX4_areAlike_3 13 rfl rfl)
theorem dX4_areAlike_87 : decode cX4_areAlike 87 = .ok (.iconst 0, 1) := dk_3 (dk_at dksX4_areAlike_3 16 rfl rfl)
theorem dX4_areAlike_88 : decode cX4_areAlike 88 = .ok (.iload 7, 2) := dk_21 7 (dk_at dksX4_areAlike_3 17 rfl rfl)
theorem dX4_areAlike_90 : decode cX4_areAlike 90 = .ok (.bipush 100, 2) := dk_16 100 (dk_at dksX4_areAlike_3 19 rfl rfl)
theorem dX4_areAlike_92 : decode cX4_areAlike 92 = .ok (.if_icmp .lt 7, 3) := dk_161 0 7 (dk_at dksX4_areAlike_3 21 rfl rfl)
theorem dX4_areAlike_95 : decode cX4_areAlike 95 = .ok (.iconst 1, 1) := dk_4 (dk_at dksX4_areAlike_4 0 rfl rfl)
theorem dX4_areAlike_96 : decode cX4_areAlike 96 = .ok (.goto 4, 3) := dk_167 0 4 (dk_at dksX4_areAlike_4 1 rfl rfl)
theorem dX4_areAlike_99 : decode cX4_areAlike 99 = .ok (.iconst 0, 1) := dk_3 (dk_at dksX4_areAlike_4 4 rfl rfl)
theorem dX4_areAlike_100 : decode cX4_areAlike 100 = .ok (.if_icmp .ne 7, 3) := dk_160 0 7 (dk_at dksX4_areAlike_4 5 rfl rfl)
theorem dX4_areAlike_103 : decode cX4_areAlike 103 = .ok (.iconst 1, 1) := dk_4 (dk_at dksX4_areAlike_4 8 rfl rfl)
theorem dX4_areAlike_104 : decode cX4_areAlike 104 = .ok (.goto 4, 3) := dk_167 0 4 (dk_at dksX4_areAlike_4 9 rfl rfl)
theorem dX4_areAlike_107 : decode cX4_areAlike 107 = .ok (.iconst 0, 1) := dk_3 (dk_at dksX4_areAlike_4 12 rfl rfl)
theorem dX4_areAlike_108 : decode cX4_areAlike 108 = .ok (.istore 4, 2) := dk_54 4 (dk_at dksX4_areAlike_4 13 rfl rfl)
theorem dX4_areAlike_110 : decode cX4_areAlike 110 = .ok (.iload 4, 2) := dk_21 4 (dk_at dksX4_areAlike_4 15 rfl rfl)
theorem dX4_areAlike_112 : decode cX4_areAlike 112 = .ok (.ifCond .eq 41, 3) := dk_153 0 41 (dk_at dksX4_areAlike_4 17 rfl rfl)
theorem dX4_areAlike_115 : decode cX4_areAlike 115 = .ok (.iload 6, 2) := dk_21 6 (dk_at dksX4_areAlike_4 20 rfl rfl)
theorem dX4_areAlike_117 : decode cX4_areAlike 117 = .ok (.bipush 100, 2) := dk_16 100 (dk_at dksX4_areAlike_4 22 rfl rfl)
theorem dX4_areAlike_119 : decode cX4_areAlike 119 = .ok (.if_icmp .ge 13, 3) := dk_162 0 13 (dk_at dksX4_areAlike_5 0 rfl rfl)
theorem dX4_areAlike_122 : decode cX4_areAlike 122 = .ok (.iload 6, 2) := dk_21 6 (dk_at dksX4_areAlike_5 3 rfl rfl)
theorem dX4_areAlike_124 : decode cX4_areAlike 124 = .ok (.iload 7, 2) := dk_21 7 (dk_at dksX4_areAlike_5 5 rfl rfl)
theorem dX4_areAlike_126 : decode cX4_areAlike 126 = .ok (.if_icmp .ne 27, 3) := dk_160 0 27 (dk_at dksX4_areAlike_5 7 rfl rfl)
theorem dX4_areAlike_129 : decode cX4_areAlike 129 = .ok (.goto 20, 3) := dk_167 0 20 (dk_at dksX4_areAlike_5 10 rfl rfl)
theorem dX4_areAlike_132 : decode cX4_areAlike 132 = .ok (.aload_n 0, 1) := dk_42 (dk_at dksX4_areAlike_5 13 rfl rfl)
theorem dX4_areAlike_133 : decode cX4_areAlike 133 = .ok (.iload_n 1, 1) := dk_27 (dk_at dksX4_areAlike_5 14 rfl rfl)
theorem dX4_areAlike_134 : decode cX4_areAlike 134 = .ok (.iload 6, 2) := dk_21 6 (dk_at dksX4_areAlike_5 15 rfl rfl)
theorem dX4_areAlike_136 : decode cX4_areAlike 136 = .ok (.invokevirtual 384, 3) := dk_182 1 128 (dk_at dksX4_areAlike_5 17 rfl rfl)
theorem dX4_areAlike_139 : decode cX4_areAlike 139 = .ok (.aload_n 0, 1) := dk_42 (dk_at dksX4_areAlike_5 20 rfl rfl)
theorem dX4_areAlike_140 : decode cX4_areAlike 140 = .ok (.iload_n 2, 1) := dk_28 (dk_at dksX4_areAlike_5 21 rfl rfl)
theorem dX4_areAlike_141 : decode cX4_areAlike 141 = .ok (.iload 7, 2) := dk_21 7 (dk_at dksX4_areAlike_5 22 rfl rfl)
theorem dX4_areAlike_143 : decode cX4_areAlike 143 = .ok (.invokevirtual 384, 3) := dk_182 1 128 (dk_at dksX4_areAlike_6 0 rfl rfl)
theorem dX4_areAlike_146 : decode cX4_areAlike 146 = .ok (.if_icmp .ne 7, 3) := dk_160 0 7 (dk_at dksX4_areAlike_6 3 rfl rfl)
theorem dX4_areAlike_149 : decode cX4_areAlike 149 = .ok (.iconst 1, 1) := dk_4 (dk_at dksX4_areAlike_6 6 rfl rfl)
theorem dX4_areAlike_150 : decode cX4_areAlike 150 = .ok (.goto 4, 3) := dk_167 0 4 (dk_at dksX4_areAlike_6 7 rfl rfl)
theorem dX4_areAlike_153 : decode cX4_areAlike 153 = .ok (.iconst 0, 1) := dk_3 (dk_at dksX4_areAlike_6 10 rfl rfl)
theorem dX4_areAlike_154 : decode cX4_areAlike 154 = .ok (.istore 4, 2) := dk_54 4 (dk_at dksX4_areAlike_6 11 rfl rfl)
theorem dX4_areAlike_156 : decode cX4_areAlike 156 = .ok (.iinc 5 1, 3) := dk_132 5 1 (dk_at dksX4_areAlike_6 13 rfl rfl)
theorem dX4_areAlike_159 : decode cX4_areAlike 159 = .ok (.goto (-119), 3) := dk_167 255 137 (dk_at dksX4_areAlike_6 16 rfl rfl)
theorem dX4_areAlike_162 : decode cX4_areAlike 162 = .ok (.iload 4, 2) := dk_21 4 (dk_at dksX4_areAlike_6 19 rfl rfl)
theorem dX4_areAlike_164 : decode cX4_areAlike 164 = .ok (.ireturn, 1) := dk_172 (dk_at dksX4_areAlike_6 21 rfl rfl)
abbrev cX4_renamed : ByteArray := prog_19_method_99_code
def yX4_renamed : MethodName := ⟨RX4, "renamed", "(II)I"⟩
def dkwX4_renamed_5 : List UInt8 := [167, 255, 161, 132, 5, 1, 167, 255, 141, 21, 4, 172]
abbrev dktX4_renamed_5 : List UInt8 := dkwX4_renamed_5 ++ []
def dkwX4_renamed_4 : List UInt8 := [167, 0, 4, 3, 128, 62, 21, 4, 21, 8, 153, 0, 7, 4, 167, 0, 4, 3, 96, 54, 4, 132, 6, 1]
abbrev dktX4_renamed_4 : List UInt8 := dkwX4_renamed_4 ++ dktX4_renamed_5
def dkwX4_renamed_3 : List UInt8 := [154, 0, 7, 4, 167, 0, 4, 3, 54, 8, 29, 21, 8, 153, 0, 13, 4, 21, 7, 16, 100, 100, 120]
abbrev dktX4_renamed_3 : List UInt8 := dkwX4_renamed_3 ++ dktX4_renamed_4
def dkwX4_renamed_2 : List UInt8 := [160, 0, 6, 21, 4, 172, 21, 7, 16, 100, 161, 0, 19, 29, 21, 7, 16, 100, 100, 122, 4, 126]
abbrev dktX4_renamed_2 : List UInt8 := dkwX4_renamed_2 ++ dktX4_renamed_3
def dkwX4_renamed_1 : List UInt8 := [42, 27, 21, 5, 182, 1, 43, 162, 0, 89, 42, 27, 21, 5, 21, 6, 182, 0, 172, 54, 7, 21, 7, 28]
abbrev dktX4_renamed_1 : List UInt8 := dkwX4_renamed_1 ++ dktX4_renamed_2
def dkwX4_renamed_0 : List UInt8 := [3, 62, 3, 54, 4, 3, 54, 5, 21, 5, 42, 180, 0, 25, 27, 46, 162, 0, 110, 3, 54, 6, 21, 6]
abbrev dktX4_renamed_0 : List UInt8 := dkwX4_renamed_0 ++ dktX4_renamed_1
theorem dksX4_renamed_0 : cX4_renamed.data.toList.drop 0 = dktX4_renamed_0 := by decide +kernel
theorem dksX4_renamed_1 : cX4_renamed.data.toList.drop 24 = dktX4_renamed_1 := dk_seg dksX4_renamed_0 24 rfl rfl
theorem dksX4_renamed_2 : cX4_renamed.data.toList.drop 48 = dktX4_renamed_2 := dk_seg dksX4_renamed_1 24 rfl rfl
theorem dksX4_renamed_3 : cX4_renamed.data.toList.drop 70 = dktX4_renamed_3 := dk_seg dksX4_renamed_2 22 rfl rfl
theorem dksX4_renamed_4 : cX4_renamed.data.toList.drop 93 = dktX4_renamed_4 := dk_seg dksX4_renamed_3 23 rfl rfl
theorem dksX4_renamed_5 : cX4_renamed.data.toList.drop 117 = dktX4_renamed_5 := dk_seg dksX4_renamed_4 24 rfl rfl
theorem dX4_renamed_0 : decode cX4_renamed 0 = .ok (.iconst 0, 1) := dk_3 (dk_at dksX4_renamed_0 0 rfl rfl)
theorem dX4_renamed_1 : decode cX4_renamed 1 = .ok (.istore_n 3, 1) := dk_62 (dk_at dksX4_renamed_0 1 rfl rfl)
theorem dX4_renamed_2 : decode cX4_renamed 2 = .ok (.iconst 0, 1) := dk_3 (dk_at dksX4_renamed_0 2 rfl rfl)
theorem dX4_renamed_3 : decode cX4_renamed 3 = .ok (.istore 4, 2) := dk_54 4 (dk_at dksX4_renamed_0 3 rfl rfl)
theorem dX4_renamed_5 : decode cX4_renamed 5 = .ok (.iconst 0, 1) := dk_3 (dk_at dksX4_renamed_0 5 rfl rfl)
theorem dX4_renamed_6 : decode cX4_renamed 6 = .ok (.istore 5, 2) := dk_54 5 (dk_at dksX4_renamed_0 6 rfl rfl)
theorem dX4_renamed_8 : decode cX4_renamed 8 = .ok (.iload 5, 2) := dk_21 5 (dk_at dksX4_renamed_0 8 rfl rfl)
theorem dX4_renamed_10 : decode cX4_renamed 10 = .ok (.aload_n 0, 1) := dk_42 (dk_at dksX4_renamed_0 10 rfl rfl)
theorem dX4_renamed_11 : decode cX4_renamed 11 = .ok (.getfield 25, 3) := dk_180 0 25 (dk_at dksX4_renamed_0 11 rfl rfl)
theorem dX4_renamed_14 : decode cX4_renamed 14 = .ok (.iload_n 1, 1) := dk_27 (dk_at dksX4_renamed_0 14 rfl rfl)
theorem dX4_renamed_15 : decode cX4_renamed 15 = .ok (.iaload, 1) := dk_46 (dk_at dksX4_renamed_0 15 rfl rfl)
theorem dX4_renamed_16 : decode cX4_renamed 16 = .ok (.if_icmp .ge 110, 3) := dk_162 0 110 (dk_at dksX4_renamed_0 16 rfl rfl)
theorem dX4_renamed_19 : decode cX4_renamed 19 = .ok (.iconst 0, 1) := dk_3 (dk_at dksX4_renamed_0 19 rfl rfl)
theorem dX4_renamed_20 : decode cX4_renamed 20 = .ok (.istore 6, 2) := dk_54 6 (dk_at dksX4_renamed_0 20 rfl rfl)
theorem dX4_renamed_22 : decode cX4_renamed 22 = .ok (.iload 6, 2) := dk_21 6 (dk_at dksX4_renamed_0 22 rfl rfl)
theorem dX4_renamed_24 : decode cX4_renamed 24 = .ok (.aload_n 0, 1) := dk_42 (dk_at dksX4_renamed_1 0 rfl rfl)
theorem dX4_renamed_25 : decode cX4_renamed 25 = .ok (.iload_n 1, 1) := dk_27 (dk_at dksX4_renamed_1 1 rfl rfl)
theorem dX4_renamed_26 : decode cX4_renamed 26 = .ok (.iload 5, 2) := dk_21 5 (dk_at dksX4_renamed_1 2 rfl rfl)
theorem dX4_renamed_28 : decode cX4_renamed 28 = .ok (.invokevirtual 299, 3) := dk_182 1 43 (dk_at dksX4_renamed_1 4 rfl rfl)
theorem dX4_renamed_31 : decode cX4_renamed 31 = .ok (.if_icmp .ge 89, 3) := dk_162 0 89 (dk_at dksX4_renamed_1 7 rfl rfl)
theorem dX4_renamed_34 : decode cX4_renamed 34 = .ok (.aload_n 0, 1) := dk_42 (dk_at dksX4_renamed_1 10 rfl rfl)
theorem dX4_renamed_35 : decode cX4_renamed 35 = .ok (.iload_n 1, 1) := dk_27 (dk_at dksX4_renamed_1 11 rfl rfl)
theorem dX4_renamed_36 : decode cX4_renamed 36 = .ok (.iload 5, 2) := dk_21 5 (dk_at dksX4_renamed_1 12 rfl rfl)
theorem dX4_renamed_38 : decode cX4_renamed 38 = .ok (.iload 6, 2) := dk_21 6 (dk_at dksX4_renamed_1 14 rfl rfl)
theorem dX4_renamed_40 : decode cX4_renamed 40 = .ok (.invokevirtual 172, 3) := dk_182 0 172 (dk_at dksX4_renamed_1 16 rfl rfl)
theorem dX4_renamed_43 : decode cX4_renamed 43 = .ok (.istore 7, 2) := dk_54 7 (dk_at dksX4_renamed_1 19 rfl rfl)
theorem dX4_renamed_45 : decode cX4_renamed 45 = .ok (.iload 7, 2) := dk_21 7 (dk_at dksX4_renamed_1 21 rfl rfl)
theorem dX4_renamed_47 : decode cX4_renamed 47 = .ok (.iload_n 2, 1) := dk_28 (dk_at dksX4_renamed_1 23 rfl rfl)
theorem dX4_renamed_48 : decode cX4_renamed 48 = .ok (.if_icmp .ne 6, 3) := dk_160 0 6 (dk_at dksX4_renamed_2 0 rfl rfl)
theorem dX4_renamed_51 : decode cX4_renamed 51 = .ok (.iload 4, 2) := dk_21 4 (dk_at dksX4_renamed_2 3 rfl rfl)
theorem dX4_renamed_53 : decode cX4_renamed 53 = .ok (.ireturn, 1) := dk_172 (dk_at dksX4_renamed_2 5 rfl rfl)
theorem dX4_renamed_54 : decode cX4_renamed 54 = .ok (.iload 7, 2) := dk_21 7 (dk_at dksX4_renamed_2 6 rfl rfl)
theorem dX4_renamed_56 : decode cX4_renamed 56 = .ok (.bipush 100, 2) := dk_16 100 (dk_at dksX4_renamed_2 8 rfl rfl)
theorem dX4_renamed_58 : decode cX4_renamed 58 = .ok (.if_icmp .lt 19, 3) := dk_161 0 19 (dk_at dksX4_renamed_2 10 rfl rfl)
theorem dX4_renamed_61 : decode cX4_renamed 61 = .ok (.iload_n 3, 1) := dk_29 (dk_at dksX4_renamed_2 13 rfl rfl)
theorem dX4_renamed_62 : decode cX4_renamed 62 = .ok (.iload 7, 2) := dk_21 7 (dk_at dksX4_renamed_2 14 rfl rfl)
theorem dX4_renamed_64 : decode cX4_renamed 64 = .ok (.bipush 100, 2) := dk_16 100 (dk_at dksX4_renamed_2 16 rfl rfl)
theorem dX4_renamed_66 : decode cX4_renamed 66 = .ok (.isub, 1) := dk_100 (dk_at dksX4_renamed_2 18 rfl rfl)
theorem dX4_renamed_67 : decode cX4_renamed 67 = .ok (.ishr, 1) := dk_122 (dk_at dksX4_renamed_2 19 rfl rfl)
theorem dX4_renamed_68 : decode cX4_renamed 68 = .ok (.iconst 1, 1) := dk_4 (dk_at dksX4_renamed_2 20 rfl rfl)
theorem dX4_renamed_69 : decode cX4_renamed 69 = .ok (.iand, 1) := dk_126 (dk_at dksX4_renamed_2 21 rfl rfl)
theorem dX4_renamed_70 : decode cX4_renamed 70 = .ok (.ifCond .ne 7, 3) := dk_154 0 7 (dk_at dksX4_renamed_3 0 rfl rfl)
theorem dX4_renamed_73 : decode cX4_renamed 73 = .ok (.iconst 1, 1) := dk_4 (dk_at dksX4_renamed_3 3 rfl rfl)
theorem dX4_renamed_74 : decode cX4_renamed 74 = .ok (.goto 4, 3) := dk_167 0 4 (dk_at dksX4_renamed_3 4 rfl rfl)
theorem dX4_renamed_77 : decode cX4_renamed 77 = .ok (.iconst 0, 1) := dk_3 (dk_at dksX4_renamed_3 7 rfl rfl)
theorem dX4_renamed_78 : decode cX4_renamed 78 = .ok (.istore 8, 2) := dk_54 8 (dk_at dksX4_renamed_3 8 rfl rfl)
theorem dX4_renamed_80 : decode cX4_renamed 80 = .ok (.iload_n 3, 1) := dk_29 (dk_at dksX4_renamed_3 10 rfl rfl)
theorem dX4_renamed_81 : decode cX4_renamed 81 = .ok (.iload 8, 2) := dk_21 8 (dk_at dksX4_renamed_3 11 rfl rfl)
theorem dX4_renamed_83 : decode cX4_renamed 83 = .ok (.ifCond .eq 13, 3) := dk_153 0 13 (dk_at dksX4_renamed_3 13 rfl rfl)
theorem dX4_renamed_86 : decode cX4_renamed 86 = .ok (.iconst 1, 1) := dk_4 (dk_at dksX4_renamed_3 16 rfl rfl)
theorem dX4_renamed_87 : decode cX4_renamed 87 = .ok (.iload 7, 2) := dk_21 7 (dk_at dksX4_renamed_3 17 rfl rfl)
theorem dX4_renamed_89 : decode cX4_renamed 89 = .ok (.bipush 100, 2) := dk_16 100 (dk_at dksX4_renamed_3 19 rfl rfl)
theorem dX4_renamed_91 : decode cX4_renamed 91 = .ok (.isub, 1) := dk_100 (dk_at dksX4_renamed_3 21 rfl rfl)
theorem dX4_renamed_92 : decode cX4_renamed 92 = .ok (.ishl, 1) := dk_120 (dk_at dksX4_renamed_3 22 rfl rfl)
theorem dX4_renamed_93 : decode cX4_renamed 93 = .ok (.goto 4, 3) := dk_167 0 4 (dk_at dksX4_renamed_4 0 rfl rfl)
theorem dX4_renamed_96 : decode cX4_renamed 96 = .ok (.iconst 0, 1) := dk_3 (dk_at dksX4_renamed_4 3 rfl rfl)
theorem dX4_renamed_97 : decode cX4_renamed 97 = .ok (.ior, 1) := dk_128 (dk_at dksX4_renamed_4 4 rfl rfl)
theorem dX4_renamed_98 : decode cX4_renamed 98 = .ok (.istore_n 3, 1) := dk_62 (dk_at dksX4_renamed_4 5 rfl rfl)
theorem dX4_renamed_99 : decode cX4_renamed 99 = .ok (.iload 4, 2) := dk_21 4 (dk_at dksX4_renamed_4 6 rfl rfl)
theorem dX4_renamed_101 : decode cX4_renamed 101 = .ok (.iload 8, 2) := dk_21 8 (dk_at dksX4_renamed_4 8 rfl rfl)
theorem dX4_renamed_103 : decode cX4_renamed 103 = .ok (.ifCond .eq 7, 3) := dk_153 0 7 (dk_at dksX4_renamed_4 10 rfl rfl)
theorem dX4_renamed_106 : decode cX4_renamed 106 = .ok (.iconst 1, 1) := dk_4 (dk_at dksX4_renamed_4 13 rfl rfl)
theorem dX4_renamed_107 : decode cX4_renamed 107 = .ok (.goto 4, 3) := dk_167 0 4 (dk_at dksX4_renamed_4 14 rfl rfl)
theorem dX4_renamed_110 : decode cX4_renamed 110 = .ok (.iconst 0, 1) := dk_3 (dk_at dksX4_renamed_4 17 rfl rfl)
theorem dX4_renamed_111 : decode cX4_renamed 111 = .ok (.iadd, 1) := dk_96 (dk_at dksX4_renamed_4 18 rfl rfl)
theorem dX4_renamed_112 : decode cX4_renamed 112 = .ok (.istore 4, 2) := dk_54 4 (dk_at dksX4_renamed_4 19 rfl rfl)
theorem dX4_renamed_114 : decode cX4_renamed 114 = .ok (.iinc 6 1, 3) := dk_132 6 1 (dk_at dksX4_renamed_4 21 rfl rfl)
theorem dX4_renamed_117 : decode cX4_renamed 117 = .ok (.goto (-95), 3) := dk_167 255 161 (dk_at dksX4_renamed_5 0 rfl rfl)
theorem dX4_renamed_120 : decode cX4_renamed 120 = .ok (.iinc 5 1, 3) := dk_132 5 1 (dk_at dksX4_renamed_5 3 rfl rfl)
theorem dX4_renamed_123 : decode cX4_renamed 123 = .ok (.goto (-115), 3) := dk_167 255 141 (dk_at dksX4_renamed_5 6 rfl rfl)
theorem dX4_renamed_126 : decode cX4_renamed 126 = .ok (.iload 4, 2) := dk_21 4 (dk_at dksX4_renamed_5 9 rfl rfl)
theorem dX4_renamed_128 : decode cX4_renamed 128 = .ok (.ireturn, 1) := dk_172 (dk_at dksX4_renamed_5 11 rfl rfl)
abbrev cX4_matches : ByteArray := prog_19_method_104_code
def yX4_matches : MethodName := ⟨RX4, "matches", "(II)I"⟩
def dkwX4_matches_2 : List UInt8 := [29, 28, 182, 0, 214, 42, 182, 1, 137, 172]
abbrev dktX4_matches_2 : List UInt8 := dkwX4_matches_2 ++ []
def dkwX4_matches_1 : List UInt8 := [184, 0, 135, 153, 0, 7, 3, 167, 0, 4, 5, 182, 1, 10, 154, 0, 5, 3, 172, 42, 182, 0, 211, 42]
abbrev dktX4_matches_1 : List UInt8 := dkwX4_matches_1 ++ dktX4_matches_2
def dkwX4_matches_0 : List UInt8 := [42, 27, 182, 1, 76, 62, 42, 29, 2, 160, 0, 7, 4, 167, 0, 22, 28, 4, 42, 180, 0, 25, 29, 46]
abbrev dktX4_matches_0 : List UInt8 := dkwX4_matches_0 ++ dktX4_matches_1
theorem dksX4_matches_0 : cX4_matches.data.toList.drop 0 = dktX4_matches_0 := by decide +kernel
theorem dksX4_matches_1 : cX4_matches.data.toList.drop 24 = dktX4_matches_1 := dk_seg dksX4_matches_0 24 rfl rfl
theorem dksX4_matches_2 : cX4_matches.data.toList.drop 48 = dktX4_matches_2 := dk_seg dksX4_matches_1 24 rfl rfl
theorem dX4_matches_0 : decode cX4_matches 0 = .ok (.aload_n 0, 1) := dk_42 (dk_at dksX4_matches_0 0 rfl rfl)
theorem dX4_matches_1 : decode cX4_matches 1 = .ok (.iload_n 1, 1) := dk_27 (dk_at dksX4_matches_0 1 rfl rfl)
theorem dX4_matches_2 : decode cX4_matches 2 = .ok (.invokevirtual 332, 3) := dk_182 1 76 (dk_at dksX4_matches_0 2 rfl rfl)
theorem dX4_matches_5 : decode cX4_matches 5 = .ok (.istore_n 3, 1) := dk_62 (dk_at dksX4_matches_0 5 rfl rfl)
theorem dX4_matches_6 : decode cX4_matches 6 = .ok (.aload_n 0, 1) := dk_42 (dk_at dksX4_matches_0 6 rfl rfl)
theorem dX4_matches_7 : decode cX4_matches 7 = .ok (.iload_n 3, 1) := dk_29 (dk_at dksX4_matches_0 7 rfl rfl)
theorem dX4_matches_8 : decode cX4_matches 8 = .ok (.iconst (-1), 1) := dk_2 (dk_at dksX4_matches_0 8 rfl rfl)
theorem dX4_matches_9 : decode cX4_matches 9 = .ok (.if_icmp .ne 7, 3) := dk_160 0 7 (dk_at dksX4_matches_0 9 rfl rfl)
theorem dX4_matches_12 : decode cX4_matches 12 = .ok (.iconst 1, 1) := dk_4 (dk_at dksX4_matches_0 12 rfl rfl)
theorem dX4_matches_13 : decode cX4_matches 13 = .ok (.goto 22, 3) := dk_167 0 22 (dk_at dksX4_matches_0 13 rfl rfl)
theorem dX4_matches_16 : decode cX4_matches 16 = .ok (.iload_n 2, 1) := dk_28 (dk_at dksX4_matches_0 16 rfl rfl)
theorem dX4_matches_17 : decode cX4_matches 17 = .ok (.iconst 1, 1) := dk_4 (dk_at dksX4_matches_0 17 rfl rfl)
theorem dX4_matches_18 : decode cX4_matches 18 = .ok (.aload_n 0, 1) := dk_42 (dk_at dksX4_matches_0 18 rfl rfl)
theorem dX4_matches_19 : decode cX4_matches 19 = .ok (.getfield 25, 3) := dk_180 0 25 (dk_at dksX4_matches_0 19 rfl rfl)
theorem dX4_matches_22 : decode cX4_matches 22 = .ok (.iload_n 3, 1) := dk_29 (dk_at dksX4_matches_0 22 rfl rfl)
theorem dX4_matches_23 : decode cX4_matches 23 = .ok (.iaload, 1) := dk_46 (dk_at dksX4_matches_0 23 rfl rfl)
theorem dX4_matches_24 : decode cX4_matches 24 = .ok (.invokestatic 135, 3) := dk_184 0 135 (dk_at dksX4_matches_1 0 rfl rfl)
theorem dX4_matches_27 : decode cX4_matches 27 = .ok (.ifCond .eq 7, 3) := dk_153 0 7 (dk_at dksX4_matches_1 3 rfl rfl)
theorem dX4_matches_30 : decode cX4_matches 30 = .ok (.iconst 0, 1) := dk_3 (dk_at dksX4_matches_1 6 rfl rfl)
theorem dX4_matches_31 : decode cX4_matches 31 = .ok (.goto 4, 3) := dk_167 0 4 (dk_at dksX4_matches_1 7 rfl rfl)
theorem dX4_matches_34 : decode cX4_matches 34 = .ok (.iconst 2, 1) := dk_5 (dk_at dksX4_matches_1 10 rfl rfl)
theorem dX4_matches_35 : decode cX4_matches 35 = .ok (.invokevirtual 266, 3) := dk_182 1 10 (dk_at dksX4_matches_1 11 rfl rfl)
theorem dX4_matches_38 : decode cX4_matches 38 = .ok (.ifCond .ne 5, 3) := dk_154 0 5 (dk_at dksX4_matches_1 14 rfl rfl)
theorem dX4_matches_41 : decode cX4_matches 41 = .ok (.iconst 0, 1) := dk_3 (dk_at dksX4_matches_1 17 rfl rfl)
theorem dX4_matches_42 : decode cX4_matches 42 = .ok (.ireturn, 1) := dk_172 (dk_at dksX4_matches_1 18 rfl rfl)
theorem dX4_matches_43 : decode cX4_matches 43 = .ok (.aload_n 0, 1) := dk_42 (dk_at dksX4_matches_1 19 rfl rfl)
theorem dX4_matches_44 : decode cX4_matches 44 = .ok (.invokevirtual 211, 3) := dk_182 0 211 (dk_at dksX4_matches_1 20 rfl rfl)
theorem dX4_matches_47 : decode cX4_matches 47 = .ok (.aload_n 0, 1) := dk_42 (dk_at dksX4_matches_1 23 rfl rfl)
theorem dX4_matches_48 : decode cX4_matches 48 = .ok (.iload_n 3, 1) := dk_29 (dk_at dksX4_matches_2 0 rfl rfl)
theorem dX4_matches_49 : decode cX4_matches 49 = .ok (.iload_n 2, 1) := dk_28 (dk_at dksX4_matches_2 1 rfl rfl)
theorem dX4_matches_50 : decode cX4_matches 50 = .ok (.invokevirtual 214, 3) := dk_182 0 214 (dk_at dksX4_matches_2 2 rfl rfl)
theorem dX4_matches_53 : decode cX4_matches 53 = .ok (.aload_n 0, 1) := dk_42 (dk_at dksX4_matches_2 5 rfl rfl)
theorem dX4_matches_54 : decode cX4_matches 54 = .ok (.invokevirtual 393, 3) := dk_182 1 137 (dk_at dksX4_matches_2 6 rfl rfl)
theorem dX4_matches_57 : decode cX4_matches 57 = .ok (.ireturn, 1) := dk_172 (dk_at dksX4_matches_2 9 rfl rfl)
abbrev cX4_countMatches : ByteArray := prog_19_method_103_code
def yX4_countMatches : MethodName := ⟨RX4, "countMatches", "()I"⟩
def dkwX4_countMatches_0 : List UInt8 := [3, 60, 42, 182, 0, 218, 153, 0, 9, 132, 1, 1, 167, 255, 246, 27, 172]
abbrev dktX4_countMatches_0 : List UInt8 := dkwX4_countMatches_0 ++ []
theorem dksX4_countMatches_0 : cX4_countMatches.data.toList.drop 0 = dktX4_countMatches_0 := by decide +kernel
theorem dX4_countMatches_0 : decode cX4_countMatches 0 = .ok (.iconst 0, 1) := dk_3 (dk_at dksX4_countMatches_0 0 rfl rfl)
theorem dX4_countMatches_1 : decode cX4_countMatches 1 = .ok (.istore_n 1, 1) := dk_60 (dk_at dksX4_countMatches_0 1 rfl rfl)
theorem dX4_countMatches_2 : decode cX4_countMatches 2 = .ok (.aload_n 0, 1) := dk_42 (dk_at dksX4_countMatches_0 2 rfl rfl)
theorem dX4_countMatches_3 : decode cX4_countMatches 3 = .ok (.invokevirtual 218, 3) := dk_182 0 218 (dk_at dksX4_countMatches_0 3 rfl rfl)
theorem dX4_countMatches_6 : decode cX4_countMatches 6 = .ok (.ifCond .eq 9, 3) := dk_153 0 9 (dk_at dksX4_countMatches_0 6 rfl rfl)
theorem dX4_countMatches_9 : decode cX4_countMatches 9 = .ok (.iinc 1 1, 3) := dk_132 1 1 (dk_at dksX4_countMatches_0 9 rfl rfl)
theorem dX4_countMatches_12 : decode cX4_countMatches 12 = .ok (.goto (-10), 3) := dk_167 255 246 (dk_at dksX4_countMatches_0 12 rfl rfl)
theorem dX4_countMatches_15 : decode cX4_countMatches 15 = .ok (.iload_n 1, 1) := dk_27 (dk_at dksX4_countMatches_0 15 rfl rfl)
theorem dX4_countMatches_16 : decode cX4_countMatches 16 = .ok (.ireturn, 1) := dk_172 (dk_at dksX4_countMatches_0 16 rfl rfl)
abbrev cX4_planAt : ByteArray := prog_19_method_109_code
def yX4_planAt : MethodName := ⟨RX4, "planAt", "(II)I"⟩
def dkwX4_planAt_2 : List UInt8 := [180, 0, 125, 28, 46, 172]
abbrev dktX4_planAt_2 : List UInt8 := dkwX4_planAt_2 ++ []
def dkwX4_planAt_1 : List UInt8 := [153, 0, 7, 3, 167, 0, 4, 4, 182, 1, 10, 154, 0, 5, 3, 172, 42, 29, 182, 1, 149, 42]
abbrev dktX4_planAt_1 : List UInt8 := dkwX4_planAt_1 ++ dktX4_planAt_2
def dkwX4_planAt_0 : List UInt8 := [42, 27, 182, 1, 76, 62, 42, 29, 2, 159, 0, 22, 28, 3, 42, 29, 182, 1, 61, 4, 100, 184, 0, 135]
abbrev dktX4_planAt_0 : List UInt8 := dkwX4_planAt_0 ++ dktX4_planAt_1
theorem dksX4_planAt_0 : cX4_planAt.data.toList.drop 0 = dktX4_planAt_0 := by decide +kernel
theorem dksX4_planAt_1 : cX4_planAt.data.toList.drop 24 = dktX4_planAt_1 := dk_seg dksX4_planAt_0 24 rfl rfl
theorem dksX4_planAt_2 : cX4_planAt.data.toList.drop 46 = dktX4_planAt_2 := dk_seg dksX4_planAt_1 22 rfl rfl
theorem dX4_planAt_0 : decode cX4_planAt 0 = .ok (.aload_n 0, 1) := dk_42 (dk_at dksX4_planAt_0 0 rfl rfl)
theorem dX4_planAt_1 : decode cX4_planAt 1 = .ok (.iload_n 1, 1) := dk_27 (dk_at dksX4_planAt_0 1 rfl rfl)
theorem dX4_planAt_2 : decode cX4_planAt 2 = .ok (.invokevirtual 332, 3) := dk_182 1 76 (dk_at dksX4_planAt_0 2 rfl rfl)
theorem dX4_planAt_5 : decode cX4_planAt 5 = .ok (.istore_n 3, 1) := dk_62 (dk_at dksX4_planAt_0 5 rfl rfl)
theorem dX4_planAt_6 : decode cX4_planAt 6 = .ok (.aload_n 0, 1) := dk_42 (dk_at dksX4_planAt_0 6 rfl rfl)
theorem dX4_planAt_7 : decode cX4_planAt 7 = .ok (.iload_n 3, 1) := dk_29 (dk_at dksX4_planAt_0 7 rfl rfl)
theorem dX4_planAt_8 : decode cX4_planAt 8 = .ok (.iconst (-1), 1) := dk_2 (dk_at dksX4_planAt_0 8 rfl rfl)
theorem dX4_planAt_9 : decode cX4_planAt 9 = .ok (.if_icmp .eq 22, 3) := dk_159 0 22 (dk_at dksX4_planAt_0 9 rfl rfl)
theorem dX4_planAt_12 : decode cX4_planAt 12 = .ok (.iload_n 2, 1) := dk_28 (dk_at dksX4_planAt_0 12 rfl rfl)
theorem dX4_planAt_13 : decode cX4_planAt 13 = .ok (.iconst 0, 1) := dk_3 (dk_at dksX4_planAt_0 13 rfl rfl)
theorem dX4_planAt_14 : decode cX4_planAt 14 = .ok (.aload_n 0, 1) := dk_42 (dk_at dksX4_planAt_0 14 rfl rfl)
theorem dX4_planAt_15 : decode cX4_planAt 15 = .ok (.iload_n 3, 1) := dk_29 (dk_at dksX4_planAt_0 15 rfl rfl)
theorem dX4_planAt_16 : decode cX4_planAt 16 = .ok (.invokevirtual 317, 3) := dk_182 1 61 (dk_at dksX4_planAt_0 16 rfl rfl)
theorem dX4_planAt_19 : decode cX4_planAt 19 = .ok (.iconst 1, 1) := dk_4 (dk_at dksX4_planAt_0 19 rfl rfl)
theorem dX4_planAt_20 : decode cX4_planAt 20 = .ok (.isub, 1) := dk_100 (dk_at dksX4_planAt_0 20 rfl rfl)
theorem dX4_planAt_21 : decode cX4_planAt 21 = .ok (.invokestatic 135, 3) := dk_184 0 135 (dk_at dksX4_planAt_0 21 rfl rfl)
theorem dX4_planAt_24 : decode cX4_planAt 24 = .ok (.ifCond .eq 7, 3) := dk_153 0 7 (dk_at dksX4_planAt_1 0 rfl rfl)
theorem dX4_planAt_27 : decode cX4_planAt 27 = .ok (.iconst 0, 1) := dk_3 (dk_at dksX4_planAt_1 3 rfl rfl)
theorem dX4_planAt_28 : decode cX4_planAt 28 = .ok (.goto 4, 3) := dk_167 0 4 (dk_at dksX4_planAt_1 4 rfl rfl)
theorem dX4_planAt_31 : decode cX4_planAt 31 = .ok (.iconst 1, 1) := dk_4 (dk_at dksX4_planAt_1 7 rfl rfl)
theorem dX4_planAt_32 : decode cX4_planAt 32 = .ok (.invokevirtual 266, 3) := dk_182 1 10 (dk_at dksX4_planAt_1 8 rfl rfl)
theorem dX4_planAt_35 : decode cX4_planAt 35 = .ok (.ifCond .ne 5, 3) := dk_154 0 5 (dk_at dksX4_planAt_1 11 rfl rfl)
theorem dX4_planAt_38 : decode cX4_planAt 38 = .ok (.iconst 0, 1) := dk_3 (dk_at dksX4_planAt_1 14 rfl rfl)
theorem dX4_planAt_39 : decode cX4_planAt 39 = .ok (.ireturn, 1) := dk_172 (dk_at dksX4_planAt_1 15 rfl rfl)
theorem dX4_planAt_40 : decode cX4_planAt 40 = .ok (.aload_n 0, 1) := dk_42 (dk_at dksX4_planAt_1 16 rfl rfl)
theorem dX4_planAt_41 : decode cX4_planAt 41 = .ok (.iload_n 3, 1) := dk_29 (dk_at dksX4_planAt_1 17 rfl rfl)
theorem dX4_planAt_42 : decode cX4_planAt 42 = .ok (.invokevirtual 405, 3) := dk_182 1 149 (dk_at dksX4_planAt_1 18 rfl rfl)
theorem dX4_planAt_45 : decode cX4_planAt 45 = .ok (.aload_n 0, 1) := dk_42 (dk_at dksX4_planAt_1 21 rfl rfl)
theorem dX4_planAt_46 : decode cX4_planAt 46 = .ok (.getfield 125, 3) := dk_180 0 125 (dk_at dksX4_planAt_2 0 rfl rfl)
theorem dX4_planAt_49 : decode cX4_planAt 49 = .ok (.iload_n 2, 1) := dk_28 (dk_at dksX4_planAt_2 3 rfl rfl)
theorem dX4_planAt_50 : decode cX4_planAt 50 = .ok (.iaload, 1) := dk_46 (dk_at dksX4_planAt_2 4 rfl rfl)
theorem dX4_planAt_51 : decode cX4_planAt 51 = .ok (.ireturn, 1) := dk_172 (dk_at dksX4_planAt_2 5 rfl rfl)
abbrev cX4_findPlan : ByteArray := prog_19_method_108_code
def yX4_findPlan : MethodName := ⟨RX4, "findPlan", "(I)V"⟩
def dkwX4_findPlan_3 : List UInt8 := [128, 61, 29, 42, 27, 21, 5, 182, 1, 140, 128, 62, 132, 4, 1, 167, 255, 180, 177]
abbrev dktX4_findPlan_3 : List UInt8 := dkwX4_findPlan_3 ++ []
def dkwX4_findPlan_2 : List UInt8 := [182, 1, 146, 167, 0, 5, 21, 5, 54, 5, 42, 180, 0, 125, 21, 4, 21, 5, 79, 28, 4, 21, 5, 120]
abbrev dktX4_findPlan_2 : List UInt8 := dkwX4_findPlan_2 ++ dktX4_findPlan_3
def dkwX4_findPlan_1 : List UInt8 := [167, 0, 10, 42, 27, 28, 29, 182, 1, 146, 54, 5, 21, 5, 2, 160, 0, 13, 42, 27, 28, 3]
abbrev dktX4_findPlan_1 : List UInt8 := dkwX4_findPlan_1 ++ dktX4_findPlan_2
def dkwX4_findPlan_0 : List UInt8 := [3, 61, 3, 62, 3, 54, 4, 21, 4, 42, 27, 182, 1, 61, 162, 0, 72, 29, 154, 0, 7, 2]
abbrev dktX4_findPlan_0 : List UInt8 := dkwX4_findPlan_0 ++ dktX4_findPlan_1
theorem dksX4_findPlan_0 : cX4_findPlan.data.toList.drop 0 = dktX4_findPlan_0 := by decide +kernel
theorem dksX4_findPlan_1 : cX4_findPlan.data.toList.drop 22 = dktX4_findPlan_1 := dk_seg dksX4_findPlan_0 22 rfl rfl
theorem dksX4_findPlan_2 : cX4_findPlan.data.toList.drop 44 = dktX4_findPlan_2 := dk_seg dksX4_findPlan_1 22 rfl rfl
theorem dksX4_findPlan_3 : cX4_findPlan.data.toList.drop 68 = dktX4_findPlan_3 := dk_seg dksX4_findPlan_2 24 rfl rfl
theorem dX4_findPlan_0 : decode cX4_findPlan 0 = .ok (.iconst 0, 1) := dk_3 (dk_at dksX4_findPlan_0 0 rfl rfl)
theorem dX4_findPlan_1 : decode cX4_findPlan 1 = .ok (.istore_n 2, 1) := dk_61 (dk_at dksX4_findPlan_0 1 rfl rfl)
theorem dX4_findPlan_2 : decode cX4_findPlan 2 = .ok (.iconst 0, 1) := dk_3 (dk_at dksX4_findPlan_0 2 rfl rfl)
theorem dX4_findPlan_3 : decode cX4_findPlan 3 = .ok (.istore_n 3, 1) := dk_62 (dk_at dksX4_findPlan_0 3 rfl rfl)
theorem dX4_findPlan_4 : decode cX4_findPlan 4 = .ok (.iconst 0, 1) := dk_3 (dk_at dksX4_findPlan_0 4 rfl rfl)
theorem dX4_findPlan_5 : decode cX4_findPlan 5 = .ok (.istore 4, 2) := dk_54 4 (dk_at dksX4_findPlan_0 5 rfl rfl)
theorem dX4_findPlan_7 : decode cX4_findPlan 7 = .ok (.iload 4, 2) := dk_21 4 (dk_at dksX4_findPlan_0 7 rfl rfl)
theorem dX4_findPlan_9 : decode cX4_findPlan 9 = .ok (.aload_n 0, 1) := dk_42 (dk_at dksX4_findPlan_0 9 rfl rfl)
theorem dX4_findPlan_10 : decode cX4_findPlan 10 = .ok (.iload_n 1, 1) := dk_27 (dk_at dksX4_findPlan_0 10 rfl rfl)
theorem dX4_findPlan_11 : decode cX4_findPlan 11 = .ok (.invokevirtual 317, 3) := dk_182 1 61 (dk_at dksX4_findPlan_0 11 rfl rfl)
theorem dX4_findPlan_14 : decode cX4_findPlan 14 = .ok (.if_icmp .ge 72, 3) := dk_162 0 72 (dk_at dksX4_findPlan_0 14 rfl rfl)
theorem dX4_findPlan_17 : decode cX4_findPlan 17 = .ok (.iload_n 3, 1) := dk_29 (dk_at dksX4_findPlan_0 17 rfl rfl)
theorem dX4_findPlan_18 : decode cX4_findPlan 18 = .ok (.ifCond .ne 7, 3) := dk_154 0 7 (dk_at dksX4_findPlan_0 18 rfl rfl)
theorem dX4_findPlan_21 : decode cX4_findPlan 21 = .ok (.iconst (-1), 1) := dk_2 (dk_at dksX4_findPlan_0 21 rfl rfl)
theorem dX4_findPlan_22 : decode cX4_findPlan 22 = .ok (.goto 10, 3) := dk_167 0 10 (dk_at dksX4_findPlan_1 0 rfl rfl)
theorem dX4_findPlan_25 : decode cX4_findPlan 25 = .ok (.aload_n 0, 1) := dk_42 (dk_at dksX4_findPlan_1 3 rfl rfl)
theorem dX4_findPlan_26 : decode cX4_findPlan 26 = .ok (.iload_n 1, 1) := dk_27 (dk_at dksX4_findPlan_1 4 rfl rfl)
theorem dX4_findPlan_27 : decode cX4_findPlan 27 = .ok (.iload_n 2, 1) := dk_28 (dk_at dksX4_findPlan_1 5 rfl rfl)
theorem dX4_findPlan_28 : decode cX4_findPlan 28 = .ok (.iload_n 3, 1) := dk_29 (dk_at dksX4_findPlan_1 6 rfl rfl)
theorem dX4_findPlan_29 : decode cX4_findPlan 29 = .ok (.invokevirtual 402, 3) := dk_182 1 146 (dk_at dksX4_findPlan_1 7 rfl rfl)
theorem dX4_findPlan_32 : decode cX4_findPlan 32 = .ok (.istore 5, 2) := dk_54 5 (dk_at dksX4_findPlan_1 10 rfl rfl)
theorem dX4_findPlan_34 : decode cX4_findPlan 34 = .ok (.iload 5, 2) := dk_21 5 (dk_at dksX4_findPlan_1 12 rfl rfl)
theorem dX4_findPlan_36 : decode cX4_findPlan 36 = .ok (.iconst (-1), 1) := dk_2 (dk_at dksX4_findPlan_1 14 rfl rfl)
theorem dX4_findPlan_37 : decode cX4_findPlan 37 = .ok (.if_icmp .ne 13, 3) := dk_160 0 13 (dk_at dksX4_findPlan_1 15 rfl rfl)
theorem dX4_findPlan_40 : decode cX4_findPlan 40 = .ok (.aload_n 0, 1) := dk_42 (dk_at dksX4_findPlan_1 18 rfl rfl)
theorem dX4_findPlan_41 : decode cX4_findPlan 41 = .ok (.iload_n 1, 1) := dk_27 (dk_at dksX4_findPlan_1 19 rfl rfl)
theorem dX4_findPlan_42 : decode cX4_findPlan 42 = .ok (.iload_n 2, 1) := dk_28 (dk_at dksX4_findPlan_1 20 rfl rfl)
theorem dX4_findPlan_43 : decode cX4_findPlan 43 = .ok (.iconst 0, 1) := dk_3 (dk_at dksX4_findPlan_1 21 rfl rfl)
theorem dX4_findPlan_44 : decode cX4_findPlan 44 = .ok (.invokevirtual 402, 3) := dk_182 1 146 (dk_at dksX4_findPlan_2 0 rfl rfl)
theorem dX4_findPlan_47 : decode cX4_findPlan 47 = .ok (.goto 5, 3) := dk_167 0 5 (dk_at dksX4_findPlan_2 3 rfl rfl)
theorem dX4_findPlan_50 : decode cX4_findPlan 50 = .ok (.iload 5, 2) := dk_21 5 (dk_at dksX4_findPlan_2 6 rfl rfl)
theorem dX4_findPlan_52 : decode cX4_findPlan 52 = .ok (.istore 5, 2) := dk_54 5 (dk_at dksX4_findPlan_2 8 rfl rfl)
theorem dX4_findPlan_54 : decode cX4_findPlan 54 = .ok (.aload_n 0, 1) := dk_42 (dk_at dksX4_findPlan_2 10 rfl rfl)
theorem dX4_findPlan_55 : decode cX4_findPlan 55 = .ok (.getfield 125, 3) := dk_180 0 125 (dk_at dksX4_findPlan_2 11 rfl rfl)
theorem dX4_findPlan_58 : decode cX4_findPlan 58 = .ok (.iload 4, 2) := dk_21 4 (dk_at dksX4_findPlan_2 14 rfl rfl)
theorem dX4_findPlan_60 : decode cX4_findPlan 60 = .ok (.iload 5, 2) := dk_21 5 (dk_at dksX4_findPlan_2 16 rfl rfl)
theorem dX4_findPlan_62 : decode cX4_findPlan 62 = .ok (.iastore, 1) := dk_79 (dk_at dksX4_findPlan_2 18 rfl rfl)
theorem dX4_findPlan_63 : decode cX4_findPlan 63 = .ok (.iload_n 2, 1) := dk_28 (dk_at dksX4_findPlan_2 19 rfl rfl)
theorem dX4_findPlan_64 : decode cX4_findPlan 64 = .ok (.iconst 1, 1) := dk_4 (dk_at dksX4_findPlan_2 20 rfl rfl)
theorem dX4_findPlan_65 : decode cX4_findPlan 65 = .ok (.iload 5, 2) := dk_21 5 (dk_at dksX4_findPlan_2 21 rfl rfl)
theorem dX4_findPlan_67 : decode cX4_findPlan 67 = .ok (.ishl, 1) := dk_120 (dk_at dksX4_findPlan_2 23 rfl rfl)
theorem dX4_findPlan_68 : decode cX4_findPlan 68 = .ok (.ior, 1) := dk_128 (dk_at dksX4_findPlan_3 0 rfl rfl)
theorem dX4_findPlan_69 : decode cX4_findPlan 69 = .ok (.istore_n 2, 1) := dk_61 (dk_at dksX4_findPlan_3 1 rfl rfl)
theorem dX4_findPlan_70 : decode cX4_findPlan 70 = .ok (.iload_n 3, 1) := dk_29 (dk_at dksX4_findPlan_3 2 rfl rfl)
theorem dX4_findPlan_71 : decode cX4_findPlan 71 = .ok (.aload_n 0, 1) := dk_42 (dk_at dksX4_findPlan_3 3 rfl rfl)
theorem dX4_findPlan_72 : decode cX4_findPlan 72 = .ok (.iload_n 1, 1) := dk_27 (dk_at dksX4_findPlan_3 4 rfl rfl)
theorem dX4_findPlan_73 : decode cX4_findPlan 73 = .ok (.iload 5, 2) := dk_21 5 (dk_at dksX4_findPlan_3 5 rfl rfl)
theorem dX4_findPlan_75 : decode cX4_findPlan 75 = .ok (.invokevirtual 396, 3) := dk_182 1 140 (dk_at dksX4_findPlan_3 7 rfl rfl)
theorem dX4_findPlan_78 : decode cX4_findPlan 78 = .ok (.ior, 1) := dk_128 (dk_at dksX4_findPlan_3 10 rfl rfl)
theorem dX4_findPlan_79 : decode cX4_findPlan 79 = .ok (.istore_n 3, 1) := dk_62 (dk_at dksX4_findPlan_3 11 rfl rfl)
theorem dX4_findPlan_80 : decode cX4_findPlan 80 = .ok (.iinc 4 1, 3) := dk_132 4 1 (dk_at dksX4_findPlan_3 12 rfl rfl)
theorem dX4_findPlan_83 : decode cX4_findPlan 83 = .ok (.goto (-76), 3) := dk_167 255 180 (dk_at dksX4_findPlan_3 15 rfl rfl)
theorem dX4_findPlan_86 : decode cX4_findPlan 86 = .ok (.return_, 1) := dk_177 (dk_at dksX4_findPlan_3 18 rfl rfl)
abbrev cX4_nextAtom : ByteArray := prog_19_method_107_code
def yX4_nextAtom : MethodName := ⟨RX4, "nextAtom", "(III)I"⟩
def dkwX4_nextAtom_5 : List UInt8 := [132, 5, 1, 167, 255, 143, 21, 4, 172]
abbrev dktX4_nextAtom_5 : List UInt8 := dkwX4_nextAtom_5 ++ []
def dkwX4_nextAtom_4 : List UInt8 := [3, 54, 7, 21, 6, 153, 0, 13, 21, 7, 153, 0, 8, 21, 5, 167, 0, 5, 21, 4, 54, 4]
abbrev dktX4_nextAtom_4 : List UInt8 := dkwX4_nextAtom_4 ++ dktX4_nextAtom_5
def dkwX4_nextAtom_3 : List UInt8 := [182, 0, 152, 182, 1, 143, 42, 42, 27, 21, 4, 182, 0, 152, 182, 1, 143, 162, 0, 7, 4, 167, 0, 4]
abbrev dktX4_nextAtom_3 : List UInt8 := dkwX4_nextAtom_3 ++ dktX4_nextAtom_4
def dkwX4_nextAtom_2 : List UInt8 := [126, 153, 0, 7, 4, 167, 0, 4, 3, 54, 6, 21, 4, 2, 159, 0, 28, 42, 42, 27, 21, 5]
abbrev dktX4_nextAtom_2 : List UInt8 := dkwX4_nextAtom_2 ++ dktX4_nextAtom_3
def dkwX4_nextAtom_1 : List UInt8 := [154, 0, 32, 28, 21, 5, 122, 4, 126, 154, 0, 23, 29, 153, 0, 15, 42, 27, 21, 5, 182, 1, 140, 29]
abbrev dktX4_nextAtom_1 : List UInt8 := dkwX4_nextAtom_1 ++ dktX4_nextAtom_2
def dkwX4_nextAtom_0 : List UInt8 := [2, 54, 4, 3, 54, 5, 21, 5, 42, 180, 0, 25, 27, 46, 162, 0, 108, 42, 27, 21, 5, 182, 0, 148]
abbrev dktX4_nextAtom_0 : List UInt8 := dkwX4_nextAtom_0 ++ dktX4_nextAtom_1
theorem dksX4_nextAtom_0 : cX4_nextAtom.data.toList.drop 0 = dktX4_nextAtom_0 := by decide +kernel
theorem dksX4_nextAtom_1 : cX4_nextAtom.data.toList.drop 24 = dktX4_nextAtom_1 := dk_seg dksX4_nextAtom_0 24 rfl rfl
theorem dksX4_nextAtom_2 : cX4_nextAtom.data.toList.drop 48 = dktX4_nextAtom_2 := dk_seg dksX4_nextAtom_1 24 rfl rfl
theorem dksX4_nextAtom_3 : cX4_nextAtom.data.toList.drop 70 = dktX4_nextAtom_3 := dk_seg dksX4_nextAtom_2 22 rfl rfl
theorem dksX4_nextAtom_4 : cX4_nextAtom.data.toList.drop 94 = dktX4_nextAtom_4 := dk_seg dksX4_nextAtom_3 24 rfl rfl
theorem dksX4_nextAtom_5 : cX4_nextAtom.data.toList.drop 116 = dktX4_nextAtom_5 := dk_seg dksX4_nextAtom_4 22 rfl rfl
theorem dX4_nextAtom_0 : decode cX4_nextAtom 0 = .ok (.iconst (-1), 1) := dk_2 (dk_at dksX4_nextAtom_0 0 rfl rfl)
theorem dX4_nextAtom_1 : decode cX4_nextAtom 1 = .ok (.istore 4, 2) := dk_54 4 (dk_at dksX4_nextAtom_0 1 rfl rfl)
theorem dX4_nextAtom_3 : decode cX4_nextAtom 3 = .ok (.iconst 0, 1) := dk_3 (dk_at dksX4_nextAtom_0 3 rfl rfl)
theorem dX4_nextAtom_4 : decode cX4_nextAtom 4 = .ok (.istore 5, 2) := dk_54 5 (dk_at dksX4_nextAtom_0 4 rfl rfl)
theorem dX4_nextAtom_6 : decode cX4_nextAtom 6 = .ok (.iload 5, 2) := dk_21 5 (dk_at dksX4_nextAtom_0 6 rfl rfl)
theorem dX4_nextAtom_8 : decode cX4_nextAtom 8 = .ok (.aload_n 0, 1) := dk_42 (dk_at dksX4_nextAtom_0 8 rfl rfl)
theorem dX4_nextAtom_9 : decode cX4_nextAtom 9 = .ok (.getfield 25, 3) := dk_180 0 25 (dk_at dksX4_nextAtom_0 9 rfl rfl)
theorem dX4_nextAtom_12 : decode cX4_nextAtom 12 = .ok (.iload_n 1, 1) := dk_27 (dk_at dksX4_nextAtom_0 12 rfl rfl)
theorem dX4_nextAtom_13 : decode cX4_nextAtom 13 = .ok (.iaload, 1) := dk_46 (dk_at dksX4_nextAtom_0 13 rfl rfl)
theorem dX4_nextAtom_14 : decode cX4_nextAtom 14 = .ok (.if_icmp .ge 108, 3) := dk_162 0 108 (dk_at dksX4_nextAtom_0 14 rfl rfl)
theorem dX4_nextAtom_17 : decode cX4_nextAtom 17 = .ok (.aload_n 0, 1) := dk_42 (dk_at dksX4_nextAtom_0 17 rfl rfl)
theorem dX4_nextAtom_18 : decode cX4_nextAtom 18 = .ok (.iload_n 1, 1) := dk_27 (dk_at dksX4_nextAtom_0 18 rfl rfl)
theorem dX4_nextAtom_19 : decode cX4_nextAtom 19 = .ok (.iload 5, 2) := dk_21 5 (dk_at dksX4_nextAtom_0 19 rfl rfl)
theorem dX4_nextAtom_21 : decode cX4_nextAtom 21 = .ok (.invokevirtual 148, 3) := dk_182 0 148 (dk_at dksX4_nextAtom_0 21 rfl rfl)
theorem dX4_nextAtom_24 : decode cX4_nextAtom 24 = .ok (.ifCond .ne 32, 3) := dk_154 0 32 (dk_at dksX4_nextAtom_1 0 rfl rfl)
theorem dX4_nextAtom_27 : decode cX4_nextAtom 27 = .ok (.iload_n 2, 1) := dk_28 (dk_at dksX4_nextAtom_1 3 rfl rfl)
theorem dX4_nextAtom_28 : decode cX4_nextAtom 28 = .ok (.iload 5, 2) := dk_21 5 (dk_at dksX4_nextAtom_1 4 rfl rfl)
theorem dX4_nextAtom_30 : decode cX4_nextAtom 30 = .ok (.ishr, 1) := dk_122 (dk_at dksX4_nextAtom_1 6 rfl rfl)
theorem dX4_nextAtom_31 : decode cX4_nextAtom 31 = .ok (.iconst 1, 1) := dk_4 (dk_at dksX4_nextAtom_1 7 rfl rfl)
theorem dX4_nextAtom_32 : decode cX4_nextAtom 32 = .ok (.iand, 1) := dk_126 (dk_at dksX4_nextAtom_1 8 rfl rfl)
theorem dX4_nextAtom_33 : decode cX4_nextAtom 33 = .ok (.ifCond .ne 23, 3) := dk_154 0 23 (dk_at dksX4_nextAtom_1 9 rfl rfl)
theorem dX4_nextAtom_36 : decode cX4_nextAtom 36 = .ok (.iload_n 3, 1) := dk_29 (dk_at dksX4_nextAtom_1 12 rfl rfl)
theorem dX4_nextAtom_37 : decode cX4_nextAtom 37 = .ok (.ifCond .eq 15, 3) := dk_153 0 15 (dk_at dksX4_nextAtom_1 13 rfl rfl)
theorem dX4_nextAtom_40 : decode cX4_nextAtom 40 = .ok (.aload_n 0, 1) := dk_42 (dk_at dksX4_nextAtom_1 16 rfl rfl)
theorem dX4_nextAtom_41 : decode cX4_nextAtom 41 = .ok (.iload_n 1, 1) := dk_27 (dk_at dksX4_nextAtom_1 17 rfl rfl)
theorem dX4_nextAtom_42 : decode cX4_nextAtom 42 = .ok (.iload 5, 2) := dk_21 5 (dk_at dksX4_nextAtom_1 18 rfl rfl)
theorem dX4_nextAtom_44 : decode cX4_nextAtom 44 = .ok (.invokevirtual 396, 3) := dk_182 1 140 (dk_at dksX4_nextAtom_1 20 rfl rfl)
theorem dX4_nextAtom_47 : decode cX4_nextAtom 47 = .ok (.iload_n 3, 1) := dk_29 (dk_at dksX4_nextAtom_1 23 rfl rfl)
theorem dX4_nextAtom_48 : decode cX4_nextAtom 48 = .ok (.iand, 1) := dk_126 (dk_at dksX4_nextAtom_2 0 rfl rfl)
theorem dX4_nextAtom_49 : decode cX4_nextAtom 49 = .ok (.ifCond .eq 7, 3) := dk_153 0 7 (dk_at dksX4_nextAtom_2 1 rfl rfl)
theorem dX4_nextAtom_52 : decode cX4_nextAtom 52 = .ok (.iconst 1, 1) := dk_4 (dk_at dksX4_nextAtom_2 4 rfl rfl)
theorem dX4_nextAtom_53 : decode cX4_nextAtom 53 = .ok (.goto 4, 3) := dk_167 0 4 (dk_at dksX4_nextAtom_2 5 rfl rfl)
theorem dX4_nextAtom_56 : decode cX4_nextAtom 56 = .ok (.iconst 0, 1) := dk_3 (dk_at dksX4_nextAtom_2 8 rfl rfl)
theorem dX4_nextAtom_57 : decode cX4_nextAtom 57 = .ok (.istore 6, 2) := dk_54 6 (dk_at dksX4_nextAtom_2 9 rfl rfl)
theorem dX4_nextAtom_59 : decode cX4_nextAtom 59 = .ok (.iload 4, 2) := dk_21 4 (dk_at dksX4_nextAtom_2 11 rfl rfl)
theorem dX4_nextAtom_61 : decode cX4_nextAtom 61 = .ok (.iconst (-1), 1) := dk_2 (dk_at dksX4_nextAtom_2 13 rfl rfl)
theorem dX4_nextAtom_62 : decode cX4_nextAtom 62 = .ok (.if_icmp .eq 28, 3) := dk_159 0 28 (dk_at dksX4_nextAtom_2 14 rfl rfl)
theorem dX4_nextAtom_65 : decode cX4_nextAtom 65 = .ok (.aload_n 0, 1) := dk_42 (dk_at dksX4_nextAtom_2 17 rfl rfl)
theorem dX4_nextAtom_66 : decode cX4_nextAtom 66 = .ok (.aload_n 0, 1) := dk_42 (dk_at dksX4_nextAtom_2 18 rfl rfl)
theorem dX4_nextAtom_67 : decode cX4_nextAtom 67 = .ok (.iload_n 1, 1) := dk_27 (dk_at dksX4_nextAtom_2 19 rfl rfl)
theorem dX4_nextAtom_68 : decode cX4_nextAtom 68 = .ok (.iload 5, 2) := dk_21 5 (dk_at dksX4_nextAtom_2 20 rfl rfl)
theorem dX4_nextAtom_70 : decode cX4_nextAtom 70 = .ok (.invokevirtual 152, 3) := dk_182 0 152 (dk_at dksX4_nextAtom_3 0 rfl rfl)
theorem dX4_nextAtom_73 : decode cX4_nextAtom 73 = .ok (.invokevirtual 399, 3) := dk_182 1 143 (dk_at dksX4_nextAtom_3 3 rfl rfl)
theorem dX4_nextAtom_76 : decode cX4_nextAtom 76 = .ok (.aload_n 0, 1) := dk_42 (dk_at dksX4_nextAtom_3 6 rfl rfl)
theorem dX4_nextAtom_77 : decode cX4_nextAtom 77 = .ok (.aload_n 0, 1) := dk_42 (dk_at dksX4_nextAtom_3 7 rfl rfl)
theorem dX4_nextAtom_78 : decode cX4_nextAtom 78 = .ok (.iload_n 1, 1) := dk_27 (dk_at dksX4_nextAtom_3 8 rfl rfl)
theorem dX4_nextAtom_79 : decode cX4_nextAtom 79 = .ok (.iload 4, 2) := dk_21 4 (dk_at dksX4_nextAtom_3 9 rfl rfl)
theorem dX4_nextAtom_81 : decode cX4_nextAtom 81 = .ok (.invokevirtual 152, 3) := dk_182 0 152 (dk_at dksX4_nextAtom_3 11 rfl rfl)
theorem dX4_nextAtom_84 : decode cX4_nextAtom 84 = .ok (.invokevirtual 399, 3) := dk_182 1 143 (dk_at dksX4_nextAtom_3 14 rfl rfl)
theorem dX4_nextAtom_87 : decode cX4_nextAtom 87 = .ok (.if_icmp .ge 7, 3) := dk_162 0 7 (dk_at dksX4_nextAtom_3 17 rfl rfl)
theorem dX4_nextAtom_90 : decode cX4_nextAtom 90 = .ok (.iconst 1, 1) := dk_4 (dk_at dksX4_nextAtom_3 20 rfl rfl)
theorem dX4_nextAtom_91 : decode cX4_nextAtom 91 = .ok (.goto 4, 3) := dk_167 0 4 (dk_at dksX4_nextAtom_3 21 rfl rfl)
theorem dX4_nextAtom_94 : decode cX4_nextAtom 94 = .ok (.iconst 0, 1) := dk_3 (dk_at dksX4_nextAtom_4 0 rfl rfl)
theorem dX4_nextAtom_95 : decode cX4_nextAtom 95 = .ok (.istore 7, 2) := dk_54 7 (dk_at dksX4_nextAtom_4 1 rfl rfl)
theorem dX4_nextAtom_97 : decode cX4_nextAtom 97 = .ok (.iload 6, 2) := dk_21 6 (dk_at dksX4_nextAtom_4 3 rfl rfl)
theorem dX4_nextAtom_99 : decode cX4_nextAtom 99 = .ok (.ifCond .eq 13, 3) := dk_153 0 13 (dk_at dksX4_nextAtom_4 5 rfl rfl)
theorem dX4_nextAtom_102 : decode cX4_nextAtom 102 = .ok (.iload 7, 2) := dk_21 7 (dk_at dksX4_nextAtom_4 8 rfl rfl)
theorem dX4_nextAtom_104 : decode cX4_nextAtom 104 = .ok (.ifCond .eq 8, 3) := dk_153 0 8 (dk_at dksX4_nextAtom_4 10 rfl rfl)
theorem dX4_nextAtom_107 : decode cX4_nextAtom 107 = .ok (.iload 5, 2) := dk_21 5 (dk_at dksX4_nextAtom_4 13 rfl rfl)
theorem dX4_nextAtom_109 : decode cX4_nextAtom 109 = .ok (.goto 5, 3) := dk_167 0 5 (dk_at dksX4_nextAtom_4 15 rfl rfl)
theorem dX4_nextAtom_112 : decode cX4_nextAtom 112 = .ok (.iload 4, 2) := dk_21 4 (dk_at dksX4_nextAtom_4 18 rfl rfl)
theorem dX4_nextAtom_114 : decode cX4_nextAtom 114 = .ok (.istore 4, 2) := dk_54 4 (dk_at dksX4_nextAtom_4 20 rfl rfl)
theorem dX4_nextAtom_116 : decode cX4_nextAtom 116 = .ok (.iinc 5 1, 3) := dk_132 5 1 (dk_at dksX4_nextAtom_5 0 rfl rfl)
theorem dX4_nextAtom_119 : decode cX4_nextAtom 119 = .ok (.goto (-113), 3) := dk_167 255 143 (dk_at dksX4_nextAtom_5 3 rfl rfl)
theorem dX4_nextAtom_122 : decode cX4_nextAtom 122 = .ok (.iload 4, 2) := dk_21 4 (dk_at dksX4_nextAtom_5 6 rfl rfl)
theorem dX4_nextAtom_124 : decode cX4_nextAtom 124 = .ok (.ireturn, 1) := dk_172 (dk_at dksX4_nextAtom_5 8 rfl rfl)
abbrev cX4_variablesOf : ByteArray := prog_19_method_106_code
def yX4_variablesOf : MethodName := ⟨RX4, "variablesOf", "(II)I"⟩
def dkwX4_variablesOf_2 : List UInt8 := [132, 4, 1, 167, 255, 211, 29, 172]
abbrev dktX4_variablesOf_2 : List UInt8 := dkwX4_variablesOf_2 ++ []
def dkwX4_variablesOf_1 : List UInt8 := [54, 5, 29, 21, 5, 16, 100, 161, 0, 13, 4, 21, 5, 16, 100, 100, 120, 167, 0, 4, 3, 128, 62]
abbrev dktX4_variablesOf_1 : List UInt8 := dkwX4_variablesOf_1 ++ dktX4_variablesOf_2
def dkwX4_variablesOf_0 : List UInt8 := [3, 62, 3, 54, 4, 21, 4, 42, 27, 28, 182, 1, 43, 162, 0, 40, 42, 27, 28, 21, 4, 182, 0, 172]
abbrev dktX4_variablesOf_0 : List UInt8 := dkwX4_variablesOf_0 ++ dktX4_variablesOf_1
theorem dksX4_variablesOf_0 : cX4_variablesOf.data.toList.drop 0 = dktX4_variablesOf_0 := by decide +kernel
theorem dksX4_variablesOf_1 : cX4_variablesOf.data.toList.drop 24 = dktX4_variablesOf_1 := dk_seg dksX4_variablesOf_0 24 rfl rfl
theorem dksX4_variablesOf_2 : cX4_variablesOf.data.toList.drop 47 = dktX4_variablesOf_2 := dk_seg dksX4_variablesOf_1 23 rfl rfl
theorem dX4_variablesOf_0 : decode cX4_variablesOf 0 = .ok (.iconst 0, 1) := dk_3 (dk_at dksX4_variablesOf_0 0 rfl rfl)
theorem dX4_variablesOf_1 : decode cX4_variablesOf 1 = .ok (.istore_n 3, 1) := dk_62 (dk_at dksX4_variablesOf_0 1 rfl rfl)
theorem dX4_variablesOf_2 : decode cX4_variablesOf 2 = .ok (.iconst 0, 1) := dk_3 (dk_at dksX4_variablesOf_0 2 rfl rfl)
theorem dX4_variablesOf_3 : decode cX4_variablesOf 3 = .ok (.istore 4, 2) := dk_54 4 (dk_at dksX4_variablesOf_0 3 rfl rfl)
theorem dX4_variablesOf_5 : decode cX4_variablesOf 5 = .ok (.iload 4, 2) := dk_21 4 (dk_at dksX4_variablesOf_0 5 rfl rfl)
theorem dX4_variablesOf_7 : decode cX4_variablesOf 7 = .ok (.aload_n 0, 1) := dk_42 (dk_at dksX4_variablesOf_0 7 rfl rfl)
theorem dX4_variablesOf_8 : decode cX4_variablesOf 8 = .ok (.iload_n 1, 1) := dk_27 (dk_at dksX4_variablesOf_0 8 rfl rfl)
theorem dX4_variablesOf_9 : decode cX4_variablesOf 9 = .ok (.iload_n 2, 1) := dk_28 (dk_at dksX4_variablesOf_0 9 rfl rfl)
theorem dX4_variablesOf_10 : decode cX4_variablesOf 10 = .ok (.invokevirtual 299, 3) := dk_182 1 43 (dk_at dksX4_variablesOf_0 10 rfl rfl)
theorem dX4_variablesOf_13 : decode cX4_variablesOf 13 = .ok (.if_icmp .ge 40, 3) := dk_162 0 40 (dk_at dksX4_variablesOf_0 13 rfl rfl)
theorem dX4_variablesOf_16 : decode cX4_variablesOf 16 = .ok (.aload_n 0, 1) := dk_42 (dk_at dksX4_variablesOf_0 16 rfl rfl)
theorem dX4_variablesOf_17 : decode cX4_variablesOf 17 = .ok (.iload_n 1, 1) := dk_27 (dk_at dksX4_variablesOf_0 17 rfl rfl)
theorem dX4_variablesOf_18 : decode cX4_variablesOf 18 = .ok (.iload_n 2, 1) := dk_28 (dk_at dksX4_variablesOf_0 18 rfl rfl)
theorem dX4_variablesOf_19 : decode cX4_variablesOf 19 = .ok (.iload 4, 2) := dk_21 4 (dk_at dksX4_variablesOf_0 19 rfl rfl)
theorem dX4_variablesOf_21 : decode cX4_variablesOf 21 = .ok (.invokevirtual 172, 3) := dk_182 0 172 (dk_at dksX4_variablesOf_0 21 rfl rfl)
theorem dX4_variablesOf_24 : decode cX4_variablesOf 24 = .ok (.istore 5, 2) := dk_54 5 (dk_at dksX4_variablesOf_1 0 rfl rfl)
theorem dX4_variablesOf_26 : decode cX4_variablesOf 26 = .ok (.iload_n 3, 1) := dk_29 (dk_at dksX4_variablesOf_1 2 rfl rfl)
theorem dX4_variablesOf_27 : decode cX4_variablesOf 27 = .ok (.iload 5, 2) := dk_21 5 (dk_at dksX4_variablesOf_1 3 rfl rfl)
theorem dX4_variablesOf_29 : decode cX4_variablesOf 29 = .ok (.bipush 100, 2) := dk_16 100 (dk_at dksX4_variablesOf_1 5 rfl rfl)
theorem dX4_variablesOf_31 : decode cX4_variablesOf 31 = .ok (.if_icmp .lt 13, 3) := dk_161 0 13 (dk_at dksX4_variablesOf_1 7 rfl rfl)
theorem dX4_variablesOf_34 : decode cX4_variablesOf 34 = .ok (.iconst 1, 1) := dk_4 (dk_at dksX4_variablesOf_1 10 rfl rfl)
theorem dX4_variablesOf_35 : decode cX4_variablesOf 35 = .ok (.iload 5, 2) := dk_21 5 (dk_at dksX4_variablesOf_1 11 rfl rfl)
theorem dX4_variablesOf_37 : decode cX4_variablesOf 37 = .ok (.bipush 100, 2) := dk_16 100 (dk_at dksX4_variablesOf_1 13 rfl rfl)
theorem dX4_variablesOf_39 : decode cX4_variablesOf 39 = .ok (.isub, 1) := dk_100 (dk_at dksX4_variablesOf_1 15 rfl rfl)
theorem dX4_variablesOf_40 : decode cX4_variablesOf 40 = .ok (.ishl, 1) := dk_120 (dk_at dksX4_variablesOf_1 16 rfl rfl)
theorem dX4_variablesOf_41 : decode cX4_variablesOf 41 = .ok (.goto 4, 3) := dk_167 0 4 (dk_at dksX4_variablesOf_1 17 rfl rfl)
theorem dX4_variablesOf_44 : decode cX4_variablesOf 44 = .ok (.iconst 0, 1) := dk_3 (dk_at dksX4_variablesOf_1 20 rfl rfl)
theorem dX4_variablesOf_45 : decode cX4_variablesOf 45 = .ok (.ior, 1) := dk_128 (dk_at dksX4_variablesOf_1 21 rfl rfl)
theorem dX4_variablesOf_46 : decode cX4_variablesOf 46 = .ok (.istore_n 3, 1) := dk_62 (dk_at dksX4_variablesOf_1 22 rfl rfl)
theorem dX4_variablesOf_47 : decode cX4_variablesOf 47 = .ok (.iinc 4 1, 3) := dk_132 4 1 (dk_at dksX4_variablesOf_2 0 rfl rfl)
theorem dX4_variablesOf_50 : decode cX4_variablesOf 50 = .ok (.goto (-45), 3) := dk_167 255 211 (dk_at dksX4_variablesOf_2 3 rfl rfl)
theorem dX4_variablesOf_53 : decode cX4_variablesOf 53 = .ok (.iload_n 3, 1) := dk_29 (dk_at dksX4_variablesOf_2 6 rfl rfl)
theorem dX4_variablesOf_54 : decode cX4_variablesOf 54 = .ok (.ireturn, 1) := dk_172 (dk_at dksX4_variablesOf_2 7 rfl rfl)
abbrev cX4_standingOf : ByteArray := prog_19_method_105_code
def yX4_standingOf : MethodName := ⟨RX4, "standingOf", "(I)I"⟩
def dkwX4_standingOf_1 : List UInt8 := [108, 27, 160, 0, 7, 4, 167, 0, 4, 3, 96, 61, 132, 3, 1, 167, 255, 221, 28, 172]
abbrev dktX4_standingOf_1 : List UInt8 := dkwX4_standingOf_1 ++ []
def dkwX4_standingOf_0 : List UInt8 := [3, 61, 3, 62, 29, 42, 180, 0, 7, 16, 6, 46, 162, 0, 30, 28, 42, 180, 0, 52, 29, 46, 18, 139]
abbrev dktX4_standingOf_0 : List UInt8 := dkwX4_standingOf_0 ++ dktX4_standingOf_1
theorem dksX4_standingOf_0 : cX4_standingOf.data.toList.drop 0 = dktX4_standingOf_0 := by decide +kernel
theorem dksX4_standingOf_1 : cX4_standingOf.data.toList.drop 24 = dktX4_standingOf_1 := dk_seg dksX4_standingOf_0 24 rfl rfl
theorem dX4_standingOf_0 : decode cX4_standingOf 0 = .ok (.iconst 0, 1) := dk_3 (dk_at dksX4_standingOf_0 0 rfl rfl)
theorem dX4_standingOf_1 : decode cX4_standingOf 1 = .ok (.istore_n 2, 1) := dk_61 (dk_at dksX4_standingOf_0 1 rfl rfl)
theorem dX4_standingOf_2 : decode cX4_standingOf 2 = .ok (.iconst 0, 1) := dk_3 (dk_at dksX4_standingOf_0 2 rfl rfl)
theorem dX4_standingOf_3 : decode cX4_standingOf 3 = .ok (.istore_n 3, 1) := dk_62 (dk_at dksX4_standingOf_0 3 rfl rfl)
theorem dX4_standingOf_4 : decode cX4_standingOf 4 = .ok (.iload_n 3, 1) := dk_29 (dk_at dksX4_standingOf_0 4 rfl rfl)
theorem dX4_standingOf_5 : decode cX4_standingOf 5 = .ok (.aload_n 0, 1) := dk_42 (dk_at dksX4_standingOf_0 5 rfl rfl)
theorem dX4_standingOf_6 : decode cX4_standingOf 6 = .ok (.getfield 7, 3) := dk_180 0 7 (dk_at dksX4_standingOf_0 6 rfl rfl)
theorem dX4_standingOf_9 : decode cX4_standingOf 9 = .ok (.bipush 6, 2) := dk_16 6 (dk_at dksX4_standingOf_0 9 rfl rfl)
theorem dX4_standingOf_11 : decode cX4_standingOf 11 = .ok (.iaload, 1) := dk_46 (dk_at dksX4_standingOf_0 11 rfl rfl)
theorem dX4_standingOf_12 : decode cX4_standingOf 12 = .ok (.if_icmp .ge 30, 3) := dk_162 0 30 (dk_at dksX4_standingOf_0 12 rfl rfl)
theorem dX4_standingOf_15 : decode cX4_standingOf 15 = .ok (.iload_n 2, 1) := dk_28 (dk_at dksX4_standingOf_0 15 rfl rfl)
theorem dX4_standingOf_16 : decode cX4_standingOf 16 = .ok (.aload_n 0, 1) := dk_42 (dk_at dksX4_standingOf_0 16 rfl rfl)
theorem dX4_standingOf_17 : decode cX4_standingOf 17 = .ok (.getfield 52, 3) := dk_180 0 52 (dk_at dksX4_standingOf_0 17 rfl rfl)
theorem dX4_standingOf_20 : decode cX4_standingOf 20 = .ok (.iload_n 3, 1) := dk_29 (dk_at dksX4_standingOf_0 20 rfl rfl)
theorem dX4_standingOf_21 : decode cX4_standingOf 21 = .ok (.iaload, 1) := dk_46 (dk_at dksX4_standingOf_0 21 rfl rfl)
theorem dX4_standingOf_22 : decode cX4_standingOf 22 = .ok (.ldc 139, 2) := dk_18 139 (dk_at dksX4_standingOf_0 22 rfl rfl)
theorem dX4_standingOf_24 : decode cX4_standingOf 24 = .ok (.idiv, 1) := dk_108 (dk_at dksX4_standingOf_1 0 rfl rfl)
theorem dX4_standingOf_25 : decode cX4_standingOf 25 = .ok (.iload_n 1, 1) := dk_27 (dk_at dksX4_standingOf_1 1 rfl rfl)
theorem dX4_standingOf_26 : decode cX4_standingOf 26 = .ok (.if_icmp .ne 7, 3) := dk_160 0 7 (dk_at dksX4_standingOf_1 2 rfl rfl)
theorem dX4_standingOf_29 : decode cX4_standingOf 29 = .ok (.iconst 1, 1) := dk_4 (dk_at dksX4_standingOf_1 5 rfl rfl)
theorem dX4_standingOf_30 : decode cX4_standingOf 30 = .ok (.goto 4, 3) := dk_167 0 4 (dk_at dksX4_standingOf_1 6 rfl rfl)
theorem dX4_standingOf_33 : decode cX4_standingOf 33 = .ok (.iconst 0, 1) := dk_3 (dk_at dksX4_standingOf_1 9 rfl rfl)
theorem dX4_standingOf_34 : decode cX4_standingOf 34 = .ok (.iadd, 1) := dk_96 (dk_at dksX4_standingOf_1 10 rfl rfl)
theorem dX4_standingOf_35 : decode cX4_standingOf 35 = .ok (.istore_n 2, 1) := dk_61 (dk_at dksX4_standingOf_1 11 rfl rfl)
theorem dX4_standingOf_36 : decode cX4_standingOf 36 = .ok (.iinc 3 1, 3) := dk_132 3 1 (dk_at dksX4_standingOf_1 12 rfl rfl)
theorem dX4_standingOf_39 : decode cX4_standingOf 39 = .ok (.goto (-35), 3) := dk_167 255 221 (dk_at dksX4_standingOf_1 15 rfl rfl)
theorem dX4_standingOf_42 : decode cX4_standingOf 42 = .ok (.iload_n 2, 1) := dk_28 (dk_at dksX4_standingOf_1 18 rfl rfl)
theorem dX4_standingOf_43 : decode cX4_standingOf 43 = .ok (.ireturn, 1) := dk_172 (dk_at dksX4_standingOf_1 19 rfl rfl)
abbrev cX4_work : ByteArray := prog_19_method_110_code
def yX4_work : MethodName := ⟨RX4, "work", "(IZ)I"⟩
def dkwX4_work_6 : List UInt8 := [172]
abbrev dktX4_work_6 : List UInt8 := dkwX4_work_6 ++ []
def dkwX4_work_5 : List UInt8 := [21, 6, 184, 0, 144, 54, 7, 21, 5, 42, 182, 1, 137, 96, 54, 5, 132, 6, 1, 167, 255, 206, 21, 5]
abbrev dktX4_work_5 : List UInt8 := dkwX4_work_5 ++ dktX4_work_6
def dkwX4_work_4 : List UInt8 := [163, 0, 46, 42, 182, 0, 211, 42, 29, 21, 6, 182, 0, 214, 42, 180, 0, 125, 3, 42, 180, 0, 85, 3]
abbrev dktX4_work_4 : List UInt8 := dkwX4_work_4 ++ dktX4_work_5
def dkwX4_work_3 : List UInt8 := [132, 4, 1, 132, 5, 1, 167, 255, 216, 3, 54, 5, 4, 54, 6, 21, 6, 42, 29, 182, 1, 61]
abbrev dktX4_work_3 : List UInt8 := dkwX4_work_3 ++ dktX4_work_4
def dkwX4_work_2 : List UInt8 := [154, 0, 31, 42, 29, 21, 5, 182, 0, 148, 154, 0, 15, 42, 180, 0, 125, 21, 4, 21, 5, 79]
abbrev dktX4_work_2 : List UInt8 := dkwX4_work_2 ++ dktX4_work_3
def dkwX4_work_1 : List UInt8 := [172, 42, 29, 182, 1, 149, 3, 54, 4, 3, 54, 5, 21, 5, 42, 180, 0, 25, 29, 46, 162, 0, 35, 28]
abbrev dktX4_work_1 : List UInt8 := dkwX4_work_1 ++ dktX4_work_2
def dkwX4_work_0 : List UInt8 := [42, 27, 182, 1, 76, 62, 42, 29, 2, 160, 0, 7, 4, 167, 0, 4, 3, 182, 1, 10, 154, 0, 5, 3]
abbrev dktX4_work_0 : List UInt8 := dkwX4_work_0 ++ dktX4_work_1
theorem dksX4_work_0 : cX4_work.data.toList.drop 0 = dktX4_work_0 := by decide +kernel
theorem dksX4_work_1 : cX4_work.data.toList.drop 24 = dktX4_work_1 := dk_seg dksX4_work_0 24 rfl rfl
theorem dksX4_work_2 : cX4_work.data.toList.drop 48 = dktX4_work_2 := dk_seg dksX4_work_1 24 rfl rfl
theorem dksX4_work_3 : cX4_work.data.toList.drop 70 = dktX4_work_3 := dk_seg dksX4_work_2 22 rfl rfl
theorem dksX4_work_4 : cX4_work.data.toList.drop 92 = dktX4_work_4 := dk_seg dksX4_work_3 22 rfl rfl
theorem dksX4_work_5 : cX4_work.data.toList.drop 116 = dktX4_work_5 := dk_seg dksX4_work_4 24 rfl rfl
theorem dksX4_work_6 : cX4_work.data.toList.drop 140 = dktX4_work_6 := dk_seg dksX4_work_5 24 rfl rfl
theorem dX4_work_0 : decode cX4_work 0 = .ok (.aload_n 0, 1) := dk_42 (dk_at dksX4_work_0 0 rfl rfl)
theorem dX4_work_1 : decode cX4_work 1 = .ok (.iload_n 1, 1) := dk_27 (dk_at dksX4_work_0 1 rfl rfl)
theorem dX4_work_2 : decode cX4_work 2 = .ok (.invokevirtual 332, 3) := dk_182 1 76 (dk_at dksX4_work_0 2 rfl rfl)
theorem dX4_work_5 : decode cX4_work 5 = .ok (.istore_n 3, 1) := dk_62 (dk_at dksX4_work_0 5 rfl rfl)
theorem dX4_work_6 : decode cX4_work 6 = .ok (.aload_n 0, 1) := dk_42 (dk_at dksX4_work_0 6 rfl rfl)
theorem dX4_work_7 : decode cX4_work 7 = .ok (.iload_n 3, 1) := dk_29 (dk_at dksX4_work_0 7 rfl rfl)
theorem dX4_work_8 : decode cX4_work 8 = .ok (.iconst (-1), 1) := dk_2 (dk_at dksX4_work_0 8 rfl rfl)
theorem dX4_work_9 : decode cX4_work 9 = .ok (.if_icmp .ne 7, 3) := dk_160 0 7 (dk_at dksX4_work_0 9 rfl rfl)
theorem dX4_work_12 : decode cX4_work 12 = .ok (.iconst 1, 1) := dk_4 (dk_at dksX4_work_0 12 rfl rfl)
theorem dX4_work_13 : decode cX4_work 13 = .ok (.goto 4, 3) := dk_167 0 4 (dk_at dksX4_work_0 13 rfl rfl)
theorem dX4_work_16 : decode cX4_work 16 = .ok (.iconst 0, 1) := dk_3 (dk_at dksX4_work_0 16 rfl rfl)
theorem dX4_work_17 : decode cX4_work 17 = .ok (.invokevirtual 266, 3) := dk_182 1 10 (dk_at dksX4_work_0 17 rfl rfl)
theorem dX4_work_20 : decode cX4_work 20 = .ok (.ifCond .ne 5, 3) := dk_154 0 5 (dk_at dksX4_work_0 20 rfl rfl)
theorem dX4_work_23 : decode cX4_work 23 = .ok (.iconst 0, 1) := dk_3 (dk_at dksX4_work_0 23 rfl rfl)
theorem dX4_work_24 : decode cX4_work 24 = .ok (.ireturn, 1) := dk_172 (dk_at dksX4_work_1 0 rfl rfl)
theorem dX4_work_25 : decode cX4_work 25 = .ok (.aload_n 0, 1) := dk_42 (dk_at dksX4_work_1 1 rfl rfl)
theorem dX4_work_26 : decode cX4_work 26 = .ok (.iload_n 3, 1) := dk_29 (dk_at dksX4_work_1 2 rfl rfl)
theorem dX4_work_27 : decode cX4_work 27 = .ok (.invokevirtual 405, 3) := dk_182 1 149 (dk_at dksX4_work_1 3 rfl rfl)
theorem dX4_work_30 : decode cX4_work 30 = .ok (.iconst 0, 1) := dk_3 (dk_at dksX4_work_1 6 rfl rfl)
theorem dX4_work_31 : decode cX4_work 31 = .ok (.istore 4, 2) := dk_54 4 (dk_at dksX4_work_1 7 rfl rfl)
theorem dX4_work_33 : decode cX4_work 33 = .ok (.iconst 0, 1) := dk_3 (dk_at dksX4_work_1 9 rfl rfl)
theorem dX4_work_34 : decode cX4_work 34 = .ok (.istore 5, 2) := dk_54 5 (dk_at dksX4_work_1 10 rfl rfl)
theorem dX4_work_36 : decode cX4_work 36 = .ok (.iload 5, 2) := dk_21 5 (dk_at dksX4_work_1 12 rfl rfl)
theorem dX4_work_38 : decode cX4_work 38 = .ok (.aload_n 0, 1) := dk_42 (dk_at dksX4_work_1 14 rfl rfl)
theorem dX4_work_39 : decode cX4_work 39 = .ok (.getfield 25, 3) := dk_180 0 25 (dk_at dksX4_work_1 15 rfl rfl)
theorem dX4_work_42 : decode cX4_work 42 = .ok (.iload_n 3, 1) := dk_29 (dk_at dksX4_work_1 18 rfl rfl)
theorem dX4_work_43 : decode cX4_work 43 = .ok (.iaload, 1) := dk_46 (dk_at dksX4_work_1 19 rfl rfl)
theorem dX4_work_44 : decode cX4_work 44 = .ok (.if_icmp .ge 35, 3) := dk_162 0 35 (dk_at dksX4_work_1 20 rfl rfl)
theorem dX4_work_47 : decode cX4_work 47 = .ok (.iload_n 2, 1) := dk_28 (dk_at dksX4_work_1 23 rfl rfl)
theorem dX4_work_48 : decode cX4_work 48 = .ok (.ifCond .ne 31, 3) := dk_154 0 31 (dk_at dksX4_work_2 0 rfl rfl)
theorem dX4_work_51 : decode cX4_work 51 = .ok (.aload_n 0, 1) := dk_42 (dk_at dksX4_work_2 3 rfl rfl)
theorem dX4_work_52 : decode cX4_work 52 = .ok (.iload_n 3, 1) := dk_29 (dk_at dksX4_work_2 4 rfl rfl)
theorem dX4_work_53 : decode cX4_work 53 = .ok (.iload 5, 2) := dk_21 5 (dk_at dksX4_work_2 5 rfl rfl)
theorem dX4_work_55 : decode cX4_work 55 = .ok (.invokevirtual 148, 3) := dk_182 0 148 (dk_at dksX4_work_2 7 rfl rfl)
theorem dX4_work_58 : decode cX4_work 58 = .ok (.ifCond .ne 15, 3) := dk_154 0 15 (dk_at dksX4_work_2 10 rfl rfl)
theorem dX4_work_61 : decode cX4_work 61 = .ok (.aload_n 0, 1) := dk_42 (dk_at dksX4_work_2 13 rfl rfl)
theorem dX4_work_62 : decode cX4_work 62 = .ok (.getfield 125, 3) := dk_180 0 125 (dk_at dksX4_work_2 14 rfl rfl)
theorem dX4_work_65 : decode cX4_work 65 = .ok (.iload 4, 2) := dk_21 4 (dk_at dksX4_work_2 17 rfl rfl)
theorem dX4_work_67 : decode cX4_work 67 = .ok (.iload 5, 2) := dk_21 5 (dk_at dksX4_work_2 19 rfl rfl)
theorem dX4_work_69 : decode cX4_work 69 = .ok (.iastore, 1) := dk_79 (dk_at dksX4_work_2 21 rfl rfl)
theorem dX4_work_70 : decode cX4_work 70 = .ok (.iinc 4 1, 3) := dk_132 4 1 (dk_at dksX4_work_3 0 rfl rfl)
theorem dX4_work_73 : decode cX4_work 73 = .ok (.iinc 5 1, 3) := dk_132 5 1 (dk_at dksX4_work_3 3 rfl rfl)
theorem dX4_work_76 : decode cX4_work 76 = .ok (.goto (-40), 3) := dk_167 255 216 (dk_at dksX4_work_3 6 rfl rfl)
theorem dX4_work_79 : decode cX4_work 79 = .ok (.iconst 0, 1) := dk_3 (dk_at dksX4_work_3 9 rfl rfl)
theorem dX4_work_80 : decode cX4_work 80 = .ok (.istore 5, 2) := dk_54 5 (dk_at dksX4_work_3 10 rfl rfl)
theorem dX4_work_82 : decode cX4_work 82 = .ok (.iconst 1, 1) := dk_4 (dk_at dksX4_work_3 12 rfl rfl)
theorem dX4_work_83 : decode cX4_work 83 = .ok (.istore 6, 2) := dk_54 6 (dk_at dksX4_work_3 13 rfl rfl)
theorem dX4_work_85 : decode cX4_work 85 = .ok (.iload 6, 2) := dk_21 6 (dk_at dksX4_work_3 15 rfl rfl)
theorem dX4_work_87 : decode cX4_work 87 = .ok (.aload_n 0, 1) := dk_42 (dk_at dksX4_work_3 17 rfl rfl)
theorem dX4_work_88 : decode cX4_work 88 = .ok (.iload_n 3, 1) := dk_29 (dk_at dksX4_work_3 18 rfl rfl)
theorem dX4_work_89 : decode cX4_work 89 = .ok (.invokevirtual 317, 3) := dk_182 1 61 (dk_at dksX4_work_3 19 rfl rfl)
theorem dX4_work_92 : decode cX4_work 92 = .ok (.if_icmp .gt 46, 3) := dk_163 0 46 (dk_at dksX4_work_4 0 rfl rfl)
theorem dX4_work_95 : decode cX4_work 95 = .ok (.aload_n 0, 1) := dk_42 (dk_at dksX4_work_4 3 rfl rfl)
theorem dX4_work_96 : decode cX4_work 96 = .ok (.invokevirtual 211, 3) := dk_182 0 211 (dk_at dksX4_work_4 4 rfl rfl)
theorem dX4_work_99 : decode cX4_work 99 = .ok (.aload_n 0, 1) := dk_42 (dk_at dksX4_work_4 7 rfl rfl)
theorem dX4_work_100 : decode cX4_work 100 = .ok (.iload_n 3, 1) := dk_29 (dk_at dksX4_work_4 8 rfl rfl)
theorem dX4_work_101 : decode cX4_work 101 = .ok (.iload 6, 2) := dk_21 6 (dk_at dksX4_work_4 9 rfl rfl)
theorem dX4_work_103 : decode cX4_work 103 = .ok (.invokevirtual 214, 3) := dk_182 0 214 (dk_at dksX4_work_4 11 rfl rfl)
theorem dX4_work_106 : decode cX4_work 106 = .ok (.aload_n 0, 1) := dk_42 (dk_at dksX4_work_4 14 rfl rfl)
theorem dX4_work_107 : decode cX4_work 107 = .ok (.getfield 125, 3) := dk_180 0 125 (dk_at dksX4_work_4 15 rfl rfl)
theorem dX4_work_110 : decode cX4_work 110 = .ok (.iconst 0, 1) := dk_3 (dk_at dksX4_work_4 18 rfl rfl)
theorem dX4_work_111 : decode cX4_work 111 = .ok (.aload_n 0, 1) := dk_42 (dk_at dksX4_work_4 19 rfl rfl)
theorem dX4_work_112 : decode cX4_work 112 = .ok (.getfield 85, 3) := dk_180 0 85 (dk_at dksX4_work_4 20 rfl rfl)
theorem dX4_work_115 : decode cX4_work 115 = .ok (.iconst 0, 1) := dk_3 (dk_at dksX4_work_4 23 rfl rfl)
theorem dX4_work_116 : decode cX4_work 116 = .ok (.iload 6, 2) := dk_21 6 (dk_at dksX4_work_5 0 rfl rfl)
theorem dX4_work_118 : decode cX4_work 118 = .ok (.invokestatic 144, 3) := dk_184 0 144 (dk_at dksX4_work_5 2 rfl rfl)
theorem dX4_work_121 : decode cX4_work 121 = .ok (.istore 7, 2) := dk_54 7 (dk_at dksX4_work_5 5 rfl rfl)
theorem dX4_work_123 : decode cX4_work 123 = .ok (.iload 5, 2) := dk_21 5 (dk_at dksX4_work_5 7 rfl rfl)
theorem dX4_work_125 : decode cX4_work 125 = .ok (.aload_n 0, 1) := dk_42 (dk_at dksX4_work_5 9 rfl rfl)
theorem dX4_work_126 : decode cX4_work 126 = .ok (.invokevirtual 393, 3) := dk_182 1 137 (dk_at dksX4_work_5 10 rfl rfl)
theorem dX4_work_129 : decode cX4_work 129 = .ok (.iadd, 1) := dk_96 (dk_at dksX4_work_5 13 rfl rfl)
theorem dX4_work_130 : decode cX4_work 130 = .ok (.istore 5, 2) := dk_54 5 (dk_at dksX4_work_5 14 rfl rfl)
theorem dX4_work_132 : decode cX4_work 132 = .ok (.iinc 6 1, 3) := dk_132 6 1 (dk_at dksX4_work_5 16 rfl rfl)
theorem dX4_work_135 : decode cX4_work 135 = .ok (.goto (-50), 3) := dk_167 255 206 (dk_at dksX4_work_5 19 rfl rfl)
theorem dX4_work_138 : decode cX4_work 138 = .ok (.iload 5, 2) := dk_21 5 (dk_at dksX4_work_5 22 rfl rfl)
theorem dX4_work_140 : decode cX4_work 140 = .ok (.ireturn, 1) := dk_172 (dk_at dksX4_work_6 0 rfl rfl)
abbrev cX4_agenda : ByteArray := prog_19_method_116_code
def yX4_agenda : MethodName := ⟨RX4, "agenda", "(I)I"⟩
def dkwX4_agenda_1 : List UInt8 := [182, 1, 173, 167, 0, 4, 3, 172]
abbrev dktX4_agenda_1 : List UInt8 := dkwX4_agenda_1 ++ []
def dkwX4_agenda_0 : List UInt8 := [42, 27, 3, 6, 184, 0, 135, 153, 0, 7, 3, 167, 0, 4, 4, 182, 1, 10, 153, 0, 11, 42, 27]
abbrev dktX4_agenda_0 : List UInt8 := dkwX4_agenda_0 ++ dktX4_agenda_1
theorem dksX4_agenda_0 : cX4_agenda.data.toList.drop 0 = dktX4_agenda_0 := by decide +kernel
theorem dksX4_agenda_1 : cX4_agenda.data.toList.drop 23 = dktX4_agenda_1 := dk_seg dksX4_agenda_0 23 rfl rfl
theorem dX4_agenda_0 : decode cX4_agenda 0 = .ok (.aload_n 0, 1) := dk_42 (dk_at dksX4_agenda_0 0 rfl rfl)
theorem dX4_agenda_1 : decode cX4_agenda 1 = .ok (.iload_n 1, 1) := dk_27 (dk_at dksX4_agenda_0 1 rfl rfl)
theorem dX4_agenda_2 : decode cX4_agenda 2 = .ok (.iconst 0, 1) := dk_3 (dk_at dksX4_agenda_0 2 rfl rfl)
theorem dX4_agenda_3 : decode cX4_agenda 3 = .ok (.iconst 3, 1) := dk_6 (dk_at dksX4_agenda_0 3 rfl rfl)
theorem dX4_agenda_4 : decode cX4_agenda 4 = .ok (.invokestatic 135, 3) := dk_184 0 135 (dk_at dksX4_agenda_0 4 rfl rfl)
theorem dX4_agenda_7 : decode cX4_agenda 7 = .ok (.ifCond .eq 7, 3) := dk_153 0 7 (dk_at dksX4_agenda_0 7 rfl rfl)
theorem dX4_agenda_10 : decode cX4_agenda 10 = .ok (.iconst 0, 1) := dk_3 (dk_at dksX4_agenda_0 10 rfl rfl)
theorem dX4_agenda_11 : decode cX4_agenda 11 = .ok (.goto 4, 3) := dk_167 0 4 (dk_at dksX4_agenda_0 11 rfl rfl)
theorem dX4_agenda_14 : decode cX4_agenda 14 = .ok (.iconst 1, 1) := dk_4 (dk_at dksX4_agenda_0 14 rfl rfl)
theorem dX4_agenda_15 : decode cX4_agenda 15 = .ok (.invokevirtual 266, 3) := dk_182 1 10 (dk_at dksX4_agenda_0 15 rfl rfl)
theorem dX4_agenda_18 : decode cX4_agenda 18 = .ok (.ifCond .eq 11, 3) := dk_153 0 11 (dk_at dksX4_agenda_0 18 rfl rfl)
theorem dX4_agenda_21 : decode cX4_agenda 21 = .ok (.aload_n 0, 1) := dk_42 (dk_at dksX4_agenda_0 21 rfl rfl)
theorem dX4_agenda_22 : decode cX4_agenda 22 = .ok (.iload_n 1, 1) := dk_27 (dk_at dksX4_agenda_0 22 rfl rfl)
theorem dX4_agenda_23 : decode cX4_agenda 23 = .ok (.invokevirtual 429, 3) := dk_182 1 173 (dk_at dksX4_agenda_1 0 rfl rfl)
theorem dX4_agenda_26 : decode cX4_agenda 26 = .ok (.goto 4, 3) := dk_167 0 4 (dk_at dksX4_agenda_1 3 rfl rfl)
theorem dX4_agenda_29 : decode cX4_agenda 29 = .ok (.iconst 0, 1) := dk_3 (dk_at dksX4_agenda_1 6 rfl rfl)
theorem dX4_agenda_30 : decode cX4_agenda 30 = .ok (.ireturn, 1) := dk_172 (dk_at dksX4_agenda_1 7 rfl rfl)
abbrev cX4_findBest : ByteArray := prog_19_method_114_code
def yX4_findBest : MethodName := ⟨RX4, "findBest", "(I)I"⟩
def dkwX4_findBest_4 : List UInt8 := [172]
abbrev dktX4_findBest_4 : List UInt8 := dkwX4_findBest_4 ++ []
def dkwX4_findBest_3 : List UInt8 := [182, 1, 158, 153, 255, 235, 132, 2, 1, 42, 29, 182, 1, 161, 167, 255, 224, 132, 3, 1, 167, 255, 176, 28]
abbrev dktX4_findBest_3 : List UInt8 := dkwX4_findBest_3 ++ dktX4_findBest_4
def dkwX4_findBest_2 : List UInt8 := [3, 182, 0, 214, 42, 180, 0, 37, 29, 46, 27, 160, 0, 28, 42, 182, 0, 218, 153, 0, 21, 42]
abbrev dktX4_findBest_2 : List UInt8 := dkwX4_findBest_2 ++ dktX4_findBest_3
def dkwX4_findBest_1 : List UInt8 := [182, 0, 211, 42, 29, 42, 180, 0, 37, 29, 46, 27, 160, 0, 12, 42, 180, 0, 25, 29, 46, 167, 0, 4]
abbrev dktX4_findBest_1 : List UInt8 := dkwX4_findBest_1 ++ dktX4_findBest_2
def dkwX4_findBest_0 : List UInt8 := [3, 61, 42, 2, 181, 1, 155, 16, 10, 62, 29, 16, 10, 42, 180, 0, 7, 5, 46, 96, 162, 0, 73, 42]
abbrev dktX4_findBest_0 : List UInt8 := dkwX4_findBest_0 ++ dktX4_findBest_1
theorem dksX4_findBest_0 : cX4_findBest.data.toList.drop 0 = dktX4_findBest_0 := by decide +kernel
theorem dksX4_findBest_1 : cX4_findBest.data.toList.drop 24 = dktX4_findBest_1 := dk_seg dksX4_findBest_0 24 rfl rfl
theorem dksX4_findBest_2 : cX4_findBest.data.toList.drop 48 = dktX4_findBest_2 := dk_seg dksX4_findBest_1 24 rfl rfl
theorem dksX4_findBest_3 : cX4_findBest.data.toList.drop 70 = dktX4_findBest_3 := dk_seg dksX4_findBest_2 22 rfl rfl
theorem dksX4_findBest_4 : cX4_findBest.data.toList.drop 94 = dktX4_findBest_4 := dk_seg dksX4_findBest_3 24 rfl rfl
theorem dX4_findBest_0 : decode cX4_findBest 0 = .ok (.iconst 0, 1) := dk_3 (dk_at dksX4_findBest_0 0 rfl rfl)
theorem dX4_findBest_1 : decode cX4_findBest 1 = .ok (.istore_n 2, 1) := dk_61 (dk_at dksX4_findBest_0 1 rfl rfl)
theorem dX4_findBest_2 : decode cX4_findBest 2 = .ok (.aload_n 0, 1) := dk_42 (dk_at dksX4_findBest_0 2 rfl rfl)
theorem dX4_findBest_3 : decode cX4_findBest 3 = .ok (.iconst (-1), 1) := dk_2 (dk_at dksX4_findBest_0 3 rfl rfl)
theorem dX4_findBest_4 : decode cX4_findBest 4 = .ok (.putfield 411, 3) := dk_181 1 155 (dk_at dksX4_findBest_0 4 rfl rfl)
theorem dX4_findBest_7 : decode cX4_findBest 7 = .ok (.bipush 10, 2) := dk_16 10 (dk_at dksX4_findBest_0 7 rfl rfl)
theorem dX4_findBest_9 : decode cX4_findBest 9 = .ok (.istore_n 3, 1) := dk_62 (dk_at dksX4_findBest_0 9 rfl rfl)
theorem dX4_findBest_10 : decode cX4_findBest 10 = .ok (.iload_n 3, 1) := dk_29 (dk_at dksX4_findBest_0 10 rfl rfl)
theorem dX4_findBest_11 : decode cX4_findBest 11 = .ok (.bipush 10, 2) := dk_16 10 (dk_at dksX4_findBest_0 11 rfl rfl)
theorem dX4_findBest_13 : decode cX4_findBest 13 = .ok (.aload_n 0, 1) := dk_42 (dk_at dksX4_findBest_0 13 rfl rfl)
theorem dX4_findBest_14 : decode cX4_findBest 14 = .ok (.getfield 7, 3) := dk_180 0 7 (dk_at dksX4_findBest_0 14 rfl rfl)
theorem dX4_findBest_17 : decode cX4_findBest 17 = .ok (.iconst 2, 1) := dk_5 (dk_at dksX4_findBest_0 17 rfl rfl)
theorem dX4_findBest_18 : decode cX4_findBest 18 = .ok (.iaload, 1) := dk_46 (dk_at dksX4_findBest_0 18 rfl rfl)
theorem dX4_findBest_19 : decode cX4_findBest 19 = .ok (.iadd, 1) := dk_96 (dk_at dksX4_findBest_0 19 rfl rfl)
theorem dX4_findBest_20 : decode cX4_findBest 20 = .ok (.if_icmp .ge 73, 3) := dk_162 0 73 (dk_at dksX4_findBest_0 20 rfl rfl)
theorem dX4_findBest_23 : decode cX4_findBest 23 = .ok (.aload_n 0, 1) := dk_42 (dk_at dksX4_findBest_0 23 rfl rfl)
theorem dX4_findBest_24 : decode cX4_findBest 24 = .ok (.invokevirtual 211, 3) := dk_182 0 211 (dk_at dksX4_findBest_1 0 rfl rfl)
theorem dX4_findBest_27 : decode cX4_findBest 27 = .ok (.aload_n 0, 1) := dk_42 (dk_at dksX4_findBest_1 3 rfl rfl)
theorem dX4_findBest_28 : decode cX4_findBest 28 = .ok (.iload_n 3, 1) := dk_29 (dk_at dksX4_findBest_1 4 rfl rfl)
theorem dX4_findBest_29 : decode cX4_findBest 29 = .ok (.aload_n 0, 1) := dk_42 (dk_at dksX4_findBest_1 5 rfl rfl)
theorem dX4_findBest_30 : decode cX4_findBest 30 = .ok (.getfield 37, 3) := dk_180 0 37 (dk_at dksX4_findBest_1 6 rfl rfl)
theorem dX4_findBest_33 : decode cX4_findBest 33 = .ok (.iload_n 3, 1) := dk_29 (dk_at dksX4_findBest_1 9 rfl rfl)
theorem dX4_findBest_34 : decode cX4_findBest 34 = .ok (.iaload, 1) := dk_46 (dk_at dksX4_findBest_1 10 rfl rfl)
theorem dX4_findBest_35 : decode cX4_findBest 35 = .ok (.iload_n 1, 1) := dk_27 (dk_at dksX4_findBest_1 11 rfl rfl)
theorem dX4_findBest_36 : decode cX4_findBest 36 = .ok (.if_icmp .ne 12, 3) := dk_160 0 12 (dk_at dksX4_findBest_1 12 rfl rfl)
theorem dX4_findBest_39 : decode cX4_findBest 39 = .ok (.aload_n 0, 1) := dk_42 (dk_at dksX4_findBest_1 15 rfl rfl)
theorem dX4_findBest_40 : decode cX4_findBest 40 = .ok (.getfield 25, 3) := dk_180 0 25 (dk_at dksX4_findBest_1 16 rfl rfl)
theorem dX4_findBest_43 : decode cX4_findBest 43 = .ok (.iload_n 3, 1) := dk_29 (dk_at dksX4_findBest_1 19 rfl rfl)
theorem dX4_findBest_44 : decode cX4_findBest 44 = .ok (.iaload, 1) := dk_46 (dk_at dksX4_findBest_1 20 rfl rfl)
theorem dX4_findBest_45 : decode cX4_findBest 45 = .ok (.goto 4, 3) := dk_167 0 4 (dk_at dksX4_findBest_1 21 rfl rfl)
theorem dX4_findBest_48 : decode cX4_findBest 48 = .ok (.iconst 0, 1) := dk_3 (dk_at dksX4_findBest_2 0 rfl rfl)
theorem dX4_findBest_49 : decode cX4_findBest 49 = .ok (.invokevirtual 214, 3) := dk_182 0 214 (dk_at dksX4_findBest_2 1 rfl rfl)
theorem dX4_findBest_52 : decode cX4_findBest 52 = .ok (.aload_n 0, 1) := dk_42 (dk_at dksX4_findBest_2 4 rfl rfl)
theorem dX4_findBest_53 : decode cX4_findBest 53 = .ok (.getfield 37, 3) := dk_180 0 37 (dk_at dksX4_findBest_2 5 rfl rfl)
theorem dX4_findBest_56 : decode cX4_findBest 56 = .ok (.iload_n 3, 1) := dk_29 (dk_at dksX4_findBest_2 8 rfl rfl)
theorem dX4_findBest_57 : decode cX4_findBest 57 = .ok (.iaload, 1) := dk_46 (dk_at dksX4_findBest_2 9 rfl rfl)
theorem dX4_findBest_58 : decode cX4_findBest 58 = .ok (.iload_n 1, 1) := dk_27 (dk_at dksX4_findBest_2 10 rfl rfl)
theorem dX4_findBest_59 : decode cX4_findBest 59 = .ok (.if_icmp .ne 28, 3) := dk_160 0 28 (dk_at dksX4_findBest_2 11 rfl rfl)
theorem dX4_findBest_62 : decode cX4_findBest 62 = .ok (.aload_n 0, 1) := dk_42 (dk_at dksX4_findBest_2 14 rfl rfl)
theorem dX4_findBest_63 : decode cX4_findBest 63 = .ok (.invokevirtual 218, 3) := dk_182 0 218 (dk_at dksX4_findBest_2 15 rfl rfl)
theorem dX4_findBest_66 : decode cX4_findBest 66 = .ok (.ifCond .eq 21, 3) := dk_153 0 21 (dk_at dksX4_findBest_2 18 rfl rfl)
theorem dX4_findBest_69 : decode cX4_findBest 69 = .ok (.aload_n 0, 1) := dk_42 (dk_at dksX4_findBest_2 21 rfl rfl)
theorem dX4_findBest_70 : decode cX4_findBest 70 = .ok (.invokevirtual 414, 3) := dk_182 1 158 (dk_at dksX4_findBest_3 0 rfl rfl)
theorem dX4_findBest_73 : decode cX4_findBest 73 = .ok (.ifCond .eq (-21), 3) := dk_153 255 235 (dk_at dksX4_findBest_3 3 rfl rfl)
theorem dX4_findBest_76 : decode cX4_findBest 76 = .ok (.iinc 2 1, 3) := dk_132 2 1 (dk_at dksX4_findBest_3 6 rfl rfl)
theorem dX4_findBest_79 : decode cX4_findBest 79 = .ok (.aload_n 0, 1) := dk_42 (dk_at dksX4_findBest_3 9 rfl rfl)
theorem dX4_findBest_80 : decode cX4_findBest 80 = .ok (.iload_n 3, 1) := dk_29 (dk_at dksX4_findBest_3 10 rfl rfl)
theorem dX4_findBest_81 : decode cX4_findBest 81 = .ok (.invokevirtual 417, 3) := dk_182 1 161 (dk_at dksX4_findBest_3 11 rfl rfl)
theorem dX4_findBest_84 : decode cX4_findBest 84 = .ok (.goto (-32), 3) := dk_167 255 224 (dk_at dksX4_findBest_3 14 rfl rfl)
theorem dX4_findBest_87 : decode cX4_findBest 87 = .ok (.iinc 3 1, 3) := dk_132 3 1 (dk_at dksX4_findBest_3 17 rfl rfl)
theorem dX4_findBest_90 : decode cX4_findBest 90 = .ok (.goto (-80), 3) := dk_167 255 176 (dk_at dksX4_findBest_3 20 rfl rfl)
theorem dX4_findBest_93 : decode cX4_findBest 93 = .ok (.iload_n 2, 1) := dk_28 (dk_at dksX4_findBest_3 23 rfl rfl)
theorem dX4_findBest_94 : decode cX4_findBest 94 = .ok (.ireturn, 1) := dk_172 (dk_at dksX4_findBest_4 0 rfl rfl)
abbrev cX4_canFire : ByteArray := prog_19_method_112_code
def yX4_canFire : MethodName := ⟨RX4, "canFire", "()Z"⟩
def dkwX4_canFire_4 : List UInt8 := [167, 0, 4, 3, 60, 132, 2, 1, 167, 255, 158, 27, 154, 0, 7, 4, 167, 0, 4, 3, 172]
abbrev dktX4_canFire_4 : List UInt8 := dkwX4_canFire_4 ++ []
def dkwX4_canFire_3 : List UInt8 := [160, 0, 25, 42, 180, 0, 61, 7, 28, 104, 6, 96, 46, 42, 5, 182, 1, 152, 160, 0, 7, 4]
abbrev dktX4_canFire_3 : List UInt8 := dkwX4_canFire_3 ++ dktX4_canFire_4
def dkwX4_canFire_2 : List UInt8 := [46, 42, 3, 182, 1, 152, 160, 0, 43, 42, 180, 0, 61, 7, 28, 104, 5, 96, 46, 42, 4, 182, 1, 152]
abbrev dktX4_canFire_2 : List UInt8 := dkwX4_canFire_2 ++ dktX4_canFire_3
def dkwX4_canFire_1 : List UInt8 := [28, 104, 46, 42, 180, 0, 16, 42, 180, 0, 155, 46, 160, 0, 61, 42, 180, 0, 61, 7, 28, 104, 4, 96]
abbrev dktX4_canFire_1 : List UInt8 := dkwX4_canFire_1 ++ dktX4_canFire_2
def dkwX4_canFire_0 : List UInt8 := [3, 60, 3, 61, 28, 42, 180, 0, 7, 16, 10, 46, 162, 0, 93, 27, 154, 0, 89, 42, 180, 0, 61, 7]
abbrev dktX4_canFire_0 : List UInt8 := dkwX4_canFire_0 ++ dktX4_canFire_1
theorem dksX4_canFire_0 : cX4_canFire.data.toList.drop 0 = dktX4_canFire_0 := by decide +kernel
theorem dksX4_canFire_1 : cX4_canFire.data.toList.drop 24 = dktX4_canFire_1 := dk_seg dksX4_canFire_0 24 rfl rfl
theorem dksX4_canFire_2 : cX4_canFire.data.toList.drop 48 = dktX4_canFire_2 := dk_seg dksX4_canFire_1 24 rfl rfl
theorem dksX4_canFire_3 : cX4_canFire.data.toList.drop 72 = dktX4_canFire_3 := dk_seg dksX4_canFire_2 24 rfl rfl
theorem dksX4_canFire_4 : cX4_canFire.data.toList.drop 94 = dktX4_canFire_4 := dk_seg dksX4_canFire_3 22 rfl rfl
theorem dX4_canFire_0 : decode cX4_canFire 0 = .ok (.iconst 0, 1) := dk_3 (dk_at dksX4_canFire_0 0 rfl rfl)
theorem dX4_canFire_1 : decode cX4_canFire 1 = .ok (.istore_n 1, 1) := dk_60 (dk_at dksX4_canFire_0 1 rfl rfl)
theorem dX4_canFire_2 : decode cX4_canFire 2 = .ok (.iconst 0, 1) := dk_3 (dk_at dksX4_canFire_0 2 rfl rfl)
theorem dX4_canFire_3 : decode cX4_canFire 3 = .ok (.istore_n 2, 1) := dk_61 (dk_at dksX4_canFire_0 3 rfl rfl)
theorem dX4_canFire_4 : decode cX4_canFire 4 = .ok (.iload_n 2, 1) := dk_28 (dk_at dksX4_canFire_0 4 rfl rfl)
theorem dX4_canFire_5 : decode cX4_canFire 5 = .ok (.aload_n 0, 1) := dk_42 (dk_at dksX4_canFire_0 5 rfl rfl)
theorem dX4_canFire_6 : decode cX4_canFire 6 = .ok (.getfield 7, 3) := dk_180 0 7 (dk_at dksX4_canFire_0 6 rfl rfl)
theorem dX4_canFire_9 : decode cX4_canFire 9 = .ok (.bipush 10, 2) := dk_16 10 (dk_at dksX4_canFire_0 9 rfl rfl)
theorem dX4_canFire_11 : decode cX4_canFire 11 = .ok (.iaload, 1) := dk_46 (dk_at dksX4_canFire_0 11 rfl rfl)
theorem dX4_canFire_12 : decode cX4_canFire 12 = .ok (.if_icmp .ge 93, 3) := dk_162 0 93 (dk_at dksX4_canFire_0 12 rfl rfl)
theorem dX4_canFire_15 : decode cX4_canFire 15 = .ok (.iload_n 1, 1) := dk_27 (dk_at dksX4_canFire_0 15 rfl rfl)
theorem dX4_canFire_16 : decode cX4_canFire 16 = .ok (.ifCond .ne 89, 3) := dk_154 0 89 (dk_at dksX4_canFire_0 16 rfl rfl)
theorem dX4_canFire_19 : decode cX4_canFire 19 = .ok (.aload_n 0, 1) := dk_42 (dk_at dksX4_canFire_0 19 rfl rfl)
theorem dX4_canFire_20 : decode cX4_canFire 20 = .ok (.getfield 61, 3) := dk_180 0 61 (dk_at dksX4_canFire_0 20 rfl rfl)
theorem dX4_canFire_23 : decode cX4_canFire 23 = .ok (.iconst 4, 1) := dk_7 (dk_at dksX4_canFire_0 23 rfl rfl)
theorem dX4_canFire_24 : decode cX4_canFire 24 = .ok (.iload_n 2, 1) := dk_28 (dk_at dksX4_canFire_1 0 rfl rfl)
theorem dX4_canFire_25 : decode cX4_canFire 25 = .ok (.imul, 1) := dk_104 (dk_at dksX4_canFire_1 1 rfl rfl)
theorem dX4_canFire_26 : decode cX4_canFire 26 = .ok (.iaload, 1) := dk_46 (dk_at dksX4_canFire_1 2 rfl rfl)
theorem dX4_canFire_27 : decode cX4_canFire 27 = .ok (.aload_n 0, 1) := dk_42 (dk_at dksX4_canFire_1 3 rfl rfl)
theorem dX4_canFire_28 : decode cX4_canFire 28 = .ok (.getfield 16, 3) := dk_180 0 16 (dk_at dksX4_canFire_1 4 rfl rfl)
theorem dX4_canFire_31 : decode cX4_canFire 31 = .ok (.aload_n 0, 1) := dk_42 (dk_at dksX4_canFire_1 7 rfl rfl)
theorem dX4_canFire_32 : decode cX4_canFire 32 = .ok (.getfield 155, 3) := dk_180 0 155 (dk_at dksX4_canFire_1 8 rfl rfl)
theorem dX4_canFire_35 : decode cX4_canFire 35 = .ok (.iaload, 1) := dk_46 (dk_at dksX4_canFire_1 11 rfl rfl)
theorem dX4_canFire_36 : decode cX4_canFire 36 = .ok (.if_icmp .ne 61, 3) := dk_160 0 61 (dk_at dksX4_canFire_1 12 rfl rfl)
theorem dX4_canFire_39 : decode cX4_canFire 39 = .ok (.aload_n 0, 1) := dk_42 (dk_at dksX4_canFire_1 15 rfl rfl)
theorem dX4_canFire_40 : decode cX4_canFire 40 = .ok (.getfield 61, 3) := dk_180 0 61 (dk_at dksX4_canFire_1 16 rfl rfl)
theorem dX4_canFire_43 : decode cX4_canFire 43 = .ok (.iconst 4, 1) := dk_7 (dk_at dksX4_canFire_1 19 rfl rfl)
theorem dX4_canFire_44 : decode cX4_canFire 44 = .ok (.iload_n 2, 1) := dk_28 (dk_at dksX4_canFire_1 20 rfl rfl)
theorem dX4_canFire_45 : decode cX4_canFire 45 = .ok (.imul, 1) := dk_104 (dk_at dksX4_canFire_1 21 rfl rfl)
theorem dX4_canFire_46 : decode cX4_canFire 46 = .ok (.iconst 1, 1) := dk_4 (dk_at dksX4_canFire_1 22 rfl rfl)
theorem dX4_canFire_47 : decode cX4_canFire 47 = .ok (.iadd, 1) := dk_96 (dk_at dksX4_canFire_1 23 rfl rfl)
theorem dX4_canFire_48 : decode cX4_canFire 48 = .ok (.iaload, 1) := dk_46 (dk_at dksX4_canFire_2 0 rfl rfl)
theorem dX4_canFire_49 : decode cX4_canFire 49 = .ok (.aload_n 0, 1) := dk_42 (dk_at dksX4_canFire_2 1 rfl rfl)
theorem dX4_canFire_50 : decode cX4_canFire 50 = .ok (.iconst 0, 1) := dk_3 (dk_at dksX4_canFire_2 2 rfl rfl)
theorem dX4_canFire_51 : decode cX4_canFire 51 = .ok (.invokevirtual 408, 3) := dk_182 1 152 (dk_at dksX4_canFire_2 3 rfl rfl)
theorem dX4_canFire_54 : decode cX4_canFire 54 = .ok (.if_icmp .ne 43, 3) := dk_160 0 43 (dk_at dksX4_canFire_2 6 rfl rfl)
theorem dX4_canFire_57 : decode cX4_canFire 57 = .ok (.aload_n 0, 1) := dk_42 (dk_at dksX4_canFire_2 9 rfl rfl)
theorem dX4_canFire_58 : decode cX4_canFire 58 = .ok (.getfield 61, 3) := dk_180 0 61 (dk_at dksX4_canFire_2 10 rfl rfl)
theorem dX4_canFire_61 : decode cX4_canFire 61 = .ok (.iconst 4, 1) := dk_7 (dk_at dksX4_canFire_2 13 rfl rfl)
theorem dX4_canFire_62 : decode cX4_canFire 62 = .ok (.iload_n 2, 1) := dk_28 (dk_at dksX4_canFire_2 14 rfl rfl)
theorem dX4_canFire_63 : decode cX4_canFire 63 = .ok (.imul, 1) := dk_104 (dk_at dksX4_canFire_2 15 rfl rfl)
theorem dX4_canFire_64 : decode cX4_canFire 64 = .ok (.iconst 2, 1) := dk_5 (dk_at dksX4_canFire_2 16 rfl rfl)
theorem dX4_canFire_65 : decode cX4_canFire 65 = .ok (.iadd, 1) := dk_96 (dk_at dksX4_canFire_2 17 rfl rfl)
theorem dX4_canFire_66 : decode cX4_canFire 66 = .ok (.iaload, 1) := dk_46 (dk_at dksX4_canFire_2 18 rfl rfl)
theorem dX4_canFire_67 : decode cX4_canFire 67 = .ok (.aload_n 0, 1) := dk_42 (dk_at dksX4_canFire_2 19 rfl rfl)
theorem dX4_canFire_68 : decode cX4_canFire 68 = .ok (.iconst 1, 1) := dk_4 (dk_at dksX4_canFire_2 20 rfl rfl)
theorem dX4_canFire_69 : decode cX4_canFire 69 = .ok (.invokevirtual 408, 3) := dk_182 1 152 (dk_at dksX4_canFire_2 21 rfl rfl)
theorem dX4_canFire_72 : decode cX4_canFire 72 = .ok (.if_icmp .ne 25, 3) := dk_160 0 25 (dk_at dksX4_canFire_3 0 rfl rfl)
theorem dX4_canFire_75 : decode cX4_canFire 75 = .ok (.aload_n 0, 1) := dk_42 (dk_at dksX4_canFire_3 3 rfl rfl)
theorem dX4_canFire_76 : decode cX4_canFire 76 = .ok (.getfield 61, 3) := dk_180 0 61 (dk_at dksX4_canFire_3 4 rfl rfl)
theorem dX4_canFire_79 : decode cX4_canFire 79 = .ok (.iconst 4, 1) := dk_7 (dk_at dksX4_canFire_3 7 rfl rfl)
theorem dX4_canFire_80 : decode cX4_canFire 80 = .ok (.iload_n 2, 1) := dk_28 (dk_at dksX4_canFire_3 8 rfl rfl)
theorem dX4_canFire_81 : decode cX4_canFire 81 = .ok (.imul, 1) := dk_104 (dk_at dksX4_canFire_3 9 rfl rfl)
theorem dX4_canFire_82 : decode cX4_canFire 82 = .ok (.iconst 3, 1) := dk_6 (dk_at dksX4_canFire_3 10 rfl rfl)
theorem dX4_canFire_83 : decode cX4_canFire 83 = .ok (.iadd, 1) := dk_96 (dk_at dksX4_canFire_3 11 rfl rfl)
theorem dX4_canFire_84 : decode cX4_canFire 84 = .ok (.iaload, 1) := dk_46 (dk_at dksX4_canFire_3 12 rfl rfl)
theorem dX4_canFire_85 : decode cX4_canFire 85 = .ok (.aload_n 0, 1) := dk_42 (dk_at dksX4_canFire_3 13 rfl rfl)
theorem dX4_canFire_86 : decode cX4_canFire 86 = .ok (.iconst 2, 1) := dk_5 (dk_at dksX4_canFire_3 14 rfl rfl)
theorem dX4_canFire_87 : decode cX4_canFire 87 = .ok (.invokevirtual 408, 3) := dk_182 1 152 (dk_at dksX4_canFire_3 15 rfl rfl)
theorem dX4_canFire_90 : decode cX4_canFire 90 = .ok (.if_icmp .ne 7, 3) := dk_160 0 7 (dk_at dksX4_canFire_3 18 rfl rfl)
theorem dX4_canFire_93 : decode cX4_canFire 93 = .ok (.iconst 1, 1) := dk_4 (dk_at dksX4_canFire_3 21 rfl rfl)
theorem dX4_canFire_94 : decode cX4_canFire 94 = .ok (.goto 4, 3) := dk_167 0 4 (dk_at dksX4_canFire_4 0 rfl rfl)
theorem dX4_canFire_97 : decode cX4_canFire 97 = .ok (.iconst 0, 1) := dk_3 (dk_at dksX4_canFire_4 3 rfl rfl)
theorem dX4_canFire_98 : decode cX4_canFire 98 = .ok (.istore_n 1, 1) := dk_60 (dk_at dksX4_canFire_4 4 rfl rfl)
theorem dX4_canFire_99 : decode cX4_canFire 99 = .ok (.iinc 2 1, 3) := dk_132 2 1 (dk_at dksX4_canFire_4 5 rfl rfl)
theorem dX4_canFire_102 : decode cX4_canFire 102 = .ok (.goto (-98), 3) := dk_167 255 158 (dk_at dksX4_canFire_4 8 rfl rfl)
theorem dX4_canFire_105 : decode cX4_canFire 105 = .ok (.iload_n 1, 1) := dk_27 (dk_at dksX4_canFire_4 11 rfl rfl)
theorem dX4_canFire_106 : decode cX4_canFire 106 = .ok (.ifCond .ne 7, 3) := dk_154 0 7 (dk_at dksX4_canFire_4 12 rfl rfl)
theorem dX4_canFire_109 : decode cX4_canFire 109 = .ok (.iconst 1, 1) := dk_4 (dk_at dksX4_canFire_4 15 rfl rfl)
theorem dX4_canFire_110 : decode cX4_canFire 110 = .ok (.goto 4, 3) := dk_167 0 4 (dk_at dksX4_canFire_4 16 rfl rfl)
theorem dX4_canFire_113 : decode cX4_canFire 113 = .ok (.iconst 0, 1) := dk_3 (dk_at dksX4_canFire_4 19 rfl rfl)
theorem dX4_canFire_114 : decode cX4_canFire 114 = .ok (.ireturn, 1) := dk_172 (dk_at dksX4_canFire_4 20 rfl rfl)
abbrev cX4_tagOf : ByteArray := prog_19_method_111_code
def yX4_tagOf : MethodName := ⟨RX4, "tagOf", "(I)I"⟩
def dkwX4_tagOf_2 : List UInt8 := [167, 255, 214, 3, 172]
abbrev dktX4_tagOf_2 : List UInt8 := dkwX4_tagOf_2 ++ []
def dkwX4_tagOf_1 : List UInt8 := [28, 154, 0, 15, 42, 180, 0, 55, 42, 180, 0, 88, 29, 46, 46, 172, 132, 2, 255, 132, 3, 1]
abbrev dktX4_tagOf_1 : List UInt8 := dkwX4_tagOf_1 ++ dktX4_tagOf_2
def dkwX4_tagOf_0 : List UInt8 := [27, 61, 3, 62, 29, 42, 180, 0, 158, 162, 0, 40, 42, 42, 180, 0, 155, 29, 182, 0, 148, 154, 0, 22]
abbrev dktX4_tagOf_0 : List UInt8 := dkwX4_tagOf_0 ++ dktX4_tagOf_1
theorem dksX4_tagOf_0 : cX4_tagOf.data.toList.drop 0 = dktX4_tagOf_0 := by decide +kernel
theorem dksX4_tagOf_1 : cX4_tagOf.data.toList.drop 24 = dktX4_tagOf_1 := dk_seg dksX4_tagOf_0 24 rfl rfl
theorem dksX4_tagOf_2 : cX4_tagOf.data.toList.drop 46 = dktX4_tagOf_2 := dk_seg dksX4_tagOf_1 22 rfl rfl
theorem dX4_tagOf_0 : decode cX4_tagOf 0 = .ok (.iload_n 1, 1) := dk_27 (dk_at dksX4_tagOf_0 0 rfl rfl)
theorem dX4_tagOf_1 : decode cX4_tagOf 1 = .ok (.istore_n 2, 1) := dk_61 (dk_at dksX4_tagOf_0 1 rfl rfl)
theorem dX4_tagOf_2 : decode cX4_tagOf 2 = .ok (.iconst 0, 1) := dk_3 (dk_at dksX4_tagOf_0 2 rfl rfl)
theorem dX4_tagOf_3 : decode cX4_tagOf 3 = .ok (.istore_n 3, 1) := dk_62 (dk_at dksX4_tagOf_0 3 rfl rfl)
theorem dX4_tagOf_4 : decode cX4_tagOf 4 = .ok (.iload_n 3, 1) := dk_29 (dk_at dksX4_tagOf_0 4 rfl rfl)
theorem dX4_tagOf_5 : decode cX4_tagOf 5 = .ok (.aload_n 0, 1) := dk_42 (dk_at dksX4_tagOf_0 5 rfl rfl)
theorem dX4_tagOf_6 : decode cX4_tagOf 6 = .ok (.getfield 158, 3) := dk_180 0 158 (dk_at dksX4_tagOf_0 6 rfl rfl)
theorem dX4_tagOf_9 : decode cX4_tagOf 9 = .ok (.if_icmp .ge 40, 3) := dk_162 0 40 (dk_at dksX4_tagOf_0 9 rfl rfl)
theorem dX4_tagOf_12 : decode cX4_tagOf 12 = .ok (.aload_n 0, 1) := dk_42 (dk_at dksX4_tagOf_0 12 rfl rfl)
theorem dX4_tagOf_13 : decode cX4_tagOf 13 = .ok (.aload_n 0, 1) := dk_42 (dk_at dksX4_tagOf_0 13 rfl rfl)
theorem dX4_tagOf_14 : decode cX4_tagOf 14 = .ok (.getfield 155, 3) := dk_180 0 155 (dk_at dksX4_tagOf_0 14 rfl rfl)
theorem dX4_tagOf_17 : decode cX4_tagOf 17 = .ok (.iload_n 3, 1) := dk_29 (dk_at dksX4_tagOf_0 17 rfl rfl)
theorem dX4_tagOf_18 : decode cX4_tagOf 18 = .ok (.invokevirtual 148, 3) := dk_182 0 148 (dk_at dksX4_tagOf_0 18 rfl rfl)
theorem dX4_tagOf_21 : decode cX4_tagOf 21 = .ok (.ifCond .ne 22, 3) := dk_154 0 22 (dk_at dksX4_tagOf_0 21 rfl rfl)
theorem dX4_tagOf_24 : decode cX4_tagOf 24 = .ok (.iload_n 2, 1) := dk_28 (dk_at dksX4_tagOf_1 0 rfl rfl)
theorem dX4_tagOf_25 : decode cX4_tagOf 25 = .ok (.ifCond .ne 15, 3) := dk_154 0 15 (dk_at dksX4_tagOf_1 1 rfl rfl)
theorem dX4_tagOf_28 : decode cX4_tagOf 28 = .ok (.aload_n 0, 1) := dk_42 (dk_at dksX4_tagOf_1 4 rfl rfl)
theorem dX4_tagOf_29 : decode cX4_tagOf 29 = .ok (.getfield 55, 3) := dk_180 0 55 (dk_at dksX4_tagOf_1 5 rfl rfl)
theorem dX4_tagOf_32 : decode cX4_tagOf 32 = .ok (.aload_n 0, 1) := dk_42 (dk_at dksX4_tagOf_1 8 rfl rfl)
theorem dX4_tagOf_33 : decode cX4_tagOf 33 = .ok (.getfield 88, 3) := dk_180 0 88 (dk_at dksX4_tagOf_1 9 rfl rfl)
theorem dX4_tagOf_36 : decode cX4_tagOf 36 = .ok (.iload_n 3, 1) := dk_29 (dk_at dksX4_tagOf_1 12 rfl rfl)
theorem dX4_tagOf_37 : decode cX4_tagOf 37 = .ok (.iaload, 1) := dk_46 (dk_at dksX4_tagOf_1 13 rfl rfl)
theorem dX4_tagOf_38 : decode cX4_tagOf 38 = .ok (.iaload, 1) := dk_46 (dk_at dksX4_tagOf_1 14 rfl rfl)
theorem dX4_tagOf_39 : decode cX4_tagOf 39 = .ok (.ireturn, 1) := dk_172 (dk_at dksX4_tagOf_1 15 rfl rfl)
theorem dX4_tagOf_40 : decode cX4_tagOf 40 = .ok (.iinc 2 (-1), 3) := dk_132 2 255 (dk_at dksX4_tagOf_1 16 rfl rfl)
theorem dX4_tagOf_43 : decode cX4_tagOf 43 = .ok (.iinc 3 1, 3) := dk_132 3 1 (dk_at dksX4_tagOf_1 19 rfl rfl)
theorem dX4_tagOf_46 : decode cX4_tagOf 46 = .ok (.goto (-42), 3) := dk_167 255 214 (dk_at dksX4_tagOf_2 0 rfl rfl)
theorem dX4_tagOf_49 : decode cX4_tagOf 49 = .ok (.iconst 0, 1) := dk_3 (dk_at dksX4_tagOf_2 3 rfl rfl)
theorem dX4_tagOf_50 : decode cX4_tagOf 50 = .ok (.ireturn, 1) := dk_172 (dk_at dksX4_tagOf_2 4 rfl rfl)
abbrev cX4_compare : ByteArray := prog_19_method_115_code
def yX4_compare : MethodName := ⟨RX4, "compare", "(I)V"⟩
def dkwX4_compare_8 : List UInt8 := [182, 1, 152, 79, 42, 180, 0, 128, 5, 42, 5, 182, 1, 152, 79, 177]
abbrev dktX4_compare_8 : List UInt8 := dkwX4_compare_8 ++ []
def dkwX4_compare_7 : List UInt8 := [182, 0, 222, 181, 1, 170, 42, 180, 0, 128, 3, 42, 3, 182, 1, 152, 79, 42, 180, 0, 128, 4, 42, 4]
abbrev dktX4_compare_7 : List UInt8 := dkwX4_compare_7 ++ dktX4_compare_8
def dkwX4_compare_6 : List UInt8 := [167, 0, 4, 3, 62, 29, 153, 0, 55, 42, 27, 181, 1, 155, 42, 28, 181, 1, 167, 42, 42, 27]
abbrev dktX4_compare_6 : List UInt8 := dkwX4_compare_6 ++ dktX4_compare_7
def dkwX4_compare_5 : List UInt8 := [21, 4, 153, 0, 25, 42, 180, 0, 25, 27, 46, 42, 180, 0, 25, 42, 180, 1, 155, 46, 164, 0, 7, 4]
abbrev dktX4_compare_5 : List UInt8 := dkwX4_compare_5 ++ dktX4_compare_6
def dkwX4_compare_4 : List UInt8 := [21, 4, 153, 0, 15, 28, 42, 180, 1, 167, 160, 0, 7, 4, 167, 0, 4, 3, 54, 4, 29, 154, 0, 26]
abbrev dktX4_compare_4 : List UInt8 := dkwX4_compare_4 ++ dktX4_compare_5
def dkwX4_compare_3 : List UInt8 := [29, 154, 0, 16, 21, 4, 153, 0, 15, 28, 42, 180, 1, 167, 164, 0, 7, 4, 167, 0, 4, 3, 62]
abbrev dktX4_compare_3 : List UInt8 := dkwX4_compare_3 ++ dktX4_compare_4
def dkwX4_compare_2 : List UInt8 := [180, 0, 40, 27, 46, 42, 180, 0, 40, 42, 180, 1, 155, 46, 160, 0, 7, 4, 167, 0, 4, 3, 54, 4]
abbrev dktX4_compare_2 : List UInt8 := dkwX4_compare_2 ++ dktX4_compare_3
def dkwX4_compare_1 : List UInt8 := [180, 1, 155, 46, 164, 0, 7, 4, 167, 0, 4, 3, 62, 42, 180, 1, 155, 2, 159, 0, 25, 42]
abbrev dktX4_compare_1 : List UInt8 := dkwX4_compare_1 ++ dktX4_compare_2
def dkwX4_compare_0 : List UInt8 := [42, 182, 1, 164, 61, 42, 180, 1, 155, 2, 159, 0, 21, 42, 180, 0, 40, 27, 46, 42, 180, 0, 40, 42]
abbrev dktX4_compare_0 : List UInt8 := dkwX4_compare_0 ++ dktX4_compare_1
theorem dksX4_compare_0 : cX4_compare.data.toList.drop 0 = dktX4_compare_0 := by decide +kernel
theorem dksX4_compare_1 : cX4_compare.data.toList.drop 24 = dktX4_compare_1 := dk_seg dksX4_compare_0 24 rfl rfl
theorem dksX4_compare_2 : cX4_compare.data.toList.drop 46 = dktX4_compare_2 := dk_seg dksX4_compare_1 22 rfl rfl
theorem dksX4_compare_3 : cX4_compare.data.toList.drop 70 = dktX4_compare_3 := dk_seg dksX4_compare_2 24 rfl rfl
theorem dksX4_compare_4 : cX4_compare.data.toList.drop 93 = dktX4_compare_4 := dk_seg dksX4_compare_3 23 rfl rfl
theorem dksX4_compare_5 : cX4_compare.data.toList.drop 117 = dktX4_compare_5 := dk_seg dksX4_compare_4 24 rfl rfl
theorem dksX4_compare_6 : cX4_compare.data.toList.drop 141 = dktX4_compare_6 := dk_seg dksX4_compare_5 24 rfl rfl
theorem dksX4_compare_7 : cX4_compare.data.toList.drop 163 = dktX4_compare_7 := dk_seg dksX4_compare_6 22 rfl rfl
theorem dksX4_compare_8 : cX4_compare.data.toList.drop 187 = dktX4_compare_8 := dk_seg dksX4_compare_7 24 rfl rfl
theorem dX4_compare_0 : decode cX4_compare 0 = .ok (.aload_n 0, 1) := dk_42 (dk_at dksX4_compare_0 0 rfl rfl)
theorem dX4_compare_1 : decode cX4_compare 1 = .ok (.invokevirtual 420, 3) := dk_182 1 164 (dk_at dksX4_compare_0 1 rfl rfl)
theorem dX4_compare_4 : decode cX4_compare 4 = .ok (.istore_n 2, 1) := dk_61 (dk_at dksX4_compare_0 4 rfl rfl)
theorem dX4_compare_5 : decode cX4_compare 5 = .ok (.aload_n 0, 1) := dk_42 (dk_at dksX4_compare_0 5 rfl rfl)
theorem dX4_compare_6 : decode cX4_compare 6 = .ok (.getfield 411, 3) := dk_180 1 155 (dk_at dksX4_compare_0 6 rfl rfl)
theorem dX4_compare_9 : decode cX4_compare 9 = .ok (.iconst (-1), 1) := dk_2 (dk_at dksX4_compare_0 9 rfl rfl)
theorem dX4_compare_10 : decode cX4_compare 10 = .ok (.if_icmp .eq 21, 3) := dk_159 0 21 (dk_at dksX4_compare_0 10 rfl rfl)
theorem dX4_compare_13 : decode cX4_compare 13 = .ok (.aload_n 0, 1) := dk_42 (dk_at dksX4_compare_0 13 rfl rfl)
theorem dX4_compare_14 : decode cX4_compare 14 = .ok (.getfield 40, 3) := dk_180 0 40 (dk_at dksX4_compare_0 14 rfl rfl)
theorem dX4_compare_17 : decode cX4_compare 17 = .ok (.iload_n 1, 1) := dk_27 (dk_at dksX4_compare_0 17 rfl rfl)
theorem dX4_compare_18 : decode cX4_compare 18 = .ok (.iaload, 1) := dk_46 (dk_at dksX4_compare_0 18 rfl rfl)
theorem dX4_compare_19 : decode cX4_compare 19 = .ok (.aload_n 0, 1) := dk_42 (dk_at dksX4_compare_0 19 rfl rfl)
theorem dX4_compare_20 : decode cX4_compare 20 = .ok (.getfield 40, 3) := dk_180 0 40 (dk_at dksX4_compare_0 20 rfl rfl)
theorem dX4_compare_23 : decode cX4_compare 23 = .ok (.aload_n 0, 1) := dk_42 (dk_at dksX4_compare_0 23 rfl rfl)
theorem dX4_compare_24 : decode cX4_compare 24 = .ok (.getfield 411, 3) := dk_180 1 155 (dk_at dksX4_compare_1 0 rfl rfl)
theorem dX4_compare_27 : decode cX4_compare 27 = .ok (.iaload, 1) := dk_46 (dk_at dksX4_compare_1 3 rfl rfl)
theorem dX4_compare_28 : decode cX4_compare 28 = .ok (.if_icmp .le 7, 3) := dk_164 0 7 (dk_at dksX4_compare_1 4 rfl rfl)
theorem dX4_compare_31 : decode cX4_compare 31 = .ok (.iconst 1, 1) := dk_4 (dk_at dksX4_compare_1 7 rfl rfl)
theorem dX4_compare_32 : decode cX4_compare 32 = .ok (.goto 4, 3) := dk_167 0 4 (dk_at dksX4_compare_1 8 rfl rfl)
theorem dX4_compare_35 : decode cX4_compare 35 = .ok (.iconst 0, 1) := dk_3 (dk_at dksX4_compare_1 11 rfl rfl)
theorem dX4_compare_36 : decode cX4_compare 36 = .ok (.istore_n 3, 1) := dk_62 (dk_at dksX4_compare_1 12 rfl rfl)
theorem dX4_compare_37 : decode cX4_compare 37 = .ok (.aload_n 0, 1) := dk_42 (dk_at dksX4_compare_1 13 rfl rfl)
theorem dX4_compare_38 : decode cX4_compare 38 = .ok (.getfield 411, 3) := dk_180 1 155 (dk_at dksX4_compare_1 14 rfl rfl)
theorem dX4_compare_41 : decode cX4_compare 41 = .ok (.iconst (-1), 1) := dk_2 (dk_at dksX4_compare_1 17 rfl rfl)
theorem dX4_compare_42 : decode cX4_compare 42 = .ok (.if_icmp .eq 25, 3) := dk_159 0 25 (dk_at dksX4_compare_1 18 rfl rfl)
theorem dX4_compare_45 : decode cX4_compare 45 = .ok (.aload_n 0, 1) := dk_42 (dk_at dksX4_compare_1 21 rfl rfl)
theorem dX4_compare_46 : decode cX4_compare 46 = .ok (.getfield 40, 3) := dk_180 0 40 (dk_at dksX4_compare_2 0 rfl rfl)
theorem dX4_compare_49 : decode cX4_compare 49 = .ok (.iload_n 1, 1) := dk_27 (dk_at dksX4_compare_2 3 rfl rfl)
theorem dX4_compare_50 : decode cX4_compare 50 = .ok (.iaload, 1) := dk_46 (dk_at dksX4_compare_2 4 rfl rfl)
theorem dX4_compare_51 : decode cX4_compare 51 = .ok (.aload_n 0, 1) := dk_42 (dk_at dksX4_compare_2 5 rfl rfl)
theorem dX4_compare_52 : decode cX4_compare 52 = .ok (.getfield 40, 3) := dk_180 0 40 (dk_at dksX4_compare_2 6 rfl rfl)
theorem dX4_compare_55 : decode cX4_compare 55 = .ok (.aload_n 0, 1) := dk_42 (dk_at dksX4_compare_2 9 rfl rfl)
theorem dX4_compare_56 : decode cX4_compare 56 = .ok (.getfield 411, 3) := dk_180 1 155 (dk_at dksX4_compare_2 10 rfl rfl)
theorem dX4_compare_59 : decode cX4_compare 59 = .ok (.iaload, 1) := dk_46 (dk_at dksX4_compare_2 13 rfl rfl)
theorem dX4_compare_60 : decode cX4_compare 60 = .ok (.if_icmp .ne 7, 3) := dk_160 0 7 (dk_at dksX4_compare_2 14 rfl rfl)
theorem dX4_compare_63 : decode cX4_compare 63 = .ok (.iconst 1, 1) := dk_4 (dk_at dksX4_compare_2 17 rfl rfl)
theorem dX4_compare_64 : decode cX4_compare 64 = .ok (.goto 4, 3) := dk_167 0 4 (dk_at dksX4_compare_2 18 rfl rfl)
theorem dX4_compare_67 : decode cX4_compare 67 = .ok (.iconst 0, 1) := dk_3 (dk_at dksX4_compare_2 21 rfl rfl)
theorem dX4_compare_68 : decode cX4_compare 68 = .ok (.istore 4, 2) := dk_54 4 (dk_at dksX4_compare_2 22 rfl rfl)
theorem dX4_compare_70 : decode cX4_compare 70 = .ok (.iload_n 3, 1) := dk_29 (dk_at dksX4_compare_3 0 rfl rfl)
theorem dX4_compare_71 : decode cX4_compare 71 = .ok (.ifCond .ne 16, 3) := dk_154 0 16 (dk_at dksX4_compare_3 1 rfl rfl)
theorem dX4_compare_74 : decode cX4_compare 74 = .ok (.iload 4, 2) := dk_21 4 (dk_at dksX4_compare_3 4 rfl rfl)
theorem dX4_compare_76 : decode cX4_compare 76 = .ok (.ifCond .eq 15, 3) := dk_153 0 15 (dk_at dksX4_compare_3 6 rfl rfl)
theorem dX4_compare_79 : decode cX4_compare 79 = .ok (.iload_n 2, 1) := dk_28 (dk_at dksX4_compare_3 9 rfl rfl)
theorem dX4_compare_80 : decode cX4_compare 80 = .ok (.aload_n 0, 1) := dk_42 (dk_at dksX4_compare_3 10 rfl rfl)
theorem dX4_compare_81 : decode cX4_compare 81 = .ok (.getfield 423, 3) := dk_180 1 167 (dk_at dksX4_compare_3 11 rfl rfl)
theorem dX4_compare_84 : decode cX4_compare 84 = .ok (.if_icmp .le 7, 3) := dk_164 0 7 (dk_at dksX4_compare_3 14 rfl rfl)
theorem dX4_compare_87 : decode cX4_compare 87 = .ok (.iconst 1, 1) := dk_4 (dk_at dksX4_compare_3 17 rfl rfl)
theorem dX4_compare_88 : decode cX4_compare 88 = .ok (.goto 4, 3) := dk_167 0 4 (dk_at dksX4_compare_3 18 rfl rfl)
theorem dX4_compare_91 : decode cX4_compare 91 = .ok (.iconst 0, 1) := dk_3 (dk_at dksX4_compare_3 21 rfl rfl)
theorem dX4_compare_92 : decode cX4_compare 92 = .ok (.istore_n 3, 1) := dk_62 (dk_at dksX4_compare_3 22 rfl rfl)
theorem dX4_compare_93 : decode cX4_compare 93 = .ok (.iload 4, 2) := dk_21 4 (dk_at dksX4_compare_4 0 rfl rfl)
theorem dX4_compare_95 : decode cX4_compare 95 = .ok (.ifCond .eq 15, 3) := dk_153 0 15 (dk_at dksX4_compare_4 2 rfl rfl)
theorem dX4_compare_98 : decode cX4_compare 98 = .ok (.iload_n 2, 1) := dk_28 (dk_at dksX4_compare_4 5 rfl rfl)
theorem dX4_compare_99 : decode cX4_compare 99 = .ok (.aload_n 0, 1) := dk_42 (dk_at dksX4_compare_4 6 rfl rfl)
theorem dX4_compare_100 : decode cX4_compare 100 = .ok (.getfield 423, 3) := dk_180 1 167 (dk_at dksX4_compare_4 7 rfl rfl)
theorem dX4_compare_103 : decode cX4_compare 103 = .ok (.if_icmp .ne 7, 3) := dk_160 0 7 (dk_at dksX4_compare_4 10 rfl rfl)
theorem dX4_compare_106 : decode cX4_compare 106 = .ok (.iconst 1, 1) := dk_4 (dk_at dksX4_compare_4 13 rfl rfl)
theorem dX4_compare_107 : decode cX4_compare 107 = .ok (.goto 4, 3) := dk_167 0 4 (dk_at dksX4_compare_4 14 rfl rfl)
theorem dX4_compare_110 : decode cX4_compare 110 = .ok (.iconst 0, 1) := dk_3 (dk_at dksX4_compare_4 17 rfl rfl)
theorem dX4_compare_111 : decode cX4_compare 111 = .ok (.istore 4, 2) := dk_54 4 (dk_at dksX4_compare_4 18 rfl rfl)
theorem dX4_compare_113 : decode cX4_compare 113 = .ok (.iload_n 3, 1) := dk_29 (dk_at dksX4_compare_4 20 rfl rfl)
theorem dX4_compare_114 : decode cX4_compare 114 = .ok (.ifCond .ne 26, 3) := dk_154 0 26 (dk_at dksX4_compare_4 21 rfl rfl)
theorem dX4_compare_117 : decode cX4_compare 117 = .ok (.iload 4, 2) := dk_21 4 (dk_at dksX4_compare_5 0 rfl rfl)
theorem dX4_compare_119 : decode cX4_compare 119 = .ok (.ifCond .eq 25, 3) := dk_153 0 25 (dk_at dksX4_compare_5 2 rfl rfl)
theorem dX4_compare_122 : decode cX4_compare 122 = .ok (.aload_n 0, 1) := dk_42 (dk_at dksX4_compare_5 5 rfl rfl)
theorem dX4_compare_123 : decode cX4_compare 123 = .ok (.getfield 25, 3) := dk_180 0 25 (dk_at dksX4_compare_5 6 rfl rfl)
theorem dX4_compare_126 : decode cX4_compare 126 = .ok (.iload_n 1, 1) := dk_27 (dk_at dksX4_compare_5 9 rfl rfl)
theorem dX4_compare_127 : decode cX4_compare 127 = .ok (.iaload, 1) := dk_46 (dk_at dksX4_compare_5 10 rfl rfl)
theorem dX4_compare_128 : decode cX4_compare 128 = .ok (.aload_n 0, 1) := dk_42 (dk_at dksX4_compare_5 11 rfl rfl)
theorem dX4_compare_129 : decode cX4_compare 129 = .ok (.getfield 25, 3) := dk_180 0 25 (dk_at dksX4_compare_5 12 rfl rfl)
theorem dX4_compare_132 : decode cX4_compare 132 = .ok (.aload_n 0, 1) := dk_42 (dk_at dksX4_compare_5 15 rfl rfl)
theorem dX4_compare_133 : decode cX4_compare 133 = .ok (.getfield 411, 3) := dk_180 1 155 (dk_at dksX4_compare_5 16 rfl rfl)
theorem dX4_compare_136 : decode cX4_compare 136 = .ok (.iaload, 1) := dk_46 (dk_at dksX4_compare_5 19 rfl rfl)
theorem dX4_compare_137 : decode cX4_compare 137 = .ok (.if_icmp .le 7, 3) := dk_164 0 7 (dk_at dksX4_compare_5 20 rfl rfl)
theorem dX4_compare_140 : decode cX4_compare 140 = .ok (.iconst 1, 1) := dk_4 (dk_at dksX4_compare_5 23 rfl rfl)
theorem dX4_compare_141 : decode cX4_compare 141 = .ok (.goto 4, 3) := dk_167 0 4 (dk_at dksX4_compare_6 0 rfl rfl)
theorem dX4_compare_144 : decode cX4_compare 144 = .ok (.iconst 0, 1) := dk_3 (dk_at dksX4_compare_6 3 rfl rfl)
theorem dX4_compare_145 : decode cX4_compare 145 = .ok (.istore_n 3, 1) := dk_62 (dk_at dksX4_compare_6 4 rfl rfl)
theorem dX4_compare_146 : decode cX4_compare 146 = .ok (.iload_n 3, 1) := dk_29 (dk_at dksX4_compare_6 5 rfl rfl)
theorem dX4_compare_147 : decode cX4_compare 147 = .ok (.ifCond .eq 55, 3) := dk_153 0 55 (dk_at dksX4_compare_6 6 rfl rfl)
theorem dX4_compare_150 : decode cX4_compare 150 = .ok (.aload_n 0, 1) := dk_42 (dk_at dksX4_compare_6 9 rfl rfl)
theorem dX4_compare_151 : decode cX4_compare 151 = .ok (.iload_n 1, 1) := dk_27 (dk_at dksX4_compare_6 10 rfl rfl)
theorem dX4_compare_152 : decode cX4_compare 152 = .ok (.putfield 411, 3) := dk_181 1 155 (dk_at dksX4_compare_6 11 rfl rfl)
theorem dX4_compare_155 : decode cX4_compare 155 = .ok (.aload_n 0, 1) := dk_42 (dk_at dksX4_compare_6 14 rfl rfl)
theorem dX4_compare_156 : decode cX4_compare 156 = .ok (.iload_n 2, 1) := dk_28 (dk_at dksX4_compare_6 15 rfl rfl)
theorem dX4_compare_157 : decode cX4_compare 157 = .ok (.putfield 423, 3) := dk_181 1 167 (dk_at dksX4_compare_6 16 rfl rfl)
theorem dX4_compare_160 : decode cX4_compare 160 = .ok (.aload_n 0, 1) := dk_42 (dk_at dksX4_compare_6 19 rfl rfl)
theorem dX4_compare_161 : decode cX4_compare 161 = .ok (.aload_n 0, 1) := dk_42 (dk_at dksX4_compare_6 20 rfl rfl)
theorem dX4_compare_162 : decode cX4_compare 162 = .ok (.iload_n 1, 1) := dk_27 (dk_at dksX4_compare_6 21 rfl rfl)
theorem dX4_compare_163 : decode cX4_compare 163 = .ok (.invokevirtual 222, 3) := dk_182 0 222 (dk_at dksX4_compare_7 0 rfl rfl)
theorem dX4_compare_166 : decode cX4_compare 166 = .ok (.putfield 426, 3) := dk_181 1 170 (dk_at dksX4_compare_7 3 rfl rfl)
theorem dX4_compare_169 : decode cX4_compare 169 = .ok (.aload_n 0, 1) := dk_42 (dk_at dksX4_compare_7 6 rfl rfl)
theorem dX4_compare_170 : decode cX4_compare 170 = .ok (.getfield 128, 3) := dk_180 0 128 (dk_at dksX4_compare_7 7 rfl rfl)
theorem dX4_compare_173 : decode cX4_compare 173 = .ok (.iconst 0, 1) := dk_3 (dk_at dksX4_compare_7 10 rfl rfl)
theorem dX4_compare_174 : decode cX4_compare 174 = .ok (.aload_n 0, 1) := dk_42 (dk_at dksX4_compare_7 11 rfl rfl)
theorem dX4_compare_175 : decode cX4_compare 175 = .ok (.iconst 0, 1) := dk_3 (dk_at dksX4_compare_7 12 rfl rfl)
theorem dX4_compare_176 : decode cX4_compare 176 = .ok (.invokevirtual 408, 3) := dk_182 1 152 (dk_at dksX4_compare_7 13 rfl rfl)
theorem dX4_compare_179 : decode cX4_compare 179 = .ok (.iastore, 1) := dk_79 (dk_at dksX4_compare_7 16 rfl rfl)
theorem dX4_compare_180 : decode cX4_compare 180 = .ok (.aload_n 0, 1) := dk_42 (dk_at dksX4_compare_7 17 rfl rfl)
theorem dX4_compare_181 : decode cX4_compare 181 = .ok (.getfield 128, 3) := dk_180 0 128 (dk_at dksX4_compare_7 18 rfl rfl)
theorem dX4_compare_184 : decode cX4_compare 184 = .ok (.iconst 1, 1) := dk_4 (dk_at dksX4_compare_7 21 rfl rfl)
theorem dX4_compare_185 : decode cX4_compare 185 = .ok (.aload_n 0, 1) := dk_42 (dk_at dksX4_compare_7 22 rfl rfl)
theorem dX4_compare_186 : decode cX4_compare 186 = .ok (.iconst 1, 1) := dk_4 (dk_at dksX4_compare_7 23 rfl rfl)
theorem dX4_compare_187 : decode cX4_compare 187 = .ok (.invokevirtual 408, 3) := dk_182 1 152 (dk_at dksX4_compare_8 0 rfl rfl)
theorem dX4_compare_190 : decode cX4_compare 190 = .ok (.iastore, 1) := dk_79 (dk_at dksX4_compare_8 3 rfl rfl)
theorem dX4_compare_191 : decode cX4_compare 191 = .ok (.aload_n 0, 1) := dk_42 (dk_at dksX4_compare_8 4 rfl rfl)
theorem dX4_compare_192 : decode cX4_compare 192 = .ok (.getfield 128, 3) := dk_180 0 128 (dk_at dksX4_compare_8 5 rfl rfl)
theorem dX4_compare_195 : decode cX4_compare 195 = .ok (.iconst 2, 1) := dk_5 (dk_at dksX4_compare_8 8 rfl rfl)
theorem dX4_compare_196 : decode cX4_compare 196 = .ok (.aload_n 0, 1) := dk_42 (dk_at dksX4_compare_8 9 rfl rfl)
theorem dX4_compare_197 : decode cX4_compare 197 = .ok (.iconst 2, 1) := dk_5 (dk_at dksX4_compare_8 10 rfl rfl)
theorem dX4_compare_198 : decode cX4_compare 198 = .ok (.invokevirtual 408, 3) := dk_182 1 152 (dk_at dksX4_compare_8 11 rfl rfl)
theorem dX4_compare_201 : decode cX4_compare 201 = .ok (.iastore, 1) := dk_79 (dk_at dksX4_compare_8 14 rfl rfl)
theorem dX4_compare_202 : decode cX4_compare 202 = .ok (.return_, 1) := dk_177 (dk_at dksX4_compare_8 15 rfl rfl)
abbrev cX4_greatestTag : ByteArray := prog_19_method_113_code
def yX4_greatestTag : MethodName := ⟨RX4, "greatestTag", "()I"⟩
def dkwX4_greatestTag_1 : List UInt8 := [60, 42, 5, 182, 1, 152, 27, 164, 0, 11, 42, 5, 182, 1, 152, 167, 0, 4, 27, 172]
abbrev dktX4_greatestTag_1 : List UInt8 := dkwX4_greatestTag_1 ++ []
def dkwX4_greatestTag_0 : List UInt8 := [42, 3, 182, 1, 152, 60, 42, 4, 182, 1, 152, 27, 164, 0, 11, 42, 4, 182, 1, 152, 167, 0, 4, 27]
abbrev dktX4_greatestTag_0 : List UInt8 := dkwX4_greatestTag_0 ++ dktX4_greatestTag_1
theorem dksX4_greatestTag_0 : cX4_greatestTag.data.toList.drop 0 = dktX4_greatestTag_0 := by decide +kernel
theorem dksX4_greatestTag_1 : cX4_greatestTag.data.toList.drop 24 = dktX4_greatestTag_1 := dk_seg dksX4_greatestTag_0 24 rfl rfl
theorem dX4_greatestTag_0 : decode cX4_greatestTag 0 = .ok (.aload_n 0, 1) := dk_42 (dk_at dksX4_greatestTag_0 0 rfl rfl)
theorem dX4_greatestTag_1 : decode cX4_greatestTag 1 = .ok (.iconst 0, 1) := dk_3 (dk_at dksX4_greatestTag_0 1 rfl rfl)
theorem dX4_greatestTag_2 : decode cX4_greatestTag 2 = .ok (.invokevirtual 408, 3) := dk_182 1 152 (dk_at dksX4_greatestTag_0 2 rfl rfl)
theorem dX4_greatestTag_5 : decode cX4_greatestTag 5 = .ok (.istore_n 1, 1) := dk_60 (dk_at dksX4_greatestTag_0 5 rfl rfl)
theorem dX4_greatestTag_6 : decode cX4_greatestTag 6 = .ok (.aload_n 0, 1) := dk_42 (dk_at dksX4_greatestTag_0 6 rfl rfl)
theorem dX4_greatestTag_7 : decode cX4_greatestTag 7 = .ok (.iconst 1, 1) := dk_4 (dk_at dksX4_greatestTag_0 7 rfl rfl)
theorem dX4_greatestTag_8 : decode cX4_greatestTag 8 = .ok (.invokevirtual 408, 3) := dk_182 1 152 (dk_at dksX4_greatestTag_0 8 rfl rfl)
theorem dX4_greatestTag_11 : decode cX4_greatestTag 11 = .ok (.iload_n 1, 1) := dk_27 (dk_at dksX4_greatestTag_0 11 rfl rfl)
theorem dX4_greatestTag_12 : decode cX4_greatestTag 12 = .ok (.if_icmp .le 11, 3) := dk_164 0 11 (dk_at dksX4_greatestTag_0 12 rfl rfl)
theorem dX4_greatestTag_15 : decode cX4_greatestTag 15 = .ok (.aload_n 0, 1) := dk_42 (dk_at dksX4_greatestTag_0 15 rfl rfl)
theorem dX4_greatestTag_16 : decode cX4_greatestTag 16 = .ok (.iconst 1, 1) := dk_4 (dk_at dksX4_greatestTag_0 16 rfl rfl)
theorem dX4_greatestTag_17 : decode cX4_greatestTag 17 = .ok (.invokevirtual 408, 3) := dk_182 1 152 (dk_at dksX4_greatestTag_0 17 rfl rfl)
theorem dX4_greatestTag_20 : decode cX4_greatestTag 20 = .ok (.goto 4, 3) := dk_167 0 4 (dk_at dksX4_greatestTag_0 20 rfl rfl)
theorem dX4_greatestTag_23 : decode cX4_greatestTag 23 = .ok (.iload_n 1, 1) := dk_27 (dk_at dksX4_greatestTag_0 23 rfl rfl)
theorem dX4_greatestTag_24 : decode cX4_greatestTag 24 = .ok (.istore_n 1, 1) := dk_60 (dk_at dksX4_greatestTag_1 0 rfl rfl)
theorem dX4_greatestTag_25 : decode cX4_greatestTag 25 = .ok (.aload_n 0, 1) := dk_42 (dk_at dksX4_greatestTag_1 1 rfl rfl)
theorem dX4_greatestTag_26 : decode cX4_greatestTag 26 = .ok (.iconst 2, 1) := dk_5 (dk_at dksX4_greatestTag_1 2 rfl rfl)
theorem dX4_greatestTag_27 : decode cX4_greatestTag 27 = .ok (.invokevirtual 408, 3) := dk_182 1 152 (dk_at dksX4_greatestTag_1 3 rfl rfl)
theorem dX4_greatestTag_30 : decode cX4_greatestTag 30 = .ok (.iload_n 1, 1) := dk_27 (dk_at dksX4_greatestTag_1 6 rfl rfl)
theorem dX4_greatestTag_31 : decode cX4_greatestTag 31 = .ok (.if_icmp .le 11, 3) := dk_164 0 11 (dk_at dksX4_greatestTag_1 7 rfl rfl)
theorem dX4_greatestTag_34 : decode cX4_greatestTag 34 = .ok (.aload_n 0, 1) := dk_42 (dk_at dksX4_greatestTag_1 10 rfl rfl)
theorem dX4_greatestTag_35 : decode cX4_greatestTag 35 = .ok (.iconst 2, 1) := dk_5 (dk_at dksX4_greatestTag_1 11 rfl rfl)
theorem dX4_greatestTag_36 : decode cX4_greatestTag 36 = .ok (.invokevirtual 408, 3) := dk_182 1 152 (dk_at dksX4_greatestTag_1 12 rfl rfl)
theorem dX4_greatestTag_39 : decode cX4_greatestTag 39 = .ok (.goto 4, 3) := dk_167 0 4 (dk_at dksX4_greatestTag_1 15 rfl rfl)
theorem dX4_greatestTag_42 : decode cX4_greatestTag 42 = .ok (.iload_n 1, 1) := dk_27 (dk_at dksX4_greatestTag_1 18 rfl rfl)
theorem dX4_greatestTag_43 : decode cX4_greatestTag 43 = .ok (.ireturn, 1) := dk_172 (dk_at dksX4_greatestTag_1 19 rfl rfl)
abbrev cX4_next : ByteArray := prog_19_method_118_code
def yX4_next : MethodName := ⟨RX4, "next", "()I"⟩
def dkwX4_next_1 : List UInt8 := [180, 1, 155, 46, 172]
abbrev dktX4_next_1 : List UInt8 := dkwX4_next_1 ++ []
def dkwX4_next_0 : List UInt8 := [42, 3, 181, 0, 131, 42, 182, 1, 176, 2, 160, 0, 7, 2, 167, 0, 12, 42, 180, 0, 16, 42]
abbrev dktX4_next_0 : List UInt8 := dkwX4_next_0 ++ dktX4_next_1
theorem dksX4_next_0 : cX4_next.data.toList.drop 0 = dktX4_next_0 := by decide +kernel
theorem dksX4_next_1 : cX4_next.data.toList.drop 22 = dktX4_next_1 := dk_seg dksX4_next_0 22 rfl rfl
theorem dX4_next_0 : decode cX4_next 0 = .ok (.aload_n 0, 1) := dk_42 (dk_at dksX4_next_0 0 rfl rfl)
theorem dX4_next_1 : decode cX4_next 1 = .ok (.iconst 0, 1) := dk_3 (dk_at dksX4_next_0 1 rfl rfl)
theorem dX4_next_2 : decode cX4_next 2 = .ok (.putfield 131, 3) := dk_181 0 131 (dk_at dksX4_next_0 2 rfl rfl)
theorem dX4_next_5 : decode cX4_next 5 = .ok (.aload_n 0, 1) := dk_42 (dk_at dksX4_next_0 5 rfl rfl)
theorem dX4_next_6 : decode cX4_next 6 = .ok (.invokevirtual 432, 3) := dk_182 1 176 (dk_at dksX4_next_0 6 rfl rfl)
theorem dX4_next_9 : decode cX4_next 9 = .ok (.iconst (-1), 1) := dk_2 (dk_at dksX4_next_0 9 rfl rfl)
theorem dX4_next_10 : decode cX4_next 10 = .ok (.if_icmp .ne 7, 3) := dk_160 0 7 (dk_at dksX4_next_0 10 rfl rfl)
theorem dX4_next_13 : decode cX4_next 13 = .ok (.iconst (-1), 1) := dk_2 (dk_at dksX4_next_0 13 rfl rfl)
theorem dX4_next_14 : decode cX4_next 14 = .ok (.goto 12, 3) := dk_167 0 12 (dk_at dksX4_next_0 14 rfl rfl)
theorem dX4_next_17 : decode cX4_next 17 = .ok (.aload_n 0, 1) := dk_42 (dk_at dksX4_next_0 17 rfl rfl)
theorem dX4_next_18 : decode cX4_next 18 = .ok (.getfield 16, 3) := dk_180 0 16 (dk_at dksX4_next_0 18 rfl rfl)
theorem dX4_next_21 : decode cX4_next 21 = .ok (.aload_n 0, 1) := dk_42 (dk_at dksX4_next_0 21 rfl rfl)
theorem dX4_next_22 : decode cX4_next 22 = .ok (.getfield 411, 3) := dk_180 1 155 (dk_at dksX4_next_1 0 rfl rfl)
theorem dX4_next_25 : decode cX4_next 25 = .ok (.iaload, 1) := dk_46 (dk_at dksX4_next_1 3 rfl rfl)
theorem dX4_next_26 : decode cX4_next 26 = .ok (.ireturn, 1) := dk_172 (dk_at dksX4_next_1 4 rfl rfl)
abbrev cX4_findNext : ByteArray := prog_19_method_117_code
def yX4_findNext : MethodName := ⟨RX4, "findNext", "()I"⟩
def dkwX4_findNext_1 : List UInt8 := [158, 0, 5, 27, 172, 132, 1, 255, 167, 255, 234, 2, 172]
abbrev dktX4_findNext_1 : List UInt8 := dkwX4_findNext_1 ++ []
def dkwX4_findNext_0 : List UInt8 := [42, 180, 0, 7, 16, 8, 46, 4, 100, 60, 27, 155, 0, 24, 42, 42, 180, 0, 58, 27, 46, 182, 1, 173]
abbrev dktX4_findNext_0 : List UInt8 := dkwX4_findNext_0 ++ dktX4_findNext_1
theorem dksX4_findNext_0 : cX4_findNext.data.toList.drop 0 = dktX4_findNext_0 := by decide +kernel
theorem dksX4_findNext_1 : cX4_findNext.data.toList.drop 24 = dktX4_findNext_1 := dk_seg dksX4_findNext_0 24 rfl rfl
theorem dX4_findNext_0 : decode cX4_findNext 0 = .ok (.aload_n 0, 1) := dk_42 (dk_at dksX4_findNext_0 0 rfl rfl)
theorem dX4_findNext_1 : decode cX4_findNext 1 = .ok (.getfield 7, 3) := dk_180 0 7 (dk_at dksX4_findNext_0 1 rfl rfl)
theorem dX4_findNext_4 : decode cX4_findNext 4 = .ok (.bipush 8, 2) := dk_16 8 (dk_at dksX4_findNext_0 4 rfl rfl)
theorem dX4_findNext_6 : decode cX4_findNext 6 = .ok (.iaload, 1) := dk_46 (dk_at dksX4_findNext_0 6 rfl rfl)
theorem dX4_findNext_7 : decode cX4_findNext 7 = .ok (.iconst 1, 1) := dk_4 (dk_at dksX4_findNext_0 7 rfl rfl)
theorem dX4_findNext_8 : decode cX4_findNext 8 = .ok (.isub, 1) := dk_100 (dk_at dksX4_findNext_0 8 rfl rfl)
theorem dX4_findNext_9 : decode cX4_findNext 9 = .ok (.istore_n 1, 1) := dk_60 (dk_at dksX4_findNext_0 9 rfl rfl)
theorem dX4_findNext_10 : decode cX4_findNext 10 = .ok (.iload_n 1, 1) := dk_27 (dk_at dksX4_findNext_0 10 rfl rfl)
theorem dX4_findNext_11 : decode cX4_findNext 11 = .ok (.ifCond .lt 24, 3) := dk_155 0 24 (dk_at dksX4_findNext_0 11 rfl rfl)
theorem dX4_findNext_14 : decode cX4_findNext 14 = .ok (.aload_n 0, 1) := dk_42 (dk_at dksX4_findNext_0 14 rfl rfl)
theorem dX4_findNext_15 : decode cX4_findNext 15 = .ok (.aload_n 0, 1) := dk_42 (dk_at dksX4_findNext_0 15 rfl rfl)
theorem dX4_findNext_16 : decode cX4_findNext 16 = .ok (.getfield 58, 3) := dk_180 0 58 (dk_at dksX4_findNext_0 16 rfl rfl)
theorem dX4_findNext_19 : decode cX4_findNext 19 = .ok (.iload_n 1, 1) := dk_27 (dk_at dksX4_findNext_0 19 rfl rfl)
theorem dX4_findNext_20 : decode cX4_findNext 20 = .ok (.iaload, 1) := dk_46 (dk_at dksX4_findNext_0 20 rfl rfl)
theorem dX4_findNext_21 : decode cX4_findNext 21 = .ok (.invokevirtual 429, 3) := dk_182 1 173 (dk_at dksX4_findNext_0 21 rfl rfl)
theorem dX4_findNext_24 : decode cX4_findNext 24 = .ok (.ifCond .le 5, 3) := dk_158 0 5 (dk_at dksX4_findNext_1 0 rfl rfl)
theorem dX4_findNext_27 : decode cX4_findNext 27 = .ok (.iload_n 1, 1) := dk_27 (dk_at dksX4_findNext_1 3 rfl rfl)
theorem dX4_findNext_28 : decode cX4_findNext 28 = .ok (.ireturn, 1) := dk_172 (dk_at dksX4_findNext_1 4 rfl rfl)
theorem dX4_findNext_29 : decode cX4_findNext 29 = .ok (.iinc 1 (-1), 3) := dk_132 1 255 (dk_at dksX4_findNext_1 5 rfl rfl)
theorem dX4_findNext_32 : decode cX4_findNext 32 = .ok (.goto (-22), 3) := dk_167 255 234 (dk_at dksX4_findNext_1 8 rfl rfl)
theorem dX4_findNext_35 : decode cX4_findNext 35 = .ok (.iconst (-1), 1) := dk_2 (dk_at dksX4_findNext_1 11 rfl rfl)
theorem dX4_findNext_36 : decode cX4_findNext 36 = .ok (.ireturn, 1) := dk_172 (dk_at dksX4_findNext_1 12 rfl rfl)
abbrev cX4_nextFact : ByteArray := prog_19_method_119_code
def yX4_nextFact : MethodName := ⟨RX4, "nextFact", "()I"⟩
def dkwX4_nextFact_0 : List UInt8 := [42, 3, 181, 0, 131, 42, 182, 1, 176, 2, 160, 0, 7, 2, 167, 0, 7, 42, 180, 1, 170, 172]
abbrev dktX4_nextFact_0 : List UInt8 := dkwX4_nextFact_0 ++ []
theorem dksX4_nextFact_0 : cX4_nextFact.data.toList.drop 0 = dktX4_nextFact_0 := by decide +kernel
theorem dX4_nextFact_0 : decode cX4_nextFact 0 = .ok (.aload_n 0, 1) := dk_42 (dk_at dksX4_nextFact_0 0 rfl rfl)
theorem dX4_nextFact_1 : decode cX4_nextFact 1 = .ok (.iconst 0, 1) := dk_3 (dk_at dksX4_nextFact_0 1 rfl rfl)
theorem dX4_nextFact_2 : decode cX4_nextFact 2 = .ok (.putfield 131, 3) := dk_181 0 131 (dk_at dksX4_nextFact_0 2 rfl rfl)
theorem dX4_nextFact_5 : decode cX4_nextFact 5 = .ok (.aload_n 0, 1) := dk_42 (dk_at dksX4_nextFact_0 5 rfl rfl)
theorem dX4_nextFact_6 : decode cX4_nextFact 6 = .ok (.invokevirtual 432, 3) := dk_182 1 176 (dk_at dksX4_nextFact_0 6 rfl rfl)
theorem dX4_nextFact_9 : decode cX4_nextFact 9 = .ok (.iconst (-1), 1) := dk_2 (dk_at dksX4_nextFact_0 9 rfl rfl)
theorem dX4_nextFact_10 : decode cX4_nextFact 10 = .ok (.if_icmp .ne 7, 3) := dk_160 0 7 (dk_at dksX4_nextFact_0 10 rfl rfl)
theorem dX4_nextFact_13 : decode cX4_nextFact 13 = .ok (.iconst (-1), 1) := dk_2 (dk_at dksX4_nextFact_0 13 rfl rfl)
theorem dX4_nextFact_14 : decode cX4_nextFact 14 = .ok (.goto 7, 3) := dk_167 0 7 (dk_at dksX4_nextFact_0 14 rfl rfl)
theorem dX4_nextFact_17 : decode cX4_nextFact 17 = .ok (.aload_n 0, 1) := dk_42 (dk_at dksX4_nextFact_0 17 rfl rfl)
theorem dX4_nextFact_18 : decode cX4_nextFact 18 = .ok (.getfield 426, 3) := dk_180 1 170 (dk_at dksX4_nextFact_0 18 rfl rfl)
theorem dX4_nextFact_21 : decode cX4_nextFact 21 = .ok (.ireturn, 1) := dk_172 (dk_at dksX4_nextFact_0 21 rfl rfl)
abbrev cX4_fire : ByteArray := prog_19_method_121_code
def yX4_fire : MethodName := ⟨RX4, "fire", "()I"⟩
def dkwX4_fire_1 : List UInt8 := [167, 0, 4, 3, 172]
abbrev dktX4_fire_1 : List UInt8 := dkwX4_fire_1 ++ []
def dkwX4_fire_0 : List UInt8 := [42, 182, 1, 179, 60, 42, 27, 16, 254, 160, 0, 7, 4, 167, 0, 4, 3, 182, 1, 10, 153, 0, 7, 27]
abbrev dktX4_fire_0 : List UInt8 := dkwX4_fire_0 ++ dktX4_fire_1
theorem dksX4_fire_0 : cX4_fire.data.toList.drop 0 = dktX4_fire_0 := by decide +kernel
theorem dksX4_fire_1 : cX4_fire.data.toList.drop 24 = dktX4_fire_1 := dk_seg dksX4_fire_0 24 rfl rfl
theorem dX4_fire_0 : decode cX4_fire 0 = .ok (.aload_n 0, 1) := dk_42 (dk_at dksX4_fire_0 0 rfl rfl)
theorem dX4_fire_1 : decode cX4_fire 1 = .ok (.invokevirtual 435, 3) := dk_182 1 179 (dk_at dksX4_fire_0 1 rfl rfl)
theorem dX4_fire_4 : decode cX4_fire 4 = .ok (.istore_n 1, 1) := dk_60 (dk_at dksX4_fire_0 4 rfl rfl)
theorem dX4_fire_5 : decode cX4_fire 5 = .ok (.aload_n 0, 1) := dk_42 (dk_at dksX4_fire_0 5 rfl rfl)
theorem dX4_fire_6 : decode cX4_fire 6 = .ok (.iload_n 1, 1) := dk_27 (dk_at dksX4_fire_0 6 rfl rfl)
theorem dX4_fire_7 : decode cX4_fire 7 = .ok (.bipush (-2), 2) := dk_16 254 (dk_at dksX4_fire_0 7 rfl rfl)
theorem dX4_fire_9 : decode cX4_fire 9 = .ok (.if_icmp .ne 7, 3) := dk_160 0 7 (dk_at dksX4_fire_0 9 rfl rfl)
theorem dX4_fire_12 : decode cX4_fire 12 = .ok (.iconst 1, 1) := dk_4 (dk_at dksX4_fire_0 12 rfl rfl)
theorem dX4_fire_13 : decode cX4_fire 13 = .ok (.goto 4, 3) := dk_167 0 4 (dk_at dksX4_fire_0 13 rfl rfl)
theorem dX4_fire_16 : decode cX4_fire 16 = .ok (.iconst 0, 1) := dk_3 (dk_at dksX4_fire_0 16 rfl rfl)
theorem dX4_fire_17 : decode cX4_fire 17 = .ok (.invokevirtual 266, 3) := dk_182 1 10 (dk_at dksX4_fire_0 17 rfl rfl)
theorem dX4_fire_20 : decode cX4_fire 20 = .ok (.ifCond .eq 7, 3) := dk_153 0 7 (dk_at dksX4_fire_0 20 rfl rfl)
theorem dX4_fire_23 : decode cX4_fire 23 = .ok (.iload_n 1, 1) := dk_27 (dk_at dksX4_fire_0 23 rfl rfl)
theorem dX4_fire_24 : decode cX4_fire 24 = .ok (.goto 4, 3) := dk_167 0 4 (dk_at dksX4_fire_1 0 rfl rfl)
theorem dX4_fire_27 : decode cX4_fire 27 = .ok (.iconst 0, 1) := dk_3 (dk_at dksX4_fire_1 3 rfl rfl)
theorem dX4_fire_28 : decode cX4_fire 28 = .ok (.ireturn, 1) := dk_172 (dk_at dksX4_fire_1 4 rfl rfl)
abbrev cX4_fireOnce : ByteArray := prog_19_method_120_code
def yX4_fireOnce : MethodName := ⟨RX4, "fireOnce", "()I"⟩
def dkwX4_fireOnce_7 : List UInt8 := [172]
abbrev dktX4_fireOnce_7 : List UInt8 := dkwX4_fireOnce_7 ++ []
def dkwX4_fireOnce_6 : List UInt8 := [182, 1, 34, 42, 182, 1, 28, 154, 0, 11, 42, 6, 182, 1, 31, 16, 254, 172, 42, 180, 0, 16, 28, 46]
abbrev dktX4_fireOnce_6 : List UInt8 := dkwX4_fireOnce_6 ++ dktX4_fireOnce_7
def dkwX4_fireOnce_5 : List UInt8 := [167, 0, 27, 42, 42, 180, 1, 170, 182, 1, 13, 2, 159, 0, 15, 42, 42, 42, 180, 1, 170, 182, 1, 13]
abbrev dktX4_fireOnce_5 : List UInt8 := dkwX4_fireOnce_5 ++ dktX4_fireOnce_6
def dkwX4_fireOnce_4 : List UInt8 := [4, 96, 79, 42, 180, 0, 43, 28, 46, 4, 160, 0, 15, 42, 42, 180, 1, 170, 3, 182, 1, 22]
abbrev dktX4_fireOnce_4 : List UInt8 := dkwX4_fireOnce_4 ++ dktX4_fireOnce_5
def dkwX4_fireOnce_3 : List UInt8 := [7, 42, 180, 0, 7, 16, 10, 46, 104, 4, 96, 6, 184, 0, 144, 62, 42, 180, 0, 7, 16, 10, 92, 46]
abbrev dktX4_fireOnce_3 : List UInt8 := dkwX4_fireOnce_3 ++ dktX4_fireOnce_4
def dkwX4_fireOnce_2 : List UInt8 := [42, 180, 0, 7, 16, 10, 46, 104, 42, 180, 0, 16, 28, 46, 79, 42, 180, 0, 128, 3, 42, 180, 0, 61]
abbrev dktX4_fireOnce_2 : List UInt8 := dkwX4_fireOnce_2 ++ dktX4_fireOnce_3
def dkwX4_fireOnce_1 : List UInt8 := [167, 0, 6, 27, 4, 96, 79, 27, 2, 160, 0, 5, 2, 172, 42, 180, 1, 155, 61, 42, 180, 0, 61, 7]
abbrev dktX4_fireOnce_1 : List UInt8 := dkwX4_fireOnce_1 ++ dktX4_fireOnce_2
def dkwX4_fireOnce_0 : List UInt8 := [42, 6, 182, 1, 19, 42, 182, 1, 176, 60, 42, 180, 0, 7, 16, 8, 27, 2, 160, 0, 7, 4]
abbrev dktX4_fireOnce_0 : List UInt8 := dkwX4_fireOnce_0 ++ dktX4_fireOnce_1
theorem dksX4_fireOnce_0 : cX4_fireOnce.data.toList.drop 0 = dktX4_fireOnce_0 := by decide +kernel
theorem dksX4_fireOnce_1 : cX4_fireOnce.data.toList.drop 22 = dktX4_fireOnce_1 := dk_seg dksX4_fireOnce_0 22 rfl rfl
theorem dksX4_fireOnce_2 : cX4_fireOnce.data.toList.drop 46 = dktX4_fireOnce_2 := dk_seg dksX4_fireOnce_1 24 rfl rfl
theorem dksX4_fireOnce_3 : cX4_fireOnce.data.toList.drop 70 = dktX4_fireOnce_3 := dk_seg dksX4_fireOnce_2 24 rfl rfl
theorem dksX4_fireOnce_4 : cX4_fireOnce.data.toList.drop 94 = dktX4_fireOnce_4 := dk_seg dksX4_fireOnce_3 24 rfl rfl
theorem dksX4_fireOnce_5 : cX4_fireOnce.data.toList.drop 116 = dktX4_fireOnce_5 := dk_seg dksX4_fireOnce_4 22 rfl rfl
theorem dksX4_fireOnce_6 : cX4_fireOnce.data.toList.drop 140 = dktX4_fireOnce_6 := dk_seg dksX4_fireOnce_5 24 rfl rfl
theorem dksX4_fireOnce_7 : cX4_fireOnce.data.toList.drop 164 = dktX4_fireOnce_7 := dk_seg dksX4_fireOnce_6 24 rfl rfl
theorem dX4_fireOnce_0 : decode cX4_fireOnce 0 = .ok (.aload_n 0, 1) := dk_42 (dk_at dksX4_fireOnce_0 0 rfl rfl)
theorem dX4_fireOnce_1 : decode cX4_fireOnce 1 = .ok (.iconst 3, 1) := dk_6 (dk_at dksX4_fireOnce_0 1 rfl rfl)
theorem dX4_fireOnce_2 : decode cX4_fireOnce 2 = .ok (.invokevirtual 275, 3) := dk_182 1 19 (dk_at dksX4_fireOnce_0 2 rfl rfl)
theorem dX4_fireOnce_5 : decode cX4_fireOnce 5 = .ok (.aload_n 0, 1) := dk_42 (dk_at dksX4_fireOnce_0 5 rfl rfl)
theorem dX4_fireOnce_6 : decode cX4_fireOnce 6 = .ok (.invokevirtual 432, 3) := dk_182 1 176 (dk_at dksX4_fireOnce_0 6 rfl rfl)
theorem dX4_fireOnce_9 : decode cX4_fireOnce 9 = .ok (.istore_n 1, 1) := dk_60 (dk_at dksX4_fireOnce_0 9 rfl rfl)
theorem dX4_fireOnce_10 : decode cX4_fireOnce 10 = .ok (.aload_n 0, 1) := dk_42 (dk_at dksX4_fireOnce_0 10 rfl rfl)
theorem dX4_fireOnce_11 : decode cX4_fireOnce 11 = .ok (.getfield 7, 3) := dk_180 0 7 (dk_at dksX4_fireOnce_0 11 rfl rfl)
theorem dX4_fireOnce_14 : decode cX4_fireOnce 14 = .ok (.bipush 8, 2) := dk_16 8 (dk_at dksX4_fireOnce_0 14 rfl rfl)
theorem dX4_fireOnce_16 : decode cX4_fireOnce 16 = .ok (.iload_n 1, 1) := dk_27 (dk_at dksX4_fireOnce_0 16 rfl rfl)
theorem dX4_fireOnce_17 : decode cX4_fireOnce 17 = .ok (.iconst (-1), 1) := dk_2 (dk_at dksX4_fireOnce_0 17 rfl rfl)
theorem dX4_fireOnce_18 : decode cX4_fireOnce 18 = .ok (.if_icmp .ne 7, 3) := dk_160 0 7 (dk_at dksX4_fireOnce_0 18 rfl rfl)
theorem dX4_fireOnce_21 : decode cX4_fireOnce 21 = .ok (.iconst 1, 1) := dk_4 (dk_at dksX4_fireOnce_0 21 rfl rfl)
theorem dX4_fireOnce_22 : decode cX4_fireOnce 22 = .ok (.goto 6, 3) := dk_167 0 6 (dk_at dksX4_fireOnce_1 0 rfl rfl)
theorem dX4_fireOnce_25 : decode cX4_fireOnce 25 = .ok (.iload_n 1, 1) := dk_27 (dk_at dksX4_fireOnce_1 3 rfl rfl)
theorem dX4_fireOnce_26 : decode cX4_fireOnce 26 = .ok (.iconst 1, 1) := dk_4 (dk_at dksX4_fireOnce_1 4 rfl rfl)
theorem dX4_fireOnce_27 : decode cX4_fireOnce 27 = .ok (.iadd, 1) := dk_96 (dk_at dksX4_fireOnce_1 5 rfl rfl)
theorem dX4_fireOnce_28 : decode cX4_fireOnce 28 = .ok (.iastore, 1) := dk_79 (dk_at dksX4_fireOnce_1 6 rfl rfl)
theorem dX4_fireOnce_29 : decode cX4_fireOnce 29 = .ok (.iload_n 1, 1) := dk_27 (dk_at dksX4_fireOnce_1 7 rfl rfl)
theorem dX4_fireOnce_30 : decode cX4_fireOnce 30 = .ok (.iconst (-1), 1) := dk_2 (dk_at dksX4_fireOnce_1 8 rfl rfl)
theorem dX4_fireOnce_31 : decode cX4_fireOnce 31 = .ok (.if_icmp .ne 5, 3) := dk_160 0 5 (dk_at dksX4_fireOnce_1 9 rfl rfl)
theorem dX4_fireOnce_34 : decode cX4_fireOnce 34 = .ok (.iconst (-1), 1) := dk_2 (dk_at dksX4_fireOnce_1 12 rfl rfl)
theorem dX4_fireOnce_35 : decode cX4_fireOnce 35 = .ok (.ireturn, 1) := dk_172 (dk_at dksX4_fireOnce_1 13 rfl rfl)
theorem dX4_fireOnce_36 : decode cX4_fireOnce 36 = .ok (.aload_n 0, 1) := dk_42 (dk_at dksX4_fireOnce_1 14 rfl rfl)
theorem dX4_fireOnce_37 : decode cX4_fireOnce 37 = .ok (.getfield 411, 3) := dk_180 1 155 (dk_at dksX4_fireOnce_1 15 rfl rfl)
theorem dX4_fireOnce_40 : decode cX4_fireOnce 40 = .ok (.istore_n 2, 1) := dk_61 (dk_at dksX4_fireOnce_1 18 rfl rfl)
theorem dX4_fireOnce_41 : decode cX4_fireOnce 41 = .ok (.aload_n 0, 1) := dk_42 (dk_at dksX4_fireOnce_1 19 rfl rfl)
theorem dX4_fireOnce_42 : decode cX4_fireOnce 42 = .ok (.getfield 61, 3) := dk_180 0 61 (dk_at dksX4_fireOnce_1 20 rfl rfl)
theorem dX4_fireOnce_45 : decode cX4_fireOnce 45 = .ok (.iconst 4, 1) := dk_7 (dk_at dksX4_fireOnce_1 23 rfl rfl)
theorem dX4_fireOnce_46 : decode cX4_fireOnce 46 = .ok (.aload_n 0, 1) := dk_42 (dk_at dksX4_fireOnce_2 0 rfl rfl)
theorem dX4_fireOnce_47 : decode cX4_fireOnce 47 = .ok (.getfield 7, 3) := dk_180 0 7 (dk_at dksX4_fireOnce_2 1 rfl rfl)
theorem dX4_fireOnce_50 : decode cX4_fireOnce 50 = .ok (.bipush 10, 2) := dk_16 10 (dk_at dksX4_fireOnce_2 4 rfl rfl)
theorem dX4_fireOnce_52 : decode cX4_fireOnce 52 = .ok (.iaload, 1) := dk_46 (dk_at dksX4_fireOnce_2 6 rfl rfl)
theorem dX4_fireOnce_53 : decode cX4_fireOnce 53 = .ok (.imul, 1) := dk_104 (dk_at dksX4_fireOnce_2 7 rfl rfl)
theorem dX4_fireOnce_54 : decode cX4_fireOnce 54 = .ok (.aload_n 0, 1) := dk_42 (dk_at dksX4_fireOnce_2 8 rfl rfl)
theorem dX4_fireOnce_55 : decode cX4_fireOnce 55 = .ok (.getfield 16, 3) := dk_180 0 16 (dk_at dksX4_fireOnce_2 9 rfl rfl)
theorem dX4_fireOnce_58 : decode cX4_fireOnce 58 = .ok (.iload_n 2, 1) := dk_28 (dk_at dksX4_fireOnce_2 12 rfl rfl)
theorem dX4_fireOnce_59 : decode cX4_fireOnce 59 = .ok (.iaload, 1) := dk_46 (dk_at dksX4_fireOnce_2 13 rfl rfl)
theorem dX4_fireOnce_60 : decode cX4_fireOnce 60 = .ok (.iastore, 1) := dk_79 (dk_at dksX4_fireOnce_2 14 rfl rfl)
theorem dX4_fireOnce_61 : decode cX4_fireOnce 61 = .ok (.aload_n 0, 1) := dk_42 (dk_at dksX4_fireOnce_2 15 rfl rfl)
theorem dX4_fireOnce_62 : decode cX4_fireOnce 62 = .ok (.getfield 128, 3) := dk_180 0 128 (dk_at dksX4_fireOnce_2 16 rfl rfl)
theorem dX4_fireOnce_65 : decode cX4_fireOnce 65 = .ok (.iconst 0, 1) := dk_3 (dk_at dksX4_fireOnce_2 19 rfl rfl)
theorem dX4_fireOnce_66 : decode cX4_fireOnce 66 = .ok (.aload_n 0, 1) := dk_42 (dk_at dksX4_fireOnce_2 20 rfl rfl)
theorem dX4_fireOnce_67 : decode cX4_fireOnce 67 = .ok (.getfield 61, 3) := dk_180 0 61 (dk_at dksX4_fireOnce_2 21 rfl rfl)
theorem dX4_fireOnce_70 : decode cX4_fireOnce 70 = .ok (.iconst 4, 1) := dk_7 (dk_at dksX4_fireOnce_3 0 rfl rfl)
theorem dX4_fireOnce_71 : decode cX4_fireOnce 71 = .ok (.aload_n 0, 1) := dk_42 (dk_at dksX4_fireOnce_3 1 rfl rfl)
theorem dX4_fireOnce_72 : decode cX4_fireOnce 72 = .ok (.getfield 7, 3) := dk_180 0 7 (dk_at dksX4_fireOnce_3 2 rfl rfl)
theorem dX4_fireOnce_75 : decode cX4_fireOnce 75 = .ok (.bipush 10, 2) := dk_16 10 (dk_at dksX4_fireOnce_3 5 rfl rfl)
theorem dX4_fireOnce_77 : decode cX4_fireOnce 77 = .ok (.iaload, 1) := dk_46 (dk_at dksX4_fireOnce_3 7 rfl rfl)
theorem dX4_fireOnce_78 : decode cX4_fireOnce 78 = .ok (.imul, 1) := dk_104 (dk_at dksX4_fireOnce_3 8 rfl rfl)
theorem dX4_fireOnce_79 : decode cX4_fireOnce 79 = .ok (.iconst 1, 1) := dk_4 (dk_at dksX4_fireOnce_3 9 rfl rfl)
theorem dX4_fireOnce_80 : decode cX4_fireOnce 80 = .ok (.iadd, 1) := dk_96 (dk_at dksX4_fireOnce_3 10 rfl rfl)
theorem dX4_fireOnce_81 : decode cX4_fireOnce 81 = .ok (.iconst 3, 1) := dk_6 (dk_at dksX4_fireOnce_3 11 rfl rfl)
theorem dX4_fireOnce_82 : decode cX4_fireOnce 82 = .ok (.invokestatic 144, 3) := dk_184 0 144 (dk_at dksX4_fireOnce_3 12 rfl rfl)
theorem dX4_fireOnce_85 : decode cX4_fireOnce 85 = .ok (.istore_n 3, 1) := dk_62 (dk_at dksX4_fireOnce_3 15 rfl rfl)
theorem dX4_fireOnce_86 : decode cX4_fireOnce 86 = .ok (.aload_n 0, 1) := dk_42 (dk_at dksX4_fireOnce_3 16 rfl rfl)
theorem dX4_fireOnce_87 : decode cX4_fireOnce 87 = .ok (.getfield 7, 3) := dk_180 0 7 (dk_at dksX4_fireOnce_3 17 rfl rfl)
theorem dX4_fireOnce_90 : decode cX4_fireOnce 90 = .ok (.bipush 10, 2) := dk_16 10 (dk_at dksX4_fireOnce_3 20 rfl rfl)
theorem dX4_fireOnce_92 : decode cX4_fireOnce 92 = .ok (.dup2, 1) := dk_92 (dk_at dksX4_fireOnce_3 22 rfl rfl)
theorem dX4_fireOnce_93 : decode cX4_fireOnce 93 = .ok (.iaload, 1) := dk_46 (dk_at dksX4_fireOnce_3 23 rfl rfl)
theorem dX4_fireOnce_94 : decode cX4_fireOnce 94 = .ok (.iconst 1, 1) := dk_4 (dk_at dksX4_fireOnce_4 0 rfl rfl)
theorem dX4_fireOnce_95 : decode cX4_fireOnce 95 = .ok (.iadd, 1) := dk_96 (dk_at dksX4_fireOnce_4 1 rfl rfl)
theorem dX4_fireOnce_96 : decode cX4_fireOnce 96 = .ok (.iastore, 1) := dk_79 (dk_at dksX4_fireOnce_4 2 rfl rfl)
theorem dX4_fireOnce_97 : decode cX4_fireOnce 97 = .ok (.aload_n 0, 1) := dk_42 (dk_at dksX4_fireOnce_4 3 rfl rfl)
theorem dX4_fireOnce_98 : decode cX4_fireOnce 98 = .ok (.getfield 43, 3) := dk_180 0 43 (dk_at dksX4_fireOnce_4 4 rfl rfl)
theorem dX4_fireOnce_101 : decode cX4_fireOnce 101 = .ok (.iload_n 2, 1) := dk_28 (dk_at dksX4_fireOnce_4 7 rfl rfl)
theorem dX4_fireOnce_102 : decode cX4_fireOnce 102 = .ok (.iaload, 1) := dk_46 (dk_at dksX4_fireOnce_4 8 rfl rfl)
theorem dX4_fireOnce_103 : decode cX4_fireOnce 103 = .ok (.iconst 1, 1) := dk_4 (dk_at dksX4_fireOnce_4 9 rfl rfl)
theorem dX4_fireOnce_104 : decode cX4_fireOnce 104 = .ok (.if_icmp .ne 15, 3) := dk_160 0 15 (dk_at dksX4_fireOnce_4 10 rfl rfl)
theorem dX4_fireOnce_107 : decode cX4_fireOnce 107 = .ok (.aload_n 0, 1) := dk_42 (dk_at dksX4_fireOnce_4 13 rfl rfl)
theorem dX4_fireOnce_108 : decode cX4_fireOnce 108 = .ok (.aload_n 0, 1) := dk_42 (dk_at dksX4_fireOnce_4 14 rfl rfl)
theorem dX4_fireOnce_109 : decode cX4_fireOnce 109 = .ok (.getfield 426, 3) := dk_180 1 170 (dk_at dksX4_fireOnce_4 15 rfl rfl)
theorem dX4_fireOnce_112 : decode cX4_fireOnce 112 = .ok (.iconst 0, 1) := dk_3 (dk_at dksX4_fireOnce_4 18 rfl rfl)
theorem dX4_fireOnce_113 : decode cX4_fireOnce 113 = .ok (.invokevirtual 278, 3) := dk_182 1 22 (dk_at dksX4_fireOnce_4 19 rfl rfl)
theorem dX4_fireOnce_116 : decode cX4_fireOnce 116 = .ok (.goto 27, 3) := dk_167 0 27 (dk_at dksX4_fireOnce_5 0 rfl rfl)
theorem dX4_fireOnce_119 : decode cX4_fireOnce 119 = .ok (.aload_n 0, 1) := dk_42 (dk_at dksX4_fireOnce_5 3 rfl rfl)
theorem dX4_fireOnce_120 : decode cX4_fireOnce 120 = .ok (.aload_n 0, 1) := dk_42 (dk_at dksX4_fireOnce_5 4 rfl rfl)
theorem dX4_fireOnce_121 : decode cX4_fireOnce 121 = .ok (.getfield 426, 3) := dk_180 1 170 (dk_at dksX4_fireOnce_5 5 rfl rfl)
theorem dX4_fireOnce_124 : decode cX4_fireOnce 124 = .ok (.invokevirtual 269, 3) := dk_182 1 13 (dk_at dksX4_fireOnce_5 8 rfl rfl)
theorem dX4_fireOnce_127 : decode cX4_fireOnce 127 = .ok (.iconst (-1), 1) := dk_2 (dk_at dksX4_fireOnce_5 11 rfl rfl)
theorem dX4_fireOnce_128 : decode cX4_fireOnce 128 = .ok (.if_icmp .eq 15, 3) := dk_159 0 15 (dk_at dksX4_fireOnce_5 12 rfl rfl)
theorem dX4_fireOnce_131 : decode cX4_fireOnce 131 = .ok (.aload_n 0, 1) := dk_42 (dk_at dksX4_fireOnce_5 15 rfl rfl)
theorem dX4_fireOnce_132 : decode cX4_fireOnce 132 = .ok (.aload_n 0, 1) := dk_42 (dk_at dksX4_fireOnce_5 16 rfl rfl)
theorem dX4_fireOnce_133 : decode cX4_fireOnce 133 = .ok (.aload_n 0, 1) := dk_42 (dk_at dksX4_fireOnce_5 17 rfl rfl)
theorem dX4_fireOnce_134 : decode cX4_fireOnce 134 = .ok (.getfield 426, 3) := dk_180 1 170 (dk_at dksX4_fireOnce_5 18 rfl rfl)
theorem dX4_fireOnce_137 : decode cX4_fireOnce 137 = .ok (.invokevirtual 269, 3) := dk_182 1 13 (dk_at dksX4_fireOnce_5 21 rfl rfl)
theorem dX4_fireOnce_140 : decode cX4_fireOnce 140 = .ok (.invokevirtual 290, 3) := dk_182 1 34 (dk_at dksX4_fireOnce_6 0 rfl rfl)
theorem dX4_fireOnce_143 : decode cX4_fireOnce 143 = .ok (.aload_n 0, 1) := dk_42 (dk_at dksX4_fireOnce_6 3 rfl rfl)
theorem dX4_fireOnce_144 : decode cX4_fireOnce 144 = .ok (.invokevirtual 284, 3) := dk_182 1 28 (dk_at dksX4_fireOnce_6 4 rfl rfl)
theorem dX4_fireOnce_147 : decode cX4_fireOnce 147 = .ok (.ifCond .ne 11, 3) := dk_154 0 11 (dk_at dksX4_fireOnce_6 7 rfl rfl)
theorem dX4_fireOnce_150 : decode cX4_fireOnce 150 = .ok (.aload_n 0, 1) := dk_42 (dk_at dksX4_fireOnce_6 10 rfl rfl)
theorem dX4_fireOnce_151 : decode cX4_fireOnce 151 = .ok (.iconst 3, 1) := dk_6 (dk_at dksX4_fireOnce_6 11 rfl rfl)
theorem dX4_fireOnce_152 : decode cX4_fireOnce 152 = .ok (.invokevirtual 287, 3) := dk_182 1 31 (dk_at dksX4_fireOnce_6 12 rfl rfl)
theorem dX4_fireOnce_155 : decode cX4_fireOnce 155 = .ok (.bipush (-2), 2) := dk_16 254 (dk_at dksX4_fireOnce_6 15 rfl rfl)
theorem dX4_fireOnce_157 : decode cX4_fireOnce 157 = .ok (.ireturn, 1) := dk_172 (dk_at dksX4_fireOnce_6 17 rfl rfl)
theorem dX4_fireOnce_158 : decode cX4_fireOnce 158 = .ok (.aload_n 0, 1) := dk_42 (dk_at dksX4_fireOnce_6 18 rfl rfl)
theorem dX4_fireOnce_159 : decode cX4_fireOnce 159 = .ok (.getfield 16, 3) := dk_180 0 16 (dk_at dksX4_fireOnce_6 19 rfl rfl)
theorem dX4_fireOnce_162 : decode cX4_fireOnce 162 = .ok (.iload_n 2, 1) := dk_28 (dk_at dksX4_fireOnce_6 22 rfl rfl)
theorem dX4_fireOnce_163 : decode cX4_fireOnce 163 = .ok (.iaload, 1) := dk_46 (dk_at dksX4_fireOnce_6 23 rfl rfl)
theorem dX4_fireOnce_164 : decode cX4_fireOnce 164 = .ok (.ireturn, 1) := dk_172 (dk_at dksX4_fireOnce_7 0 rfl rfl)
abbrev cX4_run : ByteArray := prog_19_method_122_code
def yX4_run : MethodName := ⟨RX4, "run", "(I)I"⟩
def dkwX4_run_1 : List UInt8 := [3, 61, 28, 27, 162, 0, 16, 42, 182, 1, 179, 155, 0, 9, 132, 2, 1, 167, 255, 241, 28, 172]
abbrev dktX4_run_1 : List UInt8 := dkwX4_run_1 ++ []
def dkwX4_run_0 : List UInt8 := [42, 27, 4, 16, 10, 184, 0, 135, 153, 0, 7, 3, 167, 0, 4, 4, 182, 1, 10, 154, 0, 5, 3, 172]
abbrev dktX4_run_0 : List UInt8 := dkwX4_run_0 ++ dktX4_run_1
theorem dksX4_run_0 : cX4_run.data.toList.drop 0 = dktX4_run_0 := by decide +kernel
theorem dksX4_run_1 : cX4_run.data.toList.drop 24 = dktX4_run_1 := dk_seg dksX4_run_0 24 rfl rfl
theorem dX4_run_0 : decode cX4_run 0 = .ok (.aload_n 0, 1) := dk_42 (dk_at dksX4_run_0 0 rfl rfl)
theorem dX4_run_1 : decode cX4_run 1 = .ok (.iload_n 1, 1) := dk_27 (dk_at dksX4_run_0 1 rfl rfl)
theorem dX4_run_2 : decode cX4_run 2 = .ok (.iconst 1, 1) := dk_4 (dk_at dksX4_run_0 2 rfl rfl)
theorem dX4_run_3 : decode cX4_run 3 = .ok (.bipush 10, 2) := dk_16 10 (dk_at dksX4_run_0 3 rfl rfl)
theorem dX4_run_5 : decode cX4_run 5 = .ok (.invokestatic 135, 3) := dk_184 0 135 (dk_at dksX4_run_0 5 rfl rfl)
theorem dX4_run_8 : decode cX4_run 8 = .ok (.ifCond .eq 7, 3) := dk_153 0 7 (dk_at dksX4_run_0 8 rfl rfl)
theorem dX4_run_11 : decode cX4_run 11 = .ok (.iconst 0, 1) := dk_3 (dk_at dksX4_run_0 11 rfl rfl)
theorem dX4_run_12 : decode cX4_run 12 = .ok (.goto 4, 3) := dk_167 0 4 (dk_at dksX4_run_0 12 rfl rfl)
theorem dX4_run_15 : decode cX4_run 15 = .ok (.iconst 1, 1) := dk_4 (dk_at dksX4_run_0 15 rfl rfl)
theorem dX4_run_16 : decode cX4_run 16 = .ok (.invokevirtual 266, 3) := dk_182 1 10 (dk_at dksX4_run_0 16 rfl rfl)
theorem dX4_run_19 : decode cX4_run 19 = .ok (.ifCond .ne 5, 3) := dk_154 0 5 (dk_at dksX4_run_0 19 rfl rfl)
theorem dX4_run_22 : decode cX4_run 22 = .ok (.iconst 0, 1) := dk_3 (dk_at dksX4_run_0 22 rfl rfl)
theorem dX4_run_23 : decode cX4_run 23 = .ok (.ireturn, 1) := dk_172 (dk_at dksX4_run_0 23 rfl rfl)
theorem dX4_run_24 : decode cX4_run 24 = .ok (.iconst 0, 1) := dk_3 (dk_at dksX4_run_1 0 rfl rfl)
theorem dX4_run_25 : decode cX4_run 25 = .ok (.istore_n 2, 1) := dk_61 (dk_at dksX4_run_1 1 rfl rfl)
theorem dX4_run_26 : decode cX4_run 26 = .ok (.iload_n 2, 1) := dk_28 (dk_at dksX4_run_1 2 rfl rfl)
theorem dX4_run_27 : decode cX4_run 27 = .ok (.iload_n 1, 1) := dk_27 (dk_at dksX4_run_1 3 rfl rfl)
theorem dX4_run_28 : decode cX4_run 28 = .ok (.if_icmp .ge 16, 3) := dk_162 0 16 (dk_at dksX4_run_1 4 rfl rfl)
theorem dX4_run_31 : decode cX4_run 31 = .ok (.aload_n 0, 1) := dk_42 (dk_at dksX4_run_1 7 rfl rfl)
theorem dX4_run_32 : decode cX4_run 32 = .ok (.invokevirtual 435, 3) := dk_182 1 179 (dk_at dksX4_run_1 8 rfl rfl)
theorem dX4_run_35 : decode cX4_run 35 = .ok (.ifCond .lt 9, 3) := dk_155 0 9 (dk_at dksX4_run_1 11 rfl rfl)
theorem dX4_run_38 : decode cX4_run 38 = .ok (.iinc 2 1, 3) := dk_132 2 1 (dk_at dksX4_run_1 14 rfl rfl)
theorem dX4_run_41 : decode cX4_run 41 = .ok (.goto (-15), 3) := dk_167 255 241 (dk_at dksX4_run_1 17 rfl rfl)
theorem dX4_run_44 : decode cX4_run 44 = .ok (.iload_n 2, 1) := dk_28 (dk_at dksX4_run_1 20 rfl rfl)
theorem dX4_run_45 : decode cX4_run 45 = .ok (.ireturn, 1) := dk_172 (dk_at dksX4_run_1 21 rfl rfl)
abbrev cX4_focus : ByteArray := prog_19_method_123_code
def yX4_focus : MethodName := ⟨RX4, "focus", "(I)I"⟩
def dkwX4_focus_2 : List UInt8 := [16, 8, 46, 27, 79, 42, 180, 0, 7, 16, 8, 92, 46, 4, 96, 79, 42, 180, 0, 7, 16, 8, 46, 172]
abbrev dktX4_focus_2 : List UInt8 := dkwX4_focus_2 ++ []
def dkwX4_focus_1 : List UInt8 := [160, 0, 7, 5, 167, 0, 4, 3, 182, 1, 10, 154, 0, 5, 3, 172, 42, 180, 0, 58, 42, 180, 0, 7]
abbrev dktX4_focus_1 : List UInt8 := dkwX4_focus_1 ++ dktX4_focus_2
def dkwX4_focus_0 : List UInt8 := [42, 27, 3, 6, 184, 0, 135, 154, 0, 7, 4, 167, 0, 20, 42, 180, 0, 7, 16, 8, 46, 16, 8]
abbrev dktX4_focus_0 : List UInt8 := dkwX4_focus_0 ++ dktX4_focus_1
theorem dksX4_focus_0 : cX4_focus.data.toList.drop 0 = dktX4_focus_0 := by decide +kernel
theorem dksX4_focus_1 : cX4_focus.data.toList.drop 23 = dktX4_focus_1 := dk_seg dksX4_focus_0 23 rfl rfl
theorem dksX4_focus_2 : cX4_focus.data.toList.drop 47 = dktX4_focus_2 := dk_seg dksX4_focus_1 24 rfl rfl
theorem dX4_focus_0 : decode cX4_focus 0 = .ok (.aload_n 0, 1) := dk_42 (dk_at dksX4_focus_0 0 rfl rfl)
theorem dX4_focus_1 : decode cX4_focus 1 = .ok (.iload_n 1, 1) := dk_27 (dk_at dksX4_focus_0 1 rfl rfl)
theorem dX4_focus_2 : decode cX4_focus 2 = .ok (.iconst 0, 1) := dk_3 (dk_at dksX4_focus_0 2 rfl rfl)
theorem dX4_focus_3 : decode cX4_focus 3 = .ok (.iconst 3, 1) := dk_6 (dk_at dksX4_focus_0 3 rfl rfl)
theorem dX4_focus_4 : decode cX4_focus 4 = .ok (.invokestatic 135, 3) := dk_184 0 135 (dk_at dksX4_focus_0 4 rfl rfl)
theorem dX4_focus_7 : decode cX4_focus 7 = .ok (.ifCond .ne 7, 3) := dk_154 0 7 (dk_at dksX4_focus_0 7 rfl rfl)
theorem dX4_focus_10 : decode cX4_focus 10 = .ok (.iconst 1, 1) := dk_4 (dk_at dksX4_focus_0 10 rfl rfl)
theorem dX4_focus_11 : decode cX4_focus 11 = .ok (.goto 20, 3) := dk_167 0 20 (dk_at dksX4_focus_0 11 rfl rfl)
theorem dX4_focus_14 : decode cX4_focus 14 = .ok (.aload_n 0, 1) := dk_42 (dk_at dksX4_focus_0 14 rfl rfl)
theorem dX4_focus_15 : decode cX4_focus 15 = .ok (.getfield 7, 3) := dk_180 0 7 (dk_at dksX4_focus_0 15 rfl rfl)
theorem dX4_focus_18 : decode cX4_focus 18 = .ok (.bipush 8, 2) := dk_16 8 (dk_at dksX4_focus_0 18 rfl rfl)
theorem dX4_focus_20 : decode cX4_focus 20 = .ok (.iaload, 1) := dk_46 (dk_at dksX4_focus_0 20 rfl rfl)
theorem dX4_focus_21 : decode cX4_focus 21 = .ok (.bipush 8, 2) := dk_16 8 (dk_at dksX4_focus_0 21 rfl rfl)
theorem dX4_focus_23 : decode cX4_focus 23 = .ok (.if_icmp .ne 7, 3) := dk_160 0 7 (dk_at dksX4_focus_1 0 rfl rfl)
theorem dX4_focus_26 : decode cX4_focus 26 = .ok (.iconst 2, 1) := dk_5 (dk_at dksX4_focus_1 3 rfl rfl)
theorem dX4_focus_27 : decode cX4_focus 27 = .ok (.goto 4, 3) := dk_167 0 4 (dk_at dksX4_focus_1 4 rfl rfl)
theorem dX4_focus_30 : decode cX4_focus 30 = .ok (.iconst 0, 1) := dk_3 (dk_at dksX4_focus_1 7 rfl rfl)
theorem dX4_focus_31 : decode cX4_focus 31 = .ok (.invokevirtual 266, 3) := dk_182 1 10 (dk_at dksX4_focus_1 8 rfl rfl)
theorem dX4_focus_34 : decode cX4_focus 34 = .ok (.ifCond .ne 5, 3) := dk_154 0 5 (dk_at dksX4_focus_1 11 rfl rfl)
theorem dX4_focus_37 : decode cX4_focus 37 = .ok (.iconst 0, 1) := dk_3 (dk_at dksX4_focus_1 14 rfl rfl)
theorem dX4_focus_38 : decode cX4_focus 38 = .ok (.ireturn, 1) := dk_172 (dk_at dksX4_focus_1 15 rfl rfl)
theorem dX4_focus_39 : decode cX4_focus 39 = .ok (.aload_n 0, 1) := dk_42 (dk_at dksX4_focus_1 16 rfl rfl)
theorem dX4_focus_40 : decode cX4_focus 40 = .ok (.getfield 58, 3) := dk_180 0 58 (dk_at dksX4_focus_1 17 rfl rfl)
theorem dX4_focus_43 : decode cX4_focus 43 = .ok (.aload_n 0, 1) := dk_42 (dk_at dksX4_focus_1 20 rfl rfl)
theorem dX4_focus_44 : decode cX4_focus 44 = .ok (.getfield 7, 3) := dk_180 0 7 (dk_at dksX4_focus_1 21 rfl rfl)
theorem dX4_focus_47 : decode cX4_focus 47 = .ok (.bipush 8, 2) := dk_16 8 (dk_at dksX4_focus_2 0 rfl rfl)
theorem dX4_focus_49 : decode cX4_focus 49 = .ok (.iaload, 1) := dk_46 (dk_at dksX4_focus_2 2 rfl rfl)
theorem dX4_focus_50 : decode cX4_focus 50 = .ok (.iload_n 1, 1) := dk_27 (dk_at dksX4_focus_2 3 rfl rfl)
theorem dX4_focus_51 : decode cX4_focus 51 = .ok (.iastore, 1) := dk_79 (dk_at dksX4_focus_2 4 rfl rfl)
theorem dX4_focus_52 : decode cX4_focus 52 = .ok (.aload_n 0, 1) := dk_42 (dk_at dksX4_focus_2 5 rfl rfl)
theorem dX4_focus_53 : decode cX4_focus 53 = .ok (.getfield 7, 3) := dk_180 0 7 (dk_at dksX4_focus_2 6 rfl rfl)
theorem dX4_focus_56 : decode cX4_focus 56 = .ok (.bipush 8, 2) := dk_16 8 (dk_at dksX4_focus_2 9 rfl rfl)
theorem dX4_focus_58 : decode cX4_focus 58 = .ok (.dup2, 1) := dk_92 (dk_at dksX4_focus_2 11 rfl rfl)
theorem dX4_focus_59 : decode cX4_focus 59 = .ok (.iaload, 1) := dk_46 (dk_at dksX4_focus_2 12 rfl rfl)
theorem dX4_focus_60 : decode cX4_focus 60 = .ok (.iconst 1, 1) := dk_4 (dk_at dksX4_focus_2 13 rfl rfl)
theorem dX4_focus_61 : decode cX4_focus 61 = .ok (.iadd, 1) := dk_96 (dk_at dksX4_focus_2 14 rfl rfl)
theorem dX4_focus_62 : decode cX4_focus 62 = .ok (.iastore, 1) := dk_79 (dk_at dksX4_focus_2 15 rfl rfl)
theorem dX4_focus_63 : decode cX4_focus 63 = .ok (.aload_n 0, 1) := dk_42 (dk_at dksX4_focus_2 16 rfl rfl)
theorem dX4_focus_64 : decode cX4_focus 64 = .ok (.getfield 7, 3) := dk_180 0 7 (dk_at dksX4_focus_2 17 rfl rfl)
theorem dX4_focus_67 : decode cX4_focus 67 = .ok (.bipush 8, 2) := dk_16 8 (dk_at dksX4_focus_2 20 rfl rfl)
theorem dX4_focus_69 : decode cX4_focus 69 = .ok (.iaload, 1) := dk_46 (dk_at dksX4_focus_2 22 rfl rfl)
theorem dX4_focus_70 : decode cX4_focus 70 = .ok (.ireturn, 1) := dk_172 (dk_at dksX4_focus_2 23 rfl rfl)
abbrev cX4_focused : ByteArray := prog_19_method_124_code
def yX4_focused : MethodName := ⟨RX4, "focused", "()I"⟩
def dkwX4_focused_0 : List UInt8 := [42, 3, 181, 0, 131, 42, 180, 0, 58, 42, 180, 0, 7, 16, 8, 46, 4, 100, 46, 172]
abbrev dktX4_focused_0 : List UInt8 := dkwX4_focused_0 ++ []
theorem dksX4_focused_0 : cX4_focused.data.toList.drop 0 = dktX4_focused_0 := by decide +kernel
theorem dX4_focused_0 : decode cX4_focused 0 = .ok (.aload_n 0, 1) := dk_42 (dk_at dksX4_focused_0 0 rfl rfl)
theorem dX4_focused_1 : decode cX4_focused 1 = .ok (.iconst 0, 1) := dk_3 (dk_at dksX4_focused_0 1 rfl rfl)
theorem dX4_focused_2 : decode cX4_focused 2 = .ok (.putfield 131, 3) := dk_181 0 131 (dk_at dksX4_focused_0 2 rfl rfl)
theorem dX4_focused_5 : decode cX4_focused 5 = .ok (.aload_n 0, 1) := dk_42 (dk_at dksX4_focused_0 5 rfl rfl)
theorem dX4_focused_6 : decode cX4_focused 6 = .ok (.getfield 58, 3) := dk_180 0 58 (dk_at dksX4_focused_0 6 rfl rfl)
theorem dX4_focused_9 : decode cX4_focused 9 = .ok (.aload_n 0, 1) := dk_42 (dk_at dksX4_focused_0 9 rfl rfl)
theorem dX4_focused_10 : decode cX4_focused 10 = .ok (.getfield 7, 3) := dk_180 0 7 (dk_at dksX4_focused_0 10 rfl rfl)
theorem dX4_focused_13 : decode cX4_focused 13 = .ok (.bipush 8, 2) := dk_16 8 (dk_at dksX4_focused_0 13 rfl rfl)
theorem dX4_focused_15 : decode cX4_focused 15 = .ok (.iaload, 1) := dk_46 (dk_at dksX4_focused_0 15 rfl rfl)
theorem dX4_focused_16 : decode cX4_focused 16 = .ok (.iconst 1, 1) := dk_4 (dk_at dksX4_focused_0 16 rfl rfl)
theorem dX4_focused_17 : decode cX4_focused 17 = .ok (.isub, 1) := dk_100 (dk_at dksX4_focused_0 17 rfl rfl)
theorem dX4_focused_18 : decode cX4_focused 18 = .ok (.iaload, 1) := dk_46 (dk_at dksX4_focused_0 18 rfl rfl)
theorem dX4_focused_19 : decode cX4_focused 19 = .ok (.ireturn, 1) := dk_172 (dk_at dksX4_focused_0 19 rfl rfl)
abbrev cX4_tick : ByteArray := prog_19_method_126_code
def yX4_tick : MethodName := ⟨RX4, "tick", "(I)I"⟩
def dkwX4_tick_3 : List UInt8 := [132, 3, 1, 167, 255, 215, 28, 172]
abbrev dktX4_tick_3 : List UInt8 := dkwX4_tick_3 ++ []
def dkwX4_tick_2 : List UInt8 := [182, 1, 28, 153, 0, 7, 3, 167, 0, 4, 5, 182, 1, 10, 154, 0, 10, 42, 6, 182, 1, 31, 3, 172]
abbrev dktX4_tick_2 : List UInt8 := dkwX4_tick_2 ++ dktX4_tick_3
def dkwX4_tick_1 : List UInt8 := [42, 6, 182, 1, 19, 3, 61, 3, 62, 29, 27, 162, 0, 42, 28, 42, 182, 1, 182, 96, 61, 42, 42]
abbrev dktX4_tick_1 : List UInt8 := dkwX4_tick_1 ++ dktX4_tick_2
def dkwX4_tick_0 : List UInt8 := [42, 27, 4, 16, 20, 184, 0, 135, 153, 0, 7, 3, 167, 0, 4, 4, 182, 1, 10, 154, 0, 5, 3, 172]
abbrev dktX4_tick_0 : List UInt8 := dkwX4_tick_0 ++ dktX4_tick_1
theorem dksX4_tick_0 : cX4_tick.data.toList.drop 0 = dktX4_tick_0 := by decide +kernel
theorem dksX4_tick_1 : cX4_tick.data.toList.drop 24 = dktX4_tick_1 := dk_seg dksX4_tick_0 24 rfl rfl
theorem dksX4_tick_2 : cX4_tick.data.toList.drop 47 = dktX4_tick_2 := dk_seg dksX4_tick_1 23 rfl rfl
theorem dksX4_tick_3 : cX4_tick.data.toList.drop 71 = dktX4_tick_3 := dk_seg dksX4_tick_2 24 rfl rfl
theorem dX4_tick_0 : decode cX4_tick 0 = .ok (.aload_n 0, 1) := dk_42 (dk_at dksX4_tick_0 0 rfl rfl)
theorem dX4_tick_1 : decode cX4_tick 1 = .ok (.iload_n 1, 1) := dk_27 (dk_at dksX4_tick_0 1 rfl rfl)
theorem dX4_tick_2 : decode cX4_tick 2 = .ok (.iconst 1, 1) := dk_4 (dk_at dksX4_tick_0 2 rfl rfl)
theorem dX4_tick_3 : decode cX4_tick 3 = .ok (.bipush 20, 2) := dk_16 20 (dk_at dksX4_tick_0 3 rfl rfl)
theorem dX4_tick_5 : decode cX4_tick 5 = .ok (.invokestatic 135, 3) := dk_184 0 135 (dk_at dksX4_tick_0 5 rfl rfl)
theorem dX4_tick_8 : decode cX4_tick 8 = .ok (.ifCond .eq 7, 3) := dk_153 0 7 (dk_at dksX4_tick_0 8 rfl rfl)
theorem dX4_tick_11 : decode cX4_tick 11 = .ok (.iconst 0, 1) := dk_3 (dk_at dksX4_tick_0 11 rfl rfl)
theorem dX4_tick_12 : decode cX4_tick 12 = .ok (.goto 4, 3) := dk_167 0 4 (dk_at dksX4_tick_0 12 rfl rfl)
theorem dX4_tick_15 : decode cX4_tick 15 = .ok (.iconst 1, 1) := dk_4 (dk_at dksX4_tick_0 15 rfl rfl)
theorem dX4_tick_16 : decode cX4_tick 16 = .ok (.invokevirtual 266, 3) := dk_182 1 10 (dk_at dksX4_tick_0 16 rfl rfl)
theorem dX4_tick_19 : decode cX4_tick 19 = .ok (.ifCond .ne 5, 3) := dk_154 0 5 (dk_at dksX4_tick_0 19 rfl rfl)
theorem dX4_tick_22 : decode cX4_tick 22 = .ok (.iconst 0, 1) := dk_3 (dk_at dksX4_tick_0 22 rfl rfl)
theorem dX4_tick_23 : decode cX4_tick 23 = .ok (.ireturn, 1) := dk_172 (dk_at dksX4_tick_0 23 rfl rfl)
theorem dX4_tick_24 : decode cX4_tick 24 = .ok (.aload_n 0, 1) := dk_42 (dk_at dksX4_tick_1 0 rfl rfl)
theorem dX4_tick_25 : decode cX4_tick 25 = .ok (.iconst 3, 1) := dk_6 (dk_at dksX4_tick_1 1 rfl rfl)
theorem dX4_tick_26 : decode cX4_tick 26 = .ok (.invokevirtual 275, 3) := dk_182 1 19 (dk_at dksX4_tick_1 2 rfl rfl)
theorem dX4_tick_29 : decode cX4_tick 29 = .ok (.iconst 0, 1) := dk_3 (dk_at dksX4_tick_1 5 rfl rfl)
theorem dX4_tick_30 : decode cX4_tick 30 = .ok (.istore_n 2, 1) := dk_61 (dk_at dksX4_tick_1 6 rfl rfl)
theorem dX4_tick_31 : decode cX4_tick 31 = .ok (.iconst 0, 1) := dk_3 (dk_at dksX4_tick_1 7 rfl rfl)
theorem dX4_tick_32 : decode cX4_tick 32 = .ok (.istore_n 3, 1) := dk_62 (dk_at dksX4_tick_1 8 rfl rfl)
theorem dX4_tick_33 : decode cX4_tick 33 = .ok (.iload_n 3, 1) := dk_29 (dk_at dksX4_tick_1 9 rfl rfl)
theorem dX4_tick_34 : decode cX4_tick 34 = .ok (.iload_n 1, 1) := dk_27 (dk_at dksX4_tick_1 10 rfl rfl)
theorem dX4_tick_35 : decode cX4_tick 35 = .ok (.if_icmp .ge 42, 3) := dk_162 0 42 (dk_at dksX4_tick_1 11 rfl rfl)
theorem dX4_tick_38 : decode cX4_tick 38 = .ok (.iload_n 2, 1) := dk_28 (dk_at dksX4_tick_1 14 rfl rfl)
theorem dX4_tick_39 : decode cX4_tick 39 = .ok (.aload_n 0, 1) := dk_42 (dk_at dksX4_tick_1 15 rfl rfl)
theorem dX4_tick_40 : decode cX4_tick 40 = .ok (.invokevirtual 438, 3) := dk_182 1 182 (dk_at dksX4_tick_1 16 rfl rfl)
theorem dX4_tick_43 : decode cX4_tick 43 = .ok (.iadd, 1) := dk_96 (dk_at dksX4_tick_1 19 rfl rfl)
theorem dX4_tick_44 : decode cX4_tick 44 = .ok (.istore_n 2, 1) := dk_61 (dk_at dksX4_tick_1 20 rfl rfl)
theorem dX4_tick_45 : decode cX4_tick 45 = .ok (.aload_n 0, 1) := dk_42 (dk_at dksX4_tick_1 21 rfl rfl)
theorem dX4_tick_46 : decode cX4_tick 46 = .ok (.aload_n 0, 1) := dk_42 (dk_at dksX4_tick_1 22 rfl rfl)
theorem dX4_tick_47 : decode cX4_tick 47 = .ok (.invokevirtual 284, 3) := dk_182 1 28 (dk_at dksX4_tick_2 0 rfl rfl)
theorem dX4_tick_50 : decode cX4_tick 50 = .ok (.ifCond .eq 7, 3) := dk_153 0 7 (dk_at dksX4_tick_2 3 rfl rfl)
theorem dX4_tick_53 : decode cX4_tick 53 = .ok (.iconst 0, 1) := dk_3 (dk_at dksX4_tick_2 6 rfl rfl)
theorem dX4_tick_54 : decode cX4_tick 54 = .ok (.goto 4, 3) := dk_167 0 4 (dk_at dksX4_tick_2 7 rfl rfl)
theorem dX4_tick_57 : decode cX4_tick 57 = .ok (.iconst 2, 1) := dk_5 (dk_at dksX4_tick_2 10 rfl rfl)
theorem dX4_tick_58 : decode cX4_tick 58 = .ok (.invokevirtual 266, 3) := dk_182 1 10 (dk_at dksX4_tick_2 11 rfl rfl)
theorem dX4_tick_61 : decode cX4_tick 61 = .ok (.ifCond .ne 10, 3) := dk_154 0 10 (dk_at dksX4_tick_2 14 rfl rfl)
theorem dX4_tick_64 : decode cX4_tick 64 = .ok (.aload_n 0, 1) := dk_42 (dk_at dksX4_tick_2 17 rfl rfl)
theorem dX4_tick_65 : decode cX4_tick 65 = .ok (.iconst 3, 1) := dk_6 (dk_at dksX4_tick_2 18 rfl rfl)
theorem dX4_tick_66 : decode cX4_tick 66 = .ok (.invokevirtual 287, 3) := dk_182 1 31 (dk_at dksX4_tick_2 19 rfl rfl)
theorem dX4_tick_69 : decode cX4_tick 69 = .ok (.iconst 0, 1) := dk_3 (dk_at dksX4_tick_2 22 rfl rfl)
theorem dX4_tick_70 : decode cX4_tick 70 = .ok (.ireturn, 1) := dk_172 (dk_at dksX4_tick_2 23 rfl rfl)
theorem dX4_tick_71 : decode cX4_tick 71 = .ok (.iinc 3 1, 3) := dk_132 3 1 (dk_at dksX4_tick_3 0 rfl rfl)
theorem dX4_tick_74 : decode cX4_tick 74 = .ok (.goto (-41), 3) := dk_167 255 215 (dk_at dksX4_tick_3 3 rfl rfl)
theorem dX4_tick_77 : decode cX4_tick 77 = .ok (.iload_n 2, 1) := dk_28 (dk_at dksX4_tick_3 6 rfl rfl)
theorem dX4_tick_78 : decode cX4_tick 78 = .ok (.ireturn, 1) := dk_172 (dk_at dksX4_tick_3 7 rfl rfl)
abbrev cX4_beginTick : ByteArray := prog_19_method_125_code
def yX4_beginTick : MethodName := ⟨RX4, "beginTick", "()I"⟩
def dkwX4_beginTick_2 : List UInt8 := [132, 1, 1, 132, 2, 255, 167, 255, 225, 27, 172]
abbrev dktX4_beginTick_2 : List UInt8 := dkwX4_beginTick_2 ++ []
def dkwX4_beginTick_1 : List UInt8 := [155, 0, 33, 42, 180, 0, 49, 28, 46, 42, 180, 0, 7, 16, 9, 46, 160, 0, 11, 42, 28, 182, 1, 34]
abbrev dktX4_beginTick_1 : List UInt8 := dkwX4_beginTick_1 ++ dktX4_beginTick_2
def dkwX4_beginTick_0 : List UInt8 := [42, 180, 0, 7, 16, 9, 92, 46, 4, 96, 79, 3, 60, 42, 180, 0, 7, 8, 46, 4, 100, 61, 28]
abbrev dktX4_beginTick_0 : List UInt8 := dkwX4_beginTick_0 ++ dktX4_beginTick_1
theorem dksX4_beginTick_0 : cX4_beginTick.data.toList.drop 0 = dktX4_beginTick_0 := by decide +kernel
theorem dksX4_beginTick_1 : cX4_beginTick.data.toList.drop 23 = dktX4_beginTick_1 := dk_seg dksX4_beginTick_0 23 rfl rfl
theorem dksX4_beginTick_2 : cX4_beginTick.data.toList.drop 47 = dktX4_beginTick_2 := dk_seg dksX4_beginTick_1 24 rfl rfl
theorem dX4_beginTick_0 : decode cX4_beginTick 0 = .ok (.aload_n 0, 1) := dk_42 (dk_at dksX4_beginTick_0 0 rfl rfl)
theorem dX4_beginTick_1 : decode cX4_beginTick 1 = .ok (.getfield 7, 3) := dk_180 0 7 (dk_at dksX4_beginTick_0 1 rfl rfl)
theorem dX4_beginTick_4 : decode cX4_beginTick 4 = .ok (.bipush 9, 2) := dk_16 9 (dk_at dksX4_beginTick_0 4 rfl rfl)
theorem dX4_beginTick_6 : decode cX4_beginTick 6 = .ok (.dup2, 1) := dk_92 (dk_at dksX4_beginTick_0 6 rfl rfl)
theorem dX4_beginTick_7 : decode cX4_beginTick 7 = .ok (.iaload, 1) := dk_46 (dk_at dksX4_beginTick_0 7 rfl rfl)
theorem dX4_beginTick_8 : decode cX4_beginTick 8 = .ok (.iconst 1, 1) := dk_4 (dk_at dksX4_beginTick_0 8 rfl rfl)
theorem dX4_beginTick_9 : decode cX4_beginTick 9 = .ok (.iadd, 1) := dk_96 (dk_at dksX4_beginTick_0 9 rfl rfl)
theorem dX4_beginTick_10 : decode cX4_beginTick 10 = .ok (.iastore, 1) := dk_79 (dk_at dksX4_beginTick_0 10 rfl rfl)
theorem dX4_beginTick_11 : decode cX4_beginTick 11 = .ok (.iconst 0, 1) := dk_3 (dk_at dksX4_beginTick_0 11 rfl rfl)
theorem dX4_beginTick_12 : decode cX4_beginTick 12 = .ok (.istore_n 1, 1) := dk_60 (dk_at dksX4_beginTick_0 12 rfl rfl)
theorem dX4_beginTick_13 : decode cX4_beginTick 13 = .ok (.aload_n 0, 1) := dk_42 (dk_at dksX4_beginTick_0 13 rfl rfl)
theorem dX4_beginTick_14 : decode cX4_beginTick 14 = .ok (.getfield 7, 3) := dk_180 0 7 (dk_at dksX4_beginTick_0 14 rfl rfl)
theorem dX4_beginTick_17 : decode cX4_beginTick 17 = .ok (.iconst 5, 1) := dk_8 (dk_at dksX4_beginTick_0 17 rfl rfl)
theorem dX4_beginTick_18 : decode cX4_beginTick 18 = .ok (.iaload, 1) := dk_46 (dk_at dksX4_beginTick_0 18 rfl rfl)
theorem dX4_beginTick_19 : decode cX4_beginTick 19 = .ok (.iconst 1, 1) := dk_4 (dk_at dksX4_beginTick_0 19 rfl rfl)
theorem dX4_beginTick_20 : decode cX4_beginTick 20 = .ok (.isub, 1) := dk_100 (dk_at dksX4_beginTick_0 20 rfl rfl)
theorem dX4_beginTick_21 : decode cX4_beginTick 21 = .ok (.istore_n 2, 1) := dk_61 (dk_at dksX4_beginTick_0 21 rfl rfl)
theorem dX4_beginTick_22 : decode cX4_beginTick 22 = .ok (.iload_n 2, 1) := dk_28 (dk_at dksX4_beginTick_0 22 rfl rfl)
theorem dX4_beginTick_23 : decode cX4_beginTick 23 = .ok (.ifCond .lt 33, 3) := dk_155 0 33 (dk_at dksX4_beginTick_1 0 rfl rfl)
theorem dX4_beginTick_26 : decode cX4_beginTick 26 = .ok (.aload_n 0, 1) := dk_42 (dk_at dksX4_beginTick_1 3 rfl rfl)
theorem dX4_beginTick_27 : decode cX4_beginTick 27 = .ok (.getfield 49, 3) := dk_180 0 49 (dk_at dksX4_beginTick_1 4 rfl rfl)
theorem dX4_beginTick_30 : decode cX4_beginTick 30 = .ok (.iload_n 2, 1) := dk_28 (dk_at dksX4_beginTick_1 7 rfl rfl)
theorem dX4_beginTick_31 : decode cX4_beginTick 31 = .ok (.iaload, 1) := dk_46 (dk_at dksX4_beginTick_1 8 rfl rfl)
theorem dX4_beginTick_32 : decode cX4_beginTick 32 = .ok (.aload_n 0, 1) := dk_42 (dk_at dksX4_beginTick_1 9 rfl rfl)
theorem dX4_beginTick_33 : decode cX4_beginTick 33 = .ok (.getfield 7, 3) := dk_180 0 7 (dk_at dksX4_beginTick_1 10 rfl rfl)
theorem dX4_beginTick_36 : decode cX4_beginTick 36 = .ok (.bipush 9, 2) := dk_16 9 (dk_at dksX4_beginTick_1 13 rfl rfl)
theorem dX4_beginTick_38 : decode cX4_beginTick 38 = .ok (.iaload, 1) := dk_46 (dk_at dksX4_beginTick_1 15 rfl rfl)
theorem dX4_beginTick_39 : decode cX4_beginTick 39 = .ok (.if_icmp .ne 11, 3) := dk_160 0 11 (dk_at dksX4_beginTick_1 16 rfl rfl)
theorem dX4_beginTick_42 : decode cX4_beginTick 42 = .ok (.aload_n 0, 1) := dk_42 (dk_at dksX4_beginTick_1 19 rfl rfl)
theorem dX4_beginTick_43 : decode cX4_beginTick 43 = .ok (.iload_n 2, 1) := dk_28 (dk_at dksX4_beginTick_1 20 rfl rfl)
theorem dX4_beginTick_44 : decode cX4_beginTick 44 = .ok (.invokevirtual 290, 3) := dk_182 1 34 (dk_at dksX4_beginTick_1 21 rfl rfl)
theorem dX4_beginTick_47 : decode cX4_beginTick 47 = .ok (.iinc 1 1, 3) := dk_132 1 1 (dk_at dksX4_beginTick_2 0 rfl rfl)
theorem dX4_beginTick_50 : decode cX4_beginTick 50 = .ok (.iinc 2 (-1), 3) := dk_132 2 255 (dk_at dksX4_beginTick_2 3 rfl rfl)
theorem dX4_beginTick_53 : decode cX4_beginTick 53 = .ok (.goto (-31), 3) := dk_167 255 225 (dk_at dksX4_beginTick_2 6 rfl rfl)
theorem dX4_beginTick_56 : decode cX4_beginTick 56 = .ok (.iload_n 1, 1) := dk_27 (dk_at dksX4_beginTick_2 9 rfl rfl)
theorem dX4_beginTick_57 : decode cX4_beginTick 57 = .ok (.ireturn, 1) := dk_172 (dk_at dksX4_beginTick_2 10 rfl rfl)
abbrev cX4_now : ByteArray := prog_19_method_127_code
def yX4_now : MethodName := ⟨RX4, "now", "()I"⟩
def dkwX4_now_0 : List UInt8 := [42, 3, 181, 0, 131, 42, 180, 0, 7, 16, 9, 46, 172]
abbrev dktX4_now_0 : List UInt8 := dkwX4_now_0 ++ []
theorem dksX4_now_0 : cX4_now.data.toList.drop 0 = dktX4_now_0 := by decide +kernel
theorem dX4_now_0 : decode cX4_now 0 = .ok (.aload_n 0, 1) := dk_42 (dk_at dksX4_now_0 0 rfl rfl)
theorem dX4_now_1 : decode cX4_now 1 = .ok (.iconst 0, 1) := dk_3 (dk_at dksX4_now_0 1 rfl rfl)
theorem dX4_now_2 : decode cX4_now 2 = .ok (.putfield 131, 3) := dk_181 0 131 (dk_at dksX4_now_0 2 rfl rfl)
theorem dX4_now_5 : decode cX4_now 5 = .ok (.aload_n 0, 1) := dk_42 (dk_at dksX4_now_0 5 rfl rfl)
theorem dX4_now_6 : decode cX4_now 6 = .ok (.getfield 7, 3) := dk_180 0 7 (dk_at dksX4_now_0 6 rfl rfl)
theorem dX4_now_9 : decode cX4_now 9 = .ok (.bipush 9, 2) := dk_16 9 (dk_at dksX4_now_0 9 rfl rfl)
theorem dX4_now_11 : decode cX4_now 11 = .ok (.iaload, 1) := dk_46 (dk_at dksX4_now_0 11 rfl rfl)
theorem dX4_now_12 : decode cX4_now 12 = .ok (.ireturn, 1) := dk_172 (dk_at dksX4_now_0 12 rfl rfl)
abbrev cX4_begin : ByteArray := prog_19_method_128_code
def yX4_begin : MethodName := ⟨RX4, "begin", "()I"⟩
def dkwX4_begin_2 : List UInt8 := [180, 1, 185, 172]
abbrev dktX4_begin_2 : List UInt8 := dkwX4_begin_2 ++ []
def dkwX4_begin_1 : List UInt8 := [154, 0, 5, 3, 172, 42, 42, 180, 1, 185, 182, 1, 19, 42, 89, 180, 1, 185, 4, 96, 181, 1, 185, 42]
abbrev dktX4_begin_1 : List UInt8 := dkwX4_begin_1 ++ dktX4_begin_2
def dkwX4_begin_0 : List UInt8 := [42, 42, 180, 1, 46, 157, 0, 11, 42, 180, 1, 185, 6, 160, 0, 7, 4, 167, 0, 4, 3, 182, 1, 10]
abbrev dktX4_begin_0 : List UInt8 := dkwX4_begin_0 ++ dktX4_begin_1
theorem dksX4_begin_0 : cX4_begin.data.toList.drop 0 = dktX4_begin_0 := by decide +kernel
theorem dksX4_begin_1 : cX4_begin.data.toList.drop 24 = dktX4_begin_1 := dk_seg dksX4_begin_0 24 rfl rfl
theorem dksX4_begin_2 : cX4_begin.data.toList.drop 48 = dktX4_begin_2 := dk_seg dksX4_begin_1 24 rfl rfl
theorem dX4_begin_0 : decode cX4_begin 0 = .ok (.aload_n 0, 1) := dk_42 (dk_at dksX4_begin_0 0 rfl rfl)
theorem dX4_begin_1 : decode cX4_begin 1 = .ok (.aload_n 0, 1) := dk_42 (dk_at dksX4_begin_0 1 rfl rfl)
theorem dX4_begin_2 : decode cX4_begin 2 = .ok (.getfield 302, 3) := dk_180 1 46 (dk_at dksX4_begin_0 2 rfl rfl)
theorem dX4_begin_5 : decode cX4_begin 5 = .ok (.ifCond .gt 11, 3) := dk_157 0 11 (dk_at dksX4_begin_0 5 rfl rfl)
theorem dX4_begin_8 : decode cX4_begin 8 = .ok (.aload_n 0, 1) := dk_42 (dk_at dksX4_begin_0 8 rfl rfl)
theorem dX4_begin_9 : decode cX4_begin 9 = .ok (.getfield 441, 3) := dk_180 1 185 (dk_at dksX4_begin_0 9 rfl rfl)
theorem dX4_begin_12 : decode cX4_begin 12 = .ok (.iconst 3, 1) := dk_6 (dk_at dksX4_begin_0 12 rfl rfl)
theorem dX4_begin_13 : decode cX4_begin 13 = .ok (.if_icmp .ne 7, 3) := dk_160 0 7 (dk_at dksX4_begin_0 13 rfl rfl)
theorem dX4_begin_16 : decode cX4_begin 16 = .ok (.iconst 1, 1) := dk_4 (dk_at dksX4_begin_0 16 rfl rfl)
theorem dX4_begin_17 : decode cX4_begin 17 = .ok (.goto 4, 3) := dk_167 0 4 (dk_at dksX4_begin_0 17 rfl rfl)
theorem dX4_begin_20 : decode cX4_begin 20 = .ok (.iconst 0, 1) := dk_3 (dk_at dksX4_begin_0 20 rfl rfl)
theorem dX4_begin_21 : decode cX4_begin 21 = .ok (.invokevirtual 266, 3) := dk_182 1 10 (dk_at dksX4_begin_0 21 rfl rfl)
theorem dX4_begin_24 : decode cX4_begin 24 = .ok (.ifCond .ne 5, 3) := dk_154 0 5 (dk_at dksX4_begin_1 0 rfl rfl)
theorem dX4_begin_27 : decode cX4_begin 27 = .ok (.iconst 0, 1) := dk_3 (dk_at dksX4_begin_1 3 rfl rfl)
theorem dX4_begin_28 : decode cX4_begin 28 = .ok (.ireturn, 1) := dk_172 (dk_at dksX4_begin_1 4 rfl rfl)
theorem dX4_begin_29 : decode cX4_begin 29 = .ok (.aload_n 0, 1) := dk_42 (dk_at dksX4_begin_1 5 rfl rfl)
theorem dX4_begin_30 : decode cX4_begin 30 = .ok (.aload_n 0, 1) := dk_42 (dk_at dksX4_begin_1 6 rfl rfl)
theorem dX4_begin_31 : decode cX4_begin 31 = .ok (.getfield 441, 3) := dk_180 1 185 (dk_at dksX4_begin_1 7 rfl rfl)
theorem dX4_begin_34 : decode cX4_begin 34 = .ok (.invokevirtual 275, 3) := dk_182 1 19 (dk_at dksX4_begin_1 10 rfl rfl)
theorem dX4_begin_37 : decode cX4_begin 37 = .ok (.aload_n 0, 1) := dk_42 (dk_at dksX4_begin_1 13 rfl rfl)
theorem dX4_begin_38 : decode cX4_begin 38 = .ok (.dup, 1) := dk_89 (dk_at dksX4_begin_1 14 rfl rfl)
theorem dX4_begin_39 : decode cX4_begin 39 = .ok (.getfield 441, 3) := dk_180 1 185 (dk_at dksX4_begin_1 15 rfl rfl)
theorem dX4_begin_42 : decode cX4_begin 42 = .ok (.iconst 1, 1) := dk_4 (dk_at dksX4_begin_1 18 rfl rfl)
theorem dX4_begin_43 : decode cX4_begin 43 = .ok (.iadd, 1) := dk_96 (dk_at dksX4_begin_1 19 rfl rfl)
theorem dX4_begin_44 : decode cX4_begin 44 = .ok (.putfield 441, 3) := dk_181 1 185 (dk_at dksX4_begin_1 20 rfl rfl)
theorem dX4_begin_47 : decode cX4_begin 47 = .ok (.aload_n 0, 1) := dk_42 (dk_at dksX4_begin_1 23 rfl rfl)
theorem dX4_begin_48 : decode cX4_begin 48 = .ok (.getfield 441, 3) := dk_180 1 185 (dk_at dksX4_begin_2 0 rfl rfl)
theorem dX4_begin_51 : decode cX4_begin 51 = .ok (.ireturn, 1) := dk_172 (dk_at dksX4_begin_2 3 rfl rfl)
abbrev cX4_commit : ByteArray := prog_19_method_129_code
def yX4_commit : MethodName := ⟨RX4, "commit", "()I"⟩
def dkwX4_commit_1 : List UInt8 := [154, 0, 5, 3, 172, 42, 89, 180, 1, 185, 4, 100, 181, 1, 185, 42, 180, 1, 185, 172]
abbrev dktX4_commit_1 : List UInt8 := dkwX4_commit_1 ++ []
def dkwX4_commit_0 : List UInt8 := [42, 42, 180, 1, 46, 157, 0, 10, 42, 180, 1, 185, 154, 0, 7, 4, 167, 0, 4, 3, 182, 1, 10]
abbrev dktX4_commit_0 : List UInt8 := dkwX4_commit_0 ++ dktX4_commit_1
theorem dksX4_commit_0 : cX4_commit.data.toList.drop 0 = dktX4_commit_0 := by decide +kernel
theorem dksX4_commit_1 : cX4_commit.data.toList.drop 23 = dktX4_commit_1 := dk_seg dksX4_commit_0 23 rfl rfl
theorem dX4_commit_0 : decode cX4_commit 0 = .ok (.aload_n 0, 1) := dk_42 (dk_at dksX4_commit_0 0 rfl rfl)
theorem dX4_commit_1 : decode cX4_commit 1 = .ok (.aload_n 0, 1) := dk_42 (dk_at dksX4_commit_0 1 rfl rfl)
theorem dX4_commit_2 : decode cX4_commit 2 = .ok (.getfield 302, 3) := dk_180 1 46 (dk_at dksX4_commit_0 2 rfl rfl)
theorem dX4_commit_5 : decode cX4_commit 5 = .ok (.ifCond .gt 10, 3) := dk_157 0 10 (dk_at dksX4_commit_0 5 rfl rfl)
theorem dX4_commit_8 : decode cX4_commit 8 = .ok (.aload_n 0, 1) := dk_42 (dk_at dksX4_commit_0 8 rfl rfl)
theorem dX4_commit_9 : decode cX4_commit 9 = .ok (.getfield 441, 3) := dk_180 1 185 (dk_at dksX4_commit_0 9 rfl rfl)
theorem dX4_commit_12 : decode cX4_commit 12 = .ok (.ifCond .ne 7, 3) := dk_154 0 7 (dk_at dksX4_commit_0 12 rfl rfl)
theorem dX4_commit_15 : decode cX4_commit 15 = .ok (.iconst 1, 1) := dk_4 (dk_at dksX4_commit_0 15 rfl rfl)
theorem dX4_commit_16 : decode cX4_commit 16 = .ok (.goto 4, 3) := dk_167 0 4 (dk_at dksX4_commit_0 16 rfl rfl)
theorem dX4_commit_19 : decode cX4_commit 19 = .ok (.iconst 0, 1) := dk_3 (dk_at dksX4_commit_0 19 rfl rfl)
theorem dX4_commit_20 : decode cX4_commit 20 = .ok (.invokevirtual 266, 3) := dk_182 1 10 (dk_at dksX4_commit_0 20 rfl rfl)
theorem dX4_commit_23 : decode cX4_commit 23 = .ok (.ifCond .ne 5, 3) := dk_154 0 5 (dk_at dksX4_commit_1 0 rfl rfl)
theorem dX4_commit_26 : decode cX4_commit 26 = .ok (.iconst 0, 1) := dk_3 (dk_at dksX4_commit_1 3 rfl rfl)
theorem dX4_commit_27 : decode cX4_commit 27 = .ok (.ireturn, 1) := dk_172 (dk_at dksX4_commit_1 4 rfl rfl)
theorem dX4_commit_28 : decode cX4_commit 28 = .ok (.aload_n 0, 1) := dk_42 (dk_at dksX4_commit_1 5 rfl rfl)
theorem dX4_commit_29 : decode cX4_commit 29 = .ok (.dup, 1) := dk_89 (dk_at dksX4_commit_1 6 rfl rfl)
theorem dX4_commit_30 : decode cX4_commit 30 = .ok (.getfield 441, 3) := dk_180 1 185 (dk_at dksX4_commit_1 7 rfl rfl)
theorem dX4_commit_33 : decode cX4_commit 33 = .ok (.iconst 1, 1) := dk_4 (dk_at dksX4_commit_1 10 rfl rfl)
theorem dX4_commit_34 : decode cX4_commit 34 = .ok (.isub, 1) := dk_100 (dk_at dksX4_commit_1 11 rfl rfl)
theorem dX4_commit_35 : decode cX4_commit 35 = .ok (.putfield 441, 3) := dk_181 1 185 (dk_at dksX4_commit_1 12 rfl rfl)
theorem dX4_commit_38 : decode cX4_commit 38 = .ok (.aload_n 0, 1) := dk_42 (dk_at dksX4_commit_1 15 rfl rfl)
theorem dX4_commit_39 : decode cX4_commit 39 = .ok (.getfield 441, 3) := dk_180 1 185 (dk_at dksX4_commit_1 16 rfl rfl)
theorem dX4_commit_42 : decode cX4_commit 42 = .ok (.ireturn, 1) := dk_172 (dk_at dksX4_commit_1 19 rfl rfl)
abbrev cX4_rollBack : ByteArray := prog_19_method_130_code
def yX4_rollBack : MethodName := ⟨RX4, "rollBack", "()I"⟩
def dkwX4_rollBack_2 : List UInt8 := [180, 0, 7, 16, 6, 46, 172]
abbrev dktX4_rollBack_2 : List UInt8 := dkwX4_rollBack_2 ++ []
def dkwX4_rollBack_1 : List UInt8 := [154, 0, 5, 3, 172, 42, 89, 180, 1, 185, 4, 100, 181, 1, 185, 42, 42, 180, 1, 185, 182, 1, 31, 42]
abbrev dktX4_rollBack_1 : List UInt8 := dkwX4_rollBack_1 ++ dktX4_rollBack_2
def dkwX4_rollBack_0 : List UInt8 := [42, 42, 180, 1, 46, 157, 0, 10, 42, 180, 1, 185, 154, 0, 7, 4, 167, 0, 4, 3, 182, 1, 10]
abbrev dktX4_rollBack_0 : List UInt8 := dkwX4_rollBack_0 ++ dktX4_rollBack_1
theorem dksX4_rollBack_0 : cX4_rollBack.data.toList.drop 0 = dktX4_rollBack_0 := by decide +kernel
theorem dksX4_rollBack_1 : cX4_rollBack.data.toList.drop 23 = dktX4_rollBack_1 := dk_seg dksX4_rollBack_0 23 rfl rfl
theorem dksX4_rollBack_2 : cX4_rollBack.data.toList.drop 47 = dktX4_rollBack_2 := dk_seg dksX4_rollBack_1 24 rfl rfl
theorem dX4_rollBack_0 : decode cX4_rollBack 0 = .ok (.aload_n 0, 1) := dk_42 (dk_at dksX4_rollBack_0 0 rfl rfl)
theorem dX4_rollBack_1 : decode cX4_rollBack 1 = .ok (.aload_n 0, 1) := dk_42 (dk_at dksX4_rollBack_0 1 rfl rfl)
theorem dX4_rollBack_2 : decode cX4_rollBack 2 = .ok (.getfield 302, 3) := dk_180 1 46 (dk_at dksX4_rollBack_0 2 rfl rfl)
theorem dX4_rollBack_5 : decode cX4_rollBack 5 = .ok (.ifCond .gt 10, 3) := dk_157 0 10 (dk_at dksX4_rollBack_0 5 rfl rfl)
theorem dX4_rollBack_8 : decode cX4_rollBack 8 = .ok (.aload_n 0, 1) := dk_42 (dk_at dksX4_rollBack_0 8 rfl rfl)
theorem dX4_rollBack_9 : decode cX4_rollBack 9 = .ok (.getfield 441, 3) := dk_180 1 185 (dk_at dksX4_rollBack_0 9 rfl rfl)
theorem dX4_rollBack_12 : decode cX4_rollBack 12 = .ok (.ifCond .ne 7, 3) := dk_154 0 7 (dk_at dksX4_rollBack_0 12 rfl rfl)
theorem dX4_rollBack_15 : decode cX4_rollBack 15 = .ok (.iconst 1, 1) := dk_4 (dk_at dksX4_rollBack_0 15 rfl rfl)
theorem dX4_rollBack_16 : decode cX4_rollBack 16 = .ok (.goto 4, 3) := dk_167 0 4 (dk_at dksX4_rollBack_0 16 rfl rfl)
theorem dX4_rollBack_19 : decode cX4_rollBack 19 = .ok (.iconst 0, 1) := dk_3 (dk_at dksX4_rollBack_0 19 rfl rfl)
theorem dX4_rollBack_20 : decode cX4_rollBack 20 = .ok (.invokevirtual 266, 3) := dk_182 1 10 (dk_at dksX4_rollBack_0 20 rfl rfl)
theorem dX4_rollBack_23 : decode cX4_rollBack 23 = .ok (.ifCond .ne 5, 3) := dk_154 0 5 (dk_at dksX4_rollBack_1 0 rfl rfl)
theorem dX4_rollBack_26 : decode cX4_rollBack 26 = .ok (.iconst 0, 1) := dk_3 (dk_at dksX4_rollBack_1 3 rfl rfl)
theorem dX4_rollBack_27 : decode cX4_rollBack 27 = .ok (.ireturn, 1) := dk_172 (dk_at dksX4_rollBack_1 4 rfl rfl)
theorem dX4_rollBack_28 : decode cX4_rollBack 28 = .ok (.aload_n 0, 1) := dk_42 (dk_at dksX4_rollBack_1 5 rfl rfl)
theorem dX4_rollBack_29 : decode cX4_rollBack 29 = .ok (.dup, 1) := dk_89 (dk_at dksX4_rollBack_1 6 rfl rfl)
theorem dX4_rollBack_30 : decode cX4_rollBack 30 = .ok (.getfield 441, 3) := dk_180 1 185 (dk_at dksX4_rollBack_1 7 rfl rfl)
theorem dX4_rollBack_33 : decode cX4_rollBack 33 = .ok (.iconst 1, 1) := dk_4 (dk_at dksX4_rollBack_1 10 rfl rfl)
theorem dX4_rollBack_34 : decode cX4_rollBack 34 = .ok (.isub, 1) := dk_100 (dk_at dksX4_rollBack_1 11 rfl rfl)
theorem dX4_rollBack_35 : decode cX4_rollBack 35 = .ok (.putfield 441, 3) := dk_181 1 185 (dk_at dksX4_rollBack_1 12 rfl rfl)
theorem dX4_rollBack_38 : decode cX4_rollBack 38 = .ok (.aload_n 0, 1) := dk_42 (dk_at dksX4_rollBack_1 15 rfl rfl)
theorem dX4_rollBack_39 : decode cX4_rollBack 39 = .ok (.aload_n 0, 1) := dk_42 (dk_at dksX4_rollBack_1 16 rfl rfl)
theorem dX4_rollBack_40 : decode cX4_rollBack 40 = .ok (.getfield 441, 3) := dk_180 1 185 (dk_at dksX4_rollBack_1 17 rfl rfl)
theorem dX4_rollBack_43 : decode cX4_rollBack 43 = .ok (.invokevirtual 287, 3) := dk_182 1 31 (dk_at dksX4_rollBack_1 20 rfl rfl)
theorem dX4_rollBack_46 : decode cX4_rollBack 46 = .ok (.aload_n 0, 1) := dk_42 (dk_at dksX4_rollBack_1 23 rfl rfl)
theorem dX4_rollBack_47 : decode cX4_rollBack 47 = .ok (.getfield 7, 3) := dk_180 0 7 (dk_at dksX4_rollBack_2 0 rfl rfl)
theorem dX4_rollBack_50 : decode cX4_rollBack 50 = .ok (.bipush 6, 2) := dk_16 6 (dk_at dksX4_rollBack_2 3 rfl rfl)
theorem dX4_rollBack_52 : decode cX4_rollBack 52 = .ok (.iaload, 1) := dk_46 (dk_at dksX4_rollBack_2 5 rfl rfl)
theorem dX4_rollBack_53 : decode cX4_rollBack 53 = .ok (.ireturn, 1) := dk_172 (dk_at dksX4_rollBack_2 6 rfl rfl)

abbrev wX4_init : Cond := Cond.code yX4_init cX4_init 1 none
theorem mdX4_init : rv_md yX4_init wX4_init 0 := ⟨1, Or.inl ⟨_, _, rfl⟩, q2097, q147, ⟨by decide +kernel, by decide +kernel⟩, by decide +kernel, by decide⟩
abbrev wX4_thrown : Cond := Cond.code yX4_thrown cX4_thrown 1 (some FieldType.int)
theorem mdX4_thrown : rv_md yX4_thrown wX4_thrown 0 := ⟨1, Or.inl ⟨_, _, rfl⟩, q2271, q147, ⟨by decide +kernel, by decide +kernel⟩, by decide +kernel, by decide⟩
abbrev wX4_relation : Cond := Cond.code yX4_relation cX4_relation 2 (some FieldType.int)
theorem mdX4_relation : rv_md yX4_relation wX4_relation 1 := ⟨2, Or.inl ⟨_, _, rfl⟩, q2275, q147, ⟨by decide +kernel, by decide +kernel⟩, by decide +kernel, by decide⟩
abbrev wX4_in : Cond := Cond.code yX4_in cX4_in 3 (some FieldType.boolean)
theorem mdX4_in : rv_md yX4_in wX4_in 3 := ⟨3, Or.inl ⟨_, _, rfl⟩, q2278, q147, ⟨by decide +kernel, by decide +kernel⟩, by decide +kernel, by decide⟩
abbrev wX4_goesWell : Cond := Cond.code yX4_goesWell cX4_goesWell 2 (some FieldType.boolean)
theorem mdX4_goesWell : rv_md yX4_goesWell wX4_goesWell 1 := ⟨2, Or.inl ⟨_, _, rfl⟩, q2282, q147, ⟨by decide +kernel, by decide +kernel⟩, by decide +kernel, by decide⟩
abbrev wX4_tell : Cond := Cond.code yX4_tell cX4_tell 4 (some FieldType.int)
theorem mdX4_tell : rv_md yX4_tell wX4_tell 2 := ⟨4, Or.inl ⟨_, _, rfl⟩, q2286, q147, ⟨by decide +kernel, by decide +kernel⟩, by decide +kernel, by decide⟩
abbrev wX4_faultOf : Cond := Cond.code yX4_faultOf cX4_faultOf 4 (some FieldType.int)
theorem mdX4_faultOf : rv_md yX4_faultOf wX4_faultOf 1 := ⟨4, Or.inl ⟨_, _, rfl⟩, q2290, q147, ⟨by decide +kernel, by decide +kernel⟩, by decide +kernel, by decide⟩
abbrev wX4_isRelation : Cond := Cond.code yX4_isRelation cX4_isRelation 2 (some FieldType.boolean)
theorem mdX4_isRelation : rv_md yX4_isRelation wX4_isRelation 1 := ⟨2, Or.inl ⟨_, _, rfl⟩, q2295, q147, ⟨by decide +kernel, by decide +kernel⟩, by decide +kernel, by decide⟩
abbrev wX4_save : Cond := Cond.code yX4_save cX4_save 4 none
theorem mdX4_save : rv_md yX4_save wX4_save 1 := ⟨4, Or.inl ⟨_, _, rfl⟩, q2299, q147, ⟨by decide +kernel, by decide +kernel⟩, by decide +kernel, by decide⟩
abbrev wX4_copy : Cond := Cond.code yX4_copy cX4_copy 6 (some FieldType.int)
theorem mdX4_copy : rv_md yX4_copy wX4_copy 5 := ⟨6, Or.inl ⟨_, _, rfl⟩, q2302, q147, ⟨by decide +kernel, by decide +kernel⟩, by decide +kernel, by decide⟩
abbrev wX4_tellFact : Cond := Cond.code yX4_tellFact cX4_tellFact 4 none
theorem mdX4_tellFact : rv_md yX4_tellFact wX4_tellFact 2 := ⟨4, Or.inl ⟨_, _, rfl⟩, q2306, q147, ⟨by decide +kernel, by decide +kernel⟩, by decide +kernel, by decide⟩
abbrev wX4_toldAt : Cond := Cond.code yX4_toldAt cX4_toldAt 4 (some FieldType.int)
theorem mdX4_toldAt : rv_md yX4_toldAt wX4_toldAt 1 := ⟨4, Or.inl ⟨_, _, rfl⟩, q2310, q147, ⟨by decide +kernel, by decide +kernel⟩, by decide +kernel, by decide⟩
abbrev wX4_settledOr : Cond := Cond.code yX4_settledOr cX4_settledOr 2 (some FieldType.int)
theorem mdX4_settledOr : rv_md yX4_settledOr wX4_settledOr 1 := ⟨2, Or.inl ⟨_, _, rfl⟩, q2314, q147, ⟨by decide +kernel, by decide +kernel⟩, by decide +kernel, by decide⟩
abbrev wX4_settle : Cond := Cond.code yX4_settle cX4_settle 7 (some FieldType.boolean)
theorem mdX4_settle : rv_md yX4_settle wX4_settle 0 := ⟨7, Or.inl ⟨_, _, rfl⟩, q2318, q147, ⟨by decide +kernel, by decide +kernel⟩, by decide +kernel, by decide⟩
abbrev wX4_findStrata : Cond := Cond.code yX4_findStrata cX4_findStrata 4 (some FieldType.boolean)
theorem mdX4_findStrata : rv_md yX4_findStrata wX4_findStrata 0 := ⟨4, Or.inl ⟨_, _, rfl⟩, q2322, q147, ⟨by decide +kernel, by decide +kernel⟩, by decide +kernel, by decide⟩
abbrev wX4_leastStratum : Cond := Cond.code yX4_leastStratum cX4_leastStratum 7 (some FieldType.int)
theorem mdX4_leastStratum : rv_md yX4_leastStratum wX4_leastStratum 1 := ⟨7, Or.inl ⟨_, _, rfl⟩, q2326, q147, ⟨by decide +kernel, by decide +kernel⟩, by decide +kernel, by decide⟩
abbrev wX4_kindOf : Cond := Cond.code yX4_kindOf cX4_kindOf 3 (some FieldType.int)
theorem mdX4_kindOf : rv_md yX4_kindOf wX4_kindOf 2 := ⟨3, Or.inl ⟨_, _, rfl⟩, q2330, q147, ⟨by decide +kernel, by decide +kernel⟩, by decide +kernel, by decide⟩
abbrev wX4_isGathering : Cond := Cond.code yX4_isGathering cX4_isGathering 4 (some FieldType.boolean)
theorem mdX4_isGathering : rv_md yX4_isGathering wX4_isGathering 1 := ⟨4, Or.inl ⟨_, _, rfl⟩, q2334, q147, ⟨by decide +kernel, by decide +kernel⟩, by decide +kernel, by decide⟩
abbrev wX4_whatOf : Cond := Cond.code yX4_whatOf cX4_whatOf 3 (some FieldType.int)
theorem mdX4_whatOf : rv_md yX4_whatOf wX4_whatOf 2 := ⟨3, Or.inl ⟨_, _, rfl⟩, q2338, q147, ⟨by decide +kernel, by decide +kernel⟩, by decide +kernel, by decide⟩
abbrev wX4_insert : Cond := Cond.code yX4_insert cX4_insert 3 none
theorem mdX4_insert : rv_md yX4_insert wX4_insert 1 := ⟨3, Or.inl ⟨_, _, rfl⟩, q2342, q147, ⟨by decide +kernel, by decide +kernel⟩, by decide +kernel, by decide⟩
abbrev wX4_indexOf : Cond := Cond.code yX4_indexOf cX4_indexOf 4 (some FieldType.int)
theorem mdX4_indexOf : rv_md yX4_indexOf wX4_indexOf 1 := ⟨4, Or.inl ⟨_, _, rfl⟩, q2346, q147, ⟨by decide +kernel, by decide +kernel⟩, by decide +kernel, by decide⟩
abbrev wX4_give : Cond := Cond.code yX4_give cX4_give 3 (some FieldType.boolean)
theorem mdX4_give : rv_md yX4_give wX4_give 1 := ⟨3, Or.inl ⟨_, _, rfl⟩, q2350, q147, ⟨by decide +kernel, by decide +kernel⟩, by decide +kernel, by decide⟩
abbrev wX4_gatherAll : Cond := Cond.code yX4_gatherAll cX4_gatherAll 6 none
theorem mdX4_gatherAll : rv_md yX4_gatherAll wX4_gatherAll 1 := ⟨6, Or.inl ⟨_, _, rfl⟩, q2354, q147, ⟨by decide +kernel, by decide +kernel⟩, by decide +kernel, by decide⟩
abbrev wX4_gatheredSlot : Cond := Cond.code yX4_gatheredSlot cX4_gatheredSlot 4 (some FieldType.int)
theorem mdX4_gatheredSlot : rv_md yX4_gatheredSlot wX4_gatheredSlot 1 := ⟨4, Or.inl ⟨_, _, rfl⟩, q2358, q147, ⟨by decide +kernel, by decide +kernel⟩, by decide +kernel, by decide⟩
abbrev wX4_forget : Cond := Cond.code yX4_forget cX4_forget 2 none
theorem mdX4_forget : rv_md yX4_forget wX4_forget 0 := ⟨2, Or.inl ⟨_, _, rfl⟩, q2362, q147, ⟨by decide +kernel, by decide +kernel⟩, by decide +kernel, by decide⟩
abbrev wX4_beginMatches : Cond := Cond.code yX4_beginMatches cX4_beginMatches 4 none
theorem mdX4_beginMatches : rv_md yX4_beginMatches wX4_beginMatches 2 := ⟨4, Or.inl ⟨_, _, rfl⟩, q2366, q147, ⟨by decide +kernel, by decide +kernel⟩, by decide +kernel, by decide⟩
abbrev wX4_nextMatch : Cond := Cond.code yX4_nextMatch cX4_nextMatch 2 (some FieldType.boolean)
theorem mdX4_nextMatch : rv_md yX4_nextMatch wX4_nextMatch 0 := ⟨2, Or.inl ⟨_, _, rfl⟩, q2370, q147, ⟨by decide +kernel, by decide +kernel⟩, by decide +kernel, by decide⟩
abbrev wX4_unbind : Cond := Cond.code yX4_unbind cX4_unbind 3 none
theorem mdX4_unbind : rv_md yX4_unbind wX4_unbind 1 := ⟨3, Or.inl ⟨_, _, rfl⟩, q2374, q147, ⟨by decide +kernel, by decide +kernel⟩, by decide +kernel, by decide⟩
abbrev wX4_advance : Cond := Cond.code yX4_advance cX4_advance 3 (some FieldType.boolean)
theorem mdX4_advance : rv_md yX4_advance wX4_advance 1 := ⟨3, Or.inl ⟨_, _, rfl⟩, q2378, q147, ⟨by decide +kernel, by decide +kernel⟩, by decide +kernel, by decide⟩
abbrev wX4_advanceAtom : Cond := Cond.code yX4_advanceAtom cX4_advanceAtom 4 (some FieldType.boolean)
theorem mdX4_advanceAtom : rv_md yX4_advanceAtom wX4_advanceAtom 1 := ⟨4, Or.inl ⟨_, _, rfl⟩, q2382, q147, ⟨by decide +kernel, by decide +kernel⟩, by decide +kernel, by decide⟩
abbrev wX4_fitsFact : Cond := Cond.code yX4_fitsFact cX4_fitsFact 6 (some FieldType.boolean)
theorem mdX4_fitsFact : rv_md yX4_fitsFact wX4_fitsFact 3 := ⟨6, Or.inl ⟨_, _, rfl⟩, q2386, q147, ⟨by decide +kernel, by decide +kernel⟩, by decide +kernel, by decide⟩
abbrev wX4_termOf : Cond := Cond.code yX4_termOf cX4_termOf 4 (some FieldType.int)
theorem mdX4_termOf : rv_md yX4_termOf wX4_termOf 3 := ⟨4, Or.inl ⟨_, _, rfl⟩, q2390, q147, ⟨by decide +kernel, by decide +kernel⟩, by decide +kernel, by decide⟩
abbrev wX4_slotOf : Cond := Cond.code yX4_slotOf cX4_slotOf 2 (some FieldType.int)
theorem mdX4_slotOf : rv_md yX4_slotOf wX4_slotOf 2 := ⟨2, Or.inl ⟨_, _, rfl⟩, q2393, q147, ⟨by decide +kernel, by decide +kernel⟩, by decide +kernel, by decide⟩
abbrev wX4_fits : Cond := Cond.code yX4_fits cX4_fits 4 (some FieldType.boolean)
theorem mdX4_fits : rv_md yX4_fits wX4_fits 3 := ⟨4, Or.inl ⟨_, _, rfl⟩, q2397, q147, ⟨by decide +kernel, by decide +kernel⟩, by decide +kernel, by decide⟩
abbrev wX4_valueOf : Cond := Cond.code yX4_valueOf cX4_valueOf 2 (some FieldType.int)
theorem mdX4_valueOf : rv_md yX4_valueOf wX4_valueOf 1 := ⟨2, Or.inl ⟨_, _, rfl⟩, q2401, q147, ⟨by decide +kernel, by decide +kernel⟩, by decide +kernel, by decide⟩
abbrev wX4_holds : Cond := Cond.code yX4_holds cX4_holds 7 (some FieldType.boolean)
theorem mdX4_holds : rv_md yX4_holds wX4_holds 2 := ⟨7, Or.inl ⟨_, _, rfl⟩, q2405, q147, ⟨by decide +kernel, by decide +kernel⟩, by decide +kernel, by decide⟩
abbrev wX4_weight : Cond := Cond.code yX4_weight cX4_weight 1 (some FieldType.int)
theorem mdX4_weight : rv_md yX4_weight wX4_weight 1 := ⟨1, Or.inl ⟨_, _, rfl⟩, q2408, q147, ⟨by decide +kernel, by decide +kernel⟩, by decide +kernel, by decide⟩
abbrev wX4_headFact : Cond := Cond.code yX4_headFact cX4_headFact 5 (some FieldType.int)
theorem mdX4_headFact : rv_md yX4_headFact wX4_headFact 1 := ⟨5, Or.inl ⟨_, _, rfl⟩, q2412, q147, ⟨by decide +kernel, by decide +kernel⟩, by decide +kernel, by decide⟩
abbrev wX4_matchDepth : Cond := Cond.code yX4_matchDepth cX4_matchDepth 4 (some FieldType.int)
theorem mdX4_matchDepth : rv_md yX4_matchDepth wX4_matchDepth 0 := ⟨4, Or.inl ⟨_, _, rfl⟩, q2416, q147, ⟨by decide +kernel, by decide +kernel⟩, by decide +kernel, by decide⟩
abbrev wX4_matchFacts : Cond := Cond.code yX4_matchFacts cX4_matchFacts 4 (some FieldType.long)
theorem mdX4_matchFacts : rv_md yX4_matchFacts wX4_matchFacts 0 := ⟨4, Or.inl ⟨_, _, rfl⟩, q2420, q147, ⟨by decide +kernel, by decide +kernel⟩, by decide +kernel, by decide⟩
abbrev wX4_groupFact : Cond := Cond.code yX4_groupFact cX4_groupFact 11 (some FieldType.int)
theorem mdX4_groupFact : rv_md yX4_groupFact wX4_groupFact 2 := ⟨11, Or.inl ⟨_, _, rfl⟩, q2424, q147, ⟨by decide +kernel, by decide +kernel⟩, by decide +kernel, by decide⟩
abbrev wX4_expect : Cond := Cond.code yX4_expect cX4_expect 4 none
theorem mdX4_expect : rv_md yX4_expect wX4_expect 1 := ⟨4, Or.inl ⟨_, _, rfl⟩, q2428, q147, ⟨by decide +kernel, by decide +kernel⟩, by decide +kernel, by decide⟩
abbrev wX4_giveTags : Cond := Cond.code yX4_giveTags cX4_giveTags 5 none
theorem mdX4_giveTags : rv_md yX4_giveTags wX4_giveTags 1 := ⟨5, Or.inl ⟨_, _, rfl⟩, q2432, q147, ⟨by decide +kernel, by decide +kernel⟩, by decide +kernel, by decide⟩
abbrev wX4_bringBack : Cond := Cond.code yX4_bringBack cX4_bringBack 4 none
theorem mdX4_bringBack : rv_md yX4_bringBack wX4_bringBack 1 := ⟨4, Or.inl ⟨_, _, rfl⟩, q2436, q147, ⟨by decide +kernel, by decide +kernel⟩, by decide +kernel, by decide⟩
abbrev wX4_take : Cond := Cond.code yX4_take cX4_take 3 (some FieldType.int)
theorem mdX4_take : rv_md yX4_take wX4_take 1 := ⟨3, Or.inl ⟨_, _, rfl⟩, q2440, q147, ⟨by decide +kernel, by decide +kernel⟩, by decide +kernel, by decide⟩
abbrev wX4_takeFact : Cond := Cond.code yX4_takeFact cX4_takeFact 3 none
theorem mdX4_takeFact : rv_md yX4_takeFact wX4_takeFact 1 := ⟨3, Or.inl ⟨_, _, rfl⟩, q2444, q147, ⟨by decide +kernel, by decide +kernel⟩, by decide +kernel, by decide⟩
abbrev wX4_stands : Cond := Cond.code yX4_stands cX4_stands 2 (some FieldType.boolean)
theorem mdX4_stands : rv_md yX4_stands wX4_stands 1 := ⟨2, Or.inl ⟨_, _, rfl⟩, q2448, q147, ⟨by decide +kernel, by decide +kernel⟩, by decide +kernel, by decide⟩
abbrev wX4_standsByRounds : Cond := Cond.code yX4_standsByRounds cX4_standsByRounds 2 (some FieldType.boolean)
theorem mdX4_standsByRounds : rv_md yX4_standsByRounds wX4_standsByRounds 1 := ⟨2, Or.inl ⟨_, _, rfl⟩, q2452, q147, ⟨by decide +kernel, by decide +kernel⟩, by decide +kernel, by decide⟩
abbrev wX4_endOf : Cond := Cond.code yX4_endOf cX4_endOf 3 (some FieldType.int)
theorem mdX4_endOf : rv_md yX4_endOf wX4_endOf 1 := ⟨3, Or.inl ⟨_, _, rfl⟩, q2457, q147, ⟨by decide +kernel, by decide +kernel⟩, by decide +kernel, by decide⟩
abbrev wX4_tag : Cond := Cond.code yX4_tag cX4_tag 3 (some FieldType.int)
theorem mdX4_tag : rv_md yX4_tag wX4_tag 1 := ⟨3, Or.inl ⟨_, _, rfl⟩, q2461, q147, ⟨by decide +kernel, by decide +kernel⟩, by decide +kernel, by decide⟩
abbrev wX4_standing : Cond := Cond.code yX4_standing cX4_standing 1 (some FieldType.int)
theorem mdX4_standing : rv_md yX4_standing wX4_standing 0 := ⟨1, Or.inl ⟨_, _, rfl⟩, q2465, q147, ⟨by decide +kernel, by decide +kernel⟩, by decide +kernel, by decide⟩
abbrev wX4_standingAt : Cond := Cond.code yX4_standingAt cX4_standingAt 2 (some FieldType.int)
theorem mdX4_standingAt : rv_md yX4_standingAt wX4_standingAt 1 := ⟨2, Or.inl ⟨_, _, rfl⟩, q2469, q147, ⟨by decide +kernel, by decide +kernel⟩, by decide +kernel, by decide⟩
abbrev wX4_rule : Cond := Cond.code yX4_rule cX4_rule 2 none
theorem mdX4_rule : rv_md yX4_rule wX4_rule 1 := ⟨2, Or.inl ⟨_, _, rfl⟩, q2473, q147, ⟨by decide +kernel, by decide +kernel⟩, by decide +kernel, by decide⟩
abbrev wX4_beginDraft : Cond := Cond.code yX4_beginDraft cX4_beginDraft 4 none
theorem mdX4_beginDraft : rv_md yX4_beginDraft wX4_beginDraft 2 := ⟨4, Or.inl ⟨_, _, rfl⟩, q2477, q147, ⟨by decide +kernel, by decide +kernel⟩, by decide +kernel, by decide⟩
abbrev wX4_deed : Cond := Cond.code yX4_deed cX4_deed 6 none
theorem mdX4_deed : rv_md yX4_deed wX4_deed 4 := ⟨6, Or.inl ⟨_, _, rfl⟩, q2481, q147, ⟨by decide +kernel, by decide +kernel⟩, by decide +kernel, by decide⟩
abbrev wX4_variable : Cond := Cond.code yX4_variable cX4_variable 2 none
theorem mdX4_variable : rv_md yX4_variable wX4_variable 1 := ⟨2, Or.inl ⟨_, _, rfl⟩, q2485, q147, ⟨by decide +kernel, by decide +kernel⟩, by decide +kernel, by decide⟩
abbrev wX4_lacksTerm : Cond := Cond.code yX4_lacksTerm cX4_lacksTerm 1 (some FieldType.boolean)
theorem mdX4_lacksTerm : rv_md yX4_lacksTerm wX4_lacksTerm 0 := ⟨1, Or.inl ⟨_, _, rfl⟩, q2489, q147, ⟨by decide +kernel, by decide +kernel⟩, by decide +kernel, by decide⟩
abbrev wX4_termsOf : Cond := Cond.code yX4_termsOf cX4_termsOf 4 (some FieldType.int)
theorem mdX4_termsOf : rv_md yX4_termsOf wX4_termsOf 2 := ⟨4, Or.inl ⟨_, _, rfl⟩, q2493, q147, ⟨by decide +kernel, by decide +kernel⟩, by decide +kernel, by decide⟩
abbrev wX4_addTerm : Cond := Cond.code yX4_addTerm cX4_addTerm 2 none
theorem mdX4_addTerm : rv_md yX4_addTerm wX4_addTerm 1 := ⟨2, Or.inl ⟨_, _, rfl⟩, q2497, q147, ⟨by decide +kernel, by decide +kernel⟩, by decide +kernel, by decide⟩
abbrev wX4_value : Cond := Cond.code yX4_value cX4_value 2 none
theorem mdX4_value : rv_md yX4_value wX4_value 1 := ⟨2, Or.inl ⟨_, _, rfl⟩, q2501, q147, ⟨by decide +kernel, by decide +kernel⟩, by decide +kernel, by decide⟩
abbrev wX4_gather : Cond := Cond.code yX4_gather cX4_gather 5 none
theorem mdX4_gather : rv_md yX4_gather wX4_gather 2 := ⟨5, Or.inl ⟨_, _, rfl⟩, q2505, q147, ⟨by decide +kernel, by decide +kernel⟩, by decide +kernel, by decide⟩
abbrev wX4_atom : Cond := Cond.code yX4_atom cX4_atom 2 none
theorem mdX4_atom : rv_md yX4_atom wX4_atom 1 := ⟨2, Or.inl ⟨_, _, rfl⟩, q2509, q147, ⟨by decide +kernel, by decide +kernel⟩, by decide +kernel, by decide⟩
abbrev wX4_canAdd : Cond := Cond.code yX4_canAdd cX4_canAdd 1 (some FieldType.boolean)
theorem mdX4_canAdd : rv_md yX4_canAdd wX4_canAdd 0 := ⟨1, Or.inl ⟨_, _, rfl⟩, q2513, q147, ⟨by decide +kernel, by decide +kernel⟩, by decide +kernel, by decide⟩
abbrev wX4_atomsOf : Cond := Cond.code yX4_atomsOf cX4_atomsOf 4 (some FieldType.int)
theorem mdX4_atomsOf : rv_md yX4_atomsOf wX4_atomsOf 1 := ⟨4, Or.inl ⟨_, _, rfl⟩, q2517, q147, ⟨by decide +kernel, by decide +kernel⟩, by decide +kernel, by decide⟩
abbrev wX4_addItem : Cond := Cond.code yX4_addItem cX4_addItem 3 none
theorem mdX4_addItem : rv_md yX4_addItem wX4_addItem 2 := ⟨3, Or.inl ⟨_, _, rfl⟩, q2521, q147, ⟨by decide +kernel, by decide +kernel⟩, by decide +kernel, by decide⟩
abbrev wX4_not : Cond := Cond.code yX4_not cX4_not 2 none
theorem mdX4_not : rv_md yX4_not wX4_not 1 := ⟨2, Or.inl ⟨_, _, rfl⟩, q2525, q147, ⟨by decide +kernel, by decide +kernel⟩, by decide +kernel, by decide⟩
abbrev wX4_test : Cond := Cond.code yX4_test cX4_test 2 none
theorem mdX4_test : rv_md yX4_test wX4_test 1 := ⟨2, Or.inl ⟨_, _, rfl⟩, q2529, q147, ⟨by decide +kernel, by decide +kernel⟩, by decide +kernel, by decide⟩
abbrev wX4_plus : Cond := Cond.code yX4_plus cX4_plus 1 none
theorem mdX4_plus : rv_md yX4_plus wX4_plus 0 := ⟨1, Or.inl ⟨_, _, rfl⟩, q2533, q147, ⟨by decide +kernel, by decide +kernel⟩, by decide +kernel, by decide⟩
abbrev wX4_done : Cond := Cond.code yX4_done cX4_done 3 (some FieldType.int)
theorem mdX4_done : rv_md yX4_done wX4_done 0 := ⟨3, Or.inl ⟨_, _, rfl⟩, q2537, q147, ⟨by decide +kernel, by decide +kernel⟩, by decide +kernel, by decide⟩
abbrev wX4_isSound : Cond := Cond.code yX4_isSound cX4_isSound 10 (some FieldType.boolean)
theorem mdX4_isSound : rv_md yX4_isSound wX4_isSound 0 := ⟨10, Or.inl ⟨_, _, rfl⟩, q2541, q147, ⟨by decide +kernel, by decide +kernel⟩, by decide +kernel, by decide⟩
abbrev wX4_copyBody : Cond := Cond.code yX4_copyBody cX4_copyBody 4 none
theorem mdX4_copyBody : rv_md yX4_copyBody wX4_copyBody 2 := ⟨4, Or.inl ⟨_, _, rfl⟩, q2545, q147, ⟨by decide +kernel, by decide +kernel⟩, by decide +kernel, by decide⟩
abbrev wX4_cancel : Cond := Cond.code yX4_cancel cX4_cancel 2 (some FieldType.boolean)
theorem mdX4_cancel : rv_md yX4_cancel wX4_cancel 0 := ⟨2, Or.inl ⟨_, _, rfl⟩, q2549, q147, ⟨by decide +kernel, by decide +kernel⟩, by decide +kernel, by decide⟩
abbrev wX4_drop : Cond := Cond.code yX4_drop cX4_drop 4 (some FieldType.int)
theorem mdX4_drop : rv_md yX4_drop wX4_drop 1 := ⟨4, Or.inl ⟨_, _, rfl⟩, q2553, q147, ⟨by decide +kernel, by decide +kernel⟩, by decide +kernel, by decide⟩
abbrev wX4_ruleAt : Cond := Cond.code yX4_ruleAt cX4_ruleAt 2 (some FieldType.int)
theorem mdX4_ruleAt : rv_md yX4_ruleAt wX4_ruleAt 1 := ⟨2, Or.inl ⟨_, _, rfl⟩, q2557, q147, ⟨by decide +kernel, by decide +kernel⟩, by decide +kernel, by decide⟩
abbrev wX4_placeOf : Cond := Cond.code yX4_placeOf cX4_placeOf 6 (some FieldType.int)
theorem mdX4_placeOf : rv_md yX4_placeOf wX4_placeOf 3 := ⟨6, Or.inl ⟨_, _, rfl⟩, q2561, q147, ⟨by decide +kernel, by decide +kernel⟩, by decide +kernel, by decide⟩
abbrev wX4_dropDeed : Cond := Cond.code yX4_dropDeed cX4_dropDeed 4 (some FieldType.int)
theorem mdX4_dropDeed : rv_md yX4_dropDeed wX4_dropDeed 1 := ⟨4, Or.inl ⟨_, _, rfl⟩, q2565, q147, ⟨by decide +kernel, by decide +kernel⟩, by decide +kernel, by decide⟩
abbrev wX4_stratum : Cond := Cond.code yX4_stratum cX4_stratum 3 (some FieldType.int)
theorem mdX4_stratum : rv_md yX4_stratum wX4_stratum 1 := ⟨3, Or.inl ⟨_, _, rfl⟩, q2569, q147, ⟨by decide +kernel, by decide +kernel⟩, by decide +kernel, by decide⟩
abbrev wX4_depth : Cond := Cond.code yX4_depth cX4_depth 3 (some FieldType.int)
theorem mdX4_depth : rv_md yX4_depth wX4_depth 1 := ⟨3, Or.inl ⟨_, _, rfl⟩, q2573, q147, ⟨by decide +kernel, by decide +kernel⟩, by decide +kernel, by decide⟩
abbrev wX4_findDepths : Cond := Cond.code yX4_findDepths cX4_findDepths 3 none
theorem mdX4_findDepths : rv_md yX4_findDepths wX4_findDepths 0 := ⟨3, Or.inl ⟨_, _, rfl⟩, q2577, q147, ⟨by decide +kernel, by decide +kernel⟩, by decide +kernel, by decide⟩
abbrev wX4_lowerBy : Cond := Cond.code yX4_lowerBy cX4_lowerBy 4 (some FieldType.boolean)
theorem mdX4_lowerBy : rv_md yX4_lowerBy wX4_lowerBy 1 := ⟨4, Or.inl ⟨_, _, rfl⟩, q2581, q147, ⟨by decide +kernel, by decide +kernel⟩, by decide +kernel, by decide⟩
abbrev wX4_lower : Cond := Cond.code yX4_lower cX4_lower 5 (some FieldType.boolean)
theorem mdX4_lower : rv_md yX4_lower wX4_lower 2 := ⟨5, Or.inl ⟨_, _, rfl⟩, q2585, q147, ⟨by decide +kernel, by decide +kernel⟩, by decide +kernel, by decide⟩
abbrev wX4_why : Cond := Cond.code yX4_why cX4_why 3 (some FieldType.int)
theorem mdX4_why : rv_md yX4_why wX4_why 1 := ⟨3, Or.inl ⟨_, _, rfl⟩, q2589, q147, ⟨by decide +kernel, by decide +kernel⟩, by decide +kernel, by decide⟩
abbrev wX4_findReasons : Cond := Cond.code yX4_findReasons cX4_findReasons 4 (some FieldType.int)
theorem mdX4_findReasons : rv_md yX4_findReasons wX4_findReasons 1 := ⟨4, Or.inl ⟨_, _, rfl⟩, q2593, q147, ⟨by decide +kernel, by decide +kernel⟩, by decide +kernel, by decide⟩
abbrev wX4_givesWith : Cond := Cond.code yX4_givesWith cX4_givesWith 5 (some FieldType.boolean)
theorem mdX4_givesWith : rv_md yX4_givesWith wX4_givesWith 3 := ⟨5, Or.inl ⟨_, _, rfl⟩, q2597, q147, ⟨by decide +kernel, by decide +kernel⟩, by decide +kernel, by decide⟩
abbrev wX4_layReasons : Cond := Cond.code yX4_layReasons cX4_layReasons 4 none
theorem mdX4_layReasons : rv_md yX4_layReasons wX4_layReasons 1 := ⟨4, Or.inl ⟨_, _, rfl⟩, q2601, q147, ⟨by decide +kernel, by decide +kernel⟩, by decide +kernel, by decide⟩
abbrev wX4_reasons : Cond := Cond.code yX4_reasons cX4_reasons 3 (some FieldType.int)
theorem mdX4_reasons : rv_md yX4_reasons wX4_reasons 1 := ⟨3, Or.inl ⟨_, _, rfl⟩, q2605, q147, ⟨by decide +kernel, by decide +kernel⟩, by decide +kernel, by decide⟩
abbrev wX4_reasonAt : Cond := Cond.code yX4_reasonAt cX4_reasonAt 6 (some FieldType.int)
theorem mdX4_reasonAt : rv_md yX4_reasonAt wX4_reasonAt 2 := ⟨6, Or.inl ⟨_, _, rfl⟩, q2609, q147, ⟨by decide +kernel, by decide +kernel⟩, by decide +kernel, by decide⟩
abbrev wX4_dependsOn : Cond := Cond.code yX4_dependsOn cX4_dependsOn 6 (some FieldType.boolean)
theorem mdX4_dependsOn : rv_md yX4_dependsOn wX4_dependsOn 2 := ⟨6, Or.inl ⟨_, _, rfl⟩, q2613, q147, ⟨by decide +kernel, by decide +kernel⟩, by decide +kernel, by decide⟩
abbrev wX4_findRests : Cond := Cond.code yX4_findRests cX4_findRests 3 none
theorem mdX4_findRests : rv_md yX4_findRests wX4_findRests 0 := ⟨3, Or.inl ⟨_, _, rfl⟩, q2617, q147, ⟨by decide +kernel, by decide +kernel⟩, by decide +kernel, by decide⟩
abbrev wX4_whyNot : Cond := Cond.code yX4_whyNot cX4_whyNot 6 (some FieldType.int)
theorem mdX4_whyNot : rv_md yX4_whyNot wX4_whyNot 2 := ⟨6, Or.inl ⟨_, _, rfl⟩, q2621, q147, ⟨by decide +kernel, by decide +kernel⟩, by decide +kernel, by decide⟩
abbrev wX4_layHead : Cond := Cond.code yX4_layHead cX4_layHead 8 (some FieldType.boolean)
theorem mdX4_layHead : rv_md yX4_layHead wX4_layHead 4 := ⟨8, Or.inl ⟨_, _, rfl⟩, q2625, q147, ⟨by decide +kernel, by decide +kernel⟩, by decide +kernel, by decide⟩
abbrev wX4_answers : Cond := Cond.code yX4_answers cX4_answers 9 (some FieldType.int)
theorem mdX4_answers : rv_md yX4_answers wX4_answers 4 := ⟨9, Or.inl ⟨_, _, rfl⟩, q2629, q147, ⟨by decide +kernel, by decide +kernel⟩, by decide +kernel, by decide⟩
abbrev wX4_isGoal : Cond := Cond.code yX4_isGoal cX4_isGoal 6 (some FieldType.boolean)
theorem mdX4_isGoal : rv_md yX4_isGoal wX4_isGoal 4 := ⟨6, Or.inl ⟨_, _, rfl⟩, q2633, q147, ⟨by decide +kernel, by decide +kernel⟩, by decide +kernel, by decide⟩
abbrev wX4_goals : Cond := Cond.code yX4_goals cX4_goals 6 (some FieldType.int)
theorem mdX4_goals : rv_md yX4_goals wX4_goals 4 := ⟨6, Or.inl ⟨_, _, rfl⟩, q2637, q147, ⟨by decide +kernel, by decide +kernel⟩, by decide +kernel, by decide⟩
abbrev wX4_goalOf : Cond := Cond.code yX4_goalOf cX4_goalOf 4 (some FieldType.int)
theorem mdX4_goalOf : rv_md yX4_goalOf wX4_goalOf 4 := ⟨4, Or.inl ⟨_, _, rfl⟩, q2640, q147, ⟨by decide +kernel, by decide +kernel⟩, by decide +kernel, by decide⟩
abbrev wX4_addGoal : Cond := Cond.code yX4_addGoal cX4_addGoal 4 none
theorem mdX4_addGoal : rv_md yX4_addGoal wX4_addGoal 1 := ⟨4, Or.inl ⟨_, _, rfl⟩, q2645, q147, ⟨by decide +kernel, by decide +kernel⟩, by decide +kernel, by decide⟩
abbrev wX4_setUp : Cond := Cond.code yX4_setUp cX4_setUp 8 none
theorem mdX4_setUp : rv_md yX4_setUp wX4_setUp 1 := ⟨8, Or.inl ⟨_, _, rfl⟩, q2649, q147, ⟨by decide +kernel, by decide +kernel⟩, by decide +kernel, by decide⟩
abbrev wX4_openValue : Cond := Cond.code yX4_openValue cX4_openValue 4 (some FieldType.int)
theorem mdX4_openValue : rv_md yX4_openValue wX4_openValue 3 := ⟨4, Or.inl ⟨_, _, rfl⟩, q2653, q147, ⟨by decide +kernel, by decide +kernel⟩, by decide +kernel, by decide⟩
abbrev wX4_beginnings : Cond := Cond.code yX4_beginnings cX4_beginnings 3 (some FieldType.int)
theorem mdX4_beginnings : rv_md yX4_beginnings wX4_beginnings 0 := ⟨3, Or.inl ⟨_, _, rfl⟩, q2657, q147, ⟨by decide +kernel, by decide +kernel⟩, by decide +kernel, by decide⟩
abbrev wX4_alikeAhead : Cond := Cond.code yX4_alikeAhead cX4_alikeAhead 6 (some FieldType.int)
theorem mdX4_alikeAhead : rv_md yX4_alikeAhead wX4_alikeAhead 1 := ⟨6, Or.inl ⟨_, _, rfl⟩, q2661, q147, ⟨by decide +kernel, by decide +kernel⟩, by decide +kernel, by decide⟩
abbrev wX4_areAlike : Cond := Cond.code yX4_areAlike cX4_areAlike 8 (some FieldType.boolean)
theorem mdX4_areAlike : rv_md yX4_areAlike wX4_areAlike 3 := ⟨8, Or.inl ⟨_, _, rfl⟩, q2665, q147, ⟨by decide +kernel, by decide +kernel⟩, by decide +kernel, by decide⟩
abbrev wX4_renamed : Cond := Cond.code yX4_renamed cX4_renamed 9 (some FieldType.int)
theorem mdX4_renamed : rv_md yX4_renamed wX4_renamed 2 := ⟨9, Or.inl ⟨_, _, rfl⟩, q2669, q147, ⟨by decide +kernel, by decide +kernel⟩, by decide +kernel, by decide⟩
abbrev wX4_matches : Cond := Cond.code yX4_matches cX4_matches 4 (some FieldType.int)
theorem mdX4_matches : rv_md yX4_matches wX4_matches 2 := ⟨4, Or.inl ⟨_, _, rfl⟩, q2673, q147, ⟨by decide +kernel, by decide +kernel⟩, by decide +kernel, by decide⟩
abbrev wX4_countMatches : Cond := Cond.code yX4_countMatches cX4_countMatches 2 (some FieldType.int)
theorem mdX4_countMatches : rv_md yX4_countMatches wX4_countMatches 0 := ⟨2, Or.inl ⟨_, _, rfl⟩, q2677, q147, ⟨by decide +kernel, by decide +kernel⟩, by decide +kernel, by decide⟩
abbrev wX4_planAt : Cond := Cond.code yX4_planAt cX4_planAt 4 (some FieldType.int)
theorem mdX4_planAt : rv_md yX4_planAt wX4_planAt 2 := ⟨4, Or.inl ⟨_, _, rfl⟩, q2681, q147, ⟨by decide +kernel, by decide +kernel⟩, by decide +kernel, by decide⟩
abbrev wX4_findPlan : Cond := Cond.code yX4_findPlan cX4_findPlan 6 none
theorem mdX4_findPlan : rv_md yX4_findPlan wX4_findPlan 1 := ⟨6, Or.inl ⟨_, _, rfl⟩, q2685, q147, ⟨by decide +kernel, by decide +kernel⟩, by decide +kernel, by decide⟩
abbrev wX4_nextAtom : Cond := Cond.code yX4_nextAtom cX4_nextAtom 8 (some FieldType.int)
theorem mdX4_nextAtom : rv_md yX4_nextAtom wX4_nextAtom 3 := ⟨8, Or.inl ⟨_, _, rfl⟩, q2689, q147, ⟨by decide +kernel, by decide +kernel⟩, by decide +kernel, by decide⟩
abbrev wX4_variablesOf : Cond := Cond.code yX4_variablesOf cX4_variablesOf 6 (some FieldType.int)
theorem mdX4_variablesOf : rv_md yX4_variablesOf wX4_variablesOf 2 := ⟨6, Or.inl ⟨_, _, rfl⟩, q2693, q147, ⟨by decide +kernel, by decide +kernel⟩, by decide +kernel, by decide⟩
abbrev wX4_standingOf : Cond := Cond.code yX4_standingOf cX4_standingOf 4 (some FieldType.int)
theorem mdX4_standingOf : rv_md yX4_standingOf wX4_standingOf 1 := ⟨4, Or.inl ⟨_, _, rfl⟩, q2697, q147, ⟨by decide +kernel, by decide +kernel⟩, by decide +kernel, by decide⟩
abbrev wX4_work : Cond := Cond.code yX4_work cX4_work 8 (some FieldType.int)
theorem mdX4_work : rv_md yX4_work wX4_work 2 := ⟨8, Or.inl ⟨_, _, rfl⟩, q2701, q147, ⟨by decide +kernel, by decide +kernel⟩, by decide +kernel, by decide⟩
abbrev wX4_agenda : Cond := Cond.code yX4_agenda cX4_agenda 2 (some FieldType.int)
theorem mdX4_agenda : rv_md yX4_agenda wX4_agenda 1 := ⟨2, Or.inl ⟨_, _, rfl⟩, q2705, q147, ⟨by decide +kernel, by decide +kernel⟩, by decide +kernel, by decide⟩
abbrev wX4_findBest : Cond := Cond.code yX4_findBest cX4_findBest 4 (some FieldType.int)
theorem mdX4_findBest : rv_md yX4_findBest wX4_findBest 1 := ⟨4, Or.inl ⟨_, _, rfl⟩, q2709, q147, ⟨by decide +kernel, by decide +kernel⟩, by decide +kernel, by decide⟩
abbrev wX4_canFire : Cond := Cond.code yX4_canFire cX4_canFire 3 (some FieldType.boolean)
theorem mdX4_canFire : rv_md yX4_canFire wX4_canFire 0 := ⟨3, Or.inl ⟨_, _, rfl⟩, q2713, q147, ⟨by decide +kernel, by decide +kernel⟩, by decide +kernel, by decide⟩
abbrev wX4_tagOf : Cond := Cond.code yX4_tagOf cX4_tagOf 4 (some FieldType.int)
theorem mdX4_tagOf : rv_md yX4_tagOf wX4_tagOf 1 := ⟨4, Or.inl ⟨_, _, rfl⟩, q2717, q147, ⟨by decide +kernel, by decide +kernel⟩, by decide +kernel, by decide⟩
abbrev wX4_compare : Cond := Cond.code yX4_compare cX4_compare 5 none
theorem mdX4_compare : rv_md yX4_compare wX4_compare 1 := ⟨5, Or.inl ⟨_, _, rfl⟩, q2721, q147, ⟨by decide +kernel, by decide +kernel⟩, by decide +kernel, by decide⟩
abbrev wX4_greatestTag : Cond := Cond.code yX4_greatestTag cX4_greatestTag 2 (some FieldType.int)
theorem mdX4_greatestTag : rv_md yX4_greatestTag wX4_greatestTag 0 := ⟨2, Or.inl ⟨_, _, rfl⟩, q2725, q147, ⟨by decide +kernel, by decide +kernel⟩, by decide +kernel, by decide⟩
abbrev wX4_next : Cond := Cond.code yX4_next cX4_next 1 (some FieldType.int)
theorem mdX4_next : rv_md yX4_next wX4_next 0 := ⟨1, Or.inl ⟨_, _, rfl⟩, q2729, q147, ⟨by decide +kernel, by decide +kernel⟩, by decide +kernel, by decide⟩
abbrev wX4_findNext : Cond := Cond.code yX4_findNext cX4_findNext 2 (some FieldType.int)
theorem mdX4_findNext : rv_md yX4_findNext wX4_findNext 0 := ⟨2, Or.inl ⟨_, _, rfl⟩, q2733, q147, ⟨by decide +kernel, by decide +kernel⟩, by decide +kernel, by decide⟩
abbrev wX4_nextFact : Cond := Cond.code yX4_nextFact cX4_nextFact 1 (some FieldType.int)
theorem mdX4_nextFact : rv_md yX4_nextFact wX4_nextFact 0 := ⟨1, Or.inl ⟨_, _, rfl⟩, q2737, q147, ⟨by decide +kernel, by decide +kernel⟩, by decide +kernel, by decide⟩
abbrev wX4_fire : Cond := Cond.code yX4_fire cX4_fire 2 (some FieldType.int)
theorem mdX4_fire : rv_md yX4_fire wX4_fire 0 := ⟨2, Or.inl ⟨_, _, rfl⟩, q2741, q147, ⟨by decide +kernel, by decide +kernel⟩, by decide +kernel, by decide⟩
abbrev wX4_fireOnce : Cond := Cond.code yX4_fireOnce cX4_fireOnce 4 (some FieldType.int)
theorem mdX4_fireOnce : rv_md yX4_fireOnce wX4_fireOnce 0 := ⟨4, Or.inl ⟨_, _, rfl⟩, q2745, q147, ⟨by decide +kernel, by decide +kernel⟩, by decide +kernel, by decide⟩
abbrev wX4_run : Cond := Cond.code yX4_run cX4_run 3 (some FieldType.int)
theorem mdX4_run : rv_md yX4_run wX4_run 1 := ⟨3, Or.inl ⟨_, _, rfl⟩, q2749, q147, ⟨by decide +kernel, by decide +kernel⟩, by decide +kernel, by decide⟩
abbrev wX4_focus : Cond := Cond.code yX4_focus cX4_focus 2 (some FieldType.int)
theorem mdX4_focus : rv_md yX4_focus wX4_focus 1 := ⟨2, Or.inl ⟨_, _, rfl⟩, q2753, q147, ⟨by decide +kernel, by decide +kernel⟩, by decide +kernel, by decide⟩
abbrev wX4_focused : Cond := Cond.code yX4_focused cX4_focused 1 (some FieldType.int)
theorem mdX4_focused : rv_md yX4_focused wX4_focused 0 := ⟨1, Or.inl ⟨_, _, rfl⟩, q2757, q147, ⟨by decide +kernel, by decide +kernel⟩, by decide +kernel, by decide⟩
abbrev wX4_tick : Cond := Cond.code yX4_tick cX4_tick 4 (some FieldType.int)
theorem mdX4_tick : rv_md yX4_tick wX4_tick 1 := ⟨4, Or.inl ⟨_, _, rfl⟩, q2761, q147, ⟨by decide +kernel, by decide +kernel⟩, by decide +kernel, by decide⟩
abbrev wX4_beginTick : Cond := Cond.code yX4_beginTick cX4_beginTick 3 (some FieldType.int)
theorem mdX4_beginTick : rv_md yX4_beginTick wX4_beginTick 0 := ⟨3, Or.inl ⟨_, _, rfl⟩, q2765, q147, ⟨by decide +kernel, by decide +kernel⟩, by decide +kernel, by decide⟩
abbrev wX4_now : Cond := Cond.code yX4_now cX4_now 1 (some FieldType.int)
theorem mdX4_now : rv_md yX4_now wX4_now 0 := ⟨1, Or.inl ⟨_, _, rfl⟩, q2769, q147, ⟨by decide +kernel, by decide +kernel⟩, by decide +kernel, by decide⟩
abbrev wX4_begin : Cond := Cond.code yX4_begin cX4_begin 1 (some FieldType.int)
theorem mdX4_begin : rv_md yX4_begin wX4_begin 0 := ⟨1, Or.inl ⟨_, _, rfl⟩, q2773, q147, ⟨by decide +kernel, by decide +kernel⟩, by decide +kernel, by decide⟩
abbrev wX4_commit : Cond := Cond.code yX4_commit cX4_commit 1 (some FieldType.int)
theorem mdX4_commit : rv_md yX4_commit wX4_commit 0 := ⟨1, Or.inl ⟨_, _, rfl⟩, q2777, q147, ⟨by decide +kernel, by decide +kernel⟩, by decide +kernel, by decide⟩
abbrev wX4_rollBack : Cond := Cond.code yX4_rollBack cX4_rollBack 1 (some FieldType.int)
theorem mdX4_rollBack : rv_md yX4_rollBack wX4_rollBack 0 := ⟨1, Or.inl ⟨_, _, rfl⟩, q2781, q147, ⟨by decide +kernel, by decide +kernel⟩, by decide +kernel, by decide⟩
