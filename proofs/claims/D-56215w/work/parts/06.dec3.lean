set_option maxRecDepth 100000
def dkwX5_init_7 : List UInt8 := [16, 109, 79, 177]
abbrev dktX5_init_7 : List UInt8 := dkwX5_init_7 ++ []
def dkwX5_init_6 : List UInt8 := [181, 0, 69, 42, 3, 181, 0, 72, 42, 3, 181, 0, 75, 42, 3, 181, 0, 78, 42, 180, 0, 7, 8]
abbrev dktX5_init_6 : List UInt8 := dkwX5_init_6 ++ dktX5_init_7
def dkwX5_init_5 : List UInt8 := [42, 16, 32, 188, 10, 181, 0, 60, 42, 17, 1, 0, 188, 10, 181, 0, 63, 42, 3, 181, 0, 66, 42, 3]
abbrev dktX5_init_5 : List UInt8 := dkwX5_init_5 ++ dktX5_init_6
def dkwX5_init_4 : List UInt8 := [181, 0, 48, 42, 16, 80, 188, 10, 181, 0, 51, 42, 3, 181, 0, 54, 42, 16, 60, 188, 10, 181, 0, 57]
abbrev dktX5_init_4 : List UInt8 := dkwX5_init_4 ++ dktX5_init_5
def dkwX5_init_3 : List UInt8 := [3, 181, 0, 38, 42, 3, 181, 0, 41, 42, 16, 6, 188, 10, 181, 0, 45, 42, 16, 6, 188, 10]
abbrev dktX5_init_3 : List UInt8 := dkwX5_init_3 ++ dktX5_init_4
def dkwX5_init_2 : List UInt8 := [181, 0, 22, 42, 3, 181, 0, 25, 42, 3, 181, 0, 29, 42, 2, 181, 0, 32, 42, 2, 181, 0, 35, 42]
abbrev dktX5_init_2 : List UInt8 := dkwX5_init_2 ++ dktX5_init_3
def dkwX5_init_1 : List UInt8 := [17, 0, 136, 188, 10, 181, 0, 16, 42, 17, 4, 64, 188, 10, 181, 0, 19, 42, 17, 28, 0, 188, 10]
abbrev dktX5_init_1 : List UInt8 := dkwX5_init_1 ++ dktX5_init_2
def dkwX5_init_0 : List UInt8 := [42, 183, 0, 1, 42, 17, 0, 136, 188, 10, 181, 0, 7, 42, 17, 0, 136, 188, 10, 181, 0, 13, 42]
abbrev dktX5_init_0 : List UInt8 := dkwX5_init_0 ++ dktX5_init_1
theorem dksX5_init_0 : cX5_init.data.toList.drop 0 = dktX5_init_0 := by decide +kernel
theorem dksX5_init_1 : cX5_init.data.toList.drop 23 = dktX5_init_1 := dk_seg dksX5_init_0 23 rfl rfl
theorem dksX5_init_2 : cX5_init.data.toList.drop 46 = dktX5_init_2 := dk_seg dksX5_init_1 23 rfl rfl
theorem dksX5_init_3 : cX5_init.data.toList.drop 70 = dktX5_init_3 := dk_seg dksX5_init_2 24 rfl rfl
theorem dksX5_init_4 : cX5_init.data.toList.drop 92 = dktX5_init_4 := dk_seg dksX5_init_3 22 rfl rfl
theorem dksX5_init_5 : cX5_init.data.toList.drop 116 = dktX5_init_5 := dk_seg dksX5_init_4 24 rfl rfl
theorem dksX5_init_6 : cX5_init.data.toList.drop 140 = dktX5_init_6 := dk_seg dksX5_init_5 24 rfl rfl
theorem dksX5_init_7 : cX5_init.data.toList.drop 163 = dktX5_init_7 := dk_seg dksX5_init_6 23 rfl rfl
theorem dX5_init_0 : decode cX5_init 0 = .ok (.aload_n 0, 1) := dk_42 (dk_at dksX5_init_0 0 rfl rfl)
theorem dX5_init_1 : decode cX5_init 1 = .ok (.invokespecial 1, 3) := dk_183 0 1 (dk_at dksX5_init_0 1 rfl rfl)
theorem dX5_init_4 : decode cX5_init 4 = .ok (.aload_n 0, 1) := dk_42 (dk_at dksX5_init_0 4 rfl rfl)
theorem dX5_init_5 : decode cX5_init 5 = .ok (.sipush 136, 3) := dk_17 0 136 (dk_at dksX5_init_0 5 rfl rfl)
theorem dX5_init_8 : decode cX5_init 8 = .ok (.newarray .int, 2) := dk_188_10 (dk_at dksX5_init_0 8 rfl rfl)
theorem dX5_init_10 : decode cX5_init 10 = .ok (.putfield 7, 3) := dk_181 0 7 (dk_at dksX5_init_0 10 rfl rfl)
theorem dX5_init_13 : decode cX5_init 13 = .ok (.aload_n 0, 1) := dk_42 (dk_at dksX5_init_0 13 rfl rfl)
theorem dX5_init_14 : decode cX5_init 14 = .ok (.sipush 136, 3) := dk_17 0 136 (dk_at dksX5_init_0 14 rfl rfl)
theorem dX5_init_17 : decode cX5_init 17 = .ok (.newarray .int, 2) := dk_188_10 (dk_at dksX5_init_0 17 rfl rfl)
theorem dX5_init_19 : decode cX5_init 19 = .ok (.putfield 13, 3) := dk_181 0 13 (dk_at dksX5_init_0 19 rfl rfl)
theorem dX5_init_22 : decode cX5_init 22 = .ok (.aload_n 0, 1) := dk_42 (dk_at dksX5_init_0 22 rfl rfl)
theorem dX5_init_23 : decode cX5_init 23 = .ok (.sipush 136, 3) := dk_17 0 136 (dk_at dksX5_init_1 0 rfl rfl)
theorem dX5_init_26 : decode cX5_init 26 = .ok (.newarray .int, 2) := dk_188_10 (dk_at dksX5_init_1 3 rfl rfl)
theorem dX5_init_28 : decode cX5_init 28 = .ok (.putfield 16, 3) := dk_181 0 16 (dk_at dksX5_init_1 5 rfl rfl)
theorem dX5_init_31 : decode cX5_init 31 = .ok (.aload_n 0, 1) := dk_42 (dk_at dksX5_init_1 8 rfl rfl)
theorem dX5_init_32 : decode cX5_init 32 = .ok (.sipush 1088, 3) := dk_17 4 64 (dk_at dksX5_init_1 9 rfl rfl)
theorem dX5_init_35 : decode cX5_init 35 = .ok (.newarray .int, 2) := dk_188_10 (dk_at dksX5_init_1 12 rfl rfl)
theorem dX5_init_37 : decode cX5_init 37 = .ok (.putfield 19, 3) := dk_181 0 19 (dk_at dksX5_init_1 14 rfl rfl)
theorem dX5_init_40 : decode cX5_init 40 = .ok (.aload_n 0, 1) := dk_42 (dk_at dksX5_init_1 17 rfl rfl)
theorem dX5_init_41 : decode cX5_init 41 = .ok (.sipush 7168, 3) := dk_17 28 0 (dk_at dksX5_init_1 18 rfl rfl)
theorem dX5_init_44 : decode cX5_init 44 = .ok (.newarray .int, 2) := dk_188_10 (dk_at dksX5_init_1 21 rfl rfl)
theorem dX5_init_46 : decode cX5_init 46 = .ok (.putfield 22, 3) := dk_181 0 22 (dk_at dksX5_init_2 0 rfl rfl)
theorem dX5_init_49 : decode cX5_init 49 = .ok (.aload_n 0, 1) := dk_42 (dk_at dksX5_init_2 3 rfl rfl)
theorem dX5_init_50 : decode cX5_init 50 = .ok (.iconst 0, 1) := dk_3 (dk_at dksX5_init_2 4 rfl rfl)
theorem dX5_init_51 : decode cX5_init 51 = .ok (.putfield 25, 3) := dk_181 0 25 (dk_at dksX5_init_2 5 rfl rfl)
theorem dX5_init_54 : decode cX5_init 54 = .ok (.aload_n 0, 1) := dk_42 (dk_at dksX5_init_2 8 rfl rfl)
theorem dX5_init_55 : decode cX5_init 55 = .ok (.iconst 0, 1) := dk_3 (dk_at dksX5_init_2 9 rfl rfl)
theorem dX5_init_56 : decode cX5_init 56 = .ok (.putfield 29, 3) := dk_181 0 29 (dk_at dksX5_init_2 10 rfl rfl)
theorem dX5_init_59 : decode cX5_init 59 = .ok (.aload_n 0, 1) := dk_42 (dk_at dksX5_init_2 13 rfl rfl)
theorem dX5_init_60 : decode cX5_init 60 = .ok (.iconst (-1), 1) := dk_2 (dk_at dksX5_init_2 14 rfl rfl)
theorem dX5_init_61 : decode cX5_init 61 = .ok (.putfield 32, 3) := dk_181 0 32 (dk_at dksX5_init_2 15 rfl rfl)
theorem dX5_init_64 : decode cX5_init 64 = .ok (.aload_n 0, 1) := dk_42 (dk_at dksX5_init_2 18 rfl rfl)
theorem dX5_init_65 : decode cX5_init 65 = .ok (.iconst (-1), 1) := dk_2 (dk_at dksX5_init_2 19 rfl rfl)
theorem dX5_init_66 : decode cX5_init 66 = .ok (.putfield 35, 3) := dk_181 0 35 (dk_at dksX5_init_2 20 rfl rfl)
theorem dX5_init_69 : decode cX5_init 69 = .ok (.aload_n 0, 1) := dk_42 (dk_at dksX5_init_2 23 rfl rfl)
theorem dX5_init_70 : decode cX5_init 70 = .ok (.iconst 0, 1) := dk_3 (dk_at dksX5_init_3 0 rfl rfl)
theorem dX5_init_71 : decode cX5_init 71 = .ok (.putfield 38, 3) := dk_181 0 38 (dk_at dksX5_init_3 1 rfl rfl)
theorem dX5_init_74 : decode cX5_init 74 = .ok (.aload_n 0, 1) := dk_42 (dk_at dksX5_init_3 4 rfl rfl)
theorem dX5_init_75 : decode cX5_init 75 = .ok (.iconst 0, 1) := dk_3 (dk_at dksX5_init_3 5 rfl rfl)
theorem dX5_init_76 : decode cX5_init 76 = .ok (.putfield 41, 3) := dk_181 0 41 (dk_at dksX5_init_3 6 rfl rfl)
theorem dX5_init_79 : decode cX5_init 79 = .ok (.aload_n 0, 1) := dk_42 (dk_at dksX5_init_3 9 rfl rfl)
theorem dX5_init_80 : decode cX5_init 80 = .ok (.bipush 6, 2) := dk_16 6 (dk_at dksX5_init_3 10 rfl rfl)
theorem dX5_init_82 : decode cX5_init 82 = .ok (.newarray .int, 2) := dk_188_10 (dk_at dksX5_init_3 12 rfl rfl)
theorem dX5_init_84 : decode cX5_init 84 = .ok (.putfield 45, 3) := dk_181 0 45 (dk_at dksX5_init_3 14 rfl rfl)
theorem dX5_init_87 : decode cX5_init 87 = .ok (.aload_n 0, 1) := dk_42 (dk_at dksX5_init_3 17 rfl rfl)
theorem dX5_init_88 : decode cX5_init 88 = .ok (.bipush 6, 2) := dk_16 6 (dk_at dksX5_init_3 18 rfl rfl)
theorem dX5_init_90 : decode cX5_init 90 = .ok (.newarray .int, 2) := dk_188_10 (dk_at dksX5_init_3 20 rfl rfl)
theorem dX5_init_92 : decode cX5_init 92 = .ok (.putfield 48, 3) := dk_181 0 48 (dk_at dksX5_init_4 0 rfl rfl)
theorem dX5_init_95 : decode cX5_init 95 = .ok (.aload_n 0, 1) := dk_42 (dk_at dksX5_init_4 3 rfl rfl)
theorem dX5_init_96 : decode cX5_init 96 = .ok (.bipush 80, 2) := dk_16 80 (dk_at dksX5_init_4 4 rfl rfl)
theorem dX5_init_98 : decode cX5_init 98 = .ok (.newarray .int, 2) := dk_188_10 (dk_at dksX5_init_4 6 rfl rfl)
theorem dX5_init_100 : decode cX5_init 100 = .ok (.putfield 51, 3) := dk_181 0 51 (dk_at dksX5_init_4 8 rfl rfl)
theorem dX5_init_103 : decode cX5_init 103 = .ok (.aload_n 0, 1) := dk_42 (dk_at dksX5_init_4 11 rfl rfl)
theorem dX5_init_104 : decode cX5_init 104 = .ok (.iconst 0, 1) := dk_3 (dk_at dksX5_init_4 12 rfl rfl)
theorem dX5_init_105 : decode cX5_init 105 = .ok (.putfield 54, 3) := dk_181 0 54 (dk_at dksX5_init_4 13 rfl rfl)
theorem dX5_init_108 : decode cX5_init 108 = .ok (.aload_n 0, 1) := dk_42 (dk_at dksX5_init_4 16 rfl rfl)
theorem dX5_init_109 : decode cX5_init 109 = .ok (.bipush 60, 2) := dk_16 60 (dk_at dksX5_init_4 17 rfl rfl)
theorem dX5_init_111 : decode cX5_init 111 = .ok (.newarray .int, 2) := dk_188_10 (dk_at dksX5_init_4 19 rfl rfl)
theorem dX5_init_113 : decode cX5_init 113 = .ok (.putfield 57, 3) := dk_181 0 57 (dk_at dksX5_init_4 21 rfl rfl)
theorem dX5_init_116 : decode cX5_init 116 = .ok (.aload_n 0, 1) := dk_42 (dk_at dksX5_init_5 0 rfl rfl)
theorem dX5_init_117 : decode cX5_init 117 = .ok (.bipush 32, 2) := dk_16 32 (dk_at dksX5_init_5 1 rfl rfl)
theorem dX5_init_119 : decode cX5_init 119 = .ok (.newarray .int, 2) := dk_188_10 (dk_at dksX5_init_5 3 rfl rfl)
theorem dX5_init_121 : decode cX5_init 121 = .ok (.putfield 60, 3) := dk_181 0 60 (dk_at dksX5_init_5 5 rfl rfl)
theorem dX5_init_124 : decode cX5_init 124 = .ok (.aload_n 0, 1) := dk_42 (dk_at dksX5_init_5 8 rfl rfl)
theorem dX5_init_125 : decode cX5_init 125 = .ok (.sipush 256, 3) := dk_17 1 0 (dk_at dksX5_init_5 9 rfl rfl)
theorem dX5_init_128 : decode cX5_init 128 = .ok (.newarray .int, 2) := dk_188_10 (dk_at dksX5_init_5 12 rfl rfl)
theorem dX5_init_130 : decode cX5_init 130 = .ok (.putfield 63, 3) := dk_181 0 63 (dk_at dksX5_init_5 14 rfl rfl)
theorem dX5_init_133 : decode cX5_init 133 = .ok (.aload_n 0, 1) := dk_42 (dk_at dksX5_init_5 17 rfl rfl)
theorem dX5_init_134 : decode cX5_init 134 = .ok (.iconst 0, 1) := dk_3 (dk_at dksX5_init_5 18 rfl rfl)
theorem dX5_init_135 : decode cX5_init 135 = .ok (.putfield 66, 3) := dk_181 0 66 (dk_at dksX5_init_5 19 rfl rfl)
theorem dX5_init_138 : decode cX5_init 138 = .ok (.aload_n 0, 1) := dk_42 (dk_at dksX5_init_5 22 rfl rfl)
theorem dX5_init_139 : decode cX5_init 139 = .ok (.iconst 0, 1) := dk_3 (dk_at dksX5_init_5 23 rfl rfl)
theorem dX5_init_140 : decode cX5_init 140 = .ok (.putfield 69, 3) := dk_181 0 69 (dk_at dksX5_init_6 0 rfl rfl)
theorem dX5_init_143 : decode cX5_init 143 = .ok (.aload_n 0, 1) := dk_42 (dk_at dksX5_init_6 3 rfl rfl)
theorem dX5_init_144 : decode cX5_init 144 = .ok (.iconst 0, 1) := dk_3 (dk_at dksX5_init_6 4 rfl rfl)
theorem dX5_init_145 : decode cX5_init 145 = .ok (.putfield 72, 3) := dk_181 0 72 (dk_at dksX5_init_6 5 rfl rfl)
theorem dX5_init_148 : decode cX5_init 148 = .ok (.aload_n 0, 1) := dk_42 (dk_at dksX5_init_6 8 rfl rfl)
theorem dX5_init_149 : decode cX5_init 149 = .ok (.iconst 0, 1) := dk_3 (dk_at dksX5_init_6 9 rfl rfl)
theorem dX5_init_150 : decode cX5_init 150 = .ok (.putfield 75, 3) := dk_181 0 75 (dk_at dksX5_init_6 10 rfl rfl)
theorem dX5_init_153 : decode cX5_init 153 = .ok (.aload_n 0, 1) := dk_42 (dk_at dksX5_init_6 13 rfl rfl)
theorem dX5_init_154 : decode cX5_init 154 = .ok (.iconst 0, 1) := dk_3 (dk_at dksX5_init_6 14 rfl rfl)
theorem dX5_init_155 : decode cX5_init 155 = .ok (.putfield 78, 3) := dk_181 0 78 (dk_at dksX5_init_6 15 rfl rfl)
theorem dX5_init_158 : decode cX5_init 158 = .ok (.aload_n 0, 1) := dk_42 (dk_at dksX5_init_6 18 rfl rfl)
theorem dX5_init_159 : decode cX5_init 159 = .ok (.getfield 7, 3) := dk_180 0 7 (dk_at dksX5_init_6 19 rfl rfl)
theorem dX5_init_162 : decode cX5_init 162 = .ok (.iconst 5, 1) := dk_8 (dk_at dksX5_init_6 22 rfl rfl)
theorem dX5_init_163 : decode cX5_init 163 = .ok (.bipush 109, 2) := dk_16 109 (dk_at dksX5_init_7 0 rfl rfl)
theorem dX5_init_165 : decode cX5_init 165 = .ok (.iastore, 1) := dk_79 (dk_at dksX5_init_7 2 rfl rfl)
theorem dX5_init_166 : decode cX5_init 166 = .ok (.return_, 1) := dk_177 (dk_at dksX5_init_7 3 rfl rfl)
theorem dX5_thrown_0 : decode cX5_thrown 0 = .ok (.aload_n 0, 1) := by decide +kernel
theorem dX5_thrown_1 : decode cX5_thrown 1 = .ok (.getfield 25, 3) := by decide +kernel
theorem dX5_thrown_4 : decode cX5_thrown 4 = .ok (.ireturn, 1) := by decide +kernel
def dkwX5_addColour_1 : List UInt8 := [182, 0, 130, 167, 0, 16, 42, 42, 27, 28, 29, 21, 4, 182, 0, 133, 182, 0, 136, 172]
abbrev dktX5_addColour_1 : List UInt8 := dkwX5_addColour_1 ++ []
def dkwX5_addColour_0 : List UInt8 := [42, 182, 0, 123, 42, 27, 28, 29, 21, 4, 182, 0, 126, 54, 5, 21, 5, 158, 0, 12, 42, 21, 5]
abbrev dktX5_addColour_0 : List UInt8 := dkwX5_addColour_0 ++ dktX5_addColour_1
theorem dksX5_addColour_0 : cX5_addColour.data.toList.drop 0 = dktX5_addColour_0 := by decide +kernel
theorem dksX5_addColour_1 : cX5_addColour.data.toList.drop 23 = dktX5_addColour_1 := dk_seg dksX5_addColour_0 23 rfl rfl
theorem dX5_addColour_0 : decode cX5_addColour 0 = .ok (.aload_n 0, 1) := dk_42 (dk_at dksX5_addColour_0 0 rfl rfl)
theorem dX5_addColour_1 : decode cX5_addColour 1 = .ok (.invokevirtual 123, 3) := dk_182 0 123 (dk_at dksX5_addColour_0 1 rfl rfl)
theorem dX5_addColour_4 : decode cX5_addColour 4 = .ok (.aload_n 0, 1) := dk_42 (dk_at dksX5_addColour_0 4 rfl rfl)
theorem dX5_addColour_5 : decode cX5_addColour 5 = .ok (.iload_n 1, 1) := dk_27 (dk_at dksX5_addColour_0 5 rfl rfl)
theorem dX5_addColour_6 : decode cX5_addColour 6 = .ok (.iload_n 2, 1) := dk_28 (dk_at dksX5_addColour_0 6 rfl rfl)
theorem dX5_addColour_7 : decode cX5_addColour 7 = .ok (.iload_n 3, 1) := dk_29 (dk_at dksX5_addColour_0 7 rfl rfl)
theorem dX5_addColour_8 : decode cX5_addColour 8 = .ok (.iload 4, 2) := dk_21 4 (dk_at dksX5_addColour_0 8 rfl rfl)
theorem dX5_addColour_10 : decode cX5_addColour 10 = .ok (.invokevirtual 126, 3) := dk_182 0 126 (dk_at dksX5_addColour_0 10 rfl rfl)
theorem dX5_addColour_13 : decode cX5_addColour 13 = .ok (.istore 5, 2) := dk_54 5 (dk_at dksX5_addColour_0 13 rfl rfl)
theorem dX5_addColour_15 : decode cX5_addColour 15 = .ok (.iload 5, 2) := dk_21 5 (dk_at dksX5_addColour_0 15 rfl rfl)
theorem dX5_addColour_17 : decode cX5_addColour 17 = .ok (.ifCond .le 12, 3) := dk_158 0 12 (dk_at dksX5_addColour_0 17 rfl rfl)
theorem dX5_addColour_20 : decode cX5_addColour 20 = .ok (.aload_n 0, 1) := dk_42 (dk_at dksX5_addColour_0 20 rfl rfl)
theorem dX5_addColour_21 : decode cX5_addColour 21 = .ok (.iload 5, 2) := dk_21 5 (dk_at dksX5_addColour_0 21 rfl rfl)
theorem dX5_addColour_23 : decode cX5_addColour 23 = .ok (.invokevirtual 130, 3) := dk_182 0 130 (dk_at dksX5_addColour_1 0 rfl rfl)
theorem dX5_addColour_26 : decode cX5_addColour 26 = .ok (.goto 16, 3) := dk_167 0 16 (dk_at dksX5_addColour_1 3 rfl rfl)
theorem dX5_addColour_29 : decode cX5_addColour 29 = .ok (.aload_n 0, 1) := dk_42 (dk_at dksX5_addColour_1 6 rfl rfl)
theorem dX5_addColour_30 : decode cX5_addColour 30 = .ok (.aload_n 0, 1) := dk_42 (dk_at dksX5_addColour_1 7 rfl rfl)
theorem dX5_addColour_31 : decode cX5_addColour 31 = .ok (.iload_n 1, 1) := dk_27 (dk_at dksX5_addColour_1 8 rfl rfl)
theorem dX5_addColour_32 : decode cX5_addColour 32 = .ok (.iload_n 2, 1) := dk_28 (dk_at dksX5_addColour_1 9 rfl rfl)
theorem dX5_addColour_33 : decode cX5_addColour 33 = .ok (.iload_n 3, 1) := dk_29 (dk_at dksX5_addColour_1 10 rfl rfl)
theorem dX5_addColour_34 : decode cX5_addColour 34 = .ok (.iload 4, 2) := dk_21 4 (dk_at dksX5_addColour_1 11 rfl rfl)
theorem dX5_addColour_36 : decode cX5_addColour 36 = .ok (.invokevirtual 133, 3) := dk_182 0 133 (dk_at dksX5_addColour_1 13 rfl rfl)
theorem dX5_addColour_39 : decode cX5_addColour 39 = .ok (.invokevirtual 136, 3) := dk_182 0 136 (dk_at dksX5_addColour_1 16 rfl rfl)
theorem dX5_addColour_42 : decode cX5_addColour 42 = .ok (.ireturn, 1) := dk_172 (dk_at dksX5_addColour_1 19 rfl rfl)
def dkwX5_begin_0 : List UInt8 := [42, 3, 181, 0, 25, 42, 180, 0, 7, 3, 42, 180, 0, 13, 3, 184, 0, 81, 177]
abbrev dktX5_begin_0 : List UInt8 := dkwX5_begin_0 ++ []
theorem dksX5_begin_0 : cX5_begin.data.toList.drop 0 = dktX5_begin_0 := by decide +kernel
theorem dX5_begin_0 : decode cX5_begin 0 = .ok (.aload_n 0, 1) := dk_42 (dk_at dksX5_begin_0 0 rfl rfl)
theorem dX5_begin_1 : decode cX5_begin 1 = .ok (.iconst 0, 1) := dk_3 (dk_at dksX5_begin_0 1 rfl rfl)
theorem dX5_begin_2 : decode cX5_begin 2 = .ok (.putfield 25, 3) := dk_181 0 25 (dk_at dksX5_begin_0 2 rfl rfl)
theorem dX5_begin_5 : decode cX5_begin 5 = .ok (.aload_n 0, 1) := dk_42 (dk_at dksX5_begin_0 5 rfl rfl)
theorem dX5_begin_6 : decode cX5_begin 6 = .ok (.getfield 7, 3) := dk_180 0 7 (dk_at dksX5_begin_0 6 rfl rfl)
theorem dX5_begin_9 : decode cX5_begin 9 = .ok (.iconst 0, 1) := dk_3 (dk_at dksX5_begin_0 9 rfl rfl)
theorem dX5_begin_10 : decode cX5_begin 10 = .ok (.aload_n 0, 1) := dk_42 (dk_at dksX5_begin_0 10 rfl rfl)
theorem dX5_begin_11 : decode cX5_begin 11 = .ok (.getfield 13, 3) := dk_180 0 13 (dk_at dksX5_begin_0 11 rfl rfl)
theorem dX5_begin_14 : decode cX5_begin 14 = .ok (.iconst 0, 1) := dk_3 (dk_at dksX5_begin_0 14 rfl rfl)
theorem dX5_begin_15 : decode cX5_begin 15 = .ok (.invokestatic 81, 3) := dk_184 0 81 (dk_at dksX5_begin_0 15 rfl rfl)
theorem dX5_begin_18 : decode cX5_begin 18 = .ok (.return_, 1) := dk_177 (dk_at dksX5_begin_0 18 rfl rfl)
def dkwX5_copy_1 : List UInt8 := [132, 4, 1, 167, 255, 233, 177]
abbrev dktX5_copy_1 : List UInt8 := dkwX5_copy_1 ++ []
def dkwX5_copy_0 : List UInt8 := [3, 54, 4, 21, 4, 17, 0, 136, 162, 0, 21, 44, 29, 21, 4, 96, 42, 27, 21, 4, 96, 46, 79]
abbrev dktX5_copy_0 : List UInt8 := dkwX5_copy_0 ++ dktX5_copy_1
theorem dksX5_copy_0 : cX5_copy.data.toList.drop 0 = dktX5_copy_0 := by decide +kernel
theorem dksX5_copy_1 : cX5_copy.data.toList.drop 23 = dktX5_copy_1 := dk_seg dksX5_copy_0 23 rfl rfl
theorem dX5_copy_0 : decode cX5_copy 0 = .ok (.iconst 0, 1) := dk_3 (dk_at dksX5_copy_0 0 rfl rfl)
theorem dX5_copy_1 : decode cX5_copy 1 = .ok (.istore 4, 2) := dk_54 4 (dk_at dksX5_copy_0 1 rfl rfl)
theorem dX5_copy_3 : decode cX5_copy 3 = .ok (.iload 4, 2) := dk_21 4 (dk_at dksX5_copy_0 3 rfl rfl)
theorem dX5_copy_5 : decode cX5_copy 5 = .ok (.sipush 136, 3) := dk_17 0 136 (dk_at dksX5_copy_0 5 rfl rfl)
theorem dX5_copy_8 : decode cX5_copy 8 = .ok (.if_icmp .ge 21, 3) := dk_162 0 21 (dk_at dksX5_copy_0 8 rfl rfl)
theorem dX5_copy_11 : decode cX5_copy 11 = .ok (.aload_n 2, 1) := dk_44 (dk_at dksX5_copy_0 11 rfl rfl)
theorem dX5_copy_12 : decode cX5_copy 12 = .ok (.iload_n 3, 1) := dk_29 (dk_at dksX5_copy_0 12 rfl rfl)
theorem dX5_copy_13 : decode cX5_copy 13 = .ok (.iload 4, 2) := dk_21 4 (dk_at dksX5_copy_0 13 rfl rfl)
theorem dX5_copy_15 : decode cX5_copy 15 = .ok (.iadd, 1) := dk_96 (dk_at dksX5_copy_0 15 rfl rfl)
theorem dX5_copy_16 : decode cX5_copy 16 = .ok (.aload_n 0, 1) := dk_42 (dk_at dksX5_copy_0 16 rfl rfl)
theorem dX5_copy_17 : decode cX5_copy 17 = .ok (.iload_n 1, 1) := dk_27 (dk_at dksX5_copy_0 17 rfl rfl)
theorem dX5_copy_18 : decode cX5_copy 18 = .ok (.iload 4, 2) := dk_21 4 (dk_at dksX5_copy_0 18 rfl rfl)
theorem dX5_copy_20 : decode cX5_copy 20 = .ok (.iadd, 1) := dk_96 (dk_at dksX5_copy_0 20 rfl rfl)
theorem dX5_copy_21 : decode cX5_copy 21 = .ok (.iaload, 1) := dk_46 (dk_at dksX5_copy_0 21 rfl rfl)
theorem dX5_copy_22 : decode cX5_copy 22 = .ok (.iastore, 1) := dk_79 (dk_at dksX5_copy_0 22 rfl rfl)
theorem dX5_copy_23 : decode cX5_copy 23 = .ok (.iinc 4 1, 3) := dk_132 4 1 (dk_at dksX5_copy_1 0 rfl rfl)
theorem dX5_copy_26 : decode cX5_copy 26 = .ok (.goto (-23), 3) := dk_167 255 233 (dk_at dksX5_copy_1 3 rfl rfl)
theorem dX5_copy_29 : decode cX5_copy 29 = .ok (.return_, 1) := dk_177 (dk_at dksX5_copy_1 6 rfl rfl)
def dkwX5_cannotAdd_1 : List UInt8 := [180, 0, 7, 3, 46, 16, 10, 160, 0, 7, 5, 167, 0, 4, 3, 172]
abbrev dktX5_cannotAdd_1 : List UInt8 := dkwX5_cannotAdd_1 ++ []
def dkwX5_cannotAdd_0 : List UInt8 := [27, 28, 29, 184, 0, 116, 153, 0, 14, 21, 4, 4, 16, 9, 184, 0, 112, 154, 0, 5, 4, 172, 42]
abbrev dktX5_cannotAdd_0 : List UInt8 := dkwX5_cannotAdd_0 ++ dktX5_cannotAdd_1
theorem dksX5_cannotAdd_0 : cX5_cannotAdd.data.toList.drop 0 = dktX5_cannotAdd_0 := by decide +kernel
theorem dksX5_cannotAdd_1 : cX5_cannotAdd.data.toList.drop 23 = dktX5_cannotAdd_1 := dk_seg dksX5_cannotAdd_0 23 rfl rfl
theorem dX5_cannotAdd_0 : decode cX5_cannotAdd 0 = .ok (.iload_n 1, 1) := dk_27 (dk_at dksX5_cannotAdd_0 0 rfl rfl)
theorem dX5_cannotAdd_1 : decode cX5_cannotAdd 1 = .ok (.iload_n 2, 1) := dk_28 (dk_at dksX5_cannotAdd_0 1 rfl rfl)
theorem dX5_cannotAdd_2 : decode cX5_cannotAdd 2 = .ok (.iload_n 3, 1) := dk_29 (dk_at dksX5_cannotAdd_0 2 rfl rfl)
theorem dX5_cannotAdd_3 : decode cX5_cannotAdd 3 = .ok (.invokestatic 116, 3) := dk_184 0 116 (dk_at dksX5_cannotAdd_0 3 rfl rfl)
theorem dX5_cannotAdd_6 : decode cX5_cannotAdd 6 = .ok (.ifCond .eq 14, 3) := dk_153 0 14 (dk_at dksX5_cannotAdd_0 6 rfl rfl)
theorem dX5_cannotAdd_9 : decode cX5_cannotAdd 9 = .ok (.iload 4, 2) := dk_21 4 (dk_at dksX5_cannotAdd_0 9 rfl rfl)
theorem dX5_cannotAdd_11 : decode cX5_cannotAdd 11 = .ok (.iconst 1, 1) := dk_4 (dk_at dksX5_cannotAdd_0 11 rfl rfl)
theorem dX5_cannotAdd_12 : decode cX5_cannotAdd 12 = .ok (.bipush 9, 2) := dk_16 9 (dk_at dksX5_cannotAdd_0 12 rfl rfl)
theorem dX5_cannotAdd_14 : decode cX5_cannotAdd 14 = .ok (.invokestatic 112, 3) := dk_184 0 112 (dk_at dksX5_cannotAdd_0 14 rfl rfl)
theorem dX5_cannotAdd_17 : decode cX5_cannotAdd 17 = .ok (.ifCond .ne 5, 3) := dk_154 0 5 (dk_at dksX5_cannotAdd_0 17 rfl rfl)
theorem dX5_cannotAdd_20 : decode cX5_cannotAdd 20 = .ok (.iconst 1, 1) := dk_4 (dk_at dksX5_cannotAdd_0 20 rfl rfl)
theorem dX5_cannotAdd_21 : decode cX5_cannotAdd 21 = .ok (.ireturn, 1) := dk_172 (dk_at dksX5_cannotAdd_0 21 rfl rfl)
theorem dX5_cannotAdd_22 : decode cX5_cannotAdd 22 = .ok (.aload_n 0, 1) := dk_42 (dk_at dksX5_cannotAdd_0 22 rfl rfl)
theorem dX5_cannotAdd_23 : decode cX5_cannotAdd 23 = .ok (.getfield 7, 3) := dk_180 0 7 (dk_at dksX5_cannotAdd_1 0 rfl rfl)
theorem dX5_cannotAdd_26 : decode cX5_cannotAdd 26 = .ok (.iconst 0, 1) := dk_3 (dk_at dksX5_cannotAdd_1 3 rfl rfl)
theorem dX5_cannotAdd_27 : decode cX5_cannotAdd 27 = .ok (.iaload, 1) := dk_46 (dk_at dksX5_cannotAdd_1 4 rfl rfl)
theorem dX5_cannotAdd_28 : decode cX5_cannotAdd 28 = .ok (.bipush 10, 2) := dk_16 10 (dk_at dksX5_cannotAdd_1 5 rfl rfl)
theorem dX5_cannotAdd_30 : decode cX5_cannotAdd 30 = .ok (.if_icmp .ne 7, 3) := dk_160 0 7 (dk_at dksX5_cannotAdd_1 7 rfl rfl)
theorem dX5_cannotAdd_33 : decode cX5_cannotAdd 33 = .ok (.iconst 2, 1) := dk_5 (dk_at dksX5_cannotAdd_1 10 rfl rfl)
theorem dX5_cannotAdd_34 : decode cX5_cannotAdd 34 = .ok (.goto 4, 3) := dk_167 0 4 (dk_at dksX5_cannotAdd_1 11 rfl rfl)
theorem dX5_cannotAdd_37 : decode cX5_cannotAdd 37 = .ok (.iconst 0, 1) := dk_3 (dk_at dksX5_cannotAdd_1 14 rfl rfl)
theorem dX5_cannotAdd_38 : decode cX5_cannotAdd 38 = .ok (.ireturn, 1) := dk_172 (dk_at dksX5_cannotAdd_1 15 rfl rfl)
def dkwX5_areParts_1 : List UInt8 := [184, 0, 112, 153, 0, 7, 4, 167, 0, 4, 3, 172]
abbrev dktX5_areParts_1 : List UInt8 := dkwX5_areParts_1 ++ []
def dkwX5_areParts_0 : List UInt8 := [26, 3, 16, 99, 184, 0, 112, 153, 0, 27, 27, 3, 16, 99, 184, 0, 112, 153, 0, 17, 28, 3, 16, 99]
abbrev dktX5_areParts_0 : List UInt8 := dkwX5_areParts_0 ++ dktX5_areParts_1
theorem dksX5_areParts_0 : cX5_areParts.data.toList.drop 0 = dktX5_areParts_0 := by decide +kernel
theorem dksX5_areParts_1 : cX5_areParts.data.toList.drop 24 = dktX5_areParts_1 := dk_seg dksX5_areParts_0 24 rfl rfl
theorem dX5_areParts_0 : decode cX5_areParts 0 = .ok (.iload_n 0, 1) := dk_26 (dk_at dksX5_areParts_0 0 rfl rfl)
theorem dX5_areParts_1 : decode cX5_areParts 1 = .ok (.iconst 0, 1) := dk_3 (dk_at dksX5_areParts_0 1 rfl rfl)
theorem dX5_areParts_2 : decode cX5_areParts 2 = .ok (.bipush 99, 2) := dk_16 99 (dk_at dksX5_areParts_0 2 rfl rfl)
theorem dX5_areParts_4 : decode cX5_areParts 4 = .ok (.invokestatic 112, 3) := dk_184 0 112 (dk_at dksX5_areParts_0 4 rfl rfl)
theorem dX5_areParts_7 : decode cX5_areParts 7 = .ok (.ifCond .eq 27, 3) := dk_153 0 27 (dk_at dksX5_areParts_0 7 rfl rfl)
theorem dX5_areParts_10 : decode cX5_areParts 10 = .ok (.iload_n 1, 1) := dk_27 (dk_at dksX5_areParts_0 10 rfl rfl)
theorem dX5_areParts_11 : decode cX5_areParts 11 = .ok (.iconst 0, 1) := dk_3 (dk_at dksX5_areParts_0 11 rfl rfl)
theorem dX5_areParts_12 : decode cX5_areParts 12 = .ok (.bipush 99, 2) := dk_16 99 (dk_at dksX5_areParts_0 12 rfl rfl)
theorem dX5_areParts_14 : decode cX5_areParts 14 = .ok (.invokestatic 112, 3) := dk_184 0 112 (dk_at dksX5_areParts_0 14 rfl rfl)
theorem dX5_areParts_17 : decode cX5_areParts 17 = .ok (.ifCond .eq 17, 3) := dk_153 0 17 (dk_at dksX5_areParts_0 17 rfl rfl)
theorem dX5_areParts_20 : decode cX5_areParts 20 = .ok (.iload_n 2, 1) := dk_28 (dk_at dksX5_areParts_0 20 rfl rfl)
theorem dX5_areParts_21 : decode cX5_areParts 21 = .ok (.iconst 0, 1) := dk_3 (dk_at dksX5_areParts_0 21 rfl rfl)
theorem dX5_areParts_22 : decode cX5_areParts 22 = .ok (.bipush 99, 2) := dk_16 99 (dk_at dksX5_areParts_0 22 rfl rfl)
theorem dX5_areParts_24 : decode cX5_areParts 24 = .ok (.invokestatic 112, 3) := dk_184 0 112 (dk_at dksX5_areParts_1 0 rfl rfl)
theorem dX5_areParts_27 : decode cX5_areParts 27 = .ok (.ifCond .eq 7, 3) := dk_153 0 7 (dk_at dksX5_areParts_1 3 rfl rfl)
theorem dX5_areParts_30 : decode cX5_areParts 30 = .ok (.iconst 1, 1) := dk_4 (dk_at dksX5_areParts_1 6 rfl rfl)
theorem dX5_areParts_31 : decode cX5_areParts 31 = .ok (.goto 4, 3) := dk_167 0 4 (dk_at dksX5_areParts_1 7 rfl rfl)
theorem dX5_areParts_34 : decode cX5_areParts 34 = .ok (.iconst 0, 1) := dk_3 (dk_at dksX5_areParts_1 10 rfl rfl)
theorem dX5_areParts_35 : decode cX5_areParts 35 = .ok (.ireturn, 1) := dk_172 (dk_at dksX5_areParts_1 11 rfl rfl)
def dkwX5_in_0 : List UInt8 := [26, 27, 161, 0, 12, 26, 28, 163, 0, 7, 4, 167, 0, 4, 3, 172]
abbrev dktX5_in_0 : List UInt8 := dkwX5_in_0 ++ []
theorem dksX5_in_0 : cX5_in.data.toList.drop 0 = dktX5_in_0 := by decide +kernel
theorem dX5_in_0 : decode cX5_in 0 = .ok (.iload_n 0, 1) := dk_26 (dk_at dksX5_in_0 0 rfl rfl)
theorem dX5_in_1 : decode cX5_in 1 = .ok (.iload_n 1, 1) := dk_27 (dk_at dksX5_in_0 1 rfl rfl)
theorem dX5_in_2 : decode cX5_in 2 = .ok (.if_icmp .lt 12, 3) := dk_161 0 12 (dk_at dksX5_in_0 2 rfl rfl)
theorem dX5_in_5 : decode cX5_in 5 = .ok (.iload_n 0, 1) := dk_26 (dk_at dksX5_in_0 5 rfl rfl)
theorem dX5_in_6 : decode cX5_in 6 = .ok (.iload_n 2, 1) := dk_28 (dk_at dksX5_in_0 6 rfl rfl)
theorem dX5_in_7 : decode cX5_in 7 = .ok (.if_icmp .gt 7, 3) := dk_163 0 7 (dk_at dksX5_in_0 7 rfl rfl)
theorem dX5_in_10 : decode cX5_in 10 = .ok (.iconst 1, 1) := dk_4 (dk_at dksX5_in_0 10 rfl rfl)
theorem dX5_in_11 : decode cX5_in 11 = .ok (.goto 4, 3) := dk_167 0 4 (dk_at dksX5_in_0 11 rfl rfl)
theorem dX5_in_14 : decode cX5_in 14 = .ok (.iconst 0, 1) := dk_3 (dk_at dksX5_in_0 14 rfl rfl)
theorem dX5_in_15 : decode cX5_in 15 = .ok (.ireturn, 1) := dk_172 (dk_at dksX5_in_0 15 rfl rfl)
def dkwX5_fail_0 : List UInt8 := [42, 27, 181, 0, 25, 3, 172]
abbrev dktX5_fail_0 : List UInt8 := dkwX5_fail_0 ++ []
theorem dksX5_fail_0 : cX5_fail.data.toList.drop 0 = dktX5_fail_0 := by decide +kernel
theorem dX5_fail_0 : decode cX5_fail 0 = .ok (.aload_n 0, 1) := dk_42 (dk_at dksX5_fail_0 0 rfl rfl)
theorem dX5_fail_1 : decode cX5_fail 1 = .ok (.iload_n 1, 1) := dk_27 (dk_at dksX5_fail_0 1 rfl rfl)
theorem dX5_fail_2 : decode cX5_fail 2 = .ok (.putfield 25, 3) := dk_181 0 25 (dk_at dksX5_fail_0 2 rfl rfl)
theorem dX5_fail_5 : decode cX5_fail 5 = .ok (.iconst 0, 1) := dk_3 (dk_at dksX5_fail_0 5 rfl rfl)
theorem dX5_fail_6 : decode cX5_fail 6 = .ok (.ireturn, 1) := dk_172 (dk_at dksX5_fail_0 6 rfl rfl)
def dkwX5_adds_2 : List UInt8 := [46, 4, 96, 79, 42, 180, 0, 7, 5, 46, 4, 100, 172]
abbrev dktX5_adds_2 : List UInt8 := dkwX5_adds_2 ++ []
def dkwX5_adds_1 : List UInt8 := [180, 0, 7, 7, 46, 182, 0, 119, 42, 180, 0, 7, 3, 92, 46, 4, 96, 79, 42, 180, 0, 7, 5, 92]
abbrev dktX5_adds_1 : List UInt8 := dkwX5_adds_1 ++ dktX5_adds_2
def dkwX5_adds_0 : List UInt8 := [42, 42, 180, 0, 7, 3, 46, 184, 0, 85, 42, 180, 0, 7, 5, 46, 27, 28, 29, 21, 4, 42]
abbrev dktX5_adds_0 : List UInt8 := dkwX5_adds_0 ++ dktX5_adds_1
theorem dksX5_adds_0 : cX5_adds.data.toList.drop 0 = dktX5_adds_0 := by decide +kernel
theorem dksX5_adds_1 : cX5_adds.data.toList.drop 22 = dktX5_adds_1 := dk_seg dksX5_adds_0 22 rfl rfl
theorem dksX5_adds_2 : cX5_adds.data.toList.drop 46 = dktX5_adds_2 := dk_seg dksX5_adds_1 24 rfl rfl
theorem dX5_adds_0 : decode cX5_adds 0 = .ok (.aload_n 0, 1) := dk_42 (dk_at dksX5_adds_0 0 rfl rfl)
theorem dX5_adds_1 : decode cX5_adds 1 = .ok (.aload_n 0, 1) := dk_42 (dk_at dksX5_adds_0 1 rfl rfl)
theorem dX5_adds_2 : decode cX5_adds 2 = .ok (.getfield 7, 3) := dk_180 0 7 (dk_at dksX5_adds_0 2 rfl rfl)
theorem dX5_adds_5 : decode cX5_adds 5 = .ok (.iconst 0, 1) := dk_3 (dk_at dksX5_adds_0 5 rfl rfl)
theorem dX5_adds_6 : decode cX5_adds 6 = .ok (.iaload, 1) := dk_46 (dk_at dksX5_adds_0 6 rfl rfl)
theorem dX5_adds_7 : decode cX5_adds 7 = .ok (.invokestatic 85, 3) := dk_184 0 85 (dk_at dksX5_adds_0 7 rfl rfl)
theorem dX5_adds_10 : decode cX5_adds 10 = .ok (.aload_n 0, 1) := dk_42 (dk_at dksX5_adds_0 10 rfl rfl)
theorem dX5_adds_11 : decode cX5_adds 11 = .ok (.getfield 7, 3) := dk_180 0 7 (dk_at dksX5_adds_0 11 rfl rfl)
theorem dX5_adds_14 : decode cX5_adds 14 = .ok (.iconst 2, 1) := dk_5 (dk_at dksX5_adds_0 14 rfl rfl)
theorem dX5_adds_15 : decode cX5_adds 15 = .ok (.iaload, 1) := dk_46 (dk_at dksX5_adds_0 15 rfl rfl)
theorem dX5_adds_16 : decode cX5_adds 16 = .ok (.iload_n 1, 1) := dk_27 (dk_at dksX5_adds_0 16 rfl rfl)
theorem dX5_adds_17 : decode cX5_adds 17 = .ok (.iload_n 2, 1) := dk_28 (dk_at dksX5_adds_0 17 rfl rfl)
theorem dX5_adds_18 : decode cX5_adds 18 = .ok (.iload_n 3, 1) := dk_29 (dk_at dksX5_adds_0 18 rfl rfl)
theorem dX5_adds_19 : decode cX5_adds 19 = .ok (.iload 4, 2) := dk_21 4 (dk_at dksX5_adds_0 19 rfl rfl)
theorem dX5_adds_21 : decode cX5_adds 21 = .ok (.aload_n 0, 1) := dk_42 (dk_at dksX5_adds_0 21 rfl rfl)
theorem dX5_adds_22 : decode cX5_adds 22 = .ok (.getfield 7, 3) := dk_180 0 7 (dk_at dksX5_adds_1 0 rfl rfl)
theorem dX5_adds_25 : decode cX5_adds 25 = .ok (.iconst 4, 1) := dk_7 (dk_at dksX5_adds_1 3 rfl rfl)
theorem dX5_adds_26 : decode cX5_adds 26 = .ok (.iaload, 1) := dk_46 (dk_at dksX5_adds_1 4 rfl rfl)
theorem dX5_adds_27 : decode cX5_adds 27 = .ok (.invokevirtual 119, 3) := dk_182 0 119 (dk_at dksX5_adds_1 5 rfl rfl)
theorem dX5_adds_30 : decode cX5_adds 30 = .ok (.aload_n 0, 1) := dk_42 (dk_at dksX5_adds_1 8 rfl rfl)
theorem dX5_adds_31 : decode cX5_adds 31 = .ok (.getfield 7, 3) := dk_180 0 7 (dk_at dksX5_adds_1 9 rfl rfl)
theorem dX5_adds_34 : decode cX5_adds 34 = .ok (.iconst 0, 1) := dk_3 (dk_at dksX5_adds_1 12 rfl rfl)
theorem dX5_adds_35 : decode cX5_adds 35 = .ok (.dup2, 1) := dk_92 (dk_at dksX5_adds_1 13 rfl rfl)
theorem dX5_adds_36 : decode cX5_adds 36 = .ok (.iaload, 1) := dk_46 (dk_at dksX5_adds_1 14 rfl rfl)
theorem dX5_adds_37 : decode cX5_adds 37 = .ok (.iconst 1, 1) := dk_4 (dk_at dksX5_adds_1 15 rfl rfl)
theorem dX5_adds_38 : decode cX5_adds 38 = .ok (.iadd, 1) := dk_96 (dk_at dksX5_adds_1 16 rfl rfl)
theorem dX5_adds_39 : decode cX5_adds 39 = .ok (.iastore, 1) := dk_79 (dk_at dksX5_adds_1 17 rfl rfl)
theorem dX5_adds_40 : decode cX5_adds 40 = .ok (.aload_n 0, 1) := dk_42 (dk_at dksX5_adds_1 18 rfl rfl)
theorem dX5_adds_41 : decode cX5_adds 41 = .ok (.getfield 7, 3) := dk_180 0 7 (dk_at dksX5_adds_1 19 rfl rfl)
theorem dX5_adds_44 : decode cX5_adds 44 = .ok (.iconst 2, 1) := dk_5 (dk_at dksX5_adds_1 22 rfl rfl)
theorem dX5_adds_45 : decode cX5_adds 45 = .ok (.dup2, 1) := dk_92 (dk_at dksX5_adds_1 23 rfl rfl)
theorem dX5_adds_46 : decode cX5_adds 46 = .ok (.iaload, 1) := dk_46 (dk_at dksX5_adds_2 0 rfl rfl)
theorem dX5_adds_47 : decode cX5_adds 47 = .ok (.iconst 1, 1) := dk_4 (dk_at dksX5_adds_2 1 rfl rfl)
theorem dX5_adds_48 : decode cX5_adds 48 = .ok (.iadd, 1) := dk_96 (dk_at dksX5_adds_2 2 rfl rfl)
theorem dX5_adds_49 : decode cX5_adds 49 = .ok (.iastore, 1) := dk_79 (dk_at dksX5_adds_2 3 rfl rfl)
theorem dX5_adds_50 : decode cX5_adds 50 = .ok (.aload_n 0, 1) := dk_42 (dk_at dksX5_adds_2 4 rfl rfl)
theorem dX5_adds_51 : decode cX5_adds 51 = .ok (.getfield 7, 3) := dk_180 0 7 (dk_at dksX5_adds_2 5 rfl rfl)
theorem dX5_adds_54 : decode cX5_adds 54 = .ok (.iconst 2, 1) := dk_5 (dk_at dksX5_adds_2 8 rfl rfl)
theorem dX5_adds_55 : decode cX5_adds 55 = .ok (.iaload, 1) := dk_46 (dk_at dksX5_adds_2 9 rfl rfl)
theorem dX5_adds_56 : decode cX5_adds 56 = .ok (.iconst 1, 1) := dk_4 (dk_at dksX5_adds_2 10 rfl rfl)
theorem dX5_adds_57 : decode cX5_adds 57 = .ok (.isub, 1) := dk_100 (dk_at dksX5_adds_2 11 rfl rfl)
theorem dX5_adds_58 : decode cX5_adds 58 = .ok (.ireturn, 1) := dk_172 (dk_at dksX5_adds_2 12 rfl rfl)
def dkwX5_colourRow_0 : List UInt8 := [16, 8, 16, 8, 26, 104, 96, 172]
abbrev dktX5_colourRow_0 : List UInt8 := dkwX5_colourRow_0 ++ []
theorem dksX5_colourRow_0 : cX5_colourRow.data.toList.drop 0 = dktX5_colourRow_0 := by decide +kernel
theorem dX5_colourRow_0 : decode cX5_colourRow 0 = .ok (.bipush 8, 2) := dk_16 8 (dk_at dksX5_colourRow_0 0 rfl rfl)
theorem dX5_colourRow_2 : decode cX5_colourRow 2 = .ok (.bipush 8, 2) := dk_16 8 (dk_at dksX5_colourRow_0 2 rfl rfl)
theorem dX5_colourRow_4 : decode cX5_colourRow 4 = .ok (.iload_n 0, 1) := dk_26 (dk_at dksX5_colourRow_0 4 rfl rfl)
theorem dX5_colourRow_5 : decode cX5_colourRow 5 = .ok (.imul, 1) := dk_104 (dk_at dksX5_colourRow_0 5 rfl rfl)
theorem dX5_colourRow_6 : decode cX5_colourRow 6 = .ok (.iadd, 1) := dk_96 (dk_at dksX5_colourRow_0 6 rfl rfl)
theorem dX5_colourRow_7 : decode cX5_colourRow 7 = .ok (.ireturn, 1) := dk_172 (dk_at dksX5_colourRow_0 7 rfl rfl)
def dkwX5_lay_2 : List UInt8 := [42, 180, 0, 7, 27, 8, 96, 21, 7, 79, 177]
abbrev dktX5_lay_2 : List UInt8 := dkwX5_lay_2 ++ []
def dkwX5_lay_1 : List UInt8 := [96, 21, 4, 79, 42, 180, 0, 7, 27, 6, 96, 21, 5, 79, 42, 180, 0, 7, 27, 7, 96, 21, 6, 79]
abbrev dktX5_lay_1 : List UInt8 := dkwX5_lay_1 ++ dktX5_lay_2
def dkwX5_lay_0 : List UInt8 := [42, 180, 0, 7, 27, 3, 96, 28, 79, 42, 180, 0, 7, 27, 4, 96, 29, 79, 42, 180, 0, 7, 27, 5]
abbrev dktX5_lay_0 : List UInt8 := dkwX5_lay_0 ++ dktX5_lay_1
theorem dksX5_lay_0 : cX5_lay.data.toList.drop 0 = dktX5_lay_0 := by decide +kernel
theorem dksX5_lay_1 : cX5_lay.data.toList.drop 24 = dktX5_lay_1 := dk_seg dksX5_lay_0 24 rfl rfl
theorem dksX5_lay_2 : cX5_lay.data.toList.drop 48 = dktX5_lay_2 := dk_seg dksX5_lay_1 24 rfl rfl
theorem dX5_lay_0 : decode cX5_lay 0 = .ok (.aload_n 0, 1) := dk_42 (dk_at dksX5_lay_0 0 rfl rfl)
theorem dX5_lay_1 : decode cX5_lay 1 = .ok (.getfield 7, 3) := dk_180 0 7 (dk_at dksX5_lay_0 1 rfl rfl)
theorem dX5_lay_4 : decode cX5_lay 4 = .ok (.iload_n 1, 1) := dk_27 (dk_at dksX5_lay_0 4 rfl rfl)
theorem dX5_lay_5 : decode cX5_lay 5 = .ok (.iconst 0, 1) := dk_3 (dk_at dksX5_lay_0 5 rfl rfl)
theorem dX5_lay_6 : decode cX5_lay 6 = .ok (.iadd, 1) := dk_96 (dk_at dksX5_lay_0 6 rfl rfl)
theorem dX5_lay_7 : decode cX5_lay 7 = .ok (.iload_n 2, 1) := dk_28 (dk_at dksX5_lay_0 7 rfl rfl)
theorem dX5_lay_8 : decode cX5_lay 8 = .ok (.iastore, 1) := dk_79 (dk_at dksX5_lay_0 8 rfl rfl)
theorem dX5_lay_9 : decode cX5_lay 9 = .ok (.aload_n 0, 1) := dk_42 (dk_at dksX5_lay_0 9 rfl rfl)
theorem dX5_lay_10 : decode cX5_lay 10 = .ok (.getfield 7, 3) := dk_180 0 7 (dk_at dksX5_lay_0 10 rfl rfl)
theorem dX5_lay_13 : decode cX5_lay 13 = .ok (.iload_n 1, 1) := dk_27 (dk_at dksX5_lay_0 13 rfl rfl)
theorem dX5_lay_14 : decode cX5_lay 14 = .ok (.iconst 1, 1) := dk_4 (dk_at dksX5_lay_0 14 rfl rfl)
theorem dX5_lay_15 : decode cX5_lay 15 = .ok (.iadd, 1) := dk_96 (dk_at dksX5_lay_0 15 rfl rfl)
theorem dX5_lay_16 : decode cX5_lay 16 = .ok (.iload_n 3, 1) := dk_29 (dk_at dksX5_lay_0 16 rfl rfl)
theorem dX5_lay_17 : decode cX5_lay 17 = .ok (.iastore, 1) := dk_79 (dk_at dksX5_lay_0 17 rfl rfl)
theorem dX5_lay_18 : decode cX5_lay 18 = .ok (.aload_n 0, 1) := dk_42 (dk_at dksX5_lay_0 18 rfl rfl)
theorem dX5_lay_19 : decode cX5_lay 19 = .ok (.getfield 7, 3) := dk_180 0 7 (dk_at dksX5_lay_0 19 rfl rfl)
theorem dX5_lay_22 : decode cX5_lay 22 = .ok (.iload_n 1, 1) := dk_27 (dk_at dksX5_lay_0 22 rfl rfl)
theorem dX5_lay_23 : decode cX5_lay 23 = .ok (.iconst 2, 1) := dk_5 (dk_at dksX5_lay_0 23 rfl rfl)
theorem dX5_lay_24 : decode cX5_lay 24 = .ok (.iadd, 1) := dk_96 (dk_at dksX5_lay_1 0 rfl rfl)
theorem dX5_lay_25 : decode cX5_lay 25 = .ok (.iload 4, 2) := dk_21 4 (dk_at dksX5_lay_1 1 rfl rfl)
theorem dX5_lay_27 : decode cX5_lay 27 = .ok (.iastore, 1) := dk_79 (dk_at dksX5_lay_1 3 rfl rfl)
theorem dX5_lay_28 : decode cX5_lay 28 = .ok (.aload_n 0, 1) := dk_42 (dk_at dksX5_lay_1 4 rfl rfl)
theorem dX5_lay_29 : decode cX5_lay 29 = .ok (.getfield 7, 3) := dk_180 0 7 (dk_at dksX5_lay_1 5 rfl rfl)
theorem dX5_lay_32 : decode cX5_lay 32 = .ok (.iload_n 1, 1) := dk_27 (dk_at dksX5_lay_1 8 rfl rfl)
theorem dX5_lay_33 : decode cX5_lay 33 = .ok (.iconst 3, 1) := dk_6 (dk_at dksX5_lay_1 9 rfl rfl)
theorem dX5_lay_34 : decode cX5_lay 34 = .ok (.iadd, 1) := dk_96 (dk_at dksX5_lay_1 10 rfl rfl)
theorem dX5_lay_35 : decode cX5_lay 35 = .ok (.iload 5, 2) := dk_21 5 (dk_at dksX5_lay_1 11 rfl rfl)
theorem dX5_lay_37 : decode cX5_lay 37 = .ok (.iastore, 1) := dk_79 (dk_at dksX5_lay_1 13 rfl rfl)
theorem dX5_lay_38 : decode cX5_lay 38 = .ok (.aload_n 0, 1) := dk_42 (dk_at dksX5_lay_1 14 rfl rfl)
theorem dX5_lay_39 : decode cX5_lay 39 = .ok (.getfield 7, 3) := dk_180 0 7 (dk_at dksX5_lay_1 15 rfl rfl)
theorem dX5_lay_42 : decode cX5_lay 42 = .ok (.iload_n 1, 1) := dk_27 (dk_at dksX5_lay_1 18 rfl rfl)
theorem dX5_lay_43 : decode cX5_lay 43 = .ok (.iconst 4, 1) := dk_7 (dk_at dksX5_lay_1 19 rfl rfl)
theorem dX5_lay_44 : decode cX5_lay 44 = .ok (.iadd, 1) := dk_96 (dk_at dksX5_lay_1 20 rfl rfl)
theorem dX5_lay_45 : decode cX5_lay 45 = .ok (.iload 6, 2) := dk_21 6 (dk_at dksX5_lay_1 21 rfl rfl)
theorem dX5_lay_47 : decode cX5_lay 47 = .ok (.iastore, 1) := dk_79 (dk_at dksX5_lay_1 23 rfl rfl)
theorem dX5_lay_48 : decode cX5_lay 48 = .ok (.aload_n 0, 1) := dk_42 (dk_at dksX5_lay_2 0 rfl rfl)
theorem dX5_lay_49 : decode cX5_lay 49 = .ok (.getfield 7, 3) := dk_180 0 7 (dk_at dksX5_lay_2 1 rfl rfl)
theorem dX5_lay_52 : decode cX5_lay 52 = .ok (.iload_n 1, 1) := dk_27 (dk_at dksX5_lay_2 4 rfl rfl)
theorem dX5_lay_53 : decode cX5_lay 53 = .ok (.iconst 5, 1) := dk_8 (dk_at dksX5_lay_2 5 rfl rfl)
theorem dX5_lay_54 : decode cX5_lay 54 = .ok (.iadd, 1) := dk_96 (dk_at dksX5_lay_2 6 rfl rfl)
theorem dX5_lay_55 : decode cX5_lay 55 = .ok (.iload 7, 2) := dk_21 7 (dk_at dksX5_lay_2 7 rfl rfl)
theorem dX5_lay_57 : decode cX5_lay 57 = .ok (.iastore, 1) := dk_79 (dk_at dksX5_lay_2 9 rfl rfl)
theorem dX5_lay_58 : decode cX5_lay 58 = .ok (.return_, 1) := dk_177 (dk_at dksX5_lay_2 10 rfl rfl)
def dkwX5_commit_3 : List UInt8 := [104, 184, 0, 81, 42, 89, 180, 0, 29, 4, 96, 181, 0, 29, 27, 172]
abbrev dktX5_commit_3 : List UInt8 := dkwX5_commit_3 ++ []
def dkwX5_commit_2 : List UInt8 := [180, 0, 29, 4, 100, 181, 0, 29, 42, 180, 0, 13, 3, 42, 180, 0, 19, 17, 0, 136, 42, 180, 0, 29]
abbrev dktX5_commit_2 : List UInt8 := dkwX5_commit_2 ++ dktX5_commit_3
def dkwX5_commit_1 : List UInt8 := [28, 104, 42, 180, 0, 19, 17, 0, 136, 28, 4, 100, 104, 184, 0, 81, 132, 2, 1, 167, 255, 224, 42, 89]
abbrev dktX5_commit_1 : List UInt8 := dkwX5_commit_1 ++ dktX5_commit_2
def dkwX5_commit_0 : List UInt8 := [42, 180, 0, 29, 16, 8, 160, 0, 50, 4, 61, 28, 16, 8, 162, 0, 32, 42, 180, 0, 19, 17, 0, 136]
abbrev dktX5_commit_0 : List UInt8 := dkwX5_commit_0 ++ dktX5_commit_1
theorem dksX5_commit_0 : cX5_commit.data.toList.drop 0 = dktX5_commit_0 := by decide +kernel
theorem dksX5_commit_1 : cX5_commit.data.toList.drop 24 = dktX5_commit_1 := dk_seg dksX5_commit_0 24 rfl rfl
theorem dksX5_commit_2 : cX5_commit.data.toList.drop 48 = dktX5_commit_2 := dk_seg dksX5_commit_1 24 rfl rfl
theorem dksX5_commit_3 : cX5_commit.data.toList.drop 72 = dktX5_commit_3 := dk_seg dksX5_commit_2 24 rfl rfl
theorem dX5_commit_0 : decode cX5_commit 0 = .ok (.aload_n 0, 1) := dk_42 (dk_at dksX5_commit_0 0 rfl rfl)
theorem dX5_commit_1 : decode cX5_commit 1 = .ok (.getfield 29, 3) := dk_180 0 29 (dk_at dksX5_commit_0 1 rfl rfl)
theorem dX5_commit_4 : decode cX5_commit 4 = .ok (.bipush 8, 2) := dk_16 8 (dk_at dksX5_commit_0 4 rfl rfl)
theorem dX5_commit_6 : decode cX5_commit 6 = .ok (.if_icmp .ne 50, 3) := dk_160 0 50 (dk_at dksX5_commit_0 6 rfl rfl)
theorem dX5_commit_9 : decode cX5_commit 9 = .ok (.iconst 1, 1) := dk_4 (dk_at dksX5_commit_0 9 rfl rfl)
theorem dX5_commit_10 : decode cX5_commit 10 = .ok (.istore_n 2, 1) := dk_61 (dk_at dksX5_commit_0 10 rfl rfl)
theorem dX5_commit_11 : decode cX5_commit 11 = .ok (.iload_n 2, 1) := dk_28 (dk_at dksX5_commit_0 11 rfl rfl)
theorem dX5_commit_12 : decode cX5_commit 12 = .ok (.bipush 8, 2) := dk_16 8 (dk_at dksX5_commit_0 12 rfl rfl)
theorem dX5_commit_14 : decode cX5_commit 14 = .ok (.if_icmp .ge 32, 3) := dk_162 0 32 (dk_at dksX5_commit_0 14 rfl rfl)
theorem dX5_commit_17 : decode cX5_commit 17 = .ok (.aload_n 0, 1) := dk_42 (dk_at dksX5_commit_0 17 rfl rfl)
theorem dX5_commit_18 : decode cX5_commit 18 = .ok (.getfield 19, 3) := dk_180 0 19 (dk_at dksX5_commit_0 18 rfl rfl)
theorem dX5_commit_21 : decode cX5_commit 21 = .ok (.sipush 136, 3) := dk_17 0 136 (dk_at dksX5_commit_0 21 rfl rfl)
theorem dX5_commit_24 : decode cX5_commit 24 = .ok (.iload_n 2, 1) := dk_28 (dk_at dksX5_commit_1 0 rfl rfl)
theorem dX5_commit_25 : decode cX5_commit 25 = .ok (.imul, 1) := dk_104 (dk_at dksX5_commit_1 1 rfl rfl)
theorem dX5_commit_26 : decode cX5_commit 26 = .ok (.aload_n 0, 1) := dk_42 (dk_at dksX5_commit_1 2 rfl rfl)
theorem dX5_commit_27 : decode cX5_commit 27 = .ok (.getfield 19, 3) := dk_180 0 19 (dk_at dksX5_commit_1 3 rfl rfl)
theorem dX5_commit_30 : decode cX5_commit 30 = .ok (.sipush 136, 3) := dk_17 0 136 (dk_at dksX5_commit_1 6 rfl rfl)
theorem dX5_commit_33 : decode cX5_commit 33 = .ok (.iload_n 2, 1) := dk_28 (dk_at dksX5_commit_1 9 rfl rfl)
theorem dX5_commit_34 : decode cX5_commit 34 = .ok (.iconst 1, 1) := dk_4 (dk_at dksX5_commit_1 10 rfl rfl)
theorem dX5_commit_35 : decode cX5_commit 35 = .ok (.isub, 1) := dk_100 (dk_at dksX5_commit_1 11 rfl rfl)
theorem dX5_commit_36 : decode cX5_commit 36 = .ok (.imul, 1) := dk_104 (dk_at dksX5_commit_1 12 rfl rfl)
theorem dX5_commit_37 : decode cX5_commit 37 = .ok (.invokestatic 81, 3) := dk_184 0 81 (dk_at dksX5_commit_1 13 rfl rfl)
theorem dX5_commit_40 : decode cX5_commit 40 = .ok (.iinc 2 1, 3) := dk_132 2 1 (dk_at dksX5_commit_1 16 rfl rfl)
theorem dX5_commit_43 : decode cX5_commit 43 = .ok (.goto (-32), 3) := dk_167 255 224 (dk_at dksX5_commit_1 19 rfl rfl)
theorem dX5_commit_46 : decode cX5_commit 46 = .ok (.aload_n 0, 1) := dk_42 (dk_at dksX5_commit_1 22 rfl rfl)
theorem dX5_commit_47 : decode cX5_commit 47 = .ok (.dup, 1) := dk_89 (dk_at dksX5_commit_1 23 rfl rfl)
theorem dX5_commit_48 : decode cX5_commit 48 = .ok (.getfield 29, 3) := dk_180 0 29 (dk_at dksX5_commit_2 0 rfl rfl)
theorem dX5_commit_51 : decode cX5_commit 51 = .ok (.iconst 1, 1) := dk_4 (dk_at dksX5_commit_2 3 rfl rfl)
theorem dX5_commit_52 : decode cX5_commit 52 = .ok (.isub, 1) := dk_100 (dk_at dksX5_commit_2 4 rfl rfl)
theorem dX5_commit_53 : decode cX5_commit 53 = .ok (.putfield 29, 3) := dk_181 0 29 (dk_at dksX5_commit_2 5 rfl rfl)
theorem dX5_commit_56 : decode cX5_commit 56 = .ok (.aload_n 0, 1) := dk_42 (dk_at dksX5_commit_2 8 rfl rfl)
theorem dX5_commit_57 : decode cX5_commit 57 = .ok (.getfield 13, 3) := dk_180 0 13 (dk_at dksX5_commit_2 9 rfl rfl)
theorem dX5_commit_60 : decode cX5_commit 60 = .ok (.iconst 0, 1) := dk_3 (dk_at dksX5_commit_2 12 rfl rfl)
theorem dX5_commit_61 : decode cX5_commit 61 = .ok (.aload_n 0, 1) := dk_42 (dk_at dksX5_commit_2 13 rfl rfl)
theorem dX5_commit_62 : decode cX5_commit 62 = .ok (.getfield 19, 3) := dk_180 0 19 (dk_at dksX5_commit_2 14 rfl rfl)
theorem dX5_commit_65 : decode cX5_commit 65 = .ok (.sipush 136, 3) := dk_17 0 136 (dk_at dksX5_commit_2 17 rfl rfl)
theorem dX5_commit_68 : decode cX5_commit 68 = .ok (.aload_n 0, 1) := dk_42 (dk_at dksX5_commit_2 20 rfl rfl)
theorem dX5_commit_69 : decode cX5_commit 69 = .ok (.getfield 29, 3) := dk_180 0 29 (dk_at dksX5_commit_2 21 rfl rfl)
theorem dX5_commit_72 : decode cX5_commit 72 = .ok (.imul, 1) := dk_104 (dk_at dksX5_commit_3 0 rfl rfl)
theorem dX5_commit_73 : decode cX5_commit 73 = .ok (.invokestatic 81, 3) := dk_184 0 81 (dk_at dksX5_commit_3 1 rfl rfl)
theorem dX5_commit_76 : decode cX5_commit 76 = .ok (.aload_n 0, 1) := dk_42 (dk_at dksX5_commit_3 4 rfl rfl)
theorem dX5_commit_77 : decode cX5_commit 77 = .ok (.dup, 1) := dk_89 (dk_at dksX5_commit_3 5 rfl rfl)
theorem dX5_commit_78 : decode cX5_commit 78 = .ok (.getfield 29, 3) := dk_180 0 29 (dk_at dksX5_commit_3 6 rfl rfl)
theorem dX5_commit_81 : decode cX5_commit 81 = .ok (.iconst 1, 1) := dk_4 (dk_at dksX5_commit_3 9 rfl rfl)
theorem dX5_commit_82 : decode cX5_commit 82 = .ok (.iadd, 1) := dk_96 (dk_at dksX5_commit_3 10 rfl rfl)
theorem dX5_commit_83 : decode cX5_commit 83 = .ok (.putfield 29, 3) := dk_181 0 29 (dk_at dksX5_commit_3 11 rfl rfl)
theorem dX5_commit_86 : decode cX5_commit 86 = .ok (.iload_n 1, 1) := dk_27 (dk_at dksX5_commit_3 14 rfl rfl)
theorem dX5_commit_87 : decode cX5_commit 87 = .ok (.ireturn, 1) := dk_172 (dk_at dksX5_commit_3 15 rfl rfl)
def dkwX5_report_1 : List UInt8 := [21, 6, 182, 0, 130, 167, 0, 18, 42, 42, 27, 28, 29, 21, 4, 21, 5, 182, 0, 143, 182, 0, 136, 172]
abbrev dktX5_report_1 : List UInt8 := dkwX5_report_1 ++ []
def dkwX5_report_0 : List UInt8 := [42, 182, 0, 123, 42, 27, 28, 29, 21, 4, 21, 5, 182, 0, 139, 54, 6, 21, 6, 158, 0, 12, 42]
abbrev dktX5_report_0 : List UInt8 := dkwX5_report_0 ++ dktX5_report_1
theorem dksX5_report_0 : cX5_report.data.toList.drop 0 = dktX5_report_0 := by decide +kernel
theorem dksX5_report_1 : cX5_report.data.toList.drop 23 = dktX5_report_1 := dk_seg dksX5_report_0 23 rfl rfl
theorem dX5_report_0 : decode cX5_report 0 = .ok (.aload_n 0, 1) := dk_42 (dk_at dksX5_report_0 0 rfl rfl)
theorem dX5_report_1 : decode cX5_report 1 = .ok (.invokevirtual 123, 3) := dk_182 0 123 (dk_at dksX5_report_0 1 rfl rfl)
theorem dX5_report_4 : decode cX5_report 4 = .ok (.aload_n 0, 1) := dk_42 (dk_at dksX5_report_0 4 rfl rfl)
theorem dX5_report_5 : decode cX5_report 5 = .ok (.iload_n 1, 1) := dk_27 (dk_at dksX5_report_0 5 rfl rfl)
theorem dX5_report_6 : decode cX5_report 6 = .ok (.iload_n 2, 1) := dk_28 (dk_at dksX5_report_0 6 rfl rfl)
theorem dX5_report_7 : decode cX5_report 7 = .ok (.iload_n 3, 1) := dk_29 (dk_at dksX5_report_0 7 rfl rfl)
theorem dX5_report_8 : decode cX5_report 8 = .ok (.iload 4, 2) := dk_21 4 (dk_at dksX5_report_0 8 rfl rfl)
theorem dX5_report_10 : decode cX5_report 10 = .ok (.iload 5, 2) := dk_21 5 (dk_at dksX5_report_0 10 rfl rfl)
theorem dX5_report_12 : decode cX5_report 12 = .ok (.invokevirtual 139, 3) := dk_182 0 139 (dk_at dksX5_report_0 12 rfl rfl)
theorem dX5_report_15 : decode cX5_report 15 = .ok (.istore 6, 2) := dk_54 6 (dk_at dksX5_report_0 15 rfl rfl)
theorem dX5_report_17 : decode cX5_report 17 = .ok (.iload 6, 2) := dk_21 6 (dk_at dksX5_report_0 17 rfl rfl)
theorem dX5_report_19 : decode cX5_report 19 = .ok (.ifCond .le 12, 3) := dk_158 0 12 (dk_at dksX5_report_0 19 rfl rfl)
theorem dX5_report_22 : decode cX5_report 22 = .ok (.aload_n 0, 1) := dk_42 (dk_at dksX5_report_0 22 rfl rfl)
theorem dX5_report_23 : decode cX5_report 23 = .ok (.iload 6, 2) := dk_21 6 (dk_at dksX5_report_1 0 rfl rfl)
theorem dX5_report_25 : decode cX5_report 25 = .ok (.invokevirtual 130, 3) := dk_182 0 130 (dk_at dksX5_report_1 2 rfl rfl)
theorem dX5_report_28 : decode cX5_report 28 = .ok (.goto 18, 3) := dk_167 0 18 (dk_at dksX5_report_1 5 rfl rfl)
theorem dX5_report_31 : decode cX5_report 31 = .ok (.aload_n 0, 1) := dk_42 (dk_at dksX5_report_1 8 rfl rfl)
theorem dX5_report_32 : decode cX5_report 32 = .ok (.aload_n 0, 1) := dk_42 (dk_at dksX5_report_1 9 rfl rfl)
theorem dX5_report_33 : decode cX5_report 33 = .ok (.iload_n 1, 1) := dk_27 (dk_at dksX5_report_1 10 rfl rfl)
theorem dX5_report_34 : decode cX5_report 34 = .ok (.iload_n 2, 1) := dk_28 (dk_at dksX5_report_1 11 rfl rfl)
theorem dX5_report_35 : decode cX5_report 35 = .ok (.iload_n 3, 1) := dk_29 (dk_at dksX5_report_1 12 rfl rfl)
theorem dX5_report_36 : decode cX5_report 36 = .ok (.iload 4, 2) := dk_21 4 (dk_at dksX5_report_1 13 rfl rfl)
theorem dX5_report_38 : decode cX5_report 38 = .ok (.iload 5, 2) := dk_21 5 (dk_at dksX5_report_1 15 rfl rfl)
theorem dX5_report_40 : decode cX5_report 40 = .ok (.invokevirtual 143, 3) := dk_182 0 143 (dk_at dksX5_report_1 17 rfl rfl)
theorem dX5_report_43 : decode cX5_report 43 = .ok (.invokevirtual 136, 3) := dk_182 0 136 (dk_at dksX5_report_1 20 rfl rfl)
theorem dX5_report_46 : decode cX5_report 46 = .ok (.ireturn, 1) := dk_172 (dk_at dksX5_report_1 23 rfl rfl)
def dkwX5_cannotReport_2 : List UInt8 := [167, 0, 4, 3, 172]
abbrev dktX5_cannotReport_2 : List UInt8 := dkwX5_cannotReport_2 ++ []
def dkwX5_cannotReport_1 : List UInt8 := [16, 99, 184, 0, 112, 154, 0, 5, 4, 172, 42, 180, 0, 7, 4, 46, 16, 6, 160, 0, 7, 5]
abbrev dktX5_cannotReport_1 : List UInt8 := dkwX5_cannotReport_1 ++ dktX5_cannotReport_2
def dkwX5_cannotReport_0 : List UInt8 := [27, 28, 29, 184, 0, 116, 153, 0, 26, 21, 4, 3, 17, 39, 15, 184, 0, 112, 153, 0, 14, 21, 5, 4]
abbrev dktX5_cannotReport_0 : List UInt8 := dkwX5_cannotReport_0 ++ dktX5_cannotReport_1
theorem dksX5_cannotReport_0 : cX5_cannotReport.data.toList.drop 0 = dktX5_cannotReport_0 := by decide +kernel
theorem dksX5_cannotReport_1 : cX5_cannotReport.data.toList.drop 24 = dktX5_cannotReport_1 := dk_seg dksX5_cannotReport_0 24 rfl rfl
theorem dksX5_cannotReport_2 : cX5_cannotReport.data.toList.drop 46 = dktX5_cannotReport_2 := dk_seg dksX5_cannotReport_1 22 rfl rfl
theorem dX5_cannotReport_0 : decode cX5_cannotReport 0 = .ok (.iload_n 1, 1) := dk_27 (dk_at dksX5_cannotReport_0 0 rfl rfl)
theorem dX5_cannotReport_1 : decode cX5_cannotReport 1 = .ok (.iload_n 2, 1) := dk_28 (dk_at dksX5_cannotReport_0 1 rfl rfl)
theorem dX5_cannotReport_2 : decode cX5_cannotReport 2 = .ok (.iload_n 3, 1) := dk_29 (dk_at dksX5_cannotReport_0 2 rfl rfl)
theorem dX5_cannotReport_3 : decode cX5_cannotReport 3 = .ok (.invokestatic 116, 3) := dk_184 0 116 (dk_at dksX5_cannotReport_0 3 rfl rfl)
theorem dX5_cannotReport_6 : decode cX5_cannotReport 6 = .ok (.ifCond .eq 26, 3) := dk_153 0 26 (dk_at dksX5_cannotReport_0 6 rfl rfl)
theorem dX5_cannotReport_9 : decode cX5_cannotReport 9 = .ok (.iload 4, 2) := dk_21 4 (dk_at dksX5_cannotReport_0 9 rfl rfl)
theorem dX5_cannotReport_11 : decode cX5_cannotReport 11 = .ok (.iconst 0, 1) := dk_3 (dk_at dksX5_cannotReport_0 11 rfl rfl)
theorem dX5_cannotReport_12 : decode cX5_cannotReport 12 = .ok (.sipush 9999, 3) := dk_17 39 15 (dk_at dksX5_cannotReport_0 12 rfl rfl)
theorem dX5_cannotReport_15 : decode cX5_cannotReport 15 = .ok (.invokestatic 112, 3) := dk_184 0 112 (dk_at dksX5_cannotReport_0 15 rfl rfl)
theorem dX5_cannotReport_18 : decode cX5_cannotReport 18 = .ok (.ifCond .eq 14, 3) := dk_153 0 14 (dk_at dksX5_cannotReport_0 18 rfl rfl)
theorem dX5_cannotReport_21 : decode cX5_cannotReport 21 = .ok (.iload 5, 2) := dk_21 5 (dk_at dksX5_cannotReport_0 21 rfl rfl)
theorem dX5_cannotReport_23 : decode cX5_cannotReport 23 = .ok (.iconst 1, 1) := dk_4 (dk_at dksX5_cannotReport_0 23 rfl rfl)
theorem dX5_cannotReport_24 : decode cX5_cannotReport 24 = .ok (.bipush 99, 2) := dk_16 99 (dk_at dksX5_cannotReport_1 0 rfl rfl)
theorem dX5_cannotReport_26 : decode cX5_cannotReport 26 = .ok (.invokestatic 112, 3) := dk_184 0 112 (dk_at dksX5_cannotReport_1 2 rfl rfl)
theorem dX5_cannotReport_29 : decode cX5_cannotReport 29 = .ok (.ifCond .ne 5, 3) := dk_154 0 5 (dk_at dksX5_cannotReport_1 5 rfl rfl)
theorem dX5_cannotReport_32 : decode cX5_cannotReport 32 = .ok (.iconst 1, 1) := dk_4 (dk_at dksX5_cannotReport_1 8 rfl rfl)
theorem dX5_cannotReport_33 : decode cX5_cannotReport 33 = .ok (.ireturn, 1) := dk_172 (dk_at dksX5_cannotReport_1 9 rfl rfl)
theorem dX5_cannotReport_34 : decode cX5_cannotReport 34 = .ok (.aload_n 0, 1) := dk_42 (dk_at dksX5_cannotReport_1 10 rfl rfl)
theorem dX5_cannotReport_35 : decode cX5_cannotReport 35 = .ok (.getfield 7, 3) := dk_180 0 7 (dk_at dksX5_cannotReport_1 11 rfl rfl)
theorem dX5_cannotReport_38 : decode cX5_cannotReport 38 = .ok (.iconst 1, 1) := dk_4 (dk_at dksX5_cannotReport_1 14 rfl rfl)
theorem dX5_cannotReport_39 : decode cX5_cannotReport 39 = .ok (.iaload, 1) := dk_46 (dk_at dksX5_cannotReport_1 15 rfl rfl)
theorem dX5_cannotReport_40 : decode cX5_cannotReport 40 = .ok (.bipush 6, 2) := dk_16 6 (dk_at dksX5_cannotReport_1 16 rfl rfl)
theorem dX5_cannotReport_42 : decode cX5_cannotReport 42 = .ok (.if_icmp .ne 7, 3) := dk_160 0 7 (dk_at dksX5_cannotReport_1 18 rfl rfl)
theorem dX5_cannotReport_45 : decode cX5_cannotReport 45 = .ok (.iconst 2, 1) := dk_5 (dk_at dksX5_cannotReport_1 21 rfl rfl)
theorem dX5_cannotReport_46 : decode cX5_cannotReport 46 = .ok (.goto 4, 3) := dk_167 0 4 (dk_at dksX5_cannotReport_2 0 rfl rfl)
theorem dX5_cannotReport_49 : decode cX5_cannotReport 49 = .ok (.iconst 0, 1) := dk_3 (dk_at dksX5_cannotReport_2 3 rfl rfl)
theorem dX5_cannotReport_50 : decode cX5_cannotReport 50 = .ok (.ireturn, 1) := dk_172 (dk_at dksX5_cannotReport_2 4 rfl rfl)
def dkwX5_reports_2 : List UInt8 := [180, 0, 7, 6, 46, 4, 100, 172]
abbrev dktX5_reports_2 : List UInt8 := dkwX5_reports_2 ++ []
def dkwX5_reports_1 : List UInt8 := [182, 0, 119, 42, 180, 0, 7, 4, 92, 46, 4, 96, 79, 42, 180, 0, 7, 6, 92, 46, 4, 96, 79, 42]
abbrev dktX5_reports_1 : List UInt8 := dkwX5_reports_1 ++ dktX5_reports_2
def dkwX5_reports_0 : List UInt8 := [42, 42, 180, 0, 7, 4, 46, 184, 0, 89, 42, 180, 0, 7, 6, 46, 27, 28, 29, 21, 4, 21, 5]
abbrev dktX5_reports_0 : List UInt8 := dkwX5_reports_0 ++ dktX5_reports_1
theorem dksX5_reports_0 : cX5_reports.data.toList.drop 0 = dktX5_reports_0 := by decide +kernel
theorem dksX5_reports_1 : cX5_reports.data.toList.drop 23 = dktX5_reports_1 := dk_seg dksX5_reports_0 23 rfl rfl
theorem dksX5_reports_2 : cX5_reports.data.toList.drop 47 = dktX5_reports_2 := dk_seg dksX5_reports_1 24 rfl rfl
theorem dX5_reports_0 : decode cX5_reports 0 = .ok (.aload_n 0, 1) := dk_42 (dk_at dksX5_reports_0 0 rfl rfl)
theorem dX5_reports_1 : decode cX5_reports 1 = .ok (.aload_n 0, 1) := dk_42 (dk_at dksX5_reports_0 1 rfl rfl)
theorem dX5_reports_2 : decode cX5_reports 2 = .ok (.getfield 7, 3) := dk_180 0 7 (dk_at dksX5_reports_0 2 rfl rfl)
theorem dX5_reports_5 : decode cX5_reports 5 = .ok (.iconst 1, 1) := dk_4 (dk_at dksX5_reports_0 5 rfl rfl)
theorem dX5_reports_6 : decode cX5_reports 6 = .ok (.iaload, 1) := dk_46 (dk_at dksX5_reports_0 6 rfl rfl)
theorem dX5_reports_7 : decode cX5_reports 7 = .ok (.invokestatic 89, 3) := dk_184 0 89 (dk_at dksX5_reports_0 7 rfl rfl)
theorem dX5_reports_10 : decode cX5_reports 10 = .ok (.aload_n 0, 1) := dk_42 (dk_at dksX5_reports_0 10 rfl rfl)
theorem dX5_reports_11 : decode cX5_reports 11 = .ok (.getfield 7, 3) := dk_180 0 7 (dk_at dksX5_reports_0 11 rfl rfl)
theorem dX5_reports_14 : decode cX5_reports 14 = .ok (.iconst 3, 1) := dk_6 (dk_at dksX5_reports_0 14 rfl rfl)
theorem dX5_reports_15 : decode cX5_reports 15 = .ok (.iaload, 1) := dk_46 (dk_at dksX5_reports_0 15 rfl rfl)
theorem dX5_reports_16 : decode cX5_reports 16 = .ok (.iload_n 1, 1) := dk_27 (dk_at dksX5_reports_0 16 rfl rfl)
theorem dX5_reports_17 : decode cX5_reports 17 = .ok (.iload_n 2, 1) := dk_28 (dk_at dksX5_reports_0 17 rfl rfl)
theorem dX5_reports_18 : decode cX5_reports 18 = .ok (.iload_n 3, 1) := dk_29 (dk_at dksX5_reports_0 18 rfl rfl)
theorem dX5_reports_19 : decode cX5_reports 19 = .ok (.iload 4, 2) := dk_21 4 (dk_at dksX5_reports_0 19 rfl rfl)
theorem dX5_reports_21 : decode cX5_reports 21 = .ok (.iload 5, 2) := dk_21 5 (dk_at dksX5_reports_0 21 rfl rfl)
theorem dX5_reports_23 : decode cX5_reports 23 = .ok (.invokevirtual 119, 3) := dk_182 0 119 (dk_at dksX5_reports_1 0 rfl rfl)
theorem dX5_reports_26 : decode cX5_reports 26 = .ok (.aload_n 0, 1) := dk_42 (dk_at dksX5_reports_1 3 rfl rfl)
theorem dX5_reports_27 : decode cX5_reports 27 = .ok (.getfield 7, 3) := dk_180 0 7 (dk_at dksX5_reports_1 4 rfl rfl)
theorem dX5_reports_30 : decode cX5_reports 30 = .ok (.iconst 1, 1) := dk_4 (dk_at dksX5_reports_1 7 rfl rfl)
theorem dX5_reports_31 : decode cX5_reports 31 = .ok (.dup2, 1) := dk_92 (dk_at dksX5_reports_1 8 rfl rfl)
theorem dX5_reports_32 : decode cX5_reports 32 = .ok (.iaload, 1) := dk_46 (dk_at dksX5_reports_1 9 rfl rfl)
theorem dX5_reports_33 : decode cX5_reports 33 = .ok (.iconst 1, 1) := dk_4 (dk_at dksX5_reports_1 10 rfl rfl)
theorem dX5_reports_34 : decode cX5_reports 34 = .ok (.iadd, 1) := dk_96 (dk_at dksX5_reports_1 11 rfl rfl)
theorem dX5_reports_35 : decode cX5_reports 35 = .ok (.iastore, 1) := dk_79 (dk_at dksX5_reports_1 12 rfl rfl)
theorem dX5_reports_36 : decode cX5_reports 36 = .ok (.aload_n 0, 1) := dk_42 (dk_at dksX5_reports_1 13 rfl rfl)
theorem dX5_reports_37 : decode cX5_reports 37 = .ok (.getfield 7, 3) := dk_180 0 7 (dk_at dksX5_reports_1 14 rfl rfl)
theorem dX5_reports_40 : decode cX5_reports 40 = .ok (.iconst 3, 1) := dk_6 (dk_at dksX5_reports_1 17 rfl rfl)
theorem dX5_reports_41 : decode cX5_reports 41 = .ok (.dup2, 1) := dk_92 (dk_at dksX5_reports_1 18 rfl rfl)
theorem dX5_reports_42 : decode cX5_reports 42 = .ok (.iaload, 1) := dk_46 (dk_at dksX5_reports_1 19 rfl rfl)
theorem dX5_reports_43 : decode cX5_reports 43 = .ok (.iconst 1, 1) := dk_4 (dk_at dksX5_reports_1 20 rfl rfl)
theorem dX5_reports_44 : decode cX5_reports 44 = .ok (.iadd, 1) := dk_96 (dk_at dksX5_reports_1 21 rfl rfl)
theorem dX5_reports_45 : decode cX5_reports 45 = .ok (.iastore, 1) := dk_79 (dk_at dksX5_reports_1 22 rfl rfl)
theorem dX5_reports_46 : decode cX5_reports 46 = .ok (.aload_n 0, 1) := dk_42 (dk_at dksX5_reports_1 23 rfl rfl)
theorem dX5_reports_47 : decode cX5_reports 47 = .ok (.getfield 7, 3) := dk_180 0 7 (dk_at dksX5_reports_2 0 rfl rfl)
theorem dX5_reports_50 : decode cX5_reports 50 = .ok (.iconst 3, 1) := dk_6 (dk_at dksX5_reports_2 3 rfl rfl)
theorem dX5_reports_51 : decode cX5_reports 51 = .ok (.iaload, 1) := dk_46 (dk_at dksX5_reports_2 4 rfl rfl)
theorem dX5_reports_52 : decode cX5_reports 52 = .ok (.iconst 1, 1) := dk_4 (dk_at dksX5_reports_2 5 rfl rfl)
theorem dX5_reports_53 : decode cX5_reports 53 = .ok (.isub, 1) := dk_100 (dk_at dksX5_reports_2 6 rfl rfl)
theorem dX5_reports_54 : decode cX5_reports 54 = .ok (.ireturn, 1) := dk_172 (dk_at dksX5_reports_2 7 rfl rfl)
def dkwX5_reportRow_0 : List UInt8 := [16, 88, 16, 8, 26, 104, 96, 172]
abbrev dktX5_reportRow_0 : List UInt8 := dkwX5_reportRow_0 ++ []
theorem dksX5_reportRow_0 : cX5_reportRow.data.toList.drop 0 = dktX5_reportRow_0 := by decide +kernel
theorem dX5_reportRow_0 : decode cX5_reportRow 0 = .ok (.bipush 88, 2) := dk_16 88 (dk_at dksX5_reportRow_0 0 rfl rfl)
theorem dX5_reportRow_2 : decode cX5_reportRow 2 = .ok (.bipush 8, 2) := dk_16 8 (dk_at dksX5_reportRow_0 2 rfl rfl)
theorem dX5_reportRow_4 : decode cX5_reportRow 4 = .ok (.iload_n 0, 1) := dk_26 (dk_at dksX5_reportRow_0 4 rfl rfl)
theorem dX5_reportRow_5 : decode cX5_reportRow 5 = .ok (.imul, 1) := dk_104 (dk_at dksX5_reportRow_0 5 rfl rfl)
theorem dX5_reportRow_6 : decode cX5_reportRow 6 = .ok (.iadd, 1) := dk_96 (dk_at dksX5_reportRow_0 6 rfl rfl)
theorem dX5_reportRow_7 : decode cX5_reportRow 7 = .ok (.ireturn, 1) := dk_172 (dk_at dksX5_reportRow_0 7 rfl rfl)
def dkwX5_withdraw_1 : List UInt8 := [182, 0, 153, 182, 0, 136, 172]
abbrev dktX5_withdraw_1 : List UInt8 := dkwX5_withdraw_1 ++ []
def dkwX5_withdraw_0 : List UInt8 := [42, 182, 0, 123, 42, 27, 182, 0, 146, 156, 0, 11, 42, 4, 182, 0, 130, 167, 0, 12, 42, 42, 27]
abbrev dktX5_withdraw_0 : List UInt8 := dkwX5_withdraw_0 ++ dktX5_withdraw_1
theorem dksX5_withdraw_0 : cX5_withdraw.data.toList.drop 0 = dktX5_withdraw_0 := by decide +kernel
theorem dksX5_withdraw_1 : cX5_withdraw.data.toList.drop 23 = dktX5_withdraw_1 := dk_seg dksX5_withdraw_0 23 rfl rfl
theorem dX5_withdraw_0 : decode cX5_withdraw 0 = .ok (.aload_n 0, 1) := dk_42 (dk_at dksX5_withdraw_0 0 rfl rfl)
theorem dX5_withdraw_1 : decode cX5_withdraw 1 = .ok (.invokevirtual 123, 3) := dk_182 0 123 (dk_at dksX5_withdraw_0 1 rfl rfl)
theorem dX5_withdraw_4 : decode cX5_withdraw 4 = .ok (.aload_n 0, 1) := dk_42 (dk_at dksX5_withdraw_0 4 rfl rfl)
theorem dX5_withdraw_5 : decode cX5_withdraw 5 = .ok (.iload_n 1, 1) := dk_27 (dk_at dksX5_withdraw_0 5 rfl rfl)
theorem dX5_withdraw_6 : decode cX5_withdraw 6 = .ok (.invokevirtual 146, 3) := dk_182 0 146 (dk_at dksX5_withdraw_0 6 rfl rfl)
theorem dX5_withdraw_9 : decode cX5_withdraw 9 = .ok (.ifCond .ge 11, 3) := dk_156 0 11 (dk_at dksX5_withdraw_0 9 rfl rfl)
theorem dX5_withdraw_12 : decode cX5_withdraw 12 = .ok (.aload_n 0, 1) := dk_42 (dk_at dksX5_withdraw_0 12 rfl rfl)
theorem dX5_withdraw_13 : decode cX5_withdraw 13 = .ok (.iconst 1, 1) := dk_4 (dk_at dksX5_withdraw_0 13 rfl rfl)
theorem dX5_withdraw_14 : decode cX5_withdraw 14 = .ok (.invokevirtual 130, 3) := dk_182 0 130 (dk_at dksX5_withdraw_0 14 rfl rfl)
theorem dX5_withdraw_17 : decode cX5_withdraw 17 = .ok (.goto 12, 3) := dk_167 0 12 (dk_at dksX5_withdraw_0 17 rfl rfl)
theorem dX5_withdraw_20 : decode cX5_withdraw 20 = .ok (.aload_n 0, 1) := dk_42 (dk_at dksX5_withdraw_0 20 rfl rfl)
theorem dX5_withdraw_21 : decode cX5_withdraw 21 = .ok (.aload_n 0, 1) := dk_42 (dk_at dksX5_withdraw_0 21 rfl rfl)
theorem dX5_withdraw_22 : decode cX5_withdraw 22 = .ok (.iload_n 1, 1) := dk_27 (dk_at dksX5_withdraw_0 22 rfl rfl)
theorem dX5_withdraw_23 : decode cX5_withdraw 23 = .ok (.invokevirtual 153, 3) := dk_182 0 153 (dk_at dksX5_withdraw_1 0 rfl rfl)
theorem dX5_withdraw_26 : decode cX5_withdraw 26 = .ok (.invokevirtual 136, 3) := dk_182 0 136 (dk_at dksX5_withdraw_1 3 rfl rfl)
theorem dX5_withdraw_29 : decode cX5_withdraw 29 = .ok (.ireturn, 1) := dk_172 (dk_at dksX5_withdraw_1 6 rfl rfl)
def dkwX5_openReport_1 : List UInt8 := [132, 2, 1, 167, 255, 231, 2, 172]
abbrev dktX5_openReport_1 : List UInt8 := dkwX5_openReport_1 ++ []
def dkwX5_openReport_0 : List UInt8 := [3, 61, 28, 42, 180, 0, 7, 4, 46, 162, 0, 21, 42, 28, 3, 182, 0, 96, 27, 160, 0, 5, 28, 172]
abbrev dktX5_openReport_0 : List UInt8 := dkwX5_openReport_0 ++ dktX5_openReport_1
theorem dksX5_openReport_0 : cX5_openReport.data.toList.drop 0 = dktX5_openReport_0 := by decide +kernel
theorem dksX5_openReport_1 : cX5_openReport.data.toList.drop 24 = dktX5_openReport_1 := dk_seg dksX5_openReport_0 24 rfl rfl
theorem dX5_openReport_0 : decode cX5_openReport 0 = .ok (.iconst 0, 1) := dk_3 (dk_at dksX5_openReport_0 0 rfl rfl)
theorem dX5_openReport_1 : decode cX5_openReport 1 = .ok (.istore_n 2, 1) := dk_61 (dk_at dksX5_openReport_0 1 rfl rfl)
theorem dX5_openReport_2 : decode cX5_openReport 2 = .ok (.iload_n 2, 1) := dk_28 (dk_at dksX5_openReport_0 2 rfl rfl)
theorem dX5_openReport_3 : decode cX5_openReport 3 = .ok (.aload_n 0, 1) := dk_42 (dk_at dksX5_openReport_0 3 rfl rfl)
theorem dX5_openReport_4 : decode cX5_openReport 4 = .ok (.getfield 7, 3) := dk_180 0 7 (dk_at dksX5_openReport_0 4 rfl rfl)
theorem dX5_openReport_7 : decode cX5_openReport 7 = .ok (.iconst 1, 1) := dk_4 (dk_at dksX5_openReport_0 7 rfl rfl)
theorem dX5_openReport_8 : decode cX5_openReport 8 = .ok (.iaload, 1) := dk_46 (dk_at dksX5_openReport_0 8 rfl rfl)
theorem dX5_openReport_9 : decode cX5_openReport 9 = .ok (.if_icmp .ge 21, 3) := dk_162 0 21 (dk_at dksX5_openReport_0 9 rfl rfl)
theorem dX5_openReport_12 : decode cX5_openReport 12 = .ok (.aload_n 0, 1) := dk_42 (dk_at dksX5_openReport_0 12 rfl rfl)
theorem dX5_openReport_13 : decode cX5_openReport 13 = .ok (.iload_n 2, 1) := dk_28 (dk_at dksX5_openReport_0 13 rfl rfl)
theorem dX5_openReport_14 : decode cX5_openReport 14 = .ok (.iconst 0, 1) := dk_3 (dk_at dksX5_openReport_0 14 rfl rfl)
theorem dX5_openReport_15 : decode cX5_openReport 15 = .ok (.invokevirtual 96, 3) := dk_182 0 96 (dk_at dksX5_openReport_0 15 rfl rfl)
theorem dX5_openReport_18 : decode cX5_openReport 18 = .ok (.iload_n 1, 1) := dk_27 (dk_at dksX5_openReport_0 18 rfl rfl)
theorem dX5_openReport_19 : decode cX5_openReport 19 = .ok (.if_icmp .ne 5, 3) := dk_160 0 5 (dk_at dksX5_openReport_0 19 rfl rfl)
theorem dX5_openReport_22 : decode cX5_openReport 22 = .ok (.iload_n 2, 1) := dk_28 (dk_at dksX5_openReport_0 22 rfl rfl)
theorem dX5_openReport_23 : decode cX5_openReport 23 = .ok (.ireturn, 1) := dk_172 (dk_at dksX5_openReport_0 23 rfl rfl)
theorem dX5_openReport_24 : decode cX5_openReport 24 = .ok (.iinc 2 1, 3) := dk_132 2 1 (dk_at dksX5_openReport_1 0 rfl rfl)
theorem dX5_openReport_27 : decode cX5_openReport 27 = .ok (.goto (-25), 3) := dk_167 255 231 (dk_at dksX5_openReport_1 3 rfl rfl)
theorem dX5_openReport_30 : decode cX5_openReport 30 = .ok (.iconst (-1), 1) := dk_2 (dk_at dksX5_openReport_1 6 rfl rfl)
theorem dX5_openReport_31 : decode cX5_openReport 31 = .ok (.ireturn, 1) := dk_172 (dk_at dksX5_openReport_1 7 rfl rfl)
def dkwX5_r_0 : List UInt8 := [42, 180, 0, 7, 27, 184, 0, 89, 28, 96, 46, 172]
abbrev dktX5_r_0 : List UInt8 := dkwX5_r_0 ++ []
theorem dksX5_r_0 : cX5_r.data.toList.drop 0 = dktX5_r_0 := by decide +kernel
theorem dX5_r_0 : decode cX5_r 0 = .ok (.aload_n 0, 1) := dk_42 (dk_at dksX5_r_0 0 rfl rfl)
theorem dX5_r_1 : decode cX5_r 1 = .ok (.getfield 7, 3) := dk_180 0 7 (dk_at dksX5_r_0 1 rfl rfl)
theorem dX5_r_4 : decode cX5_r 4 = .ok (.iload_n 1, 1) := dk_27 (dk_at dksX5_r_0 4 rfl rfl)
theorem dX5_r_5 : decode cX5_r 5 = .ok (.invokestatic 89, 3) := dk_184 0 89 (dk_at dksX5_r_0 5 rfl rfl)
theorem dX5_r_8 : decode cX5_r 8 = .ok (.iload_n 2, 1) := dk_28 (dk_at dksX5_r_0 8 rfl rfl)
theorem dX5_r_9 : decode cX5_r 9 = .ok (.iadd, 1) := dk_96 (dk_at dksX5_r_0 9 rfl rfl)
theorem dX5_r_10 : decode cX5_r 10 = .ok (.iaload, 1) := dk_46 (dk_at dksX5_r_0 10 rfl rfl)
theorem dX5_r_11 : decode cX5_r 11 = .ok (.ireturn, 1) := dk_172 (dk_at dksX5_r_0 11 rfl rfl)
def dkwX5_withdraws_0 : List UInt8 := [42, 42, 27, 182, 0, 146, 182, 0, 149, 42, 180, 0, 7, 4, 46, 172]
abbrev dktX5_withdraws_0 : List UInt8 := dkwX5_withdraws_0 ++ []
theorem dksX5_withdraws_0 : cX5_withdraws.data.toList.drop 0 = dktX5_withdraws_0 := by decide +kernel
theorem dX5_withdraws_0 : decode cX5_withdraws 0 = .ok (.aload_n 0, 1) := dk_42 (dk_at dksX5_withdraws_0 0 rfl rfl)
theorem dX5_withdraws_1 : decode cX5_withdraws 1 = .ok (.aload_n 0, 1) := dk_42 (dk_at dksX5_withdraws_0 1 rfl rfl)
theorem dX5_withdraws_2 : decode cX5_withdraws 2 = .ok (.iload_n 1, 1) := dk_27 (dk_at dksX5_withdraws_0 2 rfl rfl)
theorem dX5_withdraws_3 : decode cX5_withdraws 3 = .ok (.invokevirtual 146, 3) := dk_182 0 146 (dk_at dksX5_withdraws_0 3 rfl rfl)
theorem dX5_withdraws_6 : decode cX5_withdraws 6 = .ok (.invokevirtual 149, 3) := dk_182 0 149 (dk_at dksX5_withdraws_0 6 rfl rfl)
theorem dX5_withdraws_9 : decode cX5_withdraws 9 = .ok (.aload_n 0, 1) := dk_42 (dk_at dksX5_withdraws_0 9 rfl rfl)
theorem dX5_withdraws_10 : decode cX5_withdraws 10 = .ok (.getfield 7, 3) := dk_180 0 7 (dk_at dksX5_withdraws_0 10 rfl rfl)
theorem dX5_withdraws_13 : decode cX5_withdraws 13 = .ok (.iconst 1, 1) := dk_4 (dk_at dksX5_withdraws_0 13 rfl rfl)
theorem dX5_withdraws_14 : decode cX5_withdraws 14 = .ok (.iaload, 1) := dk_46 (dk_at dksX5_withdraws_0 14 rfl rfl)
theorem dX5_withdraws_15 : decode cX5_withdraws 15 = .ok (.ireturn, 1) := dk_172 (dk_at dksX5_withdraws_0 15 rfl rfl)
def dkwX5_removeReport_0 : List UInt8 := [42, 180, 0, 7, 4, 92, 46, 4, 100, 79, 42, 16, 88, 27, 42, 180, 0, 7, 4, 46, 182, 0, 99, 177]
abbrev dktX5_removeReport_0 : List UInt8 := dkwX5_removeReport_0 ++ []
theorem dksX5_removeReport_0 : cX5_removeReport.data.toList.drop 0 = dktX5_removeReport_0 := by decide +kernel
theorem dX5_removeReport_0 : decode cX5_removeReport 0 = .ok (.aload_n 0, 1) := dk_42 (dk_at dksX5_removeReport_0 0 rfl rfl)
theorem dX5_removeReport_1 : decode cX5_removeReport 1 = .ok (.getfield 7, 3) := dk_180 0 7 (dk_at dksX5_removeReport_0 1 rfl rfl)
theorem dX5_removeReport_4 : decode cX5_removeReport 4 = .ok (.iconst 1, 1) := dk_4 (dk_at dksX5_removeReport_0 4 rfl rfl)
theorem dX5_removeReport_5 : decode cX5_removeReport 5 = .ok (.dup2, 1) := dk_92 (dk_at dksX5_removeReport_0 5 rfl rfl)
theorem dX5_removeReport_6 : decode cX5_removeReport 6 = .ok (.iaload, 1) := dk_46 (dk_at dksX5_removeReport_0 6 rfl rfl)
theorem dX5_removeReport_7 : decode cX5_removeReport 7 = .ok (.iconst 1, 1) := dk_4 (dk_at dksX5_removeReport_0 7 rfl rfl)
theorem dX5_removeReport_8 : decode cX5_removeReport 8 = .ok (.isub, 1) := dk_100 (dk_at dksX5_removeReport_0 8 rfl rfl)
theorem dX5_removeReport_9 : decode cX5_removeReport 9 = .ok (.iastore, 1) := dk_79 (dk_at dksX5_removeReport_0 9 rfl rfl)
theorem dX5_removeReport_10 : decode cX5_removeReport 10 = .ok (.aload_n 0, 1) := dk_42 (dk_at dksX5_removeReport_0 10 rfl rfl)
theorem dX5_removeReport_11 : decode cX5_removeReport 11 = .ok (.bipush 88, 2) := dk_16 88 (dk_at dksX5_removeReport_0 11 rfl rfl)
theorem dX5_removeReport_13 : decode cX5_removeReport 13 = .ok (.iload_n 1, 1) := dk_27 (dk_at dksX5_removeReport_0 13 rfl rfl)
theorem dX5_removeReport_14 : decode cX5_removeReport 14 = .ok (.aload_n 0, 1) := dk_42 (dk_at dksX5_removeReport_0 14 rfl rfl)
theorem dX5_removeReport_15 : decode cX5_removeReport 15 = .ok (.getfield 7, 3) := dk_180 0 7 (dk_at dksX5_removeReport_0 15 rfl rfl)
theorem dX5_removeReport_18 : decode cX5_removeReport 18 = .ok (.iconst 1, 1) := dk_4 (dk_at dksX5_removeReport_0 18 rfl rfl)
theorem dX5_removeReport_19 : decode cX5_removeReport 19 = .ok (.iaload, 1) := dk_46 (dk_at dksX5_removeReport_0 19 rfl rfl)
theorem dX5_removeReport_20 : decode cX5_removeReport 20 = .ok (.invokevirtual 99, 3) := dk_182 0 99 (dk_at dksX5_removeReport_0 20 rfl rfl)
theorem dX5_removeReport_23 : decode cX5_removeReport 23 = .ok (.return_, 1) := dk_177 (dk_at dksX5_removeReport_0 23 rfl rfl)
def dkwX5_close_3 : List UInt8 := [167, 255, 231, 177]
abbrev dktX5_close_3 : List UInt8 := dkwX5_close_3 ++ []
def dkwX5_close_2 : List UInt8 := [16, 8, 162, 0, 24, 42, 180, 0, 7, 27, 16, 8, 29, 104, 96, 21, 4, 96, 3, 79, 132, 4, 1]
abbrev dktX5_close_2 : List UInt8 := dkwX5_close_2 ++ dktX5_close_3
def dkwX5_close_1 : List UInt8 := [21, 4, 42, 180, 0, 7, 21, 4, 16, 8, 96, 46, 79, 132, 4, 1, 167, 255, 225, 3, 54, 4, 21, 4]
abbrev dktX5_close_1 : List UInt8 := dkwX5_close_1 ++ dktX5_close_2
def dkwX5_close_0 : List UInt8 := [27, 16, 8, 28, 104, 96, 54, 4, 21, 4, 27, 16, 8, 29, 104, 96, 162, 0, 26, 42, 180, 0, 7]
abbrev dktX5_close_0 : List UInt8 := dkwX5_close_0 ++ dktX5_close_1
theorem dksX5_close_0 : cX5_close.data.toList.drop 0 = dktX5_close_0 := by decide +kernel
theorem dksX5_close_1 : cX5_close.data.toList.drop 23 = dktX5_close_1 := dk_seg dksX5_close_0 23 rfl rfl
theorem dksX5_close_2 : cX5_close.data.toList.drop 47 = dktX5_close_2 := dk_seg dksX5_close_1 24 rfl rfl
theorem dksX5_close_3 : cX5_close.data.toList.drop 70 = dktX5_close_3 := dk_seg dksX5_close_2 23 rfl rfl
theorem dX5_close_0 : decode cX5_close 0 = .ok (.iload_n 1, 1) := dk_27 (dk_at dksX5_close_0 0 rfl rfl)
theorem dX5_close_1 : decode cX5_close 1 = .ok (.bipush 8, 2) := dk_16 8 (dk_at dksX5_close_0 1 rfl rfl)
theorem dX5_close_3 : decode cX5_close 3 = .ok (.iload_n 2, 1) := dk_28 (dk_at dksX5_close_0 3 rfl rfl)
theorem dX5_close_4 : decode cX5_close 4 = .ok (.imul, 1) := dk_104 (dk_at dksX5_close_0 4 rfl rfl)
theorem dX5_close_5 : decode cX5_close 5 = .ok (.iadd, 1) := dk_96 (dk_at dksX5_close_0 5 rfl rfl)
theorem dX5_close_6 : decode cX5_close 6 = .ok (.istore 4, 2) := dk_54 4 (dk_at dksX5_close_0 6 rfl rfl)
theorem dX5_close_8 : decode cX5_close 8 = .ok (.iload 4, 2) := dk_21 4 (dk_at dksX5_close_0 8 rfl rfl)
theorem dX5_close_10 : decode cX5_close 10 = .ok (.iload_n 1, 1) := dk_27 (dk_at dksX5_close_0 10 rfl rfl)
theorem dX5_close_11 : decode cX5_close 11 = .ok (.bipush 8, 2) := dk_16 8 (dk_at dksX5_close_0 11 rfl rfl)
theorem dX5_close_13 : decode cX5_close 13 = .ok (.iload_n 3, 1) := dk_29 (dk_at dksX5_close_0 13 rfl rfl)
theorem dX5_close_14 : decode cX5_close 14 = .ok (.imul, 1) := dk_104 (dk_at dksX5_close_0 14 rfl rfl)
theorem dX5_close_15 : decode cX5_close 15 = .ok (.iadd, 1) := dk_96 (dk_at dksX5_close_0 15 rfl rfl)
theorem dX5_close_16 : decode cX5_close 16 = .ok (.if_icmp .ge 26, 3) := dk_162 0 26 (dk_at dksX5_close_0 16 rfl rfl)
theorem dX5_close_19 : decode cX5_close 19 = .ok (.aload_n 0, 1) := dk_42 (dk_at dksX5_close_0 19 rfl rfl)
theorem dX5_close_20 : decode cX5_close 20 = .ok (.getfield 7, 3) := dk_180 0 7 (dk_at dksX5_close_0 20 rfl rfl)
theorem dX5_close_23 : decode cX5_close 23 = .ok (.iload 4, 2) := dk_21 4 (dk_at dksX5_close_1 0 rfl rfl)
theorem dX5_close_25 : decode cX5_close 25 = .ok (.aload_n 0, 1) := dk_42 (dk_at dksX5_close_1 2 rfl rfl)
theorem dX5_close_26 : decode cX5_close 26 = .ok (.getfield 7, 3) := dk_180 0 7 (dk_at dksX5_close_1 3 rfl rfl)
theorem dX5_close_29 : decode cX5_close 29 = .ok (.iload 4, 2) := dk_21 4 (dk_at dksX5_close_1 6 rfl rfl)
theorem dX5_close_31 : decode cX5_close 31 = .ok (.bipush 8, 2) := dk_16 8 (dk_at dksX5_close_1 8 rfl rfl)
theorem dX5_close_33 : decode cX5_close 33 = .ok (.iadd, 1) := dk_96 (dk_at dksX5_close_1 10 rfl rfl)
theorem dX5_close_34 : decode cX5_close 34 = .ok (.iaload, 1) := dk_46 (dk_at dksX5_close_1 11 rfl rfl)
theorem dX5_close_35 : decode cX5_close 35 = .ok (.iastore, 1) := dk_79 (dk_at dksX5_close_1 12 rfl rfl)
theorem dX5_close_36 : decode cX5_close 36 = .ok (.iinc 4 1, 3) := dk_132 4 1 (dk_at dksX5_close_1 13 rfl rfl)
theorem dX5_close_39 : decode cX5_close 39 = .ok (.goto (-31), 3) := dk_167 255 225 (dk_at dksX5_close_1 16 rfl rfl)
theorem dX5_close_42 : decode cX5_close 42 = .ok (.iconst 0, 1) := dk_3 (dk_at dksX5_close_1 19 rfl rfl)
theorem dX5_close_43 : decode cX5_close 43 = .ok (.istore 4, 2) := dk_54 4 (dk_at dksX5_close_1 20 rfl rfl)
theorem dX5_close_45 : decode cX5_close 45 = .ok (.iload 4, 2) := dk_21 4 (dk_at dksX5_close_1 22 rfl rfl)
theorem dX5_close_47 : decode cX5_close 47 = .ok (.bipush 8, 2) := dk_16 8 (dk_at dksX5_close_2 0 rfl rfl)
theorem dX5_close_49 : decode cX5_close 49 = .ok (.if_icmp .ge 24, 3) := dk_162 0 24 (dk_at dksX5_close_2 2 rfl rfl)
theorem dX5_close_52 : decode cX5_close 52 = .ok (.aload_n 0, 1) := dk_42 (dk_at dksX5_close_2 5 rfl rfl)
theorem dX5_close_53 : decode cX5_close 53 = .ok (.getfield 7, 3) := dk_180 0 7 (dk_at dksX5_close_2 6 rfl rfl)
theorem dX5_close_56 : decode cX5_close 56 = .ok (.iload_n 1, 1) := dk_27 (dk_at dksX5_close_2 9 rfl rfl)
theorem dX5_close_57 : decode cX5_close 57 = .ok (.bipush 8, 2) := dk_16 8 (dk_at dksX5_close_2 10 rfl rfl)
theorem dX5_close_59 : decode cX5_close 59 = .ok (.iload_n 3, 1) := dk_29 (dk_at dksX5_close_2 12 rfl rfl)
theorem dX5_close_60 : decode cX5_close 60 = .ok (.imul, 1) := dk_104 (dk_at dksX5_close_2 13 rfl rfl)
theorem dX5_close_61 : decode cX5_close 61 = .ok (.iadd, 1) := dk_96 (dk_at dksX5_close_2 14 rfl rfl)
theorem dX5_close_62 : decode cX5_close 62 = .ok (.iload 4, 2) := dk_21 4 (dk_at dksX5_close_2 15 rfl rfl)
theorem dX5_close_64 : decode cX5_close 64 = .ok (.iadd, 1) := dk_96 (dk_at dksX5_close_2 17 rfl rfl)
theorem dX5_close_65 : decode cX5_close 65 = .ok (.iconst 0, 1) := dk_3 (dk_at dksX5_close_2 18 rfl rfl)
theorem dX5_close_66 : decode cX5_close 66 = .ok (.iastore, 1) := dk_79 (dk_at dksX5_close_2 19 rfl rfl)
theorem dX5_close_67 : decode cX5_close 67 = .ok (.iinc 4 1, 3) := dk_132 4 1 (dk_at dksX5_close_2 20 rfl rfl)
theorem dX5_close_70 : decode cX5_close 70 = .ok (.goto (-25), 3) := dk_167 255 231 (dk_at dksX5_close_3 0 rfl rfl)
theorem dX5_close_73 : decode cX5_close 73 = .ok (.return_, 1) := dk_177 (dk_at dksX5_close_3 3 rfl rfl)
def dkwX5_discard_1 : List UInt8 := [182, 0, 162, 182, 0, 136, 172]
abbrev dktX5_discard_1 : List UInt8 := dkwX5_discard_1 ++ []
def dkwX5_discard_0 : List UInt8 := [42, 182, 0, 123, 42, 27, 182, 0, 156, 156, 0, 11, 42, 4, 182, 0, 130, 167, 0, 12, 42, 42, 27]
abbrev dktX5_discard_0 : List UInt8 := dkwX5_discard_0 ++ dktX5_discard_1
theorem dksX5_discard_0 : cX5_discard.data.toList.drop 0 = dktX5_discard_0 := by decide +kernel
theorem dksX5_discard_1 : cX5_discard.data.toList.drop 23 = dktX5_discard_1 := dk_seg dksX5_discard_0 23 rfl rfl
theorem dX5_discard_0 : decode cX5_discard 0 = .ok (.aload_n 0, 1) := dk_42 (dk_at dksX5_discard_0 0 rfl rfl)
theorem dX5_discard_1 : decode cX5_discard 1 = .ok (.invokevirtual 123, 3) := dk_182 0 123 (dk_at dksX5_discard_0 1 rfl rfl)
theorem dX5_discard_4 : decode cX5_discard 4 = .ok (.aload_n 0, 1) := dk_42 (dk_at dksX5_discard_0 4 rfl rfl)
theorem dX5_discard_5 : decode cX5_discard 5 = .ok (.iload_n 1, 1) := dk_27 (dk_at dksX5_discard_0 5 rfl rfl)
theorem dX5_discard_6 : decode cX5_discard 6 = .ok (.invokevirtual 156, 3) := dk_182 0 156 (dk_at dksX5_discard_0 6 rfl rfl)
theorem dX5_discard_9 : decode cX5_discard 9 = .ok (.ifCond .ge 11, 3) := dk_156 0 11 (dk_at dksX5_discard_0 9 rfl rfl)
theorem dX5_discard_12 : decode cX5_discard 12 = .ok (.aload_n 0, 1) := dk_42 (dk_at dksX5_discard_0 12 rfl rfl)
theorem dX5_discard_13 : decode cX5_discard 13 = .ok (.iconst 1, 1) := dk_4 (dk_at dksX5_discard_0 13 rfl rfl)
theorem dX5_discard_14 : decode cX5_discard 14 = .ok (.invokevirtual 130, 3) := dk_182 0 130 (dk_at dksX5_discard_0 14 rfl rfl)
theorem dX5_discard_17 : decode cX5_discard 17 = .ok (.goto 12, 3) := dk_167 0 12 (dk_at dksX5_discard_0 17 rfl rfl)
theorem dX5_discard_20 : decode cX5_discard 20 = .ok (.aload_n 0, 1) := dk_42 (dk_at dksX5_discard_0 20 rfl rfl)
theorem dX5_discard_21 : decode cX5_discard 21 = .ok (.aload_n 0, 1) := dk_42 (dk_at dksX5_discard_0 21 rfl rfl)
theorem dX5_discard_22 : decode cX5_discard 22 = .ok (.iload_n 1, 1) := dk_27 (dk_at dksX5_discard_0 22 rfl rfl)
theorem dX5_discard_23 : decode cX5_discard 23 = .ok (.invokevirtual 162, 3) := dk_182 0 162 (dk_at dksX5_discard_1 0 rfl rfl)
theorem dX5_discard_26 : decode cX5_discard 26 = .ok (.invokevirtual 136, 3) := dk_182 0 136 (dk_at dksX5_discard_1 3 rfl rfl)
theorem dX5_discard_29 : decode cX5_discard 29 = .ok (.ireturn, 1) := dk_172 (dk_at dksX5_discard_1 6 rfl rfl)
def dkwX5_colour_1 : List UInt8 := [132, 2, 1, 167, 255, 231, 2, 172]
abbrev dktX5_colour_1 : List UInt8 := dkwX5_colour_1 ++ []
def dkwX5_colour_0 : List UInt8 := [3, 61, 28, 42, 180, 0, 7, 3, 46, 162, 0, 21, 42, 28, 3, 182, 0, 92, 27, 160, 0, 5, 28, 172]
abbrev dktX5_colour_0 : List UInt8 := dkwX5_colour_0 ++ dktX5_colour_1
theorem dksX5_colour_0 : cX5_colour.data.toList.drop 0 = dktX5_colour_0 := by decide +kernel
theorem dksX5_colour_1 : cX5_colour.data.toList.drop 24 = dktX5_colour_1 := dk_seg dksX5_colour_0 24 rfl rfl
theorem dX5_colour_0 : decode cX5_colour 0 = .ok (.iconst 0, 1) := dk_3 (dk_at dksX5_colour_0 0 rfl rfl)
theorem dX5_colour_1 : decode cX5_colour 1 = .ok (.istore_n 2, 1) := dk_61 (dk_at dksX5_colour_0 1 rfl rfl)
theorem dX5_colour_2 : decode cX5_colour 2 = .ok (.iload_n 2, 1) := dk_28 (dk_at dksX5_colour_0 2 rfl rfl)
theorem dX5_colour_3 : decode cX5_colour 3 = .ok (.aload_n 0, 1) := dk_42 (dk_at dksX5_colour_0 3 rfl rfl)
theorem dX5_colour_4 : decode cX5_colour 4 = .ok (.getfield 7, 3) := dk_180 0 7 (dk_at dksX5_colour_0 4 rfl rfl)
theorem dX5_colour_7 : decode cX5_colour 7 = .ok (.iconst 0, 1) := dk_3 (dk_at dksX5_colour_0 7 rfl rfl)
theorem dX5_colour_8 : decode cX5_colour 8 = .ok (.iaload, 1) := dk_46 (dk_at dksX5_colour_0 8 rfl rfl)
theorem dX5_colour_9 : decode cX5_colour 9 = .ok (.if_icmp .ge 21, 3) := dk_162 0 21 (dk_at dksX5_colour_0 9 rfl rfl)
theorem dX5_colour_12 : decode cX5_colour 12 = .ok (.aload_n 0, 1) := dk_42 (dk_at dksX5_colour_0 12 rfl rfl)
theorem dX5_colour_13 : decode cX5_colour 13 = .ok (.iload_n 2, 1) := dk_28 (dk_at dksX5_colour_0 13 rfl rfl)
theorem dX5_colour_14 : decode cX5_colour 14 = .ok (.iconst 0, 1) := dk_3 (dk_at dksX5_colour_0 14 rfl rfl)
theorem dX5_colour_15 : decode cX5_colour 15 = .ok (.invokevirtual 92, 3) := dk_182 0 92 (dk_at dksX5_colour_0 15 rfl rfl)
theorem dX5_colour_18 : decode cX5_colour 18 = .ok (.iload_n 1, 1) := dk_27 (dk_at dksX5_colour_0 18 rfl rfl)
theorem dX5_colour_19 : decode cX5_colour 19 = .ok (.if_icmp .ne 5, 3) := dk_160 0 5 (dk_at dksX5_colour_0 19 rfl rfl)
theorem dX5_colour_22 : decode cX5_colour 22 = .ok (.iload_n 2, 1) := dk_28 (dk_at dksX5_colour_0 22 rfl rfl)
theorem dX5_colour_23 : decode cX5_colour 23 = .ok (.ireturn, 1) := dk_172 (dk_at dksX5_colour_0 23 rfl rfl)
theorem dX5_colour_24 : decode cX5_colour 24 = .ok (.iinc 2 1, 3) := dk_132 2 1 (dk_at dksX5_colour_1 0 rfl rfl)
theorem dX5_colour_27 : decode cX5_colour 27 = .ok (.goto (-25), 3) := dk_167 255 231 (dk_at dksX5_colour_1 3 rfl rfl)
theorem dX5_colour_30 : decode cX5_colour 30 = .ok (.iconst (-1), 1) := dk_2 (dk_at dksX5_colour_1 6 rfl rfl)
theorem dX5_colour_31 : decode cX5_colour 31 = .ok (.ireturn, 1) := dk_172 (dk_at dksX5_colour_1 7 rfl rfl)
def dkwX5_c_0 : List UInt8 := [42, 180, 0, 7, 27, 184, 0, 85, 28, 96, 46, 172]
abbrev dktX5_c_0 : List UInt8 := dkwX5_c_0 ++ []
theorem dksX5_c_0 : cX5_c.data.toList.drop 0 = dktX5_c_0 := by decide +kernel
theorem dX5_c_0 : decode cX5_c 0 = .ok (.aload_n 0, 1) := dk_42 (dk_at dksX5_c_0 0 rfl rfl)
theorem dX5_c_1 : decode cX5_c 1 = .ok (.getfield 7, 3) := dk_180 0 7 (dk_at dksX5_c_0 1 rfl rfl)
theorem dX5_c_4 : decode cX5_c 4 = .ok (.iload_n 1, 1) := dk_27 (dk_at dksX5_c_0 4 rfl rfl)
theorem dX5_c_5 : decode cX5_c 5 = .ok (.invokestatic 85, 3) := dk_184 0 85 (dk_at dksX5_c_0 5 rfl rfl)
theorem dX5_c_8 : decode cX5_c 8 = .ok (.iload_n 2, 1) := dk_28 (dk_at dksX5_c_0 8 rfl rfl)
theorem dX5_c_9 : decode cX5_c 9 = .ok (.iadd, 1) := dk_96 (dk_at dksX5_c_0 9 rfl rfl)
theorem dX5_c_10 : decode cX5_c 10 = .ok (.iaload, 1) := dk_46 (dk_at dksX5_c_0 10 rfl rfl)
theorem dX5_c_11 : decode cX5_c 11 = .ok (.ireturn, 1) := dk_172 (dk_at dksX5_c_0 11 rfl rfl)
def dkwX5_discards_1 : List UInt8 := [3, 46, 172]
abbrev dktX5_discards_1 : List UInt8 := dkwX5_discards_1 ++ []
def dkwX5_discards_0 : List UInt8 := [42, 42, 27, 182, 0, 156, 182, 0, 159, 42, 180, 0, 7, 16, 6, 92, 46, 4, 100, 79, 42, 180, 0, 7]
abbrev dktX5_discards_0 : List UInt8 := dkwX5_discards_0 ++ dktX5_discards_1
theorem dksX5_discards_0 : cX5_discards.data.toList.drop 0 = dktX5_discards_0 := by decide +kernel
theorem dksX5_discards_1 : cX5_discards.data.toList.drop 24 = dktX5_discards_1 := dk_seg dksX5_discards_0 24 rfl rfl
theorem dX5_discards_0 : decode cX5_discards 0 = .ok (.aload_n 0, 1) := dk_42 (dk_at dksX5_discards_0 0 rfl rfl)
theorem dX5_discards_1 : decode cX5_discards 1 = .ok (.aload_n 0, 1) := dk_42 (dk_at dksX5_discards_0 1 rfl rfl)
theorem dX5_discards_2 : decode cX5_discards 2 = .ok (.iload_n 1, 1) := dk_27 (dk_at dksX5_discards_0 2 rfl rfl)
theorem dX5_discards_3 : decode cX5_discards 3 = .ok (.invokevirtual 156, 3) := dk_182 0 156 (dk_at dksX5_discards_0 3 rfl rfl)
theorem dX5_discards_6 : decode cX5_discards 6 = .ok (.invokevirtual 159, 3) := dk_182 0 159 (dk_at dksX5_discards_0 6 rfl rfl)
theorem dX5_discards_9 : decode cX5_discards 9 = .ok (.aload_n 0, 1) := dk_42 (dk_at dksX5_discards_0 9 rfl rfl)
theorem dX5_discards_10 : decode cX5_discards 10 = .ok (.getfield 7, 3) := dk_180 0 7 (dk_at dksX5_discards_0 10 rfl rfl)
theorem dX5_discards_13 : decode cX5_discards 13 = .ok (.bipush 6, 2) := dk_16 6 (dk_at dksX5_discards_0 13 rfl rfl)
theorem dX5_discards_15 : decode cX5_discards 15 = .ok (.dup2, 1) := dk_92 (dk_at dksX5_discards_0 15 rfl rfl)
theorem dX5_discards_16 : decode cX5_discards 16 = .ok (.iaload, 1) := dk_46 (dk_at dksX5_discards_0 16 rfl rfl)
theorem dX5_discards_17 : decode cX5_discards 17 = .ok (.iconst 1, 1) := dk_4 (dk_at dksX5_discards_0 17 rfl rfl)
theorem dX5_discards_18 : decode cX5_discards 18 = .ok (.isub, 1) := dk_100 (dk_at dksX5_discards_0 18 rfl rfl)
theorem dX5_discards_19 : decode cX5_discards 19 = .ok (.iastore, 1) := dk_79 (dk_at dksX5_discards_0 19 rfl rfl)
theorem dX5_discards_20 : decode cX5_discards 20 = .ok (.aload_n 0, 1) := dk_42 (dk_at dksX5_discards_0 20 rfl rfl)
theorem dX5_discards_21 : decode cX5_discards 21 = .ok (.getfield 7, 3) := dk_180 0 7 (dk_at dksX5_discards_0 21 rfl rfl)
theorem dX5_discards_24 : decode cX5_discards 24 = .ok (.iconst 0, 1) := dk_3 (dk_at dksX5_discards_1 0 rfl rfl)
theorem dX5_discards_25 : decode cX5_discards 25 = .ok (.iaload, 1) := dk_46 (dk_at dksX5_discards_1 1 rfl rfl)
theorem dX5_discards_26 : decode cX5_discards 26 = .ok (.ireturn, 1) := dk_172 (dk_at dksX5_discards_1 2 rfl rfl)
def dkwX5_removeColour_0 : List UInt8 := [42, 180, 0, 7, 3, 92, 46, 4, 100, 79, 42, 16, 8, 27, 42, 180, 0, 7, 3, 46, 182, 0, 99, 177]
abbrev dktX5_removeColour_0 : List UInt8 := dkwX5_removeColour_0 ++ []
theorem dksX5_removeColour_0 : cX5_removeColour.data.toList.drop 0 = dktX5_removeColour_0 := by decide +kernel
theorem dX5_removeColour_0 : decode cX5_removeColour 0 = .ok (.aload_n 0, 1) := dk_42 (dk_at dksX5_removeColour_0 0 rfl rfl)
theorem dX5_removeColour_1 : decode cX5_removeColour 1 = .ok (.getfield 7, 3) := dk_180 0 7 (dk_at dksX5_removeColour_0 1 rfl rfl)
theorem dX5_removeColour_4 : decode cX5_removeColour 4 = .ok (.iconst 0, 1) := dk_3 (dk_at dksX5_removeColour_0 4 rfl rfl)
theorem dX5_removeColour_5 : decode cX5_removeColour 5 = .ok (.dup2, 1) := dk_92 (dk_at dksX5_removeColour_0 5 rfl rfl)
theorem dX5_removeColour_6 : decode cX5_removeColour 6 = .ok (.iaload, 1) := dk_46 (dk_at dksX5_removeColour_0 6 rfl rfl)
theorem dX5_removeColour_7 : decode cX5_removeColour 7 = .ok (.iconst 1, 1) := dk_4 (dk_at dksX5_removeColour_0 7 rfl rfl)
theorem dX5_removeColour_8 : decode cX5_removeColour 8 = .ok (.isub, 1) := dk_100 (dk_at dksX5_removeColour_0 8 rfl rfl)
theorem dX5_removeColour_9 : decode cX5_removeColour 9 = .ok (.iastore, 1) := dk_79 (dk_at dksX5_removeColour_0 9 rfl rfl)
theorem dX5_removeColour_10 : decode cX5_removeColour 10 = .ok (.aload_n 0, 1) := dk_42 (dk_at dksX5_removeColour_0 10 rfl rfl)
theorem dX5_removeColour_11 : decode cX5_removeColour 11 = .ok (.bipush 8, 2) := dk_16 8 (dk_at dksX5_removeColour_0 11 rfl rfl)
theorem dX5_removeColour_13 : decode cX5_removeColour 13 = .ok (.iload_n 1, 1) := dk_27 (dk_at dksX5_removeColour_0 13 rfl rfl)
theorem dX5_removeColour_14 : decode cX5_removeColour 14 = .ok (.aload_n 0, 1) := dk_42 (dk_at dksX5_removeColour_0 14 rfl rfl)
theorem dX5_removeColour_15 : decode cX5_removeColour 15 = .ok (.getfield 7, 3) := dk_180 0 7 (dk_at dksX5_removeColour_0 15 rfl rfl)
theorem dX5_removeColour_18 : decode cX5_removeColour 18 = .ok (.iconst 0, 1) := dk_3 (dk_at dksX5_removeColour_0 18 rfl rfl)
theorem dX5_removeColour_19 : decode cX5_removeColour 19 = .ok (.iaload, 1) := dk_46 (dk_at dksX5_removeColour_0 19 rfl rfl)
theorem dX5_removeColour_20 : decode cX5_removeColour 20 = .ok (.invokevirtual 99, 3) := dk_182 0 99 (dk_at dksX5_removeColour_0 20 rfl rfl)
theorem dX5_removeColour_23 : decode cX5_removeColour 23 = .ok (.return_, 1) := dk_177 (dk_at dksX5_removeColour_0 23 rfl rfl)
def dkwX5_setMetric_1 : List UInt8 := [181, 0, 25, 16, 32, 172]
abbrev dktX5_setMetric_1 : List UInt8 := dkwX5_setMetric_1 ++ []
def dkwX5_setMetric_0 : List UInt8 := [42, 182, 0, 123, 27, 184, 0, 165, 153, 0, 14, 42, 42, 27, 182, 0, 169, 182, 0, 136, 146, 172, 42, 4]
abbrev dktX5_setMetric_0 : List UInt8 := dkwX5_setMetric_0 ++ dktX5_setMetric_1
theorem dksX5_setMetric_0 : cX5_setMetric.data.toList.drop 0 = dktX5_setMetric_0 := by decide +kernel
theorem dksX5_setMetric_1 : cX5_setMetric.data.toList.drop 24 = dktX5_setMetric_1 := dk_seg dksX5_setMetric_0 24 rfl rfl
theorem dX5_setMetric_0 : decode cX5_setMetric 0 = .ok (.aload_n 0, 1) := dk_42 (dk_at dksX5_setMetric_0 0 rfl rfl)
theorem dX5_setMetric_1 : decode cX5_setMetric 1 = .ok (.invokevirtual 123, 3) := dk_182 0 123 (dk_at dksX5_setMetric_0 1 rfl rfl)
theorem dX5_setMetric_4 : decode cX5_setMetric 4 = .ok (.iload_n 1, 1) := dk_27 (dk_at dksX5_setMetric_0 4 rfl rfl)
theorem dX5_setMetric_5 : decode cX5_setMetric 5 = .ok (.invokestatic 165, 3) := dk_184 0 165 (dk_at dksX5_setMetric_0 5 rfl rfl)
theorem dX5_setMetric_8 : decode cX5_setMetric 8 = .ok (.ifCond .eq 14, 3) := dk_153 0 14 (dk_at dksX5_setMetric_0 8 rfl rfl)
theorem dX5_setMetric_11 : decode cX5_setMetric 11 = .ok (.aload_n 0, 1) := dk_42 (dk_at dksX5_setMetric_0 11 rfl rfl)
theorem dX5_setMetric_12 : decode cX5_setMetric 12 = .ok (.aload_n 0, 1) := dk_42 (dk_at dksX5_setMetric_0 12 rfl rfl)
theorem dX5_setMetric_13 : decode cX5_setMetric 13 = .ok (.iload_n 1, 1) := dk_27 (dk_at dksX5_setMetric_0 13 rfl rfl)
theorem dX5_setMetric_14 : decode cX5_setMetric 14 = .ok (.invokevirtual 169, 3) := dk_182 0 169 (dk_at dksX5_setMetric_0 14 rfl rfl)
theorem dX5_setMetric_17 : decode cX5_setMetric 17 = .ok (.invokevirtual 136, 3) := dk_182 0 136 (dk_at dksX5_setMetric_0 17 rfl rfl)
theorem dX5_setMetric_20 : decode cX5_setMetric 20 = .ok (.i2c, 1) := dk_146 (dk_at dksX5_setMetric_0 20 rfl rfl)
theorem dX5_setMetric_21 : decode cX5_setMetric 21 = .ok (.ireturn, 1) := dk_172 (dk_at dksX5_setMetric_0 21 rfl rfl)
theorem dX5_setMetric_22 : decode cX5_setMetric 22 = .ok (.aload_n 0, 1) := dk_42 (dk_at dksX5_setMetric_0 22 rfl rfl)
theorem dX5_setMetric_23 : decode cX5_setMetric 23 = .ok (.iconst 1, 1) := dk_4 (dk_at dksX5_setMetric_0 23 rfl rfl)
theorem dX5_setMetric_24 : decode cX5_setMetric 24 = .ok (.putfield 25, 3) := dk_181 0 25 (dk_at dksX5_setMetric_1 0 rfl rfl)
theorem dX5_setMetric_27 : decode cX5_setMetric 27 = .ok (.bipush 32, 2) := dk_16 32 (dk_at dksX5_setMetric_1 3 rfl rfl)
theorem dX5_setMetric_29 : decode cX5_setMetric 29 = .ok (.ireturn, 1) := dk_172 (dk_at dksX5_setMetric_1 5 rfl rfl)
def dkwX5_isMetric_0 : List UInt8 := [26, 16, 109, 159, 0, 15, 26, 16, 115, 159, 0, 9, 26, 16, 103, 160, 0, 7, 4, 167, 0, 4, 3, 172]
abbrev dktX5_isMetric_0 : List UInt8 := dkwX5_isMetric_0 ++ []
theorem dksX5_isMetric_0 : cX5_isMetric.data.toList.drop 0 = dktX5_isMetric_0 := by decide +kernel
theorem dX5_isMetric_0 : decode cX5_isMetric 0 = .ok (.iload_n 0, 1) := dk_26 (dk_at dksX5_isMetric_0 0 rfl rfl)
theorem dX5_isMetric_1 : decode cX5_isMetric 1 = .ok (.bipush 109, 2) := dk_16 109 (dk_at dksX5_isMetric_0 1 rfl rfl)
theorem dX5_isMetric_3 : decode cX5_isMetric 3 = .ok (.if_icmp .eq 15, 3) := dk_159 0 15 (dk_at dksX5_isMetric_0 3 rfl rfl)
theorem dX5_isMetric_6 : decode cX5_isMetric 6 = .ok (.iload_n 0, 1) := dk_26 (dk_at dksX5_isMetric_0 6 rfl rfl)
theorem dX5_isMetric_7 : decode cX5_isMetric 7 = .ok (.bipush 115, 2) := dk_16 115 (dk_at dksX5_isMetric_0 7 rfl rfl)
theorem dX5_isMetric_9 : decode cX5_isMetric 9 = .ok (.if_icmp .eq 9, 3) := dk_159 0 9 (dk_at dksX5_isMetric_0 9 rfl rfl)
theorem dX5_isMetric_12 : decode cX5_isMetric 12 = .ok (.iload_n 0, 1) := dk_26 (dk_at dksX5_isMetric_0 12 rfl rfl)
theorem dX5_isMetric_13 : decode cX5_isMetric 13 = .ok (.bipush 103, 2) := dk_16 103 (dk_at dksX5_isMetric_0 13 rfl rfl)
theorem dX5_isMetric_15 : decode cX5_isMetric 15 = .ok (.if_icmp .ne 7, 3) := dk_160 0 7 (dk_at dksX5_isMetric_0 15 rfl rfl)
theorem dX5_isMetric_18 : decode cX5_isMetric 18 = .ok (.iconst 1, 1) := dk_4 (dk_at dksX5_isMetric_0 18 rfl rfl)
theorem dX5_isMetric_19 : decode cX5_isMetric 19 = .ok (.goto 4, 3) := dk_167 0 4 (dk_at dksX5_isMetric_0 19 rfl rfl)
theorem dX5_isMetric_22 : decode cX5_isMetric 22 = .ok (.iconst 0, 1) := dk_3 (dk_at dksX5_isMetric_0 22 rfl rfl)
theorem dX5_isMetric_23 : decode cX5_isMetric 23 = .ok (.ireturn, 1) := dk_172 (dk_at dksX5_isMetric_0 23 rfl rfl)
def dkwX5_measures_0 : List UInt8 := [42, 180, 0, 7, 8, 46, 61, 42, 180, 0, 7, 8, 27, 79, 28, 172]
abbrev dktX5_measures_0 : List UInt8 := dkwX5_measures_0 ++ []
theorem dksX5_measures_0 : cX5_measures.data.toList.drop 0 = dktX5_measures_0 := by decide +kernel
theorem dX5_measures_0 : decode cX5_measures 0 = .ok (.aload_n 0, 1) := dk_42 (dk_at dksX5_measures_0 0 rfl rfl)
theorem dX5_measures_1 : decode cX5_measures 1 = .ok (.getfield 7, 3) := dk_180 0 7 (dk_at dksX5_measures_0 1 rfl rfl)
theorem dX5_measures_4 : decode cX5_measures 4 = .ok (.iconst 5, 1) := dk_8 (dk_at dksX5_measures_0 4 rfl rfl)
theorem dX5_measures_5 : decode cX5_measures 5 = .ok (.iaload, 1) := dk_46 (dk_at dksX5_measures_0 5 rfl rfl)
theorem dX5_measures_6 : decode cX5_measures 6 = .ok (.istore_n 2, 1) := dk_61 (dk_at dksX5_measures_0 6 rfl rfl)
theorem dX5_measures_7 : decode cX5_measures 7 = .ok (.aload_n 0, 1) := dk_42 (dk_at dksX5_measures_0 7 rfl rfl)
theorem dX5_measures_8 : decode cX5_measures 8 = .ok (.getfield 7, 3) := dk_180 0 7 (dk_at dksX5_measures_0 8 rfl rfl)
theorem dX5_measures_11 : decode cX5_measures 11 = .ok (.iconst 5, 1) := dk_8 (dk_at dksX5_measures_0 11 rfl rfl)
theorem dX5_measures_12 : decode cX5_measures 12 = .ok (.iload_n 1, 1) := dk_27 (dk_at dksX5_measures_0 12 rfl rfl)
theorem dX5_measures_13 : decode cX5_measures 13 = .ok (.iastore, 1) := dk_79 (dk_at dksX5_measures_0 13 rfl rfl)
theorem dX5_measures_14 : decode cX5_measures 14 = .ok (.iload_n 2, 1) := dk_28 (dk_at dksX5_measures_0 14 rfl rfl)
theorem dX5_measures_15 : decode cX5_measures 15 = .ok (.ireturn, 1) := dk_172 (dk_at dksX5_measures_0 15 rfl rfl)
def dkwX5_giveBack_1 : List UInt8 := [42, 27, 28, 182, 0, 182, 182, 0, 136, 172]
abbrev dktX5_giveBack_1 : List UInt8 := dkwX5_giveBack_1 ++ []
def dkwX5_giveBack_0 : List UInt8 := [42, 182, 0, 123, 42, 27, 28, 182, 0, 179, 62, 29, 158, 0, 11, 42, 29, 182, 0, 130, 167, 0, 13, 42]
abbrev dktX5_giveBack_0 : List UInt8 := dkwX5_giveBack_0 ++ dktX5_giveBack_1
theorem dksX5_giveBack_0 : cX5_giveBack.data.toList.drop 0 = dktX5_giveBack_0 := by decide +kernel
theorem dksX5_giveBack_1 : cX5_giveBack.data.toList.drop 24 = dktX5_giveBack_1 := dk_seg dksX5_giveBack_0 24 rfl rfl
theorem dX5_giveBack_0 : decode cX5_giveBack 0 = .ok (.aload_n 0, 1) := dk_42 (dk_at dksX5_giveBack_0 0 rfl rfl)
theorem dX5_giveBack_1 : decode cX5_giveBack 1 = .ok (.invokevirtual 123, 3) := dk_182 0 123 (dk_at dksX5_giveBack_0 1 rfl rfl)
theorem dX5_giveBack_4 : decode cX5_giveBack 4 = .ok (.aload_n 0, 1) := dk_42 (dk_at dksX5_giveBack_0 4 rfl rfl)
theorem dX5_giveBack_5 : decode cX5_giveBack 5 = .ok (.iload_n 1, 1) := dk_27 (dk_at dksX5_giveBack_0 5 rfl rfl)
theorem dX5_giveBack_6 : decode cX5_giveBack 6 = .ok (.iload_n 2, 1) := dk_28 (dk_at dksX5_giveBack_0 6 rfl rfl)
theorem dX5_giveBack_7 : decode cX5_giveBack 7 = .ok (.invokevirtual 179, 3) := dk_182 0 179 (dk_at dksX5_giveBack_0 7 rfl rfl)
theorem dX5_giveBack_10 : decode cX5_giveBack 10 = .ok (.istore_n 3, 1) := dk_62 (dk_at dksX5_giveBack_0 10 rfl rfl)
theorem dX5_giveBack_11 : decode cX5_giveBack 11 = .ok (.iload_n 3, 1) := dk_29 (dk_at dksX5_giveBack_0 11 rfl rfl)
theorem dX5_giveBack_12 : decode cX5_giveBack 12 = .ok (.ifCond .le 11, 3) := dk_158 0 11 (dk_at dksX5_giveBack_0 12 rfl rfl)
theorem dX5_giveBack_15 : decode cX5_giveBack 15 = .ok (.aload_n 0, 1) := dk_42 (dk_at dksX5_giveBack_0 15 rfl rfl)
theorem dX5_giveBack_16 : decode cX5_giveBack 16 = .ok (.iload_n 3, 1) := dk_29 (dk_at dksX5_giveBack_0 16 rfl rfl)
theorem dX5_giveBack_17 : decode cX5_giveBack 17 = .ok (.invokevirtual 130, 3) := dk_182 0 130 (dk_at dksX5_giveBack_0 17 rfl rfl)
theorem dX5_giveBack_20 : decode cX5_giveBack 20 = .ok (.goto 13, 3) := dk_167 0 13 (dk_at dksX5_giveBack_0 20 rfl rfl)
theorem dX5_giveBack_23 : decode cX5_giveBack 23 = .ok (.aload_n 0, 1) := dk_42 (dk_at dksX5_giveBack_0 23 rfl rfl)
theorem dX5_giveBack_24 : decode cX5_giveBack 24 = .ok (.aload_n 0, 1) := dk_42 (dk_at dksX5_giveBack_1 0 rfl rfl)
theorem dX5_giveBack_25 : decode cX5_giveBack 25 = .ok (.iload_n 1, 1) := dk_27 (dk_at dksX5_giveBack_1 1 rfl rfl)
theorem dX5_giveBack_26 : decode cX5_giveBack 26 = .ok (.iload_n 2, 1) := dk_28 (dk_at dksX5_giveBack_1 2 rfl rfl)
theorem dX5_giveBack_27 : decode cX5_giveBack 27 = .ok (.invokevirtual 182, 3) := dk_182 0 182 (dk_at dksX5_giveBack_1 3 rfl rfl)
theorem dX5_giveBack_30 : decode cX5_giveBack 30 = .ok (.invokevirtual 136, 3) := dk_182 0 136 (dk_at dksX5_giveBack_1 6 rfl rfl)
theorem dX5_giveBack_33 : decode cX5_giveBack 33 = .ok (.ireturn, 1) := dk_172 (dk_at dksX5_giveBack_1 9 rfl rfl)
def dkwX5_cannotGive_2 : List UInt8 := [182, 0, 175, 154, 0, 7, 5, 167, 0, 4, 3, 172]
abbrev dktX5_cannotGive_2 : List UInt8 := dkwX5_cannotGive_2 ++ []
def dkwX5_cannotGive_1 : List UInt8 := [42, 29, 184, 0, 89, 182, 0, 172, 42, 28, 182, 0, 156, 160, 0, 16, 42, 29, 42, 28, 182, 0, 156]
abbrev dktX5_cannotGive_1 : List UInt8 := dkwX5_cannotGive_1 ++ dktX5_cannotGive_2
def dkwX5_cannotGive_0 : List UInt8 := [42, 27, 182, 0, 146, 155, 0, 11, 42, 28, 182, 0, 156, 156, 0, 5, 4, 172, 42, 27, 182, 0, 146, 62]
abbrev dktX5_cannotGive_0 : List UInt8 := dkwX5_cannotGive_0 ++ dktX5_cannotGive_1
theorem dksX5_cannotGive_0 : cX5_cannotGive.data.toList.drop 0 = dktX5_cannotGive_0 := by decide +kernel
theorem dksX5_cannotGive_1 : cX5_cannotGive.data.toList.drop 24 = dktX5_cannotGive_1 := dk_seg dksX5_cannotGive_0 24 rfl rfl
theorem dksX5_cannotGive_2 : cX5_cannotGive.data.toList.drop 47 = dktX5_cannotGive_2 := dk_seg dksX5_cannotGive_1 23 rfl rfl
theorem dX5_cannotGive_0 : decode cX5_cannotGive 0 = .ok (.aload_n 0, 1) := dk_42 (dk_at dksX5_cannotGive_0 0 rfl rfl)
theorem dX5_cannotGive_1 : decode cX5_cannotGive 1 = .ok (.iload_n 1, 1) := dk_27 (dk_at dksX5_cannotGive_0 1 rfl rfl)
theorem dX5_cannotGive_2 : decode cX5_cannotGive 2 = .ok (.invokevirtual 146, 3) := dk_182 0 146 (dk_at dksX5_cannotGive_0 2 rfl rfl)
theorem dX5_cannotGive_5 : decode cX5_cannotGive 5 = .ok (.ifCond .lt 11, 3) := dk_155 0 11 (dk_at dksX5_cannotGive_0 5 rfl rfl)
theorem dX5_cannotGive_8 : decode cX5_cannotGive 8 = .ok (.aload_n 0, 1) := dk_42 (dk_at dksX5_cannotGive_0 8 rfl rfl)
theorem dX5_cannotGive_9 : decode cX5_cannotGive 9 = .ok (.iload_n 2, 1) := dk_28 (dk_at dksX5_cannotGive_0 9 rfl rfl)
theorem dX5_cannotGive_10 : decode cX5_cannotGive 10 = .ok (.invokevirtual 156, 3) := dk_182 0 156 (dk_at dksX5_cannotGive_0 10 rfl rfl)
theorem dX5_cannotGive_13 : decode cX5_cannotGive 13 = .ok (.ifCond .ge 5, 3) := dk_156 0 5 (dk_at dksX5_cannotGive_0 13 rfl rfl)
theorem dX5_cannotGive_16 : decode cX5_cannotGive 16 = .ok (.iconst 1, 1) := dk_4 (dk_at dksX5_cannotGive_0 16 rfl rfl)
theorem dX5_cannotGive_17 : decode cX5_cannotGive 17 = .ok (.ireturn, 1) := dk_172 (dk_at dksX5_cannotGive_0 17 rfl rfl)
theorem dX5_cannotGive_18 : decode cX5_cannotGive 18 = .ok (.aload_n 0, 1) := dk_42 (dk_at dksX5_cannotGive_0 18 rfl rfl)
theorem dX5_cannotGive_19 : decode cX5_cannotGive 19 = .ok (.iload_n 1, 1) := dk_27 (dk_at dksX5_cannotGive_0 19 rfl rfl)
theorem dX5_cannotGive_20 : decode cX5_cannotGive 20 = .ok (.invokevirtual 146, 3) := dk_182 0 146 (dk_at dksX5_cannotGive_0 20 rfl rfl)
theorem dX5_cannotGive_23 : decode cX5_cannotGive 23 = .ok (.istore_n 3, 1) := dk_62 (dk_at dksX5_cannotGive_0 23 rfl rfl)
theorem dX5_cannotGive_24 : decode cX5_cannotGive 24 = .ok (.aload_n 0, 1) := dk_42 (dk_at dksX5_cannotGive_1 0 rfl rfl)
theorem dX5_cannotGive_25 : decode cX5_cannotGive 25 = .ok (.iload_n 3, 1) := dk_29 (dk_at dksX5_cannotGive_1 1 rfl rfl)
theorem dX5_cannotGive_26 : decode cX5_cannotGive 26 = .ok (.invokestatic 89, 3) := dk_184 0 89 (dk_at dksX5_cannotGive_1 2 rfl rfl)
theorem dX5_cannotGive_29 : decode cX5_cannotGive 29 = .ok (.invokevirtual 172, 3) := dk_182 0 172 (dk_at dksX5_cannotGive_1 5 rfl rfl)
theorem dX5_cannotGive_32 : decode cX5_cannotGive 32 = .ok (.aload_n 0, 1) := dk_42 (dk_at dksX5_cannotGive_1 8 rfl rfl)
theorem dX5_cannotGive_33 : decode cX5_cannotGive 33 = .ok (.iload_n 2, 1) := dk_28 (dk_at dksX5_cannotGive_1 9 rfl rfl)
theorem dX5_cannotGive_34 : decode cX5_cannotGive 34 = .ok (.invokevirtual 156, 3) := dk_182 0 156 (dk_at dksX5_cannotGive_1 10 rfl rfl)
theorem dX5_cannotGive_37 : decode cX5_cannotGive 37 = .ok (.if_icmp .ne 16, 3) := dk_160 0 16 (dk_at dksX5_cannotGive_1 13 rfl rfl)
theorem dX5_cannotGive_40 : decode cX5_cannotGive 40 = .ok (.aload_n 0, 1) := dk_42 (dk_at dksX5_cannotGive_1 16 rfl rfl)
theorem dX5_cannotGive_41 : decode cX5_cannotGive 41 = .ok (.iload_n 3, 1) := dk_29 (dk_at dksX5_cannotGive_1 17 rfl rfl)
theorem dX5_cannotGive_42 : decode cX5_cannotGive 42 = .ok (.aload_n 0, 1) := dk_42 (dk_at dksX5_cannotGive_1 18 rfl rfl)
theorem dX5_cannotGive_43 : decode cX5_cannotGive 43 = .ok (.iload_n 2, 1) := dk_28 (dk_at dksX5_cannotGive_1 19 rfl rfl)
theorem dX5_cannotGive_44 : decode cX5_cannotGive 44 = .ok (.invokevirtual 156, 3) := dk_182 0 156 (dk_at dksX5_cannotGive_1 20 rfl rfl)
theorem dX5_cannotGive_47 : decode cX5_cannotGive 47 = .ok (.invokevirtual 175, 3) := dk_182 0 175 (dk_at dksX5_cannotGive_2 0 rfl rfl)
theorem dX5_cannotGive_50 : decode cX5_cannotGive 50 = .ok (.ifCond .ne 7, 3) := dk_154 0 7 (dk_at dksX5_cannotGive_2 3 rfl rfl)
theorem dX5_cannotGive_53 : decode cX5_cannotGive 53 = .ok (.iconst 2, 1) := dk_5 (dk_at dksX5_cannotGive_2 6 rfl rfl)
theorem dX5_cannotGive_54 : decode cX5_cannotGive 54 = .ok (.goto 4, 3) := dk_167 0 4 (dk_at dksX5_cannotGive_2 7 rfl rfl)
theorem dX5_cannotGive_57 : decode cX5_cannotGive 57 = .ok (.iconst 0, 1) := dk_3 (dk_at dksX5_cannotGive_2 10 rfl rfl)
theorem dX5_cannotGive_58 : decode cX5_cannotGive 58 = .ok (.ireturn, 1) := dk_172 (dk_at dksX5_cannotGive_2 11 rfl rfl)
def dkwX5_nearestTo_2 : List UInt8 := [172]
abbrev dktX5_nearestTo_2 : List UInt8 := dkwX5_nearestTo_2 ++ []
def dkwX5_nearestTo_1 : List UInt8 := [182, 0, 106, 42, 27, 28, 184, 0, 85, 182, 0, 106, 162, 0, 5, 29, 61, 132, 3, 1, 167, 255, 216, 28]
abbrev dktX5_nearestTo_1 : List UInt8 := dkwX5_nearestTo_1 ++ dktX5_nearestTo_2
def dkwX5_nearestTo_0 : List UInt8 := [2, 61, 3, 62, 29, 42, 180, 0, 7, 3, 46, 162, 0, 36, 28, 155, 0, 24, 42, 27, 29, 184, 0, 85]
abbrev dktX5_nearestTo_0 : List UInt8 := dkwX5_nearestTo_0 ++ dktX5_nearestTo_1
theorem dksX5_nearestTo_0 : cX5_nearestTo.data.toList.drop 0 = dktX5_nearestTo_0 := by decide +kernel
theorem dksX5_nearestTo_1 : cX5_nearestTo.data.toList.drop 24 = dktX5_nearestTo_1 := dk_seg dksX5_nearestTo_0 24 rfl rfl
theorem dksX5_nearestTo_2 : cX5_nearestTo.data.toList.drop 48 = dktX5_nearestTo_2 := dk_seg dksX5_nearestTo_1 24 rfl rfl
theorem dX5_nearestTo_0 : decode cX5_nearestTo 0 = .ok (.iconst (-1), 1) := dk_2 (dk_at dksX5_nearestTo_0 0 rfl rfl)
theorem dX5_nearestTo_1 : decode cX5_nearestTo 1 = .ok (.istore_n 2, 1) := dk_61 (dk_at dksX5_nearestTo_0 1 rfl rfl)
theorem dX5_nearestTo_2 : decode cX5_nearestTo 2 = .ok (.iconst 0, 1) := dk_3 (dk_at dksX5_nearestTo_0 2 rfl rfl)
theorem dX5_nearestTo_3 : decode cX5_nearestTo 3 = .ok (.istore_n 3, 1) := dk_62 (dk_at dksX5_nearestTo_0 3 rfl rfl)
theorem dX5_nearestTo_4 : decode cX5_nearestTo 4 = .ok (.iload_n 3, 1) := dk_29 (dk_at dksX5_nearestTo_0 4 rfl rfl)
theorem dX5_nearestTo_5 : decode cX5_nearestTo 5 = .ok (.aload_n 0, 1) := dk_42 (dk_at dksX5_nearestTo_0 5 rfl rfl)
theorem dX5_nearestTo_6 : decode cX5_nearestTo 6 = .ok (.getfield 7, 3) := dk_180 0 7 (dk_at dksX5_nearestTo_0 6 rfl rfl)
theorem dX5_nearestTo_9 : decode cX5_nearestTo 9 = .ok (.iconst 0, 1) := dk_3 (dk_at dksX5_nearestTo_0 9 rfl rfl)
theorem dX5_nearestTo_10 : decode cX5_nearestTo 10 = .ok (.iaload, 1) := dk_46 (dk_at dksX5_nearestTo_0 10 rfl rfl)
theorem dX5_nearestTo_11 : decode cX5_nearestTo 11 = .ok (.if_icmp .ge 36, 3) := dk_162 0 36 (dk_at dksX5_nearestTo_0 11 rfl rfl)
theorem dX5_nearestTo_14 : decode cX5_nearestTo 14 = .ok (.iload_n 2, 1) := dk_28 (dk_at dksX5_nearestTo_0 14 rfl rfl)
theorem dX5_nearestTo_15 : decode cX5_nearestTo 15 = .ok (.ifCond .lt 24, 3) := dk_155 0 24 (dk_at dksX5_nearestTo_0 15 rfl rfl)
theorem dX5_nearestTo_18 : decode cX5_nearestTo 18 = .ok (.aload_n 0, 1) := dk_42 (dk_at dksX5_nearestTo_0 18 rfl rfl)
theorem dX5_nearestTo_19 : decode cX5_nearestTo 19 = .ok (.iload_n 1, 1) := dk_27 (dk_at dksX5_nearestTo_0 19 rfl rfl)
theorem dX5_nearestTo_20 : decode cX5_nearestTo 20 = .ok (.iload_n 3, 1) := dk_29 (dk_at dksX5_nearestTo_0 20 rfl rfl)
theorem dX5_nearestTo_21 : decode cX5_nearestTo 21 = .ok (.invokestatic 85, 3) := dk_184 0 85 (dk_at dksX5_nearestTo_0 21 rfl rfl)
theorem dX5_nearestTo_24 : decode cX5_nearestTo 24 = .ok (.invokevirtual 106, 3) := dk_182 0 106 (dk_at dksX5_nearestTo_1 0 rfl rfl)
theorem dX5_nearestTo_27 : decode cX5_nearestTo 27 = .ok (.aload_n 0, 1) := dk_42 (dk_at dksX5_nearestTo_1 3 rfl rfl)
theorem dX5_nearestTo_28 : decode cX5_nearestTo 28 = .ok (.iload_n 1, 1) := dk_27 (dk_at dksX5_nearestTo_1 4 rfl rfl)
theorem dX5_nearestTo_29 : decode cX5_nearestTo 29 = .ok (.iload_n 2, 1) := dk_28 (dk_at dksX5_nearestTo_1 5 rfl rfl)
theorem dX5_nearestTo_30 : decode cX5_nearestTo 30 = .ok (.invokestatic 85, 3) := dk_184 0 85 (dk_at dksX5_nearestTo_1 6 rfl rfl)
theorem dX5_nearestTo_33 : decode cX5_nearestTo 33 = .ok (.invokevirtual 106, 3) := dk_182 0 106 (dk_at dksX5_nearestTo_1 9 rfl rfl)
theorem dX5_nearestTo_36 : decode cX5_nearestTo 36 = .ok (.if_icmp .ge 5, 3) := dk_162 0 5 (dk_at dksX5_nearestTo_1 12 rfl rfl)
theorem dX5_nearestTo_39 : decode cX5_nearestTo 39 = .ok (.iload_n 3, 1) := dk_29 (dk_at dksX5_nearestTo_1 15 rfl rfl)
theorem dX5_nearestTo_40 : decode cX5_nearestTo 40 = .ok (.istore_n 2, 1) := dk_61 (dk_at dksX5_nearestTo_1 16 rfl rfl)
theorem dX5_nearestTo_41 : decode cX5_nearestTo 41 = .ok (.iinc 3 1, 3) := dk_132 3 1 (dk_at dksX5_nearestTo_1 17 rfl rfl)
theorem dX5_nearestTo_44 : decode cX5_nearestTo 44 = .ok (.goto (-40), 3) := dk_167 255 216 (dk_at dksX5_nearestTo_1 20 rfl rfl)
theorem dX5_nearestTo_47 : decode cX5_nearestTo 47 = .ok (.iload_n 2, 1) := dk_28 (dk_at dksX5_nearestTo_1 23 rfl rfl)
theorem dX5_nearestTo_48 : decode cX5_nearestTo 48 = .ok (.ireturn, 1) := dk_172 (dk_at dksX5_nearestTo_2 0 rfl rfl)
def dkwX5_apart_6 : List UInt8 := [21, 5, 172]
abbrev dktX5_apart_6 : List UInt8 := dkwX5_apart_6 ++ []
def dkwX5_apart_5 : List UInt8 := [164, 0, 7, 29, 167, 0, 5, 21, 4, 54, 6, 21, 6, 21, 5, 164, 0, 8, 21, 6, 167, 0, 5]
abbrev dktX5_apart_5 : List UInt8 := dkwX5_apart_5 ++ dktX5_apart_6
def dkwX5_apart_4 : List UInt8 := [16, 115, 160, 0, 19, 29, 29, 104, 21, 4, 21, 4, 104, 96, 21, 5, 21, 5, 104, 96, 172, 29, 21, 4]
abbrev dktX5_apart_4 : List UInt8 := dkwX5_apart_4 ++ dktX5_apart_5
def dkwX5_apart_3 : List UInt8 := [180, 0, 7, 8, 46, 16, 109, 160, 0, 11, 29, 21, 4, 96, 21, 5, 96, 172, 42, 180, 0, 7, 8, 46]
abbrev dktX5_apart_3 : List UInt8 := dkwX5_apart_3 ++ dktX5_apart_4
def dkwX5_apart_2 : List UInt8 := [180, 0, 7, 27, 6, 96, 46, 42, 180, 0, 7, 28, 6, 96, 46, 100, 184, 0, 103, 54, 5, 42]
abbrev dktX5_apart_2 : List UInt8 := dkwX5_apart_2 ++ dktX5_apart_3
def dkwX5_apart_1 : List UInt8 := [180, 0, 7, 27, 5, 96, 46, 42, 180, 0, 7, 28, 5, 96, 46, 100, 184, 0, 103, 54, 4, 42]
abbrev dktX5_apart_1 : List UInt8 := dkwX5_apart_1 ++ dktX5_apart_2
def dkwX5_apart_0 : List UInt8 := [42, 180, 0, 7, 27, 4, 96, 46, 42, 180, 0, 7, 28, 4, 96, 46, 100, 184, 0, 103, 62, 42]
abbrev dktX5_apart_0 : List UInt8 := dkwX5_apart_0 ++ dktX5_apart_1
theorem dksX5_apart_0 : cX5_apart.data.toList.drop 0 = dktX5_apart_0 := by decide +kernel
theorem dksX5_apart_1 : cX5_apart.data.toList.drop 22 = dktX5_apart_1 := dk_seg dksX5_apart_0 22 rfl rfl
theorem dksX5_apart_2 : cX5_apart.data.toList.drop 44 = dktX5_apart_2 := dk_seg dksX5_apart_1 22 rfl rfl
theorem dksX5_apart_3 : cX5_apart.data.toList.drop 66 = dktX5_apart_3 := dk_seg dksX5_apart_2 22 rfl rfl
theorem dksX5_apart_4 : cX5_apart.data.toList.drop 90 = dktX5_apart_4 := dk_seg dksX5_apart_3 24 rfl rfl
theorem dksX5_apart_5 : cX5_apart.data.toList.drop 114 = dktX5_apart_5 := dk_seg dksX5_apart_4 24 rfl rfl
theorem dksX5_apart_6 : cX5_apart.data.toList.drop 137 = dktX5_apart_6 := dk_seg dksX5_apart_5 23 rfl rfl
theorem dX5_apart_0 : decode cX5_apart 0 = .ok (.aload_n 0, 1) := dk_42 (dk_at dksX5_apart_0 0 rfl rfl)
theorem dX5_apart_1 : decode cX5_apart 1 = .ok (.getfield 7, 3) := dk_180 0 7 (dk_at dksX5_apart_0 1 rfl rfl)
theorem dX5_apart_4 : decode cX5_apart 4 = .ok (.iload_n 1, 1) := dk_27 (dk_at dksX5_apart_0 4 rfl rfl)
theorem dX5_apart_5 : decode cX5_apart 5 = .ok (.iconst 1, 1) := dk_4 (dk_at dksX5_apart_0 5 rfl rfl)
theorem dX5_apart_6 : decode cX5_apart 6 = .ok (.iadd, 1) := dk_96 (dk_at dksX5_apart_0 6 rfl rfl)
theorem dX5_apart_7 : decode cX5_apart 7 = .ok (.iaload, 1) := dk_46 (dk_at dksX5_apart_0 7 rfl rfl)
theorem dX5_apart_8 : decode cX5_apart 8 = .ok (.aload_n 0, 1) := dk_42 (dk_at dksX5_apart_0 8 rfl rfl)
theorem dX5_apart_9 : decode cX5_apart 9 = .ok (.getfield 7, 3) := dk_180 0 7 (dk_at dksX5_apart_0 9 rfl rfl)
theorem dX5_apart_12 : decode cX5_apart 12 = .ok (.iload_n 2, 1) := dk_28 (dk_at dksX5_apart_0 12 rfl rfl)
theorem dX5_apart_13 : decode cX5_apart 13 = .ok (.iconst 1, 1) := dk_4 (dk_at dksX5_apart_0 13 rfl rfl)
theorem dX5_apart_14 : decode cX5_apart 14 = .ok (.iadd, 1) := dk_96 (dk_at dksX5_apart_0 14 rfl rfl)
theorem dX5_apart_15 : decode cX5_apart 15 = .ok (.iaload, 1) := dk_46 (dk_at dksX5_apart_0 15 rfl rfl)
theorem dX5_apart_16 : decode cX5_apart 16 = .ok (.isub, 1) := dk_100 (dk_at dksX5_apart_0 16 rfl rfl)
theorem dX5_apart_17 : decode cX5_apart 17 = .ok (.invokestatic 103, 3) := dk_184 0 103 (dk_at dksX5_apart_0 17 rfl rfl)
theorem dX5_apart_20 : decode cX5_apart 20 = .ok (.istore_n 3, 1) := dk_62 (dk_at dksX5_apart_0 20 rfl rfl)
theorem dX5_apart_21 : decode cX5_apart 21 = .ok (.aload_n 0, 1) := dk_42 (dk_at dksX5_apart_0 21 rfl rfl)
theorem dX5_apart_22 : decode cX5_apart 22 = .ok (.getfield 7, 3) := dk_180 0 7 (dk_at dksX5_apart_1 0 rfl rfl)
theorem dX5_apart_25 : decode cX5_apart 25 = .ok (.iload_n 1, 1) := dk_27 (dk_at dksX5_apart_1 3 rfl rfl)
theorem dX5_apart_26 : decode cX5_apart 26 = .ok (.iconst 2, 1) := dk_5 (dk_at dksX5_apart_1 4 rfl rfl)
theorem dX5_apart_27 : decode cX5_apart 27 = .ok (.iadd, 1) := dk_96 (dk_at dksX5_apart_1 5 rfl rfl)
theorem dX5_apart_28 : decode cX5_apart 28 = .ok (.iaload, 1) := dk_46 (dk_at dksX5_apart_1 6 rfl rfl)
theorem dX5_apart_29 : decode cX5_apart 29 = .ok (.aload_n 0, 1) := dk_42 (dk_at dksX5_apart_1 7 rfl rfl)
theorem dX5_apart_30 : decode cX5_apart 30 = .ok (.getfield 7, 3) := dk_180 0 7 (dk_at dksX5_apart_1 8 rfl rfl)
theorem dX5_apart_33 : decode cX5_apart 33 = .ok (.iload_n 2, 1) := dk_28 (dk_at dksX5_apart_1 11 rfl rfl)
theorem dX5_apart_34 : decode cX5_apart 34 = .ok (.iconst 2, 1) := dk_5 (dk_at dksX5_apart_1 12 rfl rfl)
theorem dX5_apart_35 : decode cX5_apart 35 = .ok (.iadd, 1) := dk_96 (dk_at dksX5_apart_1 13 rfl rfl)
theorem dX5_apart_36 : decode cX5_apart 36 = .ok (.iaload, 1) := dk_46 (dk_at dksX5_apart_1 14 rfl rfl)
theorem dX5_apart_37 : decode cX5_apart 37 = .ok (.isub, 1) := dk_100 (dk_at dksX5_apart_1 15 rfl rfl)
theorem dX5_apart_38 : decode cX5_apart 38 = .ok (.invokestatic 103, 3) := dk_184 0 103 (dk_at dksX5_apart_1 16 rfl rfl)
theorem dX5_apart_41 : decode cX5_apart 41 = .ok (.istore 4, 2) := dk_54 4 (dk_at dksX5_apart_1 19 rfl rfl)
theorem dX5_apart_43 : decode cX5_apart 43 = .ok (.aload_n 0, 1) := dk_42 (dk_at dksX5_apart_1 21 rfl rfl)
theorem dX5_apart_44 : decode cX5_apart 44 = .ok (.getfield 7, 3) := dk_180 0 7 (dk_at dksX5_apart_2 0 rfl rfl)
theorem dX5_apart_47 : decode cX5_apart 47 = .ok (.iload_n 1, 1) := dk_27 (dk_at dksX5_apart_2 3 rfl rfl)
theorem dX5_apart_48 : decode cX5_apart 48 = .ok (.iconst 3, 1) := dk_6 (dk_at dksX5_apart_2 4 rfl rfl)
theorem dX5_apart_49 : decode cX5_apart 49 = .ok (.iadd, 1) := dk_96 (dk_at dksX5_apart_2 5 rfl rfl)
theorem dX5_apart_50 : decode cX5_apart 50 = .ok (.iaload, 1) := dk_46 (dk_at dksX5_apart_2 6 rfl rfl)
theorem dX5_apart_51 : decode cX5_apart 51 = .ok (.aload_n 0, 1) := dk_42 (dk_at dksX5_apart_2 7 rfl rfl)
theorem dX5_apart_52 : decode cX5_apart 52 = .ok (.getfield 7, 3) := dk_180 0 7 (dk_at dksX5_apart_2 8 rfl rfl)
theorem dX5_apart_55 : decode cX5_apart 55 = .ok (.iload_n 2, 1) := dk_28 (dk_at dksX5_apart_2 11 rfl rfl)
theorem dX5_apart_56 : decode cX5_apart 56 = .ok (.iconst 3, 1) := dk_6 (dk_at dksX5_apart_2 12 rfl rfl)
theorem dX5_apart_57 : decode cX5_apart 57 = .ok (.iadd, 1) := dk_96 (dk_at dksX5_apart_2 13 rfl rfl)
theorem dX5_apart_58 : decode cX5_apart 58 = .ok (.iaload, 1) := dk_46 (dk_at dksX5_apart_2 14 rfl rfl)
theorem dX5_apart_59 : decode cX5_apart 59 = .ok (.isub, 1) := dk_100 (dk_at dksX5_apart_2 15 rfl rfl)
theorem dX5_apart_60 : decode cX5_apart 60 = .ok (.invokestatic 103, 3) := dk_184 0 103 (dk_at dksX5_apart_2 16 rfl rfl)
theorem dX5_apart_63 : decode cX5_apart 63 = .ok (.istore 5, 2) := dk_54 5 (dk_at dksX5_apart_2 19 rfl rfl)
theorem dX5_apart_65 : decode cX5_apart 65 = .ok (.aload_n 0, 1) := dk_42 (dk_at dksX5_apart_2 21 rfl rfl)
theorem dX5_apart_66 : decode cX5_apart 66 = .ok (.getfield 7, 3) := dk_180 0 7 (dk_at dksX5_apart_3 0 rfl rfl)
theorem dX5_apart_69 : decode cX5_apart 69 = .ok (.iconst 5, 1) := dk_8 (dk_at dksX5_apart_3 3 rfl rfl)
theorem dX5_apart_70 : decode cX5_apart 70 = .ok (.iaload, 1) := dk_46 (dk_at dksX5_apart_3 4 rfl rfl)
theorem dX5_apart_71 : decode cX5_apart 71 = .ok (.bipush 109, 2) := dk_16 109 (dk_at dksX5_apart_3 5 rfl rfl)
theorem dX5_apart_73 : decode cX5_apart 73 = .ok (.if_icmp .ne 11, 3) := dk_160 0 11 (dk_at dksX5_apart_3 7 rfl rfl)
theorem dX5_apart_76 : decode cX5_apart 76 = .ok (.iload_n 3, 1) := dk_29 (dk_at dksX5_apart_3 10 rfl rfl)
theorem dX5_apart_77 : decode cX5_apart 77 = .ok (.iload 4, 2) := dk_21 4 (dk_at dksX5_apart_3 11 rfl rfl)
theorem dX5_apart_79 : decode cX5_apart 79 = .ok (.iadd, 1) := dk_96 (dk_at dksX5_apart_3 13 rfl rfl)
theorem dX5_apart_80 : decode cX5_apart 80 = .ok (.iload 5, 2) := dk_21 5 (dk_at dksX5_apart_3 14 rfl rfl)
theorem dX5_apart_82 : decode cX5_apart 82 = .ok (.iadd, 1) := dk_96 (dk_at dksX5_apart_3 16 rfl rfl)
theorem dX5_apart_83 : decode cX5_apart 83 = .ok (.ireturn, 1) := dk_172 (dk_at dksX5_apart_3 17 rfl rfl)
theorem dX5_apart_84 : decode cX5_apart 84 = .ok (.aload_n 0, 1) := dk_42 (dk_at dksX5_apart_3 18 rfl rfl)
theorem dX5_apart_85 : decode cX5_apart 85 = .ok (.getfield 7, 3) := dk_180 0 7 (dk_at dksX5_apart_3 19 rfl rfl)
theorem dX5_apart_88 : decode cX5_apart 88 = .ok (.iconst 5, 1) := dk_8 (dk_at dksX5_apart_3 22 rfl rfl)
theorem dX5_apart_89 : decode cX5_apart 89 = .ok (.iaload, 1) := dk_46 (dk_at dksX5_apart_3 23 rfl rfl)
theorem dX5_apart_90 : decode cX5_apart 90 = .ok (.bipush 115, 2) := dk_16 115 (dk_at dksX5_apart_4 0 rfl rfl)
theorem dX5_apart_92 : decode cX5_apart 92 = .ok (.if_icmp .ne 19, 3) := dk_160 0 19 (dk_at dksX5_apart_4 2 rfl rfl)
theorem dX5_apart_95 : decode cX5_apart 95 = .ok (.iload_n 3, 1) := dk_29 (dk_at dksX5_apart_4 5 rfl rfl)
theorem dX5_apart_96 : decode cX5_apart 96 = .ok (.iload_n 3, 1) := dk_29 (dk_at dksX5_apart_4 6 rfl rfl)
theorem dX5_apart_97 : decode cX5_apart 97 = .ok (.imul, 1) := dk_104 (dk_at dksX5_apart_4 7 rfl rfl)
theorem dX5_apart_98 : decode cX5_apart 98 = .ok (.iload 4, 2) := dk_21 4 (dk_at dksX5_apart_4 8 rfl rfl)
theorem dX5_apart_100 : decode cX5_apart 100 = .ok (.iload 4, 2) := dk_21 4 (dk_at dksX5_apart_4 10 rfl rfl)
theorem dX5_apart_102 : decode cX5_apart 102 = .ok (.imul, 1) := dk_104 (dk_at dksX5_apart_4 12 rfl rfl)
theorem dX5_apart_103 : decode cX5_apart 103 = .ok (.iadd, 1) := dk_96 (dk_at dksX5_apart_4 13 rfl rfl)
theorem dX5_apart_104 : decode cX5_apart 104 = .ok (.iload 5, 2) := dk_21 5 (dk_at dksX5_apart_4 14 rfl rfl)
theorem dX5_apart_106 : decode cX5_apart 106 = .ok (.iload 5, 2) := dk_21 5 (dk_at dksX5_apart_4 16 rfl rfl)
theorem dX5_apart_108 : decode cX5_apart 108 = .ok (.imul, 1) := dk_104 (dk_at dksX5_apart_4 18 rfl rfl)
theorem dX5_apart_109 : decode cX5_apart 109 = .ok (.iadd, 1) := dk_96 (dk_at dksX5_apart_4 19 rfl rfl)
theorem dX5_apart_110 : decode cX5_apart 110 = .ok (.ireturn, 1) := dk_172 (dk_at dksX5_apart_4 20 rfl rfl)
theorem dX5_apart_111 : decode cX5_apart 111 = .ok (.iload_n 3, 1) := dk_29 (dk_at dksX5_apart_4 21 rfl rfl)
theorem dX5_apart_112 : decode cX5_apart 112 = .ok (.iload 4, 2) := dk_21 4 (dk_at dksX5_apart_4 22 rfl rfl)
theorem dX5_apart_114 : decode cX5_apart 114 = .ok (.if_icmp .le 7, 3) := dk_164 0 7 (dk_at dksX5_apart_5 0 rfl rfl)
theorem dX5_apart_117 : decode cX5_apart 117 = .ok (.iload_n 3, 1) := dk_29 (dk_at dksX5_apart_5 3 rfl rfl)
theorem dX5_apart_118 : decode cX5_apart 118 = .ok (.goto 5, 3) := dk_167 0 5 (dk_at dksX5_apart_5 4 rfl rfl)
theorem dX5_apart_121 : decode cX5_apart 121 = .ok (.iload 4, 2) := dk_21 4 (dk_at dksX5_apart_5 7 rfl rfl)
theorem dX5_apart_123 : decode cX5_apart 123 = .ok (.istore 6, 2) := dk_54 6 (dk_at dksX5_apart_5 9 rfl rfl)
theorem dX5_apart_125 : decode cX5_apart 125 = .ok (.iload 6, 2) := dk_21 6 (dk_at dksX5_apart_5 11 rfl rfl)
theorem dX5_apart_127 : decode cX5_apart 127 = .ok (.iload 5, 2) := dk_21 5 (dk_at dksX5_apart_5 13 rfl rfl)
theorem dX5_apart_129 : decode cX5_apart 129 = .ok (.if_icmp .le 8, 3) := dk_164 0 8 (dk_at dksX5_apart_5 15 rfl rfl)
theorem dX5_apart_132 : decode cX5_apart 132 = .ok (.iload 6, 2) := dk_21 6 (dk_at dksX5_apart_5 18 rfl rfl)
theorem dX5_apart_134 : decode cX5_apart 134 = .ok (.goto 5, 3) := dk_167 0 5 (dk_at dksX5_apart_5 20 rfl rfl)
theorem dX5_apart_137 : decode cX5_apart 137 = .ok (.iload 5, 2) := dk_21 5 (dk_at dksX5_apart_6 0 rfl rfl)
theorem dX5_apart_139 : decode cX5_apart 139 = .ok (.ireturn, 1) := dk_172 (dk_at dksX5_apart_6 2 rfl rfl)
def dkwX5_size_0 : List UInt8 := [26, 156, 0, 8, 26, 116, 167, 0, 4, 26, 172]
abbrev dktX5_size_0 : List UInt8 := dkwX5_size_0 ++ []
theorem dksX5_size_0 : cX5_size.data.toList.drop 0 = dktX5_size_0 := by decide +kernel
theorem dX5_size_0 : decode cX5_size 0 = .ok (.iload_n 0, 1) := dk_26 (dk_at dksX5_size_0 0 rfl rfl)
theorem dX5_size_1 : decode cX5_size 1 = .ok (.ifCond .ge 8, 3) := dk_156 0 8 (dk_at dksX5_size_0 1 rfl rfl)
theorem dX5_size_4 : decode cX5_size 4 = .ok (.iload_n 0, 1) := dk_26 (dk_at dksX5_size_0 4 rfl rfl)
theorem dX5_size_5 : decode cX5_size 5 = .ok (.ineg, 1) := dk_116 (dk_at dksX5_size_0 5 rfl rfl)
theorem dX5_size_6 : decode cX5_size 6 = .ok (.goto 4, 3) := dk_167 0 4 (dk_at dksX5_size_0 6 rfl rfl)
theorem dX5_size_9 : decode cX5_size 9 = .ok (.iload_n 0, 1) := dk_26 (dk_at dksX5_size_0 9 rfl rfl)
theorem dX5_size_10 : decode cX5_size 10 = .ok (.ireturn, 1) := dk_172 (dk_at dksX5_size_0 10 rfl rfl)
def dkwX5_isFit_0 : List UInt8 := [42, 27, 28, 182, 0, 109, 42, 27, 7, 182, 0, 96, 163, 0, 7, 4, 167, 0, 4, 3, 172]
abbrev dktX5_isFit_0 : List UInt8 := dkwX5_isFit_0 ++ []
theorem dksX5_isFit_0 : cX5_isFit.data.toList.drop 0 = dktX5_isFit_0 := by decide +kernel
theorem dX5_isFit_0 : decode cX5_isFit 0 = .ok (.aload_n 0, 1) := dk_42 (dk_at dksX5_isFit_0 0 rfl rfl)
theorem dX5_isFit_1 : decode cX5_isFit 1 = .ok (.iload_n 1, 1) := dk_27 (dk_at dksX5_isFit_0 1 rfl rfl)
theorem dX5_isFit_2 : decode cX5_isFit 2 = .ok (.iload_n 2, 1) := dk_28 (dk_at dksX5_isFit_0 2 rfl rfl)
theorem dX5_isFit_3 : decode cX5_isFit 3 = .ok (.invokevirtual 109, 3) := dk_182 0 109 (dk_at dksX5_isFit_0 3 rfl rfl)
theorem dX5_isFit_6 : decode cX5_isFit 6 = .ok (.aload_n 0, 1) := dk_42 (dk_at dksX5_isFit_0 6 rfl rfl)
theorem dX5_isFit_7 : decode cX5_isFit 7 = .ok (.iload_n 1, 1) := dk_27 (dk_at dksX5_isFit_0 7 rfl rfl)
theorem dX5_isFit_8 : decode cX5_isFit 8 = .ok (.iconst 4, 1) := dk_7 (dk_at dksX5_isFit_0 8 rfl rfl)
theorem dX5_isFit_9 : decode cX5_isFit 9 = .ok (.invokevirtual 96, 3) := dk_182 0 96 (dk_at dksX5_isFit_0 9 rfl rfl)
theorem dX5_isFit_12 : decode cX5_isFit 12 = .ok (.if_icmp .gt 7, 3) := dk_163 0 7 (dk_at dksX5_isFit_0 12 rfl rfl)
theorem dX5_isFit_15 : decode cX5_isFit 15 = .ok (.iconst 1, 1) := dk_4 (dk_at dksX5_isFit_0 15 rfl rfl)
theorem dX5_isFit_16 : decode cX5_isFit 16 = .ok (.goto 4, 3) := dk_167 0 4 (dk_at dksX5_isFit_0 16 rfl rfl)
theorem dX5_isFit_19 : decode cX5_isFit 19 = .ok (.iconst 0, 1) := dk_3 (dk_at dksX5_isFit_0 19 rfl rfl)
theorem dX5_isFit_20 : decode cX5_isFit 20 = .ok (.ireturn, 1) := dk_172 (dk_at dksX5_isFit_0 20 rfl rfl)
def dkwX5_apartFor_0 : List UInt8 := [42, 27, 184, 0, 89, 28, 184, 0, 85, 182, 0, 106, 172]
abbrev dktX5_apartFor_0 : List UInt8 := dkwX5_apartFor_0 ++ []
theorem dksX5_apartFor_0 : cX5_apartFor.data.toList.drop 0 = dktX5_apartFor_0 := by decide +kernel
theorem dX5_apartFor_0 : decode cX5_apartFor 0 = .ok (.aload_n 0, 1) := dk_42 (dk_at dksX5_apartFor_0 0 rfl rfl)
theorem dX5_apartFor_1 : decode cX5_apartFor 1 = .ok (.iload_n 1, 1) := dk_27 (dk_at dksX5_apartFor_0 1 rfl rfl)
theorem dX5_apartFor_2 : decode cX5_apartFor 2 = .ok (.invokestatic 89, 3) := dk_184 0 89 (dk_at dksX5_apartFor_0 2 rfl rfl)
theorem dX5_apartFor_5 : decode cX5_apartFor 5 = .ok (.iload_n 2, 1) := dk_28 (dk_at dksX5_apartFor_0 5 rfl rfl)
theorem dX5_apartFor_6 : decode cX5_apartFor 6 = .ok (.invokestatic 85, 3) := dk_184 0 85 (dk_at dksX5_apartFor_0 6 rfl rfl)
theorem dX5_apartFor_9 : decode cX5_apartFor 9 = .ok (.invokevirtual 106, 3) := dk_182 0 106 (dk_at dksX5_apartFor_0 9 rfl rfl)
theorem dX5_apartFor_12 : decode cX5_apartFor 12 = .ok (.ireturn, 1) := dk_172 (dk_at dksX5_apartFor_0 12 rfl rfl)
def dkwX5_gives_2 : List UInt8 := [92, 46, 4, 96, 79, 21, 4, 172]
abbrev dktX5_gives_2 : List UInt8 := dkwX5_gives_2 ++ []
def dkwX5_gives_1 : List UInt8 := [182, 0, 156, 182, 0, 159, 42, 180, 0, 7, 16, 6, 92, 46, 21, 4, 96, 79, 42, 180, 0, 7, 16, 7]
abbrev dktX5_gives_1 : List UInt8 := dkwX5_gives_1 ++ dktX5_gives_2
def dkwX5_gives_0 : List UInt8 := [42, 27, 182, 0, 146, 62, 42, 29, 8, 182, 0, 96, 54, 4, 42, 29, 182, 0, 149, 42, 42, 28]
abbrev dktX5_gives_0 : List UInt8 := dkwX5_gives_0 ++ dktX5_gives_1
theorem dksX5_gives_0 : cX5_gives.data.toList.drop 0 = dktX5_gives_0 := by decide +kernel
theorem dksX5_gives_1 : cX5_gives.data.toList.drop 22 = dktX5_gives_1 := dk_seg dksX5_gives_0 22 rfl rfl
theorem dksX5_gives_2 : cX5_gives.data.toList.drop 46 = dktX5_gives_2 := dk_seg dksX5_gives_1 24 rfl rfl
theorem dX5_gives_0 : decode cX5_gives 0 = .ok (.aload_n 0, 1) := dk_42 (dk_at dksX5_gives_0 0 rfl rfl)
theorem dX5_gives_1 : decode cX5_gives 1 = .ok (.iload_n 1, 1) := dk_27 (dk_at dksX5_gives_0 1 rfl rfl)
theorem dX5_gives_2 : decode cX5_gives 2 = .ok (.invokevirtual 146, 3) := dk_182 0 146 (dk_at dksX5_gives_0 2 rfl rfl)
theorem dX5_gives_5 : decode cX5_gives 5 = .ok (.istore_n 3, 1) := dk_62 (dk_at dksX5_gives_0 5 rfl rfl)
theorem dX5_gives_6 : decode cX5_gives 6 = .ok (.aload_n 0, 1) := dk_42 (dk_at dksX5_gives_0 6 rfl rfl)
theorem dX5_gives_7 : decode cX5_gives 7 = .ok (.iload_n 3, 1) := dk_29 (dk_at dksX5_gives_0 7 rfl rfl)
theorem dX5_gives_8 : decode cX5_gives 8 = .ok (.iconst 5, 1) := dk_8 (dk_at dksX5_gives_0 8 rfl rfl)
theorem dX5_gives_9 : decode cX5_gives 9 = .ok (.invokevirtual 96, 3) := dk_182 0 96 (dk_at dksX5_gives_0 9 rfl rfl)
theorem dX5_gives_12 : decode cX5_gives 12 = .ok (.istore 4, 2) := dk_54 4 (dk_at dksX5_gives_0 12 rfl rfl)
theorem dX5_gives_14 : decode cX5_gives 14 = .ok (.aload_n 0, 1) := dk_42 (dk_at dksX5_gives_0 14 rfl rfl)
theorem dX5_gives_15 : decode cX5_gives 15 = .ok (.iload_n 3, 1) := dk_29 (dk_at dksX5_gives_0 15 rfl rfl)
theorem dX5_gives_16 : decode cX5_gives 16 = .ok (.invokevirtual 149, 3) := dk_182 0 149 (dk_at dksX5_gives_0 16 rfl rfl)
theorem dX5_gives_19 : decode cX5_gives 19 = .ok (.aload_n 0, 1) := dk_42 (dk_at dksX5_gives_0 19 rfl rfl)
theorem dX5_gives_20 : decode cX5_gives 20 = .ok (.aload_n 0, 1) := dk_42 (dk_at dksX5_gives_0 20 rfl rfl)
theorem dX5_gives_21 : decode cX5_gives 21 = .ok (.iload_n 2, 1) := dk_28 (dk_at dksX5_gives_0 21 rfl rfl)
theorem dX5_gives_22 : decode cX5_gives 22 = .ok (.invokevirtual 156, 3) := dk_182 0 156 (dk_at dksX5_gives_1 0 rfl rfl)
theorem dX5_gives_25 : decode cX5_gives 25 = .ok (.invokevirtual 159, 3) := dk_182 0 159 (dk_at dksX5_gives_1 3 rfl rfl)
theorem dX5_gives_28 : decode cX5_gives 28 = .ok (.aload_n 0, 1) := dk_42 (dk_at dksX5_gives_1 6 rfl rfl)
theorem dX5_gives_29 : decode cX5_gives 29 = .ok (.getfield 7, 3) := dk_180 0 7 (dk_at dksX5_gives_1 7 rfl rfl)
theorem dX5_gives_32 : decode cX5_gives 32 = .ok (.bipush 6, 2) := dk_16 6 (dk_at dksX5_gives_1 10 rfl rfl)
theorem dX5_gives_34 : decode cX5_gives 34 = .ok (.dup2, 1) := dk_92 (dk_at dksX5_gives_1 12 rfl rfl)
theorem dX5_gives_35 : decode cX5_gives 35 = .ok (.iaload, 1) := dk_46 (dk_at dksX5_gives_1 13 rfl rfl)
theorem dX5_gives_36 : decode cX5_gives 36 = .ok (.iload 4, 2) := dk_21 4 (dk_at dksX5_gives_1 14 rfl rfl)
theorem dX5_gives_38 : decode cX5_gives 38 = .ok (.iadd, 1) := dk_96 (dk_at dksX5_gives_1 16 rfl rfl)
theorem dX5_gives_39 : decode cX5_gives 39 = .ok (.iastore, 1) := dk_79 (dk_at dksX5_gives_1 17 rfl rfl)
theorem dX5_gives_40 : decode cX5_gives 40 = .ok (.aload_n 0, 1) := dk_42 (dk_at dksX5_gives_1 18 rfl rfl)
theorem dX5_gives_41 : decode cX5_gives 41 = .ok (.getfield 7, 3) := dk_180 0 7 (dk_at dksX5_gives_1 19 rfl rfl)
theorem dX5_gives_44 : decode cX5_gives 44 = .ok (.bipush 7, 2) := dk_16 7 (dk_at dksX5_gives_1 22 rfl rfl)
theorem dX5_gives_46 : decode cX5_gives 46 = .ok (.dup2, 1) := dk_92 (dk_at dksX5_gives_2 0 rfl rfl)
theorem dX5_gives_47 : decode cX5_gives 47 = .ok (.iaload, 1) := dk_46 (dk_at dksX5_gives_2 1 rfl rfl)
theorem dX5_gives_48 : decode cX5_gives 48 = .ok (.iconst 1, 1) := dk_4 (dk_at dksX5_gives_2 2 rfl rfl)
theorem dX5_gives_49 : decode cX5_gives 49 = .ok (.iadd, 1) := dk_96 (dk_at dksX5_gives_2 3 rfl rfl)
theorem dX5_gives_50 : decode cX5_gives 50 = .ok (.iastore, 1) := dk_79 (dk_at dksX5_gives_2 4 rfl rfl)
theorem dX5_gives_51 : decode cX5_gives 51 = .ok (.iload 4, 2) := dk_21 4 (dk_at dksX5_gives_2 5 rfl rfl)
theorem dX5_gives_53 : decode cX5_gives 53 = .ok (.ireturn, 1) := dk_172 (dk_at dksX5_gives_2 7 rfl rfl)
def dkwX5_settle_0 : List UInt8 := [42, 182, 0, 123, 42, 42, 182, 0, 185, 182, 0, 136, 172]
abbrev dktX5_settle_0 : List UInt8 := dkwX5_settle_0 ++ []
theorem dksX5_settle_0 : cX5_settle.data.toList.drop 0 = dktX5_settle_0 := by decide +kernel
theorem dX5_settle_0 : decode cX5_settle 0 = .ok (.aload_n 0, 1) := dk_42 (dk_at dksX5_settle_0 0 rfl rfl)
theorem dX5_settle_1 : decode cX5_settle 1 = .ok (.invokevirtual 123, 3) := dk_182 0 123 (dk_at dksX5_settle_0 1 rfl rfl)
theorem dX5_settle_4 : decode cX5_settle 4 = .ok (.aload_n 0, 1) := dk_42 (dk_at dksX5_settle_0 4 rfl rfl)
theorem dX5_settle_5 : decode cX5_settle 5 = .ok (.aload_n 0, 1) := dk_42 (dk_at dksX5_settle_0 5 rfl rfl)
theorem dX5_settle_6 : decode cX5_settle 6 = .ok (.invokevirtual 185, 3) := dk_182 0 185 (dk_at dksX5_settle_0 6 rfl rfl)
theorem dX5_settle_9 : decode cX5_settle 9 = .ok (.invokevirtual 136, 3) := dk_182 0 136 (dk_at dksX5_settle_0 9 rfl rfl)
theorem dX5_settle_12 : decode cX5_settle 12 = .ok (.ireturn, 1) := dk_172 (dk_at dksX5_settle_0 12 rfl rfl)
def dkwX5_settleAll_4 : List UInt8 := [167, 255, 231, 28, 172]
abbrev dktX5_settleAll_4 : List UInt8 := dkwX5_settleAll_4 ++ []
def dkwX5_settleAll_3 : List UInt8 := [162, 0, 26, 42, 42, 180, 0, 45, 29, 46, 42, 180, 0, 48, 29, 46, 182, 0, 182, 60, 132, 3, 1]
abbrev dktX5_settleAll_3 : List UInt8 := dkwX5_settleAll_3 ++ dktX5_settleAll_4
def dkwX5_settleAll_2 : List UInt8 := [42, 29, 182, 0, 192, 3, 182, 0, 92, 79, 132, 2, 1, 132, 3, 1, 167, 255, 201, 3, 62, 29, 28]
abbrev dktX5_settleAll_2 : List UInt8 := dkwX5_settleAll_2 ++ dktX5_settleAll_3
def dkwX5_settleAll_1 : List UInt8 := [156, 0, 6, 167, 0, 34, 42, 180, 0, 45, 28, 42, 29, 3, 182, 0, 96, 79, 42, 180, 0, 48, 28, 42]
abbrev dktX5_settleAll_1 : List UInt8 := dkwX5_settleAll_1 ++ dktX5_settleAll_2
def dkwX5_settleAll_0 : List UInt8 := [42, 182, 0, 189, 60, 3, 61, 3, 62, 29, 42, 180, 0, 7, 4, 46, 162, 0, 51, 42, 29, 182, 0, 192]
abbrev dktX5_settleAll_0 : List UInt8 := dkwX5_settleAll_0 ++ dktX5_settleAll_1
theorem dksX5_settleAll_0 : cX5_settleAll.data.toList.drop 0 = dktX5_settleAll_0 := by decide +kernel
theorem dksX5_settleAll_1 : cX5_settleAll.data.toList.drop 24 = dktX5_settleAll_1 := dk_seg dksX5_settleAll_0 24 rfl rfl
theorem dksX5_settleAll_2 : cX5_settleAll.data.toList.drop 48 = dktX5_settleAll_2 := dk_seg dksX5_settleAll_1 24 rfl rfl
theorem dksX5_settleAll_3 : cX5_settleAll.data.toList.drop 71 = dktX5_settleAll_3 := dk_seg dksX5_settleAll_2 23 rfl rfl
theorem dksX5_settleAll_4 : cX5_settleAll.data.toList.drop 94 = dktX5_settleAll_4 := dk_seg dksX5_settleAll_3 23 rfl rfl
theorem dX5_settleAll_0 : decode cX5_settleAll 0 = .ok (.aload_n 0, 1) := dk_42 (dk_at dksX5_settleAll_0 0 rfl rfl)
theorem dX5_settleAll_1 : decode cX5_settleAll 1 = .ok (.invokevirtual 189, 3) := dk_182 0 189 (dk_at dksX5_settleAll_0 1 rfl rfl)
theorem dX5_settleAll_4 : decode cX5_settleAll 4 = .ok (.istore_n 1, 1) := dk_60 (dk_at dksX5_settleAll_0 4 rfl rfl)
theorem dX5_settleAll_5 : decode cX5_settleAll 5 = .ok (.iconst 0, 1) := dk_3 (dk_at dksX5_settleAll_0 5 rfl rfl)
theorem dX5_settleAll_6 : decode cX5_settleAll 6 = .ok (.istore_n 2, 1) := dk_61 (dk_at dksX5_settleAll_0 6 rfl rfl)
theorem dX5_settleAll_7 : decode cX5_settleAll 7 = .ok (.iconst 0, 1) := dk_3 (dk_at dksX5_settleAll_0 7 rfl rfl)
theorem dX5_settleAll_8 : decode cX5_settleAll 8 = .ok (.istore_n 3, 1) := dk_62 (dk_at dksX5_settleAll_0 8 rfl rfl)
theorem dX5_settleAll_9 : decode cX5_settleAll 9 = .ok (.iload_n 3, 1) := dk_29 (dk_at dksX5_settleAll_0 9 rfl rfl)
theorem dX5_settleAll_10 : decode cX5_settleAll 10 = .ok (.aload_n 0, 1) := dk_42 (dk_at dksX5_settleAll_0 10 rfl rfl)
theorem dX5_settleAll_11 : decode cX5_settleAll 11 = .ok (.getfield 7, 3) := dk_180 0 7 (dk_at dksX5_settleAll_0 11 rfl rfl)
theorem dX5_settleAll_14 : decode cX5_settleAll 14 = .ok (.iconst 1, 1) := dk_4 (dk_at dksX5_settleAll_0 14 rfl rfl)
theorem dX5_settleAll_15 : decode cX5_settleAll 15 = .ok (.iaload, 1) := dk_46 (dk_at dksX5_settleAll_0 15 rfl rfl)
theorem dX5_settleAll_16 : decode cX5_settleAll 16 = .ok (.if_icmp .ge 51, 3) := dk_162 0 51 (dk_at dksX5_settleAll_0 16 rfl rfl)
theorem dX5_settleAll_19 : decode cX5_settleAll 19 = .ok (.aload_n 0, 1) := dk_42 (dk_at dksX5_settleAll_0 19 rfl rfl)
theorem dX5_settleAll_20 : decode cX5_settleAll 20 = .ok (.iload_n 3, 1) := dk_29 (dk_at dksX5_settleAll_0 20 rfl rfl)
theorem dX5_settleAll_21 : decode cX5_settleAll 21 = .ok (.invokevirtual 192, 3) := dk_182 0 192 (dk_at dksX5_settleAll_0 21 rfl rfl)
theorem dX5_settleAll_24 : decode cX5_settleAll 24 = .ok (.ifCond .ge 6, 3) := dk_156 0 6 (dk_at dksX5_settleAll_1 0 rfl rfl)
theorem dX5_settleAll_27 : decode cX5_settleAll 27 = .ok (.goto 34, 3) := dk_167 0 34 (dk_at dksX5_settleAll_1 3 rfl rfl)
theorem dX5_settleAll_30 : decode cX5_settleAll 30 = .ok (.aload_n 0, 1) := dk_42 (dk_at dksX5_settleAll_1 6 rfl rfl)
theorem dX5_settleAll_31 : decode cX5_settleAll 31 = .ok (.getfield 45, 3) := dk_180 0 45 (dk_at dksX5_settleAll_1 7 rfl rfl)
theorem dX5_settleAll_34 : decode cX5_settleAll 34 = .ok (.iload_n 2, 1) := dk_28 (dk_at dksX5_settleAll_1 10 rfl rfl)
theorem dX5_settleAll_35 : decode cX5_settleAll 35 = .ok (.aload_n 0, 1) := dk_42 (dk_at dksX5_settleAll_1 11 rfl rfl)
theorem dX5_settleAll_36 : decode cX5_settleAll 36 = .ok (.iload_n 3, 1) := dk_29 (dk_at dksX5_settleAll_1 12 rfl rfl)
theorem dX5_settleAll_37 : decode cX5_settleAll 37 = .ok (.iconst 0, 1) := dk_3 (dk_at dksX5_settleAll_1 13 rfl rfl)
theorem dX5_settleAll_38 : decode cX5_settleAll 38 = .ok (.invokevirtual 96, 3) := dk_182 0 96 (dk_at dksX5_settleAll_1 14 rfl rfl)
theorem dX5_settleAll_41 : decode cX5_settleAll 41 = .ok (.iastore, 1) := dk_79 (dk_at dksX5_settleAll_1 17 rfl rfl)
theorem dX5_settleAll_42 : decode cX5_settleAll 42 = .ok (.aload_n 0, 1) := dk_42 (dk_at dksX5_settleAll_1 18 rfl rfl)
theorem dX5_settleAll_43 : decode cX5_settleAll 43 = .ok (.getfield 48, 3) := dk_180 0 48 (dk_at dksX5_settleAll_1 19 rfl rfl)
theorem dX5_settleAll_46 : decode cX5_settleAll 46 = .ok (.iload_n 2, 1) := dk_28 (dk_at dksX5_settleAll_1 22 rfl rfl)
theorem dX5_settleAll_47 : decode cX5_settleAll 47 = .ok (.aload_n 0, 1) := dk_42 (dk_at dksX5_settleAll_1 23 rfl rfl)
theorem dX5_settleAll_48 : decode cX5_settleAll 48 = .ok (.aload_n 0, 1) := dk_42 (dk_at dksX5_settleAll_2 0 rfl rfl)
theorem dX5_settleAll_49 : decode cX5_settleAll 49 = .ok (.iload_n 3, 1) := dk_29 (dk_at dksX5_settleAll_2 1 rfl rfl)
theorem dX5_settleAll_50 : decode cX5_settleAll 50 = .ok (.invokevirtual 192, 3) := dk_182 0 192 (dk_at dksX5_settleAll_2 2 rfl rfl)
theorem dX5_settleAll_53 : decode cX5_settleAll 53 = .ok (.iconst 0, 1) := dk_3 (dk_at dksX5_settleAll_2 5 rfl rfl)
theorem dX5_settleAll_54 : decode cX5_settleAll 54 = .ok (.invokevirtual 92, 3) := dk_182 0 92 (dk_at dksX5_settleAll_2 6 rfl rfl)
theorem dX5_settleAll_57 : decode cX5_settleAll 57 = .ok (.iastore, 1) := dk_79 (dk_at dksX5_settleAll_2 9 rfl rfl)
theorem dX5_settleAll_58 : decode cX5_settleAll 58 = .ok (.iinc 2 1, 3) := dk_132 2 1 (dk_at dksX5_settleAll_2 10 rfl rfl)
theorem dX5_settleAll_61 : decode cX5_settleAll 61 = .ok (.iinc 3 1, 3) := dk_132 3 1 (dk_at dksX5_settleAll_2 13 rfl rfl)
theorem dX5_settleAll_64 : decode cX5_settleAll 64 = .ok (.goto (-55), 3) := dk_167 255 201 (dk_at dksX5_settleAll_2 16 rfl rfl)
theorem dX5_settleAll_67 : decode cX5_settleAll 67 = .ok (.iconst 0, 1) := dk_3 (dk_at dksX5_settleAll_2 19 rfl rfl)
theorem dX5_settleAll_68 : decode cX5_settleAll 68 = .ok (.istore_n 3, 1) := dk_62 (dk_at dksX5_settleAll_2 20 rfl rfl)
theorem dX5_settleAll_69 : decode cX5_settleAll 69 = .ok (.iload_n 3, 1) := dk_29 (dk_at dksX5_settleAll_2 21 rfl rfl)
theorem dX5_settleAll_70 : decode cX5_settleAll 70 = .ok (.iload_n 2, 1) := dk_28 (dk_at dksX5_settleAll_2 22 rfl rfl)
theorem dX5_settleAll_71 : decode cX5_settleAll 71 = .ok (.if_icmp .ge 26, 3) := dk_162 0 26 (dk_at dksX5_settleAll_3 0 rfl rfl)
theorem dX5_settleAll_74 : decode cX5_settleAll 74 = .ok (.aload_n 0, 1) := dk_42 (dk_at dksX5_settleAll_3 3 rfl rfl)
theorem dX5_settleAll_75 : decode cX5_settleAll 75 = .ok (.aload_n 0, 1) := dk_42 (dk_at dksX5_settleAll_3 4 rfl rfl)
theorem dX5_settleAll_76 : decode cX5_settleAll 76 = .ok (.getfield 45, 3) := dk_180 0 45 (dk_at dksX5_settleAll_3 5 rfl rfl)
theorem dX5_settleAll_79 : decode cX5_settleAll 79 = .ok (.iload_n 3, 1) := dk_29 (dk_at dksX5_settleAll_3 8 rfl rfl)
theorem dX5_settleAll_80 : decode cX5_settleAll 80 = .ok (.iaload, 1) := dk_46 (dk_at dksX5_settleAll_3 9 rfl rfl)
theorem dX5_settleAll_81 : decode cX5_settleAll 81 = .ok (.aload_n 0, 1) := dk_42 (dk_at dksX5_settleAll_3 10 rfl rfl)
theorem dX5_settleAll_82 : decode cX5_settleAll 82 = .ok (.getfield 48, 3) := dk_180 0 48 (dk_at dksX5_settleAll_3 11 rfl rfl)
theorem dX5_settleAll_85 : decode cX5_settleAll 85 = .ok (.iload_n 3, 1) := dk_29 (dk_at dksX5_settleAll_3 14 rfl rfl)
theorem dX5_settleAll_86 : decode cX5_settleAll 86 = .ok (.iaload, 1) := dk_46 (dk_at dksX5_settleAll_3 15 rfl rfl)
theorem dX5_settleAll_87 : decode cX5_settleAll 87 = .ok (.invokevirtual 182, 3) := dk_182 0 182 (dk_at dksX5_settleAll_3 16 rfl rfl)
theorem dX5_settleAll_90 : decode cX5_settleAll 90 = .ok (.istore_n 1, 1) := dk_60 (dk_at dksX5_settleAll_3 19 rfl rfl)
theorem dX5_settleAll_91 : decode cX5_settleAll 91 = .ok (.iinc 3 1, 3) := dk_132 3 1 (dk_at dksX5_settleAll_3 20 rfl rfl)
theorem dX5_settleAll_94 : decode cX5_settleAll 94 = .ok (.goto (-25), 3) := dk_167 255 231 (dk_at dksX5_settleAll_4 0 rfl rfl)
theorem dX5_settleAll_97 : decode cX5_settleAll 97 = .ok (.iload_n 2, 1) := dk_28 (dk_at dksX5_settleAll_4 3 rfl rfl)
theorem dX5_settleAll_98 : decode cX5_settleAll 98 = .ok (.ireturn, 1) := dk_172 (dk_at dksX5_settleAll_4 4 rfl rfl)
def dkwX5_settling_7 : List UInt8 := [104, 28, 96, 29, 79, 132, 2, 1, 167, 255, 128, 132, 1, 255, 167, 255, 116, 42, 180, 0, 22, 3, 46, 172]
abbrev dktX5_settling_7 : List UInt8 := dkwX5_settling_7 ++ []
def dkwX5_settling_6 : List UInt8 := [164, 0, 8, 21, 5, 167, 0, 4, 29, 62, 132, 4, 1, 167, 255, 177, 42, 180, 0, 22, 17, 4, 0, 27]
abbrev dktX5_settling_6 : List UInt8 := dkwX5_settling_6 ++ dktX5_settling_7
def dkwX5_settling_5 : List UInt8 := [180, 0, 22, 17, 4, 0, 27, 4, 96, 104, 28, 4, 21, 4, 120, 128, 96, 46, 96, 54, 5, 21, 5, 29]
abbrev dktX5_settling_5 : List UInt8 := dkwX5_settling_5 ++ dktX5_settling_6
def dkwX5_settling_4 : List UInt8 := [159, 0, 58, 42, 27, 21, 4, 182, 0, 175, 154, 0, 6, 167, 0, 45, 42, 27, 21, 4, 182, 0, 247, 42]
abbrev dktX5_settling_4 : List UInt8 := dkwX5_settling_4 ++ dktX5_settling_5
def dkwX5_settling_3 : List UInt8 := [96, 46, 62, 3, 54, 4, 21, 4, 42, 180, 0, 7, 3, 46, 162, 0, 74, 28, 21, 4, 122, 4, 126, 4]
abbrev dktX5_settling_3 : List UInt8 := dkwX5_settling_3 ++ dktX5_settling_4
def dkwX5_settling_2 : List UInt8 := [28, 4, 42, 180, 0, 7, 3, 46, 120, 162, 0, 122, 42, 180, 0, 22, 17, 4, 0, 27, 4, 96, 104, 28]
abbrev dktX5_settling_2 : List UInt8 := dkwX5_settling_2 ++ dktX5_settling_3
def dkwX5_settling_1 : List UInt8 := [96, 3, 79, 132, 1, 1, 167, 255, 228, 42, 180, 0, 7, 4, 46, 4, 100, 60, 27, 155, 0, 142, 3, 61]
abbrev dktX5_settling_1 : List UInt8 := dkwX5_settling_1 ++ dktX5_settling_2
def dkwX5_settling_0 : List UInt8 := [3, 60, 27, 17, 4, 0, 162, 0, 27, 42, 180, 0, 22, 17, 4, 0, 42, 180, 0, 7, 4, 46, 104, 27]
abbrev dktX5_settling_0 : List UInt8 := dkwX5_settling_0 ++ dktX5_settling_1
theorem dksX5_settling_0 : cX5_settling.data.toList.drop 0 = dktX5_settling_0 := by decide +kernel
theorem dksX5_settling_1 : cX5_settling.data.toList.drop 24 = dktX5_settling_1 := dk_seg dksX5_settling_0 24 rfl rfl
theorem dksX5_settling_2 : cX5_settling.data.toList.drop 48 = dktX5_settling_2 := dk_seg dksX5_settling_1 24 rfl rfl
theorem dksX5_settling_3 : cX5_settling.data.toList.drop 72 = dktX5_settling_3 := dk_seg dksX5_settling_2 24 rfl rfl
theorem dksX5_settling_4 : cX5_settling.data.toList.drop 96 = dktX5_settling_4 := dk_seg dksX5_settling_3 24 rfl rfl
theorem dksX5_settling_5 : cX5_settling.data.toList.drop 120 = dktX5_settling_5 := dk_seg dksX5_settling_4 24 rfl rfl
theorem dksX5_settling_6 : cX5_settling.data.toList.drop 144 = dktX5_settling_6 := dk_seg dksX5_settling_5 24 rfl rfl
theorem dksX5_settling_7 : cX5_settling.data.toList.drop 168 = dktX5_settling_7 := dk_seg dksX5_settling_6 24 rfl rfl
theorem dX5_settling_0 : decode cX5_settling 0 = .ok (.iconst 0, 1) := dk_3 (dk_at dksX5_settling_0 0 rfl rfl)
theorem dX5_settling_1 : decode cX5_settling 1 = .ok (.istore_n 1, 1) := dk_60 (dk_at dksX5_settling_0 1 rfl rfl)
theorem dX5_settling_2 : decode cX5_settling 2 = .ok (.iload_n 1, 1) := dk_27 (dk_at dksX5_settling_0 2 rfl rfl)
theorem dX5_settling_3 : decode cX5_settling 3 = .ok (.sipush 1024, 3) := dk_17 4 0 (dk_at dksX5_settling_0 3 rfl rfl)
theorem dX5_settling_6 : decode cX5_settling 6 = .ok (.if_icmp .ge 27, 3) := dk_162 0 27 (dk_at dksX5_settling_0 6 rfl rfl)
theorem dX5_settling_9 : decode cX5_settling 9 = .ok (.aload_n 0, 1) := dk_42 (dk_at dksX5_settling_0 9 rfl rfl)
theorem dX5_settling_10 : decode cX5_settling 10 = .ok (.getfield 22, 3) := dk_180 0 22 (dk_at dksX5_settling_0 10 rfl rfl)
theorem dX5_settling_13 : decode cX5_settling 13 = .ok (.sipush 1024, 3) := dk_17 4 0 (dk_at dksX5_settling_0 13 rfl rfl)
theorem dX5_settling_16 : decode cX5_settling 16 = .ok (.aload_n 0, 1) := dk_42 (dk_at dksX5_settling_0 16 rfl rfl)
theorem dX5_settling_17 : decode cX5_settling 17 = .ok (.getfield 7, 3) := dk_180 0 7 (dk_at dksX5_settling_0 17 rfl rfl)
theorem dX5_settling_20 : decode cX5_settling 20 = .ok (.iconst 1, 1) := dk_4 (dk_at dksX5_settling_0 20 rfl rfl)
theorem dX5_settling_21 : decode cX5_settling 21 = .ok (.iaload, 1) := dk_46 (dk_at dksX5_settling_0 21 rfl rfl)
theorem dX5_settling_22 : decode cX5_settling 22 = .ok (.imul, 1) := dk_104 (dk_at dksX5_settling_0 22 rfl rfl)
theorem dX5_settling_23 : decode cX5_settling 23 = .ok (.iload_n 1, 1) := dk_27 (dk_at dksX5_settling_0 23 rfl rfl)
theorem dX5_settling_24 : decode cX5_settling 24 = .ok (.iadd, 1) := dk_96 (dk_at dksX5_settling_1 0 rfl rfl)
theorem dX5_settling_25 : decode cX5_settling 25 = .ok (.iconst 0, 1) := dk_3 (dk_at dksX5_settling_1 1 rfl rfl)
theorem dX5_settling_26 : decode cX5_settling 26 = .ok (.iastore, 1) := dk_79 (dk_at dksX5_settling_1 2 rfl rfl)
theorem dX5_settling_27 : decode cX5_settling 27 = .ok (.iinc 1 1, 3) := dk_132 1 1 (dk_at dksX5_settling_1 3 rfl rfl)
theorem dX5_settling_30 : decode cX5_settling 30 = .ok (.goto (-28), 3) := dk_167 255 228 (dk_at dksX5_settling_1 6 rfl rfl)
theorem dX5_settling_33 : decode cX5_settling 33 = .ok (.aload_n 0, 1) := dk_42 (dk_at dksX5_settling_1 9 rfl rfl)
theorem dX5_settling_34 : decode cX5_settling 34 = .ok (.getfield 7, 3) := dk_180 0 7 (dk_at dksX5_settling_1 10 rfl rfl)
theorem dX5_settling_37 : decode cX5_settling 37 = .ok (.iconst 1, 1) := dk_4 (dk_at dksX5_settling_1 13 rfl rfl)
theorem dX5_settling_38 : decode cX5_settling 38 = .ok (.iaload, 1) := dk_46 (dk_at dksX5_settling_1 14 rfl rfl)
theorem dX5_settling_39 : decode cX5_settling 39 = .ok (.iconst 1, 1) := dk_4 (dk_at dksX5_settling_1 15 rfl rfl)
theorem dX5_settling_40 : decode cX5_settling 40 = .ok (.isub, 1) := dk_100 (dk_at dksX5_settling_1 16 rfl rfl)
theorem dX5_settling_41 : decode cX5_settling 41 = .ok (.istore_n 1, 1) := dk_60 (dk_at dksX5_settling_1 17 rfl rfl)
theorem dX5_settling_42 : decode cX5_settling 42 = .ok (.iload_n 1, 1) := dk_27 (dk_at dksX5_settling_1 18 rfl rfl)
theorem dX5_settling_43 : decode cX5_settling 43 = .ok (.ifCond .lt 142, 3) := dk_155 0 142 (dk_at dksX5_settling_1 19 rfl rfl)
theorem dX5_settling_46 : decode cX5_settling 46 = .ok (.iconst 0, 1) := dk_3 (dk_at dksX5_settling_1 22 rfl rfl)
theorem dX5_settling_47 : decode cX5_settling 47 = .ok (.istore_n 2, 1) := dk_61 (dk_at dksX5_settling_1 23 rfl rfl)
theorem dX5_settling_48 : decode cX5_settling 48 = .ok (.iload_n 2, 1) := dk_28 (dk_at dksX5_settling_2 0 rfl rfl)
theorem dX5_settling_49 : decode cX5_settling 49 = .ok (.iconst 1, 1) := dk_4 (dk_at dksX5_settling_2 1 rfl rfl)
theorem dX5_settling_50 : decode cX5_settling 50 = .ok (.aload_n 0, 1) := dk_42 (dk_at dksX5_settling_2 2 rfl rfl)
theorem dX5_settling_51 : decode cX5_settling 51 = .ok (.getfield 7, 3) := dk_180 0 7 (dk_at dksX5_settling_2 3 rfl rfl)
theorem dX5_settling_54 : decode cX5_settling 54 = .ok (.iconst 0, 1) := dk_3 (dk_at dksX5_settling_2 6 rfl rfl)
theorem dX5_settling_55 : decode cX5_settling 55 = .ok (.iaload, 1) := dk_46 (dk_at dksX5_settling_2 7 rfl rfl)
theorem dX5_settling_56 : decode cX5_settling 56 = .ok (.ishl, 1) := dk_120 (dk_at dksX5_settling_2 8 rfl rfl)
theorem dX5_settling_57 : decode cX5_settling 57 = .ok (.if_icmp .ge 122, 3) := dk_162 0 122 (dk_at dksX5_settling_2 9 rfl rfl)
theorem dX5_settling_60 : decode cX5_settling 60 = .ok (.aload_n 0, 1) := dk_42 (dk_at dksX5_settling_2 12 rfl rfl)
theorem dX5_settling_61 : decode cX5_settling 61 = .ok (.getfield 22, 3) := dk_180 0 22 (dk_at dksX5_settling_2 13 rfl rfl)
theorem dX5_settling_64 : decode cX5_settling 64 = .ok (.sipush 1024, 3) := dk_17 4 0 (dk_at dksX5_settling_2 16 rfl rfl)
theorem dX5_settling_67 : decode cX5_settling 67 = .ok (.iload_n 1, 1) := dk_27 (dk_at dksX5_settling_2 19 rfl rfl)
theorem dX5_settling_68 : decode cX5_settling 68 = .ok (.iconst 1, 1) := dk_4 (dk_at dksX5_settling_2 20 rfl rfl)
theorem dX5_settling_69 : decode cX5_settling 69 = .ok (.iadd, 1) := dk_96 (dk_at dksX5_settling_2 21 rfl rfl)
theorem dX5_settling_70 : decode cX5_settling 70 = .ok (.imul, 1) := dk_104 (dk_at dksX5_settling_2 22 rfl rfl)
theorem dX5_settling_71 : decode cX5_settling 71 = .ok (.iload_n 2, 1) := dk_28 (dk_at dksX5_settling_2 23 rfl rfl)
theorem dX5_settling_72 : decode cX5_settling 72 = .ok (.iadd, 1) := dk_96 (dk_at dksX5_settling_3 0 rfl rfl)
theorem dX5_settling_73 : decode cX5_settling 73 = .ok (.iaload, 1) := dk_46 (dk_at dksX5_settling_3 1 rfl rfl)
theorem dX5_settling_74 : decode cX5_settling 74 = .ok (.istore_n 3, 1) := dk_62 (dk_at dksX5_settling_3 2 rfl rfl)
theorem dX5_settling_75 : decode cX5_settling 75 = .ok (.iconst 0, 1) := dk_3 (dk_at dksX5_settling_3 3 rfl rfl)
theorem dX5_settling_76 : decode cX5_settling 76 = .ok (.istore 4, 2) := dk_54 4 (dk_at dksX5_settling_3 4 rfl rfl)
theorem dX5_settling_78 : decode cX5_settling 78 = .ok (.iload 4, 2) := dk_21 4 (dk_at dksX5_settling_3 6 rfl rfl)
theorem dX5_settling_80 : decode cX5_settling 80 = .ok (.aload_n 0, 1) := dk_42 (dk_at dksX5_settling_3 8 rfl rfl)
theorem dX5_settling_81 : decode cX5_settling 81 = .ok (.getfield 7, 3) := dk_180 0 7 (dk_at dksX5_settling_3 9 rfl rfl)
theorem dX5_settling_84 : decode cX5_settling 84 = .ok (.iconst 0, 1) := dk_3 (dk_at dksX5_settling_3 12 rfl rfl)
theorem dX5_settling_85 : decode cX5_settling 85 = .ok (.iaload, 1) := dk_46 (dk_at dksX5_settling_3 13 rfl rfl)
theorem dX5_settling_86 : decode cX5_settling 86 = .ok (.if_icmp .ge 74, 3) := dk_162 0 74 (dk_at dksX5_settling_3 14 rfl rfl)
theorem dX5_settling_89 : decode cX5_settling 89 = .ok (.iload_n 2, 1) := dk_28 (dk_at dksX5_settling_3 17 rfl rfl)
theorem dX5_settling_90 : decode cX5_settling 90 = .ok (.iload 4, 2) := dk_21 4 (dk_at dksX5_settling_3 18 rfl rfl)
theorem dX5_settling_92 : decode cX5_settling 92 = .ok (.ishr, 1) := dk_122 (dk_at dksX5_settling_3 20 rfl rfl)
theorem dX5_settling_93 : decode cX5_settling 93 = .ok (.iconst 1, 1) := dk_4 (dk_at dksX5_settling_3 21 rfl rfl)
theorem dX5_settling_94 : decode cX5_settling 94 = .ok (.iand, 1) := dk_126 (dk_at dksX5_settling_3 22 rfl rfl)
theorem dX5_settling_95 : decode cX5_settling 95 = .ok (.iconst 1, 1) := dk_4 (dk_at dksX5_settling_3 23 rfl rfl)
theorem dX5_settling_96 : decode cX5_settling 96 = .ok (.if_icmp .eq 58, 3) := dk_159 0 58 (dk_at dksX5_settling_4 0 rfl rfl)
theorem dX5_settling_99 : decode cX5_settling 99 = .ok (.aload_n 0, 1) := dk_42 (dk_at dksX5_settling_4 3 rfl rfl)
theorem dX5_settling_100 : decode cX5_settling 100 = .ok (.iload_n 1, 1) := dk_27 (dk_at dksX5_settling_4 4 rfl rfl)
theorem dX5_settling_101 : decode cX5_settling 101 = .ok (.iload 4, 2) := dk_21 4 (dk_at dksX5_settling_4 5 rfl rfl)
theorem dX5_settling_103 : decode cX5_settling 103 = .ok (.invokevirtual 175, 3) := dk_182 0 175 (dk_at dksX5_settling_4 7 rfl rfl)
theorem dX5_settling_106 : decode cX5_settling 106 = .ok (.ifCond .ne 6, 3) := dk_154 0 6 (dk_at dksX5_settling_4 10 rfl rfl)
theorem dX5_settling_109 : decode cX5_settling 109 = .ok (.goto 45, 3) := dk_167 0 45 (dk_at dksX5_settling_4 13 rfl rfl)
theorem dX5_settling_112 : decode cX5_settling 112 = .ok (.aload_n 0, 1) := dk_42 (dk_at dksX5_settling_4 16 rfl rfl)
theorem dX5_settling_113 : decode cX5_settling 113 = .ok (.iload_n 1, 1) := dk_27 (dk_at dksX5_settling_4 17 rfl rfl)
theorem dX5_settling_114 : decode cX5_settling 114 = .ok (.iload 4, 2) := dk_21 4 (dk_at dksX5_settling_4 18 rfl rfl)
theorem dX5_settling_116 : decode cX5_settling 116 = .ok (.invokevirtual 247, 3) := dk_182 0 247 (dk_at dksX5_settling_4 20 rfl rfl)
theorem dX5_settling_119 : decode cX5_settling 119 = .ok (.aload_n 0, 1) := dk_42 (dk_at dksX5_settling_4 23 rfl rfl)
theorem dX5_settling_120 : decode cX5_settling 120 = .ok (.getfield 22, 3) := dk_180 0 22 (dk_at dksX5_settling_5 0 rfl rfl)
theorem dX5_settling_123 : decode cX5_settling 123 = .ok (.sipush 1024, 3) := dk_17 4 0 (dk_at dksX5_settling_5 3 rfl rfl)
theorem dX5_settling_126 : decode cX5_settling 126 = .ok (.iload_n 1, 1) := dk_27 (dk_at dksX5_settling_5 6 rfl rfl)
theorem dX5_settling_127 : decode cX5_settling 127 = .ok (.iconst 1, 1) := dk_4 (dk_at dksX5_settling_5 7 rfl rfl)
theorem dX5_settling_128 : decode cX5_settling 128 = .ok (.iadd, 1) := dk_96 (dk_at dksX5_settling_5 8 rfl rfl)
theorem dX5_settling_129 : decode cX5_settling 129 = .ok (.imul, 1) := dk_104 (dk_at dksX5_settling_5 9 rfl rfl)
theorem dX5_settling_130 : decode cX5_settling 130 = .ok (.iload_n 2, 1) := dk_28 (dk_at dksX5_settling_5 10 rfl rfl)
theorem dX5_settling_131 : decode cX5_settling 131 = .ok (.iconst 1, 1) := dk_4 (dk_at dksX5_settling_5 11 rfl rfl)
theorem dX5_settling_132 : decode cX5_settling 132 = .ok (.iload 4, 2) := dk_21 4 (dk_at dksX5_settling_5 12 rfl rfl)
theorem dX5_settling_134 : decode cX5_settling 134 = .ok (.ishl, 1) := dk_120 (dk_at dksX5_settling_5 14 rfl rfl)
theorem dX5_settling_135 : decode cX5_settling 135 = .ok (.ior, 1) := dk_128 (dk_at dksX5_settling_5 15 rfl rfl)
theorem dX5_settling_136 : decode cX5_settling 136 = .ok (.iadd, 1) := dk_96 (dk_at dksX5_settling_5 16 rfl rfl)
theorem dX5_settling_137 : decode cX5_settling 137 = .ok (.iaload, 1) := dk_46 (dk_at dksX5_settling_5 17 rfl rfl)
theorem dX5_settling_138 : decode cX5_settling 138 = .ok (.iadd, 1) := dk_96 (dk_at dksX5_settling_5 18 rfl rfl)
theorem dX5_settling_139 : decode cX5_settling 139 = .ok (.istore 5, 2) := dk_54 5 (dk_at dksX5_settling_5 19 rfl rfl)
theorem dX5_settling_141 : decode cX5_settling 141 = .ok (.iload 5, 2) := dk_21 5 (dk_at dksX5_settling_5 21 rfl rfl)
theorem dX5_settling_143 : decode cX5_settling 143 = .ok (.iload_n 3, 1) := dk_29 (dk_at dksX5_settling_5 23 rfl rfl)
theorem dX5_settling_144 : decode cX5_settling 144 = .ok (.if_icmp .le 8, 3) := dk_164 0 8 (dk_at dksX5_settling_6 0 rfl rfl)
theorem dX5_settling_147 : decode cX5_settling 147 = .ok (.iload 5, 2) := dk_21 5 (dk_at dksX5_settling_6 3 rfl rfl)
theorem dX5_settling_149 : decode cX5_settling 149 = .ok (.goto 4, 3) := dk_167 0 4 (dk_at dksX5_settling_6 5 rfl rfl)
theorem dX5_settling_152 : decode cX5_settling 152 = .ok (.iload_n 3, 1) := dk_29 (dk_at dksX5_settling_6 8 rfl rfl)
theorem dX5_settling_153 : decode cX5_settling 153 = .ok (.istore_n 3, 1) := dk_62 (dk_at dksX5_settling_6 9 rfl rfl)
theorem dX5_settling_154 : decode cX5_settling 154 = .ok (.iinc 4 1, 3) := dk_132 4 1 (dk_at dksX5_settling_6 10 rfl rfl)
theorem dX5_settling_157 : decode cX5_settling 157 = .ok (.goto (-79), 3) := dk_167 255 177 (dk_at dksX5_settling_6 13 rfl rfl)
theorem dX5_settling_160 : decode cX5_settling 160 = .ok (.aload_n 0, 1) := dk_42 (dk_at dksX5_settling_6 16 rfl rfl)
theorem dX5_settling_161 : decode cX5_settling 161 = .ok (.getfield 22, 3) := dk_180 0 22 (dk_at dksX5_settling_6 17 rfl rfl)
theorem dX5_settling_164 : decode cX5_settling 164 = .ok (.sipush 1024, 3) := dk_17 4 0 (dk_at dksX5_settling_6 20 rfl rfl)
theorem dX5_settling_167 : decode cX5_settling 167 = .ok (.iload_n 1, 1) := dk_27 (dk_at dksX5_settling_6 23 rfl rfl)
theorem dX5_settling_168 : decode cX5_settling 168 = .ok (.imul, 1) := dk_104 (dk_at dksX5_settling_7 0 rfl rfl)
theorem dX5_settling_169 : decode cX5_settling 169 = .ok (.iload_n 2, 1) := dk_28 (dk_at dksX5_settling_7 1 rfl rfl)
theorem dX5_settling_170 : decode cX5_settling 170 = .ok (.iadd, 1) := dk_96 (dk_at dksX5_settling_7 2 rfl rfl)
theorem dX5_settling_171 : decode cX5_settling 171 = .ok (.iload_n 3, 1) := dk_29 (dk_at dksX5_settling_7 3 rfl rfl)
theorem dX5_settling_172 : decode cX5_settling 172 = .ok (.iastore, 1) := dk_79 (dk_at dksX5_settling_7 4 rfl rfl)
theorem dX5_settling_173 : decode cX5_settling 173 = .ok (.iinc 2 1, 3) := dk_132 2 1 (dk_at dksX5_settling_7 5 rfl rfl)
theorem dX5_settling_176 : decode cX5_settling 176 = .ok (.goto (-128), 3) := dk_167 255 128 (dk_at dksX5_settling_7 8 rfl rfl)
theorem dX5_settling_179 : decode cX5_settling 179 = .ok (.iinc 1 (-1), 3) := dk_132 1 255 (dk_at dksX5_settling_7 11 rfl rfl)
theorem dX5_settling_182 : decode cX5_settling 182 = .ok (.goto (-140), 3) := dk_167 255 116 (dk_at dksX5_settling_7 14 rfl rfl)
theorem dX5_settling_185 : decode cX5_settling 185 = .ok (.aload_n 0, 1) := dk_42 (dk_at dksX5_settling_7 17 rfl rfl)
theorem dX5_settling_186 : decode cX5_settling 186 = .ok (.getfield 22, 3) := dk_180 0 22 (dk_at dksX5_settling_7 18 rfl rfl)
theorem dX5_settling_189 : decode cX5_settling 189 = .ok (.iconst 0, 1) := dk_3 (dk_at dksX5_settling_7 21 rfl rfl)
theorem dX5_settling_190 : decode cX5_settling 190 = .ok (.iaload, 1) := dk_46 (dk_at dksX5_settling_7 22 rfl rfl)
theorem dX5_settling_191 : decode cX5_settling 191 = .ok (.ireturn, 1) := dk_172 (dk_at dksX5_settling_7 23 rfl rfl)
def dkwX5_gain_0 : List UInt8 := [18, 246, 42, 27, 8, 182, 0, 96, 104, 42, 27, 28, 182, 0, 109, 100, 172]
abbrev dktX5_gain_0 : List UInt8 := dkwX5_gain_0 ++ []
theorem dksX5_gain_0 : cX5_gain.data.toList.drop 0 = dktX5_gain_0 := by decide +kernel
theorem dX5_gain_0 : decode cX5_gain 0 = .ok (.ldc 246, 2) := dk_18 246 (dk_at dksX5_gain_0 0 rfl rfl)
theorem dX5_gain_2 : decode cX5_gain 2 = .ok (.aload_n 0, 1) := dk_42 (dk_at dksX5_gain_0 2 rfl rfl)
theorem dX5_gain_3 : decode cX5_gain 3 = .ok (.iload_n 1, 1) := dk_27 (dk_at dksX5_gain_0 3 rfl rfl)
theorem dX5_gain_4 : decode cX5_gain 4 = .ok (.iconst 5, 1) := dk_8 (dk_at dksX5_gain_0 4 rfl rfl)
theorem dX5_gain_5 : decode cX5_gain 5 = .ok (.invokevirtual 96, 3) := dk_182 0 96 (dk_at dksX5_gain_0 5 rfl rfl)
theorem dX5_gain_8 : decode cX5_gain 8 = .ok (.imul, 1) := dk_104 (dk_at dksX5_gain_0 8 rfl rfl)
theorem dX5_gain_9 : decode cX5_gain 9 = .ok (.aload_n 0, 1) := dk_42 (dk_at dksX5_gain_0 9 rfl rfl)
theorem dX5_gain_10 : decode cX5_gain 10 = .ok (.iload_n 1, 1) := dk_27 (dk_at dksX5_gain_0 10 rfl rfl)
theorem dX5_gain_11 : decode cX5_gain 11 = .ok (.iload_n 2, 1) := dk_28 (dk_at dksX5_gain_0 11 rfl rfl)
theorem dX5_gain_12 : decode cX5_gain 12 = .ok (.invokevirtual 109, 3) := dk_182 0 109 (dk_at dksX5_gain_0 12 rfl rfl)
theorem dX5_gain_15 : decode cX5_gain 15 = .ok (.isub, 1) := dk_100 (dk_at dksX5_gain_0 15 rfl rfl)
theorem dX5_gain_16 : decode cX5_gain 16 = .ok (.ireturn, 1) := dk_172 (dk_at dksX5_gain_0 16 rfl rfl)
def dkwX5_settled_1 : List UInt8 := [42, 29, 28, 182, 0, 250, 120, 128, 61, 132, 3, 1, 167, 255, 224, 42, 27, 28, 182, 0, 250, 172]
abbrev dktX5_settled_1 : List UInt8 := dkwX5_settled_1 ++ []
def dkwX5_settled_0 : List UInt8 := [3, 61, 3, 62, 29, 27, 162, 0, 33, 28, 42, 29, 28, 182, 0, 250, 156, 0, 7, 3, 167, 0, 11, 4]
abbrev dktX5_settled_0 : List UInt8 := dkwX5_settled_0 ++ dktX5_settled_1
theorem dksX5_settled_0 : cX5_settled.data.toList.drop 0 = dktX5_settled_0 := by decide +kernel
theorem dksX5_settled_1 : cX5_settled.data.toList.drop 24 = dktX5_settled_1 := dk_seg dksX5_settled_0 24 rfl rfl
theorem dX5_settled_0 : decode cX5_settled 0 = .ok (.iconst 0, 1) := dk_3 (dk_at dksX5_settled_0 0 rfl rfl)
theorem dX5_settled_1 : decode cX5_settled 1 = .ok (.istore_n 2, 1) := dk_61 (dk_at dksX5_settled_0 1 rfl rfl)
theorem dX5_settled_2 : decode cX5_settled 2 = .ok (.iconst 0, 1) := dk_3 (dk_at dksX5_settled_0 2 rfl rfl)
theorem dX5_settled_3 : decode cX5_settled 3 = .ok (.istore_n 3, 1) := dk_62 (dk_at dksX5_settled_0 3 rfl rfl)
theorem dX5_settled_4 : decode cX5_settled 4 = .ok (.iload_n 3, 1) := dk_29 (dk_at dksX5_settled_0 4 rfl rfl)
theorem dX5_settled_5 : decode cX5_settled 5 = .ok (.iload_n 1, 1) := dk_27 (dk_at dksX5_settled_0 5 rfl rfl)
theorem dX5_settled_6 : decode cX5_settled 6 = .ok (.if_icmp .ge 33, 3) := dk_162 0 33 (dk_at dksX5_settled_0 6 rfl rfl)
theorem dX5_settled_9 : decode cX5_settled 9 = .ok (.iload_n 2, 1) := dk_28 (dk_at dksX5_settled_0 9 rfl rfl)
theorem dX5_settled_10 : decode cX5_settled 10 = .ok (.aload_n 0, 1) := dk_42 (dk_at dksX5_settled_0 10 rfl rfl)
theorem dX5_settled_11 : decode cX5_settled 11 = .ok (.iload_n 3, 1) := dk_29 (dk_at dksX5_settled_0 11 rfl rfl)
theorem dX5_settled_12 : decode cX5_settled 12 = .ok (.iload_n 2, 1) := dk_28 (dk_at dksX5_settled_0 12 rfl rfl)
theorem dX5_settled_13 : decode cX5_settled 13 = .ok (.invokevirtual 250, 3) := dk_182 0 250 (dk_at dksX5_settled_0 13 rfl rfl)
theorem dX5_settled_16 : decode cX5_settled 16 = .ok (.ifCond .ge 7, 3) := dk_156 0 7 (dk_at dksX5_settled_0 16 rfl rfl)
theorem dX5_settled_19 : decode cX5_settled 19 = .ok (.iconst 0, 1) := dk_3 (dk_at dksX5_settled_0 19 rfl rfl)
theorem dX5_settled_20 : decode cX5_settled 20 = .ok (.goto 11, 3) := dk_167 0 11 (dk_at dksX5_settled_0 20 rfl rfl)
theorem dX5_settled_23 : decode cX5_settled 23 = .ok (.iconst 1, 1) := dk_4 (dk_at dksX5_settled_0 23 rfl rfl)
theorem dX5_settled_24 : decode cX5_settled 24 = .ok (.aload_n 0, 1) := dk_42 (dk_at dksX5_settled_1 0 rfl rfl)
theorem dX5_settled_25 : decode cX5_settled 25 = .ok (.iload_n 3, 1) := dk_29 (dk_at dksX5_settled_1 1 rfl rfl)
theorem dX5_settled_26 : decode cX5_settled 26 = .ok (.iload_n 2, 1) := dk_28 (dk_at dksX5_settled_1 2 rfl rfl)
theorem dX5_settled_27 : decode cX5_settled 27 = .ok (.invokevirtual 250, 3) := dk_182 0 250 (dk_at dksX5_settled_1 3 rfl rfl)
theorem dX5_settled_30 : decode cX5_settled 30 = .ok (.ishl, 1) := dk_120 (dk_at dksX5_settled_1 6 rfl rfl)
theorem dX5_settled_31 : decode cX5_settled 31 = .ok (.ior, 1) := dk_128 (dk_at dksX5_settled_1 7 rfl rfl)
theorem dX5_settled_32 : decode cX5_settled 32 = .ok (.istore_n 2, 1) := dk_61 (dk_at dksX5_settled_1 8 rfl rfl)
theorem dX5_settled_33 : decode cX5_settled 33 = .ok (.iinc 3 1, 3) := dk_132 3 1 (dk_at dksX5_settled_1 9 rfl rfl)
theorem dX5_settled_36 : decode cX5_settled 36 = .ok (.goto (-32), 3) := dk_167 255 224 (dk_at dksX5_settled_1 12 rfl rfl)
theorem dX5_settled_39 : decode cX5_settled 39 = .ok (.aload_n 0, 1) := dk_42 (dk_at dksX5_settled_1 15 rfl rfl)
theorem dX5_settled_40 : decode cX5_settled 40 = .ok (.iload_n 1, 1) := dk_27 (dk_at dksX5_settled_1 16 rfl rfl)
theorem dX5_settled_41 : decode cX5_settled 41 = .ok (.iload_n 2, 1) := dk_28 (dk_at dksX5_settled_1 17 rfl rfl)
theorem dX5_settled_42 : decode cX5_settled 42 = .ok (.invokevirtual 250, 3) := dk_182 0 250 (dk_at dksX5_settled_1 18 rfl rfl)
theorem dX5_settled_45 : decode cX5_settled 45 = .ok (.ireturn, 1) := dk_172 (dk_at dksX5_settled_1 21 rfl rfl)
def dkwX5_choice_3 : List UInt8 := [160, 0, 5, 29, 172, 132, 3, 1, 167, 255, 180, 2, 172]
abbrev dktX5_choice_3 : List UInt8 := dkwX5_choice_3 ++ []
def dkwX5_choice_2 : List UInt8 := [96, 104, 28, 4, 29, 120, 128, 96, 46, 96, 42, 180, 0, 22, 17, 4, 0, 27, 104, 28, 96, 46]
abbrev dktX5_choice_2 : List UInt8 := dkwX5_choice_2 ++ dktX5_choice_3
def dkwX5_choice_1 : List UInt8 := [182, 0, 175, 154, 0, 6, 167, 0, 45, 42, 27, 29, 182, 0, 247, 42, 180, 0, 22, 17, 4, 0, 27, 4]
abbrev dktX5_choice_1 : List UInt8 := dkwX5_choice_1 ++ dktX5_choice_2
def dkwX5_choice_0 : List UInt8 := [3, 62, 29, 42, 180, 0, 7, 3, 46, 162, 0, 72, 28, 29, 122, 4, 126, 4, 159, 0, 57, 42, 27, 29]
abbrev dktX5_choice_0 : List UInt8 := dkwX5_choice_0 ++ dktX5_choice_1
theorem dksX5_choice_0 : cX5_choice.data.toList.drop 0 = dktX5_choice_0 := by decide +kernel
theorem dksX5_choice_1 : cX5_choice.data.toList.drop 24 = dktX5_choice_1 := dk_seg dksX5_choice_0 24 rfl rfl
theorem dksX5_choice_2 : cX5_choice.data.toList.drop 48 = dktX5_choice_2 := dk_seg dksX5_choice_1 24 rfl rfl
theorem dksX5_choice_3 : cX5_choice.data.toList.drop 70 = dktX5_choice_3 := dk_seg dksX5_choice_2 22 rfl rfl
theorem dX5_choice_0 : decode cX5_choice 0 = .ok (.iconst 0, 1) := dk_3 (dk_at dksX5_choice_0 0 rfl rfl)
theorem dX5_choice_1 : decode cX5_choice 1 = .ok (.istore_n 3, 1) := dk_62 (dk_at dksX5_choice_0 1 rfl rfl)
theorem dX5_choice_2 : decode cX5_choice 2 = .ok (.iload_n 3, 1) := dk_29 (dk_at dksX5_choice_0 2 rfl rfl)
theorem dX5_choice_3 : decode cX5_choice 3 = .ok (.aload_n 0, 1) := dk_42 (dk_at dksX5_choice_0 3 rfl rfl)
theorem dX5_choice_4 : decode cX5_choice 4 = .ok (.getfield 7, 3) := dk_180 0 7 (dk_at dksX5_choice_0 4 rfl rfl)
theorem dX5_choice_7 : decode cX5_choice 7 = .ok (.iconst 0, 1) := dk_3 (dk_at dksX5_choice_0 7 rfl rfl)
theorem dX5_choice_8 : decode cX5_choice 8 = .ok (.iaload, 1) := dk_46 (dk_at dksX5_choice_0 8 rfl rfl)
theorem dX5_choice_9 : decode cX5_choice 9 = .ok (.if_icmp .ge 72, 3) := dk_162 0 72 (dk_at dksX5_choice_0 9 rfl rfl)
theorem dX5_choice_12 : decode cX5_choice 12 = .ok (.iload_n 2, 1) := dk_28 (dk_at dksX5_choice_0 12 rfl rfl)
theorem dX5_choice_13 : decode cX5_choice 13 = .ok (.iload_n 3, 1) := dk_29 (dk_at dksX5_choice_0 13 rfl rfl)
theorem dX5_choice_14 : decode cX5_choice 14 = .ok (.ishr, 1) := dk_122 (dk_at dksX5_choice_0 14 rfl rfl)
theorem dX5_choice_15 : decode cX5_choice 15 = .ok (.iconst 1, 1) := dk_4 (dk_at dksX5_choice_0 15 rfl rfl)
theorem dX5_choice_16 : decode cX5_choice 16 = .ok (.iand, 1) := dk_126 (dk_at dksX5_choice_0 16 rfl rfl)
theorem dX5_choice_17 : decode cX5_choice 17 = .ok (.iconst 1, 1) := dk_4 (dk_at dksX5_choice_0 17 rfl rfl)
theorem dX5_choice_18 : decode cX5_choice 18 = .ok (.if_icmp .eq 57, 3) := dk_159 0 57 (dk_at dksX5_choice_0 18 rfl rfl)
theorem dX5_choice_21 : decode cX5_choice 21 = .ok (.aload_n 0, 1) := dk_42 (dk_at dksX5_choice_0 21 rfl rfl)
theorem dX5_choice_22 : decode cX5_choice 22 = .ok (.iload_n 1, 1) := dk_27 (dk_at dksX5_choice_0 22 rfl rfl)
theorem dX5_choice_23 : decode cX5_choice 23 = .ok (.iload_n 3, 1) := dk_29 (dk_at dksX5_choice_0 23 rfl rfl)
theorem dX5_choice_24 : decode cX5_choice 24 = .ok (.invokevirtual 175, 3) := dk_182 0 175 (dk_at dksX5_choice_1 0 rfl rfl)
theorem dX5_choice_27 : decode cX5_choice 27 = .ok (.ifCond .ne 6, 3) := dk_154 0 6 (dk_at dksX5_choice_1 3 rfl rfl)
theorem dX5_choice_30 : decode cX5_choice 30 = .ok (.goto 45, 3) := dk_167 0 45 (dk_at dksX5_choice_1 6 rfl rfl)
theorem dX5_choice_33 : decode cX5_choice 33 = .ok (.aload_n 0, 1) := dk_42 (dk_at dksX5_choice_1 9 rfl rfl)
theorem dX5_choice_34 : decode cX5_choice 34 = .ok (.iload_n 1, 1) := dk_27 (dk_at dksX5_choice_1 10 rfl rfl)
theorem dX5_choice_35 : decode cX5_choice 35 = .ok (.iload_n 3, 1) := dk_29 (dk_at dksX5_choice_1 11 rfl rfl)
theorem dX5_choice_36 : decode cX5_choice 36 = .ok (.invokevirtual 247, 3) := dk_182 0 247 (dk_at dksX5_choice_1 12 rfl rfl)
theorem dX5_choice_39 : decode cX5_choice 39 = .ok (.aload_n 0, 1) := dk_42 (dk_at dksX5_choice_1 15 rfl rfl)
theorem dX5_choice_40 : decode cX5_choice 40 = .ok (.getfield 22, 3) := dk_180 0 22 (dk_at dksX5_choice_1 16 rfl rfl)
theorem dX5_choice_43 : decode cX5_choice 43 = .ok (.sipush 1024, 3) := dk_17 4 0 (dk_at dksX5_choice_1 19 rfl rfl)
theorem dX5_choice_46 : decode cX5_choice 46 = .ok (.iload_n 1, 1) := dk_27 (dk_at dksX5_choice_1 22 rfl rfl)
theorem dX5_choice_47 : decode cX5_choice 47 = .ok (.iconst 1, 1) := dk_4 (dk_at dksX5_choice_1 23 rfl rfl)
theorem dX5_choice_48 : decode cX5_choice 48 = .ok (.iadd, 1) := dk_96 (dk_at dksX5_choice_2 0 rfl rfl)
theorem dX5_choice_49 : decode cX5_choice 49 = .ok (.imul, 1) := dk_104 (dk_at dksX5_choice_2 1 rfl rfl)
theorem dX5_choice_50 : decode cX5_choice 50 = .ok (.iload_n 2, 1) := dk_28 (dk_at dksX5_choice_2 2 rfl rfl)
theorem dX5_choice_51 : decode cX5_choice 51 = .ok (.iconst 1, 1) := dk_4 (dk_at dksX5_choice_2 3 rfl rfl)
theorem dX5_choice_52 : decode cX5_choice 52 = .ok (.iload_n 3, 1) := dk_29 (dk_at dksX5_choice_2 4 rfl rfl)
theorem dX5_choice_53 : decode cX5_choice 53 = .ok (.ishl, 1) := dk_120 (dk_at dksX5_choice_2 5 rfl rfl)
theorem dX5_choice_54 : decode cX5_choice 54 = .ok (.ior, 1) := dk_128 (dk_at dksX5_choice_2 6 rfl rfl)
theorem dX5_choice_55 : decode cX5_choice 55 = .ok (.iadd, 1) := dk_96 (dk_at dksX5_choice_2 7 rfl rfl)
theorem dX5_choice_56 : decode cX5_choice 56 = .ok (.iaload, 1) := dk_46 (dk_at dksX5_choice_2 8 rfl rfl)
theorem dX5_choice_57 : decode cX5_choice 57 = .ok (.iadd, 1) := dk_96 (dk_at dksX5_choice_2 9 rfl rfl)
theorem dX5_choice_58 : decode cX5_choice 58 = .ok (.aload_n 0, 1) := dk_42 (dk_at dksX5_choice_2 10 rfl rfl)
theorem dX5_choice_59 : decode cX5_choice 59 = .ok (.getfield 22, 3) := dk_180 0 22 (dk_at dksX5_choice_2 11 rfl rfl)
theorem dX5_choice_62 : decode cX5_choice 62 = .ok (.sipush 1024, 3) := dk_17 4 0 (dk_at dksX5_choice_2 14 rfl rfl)
theorem dX5_choice_65 : decode cX5_choice 65 = .ok (.iload_n 1, 1) := dk_27 (dk_at dksX5_choice_2 17 rfl rfl)
theorem dX5_choice_66 : decode cX5_choice 66 = .ok (.imul, 1) := dk_104 (dk_at dksX5_choice_2 18 rfl rfl)
theorem dX5_choice_67 : decode cX5_choice 67 = .ok (.iload_n 2, 1) := dk_28 (dk_at dksX5_choice_2 19 rfl rfl)
theorem dX5_choice_68 : decode cX5_choice 68 = .ok (.iadd, 1) := dk_96 (dk_at dksX5_choice_2 20 rfl rfl)
theorem dX5_choice_69 : decode cX5_choice 69 = .ok (.iaload, 1) := dk_46 (dk_at dksX5_choice_2 21 rfl rfl)
theorem dX5_choice_70 : decode cX5_choice 70 = .ok (.if_icmp .ne 5, 3) := dk_160 0 5 (dk_at dksX5_choice_3 0 rfl rfl)
theorem dX5_choice_73 : decode cX5_choice 73 = .ok (.iload_n 3, 1) := dk_29 (dk_at dksX5_choice_3 3 rfl rfl)
theorem dX5_choice_74 : decode cX5_choice 74 = .ok (.ireturn, 1) := dk_172 (dk_at dksX5_choice_3 4 rfl rfl)
theorem dX5_choice_75 : decode cX5_choice 75 = .ok (.iinc 3 1, 3) := dk_132 3 1 (dk_at dksX5_choice_3 5 rfl rfl)
theorem dX5_choice_78 : decode cX5_choice 78 = .ok (.goto (-76), 3) := dk_167 255 180 (dk_at dksX5_choice_3 8 rfl rfl)
theorem dX5_choice_81 : decode cX5_choice 81 = .ok (.iconst (-1), 1) := dk_2 (dk_at dksX5_choice_3 11 rfl rfl)
theorem dX5_choice_82 : decode cX5_choice 82 = .ok (.ireturn, 1) := dk_172 (dk_at dksX5_choice_3 12 rfl rfl)
def dkwX5_mix_1 : List UInt8 := [42, 27, 28, 182, 0, 198, 182, 0, 136, 172]
abbrev dktX5_mix_1 : List UInt8 := dkwX5_mix_1 ++ []
def dkwX5_mix_0 : List UInt8 := [42, 182, 0, 123, 42, 27, 28, 182, 0, 195, 62, 29, 158, 0, 11, 42, 29, 182, 0, 130, 167, 0, 13, 42]
abbrev dktX5_mix_0 : List UInt8 := dkwX5_mix_0 ++ dktX5_mix_1
theorem dksX5_mix_0 : cX5_mix.data.toList.drop 0 = dktX5_mix_0 := by decide +kernel
theorem dksX5_mix_1 : cX5_mix.data.toList.drop 24 = dktX5_mix_1 := dk_seg dksX5_mix_0 24 rfl rfl
theorem dX5_mix_0 : decode cX5_mix 0 = .ok (.aload_n 0, 1) := dk_42 (dk_at dksX5_mix_0 0 rfl rfl)
theorem dX5_mix_1 : decode cX5_mix 1 = .ok (.invokevirtual 123, 3) := dk_182 0 123 (dk_at dksX5_mix_0 1 rfl rfl)
theorem dX5_mix_4 : decode cX5_mix 4 = .ok (.aload_n 0, 1) := dk_42 (dk_at dksX5_mix_0 4 rfl rfl)
theorem dX5_mix_5 : decode cX5_mix 5 = .ok (.iload_n 1, 1) := dk_27 (dk_at dksX5_mix_0 5 rfl rfl)
theorem dX5_mix_6 : decode cX5_mix 6 = .ok (.iload_n 2, 1) := dk_28 (dk_at dksX5_mix_0 6 rfl rfl)
theorem dX5_mix_7 : decode cX5_mix 7 = .ok (.invokevirtual 195, 3) := dk_182 0 195 (dk_at dksX5_mix_0 7 rfl rfl)
theorem dX5_mix_10 : decode cX5_mix 10 = .ok (.istore_n 3, 1) := dk_62 (dk_at dksX5_mix_0 10 rfl rfl)
theorem dX5_mix_11 : decode cX5_mix 11 = .ok (.iload_n 3, 1) := dk_29 (dk_at dksX5_mix_0 11 rfl rfl)
theorem dX5_mix_12 : decode cX5_mix 12 = .ok (.ifCond .le 11, 3) := dk_158 0 11 (dk_at dksX5_mix_0 12 rfl rfl)
theorem dX5_mix_15 : decode cX5_mix 15 = .ok (.aload_n 0, 1) := dk_42 (dk_at dksX5_mix_0 15 rfl rfl)
theorem dX5_mix_16 : decode cX5_mix 16 = .ok (.iload_n 3, 1) := dk_29 (dk_at dksX5_mix_0 16 rfl rfl)
theorem dX5_mix_17 : decode cX5_mix 17 = .ok (.invokevirtual 130, 3) := dk_182 0 130 (dk_at dksX5_mix_0 17 rfl rfl)
theorem dX5_mix_20 : decode cX5_mix 20 = .ok (.goto 13, 3) := dk_167 0 13 (dk_at dksX5_mix_0 20 rfl rfl)
theorem dX5_mix_23 : decode cX5_mix 23 = .ok (.aload_n 0, 1) := dk_42 (dk_at dksX5_mix_0 23 rfl rfl)
theorem dX5_mix_24 : decode cX5_mix 24 = .ok (.aload_n 0, 1) := dk_42 (dk_at dksX5_mix_1 0 rfl rfl)
theorem dX5_mix_25 : decode cX5_mix 25 = .ok (.iload_n 1, 1) := dk_27 (dk_at dksX5_mix_1 1 rfl rfl)
theorem dX5_mix_26 : decode cX5_mix 26 = .ok (.iload_n 2, 1) := dk_28 (dk_at dksX5_mix_1 2 rfl rfl)
theorem dX5_mix_27 : decode cX5_mix 27 = .ok (.invokevirtual 198, 3) := dk_182 0 198 (dk_at dksX5_mix_1 3 rfl rfl)
theorem dX5_mix_30 : decode cX5_mix 30 = .ok (.invokevirtual 136, 3) := dk_182 0 136 (dk_at dksX5_mix_1 6 rfl rfl)
theorem dX5_mix_33 : decode cX5_mix 33 = .ok (.ireturn, 1) := dk_172 (dk_at dksX5_mix_1 9 rfl rfl)
def dkwX5_cannotMix_1 : List UInt8 := [160, 0, 7, 5, 167, 0, 4, 3, 172]
abbrev dktX5_cannotMix_1 : List UInt8 := dkwX5_cannotMix_1 ++ []
def dkwX5_cannotMix_0 : List UInt8 := [42, 27, 182, 0, 156, 155, 0, 11, 42, 28, 182, 0, 156, 156, 0, 7, 4, 167, 0, 13, 27, 28]
abbrev dktX5_cannotMix_0 : List UInt8 := dkwX5_cannotMix_0 ++ dktX5_cannotMix_1
theorem dksX5_cannotMix_0 : cX5_cannotMix.data.toList.drop 0 = dktX5_cannotMix_0 := by decide +kernel
theorem dksX5_cannotMix_1 : cX5_cannotMix.data.toList.drop 22 = dktX5_cannotMix_1 := dk_seg dksX5_cannotMix_0 22 rfl rfl
theorem dX5_cannotMix_0 : decode cX5_cannotMix 0 = .ok (.aload_n 0, 1) := dk_42 (dk_at dksX5_cannotMix_0 0 rfl rfl)
theorem dX5_cannotMix_1 : decode cX5_cannotMix 1 = .ok (.iload_n 1, 1) := dk_27 (dk_at dksX5_cannotMix_0 1 rfl rfl)
theorem dX5_cannotMix_2 : decode cX5_cannotMix 2 = .ok (.invokevirtual 156, 3) := dk_182 0 156 (dk_at dksX5_cannotMix_0 2 rfl rfl)
theorem dX5_cannotMix_5 : decode cX5_cannotMix 5 = .ok (.ifCond .lt 11, 3) := dk_155 0 11 (dk_at dksX5_cannotMix_0 5 rfl rfl)
theorem dX5_cannotMix_8 : decode cX5_cannotMix 8 = .ok (.aload_n 0, 1) := dk_42 (dk_at dksX5_cannotMix_0 8 rfl rfl)
theorem dX5_cannotMix_9 : decode cX5_cannotMix 9 = .ok (.iload_n 2, 1) := dk_28 (dk_at dksX5_cannotMix_0 9 rfl rfl)
theorem dX5_cannotMix_10 : decode cX5_cannotMix 10 = .ok (.invokevirtual 156, 3) := dk_182 0 156 (dk_at dksX5_cannotMix_0 10 rfl rfl)
theorem dX5_cannotMix_13 : decode cX5_cannotMix 13 = .ok (.ifCond .ge 7, 3) := dk_156 0 7 (dk_at dksX5_cannotMix_0 13 rfl rfl)
theorem dX5_cannotMix_16 : decode cX5_cannotMix 16 = .ok (.iconst 1, 1) := dk_4 (dk_at dksX5_cannotMix_0 16 rfl rfl)
theorem dX5_cannotMix_17 : decode cX5_cannotMix 17 = .ok (.goto 13, 3) := dk_167 0 13 (dk_at dksX5_cannotMix_0 17 rfl rfl)
theorem dX5_cannotMix_20 : decode cX5_cannotMix 20 = .ok (.iload_n 1, 1) := dk_27 (dk_at dksX5_cannotMix_0 20 rfl rfl)
theorem dX5_cannotMix_21 : decode cX5_cannotMix 21 = .ok (.iload_n 2, 1) := dk_28 (dk_at dksX5_cannotMix_0 21 rfl rfl)
theorem dX5_cannotMix_22 : decode cX5_cannotMix 22 = .ok (.if_icmp .ne 7, 3) := dk_160 0 7 (dk_at dksX5_cannotMix_1 0 rfl rfl)
theorem dX5_cannotMix_25 : decode cX5_cannotMix 25 = .ok (.iconst 2, 1) := dk_5 (dk_at dksX5_cannotMix_1 3 rfl rfl)
theorem dX5_cannotMix_26 : decode cX5_cannotMix 26 = .ok (.goto 4, 3) := dk_167 0 4 (dk_at dksX5_cannotMix_1 4 rfl rfl)
theorem dX5_cannotMix_29 : decode cX5_cannotMix 29 = .ok (.iconst 0, 1) := dk_3 (dk_at dksX5_cannotMix_1 7 rfl rfl)
theorem dX5_cannotMix_30 : decode cX5_cannotMix 30 = .ok (.ireturn, 1) := dk_172 (dk_at dksX5_cannotMix_1 8 rfl rfl)
def dkwX5_mixes_6 : List UInt8 := [21, 8, 182, 0, 133, 172]
abbrev dktX5_mixes_6 : List UInt8 := dkwX5_mixes_6 ++ []
def dkwX5_mixes_5 : List UInt8 := [42, 29, 21, 4, 164, 0, 8, 21, 4, 167, 0, 4, 29, 182, 0, 159, 42, 21, 5, 21, 6, 21, 7]
abbrev dktX5_mixes_5 : List UInt8 := dkwX5_mixes_5 ++ dktX5_mixes_6
def dkwX5_mixes_4 : List UInt8 := [21, 4, 7, 182, 0, 92, 54, 8, 42, 29, 21, 4, 164, 0, 7, 29, 167, 0, 5, 21, 4, 182, 0, 159]
abbrev dktX5_mixes_4 : List UInt8 := dkwX5_mixes_4 ++ dktX5_mixes_5
def dkwX5_mixes_3 : List UInt8 := [182, 0, 92, 42, 21, 4, 7, 182, 0, 92, 162, 0, 12, 42, 29, 7, 182, 0, 92, 167, 0, 10, 42]
abbrev dktX5_mixes_3 : List UInt8 := dkwX5_mixes_3 ++ dktX5_mixes_4
def dkwX5_mixes_2 : List UInt8 := [54, 6, 42, 29, 6, 182, 0, 92, 42, 21, 4, 6, 182, 0, 92, 96, 5, 108, 54, 7, 42, 29, 7]
abbrev dktX5_mixes_2 : List UInt8 := dkwX5_mixes_2 ++ dktX5_mixes_3
def dkwX5_mixes_1 : List UInt8 := [182, 0, 92, 96, 5, 108, 54, 5, 42, 29, 5, 182, 0, 92, 42, 21, 4, 5, 182, 0, 92, 96, 5, 108]
abbrev dktX5_mixes_1 : List UInt8 := dkwX5_mixes_1 ++ dktX5_mixes_2
def dkwX5_mixes_0 : List UInt8 := [42, 27, 182, 0, 156, 62, 42, 28, 182, 0, 156, 54, 4, 42, 29, 4, 182, 0, 92, 42, 21, 4, 4]
abbrev dktX5_mixes_0 : List UInt8 := dkwX5_mixes_0 ++ dktX5_mixes_1
theorem dksX5_mixes_0 : cX5_mixes.data.toList.drop 0 = dktX5_mixes_0 := by decide +kernel
theorem dksX5_mixes_1 : cX5_mixes.data.toList.drop 23 = dktX5_mixes_1 := dk_seg dksX5_mixes_0 23 rfl rfl
theorem dksX5_mixes_2 : cX5_mixes.data.toList.drop 47 = dktX5_mixes_2 := dk_seg dksX5_mixes_1 24 rfl rfl
theorem dksX5_mixes_3 : cX5_mixes.data.toList.drop 70 = dktX5_mixes_3 := dk_seg dksX5_mixes_2 23 rfl rfl
theorem dksX5_mixes_4 : cX5_mixes.data.toList.drop 93 = dktX5_mixes_4 := dk_seg dksX5_mixes_3 23 rfl rfl
theorem dksX5_mixes_5 : cX5_mixes.data.toList.drop 117 = dktX5_mixes_5 := dk_seg dksX5_mixes_4 24 rfl rfl
theorem dksX5_mixes_6 : cX5_mixes.data.toList.drop 140 = dktX5_mixes_6 := dk_seg dksX5_mixes_5 23 rfl rfl
theorem dX5_mixes_0 : decode cX5_mixes 0 = .ok (.aload_n 0, 1) := dk_42 (dk_at dksX5_mixes_0 0 rfl rfl)
theorem dX5_mixes_1 : decode cX5_mixes 1 = .ok (.iload_n 1, 1) := dk_27 (dk_at dksX5_mixes_0 1 rfl rfl)
theorem dX5_mixes_2 : decode cX5_mixes 2 = .ok (.invokevirtual 156, 3) := dk_182 0 156 (dk_at dksX5_mixes_0 2 rfl rfl)
theorem dX5_mixes_5 : decode cX5_mixes 5 = .ok (.istore_n 3, 1) := dk_62 (dk_at dksX5_mixes_0 5 rfl rfl)
theorem dX5_mixes_6 : decode cX5_mixes 6 = .ok (.aload_n 0, 1) := dk_42 (dk_at dksX5_mixes_0 6 rfl rfl)
theorem dX5_mixes_7 : decode cX5_mixes 7 = .ok (.iload_n 2, 1) := dk_28 (dk_at dksX5_mixes_0 7 rfl rfl)
theorem dX5_mixes_8 : decode cX5_mixes 8 = .ok (.invokevirtual 156, 3) := dk_182 0 156 (dk_at dksX5_mixes_0 8 rfl rfl)
theorem dX5_mixes_11 : decode cX5_mixes 11 = .ok (.istore 4, 2) := dk_54 4 (dk_at dksX5_mixes_0 11 rfl rfl)
theorem dX5_mixes_13 : decode cX5_mixes 13 = .ok (.aload_n 0, 1) := dk_42 (dk_at dksX5_mixes_0 13 rfl rfl)
theorem dX5_mixes_14 : decode cX5_mixes 14 = .ok (.iload_n 3, 1) := dk_29 (dk_at dksX5_mixes_0 14 rfl rfl)
theorem dX5_mixes_15 : decode cX5_mixes 15 = .ok (.iconst 1, 1) := dk_4 (dk_at dksX5_mixes_0 15 rfl rfl)
theorem dX5_mixes_16 : decode cX5_mixes 16 = .ok (.invokevirtual 92, 3) := dk_182 0 92 (dk_at dksX5_mixes_0 16 rfl rfl)
theorem dX5_mixes_19 : decode cX5_mixes 19 = .ok (.aload_n 0, 1) := dk_42 (dk_at dksX5_mixes_0 19 rfl rfl)
theorem dX5_mixes_20 : decode cX5_mixes 20 = .ok (.iload 4, 2) := dk_21 4 (dk_at dksX5_mixes_0 20 rfl rfl)
theorem dX5_mixes_22 : decode cX5_mixes 22 = .ok (.iconst 1, 1) := dk_4 (dk_at dksX5_mixes_0 22 rfl rfl)
theorem dX5_mixes_23 : decode cX5_mixes 23 = .ok (.invokevirtual 92, 3) := dk_182 0 92 (dk_at dksX5_mixes_1 0 rfl rfl)
theorem dX5_mixes_26 : decode cX5_mixes 26 = .ok (.iadd, 1) := dk_96 (dk_at dksX5_mixes_1 3 rfl rfl)
theorem dX5_mixes_27 : decode cX5_mixes 27 = .ok (.iconst 2, 1) := dk_5 (dk_at dksX5_mixes_1 4 rfl rfl)
theorem dX5_mixes_28 : decode cX5_mixes 28 = .ok (.idiv, 1) := dk_108 (dk_at dksX5_mixes_1 5 rfl rfl)
theorem dX5_mixes_29 : decode cX5_mixes 29 = .ok (.istore 5, 2) := dk_54 5 (dk_at dksX5_mixes_1 6 rfl rfl)
theorem dX5_mixes_31 : decode cX5_mixes 31 = .ok (.aload_n 0, 1) := dk_42 (dk_at dksX5_mixes_1 8 rfl rfl)
theorem dX5_mixes_32 : decode cX5_mixes 32 = .ok (.iload_n 3, 1) := dk_29 (dk_at dksX5_mixes_1 9 rfl rfl)
theorem dX5_mixes_33 : decode cX5_mixes 33 = .ok (.iconst 2, 1) := dk_5 (dk_at dksX5_mixes_1 10 rfl rfl)
theorem dX5_mixes_34 : decode cX5_mixes 34 = .ok (.invokevirtual 92, 3) := dk_182 0 92 (dk_at dksX5_mixes_1 11 rfl rfl)
theorem dX5_mixes_37 : decode cX5_mixes 37 = .ok (.aload_n 0, 1) := dk_42 (dk_at dksX5_mixes_1 14 rfl rfl)
theorem dX5_mixes_38 : decode cX5_mixes 38 = .ok (.iload 4, 2) := dk_21 4 (dk_at dksX5_mixes_1 15 rfl rfl)
theorem dX5_mixes_40 : decode cX5_mixes 40 = .ok (.iconst 2, 1) := dk_5 (dk_at dksX5_mixes_1 17 rfl rfl)
theorem dX5_mixes_41 : decode cX5_mixes 41 = .ok (.invokevirtual 92, 3) := dk_182 0 92 (dk_at dksX5_mixes_1 18 rfl rfl)
theorem dX5_mixes_44 : decode cX5_mixes 44 = .ok (.iadd, 1) := dk_96 (dk_at dksX5_mixes_1 21 rfl rfl)
theorem dX5_mixes_45 : decode cX5_mixes 45 = .ok (.iconst 2, 1) := dk_5 (dk_at dksX5_mixes_1 22 rfl rfl)
theorem dX5_mixes_46 : decode cX5_mixes 46 = .ok (.idiv, 1) := dk_108 (dk_at dksX5_mixes_1 23 rfl rfl)
theorem dX5_mixes_47 : decode cX5_mixes 47 = .ok (.istore 6, 2) := dk_54 6 (dk_at dksX5_mixes_2 0 rfl rfl)
theorem dX5_mixes_49 : decode cX5_mixes 49 = .ok (.aload_n 0, 1) := dk_42 (dk_at dksX5_mixes_2 2 rfl rfl)
theorem dX5_mixes_50 : decode cX5_mixes 50 = .ok (.iload_n 3, 1) := dk_29 (dk_at dksX5_mixes_2 3 rfl rfl)
theorem dX5_mixes_51 : decode cX5_mixes 51 = .ok (.iconst 3, 1) := dk_6 (dk_at dksX5_mixes_2 4 rfl rfl)
theorem dX5_mixes_52 : decode cX5_mixes 52 = .ok (.invokevirtual 92, 3) := dk_182 0 92 (dk_at dksX5_mixes_2 5 rfl rfl)
theorem dX5_mixes_55 : decode cX5_mixes 55 = .ok (.aload_n 0, 1) := dk_42 (dk_at dksX5_mixes_2 8 rfl rfl)
theorem dX5_mixes_56 : decode cX5_mixes 56 = .ok (.iload 4, 2) := dk_21 4 (dk_at dksX5_mixes_2 9 rfl rfl)
theorem dX5_mixes_58 : decode cX5_mixes 58 = .ok (.iconst 3, 1) := dk_6 (dk_at dksX5_mixes_2 11 rfl rfl)
theorem dX5_mixes_59 : decode cX5_mixes 59 = .ok (.invokevirtual 92, 3) := dk_182 0 92 (dk_at dksX5_mixes_2 12 rfl rfl)
theorem dX5_mixes_62 : decode cX5_mixes 62 = .ok (.iadd, 1) := dk_96 (dk_at dksX5_mixes_2 15 rfl rfl)
theorem dX5_mixes_63 : decode cX5_mixes 63 = .ok (.iconst 2, 1) := dk_5 (dk_at dksX5_mixes_2 16 rfl rfl)
theorem dX5_mixes_64 : decode cX5_mixes 64 = .ok (.idiv, 1) := dk_108 (dk_at dksX5_mixes_2 17 rfl rfl)
theorem dX5_mixes_65 : decode cX5_mixes 65 = .ok (.istore 7, 2) := dk_54 7 (dk_at dksX5_mixes_2 18 rfl rfl)
theorem dX5_mixes_67 : decode cX5_mixes 67 = .ok (.aload_n 0, 1) := dk_42 (dk_at dksX5_mixes_2 20 rfl rfl)
theorem dX5_mixes_68 : decode cX5_mixes 68 = .ok (.iload_n 3, 1) := dk_29 (dk_at dksX5_mixes_2 21 rfl rfl)
theorem dX5_mixes_69 : decode cX5_mixes 69 = .ok (.iconst 4, 1) := dk_7 (dk_at dksX5_mixes_2 22 rfl rfl)
theorem dX5_mixes_70 : decode cX5_mixes 70 = .ok (.invokevirtual 92, 3) := dk_182 0 92 (dk_at dksX5_mixes_3 0 rfl rfl)
theorem dX5_mixes_73 : decode cX5_mixes 73 = .ok (.aload_n 0, 1) := dk_42 (dk_at dksX5_mixes_3 3 rfl rfl)
theorem dX5_mixes_74 : decode cX5_mixes 74 = .ok (.iload 4, 2) := dk_21 4 (dk_at dksX5_mixes_3 4 rfl rfl)
theorem dX5_mixes_76 : decode cX5_mixes 76 = .ok (.iconst 4, 1) := dk_7 (dk_at dksX5_mixes_3 6 rfl rfl)
theorem dX5_mixes_77 : decode cX5_mixes 77 = .ok (.invokevirtual 92, 3) := dk_182 0 92 (dk_at dksX5_mixes_3 7 rfl rfl)
theorem dX5_mixes_80 : decode cX5_mixes 80 = .ok (.if_icmp .ge 12, 3) := dk_162 0 12 (dk_at dksX5_mixes_3 10 rfl rfl)
theorem dX5_mixes_83 : decode cX5_mixes 83 = .ok (.aload_n 0, 1) := dk_42 (dk_at dksX5_mixes_3 13 rfl rfl)
theorem dX5_mixes_84 : decode cX5_mixes 84 = .ok (.iload_n 3, 1) := dk_29 (dk_at dksX5_mixes_3 14 rfl rfl)
theorem dX5_mixes_85 : decode cX5_mixes 85 = .ok (.iconst 4, 1) := dk_7 (dk_at dksX5_mixes_3 15 rfl rfl)
theorem dX5_mixes_86 : decode cX5_mixes 86 = .ok (.invokevirtual 92, 3) := dk_182 0 92 (dk_at dksX5_mixes_3 16 rfl rfl)
theorem dX5_mixes_89 : decode cX5_mixes 89 = .ok (.goto 10, 3) := dk_167 0 10 (dk_at dksX5_mixes_3 19 rfl rfl)
theorem dX5_mixes_92 : decode cX5_mixes 92 = .ok (.aload_n 0, 1) := dk_42 (dk_at dksX5_mixes_3 22 rfl rfl)
theorem dX5_mixes_93 : decode cX5_mixes 93 = .ok (.iload 4, 2) := dk_21 4 (dk_at dksX5_mixes_4 0 rfl rfl)
theorem dX5_mixes_95 : decode cX5_mixes 95 = .ok (.iconst 4, 1) := dk_7 (dk_at dksX5_mixes_4 2 rfl rfl)
theorem dX5_mixes_96 : decode cX5_mixes 96 = .ok (.invokevirtual 92, 3) := dk_182 0 92 (dk_at dksX5_mixes_4 3 rfl rfl)
theorem dX5_mixes_99 : decode cX5_mixes 99 = .ok (.istore 8, 2) := dk_54 8 (dk_at dksX5_mixes_4 6 rfl rfl)
theorem dX5_mixes_101 : decode cX5_mixes 101 = .ok (.aload_n 0, 1) := dk_42 (dk_at dksX5_mixes_4 8 rfl rfl)
theorem dX5_mixes_102 : decode cX5_mixes 102 = .ok (.iload_n 3, 1) := dk_29 (dk_at dksX5_mixes_4 9 rfl rfl)
theorem dX5_mixes_103 : decode cX5_mixes 103 = .ok (.iload 4, 2) := dk_21 4 (dk_at dksX5_mixes_4 10 rfl rfl)
theorem dX5_mixes_105 : decode cX5_mixes 105 = .ok (.if_icmp .le 7, 3) := dk_164 0 7 (dk_at dksX5_mixes_4 12 rfl rfl)
theorem dX5_mixes_108 : decode cX5_mixes 108 = .ok (.iload_n 3, 1) := dk_29 (dk_at dksX5_mixes_4 15 rfl rfl)
theorem dX5_mixes_109 : decode cX5_mixes 109 = .ok (.goto 5, 3) := dk_167 0 5 (dk_at dksX5_mixes_4 16 rfl rfl)
theorem dX5_mixes_112 : decode cX5_mixes 112 = .ok (.iload 4, 2) := dk_21 4 (dk_at dksX5_mixes_4 19 rfl rfl)
theorem dX5_mixes_114 : decode cX5_mixes 114 = .ok (.invokevirtual 159, 3) := dk_182 0 159 (dk_at dksX5_mixes_4 21 rfl rfl)
theorem dX5_mixes_117 : decode cX5_mixes 117 = .ok (.aload_n 0, 1) := dk_42 (dk_at dksX5_mixes_5 0 rfl rfl)
theorem dX5_mixes_118 : decode cX5_mixes 118 = .ok (.iload_n 3, 1) := dk_29 (dk_at dksX5_mixes_5 1 rfl rfl)
theorem dX5_mixes_119 : decode cX5_mixes 119 = .ok (.iload 4, 2) := dk_21 4 (dk_at dksX5_mixes_5 2 rfl rfl)
theorem dX5_mixes_121 : decode cX5_mixes 121 = .ok (.if_icmp .le 8, 3) := dk_164 0 8 (dk_at dksX5_mixes_5 4 rfl rfl)
theorem dX5_mixes_124 : decode cX5_mixes 124 = .ok (.iload 4, 2) := dk_21 4 (dk_at dksX5_mixes_5 7 rfl rfl)
theorem dX5_mixes_126 : decode cX5_mixes 126 = .ok (.goto 4, 3) := dk_167 0 4 (dk_at dksX5_mixes_5 9 rfl rfl)
theorem dX5_mixes_129 : decode cX5_mixes 129 = .ok (.iload_n 3, 1) := dk_29 (dk_at dksX5_mixes_5 12 rfl rfl)
theorem dX5_mixes_130 : decode cX5_mixes 130 = .ok (.invokevirtual 159, 3) := dk_182 0 159 (dk_at dksX5_mixes_5 13 rfl rfl)
theorem dX5_mixes_133 : decode cX5_mixes 133 = .ok (.aload_n 0, 1) := dk_42 (dk_at dksX5_mixes_5 16 rfl rfl)
theorem dX5_mixes_134 : decode cX5_mixes 134 = .ok (.iload 5, 2) := dk_21 5 (dk_at dksX5_mixes_5 17 rfl rfl)
theorem dX5_mixes_136 : decode cX5_mixes 136 = .ok (.iload 6, 2) := dk_21 6 (dk_at dksX5_mixes_5 19 rfl rfl)
theorem dX5_mixes_138 : decode cX5_mixes 138 = .ok (.iload 7, 2) := dk_21 7 (dk_at dksX5_mixes_5 21 rfl rfl)
theorem dX5_mixes_140 : decode cX5_mixes 140 = .ok (.iload 8, 2) := dk_21 8 (dk_at dksX5_mixes_6 0 rfl rfl)
theorem dX5_mixes_142 : decode cX5_mixes 142 = .ok (.invokevirtual 133, 3) := dk_182 0 133 (dk_at dksX5_mixes_6 2 rfl rfl)
theorem dX5_mixes_145 : decode cX5_mixes 145 = .ok (.ireturn, 1) := dk_172 (dk_at dksX5_mixes_6 5 rfl rfl)
def dkwX5_passDays_1 : List UInt8 := [167, 0, 8, 42, 4, 182, 0, 130, 172]
abbrev dktX5_passDays_1 : List UInt8 := dkwX5_passDays_1 ++ []
def dkwX5_passDays_0 : List UInt8 := [42, 182, 0, 123, 27, 4, 16, 99, 184, 0, 112, 153, 0, 15, 42, 42, 27, 182, 0, 213, 182, 0, 136]
abbrev dktX5_passDays_0 : List UInt8 := dkwX5_passDays_0 ++ dktX5_passDays_1
theorem dksX5_passDays_0 : cX5_passDays.data.toList.drop 0 = dktX5_passDays_0 := by decide +kernel
theorem dksX5_passDays_1 : cX5_passDays.data.toList.drop 23 = dktX5_passDays_1 := dk_seg dksX5_passDays_0 23 rfl rfl
theorem dX5_passDays_0 : decode cX5_passDays 0 = .ok (.aload_n 0, 1) := dk_42 (dk_at dksX5_passDays_0 0 rfl rfl)
theorem dX5_passDays_1 : decode cX5_passDays 1 = .ok (.invokevirtual 123, 3) := dk_182 0 123 (dk_at dksX5_passDays_0 1 rfl rfl)
theorem dX5_passDays_4 : decode cX5_passDays 4 = .ok (.iload_n 1, 1) := dk_27 (dk_at dksX5_passDays_0 4 rfl rfl)
theorem dX5_passDays_5 : decode cX5_passDays 5 = .ok (.iconst 1, 1) := dk_4 (dk_at dksX5_passDays_0 5 rfl rfl)
theorem dX5_passDays_6 : decode cX5_passDays 6 = .ok (.bipush 99, 2) := dk_16 99 (dk_at dksX5_passDays_0 6 rfl rfl)
theorem dX5_passDays_8 : decode cX5_passDays 8 = .ok (.invokestatic 112, 3) := dk_184 0 112 (dk_at dksX5_passDays_0 8 rfl rfl)
theorem dX5_passDays_11 : decode cX5_passDays 11 = .ok (.ifCond .eq 15, 3) := dk_153 0 15 (dk_at dksX5_passDays_0 11 rfl rfl)
theorem dX5_passDays_14 : decode cX5_passDays 14 = .ok (.aload_n 0, 1) := dk_42 (dk_at dksX5_passDays_0 14 rfl rfl)
theorem dX5_passDays_15 : decode cX5_passDays 15 = .ok (.aload_n 0, 1) := dk_42 (dk_at dksX5_passDays_0 15 rfl rfl)
theorem dX5_passDays_16 : decode cX5_passDays 16 = .ok (.iload_n 1, 1) := dk_27 (dk_at dksX5_passDays_0 16 rfl rfl)
theorem dX5_passDays_17 : decode cX5_passDays 17 = .ok (.invokevirtual 213, 3) := dk_182 0 213 (dk_at dksX5_passDays_0 17 rfl rfl)
theorem dX5_passDays_20 : decode cX5_passDays 20 = .ok (.invokevirtual 136, 3) := dk_182 0 136 (dk_at dksX5_passDays_0 20 rfl rfl)
theorem dX5_passDays_23 : decode cX5_passDays 23 = .ok (.goto 8, 3) := dk_167 0 8 (dk_at dksX5_passDays_1 0 rfl rfl)
theorem dX5_passDays_26 : decode cX5_passDays 26 = .ok (.aload_n 0, 1) := dk_42 (dk_at dksX5_passDays_1 3 rfl rfl)
theorem dX5_passDays_27 : decode cX5_passDays 27 = .ok (.iconst 1, 1) := dk_4 (dk_at dksX5_passDays_1 4 rfl rfl)
theorem dX5_passDays_28 : decode cX5_passDays 28 = .ok (.invokevirtual 130, 3) := dk_182 0 130 (dk_at dksX5_passDays_1 5 rfl rfl)
theorem dX5_passDays_31 : decode cX5_passDays 31 = .ok (.ireturn, 1) := dk_172 (dk_at dksX5_passDays_1 8 rfl rfl)
def dkwX5_passes_4 : List UInt8 := [167, 255, 165, 42, 182, 0, 207, 172]
abbrev dktX5_passes_4 : List UInt8 := dkwX5_passes_4 ++ []
def dkwX5_passes_3 : List UInt8 := [182, 0, 92, 184, 0, 204, 79, 132, 4, 1, 167, 255, 225, 132, 3, 1, 167, 255, 188, 132, 2, 1]
abbrev dktX5_passes_3 : List UInt8 := dkwX5_passes_3 ++ dktX5_passes_4
def dkwX5_passes_2 : List UInt8 := [54, 4, 21, 4, 6, 163, 0, 31, 42, 180, 0, 7, 29, 184, 0, 85, 21, 4, 96, 42, 29, 21, 4]
abbrev dktX5_passes_2 : List UInt8 := dkwX5_passes_2 ++ dktX5_passes_3
def dkwX5_passes_1 : List UInt8 := [3, 46, 162, 0, 64, 42, 29, 182, 0, 201, 42, 29, 7, 182, 0, 92, 112, 158, 0, 6, 167, 0, 40, 4]
abbrev dktX5_passes_1 : List UInt8 := dkwX5_passes_1 ++ dktX5_passes_2
def dkwX5_passes_0 : List UInt8 := [3, 61, 28, 27, 162, 0, 92, 42, 180, 0, 7, 7, 92, 46, 4, 96, 79, 3, 62, 29, 42, 180, 0, 7]
abbrev dktX5_passes_0 : List UInt8 := dkwX5_passes_0 ++ dktX5_passes_1
theorem dksX5_passes_0 : cX5_passes.data.toList.drop 0 = dktX5_passes_0 := by decide +kernel
theorem dksX5_passes_1 : cX5_passes.data.toList.drop 24 = dktX5_passes_1 := dk_seg dksX5_passes_0 24 rfl rfl
theorem dksX5_passes_2 : cX5_passes.data.toList.drop 48 = dktX5_passes_2 := dk_seg dksX5_passes_1 24 rfl rfl
theorem dksX5_passes_3 : cX5_passes.data.toList.drop 71 = dktX5_passes_3 := dk_seg dksX5_passes_2 23 rfl rfl
theorem dksX5_passes_4 : cX5_passes.data.toList.drop 93 = dktX5_passes_4 := dk_seg dksX5_passes_3 22 rfl rfl
theorem dX5_passes_0 : decode cX5_passes 0 = .ok (.iconst 0, 1) := dk_3 (dk_at dksX5_passes_0 0 rfl rfl)
theorem dX5_passes_1 : decode cX5_passes 1 = .ok (.istore_n 2, 1) := dk_61 (dk_at dksX5_passes_0 1 rfl rfl)
theorem dX5_passes_2 : decode cX5_passes 2 = .ok (.iload_n 2, 1) := dk_28 (dk_at dksX5_passes_0 2 rfl rfl)
theorem dX5_passes_3 : decode cX5_passes 3 = .ok (.iload_n 1, 1) := dk_27 (dk_at dksX5_passes_0 3 rfl rfl)
theorem dX5_passes_4 : decode cX5_passes 4 = .ok (.if_icmp .ge 92, 3) := dk_162 0 92 (dk_at dksX5_passes_0 4 rfl rfl)
theorem dX5_passes_7 : decode cX5_passes 7 = .ok (.aload_n 0, 1) := dk_42 (dk_at dksX5_passes_0 7 rfl rfl)
theorem dX5_passes_8 : decode cX5_passes 8 = .ok (.getfield 7, 3) := dk_180 0 7 (dk_at dksX5_passes_0 8 rfl rfl)
theorem dX5_passes_11 : decode cX5_passes 11 = .ok (.iconst 4, 1) := dk_7 (dk_at dksX5_passes_0 11 rfl rfl)
theorem dX5_passes_12 : decode cX5_passes 12 = .ok (.dup2, 1) := dk_92 (dk_at dksX5_passes_0 12 rfl rfl)
theorem dX5_passes_13 : decode cX5_passes 13 = .ok (.iaload, 1) := dk_46 (dk_at dksX5_passes_0 13 rfl rfl)
theorem dX5_passes_14 : decode cX5_passes 14 = .ok (.iconst 1, 1) := dk_4 (dk_at dksX5_passes_0 14 rfl rfl)
theorem dX5_passes_15 : decode cX5_passes 15 = .ok (.iadd, 1) := dk_96 (dk_at dksX5_passes_0 15 rfl rfl)
theorem dX5_passes_16 : decode cX5_passes 16 = .ok (.iastore, 1) := dk_79 (dk_at dksX5_passes_0 16 rfl rfl)
theorem dX5_passes_17 : decode cX5_passes 17 = .ok (.iconst 0, 1) := dk_3 (dk_at dksX5_passes_0 17 rfl rfl)
theorem dX5_passes_18 : decode cX5_passes 18 = .ok (.istore_n 3, 1) := dk_62 (dk_at dksX5_passes_0 18 rfl rfl)
theorem dX5_passes_19 : decode cX5_passes 19 = .ok (.iload_n 3, 1) := dk_29 (dk_at dksX5_passes_0 19 rfl rfl)
theorem dX5_passes_20 : decode cX5_passes 20 = .ok (.aload_n 0, 1) := dk_42 (dk_at dksX5_passes_0 20 rfl rfl)
theorem dX5_passes_21 : decode cX5_passes 21 = .ok (.getfield 7, 3) := dk_180 0 7 (dk_at dksX5_passes_0 21 rfl rfl)
theorem dX5_passes_24 : decode cX5_passes 24 = .ok (.iconst 0, 1) := dk_3 (dk_at dksX5_passes_1 0 rfl rfl)
theorem dX5_passes_25 : decode cX5_passes 25 = .ok (.iaload, 1) := dk_46 (dk_at dksX5_passes_1 1 rfl rfl)
theorem dX5_passes_26 : decode cX5_passes 26 = .ok (.if_icmp .ge 64, 3) := dk_162 0 64 (dk_at dksX5_passes_1 2 rfl rfl)
theorem dX5_passes_29 : decode cX5_passes 29 = .ok (.aload_n 0, 1) := dk_42 (dk_at dksX5_passes_1 5 rfl rfl)
theorem dX5_passes_30 : decode cX5_passes 30 = .ok (.iload_n 3, 1) := dk_29 (dk_at dksX5_passes_1 6 rfl rfl)
theorem dX5_passes_31 : decode cX5_passes 31 = .ok (.invokevirtual 201, 3) := dk_182 0 201 (dk_at dksX5_passes_1 7 rfl rfl)
theorem dX5_passes_34 : decode cX5_passes 34 = .ok (.aload_n 0, 1) := dk_42 (dk_at dksX5_passes_1 10 rfl rfl)
theorem dX5_passes_35 : decode cX5_passes 35 = .ok (.iload_n 3, 1) := dk_29 (dk_at dksX5_passes_1 11 rfl rfl)
theorem dX5_passes_36 : decode cX5_passes 36 = .ok (.iconst 4, 1) := dk_7 (dk_at dksX5_passes_1 12 rfl rfl)
theorem dX5_passes_37 : decode cX5_passes 37 = .ok (.invokevirtual 92, 3) := dk_182 0 92 (dk_at dksX5_passes_1 13 rfl rfl)
theorem dX5_passes_40 : decode cX5_passes 40 = .ok (.irem, 1) := dk_112 (dk_at dksX5_passes_1 16 rfl rfl)
theorem dX5_passes_41 : decode cX5_passes 41 = .ok (.ifCond .le 6, 3) := dk_158 0 6 (dk_at dksX5_passes_1 17 rfl rfl)
theorem dX5_passes_44 : decode cX5_passes 44 = .ok (.goto 40, 3) := dk_167 0 40 (dk_at dksX5_passes_1 20 rfl rfl)
theorem dX5_passes_47 : decode cX5_passes 47 = .ok (.iconst 1, 1) := dk_4 (dk_at dksX5_passes_1 23 rfl rfl)
theorem dX5_passes_48 : decode cX5_passes 48 = .ok (.istore 4, 2) := dk_54 4 (dk_at dksX5_passes_2 0 rfl rfl)
theorem dX5_passes_50 : decode cX5_passes 50 = .ok (.iload 4, 2) := dk_21 4 (dk_at dksX5_passes_2 2 rfl rfl)
theorem dX5_passes_52 : decode cX5_passes 52 = .ok (.iconst 3, 1) := dk_6 (dk_at dksX5_passes_2 4 rfl rfl)
theorem dX5_passes_53 : decode cX5_passes 53 = .ok (.if_icmp .gt 31, 3) := dk_163 0 31 (dk_at dksX5_passes_2 5 rfl rfl)
theorem dX5_passes_56 : decode cX5_passes 56 = .ok (.aload_n 0, 1) := dk_42 (dk_at dksX5_passes_2 8 rfl rfl)
theorem dX5_passes_57 : decode cX5_passes 57 = .ok (.getfield 7, 3) := dk_180 0 7 (dk_at dksX5_passes_2 9 rfl rfl)
theorem dX5_passes_60 : decode cX5_passes 60 = .ok (.iload_n 3, 1) := dk_29 (dk_at dksX5_passes_2 12 rfl rfl)
theorem dX5_passes_61 : decode cX5_passes 61 = .ok (.invokestatic 85, 3) := dk_184 0 85 (dk_at dksX5_passes_2 13 rfl rfl)
theorem dX5_passes_64 : decode cX5_passes 64 = .ok (.iload 4, 2) := dk_21 4 (dk_at dksX5_passes_2 16 rfl rfl)
theorem dX5_passes_66 : decode cX5_passes 66 = .ok (.iadd, 1) := dk_96 (dk_at dksX5_passes_2 18 rfl rfl)
theorem dX5_passes_67 : decode cX5_passes 67 = .ok (.aload_n 0, 1) := dk_42 (dk_at dksX5_passes_2 19 rfl rfl)
theorem dX5_passes_68 : decode cX5_passes 68 = .ok (.iload_n 3, 1) := dk_29 (dk_at dksX5_passes_2 20 rfl rfl)
theorem dX5_passes_69 : decode cX5_passes 69 = .ok (.iload 4, 2) := dk_21 4 (dk_at dksX5_passes_2 21 rfl rfl)
theorem dX5_passes_71 : decode cX5_passes 71 = .ok (.invokevirtual 92, 3) := dk_182 0 92 (dk_at dksX5_passes_3 0 rfl rfl)
theorem dX5_passes_74 : decode cX5_passes 74 = .ok (.invokestatic 204, 3) := dk_184 0 204 (dk_at dksX5_passes_3 3 rfl rfl)
theorem dX5_passes_77 : decode cX5_passes 77 = .ok (.iastore, 1) := dk_79 (dk_at dksX5_passes_3 6 rfl rfl)
theorem dX5_passes_78 : decode cX5_passes 78 = .ok (.iinc 4 1, 3) := dk_132 4 1 (dk_at dksX5_passes_3 7 rfl rfl)
theorem dX5_passes_81 : decode cX5_passes 81 = .ok (.goto (-31), 3) := dk_167 255 225 (dk_at dksX5_passes_3 10 rfl rfl)
theorem dX5_passes_84 : decode cX5_passes 84 = .ok (.iinc 3 1, 3) := dk_132 3 1 (dk_at dksX5_passes_3 13 rfl rfl)
theorem dX5_passes_87 : decode cX5_passes 87 = .ok (.goto (-68), 3) := dk_167 255 188 (dk_at dksX5_passes_3 16 rfl rfl)
theorem dX5_passes_90 : decode cX5_passes 90 = .ok (.iinc 2 1, 3) := dk_132 2 1 (dk_at dksX5_passes_3 19 rfl rfl)
theorem dX5_passes_93 : decode cX5_passes 93 = .ok (.goto (-91), 3) := dk_167 255 165 (dk_at dksX5_passes_4 0 rfl rfl)
theorem dX5_passes_96 : decode cX5_passes 96 = .ok (.aload_n 0, 1) := dk_42 (dk_at dksX5_passes_4 3 rfl rfl)
theorem dX5_passes_97 : decode cX5_passes 97 = .ok (.invokevirtual 207, 3) := dk_182 0 207 (dk_at dksX5_passes_4 4 rfl rfl)
theorem dX5_passes_100 : decode cX5_passes 100 = .ok (.ireturn, 1) := dk_172 (dk_at dksX5_passes_4 7 rfl rfl)
def dkwX5_ageAt_0 : List UInt8 := [42, 180, 0, 7, 7, 46, 42, 27, 8, 182, 0, 92, 100, 172]
abbrev dktX5_ageAt_0 : List UInt8 := dkwX5_ageAt_0 ++ []
theorem dksX5_ageAt_0 : cX5_ageAt.data.toList.drop 0 = dktX5_ageAt_0 := by decide +kernel
theorem dX5_ageAt_0 : decode cX5_ageAt 0 = .ok (.aload_n 0, 1) := dk_42 (dk_at dksX5_ageAt_0 0 rfl rfl)
theorem dX5_ageAt_1 : decode cX5_ageAt 1 = .ok (.getfield 7, 3) := dk_180 0 7 (dk_at dksX5_ageAt_0 1 rfl rfl)
theorem dX5_ageAt_4 : decode cX5_ageAt 4 = .ok (.iconst 4, 1) := dk_7 (dk_at dksX5_ageAt_0 4 rfl rfl)
theorem dX5_ageAt_5 : decode cX5_ageAt 5 = .ok (.iaload, 1) := dk_46 (dk_at dksX5_ageAt_0 5 rfl rfl)
theorem dX5_ageAt_6 : decode cX5_ageAt 6 = .ok (.aload_n 0, 1) := dk_42 (dk_at dksX5_ageAt_0 6 rfl rfl)
theorem dX5_ageAt_7 : decode cX5_ageAt 7 = .ok (.iload_n 1, 1) := dk_27 (dk_at dksX5_ageAt_0 7 rfl rfl)
theorem dX5_ageAt_8 : decode cX5_ageAt 8 = .ok (.iconst 5, 1) := dk_8 (dk_at dksX5_ageAt_0 8 rfl rfl)
theorem dX5_ageAt_9 : decode cX5_ageAt 9 = .ok (.invokevirtual 92, 3) := dk_182 0 92 (dk_at dksX5_ageAt_0 9 rfl rfl)
theorem dX5_ageAt_12 : decode cX5_ageAt 12 = .ok (.isub, 1) := dk_100 (dk_at dksX5_ageAt_0 12 rfl rfl)
theorem dX5_ageAt_13 : decode cX5_ageAt 13 = .ok (.ireturn, 1) := dk_172 (dk_at dksX5_ageAt_0 13 rfl rfl)
def dkwX5_faded_1 : List UInt8 := [26, 172]
abbrev dktX5_faded_1 : List UInt8 := dkwX5_faded_1 ++ []
def dkwX5_faded_0 : List UInt8 := [26, 16, 50, 164, 0, 9, 26, 4, 100, 167, 0, 16, 26, 16, 50, 162, 0, 9, 26, 4, 96, 167, 0, 4]
abbrev dktX5_faded_0 : List UInt8 := dkwX5_faded_0 ++ dktX5_faded_1
theorem dksX5_faded_0 : cX5_faded.data.toList.drop 0 = dktX5_faded_0 := by decide +kernel
theorem dksX5_faded_1 : cX5_faded.data.toList.drop 24 = dktX5_faded_1 := dk_seg dksX5_faded_0 24 rfl rfl
theorem dX5_faded_0 : decode cX5_faded 0 = .ok (.iload_n 0, 1) := dk_26 (dk_at dksX5_faded_0 0 rfl rfl)
theorem dX5_faded_1 : decode cX5_faded 1 = .ok (.bipush 50, 2) := dk_16 50 (dk_at dksX5_faded_0 1 rfl rfl)
theorem dX5_faded_3 : decode cX5_faded 3 = .ok (.if_icmp .le 9, 3) := dk_164 0 9 (dk_at dksX5_faded_0 3 rfl rfl)
theorem dX5_faded_6 : decode cX5_faded 6 = .ok (.iload_n 0, 1) := dk_26 (dk_at dksX5_faded_0 6 rfl rfl)
theorem dX5_faded_7 : decode cX5_faded 7 = .ok (.iconst 1, 1) := dk_4 (dk_at dksX5_faded_0 7 rfl rfl)
theorem dX5_faded_8 : decode cX5_faded 8 = .ok (.isub, 1) := dk_100 (dk_at dksX5_faded_0 8 rfl rfl)
theorem dX5_faded_9 : decode cX5_faded 9 = .ok (.goto 16, 3) := dk_167 0 16 (dk_at dksX5_faded_0 9 rfl rfl)
theorem dX5_faded_12 : decode cX5_faded 12 = .ok (.iload_n 0, 1) := dk_26 (dk_at dksX5_faded_0 12 rfl rfl)
theorem dX5_faded_13 : decode cX5_faded 13 = .ok (.bipush 50, 2) := dk_16 50 (dk_at dksX5_faded_0 13 rfl rfl)
theorem dX5_faded_15 : decode cX5_faded 15 = .ok (.if_icmp .ge 9, 3) := dk_162 0 9 (dk_at dksX5_faded_0 15 rfl rfl)
theorem dX5_faded_18 : decode cX5_faded 18 = .ok (.iload_n 0, 1) := dk_26 (dk_at dksX5_faded_0 18 rfl rfl)
theorem dX5_faded_19 : decode cX5_faded 19 = .ok (.iconst 1, 1) := dk_4 (dk_at dksX5_faded_0 19 rfl rfl)
theorem dX5_faded_20 : decode cX5_faded 20 = .ok (.iadd, 1) := dk_96 (dk_at dksX5_faded_0 20 rfl rfl)
theorem dX5_faded_21 : decode cX5_faded 21 = .ok (.goto 4, 3) := dk_167 0 4 (dk_at dksX5_faded_0 21 rfl rfl)
theorem dX5_faded_24 : decode cX5_faded 24 = .ok (.iload_n 0, 1) := dk_26 (dk_at dksX5_faded_1 0 rfl rfl)
theorem dX5_faded_25 : decode cX5_faded 25 = .ok (.ireturn, 1) := dk_172 (dk_at dksX5_faded_1 1 rfl rfl)
def dkwX5_greys_1 : List UInt8 := [167, 0, 4, 3, 96, 60, 132, 2, 1, 167, 255, 227, 27, 172]
abbrev dktX5_greys_1 : List UInt8 := dkwX5_greys_1 ++ []
def dkwX5_greys_0 : List UInt8 := [3, 60, 3, 61, 28, 42, 180, 0, 7, 3, 46, 162, 0, 25, 27, 42, 28, 182, 0, 210, 154, 0, 7, 4]
abbrev dktX5_greys_0 : List UInt8 := dkwX5_greys_0 ++ dktX5_greys_1
theorem dksX5_greys_0 : cX5_greys.data.toList.drop 0 = dktX5_greys_0 := by decide +kernel
theorem dksX5_greys_1 : cX5_greys.data.toList.drop 24 = dktX5_greys_1 := dk_seg dksX5_greys_0 24 rfl rfl
theorem dX5_greys_0 : decode cX5_greys 0 = .ok (.iconst 0, 1) := dk_3 (dk_at dksX5_greys_0 0 rfl rfl)
theorem dX5_greys_1 : decode cX5_greys 1 = .ok (.istore_n 1, 1) := dk_60 (dk_at dksX5_greys_0 1 rfl rfl)
theorem dX5_greys_2 : decode cX5_greys 2 = .ok (.iconst 0, 1) := dk_3 (dk_at dksX5_greys_0 2 rfl rfl)
theorem dX5_greys_3 : decode cX5_greys 3 = .ok (.istore_n 2, 1) := dk_61 (dk_at dksX5_greys_0 3 rfl rfl)
theorem dX5_greys_4 : decode cX5_greys 4 = .ok (.iload_n 2, 1) := dk_28 (dk_at dksX5_greys_0 4 rfl rfl)
theorem dX5_greys_5 : decode cX5_greys 5 = .ok (.aload_n 0, 1) := dk_42 (dk_at dksX5_greys_0 5 rfl rfl)
theorem dX5_greys_6 : decode cX5_greys 6 = .ok (.getfield 7, 3) := dk_180 0 7 (dk_at dksX5_greys_0 6 rfl rfl)
theorem dX5_greys_9 : decode cX5_greys 9 = .ok (.iconst 0, 1) := dk_3 (dk_at dksX5_greys_0 9 rfl rfl)
theorem dX5_greys_10 : decode cX5_greys 10 = .ok (.iaload, 1) := dk_46 (dk_at dksX5_greys_0 10 rfl rfl)
theorem dX5_greys_11 : decode cX5_greys 11 = .ok (.if_icmp .ge 25, 3) := dk_162 0 25 (dk_at dksX5_greys_0 11 rfl rfl)
theorem dX5_greys_14 : decode cX5_greys 14 = .ok (.iload_n 1, 1) := dk_27 (dk_at dksX5_greys_0 14 rfl rfl)
theorem dX5_greys_15 : decode cX5_greys 15 = .ok (.aload_n 0, 1) := dk_42 (dk_at dksX5_greys_0 15 rfl rfl)
theorem dX5_greys_16 : decode cX5_greys 16 = .ok (.iload_n 2, 1) := dk_28 (dk_at dksX5_greys_0 16 rfl rfl)
theorem dX5_greys_17 : decode cX5_greys 17 = .ok (.invokevirtual 210, 3) := dk_182 0 210 (dk_at dksX5_greys_0 17 rfl rfl)
theorem dX5_greys_20 : decode cX5_greys 20 = .ok (.ifCond .ne 7, 3) := dk_154 0 7 (dk_at dksX5_greys_0 20 rfl rfl)
theorem dX5_greys_23 : decode cX5_greys 23 = .ok (.iconst 1, 1) := dk_4 (dk_at dksX5_greys_0 23 rfl rfl)
theorem dX5_greys_24 : decode cX5_greys 24 = .ok (.goto 4, 3) := dk_167 0 4 (dk_at dksX5_greys_1 0 rfl rfl)
theorem dX5_greys_27 : decode cX5_greys 27 = .ok (.iconst 0, 1) := dk_3 (dk_at dksX5_greys_1 3 rfl rfl)
theorem dX5_greys_28 : decode cX5_greys 28 = .ok (.iadd, 1) := dk_96 (dk_at dksX5_greys_1 4 rfl rfl)
theorem dX5_greys_29 : decode cX5_greys 29 = .ok (.istore_n 1, 1) := dk_60 (dk_at dksX5_greys_1 5 rfl rfl)
theorem dX5_greys_30 : decode cX5_greys 30 = .ok (.iinc 2 1, 3) := dk_132 2 1 (dk_at dksX5_greys_1 6 rfl rfl)
theorem dX5_greys_33 : decode cX5_greys 33 = .ok (.goto (-29), 3) := dk_167 255 227 (dk_at dksX5_greys_1 9 rfl rfl)
theorem dX5_greys_36 : decode cX5_greys 36 = .ok (.iload_n 1, 1) := dk_27 (dk_at dksX5_greys_1 12 rfl rfl)
theorem dX5_greys_37 : decode cX5_greys 37 = .ok (.ireturn, 1) := dk_172 (dk_at dksX5_greys_1 13 rfl rfl)
def dkwX5_fadesLeft_2 : List UInt8 := [167, 255, 215, 28, 172]
abbrev dktX5_fadesLeft_2 : List UInt8 := dkwX5_fadesLeft_2 ++ []
def dkwX5_fadesLeft_1 : List UInt8 := [164, 0, 18, 42, 27, 29, 182, 0, 92, 16, 50, 100, 184, 0, 103, 167, 0, 4, 28, 61, 132, 3, 1]
abbrev dktX5_fadesLeft_1 : List UInt8 := dkwX5_fadesLeft_1 ++ dktX5_fadesLeft_2
def dkwX5_fadesLeft_0 : List UInt8 := [3, 61, 4, 62, 29, 6, 163, 0, 42, 42, 27, 29, 182, 0, 92, 16, 50, 100, 184, 0, 103, 28]
abbrev dktX5_fadesLeft_0 : List UInt8 := dkwX5_fadesLeft_0 ++ dktX5_fadesLeft_1
theorem dksX5_fadesLeft_0 : cX5_fadesLeft.data.toList.drop 0 = dktX5_fadesLeft_0 := by decide +kernel
theorem dksX5_fadesLeft_1 : cX5_fadesLeft.data.toList.drop 22 = dktX5_fadesLeft_1 := dk_seg dksX5_fadesLeft_0 22 rfl rfl
theorem dksX5_fadesLeft_2 : cX5_fadesLeft.data.toList.drop 45 = dktX5_fadesLeft_2 := dk_seg dksX5_fadesLeft_1 23 rfl rfl
theorem dX5_fadesLeft_0 : decode cX5_fadesLeft 0 = .ok (.iconst 0, 1) := dk_3 (dk_at dksX5_fadesLeft_0 0 rfl rfl)
theorem dX5_fadesLeft_1 : decode cX5_fadesLeft 1 = .ok (.istore_n 2, 1) := dk_61 (dk_at dksX5_fadesLeft_0 1 rfl rfl)
theorem dX5_fadesLeft_2 : decode cX5_fadesLeft 2 = .ok (.iconst 1, 1) := dk_4 (dk_at dksX5_fadesLeft_0 2 rfl rfl)
theorem dX5_fadesLeft_3 : decode cX5_fadesLeft 3 = .ok (.istore_n 3, 1) := dk_62 (dk_at dksX5_fadesLeft_0 3 rfl rfl)
theorem dX5_fadesLeft_4 : decode cX5_fadesLeft 4 = .ok (.iload_n 3, 1) := dk_29 (dk_at dksX5_fadesLeft_0 4 rfl rfl)
theorem dX5_fadesLeft_5 : decode cX5_fadesLeft 5 = .ok (.iconst 3, 1) := dk_6 (dk_at dksX5_fadesLeft_0 5 rfl rfl)
theorem dX5_fadesLeft_6 : decode cX5_fadesLeft 6 = .ok (.if_icmp .gt 42, 3) := dk_163 0 42 (dk_at dksX5_fadesLeft_0 6 rfl rfl)
theorem dX5_fadesLeft_9 : decode cX5_fadesLeft 9 = .ok (.aload_n 0, 1) := dk_42 (dk_at dksX5_fadesLeft_0 9 rfl rfl)
theorem dX5_fadesLeft_10 : decode cX5_fadesLeft 10 = .ok (.iload_n 1, 1) := dk_27 (dk_at dksX5_fadesLeft_0 10 rfl rfl)
theorem dX5_fadesLeft_11 : decode cX5_fadesLeft 11 = .ok (.iload_n 3, 1) := dk_29 (dk_at dksX5_fadesLeft_0 11 rfl rfl)
theorem dX5_fadesLeft_12 : decode cX5_fadesLeft 12 = .ok (.invokevirtual 92, 3) := dk_182 0 92 (dk_at dksX5_fadesLeft_0 12 rfl rfl)
theorem dX5_fadesLeft_15 : decode cX5_fadesLeft 15 = .ok (.bipush 50, 2) := dk_16 50 (dk_at dksX5_fadesLeft_0 15 rfl rfl)
theorem dX5_fadesLeft_17 : decode cX5_fadesLeft 17 = .ok (.isub, 1) := dk_100 (dk_at dksX5_fadesLeft_0 17 rfl rfl)
theorem dX5_fadesLeft_18 : decode cX5_fadesLeft 18 = .ok (.invokestatic 103, 3) := dk_184 0 103 (dk_at dksX5_fadesLeft_0 18 rfl rfl)
theorem dX5_fadesLeft_21 : decode cX5_fadesLeft 21 = .ok (.iload_n 2, 1) := dk_28 (dk_at dksX5_fadesLeft_0 21 rfl rfl)
theorem dX5_fadesLeft_22 : decode cX5_fadesLeft 22 = .ok (.if_icmp .le 18, 3) := dk_164 0 18 (dk_at dksX5_fadesLeft_1 0 rfl rfl)
theorem dX5_fadesLeft_25 : decode cX5_fadesLeft 25 = .ok (.aload_n 0, 1) := dk_42 (dk_at dksX5_fadesLeft_1 3 rfl rfl)
theorem dX5_fadesLeft_26 : decode cX5_fadesLeft 26 = .ok (.iload_n 1, 1) := dk_27 (dk_at dksX5_fadesLeft_1 4 rfl rfl)
theorem dX5_fadesLeft_27 : decode cX5_fadesLeft 27 = .ok (.iload_n 3, 1) := dk_29 (dk_at dksX5_fadesLeft_1 5 rfl rfl)
theorem dX5_fadesLeft_28 : decode cX5_fadesLeft 28 = .ok (.invokevirtual 92, 3) := dk_182 0 92 (dk_at dksX5_fadesLeft_1 6 rfl rfl)
theorem dX5_fadesLeft_31 : decode cX5_fadesLeft 31 = .ok (.bipush 50, 2) := dk_16 50 (dk_at dksX5_fadesLeft_1 9 rfl rfl)
theorem dX5_fadesLeft_33 : decode cX5_fadesLeft 33 = .ok (.isub, 1) := dk_100 (dk_at dksX5_fadesLeft_1 11 rfl rfl)
theorem dX5_fadesLeft_34 : decode cX5_fadesLeft 34 = .ok (.invokestatic 103, 3) := dk_184 0 103 (dk_at dksX5_fadesLeft_1 12 rfl rfl)
theorem dX5_fadesLeft_37 : decode cX5_fadesLeft 37 = .ok (.goto 4, 3) := dk_167 0 4 (dk_at dksX5_fadesLeft_1 15 rfl rfl)
theorem dX5_fadesLeft_40 : decode cX5_fadesLeft 40 = .ok (.iload_n 2, 1) := dk_28 (dk_at dksX5_fadesLeft_1 18 rfl rfl)
theorem dX5_fadesLeft_41 : decode cX5_fadesLeft 41 = .ok (.istore_n 2, 1) := dk_61 (dk_at dksX5_fadesLeft_1 19 rfl rfl)
theorem dX5_fadesLeft_42 : decode cX5_fadesLeft 42 = .ok (.iinc 3 1, 3) := dk_132 3 1 (dk_at dksX5_fadesLeft_1 20 rfl rfl)
theorem dX5_fadesLeft_45 : decode cX5_fadesLeft 45 = .ok (.goto (-41), 3) := dk_167 255 215 (dk_at dksX5_fadesLeft_2 0 rfl rfl)
theorem dX5_fadesLeft_48 : decode cX5_fadesLeft 48 = .ok (.iload_n 2, 1) := dk_28 (dk_at dksX5_fadesLeft_2 3 rfl rfl)
theorem dX5_fadesLeft_49 : decode cX5_fadesLeft 49 = .ok (.ireturn, 1) := dk_172 (dk_at dksX5_fadesLeft_2 4 rfl rfl)
def dkwX5_colourCount_0 : List UInt8 := [42, 42, 180, 0, 7, 3, 46, 182, 0, 216, 172]
abbrev dktX5_colourCount_0 : List UInt8 := dkwX5_colourCount_0 ++ []
theorem dksX5_colourCount_0 : cX5_colourCount.data.toList.drop 0 = dktX5_colourCount_0 := by decide +kernel
theorem dX5_colourCount_0 : decode cX5_colourCount 0 = .ok (.aload_n 0, 1) := dk_42 (dk_at dksX5_colourCount_0 0 rfl rfl)
theorem dX5_colourCount_1 : decode cX5_colourCount 1 = .ok (.aload_n 0, 1) := dk_42 (dk_at dksX5_colourCount_0 1 rfl rfl)
theorem dX5_colourCount_2 : decode cX5_colourCount 2 = .ok (.getfield 7, 3) := dk_180 0 7 (dk_at dksX5_colourCount_0 2 rfl rfl)
theorem dX5_colourCount_5 : decode cX5_colourCount 5 = .ok (.iconst 0, 1) := dk_3 (dk_at dksX5_colourCount_0 5 rfl rfl)
theorem dX5_colourCount_6 : decode cX5_colourCount 6 = .ok (.iaload, 1) := dk_46 (dk_at dksX5_colourCount_0 6 rfl rfl)
theorem dX5_colourCount_7 : decode cX5_colourCount 7 = .ok (.invokevirtual 216, 3) := dk_182 0 216 (dk_at dksX5_colourCount_0 7 rfl rfl)
theorem dX5_colourCount_10 : decode cX5_colourCount 10 = .ok (.ireturn, 1) := dk_172 (dk_at dksX5_colourCount_0 10 rfl rfl)
def dkwX5_plain_0 : List UInt8 := [42, 3, 181, 0, 25, 27, 172]
abbrev dktX5_plain_0 : List UInt8 := dkwX5_plain_0 ++ []
theorem dksX5_plain_0 : cX5_plain.data.toList.drop 0 = dktX5_plain_0 := by decide +kernel
theorem dX5_plain_0 : decode cX5_plain 0 = .ok (.aload_n 0, 1) := dk_42 (dk_at dksX5_plain_0 0 rfl rfl)
theorem dX5_plain_1 : decode cX5_plain 1 = .ok (.iconst 0, 1) := dk_3 (dk_at dksX5_plain_0 1 rfl rfl)
theorem dX5_plain_2 : decode cX5_plain 2 = .ok (.putfield 25, 3) := dk_181 0 25 (dk_at dksX5_plain_0 2 rfl rfl)
theorem dX5_plain_5 : decode cX5_plain 5 = .ok (.iload_n 1, 1) := dk_27 (dk_at dksX5_plain_0 5 rfl rfl)
theorem dX5_plain_6 : decode cX5_plain 6 = .ok (.ireturn, 1) := dk_172 (dk_at dksX5_plain_0 6 rfl rfl)
def dkwX5_colourAt_1 : List UInt8 := [42, 27, 3, 182, 0, 92, 172]
abbrev dktX5_colourAt_1 : List UInt8 := dkwX5_colourAt_1 ++ []
def dkwX5_colourAt_0 : List UInt8 := [42, 27, 3, 42, 180, 0, 7, 3, 46, 4, 100, 184, 0, 112, 182, 0, 219, 158, 0, 7, 3, 167, 0, 9]
abbrev dktX5_colourAt_0 : List UInt8 := dkwX5_colourAt_0 ++ dktX5_colourAt_1
theorem dksX5_colourAt_0 : cX5_colourAt.data.toList.drop 0 = dktX5_colourAt_0 := by decide +kernel
theorem dksX5_colourAt_1 : cX5_colourAt.data.toList.drop 24 = dktX5_colourAt_1 := dk_seg dksX5_colourAt_0 24 rfl rfl
theorem dX5_colourAt_0 : decode cX5_colourAt 0 = .ok (.aload_n 0, 1) := dk_42 (dk_at dksX5_colourAt_0 0 rfl rfl)
theorem dX5_colourAt_1 : decode cX5_colourAt 1 = .ok (.iload_n 1, 1) := dk_27 (dk_at dksX5_colourAt_0 1 rfl rfl)
theorem dX5_colourAt_2 : decode cX5_colourAt 2 = .ok (.iconst 0, 1) := dk_3 (dk_at dksX5_colourAt_0 2 rfl rfl)
theorem dX5_colourAt_3 : decode cX5_colourAt 3 = .ok (.aload_n 0, 1) := dk_42 (dk_at dksX5_colourAt_0 3 rfl rfl)
theorem dX5_colourAt_4 : decode cX5_colourAt 4 = .ok (.getfield 7, 3) := dk_180 0 7 (dk_at dksX5_colourAt_0 4 rfl rfl)
theorem dX5_colourAt_7 : decode cX5_colourAt 7 = .ok (.iconst 0, 1) := dk_3 (dk_at dksX5_colourAt_0 7 rfl rfl)
theorem dX5_colourAt_8 : decode cX5_colourAt 8 = .ok (.iaload, 1) := dk_46 (dk_at dksX5_colourAt_0 8 rfl rfl)
theorem dX5_colourAt_9 : decode cX5_colourAt 9 = .ok (.iconst 1, 1) := dk_4 (dk_at dksX5_colourAt_0 9 rfl rfl)
theorem dX5_colourAt_10 : decode cX5_colourAt 10 = .ok (.isub, 1) := dk_100 (dk_at dksX5_colourAt_0 10 rfl rfl)
theorem dX5_colourAt_11 : decode cX5_colourAt 11 = .ok (.invokestatic 112, 3) := dk_184 0 112 (dk_at dksX5_colourAt_0 11 rfl rfl)
theorem dX5_colourAt_14 : decode cX5_colourAt 14 = .ok (.invokevirtual 219, 3) := dk_182 0 219 (dk_at dksX5_colourAt_0 14 rfl rfl)
theorem dX5_colourAt_17 : decode cX5_colourAt 17 = .ok (.ifCond .le 7, 3) := dk_158 0 7 (dk_at dksX5_colourAt_0 17 rfl rfl)
theorem dX5_colourAt_20 : decode cX5_colourAt 20 = .ok (.iconst 0, 1) := dk_3 (dk_at dksX5_colourAt_0 20 rfl rfl)
theorem dX5_colourAt_21 : decode cX5_colourAt 21 = .ok (.goto 9, 3) := dk_167 0 9 (dk_at dksX5_colourAt_0 21 rfl rfl)
theorem dX5_colourAt_24 : decode cX5_colourAt 24 = .ok (.aload_n 0, 1) := dk_42 (dk_at dksX5_colourAt_1 0 rfl rfl)
theorem dX5_colourAt_25 : decode cX5_colourAt 25 = .ok (.iload_n 1, 1) := dk_27 (dk_at dksX5_colourAt_1 1 rfl rfl)
theorem dX5_colourAt_26 : decode cX5_colourAt 26 = .ok (.iconst 0, 1) := dk_3 (dk_at dksX5_colourAt_1 2 rfl rfl)
theorem dX5_colourAt_27 : decode cX5_colourAt 27 = .ok (.invokevirtual 92, 3) := dk_182 0 92 (dk_at dksX5_colourAt_1 3 rfl rfl)
theorem dX5_colourAt_30 : decode cX5_colourAt 30 = .ok (.ireturn, 1) := dk_172 (dk_at dksX5_colourAt_1 6 rfl rfl)
def dkwX5_checked_0 : List UInt8 := [42, 27, 153, 0, 7, 3, 167, 0, 4, 4, 181, 0, 25, 42, 180, 0, 25, 172]
abbrev dktX5_checked_0 : List UInt8 := dkwX5_checked_0 ++ []
theorem dksX5_checked_0 : cX5_checked.data.toList.drop 0 = dktX5_checked_0 := by decide +kernel
theorem dX5_checked_0 : decode cX5_checked 0 = .ok (.aload_n 0, 1) := dk_42 (dk_at dksX5_checked_0 0 rfl rfl)
theorem dX5_checked_1 : decode cX5_checked 1 = .ok (.iload_n 1, 1) := dk_27 (dk_at dksX5_checked_0 1 rfl rfl)
theorem dX5_checked_2 : decode cX5_checked 2 = .ok (.ifCond .eq 7, 3) := dk_153 0 7 (dk_at dksX5_checked_0 2 rfl rfl)
theorem dX5_checked_5 : decode cX5_checked 5 = .ok (.iconst 0, 1) := dk_3 (dk_at dksX5_checked_0 5 rfl rfl)
theorem dX5_checked_6 : decode cX5_checked 6 = .ok (.goto 4, 3) := dk_167 0 4 (dk_at dksX5_checked_0 6 rfl rfl)
theorem dX5_checked_9 : decode cX5_checked 9 = .ok (.iconst 1, 1) := dk_4 (dk_at dksX5_checked_0 9 rfl rfl)
theorem dX5_checked_10 : decode cX5_checked 10 = .ok (.putfield 25, 3) := dk_181 0 25 (dk_at dksX5_checked_0 10 rfl rfl)
theorem dX5_checked_13 : decode cX5_checked 13 = .ok (.aload_n 0, 1) := dk_42 (dk_at dksX5_checked_0 13 rfl rfl)
theorem dX5_checked_14 : decode cX5_checked 14 = .ok (.getfield 25, 3) := dk_180 0 25 (dk_at dksX5_checked_0 14 rfl rfl)
theorem dX5_checked_17 : decode cX5_checked 17 = .ok (.ireturn, 1) := dk_172 (dk_at dksX5_checked_0 17 rfl rfl)
def dkwX5_red_0 : List UInt8 := [42, 27, 4, 182, 0, 223, 172]
abbrev dktX5_red_0 : List UInt8 := dkwX5_red_0 ++ []
theorem dksX5_red_0 : cX5_red.data.toList.drop 0 = dktX5_red_0 := by decide +kernel
theorem dX5_red_0 : decode cX5_red 0 = .ok (.aload_n 0, 1) := dk_42 (dk_at dksX5_red_0 0 rfl rfl)
theorem dX5_red_1 : decode cX5_red 1 = .ok (.iload_n 1, 1) := dk_27 (dk_at dksX5_red_0 1 rfl rfl)
theorem dX5_red_2 : decode cX5_red 2 = .ok (.iconst 1, 1) := dk_4 (dk_at dksX5_red_0 2 rfl rfl)
theorem dX5_red_3 : decode cX5_red 3 = .ok (.invokevirtual 223, 3) := dk_182 0 223 (dk_at dksX5_red_0 3 rfl rfl)
theorem dX5_red_6 : decode cX5_red 6 = .ok (.ireturn, 1) := dk_172 (dk_at dksX5_red_0 6 rfl rfl)
def dkwX5_ofColour_1 : List UInt8 := [42, 42, 27, 182, 0, 156, 28, 182, 0, 92, 172]
abbrev dktX5_ofColour_1 : List UInt8 := dkwX5_ofColour_1 ++ []
def dkwX5_ofColour_0 : List UInt8 := [42, 42, 27, 182, 0, 156, 155, 0, 7, 4, 167, 0, 4, 3, 182, 0, 219, 158, 0, 7, 3, 167, 0, 13]
abbrev dktX5_ofColour_0 : List UInt8 := dkwX5_ofColour_0 ++ dktX5_ofColour_1
theorem dksX5_ofColour_0 : cX5_ofColour.data.toList.drop 0 = dktX5_ofColour_0 := by decide +kernel
theorem dksX5_ofColour_1 : cX5_ofColour.data.toList.drop 24 = dktX5_ofColour_1 := dk_seg dksX5_ofColour_0 24 rfl rfl
theorem dX5_ofColour_0 : decode cX5_ofColour 0 = .ok (.aload_n 0, 1) := dk_42 (dk_at dksX5_ofColour_0 0 rfl rfl)
theorem dX5_ofColour_1 : decode cX5_ofColour 1 = .ok (.aload_n 0, 1) := dk_42 (dk_at dksX5_ofColour_0 1 rfl rfl)
theorem dX5_ofColour_2 : decode cX5_ofColour 2 = .ok (.iload_n 1, 1) := dk_27 (dk_at dksX5_ofColour_0 2 rfl rfl)
theorem dX5_ofColour_3 : decode cX5_ofColour 3 = .ok (.invokevirtual 156, 3) := dk_182 0 156 (dk_at dksX5_ofColour_0 3 rfl rfl)
theorem dX5_ofColour_6 : decode cX5_ofColour 6 = .ok (.ifCond .lt 7, 3) := dk_155 0 7 (dk_at dksX5_ofColour_0 6 rfl rfl)
theorem dX5_ofColour_9 : decode cX5_ofColour 9 = .ok (.iconst 1, 1) := dk_4 (dk_at dksX5_ofColour_0 9 rfl rfl)
theorem dX5_ofColour_10 : decode cX5_ofColour 10 = .ok (.goto 4, 3) := dk_167 0 4 (dk_at dksX5_ofColour_0 10 rfl rfl)
theorem dX5_ofColour_13 : decode cX5_ofColour 13 = .ok (.iconst 0, 1) := dk_3 (dk_at dksX5_ofColour_0 13 rfl rfl)
theorem dX5_ofColour_14 : decode cX5_ofColour 14 = .ok (.invokevirtual 219, 3) := dk_182 0 219 (dk_at dksX5_ofColour_0 14 rfl rfl)
theorem dX5_ofColour_17 : decode cX5_ofColour 17 = .ok (.ifCond .le 7, 3) := dk_158 0 7 (dk_at dksX5_ofColour_0 17 rfl rfl)
theorem dX5_ofColour_20 : decode cX5_ofColour 20 = .ok (.iconst 0, 1) := dk_3 (dk_at dksX5_ofColour_0 20 rfl rfl)
theorem dX5_ofColour_21 : decode cX5_ofColour 21 = .ok (.goto 13, 3) := dk_167 0 13 (dk_at dksX5_ofColour_0 21 rfl rfl)
theorem dX5_ofColour_24 : decode cX5_ofColour 24 = .ok (.aload_n 0, 1) := dk_42 (dk_at dksX5_ofColour_1 0 rfl rfl)
theorem dX5_ofColour_25 : decode cX5_ofColour 25 = .ok (.aload_n 0, 1) := dk_42 (dk_at dksX5_ofColour_1 1 rfl rfl)
theorem dX5_ofColour_26 : decode cX5_ofColour 26 = .ok (.iload_n 1, 1) := dk_27 (dk_at dksX5_ofColour_1 2 rfl rfl)
theorem dX5_ofColour_27 : decode cX5_ofColour 27 = .ok (.invokevirtual 156, 3) := dk_182 0 156 (dk_at dksX5_ofColour_1 3 rfl rfl)
theorem dX5_ofColour_30 : decode cX5_ofColour 30 = .ok (.iload_n 2, 1) := dk_28 (dk_at dksX5_ofColour_1 6 rfl rfl)
theorem dX5_ofColour_31 : decode cX5_ofColour 31 = .ok (.invokevirtual 92, 3) := dk_182 0 92 (dk_at dksX5_ofColour_1 7 rfl rfl)
theorem dX5_ofColour_34 : decode cX5_ofColour 34 = .ok (.ireturn, 1) := dk_172 (dk_at dksX5_ofColour_1 10 rfl rfl)
def dkwX5_green_0 : List UInt8 := [42, 27, 5, 182, 0, 223, 172]
abbrev dktX5_green_0 : List UInt8 := dkwX5_green_0 ++ []
theorem dksX5_green_0 : cX5_green.data.toList.drop 0 = dktX5_green_0 := by decide +kernel
theorem dX5_green_0 : decode cX5_green 0 = .ok (.aload_n 0, 1) := dk_42 (dk_at dksX5_green_0 0 rfl rfl)
theorem dX5_green_1 : decode cX5_green 1 = .ok (.iload_n 1, 1) := dk_27 (dk_at dksX5_green_0 1 rfl rfl)
theorem dX5_green_2 : decode cX5_green 2 = .ok (.iconst 2, 1) := dk_5 (dk_at dksX5_green_0 2 rfl rfl)
theorem dX5_green_3 : decode cX5_green 3 = .ok (.invokevirtual 223, 3) := dk_182 0 223 (dk_at dksX5_green_0 3 rfl rfl)
theorem dX5_green_6 : decode cX5_green 6 = .ok (.ireturn, 1) := dk_172 (dk_at dksX5_green_0 6 rfl rfl)
def dkwX5_blue_0 : List UInt8 := [42, 27, 6, 182, 0, 223, 172]
abbrev dktX5_blue_0 : List UInt8 := dkwX5_blue_0 ++ []
theorem dksX5_blue_0 : cX5_blue.data.toList.drop 0 = dktX5_blue_0 := by decide +kernel
theorem dX5_blue_0 : decode cX5_blue 0 = .ok (.aload_n 0, 1) := dk_42 (dk_at dksX5_blue_0 0 rfl rfl)
theorem dX5_blue_1 : decode cX5_blue 1 = .ok (.iload_n 1, 1) := dk_27 (dk_at dksX5_blue_0 1 rfl rfl)
theorem dX5_blue_2 : decode cX5_blue 2 = .ok (.iconst 3, 1) := dk_6 (dk_at dksX5_blue_0 2 rfl rfl)
theorem dX5_blue_3 : decode cX5_blue 3 = .ok (.invokevirtual 223, 3) := dk_182 0 223 (dk_at dksX5_blue_0 3 rfl rfl)
theorem dX5_blue_6 : decode cX5_blue 6 = .ok (.ireturn, 1) := dk_172 (dk_at dksX5_blue_0 6 rfl rfl)
def dkwX5_fastness_0 : List UInt8 := [42, 27, 7, 182, 0, 223, 172]
abbrev dktX5_fastness_0 : List UInt8 := dkwX5_fastness_0 ++ []
theorem dksX5_fastness_0 : cX5_fastness.data.toList.drop 0 = dktX5_fastness_0 := by decide +kernel
theorem dX5_fastness_0 : decode cX5_fastness 0 = .ok (.aload_n 0, 1) := dk_42 (dk_at dksX5_fastness_0 0 rfl rfl)
theorem dX5_fastness_1 : decode cX5_fastness 1 = .ok (.iload_n 1, 1) := dk_27 (dk_at dksX5_fastness_0 1 rfl rfl)
theorem dX5_fastness_2 : decode cX5_fastness 2 = .ok (.iconst 4, 1) := dk_7 (dk_at dksX5_fastness_0 2 rfl rfl)
theorem dX5_fastness_3 : decode cX5_fastness 3 = .ok (.invokevirtual 223, 3) := dk_182 0 223 (dk_at dksX5_fastness_0 3 rfl rfl)
theorem dX5_fastness_6 : decode cX5_fastness 6 = .ok (.ireturn, 1) := dk_172 (dk_at dksX5_fastness_0 6 rfl rfl)
def dkwX5_age_1 : List UInt8 := [42, 42, 27, 182, 0, 156, 182, 0, 201, 172]
abbrev dktX5_age_1 : List UInt8 := dkwX5_age_1 ++ []
def dkwX5_age_0 : List UInt8 := [42, 42, 27, 182, 0, 156, 155, 0, 7, 4, 167, 0, 4, 3, 182, 0, 219, 158, 0, 7, 3, 167, 0, 12]
abbrev dktX5_age_0 : List UInt8 := dkwX5_age_0 ++ dktX5_age_1
theorem dksX5_age_0 : cX5_age.data.toList.drop 0 = dktX5_age_0 := by decide +kernel
theorem dksX5_age_1 : cX5_age.data.toList.drop 24 = dktX5_age_1 := dk_seg dksX5_age_0 24 rfl rfl
theorem dX5_age_0 : decode cX5_age 0 = .ok (.aload_n 0, 1) := dk_42 (dk_at dksX5_age_0 0 rfl rfl)
theorem dX5_age_1 : decode cX5_age 1 = .ok (.aload_n 0, 1) := dk_42 (dk_at dksX5_age_0 1 rfl rfl)
theorem dX5_age_2 : decode cX5_age 2 = .ok (.iload_n 1, 1) := dk_27 (dk_at dksX5_age_0 2 rfl rfl)
theorem dX5_age_3 : decode cX5_age 3 = .ok (.invokevirtual 156, 3) := dk_182 0 156 (dk_at dksX5_age_0 3 rfl rfl)
theorem dX5_age_6 : decode cX5_age 6 = .ok (.ifCond .lt 7, 3) := dk_155 0 7 (dk_at dksX5_age_0 6 rfl rfl)
theorem dX5_age_9 : decode cX5_age 9 = .ok (.iconst 1, 1) := dk_4 (dk_at dksX5_age_0 9 rfl rfl)
theorem dX5_age_10 : decode cX5_age 10 = .ok (.goto 4, 3) := dk_167 0 4 (dk_at dksX5_age_0 10 rfl rfl)
theorem dX5_age_13 : decode cX5_age 13 = .ok (.iconst 0, 1) := dk_3 (dk_at dksX5_age_0 13 rfl rfl)
theorem dX5_age_14 : decode cX5_age 14 = .ok (.invokevirtual 219, 3) := dk_182 0 219 (dk_at dksX5_age_0 14 rfl rfl)
theorem dX5_age_17 : decode cX5_age 17 = .ok (.ifCond .le 7, 3) := dk_158 0 7 (dk_at dksX5_age_0 17 rfl rfl)
theorem dX5_age_20 : decode cX5_age 20 = .ok (.iconst 0, 1) := dk_3 (dk_at dksX5_age_0 20 rfl rfl)
theorem dX5_age_21 : decode cX5_age 21 = .ok (.goto 12, 3) := dk_167 0 12 (dk_at dksX5_age_0 21 rfl rfl)
theorem dX5_age_24 : decode cX5_age 24 = .ok (.aload_n 0, 1) := dk_42 (dk_at dksX5_age_1 0 rfl rfl)
theorem dX5_age_25 : decode cX5_age 25 = .ok (.aload_n 0, 1) := dk_42 (dk_at dksX5_age_1 1 rfl rfl)
theorem dX5_age_26 : decode cX5_age 26 = .ok (.iload_n 1, 1) := dk_27 (dk_at dksX5_age_1 2 rfl rfl)
theorem dX5_age_27 : decode cX5_age 27 = .ok (.invokevirtual 156, 3) := dk_182 0 156 (dk_at dksX5_age_1 3 rfl rfl)
theorem dX5_age_30 : decode cX5_age 30 = .ok (.invokevirtual 201, 3) := dk_182 0 201 (dk_at dksX5_age_1 6 rfl rfl)
theorem dX5_age_33 : decode cX5_age 33 = .ok (.ireturn, 1) := dk_172 (dk_at dksX5_age_1 9 rfl rfl)
def dkwX5_daysUntilGrey_2 : List UInt8 := [29, 104, 42, 28, 182, 0, 201, 42, 28, 7, 182, 0, 92, 112, 100, 172]
abbrev dktX5_daysUntilGrey_2 : List UInt8 := dkwX5_daysUntilGrey_2 ++ []
def dkwX5_daysUntilGrey_1 : List UInt8 := [182, 0, 156, 61, 42, 28, 182, 0, 210, 62, 29, 154, 0, 7, 3, 167, 0, 24, 42, 28, 7, 182, 0, 92]
abbrev dktX5_daysUntilGrey_1 : List UInt8 := dkwX5_daysUntilGrey_1 ++ dktX5_daysUntilGrey_2
def dkwX5_daysUntilGrey_0 : List UInt8 := [42, 42, 27, 182, 0, 156, 155, 0, 7, 4, 167, 0, 4, 3, 182, 0, 219, 158, 0, 5, 3, 172, 42, 27]
abbrev dktX5_daysUntilGrey_0 : List UInt8 := dkwX5_daysUntilGrey_0 ++ dktX5_daysUntilGrey_1
theorem dksX5_daysUntilGrey_0 : cX5_daysUntilGrey.data.toList.drop 0 = dktX5_daysUntilGrey_0 := by decide +kernel
theorem dksX5_daysUntilGrey_1 : cX5_daysUntilGrey.data.toList.drop 24 = dktX5_daysUntilGrey_1 := dk_seg dksX5_daysUntilGrey_0 24 rfl rfl
theorem dksX5_daysUntilGrey_2 : cX5_daysUntilGrey.data.toList.drop 48 = dktX5_daysUntilGrey_2 := dk_seg dksX5_daysUntilGrey_1 24 rfl rfl
theorem dX5_daysUntilGrey_0 : decode cX5_daysUntilGrey 0 = .ok (.aload_n 0, 1) := dk_42 (dk_at dksX5_daysUntilGrey_0 0 rfl rfl)
theorem dX5_daysUntilGrey_1 : decode cX5_daysUntilGrey 1 = .ok (.aload_n 0, 1) := dk_42 (dk_at dksX5_daysUntilGrey_0 1 rfl rfl)
theorem dX5_daysUntilGrey_2 : decode cX5_daysUntilGrey 2 = .ok (.iload_n 1, 1) := dk_27 (dk_at dksX5_daysUntilGrey_0 2 rfl rfl)
theorem dX5_daysUntilGrey_3 : decode cX5_daysUntilGrey 3 = .ok (.invokevirtual 156, 3) := dk_182 0 156 (dk_at dksX5_daysUntilGrey_0 3 rfl rfl)
theorem dX5_daysUntilGrey_6 : decode cX5_daysUntilGrey 6 = .ok (.ifCond .lt 7, 3) := dk_155 0 7 (dk_at dksX5_daysUntilGrey_0 6 rfl rfl)
theorem dX5_daysUntilGrey_9 : decode cX5_daysUntilGrey 9 = .ok (.iconst 1, 1) := dk_4 (dk_at dksX5_daysUntilGrey_0 9 rfl rfl)
theorem dX5_daysUntilGrey_10 : decode cX5_daysUntilGrey 10 = .ok (.goto 4, 3) := dk_167 0 4 (dk_at dksX5_daysUntilGrey_0 10 rfl rfl)
theorem dX5_daysUntilGrey_13 : decode cX5_daysUntilGrey 13 = .ok (.iconst 0, 1) := dk_3 (dk_at dksX5_daysUntilGrey_0 13 rfl rfl)
theorem dX5_daysUntilGrey_14 : decode cX5_daysUntilGrey 14 = .ok (.invokevirtual 219, 3) := dk_182 0 219 (dk_at dksX5_daysUntilGrey_0 14 rfl rfl)
theorem dX5_daysUntilGrey_17 : decode cX5_daysUntilGrey 17 = .ok (.ifCond .le 5, 3) := dk_158 0 5 (dk_at dksX5_daysUntilGrey_0 17 rfl rfl)
theorem dX5_daysUntilGrey_20 : decode cX5_daysUntilGrey 20 = .ok (.iconst 0, 1) := dk_3 (dk_at dksX5_daysUntilGrey_0 20 rfl rfl)
theorem dX5_daysUntilGrey_21 : decode cX5_daysUntilGrey 21 = .ok (.ireturn, 1) := dk_172 (dk_at dksX5_daysUntilGrey_0 21 rfl rfl)
theorem dX5_daysUntilGrey_22 : decode cX5_daysUntilGrey 22 = .ok (.aload_n 0, 1) := dk_42 (dk_at dksX5_daysUntilGrey_0 22 rfl rfl)
theorem dX5_daysUntilGrey_23 : decode cX5_daysUntilGrey 23 = .ok (.iload_n 1, 1) := dk_27 (dk_at dksX5_daysUntilGrey_0 23 rfl rfl)
theorem dX5_daysUntilGrey_24 : decode cX5_daysUntilGrey 24 = .ok (.invokevirtual 156, 3) := dk_182 0 156 (dk_at dksX5_daysUntilGrey_1 0 rfl rfl)
theorem dX5_daysUntilGrey_27 : decode cX5_daysUntilGrey 27 = .ok (.istore_n 2, 1) := dk_61 (dk_at dksX5_daysUntilGrey_1 3 rfl rfl)
theorem dX5_daysUntilGrey_28 : decode cX5_daysUntilGrey 28 = .ok (.aload_n 0, 1) := dk_42 (dk_at dksX5_daysUntilGrey_1 4 rfl rfl)
theorem dX5_daysUntilGrey_29 : decode cX5_daysUntilGrey 29 = .ok (.iload_n 2, 1) := dk_28 (dk_at dksX5_daysUntilGrey_1 5 rfl rfl)
theorem dX5_daysUntilGrey_30 : decode cX5_daysUntilGrey 30 = .ok (.invokevirtual 210, 3) := dk_182 0 210 (dk_at dksX5_daysUntilGrey_1 6 rfl rfl)
theorem dX5_daysUntilGrey_33 : decode cX5_daysUntilGrey 33 = .ok (.istore_n 3, 1) := dk_62 (dk_at dksX5_daysUntilGrey_1 9 rfl rfl)
theorem dX5_daysUntilGrey_34 : decode cX5_daysUntilGrey 34 = .ok (.iload_n 3, 1) := dk_29 (dk_at dksX5_daysUntilGrey_1 10 rfl rfl)
theorem dX5_daysUntilGrey_35 : decode cX5_daysUntilGrey 35 = .ok (.ifCond .ne 7, 3) := dk_154 0 7 (dk_at dksX5_daysUntilGrey_1 11 rfl rfl)
theorem dX5_daysUntilGrey_38 : decode cX5_daysUntilGrey 38 = .ok (.iconst 0, 1) := dk_3 (dk_at dksX5_daysUntilGrey_1 14 rfl rfl)
theorem dX5_daysUntilGrey_39 : decode cX5_daysUntilGrey 39 = .ok (.goto 24, 3) := dk_167 0 24 (dk_at dksX5_daysUntilGrey_1 15 rfl rfl)
theorem dX5_daysUntilGrey_42 : decode cX5_daysUntilGrey 42 = .ok (.aload_n 0, 1) := dk_42 (dk_at dksX5_daysUntilGrey_1 18 rfl rfl)
theorem dX5_daysUntilGrey_43 : decode cX5_daysUntilGrey 43 = .ok (.iload_n 2, 1) := dk_28 (dk_at dksX5_daysUntilGrey_1 19 rfl rfl)
theorem dX5_daysUntilGrey_44 : decode cX5_daysUntilGrey 44 = .ok (.iconst 4, 1) := dk_7 (dk_at dksX5_daysUntilGrey_1 20 rfl rfl)
theorem dX5_daysUntilGrey_45 : decode cX5_daysUntilGrey 45 = .ok (.invokevirtual 92, 3) := dk_182 0 92 (dk_at dksX5_daysUntilGrey_1 21 rfl rfl)
theorem dX5_daysUntilGrey_48 : decode cX5_daysUntilGrey 48 = .ok (.iload_n 3, 1) := dk_29 (dk_at dksX5_daysUntilGrey_2 0 rfl rfl)
theorem dX5_daysUntilGrey_49 : decode cX5_daysUntilGrey 49 = .ok (.imul, 1) := dk_104 (dk_at dksX5_daysUntilGrey_2 1 rfl rfl)
theorem dX5_daysUntilGrey_50 : decode cX5_daysUntilGrey 50 = .ok (.aload_n 0, 1) := dk_42 (dk_at dksX5_daysUntilGrey_2 2 rfl rfl)
theorem dX5_daysUntilGrey_51 : decode cX5_daysUntilGrey 51 = .ok (.iload_n 2, 1) := dk_28 (dk_at dksX5_daysUntilGrey_2 3 rfl rfl)
theorem dX5_daysUntilGrey_52 : decode cX5_daysUntilGrey 52 = .ok (.invokevirtual 201, 3) := dk_182 0 201 (dk_at dksX5_daysUntilGrey_2 4 rfl rfl)
theorem dX5_daysUntilGrey_55 : decode cX5_daysUntilGrey 55 = .ok (.aload_n 0, 1) := dk_42 (dk_at dksX5_daysUntilGrey_2 7 rfl rfl)
theorem dX5_daysUntilGrey_56 : decode cX5_daysUntilGrey 56 = .ok (.iload_n 2, 1) := dk_28 (dk_at dksX5_daysUntilGrey_2 8 rfl rfl)
theorem dX5_daysUntilGrey_57 : decode cX5_daysUntilGrey 57 = .ok (.iconst 4, 1) := dk_7 (dk_at dksX5_daysUntilGrey_2 9 rfl rfl)
theorem dX5_daysUntilGrey_58 : decode cX5_daysUntilGrey 58 = .ok (.invokevirtual 92, 3) := dk_182 0 92 (dk_at dksX5_daysUntilGrey_2 10 rfl rfl)
theorem dX5_daysUntilGrey_61 : decode cX5_daysUntilGrey 61 = .ok (.irem, 1) := dk_112 (dk_at dksX5_daysUntilGrey_2 13 rfl rfl)
theorem dX5_daysUntilGrey_62 : decode cX5_daysUntilGrey 62 = .ok (.isub, 1) := dk_100 (dk_at dksX5_daysUntilGrey_2 14 rfl rfl)
theorem dX5_daysUntilGrey_63 : decode cX5_daysUntilGrey 63 = .ok (.ireturn, 1) := dk_172 (dk_at dksX5_daysUntilGrey_2 15 rfl rfl)
def dkwX5_colourByBrightness_4 : List UInt8 := [167, 255, 167, 42, 4, 182, 0, 130, 172]
abbrev dktX5_colourByBrightness_4 : List UInt8 := dkwX5_colourByBrightness_4 ++ []
def dkwX5_colourByBrightness_3 : List UInt8 := [3, 96, 62, 132, 4, 1, 167, 255, 200, 29, 27, 160, 0, 10, 42, 28, 3, 182, 0, 92, 172, 132, 2, 1]
abbrev dktX5_colourByBrightness_3 : List UInt8 := dkwX5_colourByBrightness_3 ++ dktX5_colourByBrightness_4
def dkwX5_colourByBrightness_2 : List UInt8 := [42, 21, 4, 182, 0, 226, 42, 28, 182, 0, 226, 160, 0, 13, 21, 4, 28, 162, 0, 7, 4, 167, 0, 4]
abbrev dktX5_colourByBrightness_2 : List UInt8 := dkwX5_colourByBrightness_2 ++ dktX5_colourByBrightness_3
def dkwX5_colourByBrightness_1 : List UInt8 := [42, 180, 0, 7, 3, 46, 162, 0, 51, 29, 42, 21, 4, 182, 0, 226, 42, 28, 182, 0, 226, 163, 0, 23]
abbrev dktX5_colourByBrightness_1 : List UInt8 := dkwX5_colourByBrightness_1 ++ dktX5_colourByBrightness_2
def dkwX5_colourByBrightness_0 : List UInt8 := [42, 3, 181, 0, 25, 3, 61, 28, 42, 180, 0, 7, 3, 46, 162, 0, 85, 3, 62, 3, 54, 4, 21, 4]
abbrev dktX5_colourByBrightness_0 : List UInt8 := dkwX5_colourByBrightness_0 ++ dktX5_colourByBrightness_1
theorem dksX5_colourByBrightness_0 : cX5_colourByBrightness.data.toList.drop 0 = dktX5_colourByBrightness_0 := by decide +kernel
theorem dksX5_colourByBrightness_1 : cX5_colourByBrightness.data.toList.drop 24 = dktX5_colourByBrightness_1 := dk_seg dksX5_colourByBrightness_0 24 rfl rfl
theorem dksX5_colourByBrightness_2 : cX5_colourByBrightness.data.toList.drop 48 = dktX5_colourByBrightness_2 := dk_seg dksX5_colourByBrightness_1 24 rfl rfl
theorem dksX5_colourByBrightness_3 : cX5_colourByBrightness.data.toList.drop 72 = dktX5_colourByBrightness_3 := dk_seg dksX5_colourByBrightness_2 24 rfl rfl
theorem dksX5_colourByBrightness_4 : cX5_colourByBrightness.data.toList.drop 96 = dktX5_colourByBrightness_4 := dk_seg dksX5_colourByBrightness_3 24 rfl rfl
theorem dX5_colourByBrightness_0 : decode cX5_colourByBrightness 0 = .ok (.aload_n 0, 1) := dk_42 (dk_at dksX5_colourByBrightness_0 0 rfl rfl)
theorem dX5_colourByBrightness_1 : decode cX5_colourByBrightness 1 = .ok (.iconst 0, 1) := dk_3 (dk_at dksX5_colourByBrightness_0 1 rfl rfl)
theorem dX5_colourByBrightness_2 : decode cX5_colourByBrightness 2 = .ok (.putfield 25, 3) := dk_181 0 25 (dk_at dksX5_colourByBrightness_0 2 rfl rfl)
theorem dX5_colourByBrightness_5 : decode cX5_colourByBrightness 5 = .ok (.iconst 0, 1) := dk_3 (dk_at dksX5_colourByBrightness_0 5 rfl rfl)
theorem dX5_colourByBrightness_6 : decode cX5_colourByBrightness 6 = .ok (.istore_n 2, 1) := dk_61 (dk_at dksX5_colourByBrightness_0 6 rfl rfl)
theorem dX5_colourByBrightness_7 : decode cX5_colourByBrightness 7 = .ok (.iload_n 2, 1) := dk_28 (dk_at dksX5_colourByBrightness_0 7 rfl rfl)
theorem dX5_colourByBrightness_8 : decode cX5_colourByBrightness 8 = .ok (.aload_n 0, 1) := dk_42 (dk_at dksX5_colourByBrightness_0 8 rfl rfl)
theorem dX5_colourByBrightness_9 : decode cX5_colourByBrightness 9 = .ok (.getfield 7, 3) := dk_180 0 7 (dk_at dksX5_colourByBrightness_0 9 rfl rfl)
theorem dX5_colourByBrightness_12 : decode cX5_colourByBrightness 12 = .ok (.iconst 0, 1) := dk_3 (dk_at dksX5_colourByBrightness_0 12 rfl rfl)
theorem dX5_colourByBrightness_13 : decode cX5_colourByBrightness 13 = .ok (.iaload, 1) := dk_46 (dk_at dksX5_colourByBrightness_0 13 rfl rfl)
theorem dX5_colourByBrightness_14 : decode cX5_colourByBrightness 14 = .ok (.if_icmp .ge 85, 3) := dk_162 0 85 (dk_at dksX5_colourByBrightness_0 14 rfl rfl)
theorem dX5_colourByBrightness_17 : decode cX5_colourByBrightness 17 = .ok (.iconst 0, 1) := dk_3 (dk_at dksX5_colourByBrightness_0 17 rfl rfl)
theorem dX5_colourByBrightness_18 : decode cX5_colourByBrightness 18 = .ok (.istore_n 3, 1) := dk_62 (dk_at dksX5_colourByBrightness_0 18 rfl rfl)
theorem dX5_colourByBrightness_19 : decode cX5_colourByBrightness 19 = .ok (.iconst 0, 1) := dk_3 (dk_at dksX5_colourByBrightness_0 19 rfl rfl)
theorem dX5_colourByBrightness_20 : decode cX5_colourByBrightness 20 = .ok (.istore 4, 2) := dk_54 4 (dk_at dksX5_colourByBrightness_0 20 rfl rfl)
theorem dX5_colourByBrightness_22 : decode cX5_colourByBrightness 22 = .ok (.iload 4, 2) := dk_21 4 (dk_at dksX5_colourByBrightness_0 22 rfl rfl)
theorem dX5_colourByBrightness_24 : decode cX5_colourByBrightness 24 = .ok (.aload_n 0, 1) := dk_42 (dk_at dksX5_colourByBrightness_1 0 rfl rfl)
theorem dX5_colourByBrightness_25 : decode cX5_colourByBrightness 25 = .ok (.getfield 7, 3) := dk_180 0 7 (dk_at dksX5_colourByBrightness_1 1 rfl rfl)
theorem dX5_colourByBrightness_28 : decode cX5_colourByBrightness 28 = .ok (.iconst 0, 1) := dk_3 (dk_at dksX5_colourByBrightness_1 4 rfl rfl)
theorem dX5_colourByBrightness_29 : decode cX5_colourByBrightness 29 = .ok (.iaload, 1) := dk_46 (dk_at dksX5_colourByBrightness_1 5 rfl rfl)
theorem dX5_colourByBrightness_30 : decode cX5_colourByBrightness 30 = .ok (.if_icmp .ge 51, 3) := dk_162 0 51 (dk_at dksX5_colourByBrightness_1 6 rfl rfl)
theorem dX5_colourByBrightness_33 : decode cX5_colourByBrightness 33 = .ok (.iload_n 3, 1) := dk_29 (dk_at dksX5_colourByBrightness_1 9 rfl rfl)
theorem dX5_colourByBrightness_34 : decode cX5_colourByBrightness 34 = .ok (.aload_n 0, 1) := dk_42 (dk_at dksX5_colourByBrightness_1 10 rfl rfl)
theorem dX5_colourByBrightness_35 : decode cX5_colourByBrightness 35 = .ok (.iload 4, 2) := dk_21 4 (dk_at dksX5_colourByBrightness_1 11 rfl rfl)
theorem dX5_colourByBrightness_37 : decode cX5_colourByBrightness 37 = .ok (.invokevirtual 226, 3) := dk_182 0 226 (dk_at dksX5_colourByBrightness_1 13 rfl rfl)
theorem dX5_colourByBrightness_40 : decode cX5_colourByBrightness 40 = .ok (.aload_n 0, 1) := dk_42 (dk_at dksX5_colourByBrightness_1 16 rfl rfl)
theorem dX5_colourByBrightness_41 : decode cX5_colourByBrightness 41 = .ok (.iload_n 2, 1) := dk_28 (dk_at dksX5_colourByBrightness_1 17 rfl rfl)
theorem dX5_colourByBrightness_42 : decode cX5_colourByBrightness 42 = .ok (.invokevirtual 226, 3) := dk_182 0 226 (dk_at dksX5_colourByBrightness_1 18 rfl rfl)
theorem dX5_colourByBrightness_45 : decode cX5_colourByBrightness 45 = .ok (.if_icmp .gt 23, 3) := dk_163 0 23 (dk_at dksX5_colourByBrightness_1 21 rfl rfl)
theorem dX5_colourByBrightness_48 : decode cX5_colourByBrightness 48 = .ok (.aload_n 0, 1) := dk_42 (dk_at dksX5_colourByBrightness_2 0 rfl rfl)
theorem dX5_colourByBrightness_49 : decode cX5_colourByBrightness 49 = .ok (.iload 4, 2) := dk_21 4 (dk_at dksX5_colourByBrightness_2 1 rfl rfl)
theorem dX5_colourByBrightness_51 : decode cX5_colourByBrightness 51 = .ok (.invokevirtual 226, 3) := dk_182 0 226 (dk_at dksX5_colourByBrightness_2 3 rfl rfl)
theorem dX5_colourByBrightness_54 : decode cX5_colourByBrightness 54 = .ok (.aload_n 0, 1) := dk_42 (dk_at dksX5_colourByBrightness_2 6 rfl rfl)
theorem dX5_colourByBrightness_55 : decode cX5_colourByBrightness 55 = .ok (.iload_n 2, 1) := dk_28 (dk_at dksX5_colourByBrightness_2 7 rfl rfl)
theorem dX5_colourByBrightness_56 : decode cX5_colourByBrightness 56 = .ok (.invokevirtual 226, 3) := dk_182 0 226 (dk_at dksX5_colourByBrightness_2 8 rfl rfl)
theorem dX5_colourByBrightness_59 : decode cX5_colourByBrightness 59 = .ok (.if_icmp .ne 13, 3) := dk_160 0 13 (dk_at dksX5_colourByBrightness_2 11 rfl rfl)
theorem dX5_colourByBrightness_62 : decode cX5_colourByBrightness 62 = .ok (.iload 4, 2) := dk_21 4 (dk_at dksX5_colourByBrightness_2 14 rfl rfl)
theorem dX5_colourByBrightness_64 : decode cX5_colourByBrightness 64 = .ok (.iload_n 2, 1) := dk_28 (dk_at dksX5_colourByBrightness_2 16 rfl rfl)
theorem dX5_colourByBrightness_65 : decode cX5_colourByBrightness 65 = .ok (.if_icmp .ge 7, 3) := dk_162 0 7 (dk_at dksX5_colourByBrightness_2 17 rfl rfl)
theorem dX5_colourByBrightness_68 : decode cX5_colourByBrightness 68 = .ok (.iconst 1, 1) := dk_4 (dk_at dksX5_colourByBrightness_2 20 rfl rfl)
theorem dX5_colourByBrightness_69 : decode cX5_colourByBrightness 69 = .ok (.goto 4, 3) := dk_167 0 4 (dk_at dksX5_colourByBrightness_2 21 rfl rfl)
theorem dX5_colourByBrightness_72 : decode cX5_colourByBrightness 72 = .ok (.iconst 0, 1) := dk_3 (dk_at dksX5_colourByBrightness_3 0 rfl rfl)
theorem dX5_colourByBrightness_73 : decode cX5_colourByBrightness 73 = .ok (.iadd, 1) := dk_96 (dk_at dksX5_colourByBrightness_3 1 rfl rfl)
theorem dX5_colourByBrightness_74 : decode cX5_colourByBrightness 74 = .ok (.istore_n 3, 1) := dk_62 (dk_at dksX5_colourByBrightness_3 2 rfl rfl)
theorem dX5_colourByBrightness_75 : decode cX5_colourByBrightness 75 = .ok (.iinc 4 1, 3) := dk_132 4 1 (dk_at dksX5_colourByBrightness_3 3 rfl rfl)
theorem dX5_colourByBrightness_78 : decode cX5_colourByBrightness 78 = .ok (.goto (-56), 3) := dk_167 255 200 (dk_at dksX5_colourByBrightness_3 6 rfl rfl)
theorem dX5_colourByBrightness_81 : decode cX5_colourByBrightness 81 = .ok (.iload_n 3, 1) := dk_29 (dk_at dksX5_colourByBrightness_3 9 rfl rfl)
theorem dX5_colourByBrightness_82 : decode cX5_colourByBrightness 82 = .ok (.iload_n 1, 1) := dk_27 (dk_at dksX5_colourByBrightness_3 10 rfl rfl)
theorem dX5_colourByBrightness_83 : decode cX5_colourByBrightness 83 = .ok (.if_icmp .ne 10, 3) := dk_160 0 10 (dk_at dksX5_colourByBrightness_3 11 rfl rfl)
theorem dX5_colourByBrightness_86 : decode cX5_colourByBrightness 86 = .ok (.aload_n 0, 1) := dk_42 (dk_at dksX5_colourByBrightness_3 14 rfl rfl)
theorem dX5_colourByBrightness_87 : decode cX5_colourByBrightness 87 = .ok (.iload_n 2, 1) := dk_28 (dk_at dksX5_colourByBrightness_3 15 rfl rfl)
theorem dX5_colourByBrightness_88 : decode cX5_colourByBrightness 88 = .ok (.iconst 0, 1) := dk_3 (dk_at dksX5_colourByBrightness_3 16 rfl rfl)
theorem dX5_colourByBrightness_89 : decode cX5_colourByBrightness 89 = .ok (.invokevirtual 92, 3) := dk_182 0 92 (dk_at dksX5_colourByBrightness_3 17 rfl rfl)
theorem dX5_colourByBrightness_92 : decode cX5_colourByBrightness 92 = .ok (.ireturn, 1) := dk_172 (dk_at dksX5_colourByBrightness_3 20 rfl rfl)
theorem dX5_colourByBrightness_93 : decode cX5_colourByBrightness 93 = .ok (.iinc 2 1, 3) := dk_132 2 1 (dk_at dksX5_colourByBrightness_3 21 rfl rfl)
theorem dX5_colourByBrightness_96 : decode cX5_colourByBrightness 96 = .ok (.goto (-89), 3) := dk_167 255 167 (dk_at dksX5_colourByBrightness_4 0 rfl rfl)
theorem dX5_colourByBrightness_99 : decode cX5_colourByBrightness 99 = .ok (.aload_n 0, 1) := dk_42 (dk_at dksX5_colourByBrightness_4 3 rfl rfl)
theorem dX5_colourByBrightness_100 : decode cX5_colourByBrightness 100 = .ok (.iconst 1, 1) := dk_4 (dk_at dksX5_colourByBrightness_4 4 rfl rfl)
theorem dX5_colourByBrightness_101 : decode cX5_colourByBrightness 101 = .ok (.invokevirtual 130, 3) := dk_182 0 130 (dk_at dksX5_colourByBrightness_4 5 rfl rfl)
theorem dX5_colourByBrightness_104 : decode cX5_colourByBrightness 104 = .ok (.ireturn, 1) := dk_172 (dk_at dksX5_colourByBrightness_4 8 rfl rfl)
def dkwX5_brightness_0 : List UInt8 := [42, 27, 4, 182, 0, 92, 42, 27, 5, 182, 0, 92, 96, 42, 27, 6, 182, 0, 92, 96, 172]
abbrev dktX5_brightness_0 : List UInt8 := dkwX5_brightness_0 ++ []
theorem dksX5_brightness_0 : cX5_brightness.data.toList.drop 0 = dktX5_brightness_0 := by decide +kernel
theorem dX5_brightness_0 : decode cX5_brightness 0 = .ok (.aload_n 0, 1) := dk_42 (dk_at dksX5_brightness_0 0 rfl rfl)
theorem dX5_brightness_1 : decode cX5_brightness 1 = .ok (.iload_n 1, 1) := dk_27 (dk_at dksX5_brightness_0 1 rfl rfl)
theorem dX5_brightness_2 : decode cX5_brightness 2 = .ok (.iconst 1, 1) := dk_4 (dk_at dksX5_brightness_0 2 rfl rfl)
theorem dX5_brightness_3 : decode cX5_brightness 3 = .ok (.invokevirtual 92, 3) := dk_182 0 92 (dk_at dksX5_brightness_0 3 rfl rfl)
theorem dX5_brightness_6 : decode cX5_brightness 6 = .ok (.aload_n 0, 1) := dk_42 (dk_at dksX5_brightness_0 6 rfl rfl)
theorem dX5_brightness_7 : decode cX5_brightness 7 = .ok (.iload_n 1, 1) := dk_27 (dk_at dksX5_brightness_0 7 rfl rfl)
theorem dX5_brightness_8 : decode cX5_brightness 8 = .ok (.iconst 2, 1) := dk_5 (dk_at dksX5_brightness_0 8 rfl rfl)
theorem dX5_brightness_9 : decode cX5_brightness 9 = .ok (.invokevirtual 92, 3) := dk_182 0 92 (dk_at dksX5_brightness_0 9 rfl rfl)
theorem dX5_brightness_12 : decode cX5_brightness 12 = .ok (.iadd, 1) := dk_96 (dk_at dksX5_brightness_0 12 rfl rfl)
theorem dX5_brightness_13 : decode cX5_brightness 13 = .ok (.aload_n 0, 1) := dk_42 (dk_at dksX5_brightness_0 13 rfl rfl)
theorem dX5_brightness_14 : decode cX5_brightness 14 = .ok (.iload_n 1, 1) := dk_27 (dk_at dksX5_brightness_0 14 rfl rfl)
theorem dX5_brightness_15 : decode cX5_brightness 15 = .ok (.iconst 3, 1) := dk_6 (dk_at dksX5_brightness_0 15 rfl rfl)
theorem dX5_brightness_16 : decode cX5_brightness 16 = .ok (.invokevirtual 92, 3) := dk_182 0 92 (dk_at dksX5_brightness_0 16 rfl rfl)
theorem dX5_brightness_19 : decode cX5_brightness 19 = .ok (.iadd, 1) := dk_96 (dk_at dksX5_brightness_0 19 rfl rfl)
theorem dX5_brightness_20 : decode cX5_brightness 20 = .ok (.ireturn, 1) := dk_172 (dk_at dksX5_brightness_0 20 rfl rfl)
def dkwX5_reportCount_0 : List UInt8 := [42, 42, 180, 0, 7, 4, 46, 182, 0, 216, 172]
abbrev dktX5_reportCount_0 : List UInt8 := dkwX5_reportCount_0 ++ []
theorem dksX5_reportCount_0 : cX5_reportCount.data.toList.drop 0 = dktX5_reportCount_0 := by decide +kernel
theorem dX5_reportCount_0 : decode cX5_reportCount 0 = .ok (.aload_n 0, 1) := dk_42 (dk_at dksX5_reportCount_0 0 rfl rfl)
theorem dX5_reportCount_1 : decode cX5_reportCount 1 = .ok (.aload_n 0, 1) := dk_42 (dk_at dksX5_reportCount_0 1 rfl rfl)
theorem dX5_reportCount_2 : decode cX5_reportCount 2 = .ok (.getfield 7, 3) := dk_180 0 7 (dk_at dksX5_reportCount_0 2 rfl rfl)
theorem dX5_reportCount_5 : decode cX5_reportCount 5 = .ok (.iconst 1, 1) := dk_4 (dk_at dksX5_reportCount_0 5 rfl rfl)
theorem dX5_reportCount_6 : decode cX5_reportCount 6 = .ok (.iaload, 1) := dk_46 (dk_at dksX5_reportCount_0 6 rfl rfl)
theorem dX5_reportCount_7 : decode cX5_reportCount 7 = .ok (.invokevirtual 216, 3) := dk_182 0 216 (dk_at dksX5_reportCount_0 7 rfl rfl)
theorem dX5_reportCount_10 : decode cX5_reportCount 10 = .ok (.ireturn, 1) := dk_172 (dk_at dksX5_reportCount_0 10 rfl rfl)
def dkwX5_reportAt_1 : List UInt8 := [42, 27, 3, 182, 0, 96, 172]
abbrev dktX5_reportAt_1 : List UInt8 := dkwX5_reportAt_1 ++ []
def dkwX5_reportAt_0 : List UInt8 := [42, 27, 3, 42, 180, 0, 7, 4, 46, 4, 100, 184, 0, 112, 182, 0, 219, 158, 0, 7, 3, 167, 0, 9]
abbrev dktX5_reportAt_0 : List UInt8 := dkwX5_reportAt_0 ++ dktX5_reportAt_1
theorem dksX5_reportAt_0 : cX5_reportAt.data.toList.drop 0 = dktX5_reportAt_0 := by decide +kernel
theorem dksX5_reportAt_1 : cX5_reportAt.data.toList.drop 24 = dktX5_reportAt_1 := dk_seg dksX5_reportAt_0 24 rfl rfl
theorem dX5_reportAt_0 : decode cX5_reportAt 0 = .ok (.aload_n 0, 1) := dk_42 (dk_at dksX5_reportAt_0 0 rfl rfl)
theorem dX5_reportAt_1 : decode cX5_reportAt 1 = .ok (.iload_n 1, 1) := dk_27 (dk_at dksX5_reportAt_0 1 rfl rfl)
theorem dX5_reportAt_2 : decode cX5_reportAt 2 = .ok (.iconst 0, 1) := dk_3 (dk_at dksX5_reportAt_0 2 rfl rfl)
theorem dX5_reportAt_3 : decode cX5_reportAt 3 = .ok (.aload_n 0, 1) := dk_42 (dk_at dksX5_reportAt_0 3 rfl rfl)
theorem dX5_reportAt_4 : decode cX5_reportAt 4 = .ok (.getfield 7, 3) := dk_180 0 7 (dk_at dksX5_reportAt_0 4 rfl rfl)
theorem dX5_reportAt_7 : decode cX5_reportAt 7 = .ok (.iconst 1, 1) := dk_4 (dk_at dksX5_reportAt_0 7 rfl rfl)
theorem dX5_reportAt_8 : decode cX5_reportAt 8 = .ok (.iaload, 1) := dk_46 (dk_at dksX5_reportAt_0 8 rfl rfl)
theorem dX5_reportAt_9 : decode cX5_reportAt 9 = .ok (.iconst 1, 1) := dk_4 (dk_at dksX5_reportAt_0 9 rfl rfl)
theorem dX5_reportAt_10 : decode cX5_reportAt 10 = .ok (.isub, 1) := dk_100 (dk_at dksX5_reportAt_0 10 rfl rfl)
theorem dX5_reportAt_11 : decode cX5_reportAt 11 = .ok (.invokestatic 112, 3) := dk_184 0 112 (dk_at dksX5_reportAt_0 11 rfl rfl)
theorem dX5_reportAt_14 : decode cX5_reportAt 14 = .ok (.invokevirtual 219, 3) := dk_182 0 219 (dk_at dksX5_reportAt_0 14 rfl rfl)
theorem dX5_reportAt_17 : decode cX5_reportAt 17 = .ok (.ifCond .le 7, 3) := dk_158 0 7 (dk_at dksX5_reportAt_0 17 rfl rfl)
theorem dX5_reportAt_20 : decode cX5_reportAt 20 = .ok (.iconst 0, 1) := dk_3 (dk_at dksX5_reportAt_0 20 rfl rfl)
theorem dX5_reportAt_21 : decode cX5_reportAt 21 = .ok (.goto 9, 3) := dk_167 0 9 (dk_at dksX5_reportAt_0 21 rfl rfl)
theorem dX5_reportAt_24 : decode cX5_reportAt 24 = .ok (.aload_n 0, 1) := dk_42 (dk_at dksX5_reportAt_1 0 rfl rfl)
theorem dX5_reportAt_25 : decode cX5_reportAt 25 = .ok (.iload_n 1, 1) := dk_27 (dk_at dksX5_reportAt_1 1 rfl rfl)
theorem dX5_reportAt_26 : decode cX5_reportAt 26 = .ok (.iconst 0, 1) := dk_3 (dk_at dksX5_reportAt_1 2 rfl rfl)
theorem dX5_reportAt_27 : decode cX5_reportAt 27 = .ok (.invokevirtual 96, 3) := dk_182 0 96 (dk_at dksX5_reportAt_1 3 rfl rfl)
theorem dX5_reportAt_30 : decode cX5_reportAt 30 = .ok (.ireturn, 1) := dk_172 (dk_at dksX5_reportAt_1 6 rfl rfl)
def dkwX5_toleranceOf_0 : List UInt8 := [42, 27, 7, 182, 0, 229, 172]
abbrev dktX5_toleranceOf_0 : List UInt8 := dkwX5_toleranceOf_0 ++ []
theorem dksX5_toleranceOf_0 : cX5_toleranceOf.data.toList.drop 0 = dktX5_toleranceOf_0 := by decide +kernel
theorem dX5_toleranceOf_0 : decode cX5_toleranceOf 0 = .ok (.aload_n 0, 1) := dk_42 (dk_at dksX5_toleranceOf_0 0 rfl rfl)
theorem dX5_toleranceOf_1 : decode cX5_toleranceOf 1 = .ok (.iload_n 1, 1) := dk_27 (dk_at dksX5_toleranceOf_0 1 rfl rfl)
theorem dX5_toleranceOf_2 : decode cX5_toleranceOf 2 = .ok (.iconst 4, 1) := dk_7 (dk_at dksX5_toleranceOf_0 2 rfl rfl)
theorem dX5_toleranceOf_3 : decode cX5_toleranceOf 3 = .ok (.invokevirtual 229, 3) := dk_182 0 229 (dk_at dksX5_toleranceOf_0 3 rfl rfl)
theorem dX5_toleranceOf_6 : decode cX5_toleranceOf 6 = .ok (.ireturn, 1) := dk_172 (dk_at dksX5_toleranceOf_0 6 rfl rfl)
def dkwX5_ofReport_1 : List UInt8 := [42, 42, 27, 182, 0, 146, 28, 182, 0, 96, 172]
abbrev dktX5_ofReport_1 : List UInt8 := dkwX5_ofReport_1 ++ []
def dkwX5_ofReport_0 : List UInt8 := [42, 42, 27, 182, 0, 146, 155, 0, 7, 4, 167, 0, 4, 3, 182, 0, 219, 158, 0, 7, 3, 167, 0, 13]
abbrev dktX5_ofReport_0 : List UInt8 := dkwX5_ofReport_0 ++ dktX5_ofReport_1
theorem dksX5_ofReport_0 : cX5_ofReport.data.toList.drop 0 = dktX5_ofReport_0 := by decide +kernel
theorem dksX5_ofReport_1 : cX5_ofReport.data.toList.drop 24 = dktX5_ofReport_1 := dk_seg dksX5_ofReport_0 24 rfl rfl
theorem dX5_ofReport_0 : decode cX5_ofReport 0 = .ok (.aload_n 0, 1) := dk_42 (dk_at dksX5_ofReport_0 0 rfl rfl)
theorem dX5_ofReport_1 : decode cX5_ofReport 1 = .ok (.aload_n 0, 1) := dk_42 (dk_at dksX5_ofReport_0 1 rfl rfl)
theorem dX5_ofReport_2 : decode cX5_ofReport 2 = .ok (.iload_n 1, 1) := dk_27 (dk_at dksX5_ofReport_0 2 rfl rfl)
theorem dX5_ofReport_3 : decode cX5_ofReport 3 = .ok (.invokevirtual 146, 3) := dk_182 0 146 (dk_at dksX5_ofReport_0 3 rfl rfl)
theorem dX5_ofReport_6 : decode cX5_ofReport 6 = .ok (.ifCond .lt 7, 3) := dk_155 0 7 (dk_at dksX5_ofReport_0 6 rfl rfl)
theorem dX5_ofReport_9 : decode cX5_ofReport 9 = .ok (.iconst 1, 1) := dk_4 (dk_at dksX5_ofReport_0 9 rfl rfl)
theorem dX5_ofReport_10 : decode cX5_ofReport 10 = .ok (.goto 4, 3) := dk_167 0 4 (dk_at dksX5_ofReport_0 10 rfl rfl)
theorem dX5_ofReport_13 : decode cX5_ofReport 13 = .ok (.iconst 0, 1) := dk_3 (dk_at dksX5_ofReport_0 13 rfl rfl)
theorem dX5_ofReport_14 : decode cX5_ofReport 14 = .ok (.invokevirtual 219, 3) := dk_182 0 219 (dk_at dksX5_ofReport_0 14 rfl rfl)
theorem dX5_ofReport_17 : decode cX5_ofReport 17 = .ok (.ifCond .le 7, 3) := dk_158 0 7 (dk_at dksX5_ofReport_0 17 rfl rfl)
theorem dX5_ofReport_20 : decode cX5_ofReport 20 = .ok (.iconst 0, 1) := dk_3 (dk_at dksX5_ofReport_0 20 rfl rfl)
theorem dX5_ofReport_21 : decode cX5_ofReport 21 = .ok (.goto 13, 3) := dk_167 0 13 (dk_at dksX5_ofReport_0 21 rfl rfl)
theorem dX5_ofReport_24 : decode cX5_ofReport 24 = .ok (.aload_n 0, 1) := dk_42 (dk_at dksX5_ofReport_1 0 rfl rfl)
theorem dX5_ofReport_25 : decode cX5_ofReport 25 = .ok (.aload_n 0, 1) := dk_42 (dk_at dksX5_ofReport_1 1 rfl rfl)
theorem dX5_ofReport_26 : decode cX5_ofReport 26 = .ok (.iload_n 1, 1) := dk_27 (dk_at dksX5_ofReport_1 2 rfl rfl)
theorem dX5_ofReport_27 : decode cX5_ofReport 27 = .ok (.invokevirtual 146, 3) := dk_182 0 146 (dk_at dksX5_ofReport_1 3 rfl rfl)
theorem dX5_ofReport_30 : decode cX5_ofReport 30 = .ok (.iload_n 2, 1) := dk_28 (dk_at dksX5_ofReport_1 6 rfl rfl)
theorem dX5_ofReport_31 : decode cX5_ofReport 31 = .ok (.invokevirtual 96, 3) := dk_182 0 96 (dk_at dksX5_ofReport_1 7 rfl rfl)
theorem dX5_ofReport_34 : decode cX5_ofReport 34 = .ok (.ireturn, 1) := dk_172 (dk_at dksX5_ofReport_1 10 rfl rfl)
def dkwX5_rewardOf_0 : List UInt8 := [42, 27, 8, 182, 0, 229, 172]
abbrev dktX5_rewardOf_0 : List UInt8 := dkwX5_rewardOf_0 ++ []
theorem dksX5_rewardOf_0 : cX5_rewardOf.data.toList.drop 0 = dktX5_rewardOf_0 := by decide +kernel
theorem dX5_rewardOf_0 : decode cX5_rewardOf 0 = .ok (.aload_n 0, 1) := dk_42 (dk_at dksX5_rewardOf_0 0 rfl rfl)
theorem dX5_rewardOf_1 : decode cX5_rewardOf 1 = .ok (.iload_n 1, 1) := dk_27 (dk_at dksX5_rewardOf_0 1 rfl rfl)
theorem dX5_rewardOf_2 : decode cX5_rewardOf 2 = .ok (.iconst 5, 1) := dk_8 (dk_at dksX5_rewardOf_0 2 rfl rfl)
theorem dX5_rewardOf_3 : decode cX5_rewardOf 3 = .ok (.invokevirtual 229, 3) := dk_182 0 229 (dk_at dksX5_rewardOf_0 3 rfl rfl)
theorem dX5_rewardOf_6 : decode cX5_rewardOf 6 = .ok (.ireturn, 1) := dk_172 (dk_at dksX5_rewardOf_0 6 rfl rfl)
def dkwX5_distanceFor_1 : List UInt8 := [167, 0, 4, 3, 172]
abbrev dktX5_distanceFor_1 : List UInt8 := dkwX5_distanceFor_1 ++ []
def dkwX5_distanceFor_0 : List UInt8 := [42, 27, 28, 182, 0, 232, 153, 0, 20, 42, 42, 27, 182, 0, 146, 42, 28, 182, 0, 156, 182, 0, 109]
abbrev dktX5_distanceFor_0 : List UInt8 := dkwX5_distanceFor_0 ++ dktX5_distanceFor_1
theorem dksX5_distanceFor_0 : cX5_distanceFor.data.toList.drop 0 = dktX5_distanceFor_0 := by decide +kernel
theorem dksX5_distanceFor_1 : cX5_distanceFor.data.toList.drop 23 = dktX5_distanceFor_1 := dk_seg dksX5_distanceFor_0 23 rfl rfl
theorem dX5_distanceFor_0 : decode cX5_distanceFor 0 = .ok (.aload_n 0, 1) := dk_42 (dk_at dksX5_distanceFor_0 0 rfl rfl)
theorem dX5_distanceFor_1 : decode cX5_distanceFor 1 = .ok (.iload_n 1, 1) := dk_27 (dk_at dksX5_distanceFor_0 1 rfl rfl)
theorem dX5_distanceFor_2 : decode cX5_distanceFor 2 = .ok (.iload_n 2, 1) := dk_28 (dk_at dksX5_distanceFor_0 2 rfl rfl)
theorem dX5_distanceFor_3 : decode cX5_distanceFor 3 = .ok (.invokevirtual 232, 3) := dk_182 0 232 (dk_at dksX5_distanceFor_0 3 rfl rfl)
theorem dX5_distanceFor_6 : decode cX5_distanceFor 6 = .ok (.ifCond .eq 20, 3) := dk_153 0 20 (dk_at dksX5_distanceFor_0 6 rfl rfl)
theorem dX5_distanceFor_9 : decode cX5_distanceFor 9 = .ok (.aload_n 0, 1) := dk_42 (dk_at dksX5_distanceFor_0 9 rfl rfl)
theorem dX5_distanceFor_10 : decode cX5_distanceFor 10 = .ok (.aload_n 0, 1) := dk_42 (dk_at dksX5_distanceFor_0 10 rfl rfl)
theorem dX5_distanceFor_11 : decode cX5_distanceFor 11 = .ok (.iload_n 1, 1) := dk_27 (dk_at dksX5_distanceFor_0 11 rfl rfl)
theorem dX5_distanceFor_12 : decode cX5_distanceFor 12 = .ok (.invokevirtual 146, 3) := dk_182 0 146 (dk_at dksX5_distanceFor_0 12 rfl rfl)
theorem dX5_distanceFor_15 : decode cX5_distanceFor 15 = .ok (.aload_n 0, 1) := dk_42 (dk_at dksX5_distanceFor_0 15 rfl rfl)
theorem dX5_distanceFor_16 : decode cX5_distanceFor 16 = .ok (.iload_n 2, 1) := dk_28 (dk_at dksX5_distanceFor_0 16 rfl rfl)
theorem dX5_distanceFor_17 : decode cX5_distanceFor 17 = .ok (.invokevirtual 156, 3) := dk_182 0 156 (dk_at dksX5_distanceFor_0 17 rfl rfl)
theorem dX5_distanceFor_20 : decode cX5_distanceFor 20 = .ok (.invokevirtual 109, 3) := dk_182 0 109 (dk_at dksX5_distanceFor_0 20 rfl rfl)
theorem dX5_distanceFor_23 : decode cX5_distanceFor 23 = .ok (.goto 4, 3) := dk_167 0 4 (dk_at dksX5_distanceFor_1 0 rfl rfl)
theorem dX5_distanceFor_26 : decode cX5_distanceFor 26 = .ok (.iconst 0, 1) := dk_3 (dk_at dksX5_distanceFor_1 3 rfl rfl)
theorem dX5_distanceFor_27 : decode cX5_distanceFor 27 = .ok (.ireturn, 1) := dk_172 (dk_at dksX5_distanceFor_1 4 rfl rfl)
def dkwX5_areBoth_1 : List UInt8 := [182, 0, 219, 154, 0, 7, 4, 167, 0, 4, 3, 172]
abbrev dktX5_areBoth_1 : List UInt8 := dkwX5_areBoth_1 ++ []
def dkwX5_areBoth_0 : List UInt8 := [42, 42, 27, 182, 0, 146, 155, 0, 15, 42, 28, 182, 0, 156, 155, 0, 7, 4, 167, 0, 4, 3]
abbrev dktX5_areBoth_0 : List UInt8 := dkwX5_areBoth_0 ++ dktX5_areBoth_1
theorem dksX5_areBoth_0 : cX5_areBoth.data.toList.drop 0 = dktX5_areBoth_0 := by decide +kernel
theorem dksX5_areBoth_1 : cX5_areBoth.data.toList.drop 22 = dktX5_areBoth_1 := dk_seg dksX5_areBoth_0 22 rfl rfl
theorem dX5_areBoth_0 : decode cX5_areBoth 0 = .ok (.aload_n 0, 1) := dk_42 (dk_at dksX5_areBoth_0 0 rfl rfl)
theorem dX5_areBoth_1 : decode cX5_areBoth 1 = .ok (.aload_n 0, 1) := dk_42 (dk_at dksX5_areBoth_0 1 rfl rfl)
theorem dX5_areBoth_2 : decode cX5_areBoth 2 = .ok (.iload_n 1, 1) := dk_27 (dk_at dksX5_areBoth_0 2 rfl rfl)
theorem dX5_areBoth_3 : decode cX5_areBoth 3 = .ok (.invokevirtual 146, 3) := dk_182 0 146 (dk_at dksX5_areBoth_0 3 rfl rfl)
theorem dX5_areBoth_6 : decode cX5_areBoth 6 = .ok (.ifCond .lt 15, 3) := dk_155 0 15 (dk_at dksX5_areBoth_0 6 rfl rfl)
theorem dX5_areBoth_9 : decode cX5_areBoth 9 = .ok (.aload_n 0, 1) := dk_42 (dk_at dksX5_areBoth_0 9 rfl rfl)
theorem dX5_areBoth_10 : decode cX5_areBoth 10 = .ok (.iload_n 2, 1) := dk_28 (dk_at dksX5_areBoth_0 10 rfl rfl)
theorem dX5_areBoth_11 : decode cX5_areBoth 11 = .ok (.invokevirtual 156, 3) := dk_182 0 156 (dk_at dksX5_areBoth_0 11 rfl rfl)
theorem dX5_areBoth_14 : decode cX5_areBoth 14 = .ok (.ifCond .lt 7, 3) := dk_155 0 7 (dk_at dksX5_areBoth_0 14 rfl rfl)
theorem dX5_areBoth_17 : decode cX5_areBoth 17 = .ok (.iconst 1, 1) := dk_4 (dk_at dksX5_areBoth_0 17 rfl rfl)
theorem dX5_areBoth_18 : decode cX5_areBoth 18 = .ok (.goto 4, 3) := dk_167 0 4 (dk_at dksX5_areBoth_0 18 rfl rfl)
theorem dX5_areBoth_21 : decode cX5_areBoth 21 = .ok (.iconst 0, 1) := dk_3 (dk_at dksX5_areBoth_0 21 rfl rfl)
theorem dX5_areBoth_22 : decode cX5_areBoth 22 = .ok (.invokevirtual 219, 3) := dk_182 0 219 (dk_at dksX5_areBoth_1 0 rfl rfl)
theorem dX5_areBoth_25 : decode cX5_areBoth 25 = .ok (.ifCond .ne 7, 3) := dk_154 0 7 (dk_at dksX5_areBoth_1 3 rfl rfl)
theorem dX5_areBoth_28 : decode cX5_areBoth 28 = .ok (.iconst 1, 1) := dk_4 (dk_at dksX5_areBoth_1 6 rfl rfl)
theorem dX5_areBoth_29 : decode cX5_areBoth 29 = .ok (.goto 4, 3) := dk_167 0 4 (dk_at dksX5_areBoth_1 7 rfl rfl)
theorem dX5_areBoth_32 : decode cX5_areBoth 32 = .ok (.iconst 0, 1) := dk_3 (dk_at dksX5_areBoth_1 10 rfl rfl)
theorem dX5_areBoth_33 : decode cX5_areBoth 33 = .ok (.ireturn, 1) := dk_172 (dk_at dksX5_areBoth_1 11 rfl rfl)
def dkwX5_fits_1 : List UInt8 := [153, 0, 7, 4, 167, 0, 4, 3, 172]
abbrev dktX5_fits_1 : List UInt8 := dkwX5_fits_1 ++ []
def dkwX5_fits_0 : List UInt8 := [42, 27, 28, 182, 0, 232, 153, 0, 24, 42, 42, 27, 182, 0, 146, 42, 28, 182, 0, 156, 182, 0, 175]
abbrev dktX5_fits_0 : List UInt8 := dkwX5_fits_0 ++ dktX5_fits_1
theorem dksX5_fits_0 : cX5_fits.data.toList.drop 0 = dktX5_fits_0 := by decide +kernel
theorem dksX5_fits_1 : cX5_fits.data.toList.drop 23 = dktX5_fits_1 := dk_seg dksX5_fits_0 23 rfl rfl
theorem dX5_fits_0 : decode cX5_fits 0 = .ok (.aload_n 0, 1) := dk_42 (dk_at dksX5_fits_0 0 rfl rfl)
theorem dX5_fits_1 : decode cX5_fits 1 = .ok (.iload_n 1, 1) := dk_27 (dk_at dksX5_fits_0 1 rfl rfl)
theorem dX5_fits_2 : decode cX5_fits 2 = .ok (.iload_n 2, 1) := dk_28 (dk_at dksX5_fits_0 2 rfl rfl)
theorem dX5_fits_3 : decode cX5_fits 3 = .ok (.invokevirtual 232, 3) := dk_182 0 232 (dk_at dksX5_fits_0 3 rfl rfl)
theorem dX5_fits_6 : decode cX5_fits 6 = .ok (.ifCond .eq 24, 3) := dk_153 0 24 (dk_at dksX5_fits_0 6 rfl rfl)
theorem dX5_fits_9 : decode cX5_fits 9 = .ok (.aload_n 0, 1) := dk_42 (dk_at dksX5_fits_0 9 rfl rfl)
theorem dX5_fits_10 : decode cX5_fits 10 = .ok (.aload_n 0, 1) := dk_42 (dk_at dksX5_fits_0 10 rfl rfl)
theorem dX5_fits_11 : decode cX5_fits 11 = .ok (.iload_n 1, 1) := dk_27 (dk_at dksX5_fits_0 11 rfl rfl)
theorem dX5_fits_12 : decode cX5_fits 12 = .ok (.invokevirtual 146, 3) := dk_182 0 146 (dk_at dksX5_fits_0 12 rfl rfl)
theorem dX5_fits_15 : decode cX5_fits 15 = .ok (.aload_n 0, 1) := dk_42 (dk_at dksX5_fits_0 15 rfl rfl)
theorem dX5_fits_16 : decode cX5_fits 16 = .ok (.iload_n 2, 1) := dk_28 (dk_at dksX5_fits_0 16 rfl rfl)
theorem dX5_fits_17 : decode cX5_fits 17 = .ok (.invokevirtual 156, 3) := dk_182 0 156 (dk_at dksX5_fits_0 17 rfl rfl)
theorem dX5_fits_20 : decode cX5_fits 20 = .ok (.invokevirtual 175, 3) := dk_182 0 175 (dk_at dksX5_fits_0 20 rfl rfl)
theorem dX5_fits_23 : decode cX5_fits 23 = .ok (.ifCond .eq 7, 3) := dk_153 0 7 (dk_at dksX5_fits_1 0 rfl rfl)
theorem dX5_fits_26 : decode cX5_fits 26 = .ok (.iconst 1, 1) := dk_4 (dk_at dksX5_fits_1 3 rfl rfl)
theorem dX5_fits_27 : decode cX5_fits 27 = .ok (.goto 4, 3) := dk_167 0 4 (dk_at dksX5_fits_1 4 rfl rfl)
theorem dX5_fits_30 : decode cX5_fits 30 = .ok (.iconst 0, 1) := dk_3 (dk_at dksX5_fits_1 7 rfl rfl)
theorem dX5_fits_31 : decode cX5_fits 31 = .ok (.ireturn, 1) := dk_172 (dk_at dksX5_fits_1 8 rfl rfl)
def dkwX5_nearestFor_2 : List UInt8 := [182, 0, 92, 172]
abbrev dktX5_nearestFor_2 : List UInt8 := dkwX5_nearestFor_2 ++ []
def dkwX5_nearestFor_1 : List UInt8 := [182, 0, 219, 158, 0, 5, 3, 172, 42, 42, 42, 27, 182, 0, 146, 184, 0, 89, 182, 0, 172, 3]
abbrev dktX5_nearestFor_1 : List UInt8 := dkwX5_nearestFor_1 ++ dktX5_nearestFor_2
def dkwX5_nearestFor_0 : List UInt8 := [42, 42, 27, 182, 0, 146, 155, 0, 16, 42, 180, 0, 7, 3, 46, 158, 0, 7, 4, 167, 0, 4, 3]
abbrev dktX5_nearestFor_0 : List UInt8 := dkwX5_nearestFor_0 ++ dktX5_nearestFor_1
theorem dksX5_nearestFor_0 : cX5_nearestFor.data.toList.drop 0 = dktX5_nearestFor_0 := by decide +kernel
theorem dksX5_nearestFor_1 : cX5_nearestFor.data.toList.drop 23 = dktX5_nearestFor_1 := dk_seg dksX5_nearestFor_0 23 rfl rfl
theorem dksX5_nearestFor_2 : cX5_nearestFor.data.toList.drop 45 = dktX5_nearestFor_2 := dk_seg dksX5_nearestFor_1 22 rfl rfl
theorem dX5_nearestFor_0 : decode cX5_nearestFor 0 = .ok (.aload_n 0, 1) := dk_42 (dk_at dksX5_nearestFor_0 0 rfl rfl)
theorem dX5_nearestFor_1 : decode cX5_nearestFor 1 = .ok (.aload_n 0, 1) := dk_42 (dk_at dksX5_nearestFor_0 1 rfl rfl)
theorem dX5_nearestFor_2 : decode cX5_nearestFor 2 = .ok (.iload_n 1, 1) := dk_27 (dk_at dksX5_nearestFor_0 2 rfl rfl)
theorem dX5_nearestFor_3 : decode cX5_nearestFor 3 = .ok (.invokevirtual 146, 3) := dk_182 0 146 (dk_at dksX5_nearestFor_0 3 rfl rfl)
theorem dX5_nearestFor_6 : decode cX5_nearestFor 6 = .ok (.ifCond .lt 16, 3) := dk_155 0 16 (dk_at dksX5_nearestFor_0 6 rfl rfl)
theorem dX5_nearestFor_9 : decode cX5_nearestFor 9 = .ok (.aload_n 0, 1) := dk_42 (dk_at dksX5_nearestFor_0 9 rfl rfl)
theorem dX5_nearestFor_10 : decode cX5_nearestFor 10 = .ok (.getfield 7, 3) := dk_180 0 7 (dk_at dksX5_nearestFor_0 10 rfl rfl)
theorem dX5_nearestFor_13 : decode cX5_nearestFor 13 = .ok (.iconst 0, 1) := dk_3 (dk_at dksX5_nearestFor_0 13 rfl rfl)
theorem dX5_nearestFor_14 : decode cX5_nearestFor 14 = .ok (.iaload, 1) := dk_46 (dk_at dksX5_nearestFor_0 14 rfl rfl)
theorem dX5_nearestFor_15 : decode cX5_nearestFor 15 = .ok (.ifCond .le 7, 3) := dk_158 0 7 (dk_at dksX5_nearestFor_0 15 rfl rfl)
theorem dX5_nearestFor_18 : decode cX5_nearestFor 18 = .ok (.iconst 1, 1) := dk_4 (dk_at dksX5_nearestFor_0 18 rfl rfl)
theorem dX5_nearestFor_19 : decode cX5_nearestFor 19 = .ok (.goto 4, 3) := dk_167 0 4 (dk_at dksX5_nearestFor_0 19 rfl rfl)
theorem dX5_nearestFor_22 : decode cX5_nearestFor 22 = .ok (.iconst 0, 1) := dk_3 (dk_at dksX5_nearestFor_0 22 rfl rfl)
theorem dX5_nearestFor_23 : decode cX5_nearestFor 23 = .ok (.invokevirtual 219, 3) := dk_182 0 219 (dk_at dksX5_nearestFor_1 0 rfl rfl)
theorem dX5_nearestFor_26 : decode cX5_nearestFor 26 = .ok (.ifCond .le 5, 3) := dk_158 0 5 (dk_at dksX5_nearestFor_1 3 rfl rfl)
theorem dX5_nearestFor_29 : decode cX5_nearestFor 29 = .ok (.iconst 0, 1) := dk_3 (dk_at dksX5_nearestFor_1 6 rfl rfl)
theorem dX5_nearestFor_30 : decode cX5_nearestFor 30 = .ok (.ireturn, 1) := dk_172 (dk_at dksX5_nearestFor_1 7 rfl rfl)
theorem dX5_nearestFor_31 : decode cX5_nearestFor 31 = .ok (.aload_n 0, 1) := dk_42 (dk_at dksX5_nearestFor_1 8 rfl rfl)
theorem dX5_nearestFor_32 : decode cX5_nearestFor 32 = .ok (.aload_n 0, 1) := dk_42 (dk_at dksX5_nearestFor_1 9 rfl rfl)
theorem dX5_nearestFor_33 : decode cX5_nearestFor 33 = .ok (.aload_n 0, 1) := dk_42 (dk_at dksX5_nearestFor_1 10 rfl rfl)
theorem dX5_nearestFor_34 : decode cX5_nearestFor 34 = .ok (.iload_n 1, 1) := dk_27 (dk_at dksX5_nearestFor_1 11 rfl rfl)
theorem dX5_nearestFor_35 : decode cX5_nearestFor 35 = .ok (.invokevirtual 146, 3) := dk_182 0 146 (dk_at dksX5_nearestFor_1 12 rfl rfl)
theorem dX5_nearestFor_38 : decode cX5_nearestFor 38 = .ok (.invokestatic 89, 3) := dk_184 0 89 (dk_at dksX5_nearestFor_1 15 rfl rfl)
theorem dX5_nearestFor_41 : decode cX5_nearestFor 41 = .ok (.invokevirtual 172, 3) := dk_182 0 172 (dk_at dksX5_nearestFor_1 18 rfl rfl)
theorem dX5_nearestFor_44 : decode cX5_nearestFor 44 = .ok (.iconst 0, 1) := dk_3 (dk_at dksX5_nearestFor_1 21 rfl rfl)
theorem dX5_nearestFor_45 : decode cX5_nearestFor 45 = .ok (.invokevirtual 92, 3) := dk_182 0 92 (dk_at dksX5_nearestFor_2 0 rfl rfl)
theorem dX5_nearestFor_48 : decode cX5_nearestFor 48 = .ok (.ireturn, 1) := dk_172 (dk_at dksX5_nearestFor_2 3 rfl rfl)
def dkwX5_distance_2 : List UInt8 := [184, 0, 85, 182, 0, 106, 172]
abbrev dktX5_distance_2 : List UInt8 := dkwX5_distance_2 ++ []
def dkwX5_distance_1 : List UInt8 := [182, 0, 219, 158, 0, 5, 3, 172, 42, 42, 27, 182, 0, 156, 184, 0, 85, 42, 28, 182, 0, 156]
abbrev dktX5_distance_1 : List UInt8 := dkwX5_distance_1 ++ dktX5_distance_2
def dkwX5_distance_0 : List UInt8 := [42, 42, 27, 182, 0, 156, 155, 0, 15, 42, 28, 182, 0, 156, 155, 0, 7, 4, 167, 0, 4, 3]
abbrev dktX5_distance_0 : List UInt8 := dkwX5_distance_0 ++ dktX5_distance_1
theorem dksX5_distance_0 : cX5_distance.data.toList.drop 0 = dktX5_distance_0 := by decide +kernel
theorem dksX5_distance_1 : cX5_distance.data.toList.drop 22 = dktX5_distance_1 := dk_seg dksX5_distance_0 22 rfl rfl
theorem dksX5_distance_2 : cX5_distance.data.toList.drop 44 = dktX5_distance_2 := dk_seg dksX5_distance_1 22 rfl rfl
theorem dX5_distance_0 : decode cX5_distance 0 = .ok (.aload_n 0, 1) := dk_42 (dk_at dksX5_distance_0 0 rfl rfl)
theorem dX5_distance_1 : decode cX5_distance 1 = .ok (.aload_n 0, 1) := dk_42 (dk_at dksX5_distance_0 1 rfl rfl)
theorem dX5_distance_2 : decode cX5_distance 2 = .ok (.iload_n 1, 1) := dk_27 (dk_at dksX5_distance_0 2 rfl rfl)
theorem dX5_distance_3 : decode cX5_distance 3 = .ok (.invokevirtual 156, 3) := dk_182 0 156 (dk_at dksX5_distance_0 3 rfl rfl)
theorem dX5_distance_6 : decode cX5_distance 6 = .ok (.ifCond .lt 15, 3) := dk_155 0 15 (dk_at dksX5_distance_0 6 rfl rfl)
theorem dX5_distance_9 : decode cX5_distance 9 = .ok (.aload_n 0, 1) := dk_42 (dk_at dksX5_distance_0 9 rfl rfl)
theorem dX5_distance_10 : decode cX5_distance 10 = .ok (.iload_n 2, 1) := dk_28 (dk_at dksX5_distance_0 10 rfl rfl)
theorem dX5_distance_11 : decode cX5_distance 11 = .ok (.invokevirtual 156, 3) := dk_182 0 156 (dk_at dksX5_distance_0 11 rfl rfl)
theorem dX5_distance_14 : decode cX5_distance 14 = .ok (.ifCond .lt 7, 3) := dk_155 0 7 (dk_at dksX5_distance_0 14 rfl rfl)
theorem dX5_distance_17 : decode cX5_distance 17 = .ok (.iconst 1, 1) := dk_4 (dk_at dksX5_distance_0 17 rfl rfl)
theorem dX5_distance_18 : decode cX5_distance 18 = .ok (.goto 4, 3) := dk_167 0 4 (dk_at dksX5_distance_0 18 rfl rfl)
theorem dX5_distance_21 : decode cX5_distance 21 = .ok (.iconst 0, 1) := dk_3 (dk_at dksX5_distance_0 21 rfl rfl)
theorem dX5_distance_22 : decode cX5_distance 22 = .ok (.invokevirtual 219, 3) := dk_182 0 219 (dk_at dksX5_distance_1 0 rfl rfl)
theorem dX5_distance_25 : decode cX5_distance 25 = .ok (.ifCond .le 5, 3) := dk_158 0 5 (dk_at dksX5_distance_1 3 rfl rfl)
theorem dX5_distance_28 : decode cX5_distance 28 = .ok (.iconst 0, 1) := dk_3 (dk_at dksX5_distance_1 6 rfl rfl)
theorem dX5_distance_29 : decode cX5_distance 29 = .ok (.ireturn, 1) := dk_172 (dk_at dksX5_distance_1 7 rfl rfl)
theorem dX5_distance_30 : decode cX5_distance 30 = .ok (.aload_n 0, 1) := dk_42 (dk_at dksX5_distance_1 8 rfl rfl)
theorem dX5_distance_31 : decode cX5_distance 31 = .ok (.aload_n 0, 1) := dk_42 (dk_at dksX5_distance_1 9 rfl rfl)
theorem dX5_distance_32 : decode cX5_distance 32 = .ok (.iload_n 1, 1) := dk_27 (dk_at dksX5_distance_1 10 rfl rfl)
theorem dX5_distance_33 : decode cX5_distance 33 = .ok (.invokevirtual 156, 3) := dk_182 0 156 (dk_at dksX5_distance_1 11 rfl rfl)
theorem dX5_distance_36 : decode cX5_distance 36 = .ok (.invokestatic 85, 3) := dk_184 0 85 (dk_at dksX5_distance_1 14 rfl rfl)
theorem dX5_distance_39 : decode cX5_distance 39 = .ok (.aload_n 0, 1) := dk_42 (dk_at dksX5_distance_1 17 rfl rfl)
theorem dX5_distance_40 : decode cX5_distance 40 = .ok (.iload_n 2, 1) := dk_28 (dk_at dksX5_distance_1 18 rfl rfl)
theorem dX5_distance_41 : decode cX5_distance 41 = .ok (.invokevirtual 156, 3) := dk_182 0 156 (dk_at dksX5_distance_1 19 rfl rfl)
theorem dX5_distance_44 : decode cX5_distance 44 = .ok (.invokestatic 85, 3) := dk_184 0 85 (dk_at dksX5_distance_2 0 rfl rfl)
theorem dX5_distance_47 : decode cX5_distance 47 = .ok (.invokevirtual 106, 3) := dk_182 0 106 (dk_at dksX5_distance_2 3 rfl rfl)
theorem dX5_distance_50 : decode cX5_distance 50 = .ok (.ireturn, 1) := dk_172 (dk_at dksX5_distance_2 6 rfl rfl)
def dkwX5_nearest_0 : List UInt8 := [42, 27, 28, 29, 182, 0, 239, 172]
abbrev dktX5_nearest_0 : List UInt8 := dkwX5_nearest_0 ++ []
theorem dksX5_nearest_0 : cX5_nearest.data.toList.drop 0 = dktX5_nearest_0 := by decide +kernel
theorem dX5_nearest_0 : decode cX5_nearest 0 = .ok (.aload_n 0, 1) := dk_42 (dk_at dksX5_nearest_0 0 rfl rfl)
theorem dX5_nearest_1 : decode cX5_nearest 1 = .ok (.iload_n 1, 1) := dk_27 (dk_at dksX5_nearest_0 1 rfl rfl)
theorem dX5_nearest_2 : decode cX5_nearest 2 = .ok (.iload_n 2, 1) := dk_28 (dk_at dksX5_nearest_0 2 rfl rfl)
theorem dX5_nearest_3 : decode cX5_nearest 3 = .ok (.iload_n 3, 1) := dk_29 (dk_at dksX5_nearest_0 3 rfl rfl)
theorem dX5_nearest_4 : decode cX5_nearest 4 = .ok (.invokevirtual 239, 3) := dk_182 0 239 (dk_at dksX5_nearest_0 4 rfl rfl)
theorem dX5_nearest_7 : decode cX5_nearest 7 = .ok (.ireturn, 1) := dk_172 (dk_at dksX5_nearest_0 7 rfl rfl)
def dkwX5_near_4 : List UInt8 := [42, 21, 4, 3, 182, 0, 92, 172]
abbrev dktX5_near_4 : List UInt8 := dkwX5_near_4 ++ []
def dkwX5_near_3 : List UInt8 := [21, 7, 21, 5, 161, 0, 6, 167, 0, 11, 21, 7, 54, 5, 21, 6, 54, 4, 132, 6, 1, 167, 255, 213]
abbrev dktX5_near_3 : List UInt8 := dkwX5_near_3 ++ dktX5_near_4
def dkwX5_near_2 : List UInt8 := [54, 6, 21, 6, 42, 180, 0, 7, 3, 46, 162, 0, 38, 42, 21, 6, 27, 28, 29, 182, 0, 236, 54, 7]
abbrev dktX5_near_2 : List UInt8 := dkwX5_near_2 ++ dktX5_near_3
def dkwX5_near_1 : List UInt8 := [167, 0, 4, 3, 181, 0, 25, 42, 180, 0, 25, 158, 0, 5, 3, 172, 2, 54, 4, 18, 235, 54, 5, 3]
abbrev dktX5_near_1 : List UInt8 := dkwX5_near_1 ++ dktX5_near_2
def dkwX5_near_0 : List UInt8 := [42, 27, 28, 29, 184, 0, 116, 154, 0, 7, 4, 167, 0, 17, 42, 180, 0, 7, 3, 46, 154, 0, 7, 5]
abbrev dktX5_near_0 : List UInt8 := dkwX5_near_0 ++ dktX5_near_1
theorem dksX5_near_0 : cX5_near.data.toList.drop 0 = dktX5_near_0 := by decide +kernel
theorem dksX5_near_1 : cX5_near.data.toList.drop 24 = dktX5_near_1 := dk_seg dksX5_near_0 24 rfl rfl
theorem dksX5_near_2 : cX5_near.data.toList.drop 48 = dktX5_near_2 := dk_seg dksX5_near_1 24 rfl rfl
theorem dksX5_near_3 : cX5_near.data.toList.drop 72 = dktX5_near_3 := dk_seg dksX5_near_2 24 rfl rfl
theorem dksX5_near_4 : cX5_near.data.toList.drop 96 = dktX5_near_4 := dk_seg dksX5_near_3 24 rfl rfl
theorem dX5_near_0 : decode cX5_near 0 = .ok (.aload_n 0, 1) := dk_42 (dk_at dksX5_near_0 0 rfl rfl)
theorem dX5_near_1 : decode cX5_near 1 = .ok (.iload_n 1, 1) := dk_27 (dk_at dksX5_near_0 1 rfl rfl)
theorem dX5_near_2 : decode cX5_near 2 = .ok (.iload_n 2, 1) := dk_28 (dk_at dksX5_near_0 2 rfl rfl)
theorem dX5_near_3 : decode cX5_near 3 = .ok (.iload_n 3, 1) := dk_29 (dk_at dksX5_near_0 3 rfl rfl)
theorem dX5_near_4 : decode cX5_near 4 = .ok (.invokestatic 116, 3) := dk_184 0 116 (dk_at dksX5_near_0 4 rfl rfl)
theorem dX5_near_7 : decode cX5_near 7 = .ok (.ifCond .ne 7, 3) := dk_154 0 7 (dk_at dksX5_near_0 7 rfl rfl)
theorem dX5_near_10 : decode cX5_near 10 = .ok (.iconst 1, 1) := dk_4 (dk_at dksX5_near_0 10 rfl rfl)
theorem dX5_near_11 : decode cX5_near 11 = .ok (.goto 17, 3) := dk_167 0 17 (dk_at dksX5_near_0 11 rfl rfl)
theorem dX5_near_14 : decode cX5_near 14 = .ok (.aload_n 0, 1) := dk_42 (dk_at dksX5_near_0 14 rfl rfl)
theorem dX5_near_15 : decode cX5_near 15 = .ok (.getfield 7, 3) := dk_180 0 7 (dk_at dksX5_near_0 15 rfl rfl)
theorem dX5_near_18 : decode cX5_near 18 = .ok (.iconst 0, 1) := dk_3 (dk_at dksX5_near_0 18 rfl rfl)
theorem dX5_near_19 : decode cX5_near 19 = .ok (.iaload, 1) := dk_46 (dk_at dksX5_near_0 19 rfl rfl)
theorem dX5_near_20 : decode cX5_near 20 = .ok (.ifCond .ne 7, 3) := dk_154 0 7 (dk_at dksX5_near_0 20 rfl rfl)
theorem dX5_near_23 : decode cX5_near 23 = .ok (.iconst 2, 1) := dk_5 (dk_at dksX5_near_0 23 rfl rfl)
theorem dX5_near_24 : decode cX5_near 24 = .ok (.goto 4, 3) := dk_167 0 4 (dk_at dksX5_near_1 0 rfl rfl)
theorem dX5_near_27 : decode cX5_near 27 = .ok (.iconst 0, 1) := dk_3 (dk_at dksX5_near_1 3 rfl rfl)
theorem dX5_near_28 : decode cX5_near 28 = .ok (.putfield 25, 3) := dk_181 0 25 (dk_at dksX5_near_1 4 rfl rfl)
theorem dX5_near_31 : decode cX5_near 31 = .ok (.aload_n 0, 1) := dk_42 (dk_at dksX5_near_1 7 rfl rfl)
theorem dX5_near_32 : decode cX5_near 32 = .ok (.getfield 25, 3) := dk_180 0 25 (dk_at dksX5_near_1 8 rfl rfl)
theorem dX5_near_35 : decode cX5_near 35 = .ok (.ifCond .le 5, 3) := dk_158 0 5 (dk_at dksX5_near_1 11 rfl rfl)
theorem dX5_near_38 : decode cX5_near 38 = .ok (.iconst 0, 1) := dk_3 (dk_at dksX5_near_1 14 rfl rfl)
theorem dX5_near_39 : decode cX5_near 39 = .ok (.ireturn, 1) := dk_172 (dk_at dksX5_near_1 15 rfl rfl)
theorem dX5_near_40 : decode cX5_near 40 = .ok (.iconst (-1), 1) := dk_2 (dk_at dksX5_near_1 16 rfl rfl)
theorem dX5_near_41 : decode cX5_near 41 = .ok (.istore 4, 2) := dk_54 4 (dk_at dksX5_near_1 17 rfl rfl)
theorem dX5_near_43 : decode cX5_near 43 = .ok (.ldc 235, 2) := dk_18 235 (dk_at dksX5_near_1 19 rfl rfl)
theorem dX5_near_45 : decode cX5_near 45 = .ok (.istore 5, 2) := dk_54 5 (dk_at dksX5_near_1 21 rfl rfl)
theorem dX5_near_47 : decode cX5_near 47 = .ok (.iconst 0, 1) := dk_3 (dk_at dksX5_near_1 23 rfl rfl)
theorem dX5_near_48 : decode cX5_near 48 = .ok (.istore 6, 2) := dk_54 6 (dk_at dksX5_near_2 0 rfl rfl)
theorem dX5_near_50 : decode cX5_near 50 = .ok (.iload 6, 2) := dk_21 6 (dk_at dksX5_near_2 2 rfl rfl)
theorem dX5_near_52 : decode cX5_near 52 = .ok (.aload_n 0, 1) := dk_42 (dk_at dksX5_near_2 4 rfl rfl)
theorem dX5_near_53 : decode cX5_near 53 = .ok (.getfield 7, 3) := dk_180 0 7 (dk_at dksX5_near_2 5 rfl rfl)
theorem dX5_near_56 : decode cX5_near 56 = .ok (.iconst 0, 1) := dk_3 (dk_at dksX5_near_2 8 rfl rfl)
theorem dX5_near_57 : decode cX5_near 57 = .ok (.iaload, 1) := dk_46 (dk_at dksX5_near_2 9 rfl rfl)
theorem dX5_near_58 : decode cX5_near 58 = .ok (.if_icmp .ge 38, 3) := dk_162 0 38 (dk_at dksX5_near_2 10 rfl rfl)
theorem dX5_near_61 : decode cX5_near 61 = .ok (.aload_n 0, 1) := dk_42 (dk_at dksX5_near_2 13 rfl rfl)
theorem dX5_near_62 : decode cX5_near 62 = .ok (.iload 6, 2) := dk_21 6 (dk_at dksX5_near_2 14 rfl rfl)
theorem dX5_near_64 : decode cX5_near 64 = .ok (.iload_n 1, 1) := dk_27 (dk_at dksX5_near_2 16 rfl rfl)
theorem dX5_near_65 : decode cX5_near 65 = .ok (.iload_n 2, 1) := dk_28 (dk_at dksX5_near_2 17 rfl rfl)
theorem dX5_near_66 : decode cX5_near 66 = .ok (.iload_n 3, 1) := dk_29 (dk_at dksX5_near_2 18 rfl rfl)
theorem dX5_near_67 : decode cX5_near 67 = .ok (.invokevirtual 236, 3) := dk_182 0 236 (dk_at dksX5_near_2 19 rfl rfl)
theorem dX5_near_70 : decode cX5_near 70 = .ok (.istore 7, 2) := dk_54 7 (dk_at dksX5_near_2 22 rfl rfl)
theorem dX5_near_72 : decode cX5_near 72 = .ok (.iload 7, 2) := dk_21 7 (dk_at dksX5_near_3 0 rfl rfl)
theorem dX5_near_74 : decode cX5_near 74 = .ok (.iload 5, 2) := dk_21 5 (dk_at dksX5_near_3 2 rfl rfl)
theorem dX5_near_76 : decode cX5_near 76 = .ok (.if_icmp .lt 6, 3) := dk_161 0 6 (dk_at dksX5_near_3 4 rfl rfl)
theorem dX5_near_79 : decode cX5_near 79 = .ok (.goto 11, 3) := dk_167 0 11 (dk_at dksX5_near_3 7 rfl rfl)
theorem dX5_near_82 : decode cX5_near 82 = .ok (.iload 7, 2) := dk_21 7 (dk_at dksX5_near_3 10 rfl rfl)
theorem dX5_near_84 : decode cX5_near 84 = .ok (.istore 5, 2) := dk_54 5 (dk_at dksX5_near_3 12 rfl rfl)
theorem dX5_near_86 : decode cX5_near 86 = .ok (.iload 6, 2) := dk_21 6 (dk_at dksX5_near_3 14 rfl rfl)
theorem dX5_near_88 : decode cX5_near 88 = .ok (.istore 4, 2) := dk_54 4 (dk_at dksX5_near_3 16 rfl rfl)
theorem dX5_near_90 : decode cX5_near 90 = .ok (.iinc 6 1, 3) := dk_132 6 1 (dk_at dksX5_near_3 18 rfl rfl)
theorem dX5_near_93 : decode cX5_near 93 = .ok (.goto (-43), 3) := dk_167 255 213 (dk_at dksX5_near_3 21 rfl rfl)
theorem dX5_near_96 : decode cX5_near 96 = .ok (.aload_n 0, 1) := dk_42 (dk_at dksX5_near_4 0 rfl rfl)
theorem dX5_near_97 : decode cX5_near 97 = .ok (.iload 4, 2) := dk_21 4 (dk_at dksX5_near_4 1 rfl rfl)
theorem dX5_near_99 : decode cX5_near 99 = .ok (.iconst 0, 1) := dk_3 (dk_at dksX5_near_4 3 rfl rfl)
theorem dX5_near_100 : decode cX5_near 100 = .ok (.invokevirtual 92, 3) := dk_182 0 92 (dk_at dksX5_near_4 4 rfl rfl)
theorem dX5_near_103 : decode cX5_near 103 = .ok (.ireturn, 1) := dk_172 (dk_at dksX5_near_4 7 rfl rfl)
def dkwX5_farFrom_5 : List UInt8 := [167, 0, 5, 21, 7, 172]
abbrev dktX5_farFrom_5 : List UInt8 := dkwX5_farFrom_5 ++ []
def dkwX5_farFrom_4 : List UInt8 := [161, 0, 15, 21, 5, 21, 7, 161, 0, 8, 21, 5, 167, 0, 17, 21, 6, 21, 7, 161, 0, 8, 21, 6]
abbrev dktX5_farFrom_4 : List UInt8 := dkwX5_farFrom_4 ++ dktX5_farFrom_5
def dkwX5_farFrom_3 : List UInt8 := [21, 5, 21, 5, 104, 21, 6, 21, 6, 104, 96, 21, 7, 21, 7, 104, 96, 172, 21, 5, 21, 6]
abbrev dktX5_farFrom_3 : List UInt8 := dkwX5_farFrom_3 ++ dktX5_farFrom_4
def dkwX5_farFrom_2 : List UInt8 := [160, 0, 12, 21, 5, 21, 6, 96, 21, 7, 96, 172, 42, 180, 0, 7, 8, 46, 16, 115, 160, 0, 21]
abbrev dktX5_farFrom_2 : List UInt8 := dkwX5_farFrom_2 ++ dktX5_farFrom_3
def dkwX5_farFrom_1 : List UInt8 := [54, 6, 42, 27, 6, 182, 0, 92, 21, 4, 100, 184, 0, 103, 54, 7, 42, 180, 0, 7, 8, 46, 16, 109]
abbrev dktX5_farFrom_1 : List UInt8 := dkwX5_farFrom_1 ++ dktX5_farFrom_2
def dkwX5_farFrom_0 : List UInt8 := [42, 27, 4, 182, 0, 92, 28, 100, 184, 0, 103, 54, 5, 42, 27, 5, 182, 0, 92, 29, 100, 184, 0, 103]
abbrev dktX5_farFrom_0 : List UInt8 := dkwX5_farFrom_0 ++ dktX5_farFrom_1
theorem dksX5_farFrom_0 : cX5_farFrom.data.toList.drop 0 = dktX5_farFrom_0 := by decide +kernel
theorem dksX5_farFrom_1 : cX5_farFrom.data.toList.drop 24 = dktX5_farFrom_1 := dk_seg dksX5_farFrom_0 24 rfl rfl
theorem dksX5_farFrom_2 : cX5_farFrom.data.toList.drop 48 = dktX5_farFrom_2 := dk_seg dksX5_farFrom_1 24 rfl rfl
theorem dksX5_farFrom_3 : cX5_farFrom.data.toList.drop 71 = dktX5_farFrom_3 := dk_seg dksX5_farFrom_2 23 rfl rfl
theorem dksX5_farFrom_4 : cX5_farFrom.data.toList.drop 93 = dktX5_farFrom_4 := dk_seg dksX5_farFrom_3 22 rfl rfl
theorem dksX5_farFrom_5 : cX5_farFrom.data.toList.drop 117 = dktX5_farFrom_5 := dk_seg dksX5_farFrom_4 24 rfl rfl
theorem dX5_farFrom_0 : decode cX5_farFrom 0 = .ok (.aload_n 0, 1) := dk_42 (dk_at dksX5_farFrom_0 0 rfl rfl)
theorem dX5_farFrom_1 : decode cX5_farFrom 1 = .ok (.iload_n 1, 1) := dk_27 (dk_at dksX5_farFrom_0 1 rfl rfl)
theorem dX5_farFrom_2 : decode cX5_farFrom 2 = .ok (.iconst 1, 1) := dk_4 (dk_at dksX5_farFrom_0 2 rfl rfl)
theorem dX5_farFrom_3 : decode cX5_farFrom 3 = .ok (.invokevirtual 92, 3) := dk_182 0 92 (dk_at dksX5_farFrom_0 3 rfl rfl)
theorem dX5_farFrom_6 : decode cX5_farFrom 6 = .ok (.iload_n 2, 1) := dk_28 (dk_at dksX5_farFrom_0 6 rfl rfl)
theorem dX5_farFrom_7 : decode cX5_farFrom 7 = .ok (.isub, 1) := dk_100 (dk_at dksX5_farFrom_0 7 rfl rfl)
theorem dX5_farFrom_8 : decode cX5_farFrom 8 = .ok (.invokestatic 103, 3) := dk_184 0 103 (dk_at dksX5_farFrom_0 8 rfl rfl)
theorem dX5_farFrom_11 : decode cX5_farFrom 11 = .ok (.istore 5, 2) := dk_54 5 (dk_at dksX5_farFrom_0 11 rfl rfl)
theorem dX5_farFrom_13 : decode cX5_farFrom 13 = .ok (.aload_n 0, 1) := dk_42 (dk_at dksX5_farFrom_0 13 rfl rfl)
theorem dX5_farFrom_14 : decode cX5_farFrom 14 = .ok (.iload_n 1, 1) := dk_27 (dk_at dksX5_farFrom_0 14 rfl rfl)
theorem dX5_farFrom_15 : decode cX5_farFrom 15 = .ok (.iconst 2, 1) := dk_5 (dk_at dksX5_farFrom_0 15 rfl rfl)
theorem dX5_farFrom_16 : decode cX5_farFrom 16 = .ok (.invokevirtual 92, 3) := dk_182 0 92 (dk_at dksX5_farFrom_0 16 rfl rfl)
theorem dX5_farFrom_19 : decode cX5_farFrom 19 = .ok (.iload_n 3, 1) := dk_29 (dk_at dksX5_farFrom_0 19 rfl rfl)
theorem dX5_farFrom_20 : decode cX5_farFrom 20 = .ok (.isub, 1) := dk_100 (dk_at dksX5_farFrom_0 20 rfl rfl)
theorem dX5_farFrom_21 : decode cX5_farFrom 21 = .ok (.invokestatic 103, 3) := dk_184 0 103 (dk_at dksX5_farFrom_0 21 rfl rfl)
theorem dX5_farFrom_24 : decode cX5_farFrom 24 = .ok (.istore 6, 2) := dk_54 6 (dk_at dksX5_farFrom_1 0 rfl rfl)
theorem dX5_farFrom_26 : decode cX5_farFrom 26 = .ok (.aload_n 0, 1) := dk_42 (dk_at dksX5_farFrom_1 2 rfl rfl)
theorem dX5_farFrom_27 : decode cX5_farFrom 27 = .ok (.iload_n 1, 1) := dk_27 (dk_at dksX5_farFrom_1 3 rfl rfl)
theorem dX5_farFrom_28 : decode cX5_farFrom 28 = .ok (.iconst 3, 1) := dk_6 (dk_at dksX5_farFrom_1 4 rfl rfl)
theorem dX5_farFrom_29 : decode cX5_farFrom 29 = .ok (.invokevirtual 92, 3) := dk_182 0 92 (dk_at dksX5_farFrom_1 5 rfl rfl)
theorem dX5_farFrom_32 : decode cX5_farFrom 32 = .ok (.iload 4, 2) := dk_21 4 (dk_at dksX5_farFrom_1 8 rfl rfl)
theorem dX5_farFrom_34 : decode cX5_farFrom 34 = .ok (.isub, 1) := dk_100 (dk_at dksX5_farFrom_1 10 rfl rfl)
theorem dX5_farFrom_35 : decode cX5_farFrom 35 = .ok (.invokestatic 103, 3) := dk_184 0 103 (dk_at dksX5_farFrom_1 11 rfl rfl)
theorem dX5_farFrom_38 : decode cX5_farFrom 38 = .ok (.istore 7, 2) := dk_54 7 (dk_at dksX5_farFrom_1 14 rfl rfl)
theorem dX5_farFrom_40 : decode cX5_farFrom 40 = .ok (.aload_n 0, 1) := dk_42 (dk_at dksX5_farFrom_1 16 rfl rfl)
theorem dX5_farFrom_41 : decode cX5_farFrom 41 = .ok (.getfield 7, 3) := dk_180 0 7 (dk_at dksX5_farFrom_1 17 rfl rfl)
theorem dX5_farFrom_44 : decode cX5_farFrom 44 = .ok (.iconst 5, 1) := dk_8 (dk_at dksX5_farFrom_1 20 rfl rfl)
theorem dX5_farFrom_45 : decode cX5_farFrom 45 = .ok (.iaload, 1) := dk_46 (dk_at dksX5_farFrom_1 21 rfl rfl)
theorem dX5_farFrom_46 : decode cX5_farFrom 46 = .ok (.bipush 109, 2) := dk_16 109 (dk_at dksX5_farFrom_1 22 rfl rfl)
theorem dX5_farFrom_48 : decode cX5_farFrom 48 = .ok (.if_icmp .ne 12, 3) := dk_160 0 12 (dk_at dksX5_farFrom_2 0 rfl rfl)
theorem dX5_farFrom_51 : decode cX5_farFrom 51 = .ok (.iload 5, 2) := dk_21 5 (dk_at dksX5_farFrom_2 3 rfl rfl)
theorem dX5_farFrom_53 : decode cX5_farFrom 53 = .ok (.iload 6, 2) := dk_21 6 (dk_at dksX5_farFrom_2 5 rfl rfl)
theorem dX5_farFrom_55 : decode cX5_farFrom 55 = .ok (.iadd, 1) := dk_96 (dk_at dksX5_farFrom_2 7 rfl rfl)
theorem dX5_farFrom_56 : decode cX5_farFrom 56 = .ok (.iload 7, 2) := dk_21 7 (dk_at dksX5_farFrom_2 8 rfl rfl)
theorem dX5_farFrom_58 : decode cX5_farFrom 58 = .ok (.iadd, 1) := dk_96 (dk_at dksX5_farFrom_2 10 rfl rfl)
theorem dX5_farFrom_59 : decode cX5_farFrom 59 = .ok (.ireturn, 1) := dk_172 (dk_at dksX5_farFrom_2 11 rfl rfl)
theorem dX5_farFrom_60 : decode cX5_farFrom 60 = .ok (.aload_n 0, 1) := dk_42 (dk_at dksX5_farFrom_2 12 rfl rfl)
theorem dX5_farFrom_61 : decode cX5_farFrom 61 = .ok (.getfield 7, 3) := dk_180 0 7 (dk_at dksX5_farFrom_2 13 rfl rfl)
theorem dX5_farFrom_64 : decode cX5_farFrom 64 = .ok (.iconst 5, 1) := dk_8 (dk_at dksX5_farFrom_2 16 rfl rfl)
theorem dX5_farFrom_65 : decode cX5_farFrom 65 = .ok (.iaload, 1) := dk_46 (dk_at dksX5_farFrom_2 17 rfl rfl)
theorem dX5_farFrom_66 : decode cX5_farFrom 66 = .ok (.bipush 115, 2) := dk_16 115 (dk_at dksX5_farFrom_2 18 rfl rfl)
theorem dX5_farFrom_68 : decode cX5_farFrom 68 = .ok (.if_icmp .ne 21, 3) := dk_160 0 21 (dk_at dksX5_farFrom_2 20 rfl rfl)
theorem dX5_farFrom_71 : decode cX5_farFrom 71 = .ok (.iload 5, 2) := dk_21 5 (dk_at dksX5_farFrom_3 0 rfl rfl)
theorem dX5_farFrom_73 : decode cX5_farFrom 73 = .ok (.iload 5, 2) := dk_21 5 (dk_at dksX5_farFrom_3 2 rfl rfl)
theorem dX5_farFrom_75 : decode cX5_farFrom 75 = .ok (.imul, 1) := dk_104 (dk_at dksX5_farFrom_3 4 rfl rfl)
theorem dX5_farFrom_76 : decode cX5_farFrom 76 = .ok (.iload 6, 2) := dk_21 6 (dk_at dksX5_farFrom_3 5 rfl rfl)
theorem dX5_farFrom_78 : decode cX5_farFrom 78 = .ok (.iload 6, 2) := dk_21 6 (dk_at dksX5_farFrom_3 7 rfl rfl)
theorem dX5_farFrom_80 : decode cX5_farFrom 80 = .ok (.imul, 1) := dk_104 (dk_at dksX5_farFrom_3 9 rfl rfl)
theorem dX5_farFrom_81 : decode cX5_farFrom 81 = .ok (.iadd, 1) := dk_96 (dk_at dksX5_farFrom_3 10 rfl rfl)
theorem dX5_farFrom_82 : decode cX5_farFrom 82 = .ok (.iload 7, 2) := dk_21 7 (dk_at dksX5_farFrom_3 11 rfl rfl)
theorem dX5_farFrom_84 : decode cX5_farFrom 84 = .ok (.iload 7, 2) := dk_21 7 (dk_at dksX5_farFrom_3 13 rfl rfl)
theorem dX5_farFrom_86 : decode cX5_farFrom 86 = .ok (.imul, 1) := dk_104 (dk_at dksX5_farFrom_3 15 rfl rfl)
theorem dX5_farFrom_87 : decode cX5_farFrom 87 = .ok (.iadd, 1) := dk_96 (dk_at dksX5_farFrom_3 16 rfl rfl)
theorem dX5_farFrom_88 : decode cX5_farFrom 88 = .ok (.ireturn, 1) := dk_172 (dk_at dksX5_farFrom_3 17 rfl rfl)
theorem dX5_farFrom_89 : decode cX5_farFrom 89 = .ok (.iload 5, 2) := dk_21 5 (dk_at dksX5_farFrom_3 18 rfl rfl)
theorem dX5_farFrom_91 : decode cX5_farFrom 91 = .ok (.iload 6, 2) := dk_21 6 (dk_at dksX5_farFrom_3 20 rfl rfl)
theorem dX5_farFrom_93 : decode cX5_farFrom 93 = .ok (.if_icmp .lt 15, 3) := dk_161 0 15 (dk_at dksX5_farFrom_4 0 rfl rfl)
theorem dX5_farFrom_96 : decode cX5_farFrom 96 = .ok (.iload 5, 2) := dk_21 5 (dk_at dksX5_farFrom_4 3 rfl rfl)
theorem dX5_farFrom_98 : decode cX5_farFrom 98 = .ok (.iload 7, 2) := dk_21 7 (dk_at dksX5_farFrom_4 5 rfl rfl)
theorem dX5_farFrom_100 : decode cX5_farFrom 100 = .ok (.if_icmp .lt 8, 3) := dk_161 0 8 (dk_at dksX5_farFrom_4 7 rfl rfl)
theorem dX5_farFrom_103 : decode cX5_farFrom 103 = .ok (.iload 5, 2) := dk_21 5 (dk_at dksX5_farFrom_4 10 rfl rfl)
theorem dX5_farFrom_105 : decode cX5_farFrom 105 = .ok (.goto 17, 3) := dk_167 0 17 (dk_at dksX5_farFrom_4 12 rfl rfl)
theorem dX5_farFrom_108 : decode cX5_farFrom 108 = .ok (.iload 6, 2) := dk_21 6 (dk_at dksX5_farFrom_4 15 rfl rfl)
theorem dX5_farFrom_110 : decode cX5_farFrom 110 = .ok (.iload 7, 2) := dk_21 7 (dk_at dksX5_farFrom_4 17 rfl rfl)
theorem dX5_farFrom_112 : decode cX5_farFrom 112 = .ok (.if_icmp .lt 8, 3) := dk_161 0 8 (dk_at dksX5_farFrom_4 19 rfl rfl)
theorem dX5_farFrom_115 : decode cX5_farFrom 115 = .ok (.iload 6, 2) := dk_21 6 (dk_at dksX5_farFrom_4 22 rfl rfl)
theorem dX5_farFrom_117 : decode cX5_farFrom 117 = .ok (.goto 5, 3) := dk_167 0 5 (dk_at dksX5_farFrom_5 0 rfl rfl)
theorem dX5_farFrom_120 : decode cX5_farFrom 120 = .ok (.iload 7, 2) := dk_21 7 (dk_at dksX5_farFrom_5 3 rfl rfl)
theorem dX5_farFrom_122 : decode cX5_farFrom 122 = .ok (.ireturn, 1) := dk_172 (dk_at dksX5_farFrom_5 5 rfl rfl)
def dkwX5_nearestByLooking_0 : List UInt8 := [42, 27, 28, 29, 182, 0, 239, 172]
abbrev dktX5_nearestByLooking_0 : List UInt8 := dkwX5_nearestByLooking_0 ++ []
theorem dksX5_nearestByLooking_0 : cX5_nearestByLooking.data.toList.drop 0 = dktX5_nearestByLooking_0 := by decide +kernel
theorem dX5_nearestByLooking_0 : decode cX5_nearestByLooking 0 = .ok (.aload_n 0, 1) := dk_42 (dk_at dksX5_nearestByLooking_0 0 rfl rfl)
theorem dX5_nearestByLooking_1 : decode cX5_nearestByLooking 1 = .ok (.iload_n 1, 1) := dk_27 (dk_at dksX5_nearestByLooking_0 1 rfl rfl)
theorem dX5_nearestByLooking_2 : decode cX5_nearestByLooking 2 = .ok (.iload_n 2, 1) := dk_28 (dk_at dksX5_nearestByLooking_0 2 rfl rfl)
theorem dX5_nearestByLooking_3 : decode cX5_nearestByLooking 3 = .ok (.iload_n 3, 1) := dk_29 (dk_at dksX5_nearestByLooking_0 3 rfl rfl)
theorem dX5_nearestByLooking_4 : decode cX5_nearestByLooking 4 = .ok (.invokevirtual 239, 3) := dk_182 0 239 (dk_at dksX5_nearestByLooking_0 4 rfl rfl)
theorem dX5_nearestByLooking_7 : decode cX5_nearestByLooking 7 = .ok (.ireturn, 1) := dk_172 (dk_at dksX5_nearestByLooking_0 7 rfl rfl)
theorem dX5_closestDistance_0 : decode cX5_closestDistance 0 = .ok (.aload_n 0, 1) := by decide +kernel
theorem dX5_closestDistance_1 : decode cX5_closestDistance 1 = .ok (.invokevirtual 243, 3) := by decide +kernel
theorem dX5_closestDistance_4 : decode cX5_closestDistance 4 = .ok (.ireturn, 1) := by decide +kernel
def dkwX5_closest_3 : List UInt8 := [182, 0, 106, 167, 0, 4, 27, 60, 132, 3, 1, 167, 255, 215, 132, 2, 1, 167, 255, 197, 27, 172]
abbrev dktX5_closest_3 : List UInt8 := dkwX5_closest_3 ++ []
def dkwX5_closest_2 : List UInt8 := [184, 0, 85, 29, 184, 0, 85, 182, 0, 106, 27, 162, 0, 18, 42, 28, 184, 0, 85, 29, 184, 0, 85]
abbrev dktX5_closest_2 : List UInt8 := dkwX5_closest_2 ++ dktX5_closest_3
def dkwX5_closest_1 : List UInt8 := [18, 235, 60, 3, 61, 28, 42, 180, 0, 7, 3, 46, 162, 0, 55, 3, 62, 29, 28, 162, 0, 42, 42, 28]
abbrev dktX5_closest_1 : List UInt8 := dkwX5_closest_1 ++ dktX5_closest_2
def dkwX5_closest_0 : List UInt8 := [42, 42, 180, 0, 7, 3, 46, 4, 164, 0, 7, 4, 167, 0, 4, 3, 182, 0, 219, 158, 0, 5, 3, 172]
abbrev dktX5_closest_0 : List UInt8 := dkwX5_closest_0 ++ dktX5_closest_1
theorem dksX5_closest_0 : cX5_closest.data.toList.drop 0 = dktX5_closest_0 := by decide +kernel
theorem dksX5_closest_1 : cX5_closest.data.toList.drop 24 = dktX5_closest_1 := dk_seg dksX5_closest_0 24 rfl rfl
theorem dksX5_closest_2 : cX5_closest.data.toList.drop 48 = dktX5_closest_2 := dk_seg dksX5_closest_1 24 rfl rfl
theorem dksX5_closest_3 : cX5_closest.data.toList.drop 71 = dktX5_closest_3 := dk_seg dksX5_closest_2 23 rfl rfl
theorem dX5_closest_0 : decode cX5_closest 0 = .ok (.aload_n 0, 1) := dk_42 (dk_at dksX5_closest_0 0 rfl rfl)
theorem dX5_closest_1 : decode cX5_closest 1 = .ok (.aload_n 0, 1) := dk_42 (dk_at dksX5_closest_0 1 rfl rfl)
theorem dX5_closest_2 : decode cX5_closest 2 = .ok (.getfield 7, 3) := dk_180 0 7 (dk_at dksX5_closest_0 2 rfl rfl)
theorem dX5_closest_5 : decode cX5_closest 5 = .ok (.iconst 0, 1) := dk_3 (dk_at dksX5_closest_0 5 rfl rfl)
theorem dX5_closest_6 : decode cX5_closest 6 = .ok (.iaload, 1) := dk_46 (dk_at dksX5_closest_0 6 rfl rfl)
theorem dX5_closest_7 : decode cX5_closest 7 = .ok (.iconst 1, 1) := dk_4 (dk_at dksX5_closest_0 7 rfl rfl)
theorem dX5_closest_8 : decode cX5_closest 8 = .ok (.if_icmp .le 7, 3) := dk_164 0 7 (dk_at dksX5_closest_0 8 rfl rfl)
theorem dX5_closest_11 : decode cX5_closest 11 = .ok (.iconst 1, 1) := dk_4 (dk_at dksX5_closest_0 11 rfl rfl)
theorem dX5_closest_12 : decode cX5_closest 12 = .ok (.goto 4, 3) := dk_167 0 4 (dk_at dksX5_closest_0 12 rfl rfl)
theorem dX5_closest_15 : decode cX5_closest 15 = .ok (.iconst 0, 1) := dk_3 (dk_at dksX5_closest_0 15 rfl rfl)
theorem dX5_closest_16 : decode cX5_closest 16 = .ok (.invokevirtual 219, 3) := dk_182 0 219 (dk_at dksX5_closest_0 16 rfl rfl)
theorem dX5_closest_19 : decode cX5_closest 19 = .ok (.ifCond .le 5, 3) := dk_158 0 5 (dk_at dksX5_closest_0 19 rfl rfl)
theorem dX5_closest_22 : decode cX5_closest 22 = .ok (.iconst 0, 1) := dk_3 (dk_at dksX5_closest_0 22 rfl rfl)
theorem dX5_closest_23 : decode cX5_closest 23 = .ok (.ireturn, 1) := dk_172 (dk_at dksX5_closest_0 23 rfl rfl)
theorem dX5_closest_24 : decode cX5_closest 24 = .ok (.ldc 235, 2) := dk_18 235 (dk_at dksX5_closest_1 0 rfl rfl)
theorem dX5_closest_26 : decode cX5_closest 26 = .ok (.istore_n 1, 1) := dk_60 (dk_at dksX5_closest_1 2 rfl rfl)
theorem dX5_closest_27 : decode cX5_closest 27 = .ok (.iconst 0, 1) := dk_3 (dk_at dksX5_closest_1 3 rfl rfl)
theorem dX5_closest_28 : decode cX5_closest 28 = .ok (.istore_n 2, 1) := dk_61 (dk_at dksX5_closest_1 4 rfl rfl)
theorem dX5_closest_29 : decode cX5_closest 29 = .ok (.iload_n 2, 1) := dk_28 (dk_at dksX5_closest_1 5 rfl rfl)
theorem dX5_closest_30 : decode cX5_closest 30 = .ok (.aload_n 0, 1) := dk_42 (dk_at dksX5_closest_1 6 rfl rfl)
theorem dX5_closest_31 : decode cX5_closest 31 = .ok (.getfield 7, 3) := dk_180 0 7 (dk_at dksX5_closest_1 7 rfl rfl)
theorem dX5_closest_34 : decode cX5_closest 34 = .ok (.iconst 0, 1) := dk_3 (dk_at dksX5_closest_1 10 rfl rfl)
theorem dX5_closest_35 : decode cX5_closest 35 = .ok (.iaload, 1) := dk_46 (dk_at dksX5_closest_1 11 rfl rfl)
theorem dX5_closest_36 : decode cX5_closest 36 = .ok (.if_icmp .ge 55, 3) := dk_162 0 55 (dk_at dksX5_closest_1 12 rfl rfl)
theorem dX5_closest_39 : decode cX5_closest 39 = .ok (.iconst 0, 1) := dk_3 (dk_at dksX5_closest_1 15 rfl rfl)
theorem dX5_closest_40 : decode cX5_closest 40 = .ok (.istore_n 3, 1) := dk_62 (dk_at dksX5_closest_1 16 rfl rfl)
theorem dX5_closest_41 : decode cX5_closest 41 = .ok (.iload_n 3, 1) := dk_29 (dk_at dksX5_closest_1 17 rfl rfl)
theorem dX5_closest_42 : decode cX5_closest 42 = .ok (.iload_n 2, 1) := dk_28 (dk_at dksX5_closest_1 18 rfl rfl)
theorem dX5_closest_43 : decode cX5_closest 43 = .ok (.if_icmp .ge 42, 3) := dk_162 0 42 (dk_at dksX5_closest_1 19 rfl rfl)
theorem dX5_closest_46 : decode cX5_closest 46 = .ok (.aload_n 0, 1) := dk_42 (dk_at dksX5_closest_1 22 rfl rfl)
theorem dX5_closest_47 : decode cX5_closest 47 = .ok (.iload_n 2, 1) := dk_28 (dk_at dksX5_closest_1 23 rfl rfl)
theorem dX5_closest_48 : decode cX5_closest 48 = .ok (.invokestatic 85, 3) := dk_184 0 85 (dk_at dksX5_closest_2 0 rfl rfl)
theorem dX5_closest_51 : decode cX5_closest 51 = .ok (.iload_n 3, 1) := dk_29 (dk_at dksX5_closest_2 3 rfl rfl)
theorem dX5_closest_52 : decode cX5_closest 52 = .ok (.invokestatic 85, 3) := dk_184 0 85 (dk_at dksX5_closest_2 4 rfl rfl)
theorem dX5_closest_55 : decode cX5_closest 55 = .ok (.invokevirtual 106, 3) := dk_182 0 106 (dk_at dksX5_closest_2 7 rfl rfl)
theorem dX5_closest_58 : decode cX5_closest 58 = .ok (.iload_n 1, 1) := dk_27 (dk_at dksX5_closest_2 10 rfl rfl)
theorem dX5_closest_59 : decode cX5_closest 59 = .ok (.if_icmp .ge 18, 3) := dk_162 0 18 (dk_at dksX5_closest_2 11 rfl rfl)
theorem dX5_closest_62 : decode cX5_closest 62 = .ok (.aload_n 0, 1) := dk_42 (dk_at dksX5_closest_2 14 rfl rfl)
theorem dX5_closest_63 : decode cX5_closest 63 = .ok (.iload_n 2, 1) := dk_28 (dk_at dksX5_closest_2 15 rfl rfl)
theorem dX5_closest_64 : decode cX5_closest 64 = .ok (.invokestatic 85, 3) := dk_184 0 85 (dk_at dksX5_closest_2 16 rfl rfl)
theorem dX5_closest_67 : decode cX5_closest 67 = .ok (.iload_n 3, 1) := dk_29 (dk_at dksX5_closest_2 19 rfl rfl)
theorem dX5_closest_68 : decode cX5_closest 68 = .ok (.invokestatic 85, 3) := dk_184 0 85 (dk_at dksX5_closest_2 20 rfl rfl)
theorem dX5_closest_71 : decode cX5_closest 71 = .ok (.invokevirtual 106, 3) := dk_182 0 106 (dk_at dksX5_closest_3 0 rfl rfl)
theorem dX5_closest_74 : decode cX5_closest 74 = .ok (.goto 4, 3) := dk_167 0 4 (dk_at dksX5_closest_3 3 rfl rfl)
theorem dX5_closest_77 : decode cX5_closest 77 = .ok (.iload_n 1, 1) := dk_27 (dk_at dksX5_closest_3 6 rfl rfl)
theorem dX5_closest_78 : decode cX5_closest 78 = .ok (.istore_n 1, 1) := dk_60 (dk_at dksX5_closest_3 7 rfl rfl)
theorem dX5_closest_79 : decode cX5_closest 79 = .ok (.iinc 3 1, 3) := dk_132 3 1 (dk_at dksX5_closest_3 8 rfl rfl)
theorem dX5_closest_82 : decode cX5_closest 82 = .ok (.goto (-41), 3) := dk_167 255 215 (dk_at dksX5_closest_3 11 rfl rfl)
theorem dX5_closest_85 : decode cX5_closest 85 = .ok (.iinc 2 1, 3) := dk_132 2 1 (dk_at dksX5_closest_3 14 rfl rfl)
theorem dX5_closest_88 : decode cX5_closest 88 = .ok (.goto (-59), 3) := dk_167 255 197 (dk_at dksX5_closest_3 17 rfl rfl)
theorem dX5_closest_91 : decode cX5_closest 91 = .ok (.iload_n 1, 1) := dk_27 (dk_at dksX5_closest_3 20 rfl rfl)
theorem dX5_closest_92 : decode cX5_closest 92 = .ok (.ireturn, 1) := dk_172 (dk_at dksX5_closest_3 21 rfl rfl)
theorem dX5_closestDistanceBySorting_0 : decode cX5_closestDistanceBySorting 0 = .ok (.aload_n 0, 1) := by decide +kernel
theorem dX5_closestDistanceBySorting_1 : decode cX5_closestDistanceBySorting 1 = .ok (.invokevirtual 243, 3) := by decide +kernel
theorem dX5_closestDistanceBySorting_4 : decode cX5_closestDistanceBySorting 4 = .ok (.ireturn, 1) := by decide +kernel
def dkwX5_bestReward_0 : List UInt8 := [42, 42, 182, 0, 253, 182, 0, 216, 172]
abbrev dktX5_bestReward_0 : List UInt8 := dkwX5_bestReward_0 ++ []
theorem dksX5_bestReward_0 : cX5_bestReward.data.toList.drop 0 = dktX5_bestReward_0 := by decide +kernel
theorem dX5_bestReward_0 : decode cX5_bestReward 0 = .ok (.aload_n 0, 1) := dk_42 (dk_at dksX5_bestReward_0 0 rfl rfl)
theorem dX5_bestReward_1 : decode cX5_bestReward 1 = .ok (.aload_n 0, 1) := dk_42 (dk_at dksX5_bestReward_0 1 rfl rfl)
theorem dX5_bestReward_2 : decode cX5_bestReward 2 = .ok (.invokevirtual 253, 3) := dk_182 0 253 (dk_at dksX5_bestReward_0 2 rfl rfl)
theorem dX5_bestReward_5 : decode cX5_bestReward 5 = .ok (.invokevirtual 216, 3) := dk_182 0 216 (dk_at dksX5_bestReward_0 5 rfl rfl)
theorem dX5_bestReward_8 : decode cX5_bestReward 8 = .ok (.ireturn, 1) := dk_172 (dk_at dksX5_bestReward_0 8 rfl rfl)
def dkwX5_rewards_0 : List UInt8 := [42, 182, 0, 189, 18, 246, 96, 4, 100, 18, 246, 108, 172]
abbrev dktX5_rewards_0 : List UInt8 := dkwX5_rewards_0 ++ []
theorem dksX5_rewards_0 : cX5_rewards.data.toList.drop 0 = dktX5_rewards_0 := by decide +kernel
theorem dX5_rewards_0 : decode cX5_rewards 0 = .ok (.aload_n 0, 1) := dk_42 (dk_at dksX5_rewards_0 0 rfl rfl)
theorem dX5_rewards_1 : decode cX5_rewards 1 = .ok (.invokevirtual 189, 3) := dk_182 0 189 (dk_at dksX5_rewards_0 1 rfl rfl)
theorem dX5_rewards_4 : decode cX5_rewards 4 = .ok (.ldc 246, 2) := dk_18 246 (dk_at dksX5_rewards_0 4 rfl rfl)
theorem dX5_rewards_6 : decode cX5_rewards 6 = .ok (.iadd, 1) := dk_96 (dk_at dksX5_rewards_0 6 rfl rfl)
theorem dX5_rewards_7 : decode cX5_rewards 7 = .ok (.iconst 1, 1) := dk_4 (dk_at dksX5_rewards_0 7 rfl rfl)
theorem dX5_rewards_8 : decode cX5_rewards 8 = .ok (.isub, 1) := dk_100 (dk_at dksX5_rewards_0 8 rfl rfl)
theorem dX5_rewards_9 : decode cX5_rewards 9 = .ok (.ldc 246, 2) := dk_18 246 (dk_at dksX5_rewards_0 9 rfl rfl)
theorem dX5_rewards_11 : decode cX5_rewards 11 = .ok (.idiv, 1) := dk_108 (dk_at dksX5_rewards_0 11 rfl rfl)
theorem dX5_rewards_12 : decode cX5_rewards 12 = .ok (.ireturn, 1) := dk_172 (dk_at dksX5_rewards_0 12 rfl rfl)
def dkwX5_bestRewardByTrying_0 : List UInt8 := [42, 42, 182, 0, 253, 182, 0, 216, 172]
abbrev dktX5_bestRewardByTrying_0 : List UInt8 := dkwX5_bestRewardByTrying_0 ++ []
theorem dksX5_bestRewardByTrying_0 : cX5_bestRewardByTrying.data.toList.drop 0 = dktX5_bestRewardByTrying_0 := by decide +kernel
theorem dX5_bestRewardByTrying_0 : decode cX5_bestRewardByTrying 0 = .ok (.aload_n 0, 1) := dk_42 (dk_at dksX5_bestRewardByTrying_0 0 rfl rfl)
theorem dX5_bestRewardByTrying_1 : decode cX5_bestRewardByTrying 1 = .ok (.aload_n 0, 1) := dk_42 (dk_at dksX5_bestRewardByTrying_0 1 rfl rfl)
theorem dX5_bestRewardByTrying_2 : decode cX5_bestRewardByTrying 2 = .ok (.invokevirtual 253, 3) := dk_182 0 253 (dk_at dksX5_bestRewardByTrying_0 2 rfl rfl)
theorem dX5_bestRewardByTrying_5 : decode cX5_bestRewardByTrying 5 = .ok (.invokevirtual 216, 3) := dk_182 0 216 (dk_at dksX5_bestRewardByTrying_0 5 rfl rfl)
theorem dX5_bestRewardByTrying_8 : decode cX5_bestRewardByTrying 8 = .ok (.ireturn, 1) := dk_172 (dk_at dksX5_bestRewardByTrying_0 8 rfl rfl)
def dkwX5_bestDifference_0 : List UInt8 := [42, 18, 246, 42, 182, 0, 253, 104, 42, 182, 0, 189, 100, 182, 0, 216, 172]
abbrev dktX5_bestDifference_0 : List UInt8 := dkwX5_bestDifference_0 ++ []
theorem dksX5_bestDifference_0 : cX5_bestDifference.data.toList.drop 0 = dktX5_bestDifference_0 := by decide +kernel
theorem dX5_bestDifference_0 : decode cX5_bestDifference 0 = .ok (.aload_n 0, 1) := dk_42 (dk_at dksX5_bestDifference_0 0 rfl rfl)
theorem dX5_bestDifference_1 : decode cX5_bestDifference 1 = .ok (.ldc 246, 2) := dk_18 246 (dk_at dksX5_bestDifference_0 1 rfl rfl)
theorem dX5_bestDifference_3 : decode cX5_bestDifference 3 = .ok (.aload_n 0, 1) := dk_42 (dk_at dksX5_bestDifference_0 3 rfl rfl)
theorem dX5_bestDifference_4 : decode cX5_bestDifference 4 = .ok (.invokevirtual 253, 3) := dk_182 0 253 (dk_at dksX5_bestDifference_0 4 rfl rfl)
theorem dX5_bestDifference_7 : decode cX5_bestDifference 7 = .ok (.imul, 1) := dk_104 (dk_at dksX5_bestDifference_0 7 rfl rfl)
theorem dX5_bestDifference_8 : decode cX5_bestDifference 8 = .ok (.aload_n 0, 1) := dk_42 (dk_at dksX5_bestDifference_0 8 rfl rfl)
theorem dX5_bestDifference_9 : decode cX5_bestDifference 9 = .ok (.invokevirtual 189, 3) := dk_182 0 189 (dk_at dksX5_bestDifference_0 9 rfl rfl)
theorem dX5_bestDifference_12 : decode cX5_bestDifference 12 = .ok (.isub, 1) := dk_100 (dk_at dksX5_bestDifference_0 12 rfl rfl)
theorem dX5_bestDifference_13 : decode cX5_bestDifference 13 = .ok (.invokevirtual 216, 3) := dk_182 0 216 (dk_at dksX5_bestDifference_0 13 rfl rfl)
theorem dX5_bestDifference_16 : decode cX5_bestDifference 16 = .ok (.ireturn, 1) := dk_172 (dk_at dksX5_bestDifference_0 16 rfl rfl)
def dkwX5_settlementFor_2 : List UInt8 := [167, 0, 9, 42, 29, 3, 182, 0, 92, 172]
abbrev dktX5_settlementFor_2 : List UInt8 := dkwX5_settlementFor_2 ++ []
def dkwX5_settlementFor_1 : List UInt8 := [182, 0, 189, 61, 42, 42, 27, 182, 0, 146, 182, 0, 192, 62, 29, 156, 0, 11, 42, 4, 182, 0, 130]
abbrev dktX5_settlementFor_1 : List UInt8 := dkwX5_settlementFor_1 ++ dktX5_settlementFor_2
def dkwX5_settlementFor_0 : List UInt8 := [42, 42, 27, 182, 0, 146, 155, 0, 7, 4, 167, 0, 4, 3, 182, 0, 219, 158, 0, 5, 3, 172, 42]
abbrev dktX5_settlementFor_0 : List UInt8 := dkwX5_settlementFor_0 ++ dktX5_settlementFor_1
theorem dksX5_settlementFor_0 : cX5_settlementFor.data.toList.drop 0 = dktX5_settlementFor_0 := by decide +kernel
theorem dksX5_settlementFor_1 : cX5_settlementFor.data.toList.drop 23 = dktX5_settlementFor_1 := dk_seg dksX5_settlementFor_0 23 rfl rfl
theorem dksX5_settlementFor_2 : cX5_settlementFor.data.toList.drop 46 = dktX5_settlementFor_2 := dk_seg dksX5_settlementFor_1 23 rfl rfl
theorem dX5_settlementFor_0 : decode cX5_settlementFor 0 = .ok (.aload_n 0, 1) := dk_42 (dk_at dksX5_settlementFor_0 0 rfl rfl)
theorem dX5_settlementFor_1 : decode cX5_settlementFor 1 = .ok (.aload_n 0, 1) := dk_42 (dk_at dksX5_settlementFor_0 1 rfl rfl)
theorem dX5_settlementFor_2 : decode cX5_settlementFor 2 = .ok (.iload_n 1, 1) := dk_27 (dk_at dksX5_settlementFor_0 2 rfl rfl)
theorem dX5_settlementFor_3 : decode cX5_settlementFor 3 = .ok (.invokevirtual 146, 3) := dk_182 0 146 (dk_at dksX5_settlementFor_0 3 rfl rfl)
theorem dX5_settlementFor_6 : decode cX5_settlementFor 6 = .ok (.ifCond .lt 7, 3) := dk_155 0 7 (dk_at dksX5_settlementFor_0 6 rfl rfl)
theorem dX5_settlementFor_9 : decode cX5_settlementFor 9 = .ok (.iconst 1, 1) := dk_4 (dk_at dksX5_settlementFor_0 9 rfl rfl)
theorem dX5_settlementFor_10 : decode cX5_settlementFor 10 = .ok (.goto 4, 3) := dk_167 0 4 (dk_at dksX5_settlementFor_0 10 rfl rfl)
theorem dX5_settlementFor_13 : decode cX5_settlementFor 13 = .ok (.iconst 0, 1) := dk_3 (dk_at dksX5_settlementFor_0 13 rfl rfl)
theorem dX5_settlementFor_14 : decode cX5_settlementFor 14 = .ok (.invokevirtual 219, 3) := dk_182 0 219 (dk_at dksX5_settlementFor_0 14 rfl rfl)
theorem dX5_settlementFor_17 : decode cX5_settlementFor 17 = .ok (.ifCond .le 5, 3) := dk_158 0 5 (dk_at dksX5_settlementFor_0 17 rfl rfl)
theorem dX5_settlementFor_20 : decode cX5_settlementFor 20 = .ok (.iconst 0, 1) := dk_3 (dk_at dksX5_settlementFor_0 20 rfl rfl)
theorem dX5_settlementFor_21 : decode cX5_settlementFor 21 = .ok (.ireturn, 1) := dk_172 (dk_at dksX5_settlementFor_0 21 rfl rfl)
theorem dX5_settlementFor_22 : decode cX5_settlementFor 22 = .ok (.aload_n 0, 1) := dk_42 (dk_at dksX5_settlementFor_0 22 rfl rfl)
theorem dX5_settlementFor_23 : decode cX5_settlementFor 23 = .ok (.invokevirtual 189, 3) := dk_182 0 189 (dk_at dksX5_settlementFor_1 0 rfl rfl)
theorem dX5_settlementFor_26 : decode cX5_settlementFor 26 = .ok (.istore_n 2, 1) := dk_61 (dk_at dksX5_settlementFor_1 3 rfl rfl)
theorem dX5_settlementFor_27 : decode cX5_settlementFor 27 = .ok (.aload_n 0, 1) := dk_42 (dk_at dksX5_settlementFor_1 4 rfl rfl)
theorem dX5_settlementFor_28 : decode cX5_settlementFor 28 = .ok (.aload_n 0, 1) := dk_42 (dk_at dksX5_settlementFor_1 5 rfl rfl)
theorem dX5_settlementFor_29 : decode cX5_settlementFor 29 = .ok (.iload_n 1, 1) := dk_27 (dk_at dksX5_settlementFor_1 6 rfl rfl)
theorem dX5_settlementFor_30 : decode cX5_settlementFor 30 = .ok (.invokevirtual 146, 3) := dk_182 0 146 (dk_at dksX5_settlementFor_1 7 rfl rfl)
theorem dX5_settlementFor_33 : decode cX5_settlementFor 33 = .ok (.invokevirtual 192, 3) := dk_182 0 192 (dk_at dksX5_settlementFor_1 10 rfl rfl)
theorem dX5_settlementFor_36 : decode cX5_settlementFor 36 = .ok (.istore_n 3, 1) := dk_62 (dk_at dksX5_settlementFor_1 13 rfl rfl)
theorem dX5_settlementFor_37 : decode cX5_settlementFor 37 = .ok (.iload_n 3, 1) := dk_29 (dk_at dksX5_settlementFor_1 14 rfl rfl)
theorem dX5_settlementFor_38 : decode cX5_settlementFor 38 = .ok (.ifCond .ge 11, 3) := dk_156 0 11 (dk_at dksX5_settlementFor_1 15 rfl rfl)
theorem dX5_settlementFor_41 : decode cX5_settlementFor 41 = .ok (.aload_n 0, 1) := dk_42 (dk_at dksX5_settlementFor_1 18 rfl rfl)
theorem dX5_settlementFor_42 : decode cX5_settlementFor 42 = .ok (.iconst 1, 1) := dk_4 (dk_at dksX5_settlementFor_1 19 rfl rfl)
theorem dX5_settlementFor_43 : decode cX5_settlementFor 43 = .ok (.invokevirtual 130, 3) := dk_182 0 130 (dk_at dksX5_settlementFor_1 20 rfl rfl)
theorem dX5_settlementFor_46 : decode cX5_settlementFor 46 = .ok (.goto 9, 3) := dk_167 0 9 (dk_at dksX5_settlementFor_2 0 rfl rfl)
theorem dX5_settlementFor_49 : decode cX5_settlementFor 49 = .ok (.aload_n 0, 1) := dk_42 (dk_at dksX5_settlementFor_2 3 rfl rfl)
theorem dX5_settlementFor_50 : decode cX5_settlementFor 50 = .ok (.iload_n 3, 1) := dk_29 (dk_at dksX5_settlementFor_2 4 rfl rfl)
theorem dX5_settlementFor_51 : decode cX5_settlementFor 51 = .ok (.iconst 0, 1) := dk_3 (dk_at dksX5_settlementFor_2 5 rfl rfl)
theorem dX5_settlementFor_52 : decode cX5_settlementFor 52 = .ok (.invokevirtual 92, 3) := dk_182 0 92 (dk_at dksX5_settlementFor_2 6 rfl rfl)
theorem dX5_settlementFor_55 : decode cX5_settlementFor 55 = .ok (.ireturn, 1) := dk_172 (dk_at dksX5_settlementFor_2 9 rfl rfl)
def dkwX5_paletteError_0 : List UInt8 := [42, 27, 182, 1, 12, 172]
abbrev dktX5_paletteError_0 : List UInt8 := dkwX5_paletteError_0 ++ []
theorem dksX5_paletteError_0 : cX5_paletteError.data.toList.drop 0 = dktX5_paletteError_0 := by decide +kernel
theorem dX5_paletteError_0 : decode cX5_paletteError 0 = .ok (.aload_n 0, 1) := dk_42 (dk_at dksX5_paletteError_0 0 rfl rfl)
theorem dX5_paletteError_1 : decode cX5_paletteError 1 = .ok (.iload_n 1, 1) := dk_27 (dk_at dksX5_paletteError_0 1 rfl rfl)
theorem dX5_paletteError_2 : decode cX5_paletteError 2 = .ok (.invokevirtual 268, 3) := dk_182 1 12 (dk_at dksX5_paletteError_0 2 rfl rfl)
theorem dX5_paletteError_5 : decode cX5_paletteError 5 = .ok (.ireturn, 1) := dk_172 (dk_at dksX5_paletteError_0 5 rfl rfl)
def dkwX5_errorOf_1 : List UInt8 := [27, 182, 1, 9, 182, 1, 3, 172]
abbrev dktX5_errorOf_1 : List UInt8 := dkwX5_errorOf_1 ++ []
def dkwX5_errorOf_0 : List UInt8 := [42, 27, 4, 42, 180, 0, 7, 3, 46, 184, 0, 112, 182, 0, 219, 158, 0, 7, 3, 167, 0, 12, 42, 42]
abbrev dktX5_errorOf_0 : List UInt8 := dkwX5_errorOf_0 ++ dktX5_errorOf_1
theorem dksX5_errorOf_0 : cX5_errorOf.data.toList.drop 0 = dktX5_errorOf_0 := by decide +kernel
theorem dksX5_errorOf_1 : cX5_errorOf.data.toList.drop 24 = dktX5_errorOf_1 := dk_seg dksX5_errorOf_0 24 rfl rfl
theorem dX5_errorOf_0 : decode cX5_errorOf 0 = .ok (.aload_n 0, 1) := dk_42 (dk_at dksX5_errorOf_0 0 rfl rfl)
theorem dX5_errorOf_1 : decode cX5_errorOf 1 = .ok (.iload_n 1, 1) := dk_27 (dk_at dksX5_errorOf_0 1 rfl rfl)
theorem dX5_errorOf_2 : decode cX5_errorOf 2 = .ok (.iconst 1, 1) := dk_4 (dk_at dksX5_errorOf_0 2 rfl rfl)
theorem dX5_errorOf_3 : decode cX5_errorOf 3 = .ok (.aload_n 0, 1) := dk_42 (dk_at dksX5_errorOf_0 3 rfl rfl)
theorem dX5_errorOf_4 : decode cX5_errorOf 4 = .ok (.getfield 7, 3) := dk_180 0 7 (dk_at dksX5_errorOf_0 4 rfl rfl)
theorem dX5_errorOf_7 : decode cX5_errorOf 7 = .ok (.iconst 0, 1) := dk_3 (dk_at dksX5_errorOf_0 7 rfl rfl)
theorem dX5_errorOf_8 : decode cX5_errorOf 8 = .ok (.iaload, 1) := dk_46 (dk_at dksX5_errorOf_0 8 rfl rfl)
theorem dX5_errorOf_9 : decode cX5_errorOf 9 = .ok (.invokestatic 112, 3) := dk_184 0 112 (dk_at dksX5_errorOf_0 9 rfl rfl)
theorem dX5_errorOf_12 : decode cX5_errorOf 12 = .ok (.invokevirtual 219, 3) := dk_182 0 219 (dk_at dksX5_errorOf_0 12 rfl rfl)
theorem dX5_errorOf_15 : decode cX5_errorOf 15 = .ok (.ifCond .le 7, 3) := dk_158 0 7 (dk_at dksX5_errorOf_0 15 rfl rfl)
theorem dX5_errorOf_18 : decode cX5_errorOf 18 = .ok (.iconst 0, 1) := dk_3 (dk_at dksX5_errorOf_0 18 rfl rfl)
theorem dX5_errorOf_19 : decode cX5_errorOf 19 = .ok (.goto 12, 3) := dk_167 0 12 (dk_at dksX5_errorOf_0 19 rfl rfl)
theorem dX5_errorOf_22 : decode cX5_errorOf 22 = .ok (.aload_n 0, 1) := dk_42 (dk_at dksX5_errorOf_0 22 rfl rfl)
theorem dX5_errorOf_23 : decode cX5_errorOf 23 = .ok (.aload_n 0, 1) := dk_42 (dk_at dksX5_errorOf_0 23 rfl rfl)
theorem dX5_errorOf_24 : decode cX5_errorOf 24 = .ok (.iload_n 1, 1) := dk_27 (dk_at dksX5_errorOf_1 0 rfl rfl)
theorem dX5_errorOf_25 : decode cX5_errorOf 25 = .ok (.invokevirtual 265, 3) := dk_182 1 9 (dk_at dksX5_errorOf_1 1 rfl rfl)
theorem dX5_errorOf_28 : decode cX5_errorOf 28 = .ok (.invokevirtual 259, 3) := dk_182 1 3 (dk_at dksX5_errorOf_1 4 rfl rfl)
theorem dX5_errorOf_31 : decode cX5_errorOf 31 = .ok (.ireturn, 1) := dk_172 (dk_at dksX5_errorOf_1 7 rfl rfl)
def dkwX5_palette_3 : List UInt8 := [167, 255, 190, 28, 172]
abbrev dktX5_palette_3 : List UInt8 := dkwX5_palette_3 ++ []
def dkwX5_palette_2 : List UInt8 := [182, 1, 3, 42, 28, 182, 1, 3, 160, 0, 13, 29, 28, 184, 1, 6, 153, 0, 5, 29, 61, 132, 3, 1]
abbrev dktX5_palette_2 : List UInt8 := dkwX5_palette_2 ++ dktX5_palette_3
def dkwX5_palette_1 : List UInt8 := [167, 0, 43, 28, 153, 0, 37, 42, 29, 182, 1, 3, 42, 28, 182, 1, 3, 161, 0, 24, 42, 29]
abbrev dktX5_palette_1 : List UInt8 := dkwX5_palette_1 ++ dktX5_palette_2
def dkwX5_palette_0 : List UInt8 := [3, 61, 4, 62, 29, 4, 42, 180, 0, 7, 3, 46, 120, 162, 0, 60, 29, 184, 1, 0, 27, 159, 0, 6]
abbrev dktX5_palette_0 : List UInt8 := dkwX5_palette_0 ++ dktX5_palette_1
theorem dksX5_palette_0 : cX5_palette.data.toList.drop 0 = dktX5_palette_0 := by decide +kernel
theorem dksX5_palette_1 : cX5_palette.data.toList.drop 24 = dktX5_palette_1 := dk_seg dksX5_palette_0 24 rfl rfl
theorem dksX5_palette_2 : cX5_palette.data.toList.drop 46 = dktX5_palette_2 := dk_seg dksX5_palette_1 22 rfl rfl
theorem dksX5_palette_3 : cX5_palette.data.toList.drop 70 = dktX5_palette_3 := dk_seg dksX5_palette_2 24 rfl rfl
theorem dX5_palette_0 : decode cX5_palette 0 = .ok (.iconst 0, 1) := dk_3 (dk_at dksX5_palette_0 0 rfl rfl)
theorem dX5_palette_1 : decode cX5_palette 1 = .ok (.istore_n 2, 1) := dk_61 (dk_at dksX5_palette_0 1 rfl rfl)
theorem dX5_palette_2 : decode cX5_palette 2 = .ok (.iconst 1, 1) := dk_4 (dk_at dksX5_palette_0 2 rfl rfl)
theorem dX5_palette_3 : decode cX5_palette 3 = .ok (.istore_n 3, 1) := dk_62 (dk_at dksX5_palette_0 3 rfl rfl)
theorem dX5_palette_4 : decode cX5_palette 4 = .ok (.iload_n 3, 1) := dk_29 (dk_at dksX5_palette_0 4 rfl rfl)
theorem dX5_palette_5 : decode cX5_palette 5 = .ok (.iconst 1, 1) := dk_4 (dk_at dksX5_palette_0 5 rfl rfl)
theorem dX5_palette_6 : decode cX5_palette 6 = .ok (.aload_n 0, 1) := dk_42 (dk_at dksX5_palette_0 6 rfl rfl)
theorem dX5_palette_7 : decode cX5_palette 7 = .ok (.getfield 7, 3) := dk_180 0 7 (dk_at dksX5_palette_0 7 rfl rfl)
theorem dX5_palette_10 : decode cX5_palette 10 = .ok (.iconst 0, 1) := dk_3 (dk_at dksX5_palette_0 10 rfl rfl)
theorem dX5_palette_11 : decode cX5_palette 11 = .ok (.iaload, 1) := dk_46 (dk_at dksX5_palette_0 11 rfl rfl)
theorem dX5_palette_12 : decode cX5_palette 12 = .ok (.ishl, 1) := dk_120 (dk_at dksX5_palette_0 12 rfl rfl)
theorem dX5_palette_13 : decode cX5_palette 13 = .ok (.if_icmp .ge 60, 3) := dk_162 0 60 (dk_at dksX5_palette_0 13 rfl rfl)
theorem dX5_palette_16 : decode cX5_palette 16 = .ok (.iload_n 3, 1) := dk_29 (dk_at dksX5_palette_0 16 rfl rfl)
theorem dX5_palette_17 : decode cX5_palette 17 = .ok (.invokestatic 256, 3) := dk_184 1 0 (dk_at dksX5_palette_0 17 rfl rfl)
theorem dX5_palette_20 : decode cX5_palette 20 = .ok (.iload_n 1, 1) := dk_27 (dk_at dksX5_palette_0 20 rfl rfl)
theorem dX5_palette_21 : decode cX5_palette 21 = .ok (.if_icmp .eq 6, 3) := dk_159 0 6 (dk_at dksX5_palette_0 21 rfl rfl)
theorem dX5_palette_24 : decode cX5_palette 24 = .ok (.goto 43, 3) := dk_167 0 43 (dk_at dksX5_palette_1 0 rfl rfl)
theorem dX5_palette_27 : decode cX5_palette 27 = .ok (.iload_n 2, 1) := dk_28 (dk_at dksX5_palette_1 3 rfl rfl)
theorem dX5_palette_28 : decode cX5_palette 28 = .ok (.ifCond .eq 37, 3) := dk_153 0 37 (dk_at dksX5_palette_1 4 rfl rfl)
theorem dX5_palette_31 : decode cX5_palette 31 = .ok (.aload_n 0, 1) := dk_42 (dk_at dksX5_palette_1 7 rfl rfl)
theorem dX5_palette_32 : decode cX5_palette 32 = .ok (.iload_n 3, 1) := dk_29 (dk_at dksX5_palette_1 8 rfl rfl)
theorem dX5_palette_33 : decode cX5_palette 33 = .ok (.invokevirtual 259, 3) := dk_182 1 3 (dk_at dksX5_palette_1 9 rfl rfl)
theorem dX5_palette_36 : decode cX5_palette 36 = .ok (.aload_n 0, 1) := dk_42 (dk_at dksX5_palette_1 12 rfl rfl)
theorem dX5_palette_37 : decode cX5_palette 37 = .ok (.iload_n 2, 1) := dk_28 (dk_at dksX5_palette_1 13 rfl rfl)
theorem dX5_palette_38 : decode cX5_palette 38 = .ok (.invokevirtual 259, 3) := dk_182 1 3 (dk_at dksX5_palette_1 14 rfl rfl)
theorem dX5_palette_41 : decode cX5_palette 41 = .ok (.if_icmp .lt 24, 3) := dk_161 0 24 (dk_at dksX5_palette_1 17 rfl rfl)
theorem dX5_palette_44 : decode cX5_palette 44 = .ok (.aload_n 0, 1) := dk_42 (dk_at dksX5_palette_1 20 rfl rfl)
theorem dX5_palette_45 : decode cX5_palette 45 = .ok (.iload_n 3, 1) := dk_29 (dk_at dksX5_palette_1 21 rfl rfl)
theorem dX5_palette_46 : decode cX5_palette 46 = .ok (.invokevirtual 259, 3) := dk_182 1 3 (dk_at dksX5_palette_2 0 rfl rfl)
theorem dX5_palette_49 : decode cX5_palette 49 = .ok (.aload_n 0, 1) := dk_42 (dk_at dksX5_palette_2 3 rfl rfl)
theorem dX5_palette_50 : decode cX5_palette 50 = .ok (.iload_n 2, 1) := dk_28 (dk_at dksX5_palette_2 4 rfl rfl)
theorem dX5_palette_51 : decode cX5_palette 51 = .ok (.invokevirtual 259, 3) := dk_182 1 3 (dk_at dksX5_palette_2 5 rfl rfl)
theorem dX5_palette_54 : decode cX5_palette 54 = .ok (.if_icmp .ne 13, 3) := dk_160 0 13 (dk_at dksX5_palette_2 8 rfl rfl)
theorem dX5_palette_57 : decode cX5_palette 57 = .ok (.iload_n 3, 1) := dk_29 (dk_at dksX5_palette_2 11 rfl rfl)
theorem dX5_palette_58 : decode cX5_palette 58 = .ok (.iload_n 2, 1) := dk_28 (dk_at dksX5_palette_2 12 rfl rfl)
theorem dX5_palette_59 : decode cX5_palette 59 = .ok (.invokestatic 262, 3) := dk_184 1 6 (dk_at dksX5_palette_2 13 rfl rfl)
theorem dX5_palette_62 : decode cX5_palette 62 = .ok (.ifCond .eq 5, 3) := dk_153 0 5 (dk_at dksX5_palette_2 16 rfl rfl)
theorem dX5_palette_65 : decode cX5_palette 65 = .ok (.iload_n 3, 1) := dk_29 (dk_at dksX5_palette_2 19 rfl rfl)
theorem dX5_palette_66 : decode cX5_palette 66 = .ok (.istore_n 2, 1) := dk_61 (dk_at dksX5_palette_2 20 rfl rfl)
theorem dX5_palette_67 : decode cX5_palette 67 = .ok (.iinc 3 1, 3) := dk_132 3 1 (dk_at dksX5_palette_2 21 rfl rfl)
theorem dX5_palette_70 : decode cX5_palette 70 = .ok (.goto (-66), 3) := dk_167 255 190 (dk_at dksX5_palette_3 0 rfl rfl)
theorem dX5_palette_73 : decode cX5_palette 73 = .ok (.iload_n 2, 1) := dk_28 (dk_at dksX5_palette_3 3 rfl rfl)
theorem dX5_palette_74 : decode cX5_palette 74 = .ok (.ireturn, 1) := dk_172 (dk_at dksX5_palette_3 4 rfl rfl)
def dkwX5_many_1 : List UInt8 := [27, 172]
abbrev dktX5_many_1 : List UInt8 := dkwX5_many_1 ++ []
def dkwX5_many_0 : List UInt8 := [3, 60, 3, 61, 28, 16, 10, 162, 0, 17, 27, 26, 28, 122, 4, 126, 96, 60, 132, 2, 1, 167, 255, 239]
abbrev dktX5_many_0 : List UInt8 := dkwX5_many_0 ++ dktX5_many_1
theorem dksX5_many_0 : cX5_many.data.toList.drop 0 = dktX5_many_0 := by decide +kernel
theorem dksX5_many_1 : cX5_many.data.toList.drop 24 = dktX5_many_1 := dk_seg dksX5_many_0 24 rfl rfl
theorem dX5_many_0 : decode cX5_many 0 = .ok (.iconst 0, 1) := dk_3 (dk_at dksX5_many_0 0 rfl rfl)
theorem dX5_many_1 : decode cX5_many 1 = .ok (.istore_n 1, 1) := dk_60 (dk_at dksX5_many_0 1 rfl rfl)
theorem dX5_many_2 : decode cX5_many 2 = .ok (.iconst 0, 1) := dk_3 (dk_at dksX5_many_0 2 rfl rfl)
theorem dX5_many_3 : decode cX5_many 3 = .ok (.istore_n 2, 1) := dk_61 (dk_at dksX5_many_0 3 rfl rfl)
theorem dX5_many_4 : decode cX5_many 4 = .ok (.iload_n 2, 1) := dk_28 (dk_at dksX5_many_0 4 rfl rfl)
theorem dX5_many_5 : decode cX5_many 5 = .ok (.bipush 10, 2) := dk_16 10 (dk_at dksX5_many_0 5 rfl rfl)
theorem dX5_many_7 : decode cX5_many 7 = .ok (.if_icmp .ge 17, 3) := dk_162 0 17 (dk_at dksX5_many_0 7 rfl rfl)
theorem dX5_many_10 : decode cX5_many 10 = .ok (.iload_n 1, 1) := dk_27 (dk_at dksX5_many_0 10 rfl rfl)
theorem dX5_many_11 : decode cX5_many 11 = .ok (.iload_n 0, 1) := dk_26 (dk_at dksX5_many_0 11 rfl rfl)
theorem dX5_many_12 : decode cX5_many 12 = .ok (.iload_n 2, 1) := dk_28 (dk_at dksX5_many_0 12 rfl rfl)
theorem dX5_many_13 : decode cX5_many 13 = .ok (.ishr, 1) := dk_122 (dk_at dksX5_many_0 13 rfl rfl)
theorem dX5_many_14 : decode cX5_many 14 = .ok (.iconst 1, 1) := dk_4 (dk_at dksX5_many_0 14 rfl rfl)
theorem dX5_many_15 : decode cX5_many 15 = .ok (.iand, 1) := dk_126 (dk_at dksX5_many_0 15 rfl rfl)
theorem dX5_many_16 : decode cX5_many 16 = .ok (.iadd, 1) := dk_96 (dk_at dksX5_many_0 16 rfl rfl)
theorem dX5_many_17 : decode cX5_many 17 = .ok (.istore_n 1, 1) := dk_60 (dk_at dksX5_many_0 17 rfl rfl)
theorem dX5_many_18 : decode cX5_many 18 = .ok (.iinc 2 1, 3) := dk_132 2 1 (dk_at dksX5_many_0 18 rfl rfl)
theorem dX5_many_21 : decode cX5_many 21 = .ok (.goto (-17), 3) := dk_167 255 239 (dk_at dksX5_many_0 21 rfl rfl)
theorem dX5_many_24 : decode cX5_many 24 = .ok (.iload_n 1, 1) := dk_27 (dk_at dksX5_many_1 0 rfl rfl)
theorem dX5_many_25 : decode cX5_many 25 = .ok (.ireturn, 1) := dk_172 (dk_at dksX5_many_1 1 rfl rfl)
def dkwX5_error_4 : List UInt8 := [28, 172]
abbrev dktX5_error_4 : List UInt8 := dkwX5_error_4 ++ []
def dkwX5_error_3 : List UInt8 := [167, 0, 5, 21, 4, 54, 4, 132, 5, 1, 167, 255, 199, 28, 21, 4, 96, 61, 132, 3, 1, 167, 255, 171]
abbrev dktX5_error_3 : List UInt8 := dkwX5_error_3 ++ dktX5_error_4
def dkwX5_error_2 : List UInt8 := [184, 0, 85, 21, 5, 184, 0, 85, 182, 0, 106, 54, 6, 21, 6, 21, 4, 162, 0, 8, 21, 6]
abbrev dktX5_error_2 : List UInt8 := dkwX5_error_2 ++ dktX5_error_3
def dkwX5_error_1 : List UInt8 := [180, 0, 7, 3, 46, 162, 0, 52, 27, 21, 5, 122, 4, 126, 154, 0, 6, 167, 0, 34, 42, 29]
abbrev dktX5_error_1 : List UInt8 := dkwX5_error_1 ++ dktX5_error_2
def dkwX5_error_0 : List UInt8 := [3, 61, 3, 62, 29, 42, 180, 0, 7, 3, 46, 162, 0, 81, 18, 235, 54, 4, 3, 54, 5, 21, 5, 42]
abbrev dktX5_error_0 : List UInt8 := dkwX5_error_0 ++ dktX5_error_1
theorem dksX5_error_0 : cX5_error.data.toList.drop 0 = dktX5_error_0 := by decide +kernel
theorem dksX5_error_1 : cX5_error.data.toList.drop 24 = dktX5_error_1 := dk_seg dksX5_error_0 24 rfl rfl
theorem dksX5_error_2 : cX5_error.data.toList.drop 46 = dktX5_error_2 := dk_seg dksX5_error_1 22 rfl rfl
theorem dksX5_error_3 : cX5_error.data.toList.drop 68 = dktX5_error_3 := dk_seg dksX5_error_2 22 rfl rfl
theorem dksX5_error_4 : cX5_error.data.toList.drop 92 = dktX5_error_4 := dk_seg dksX5_error_3 24 rfl rfl
theorem dX5_error_0 : decode cX5_error 0 = .ok (.iconst 0, 1) := dk_3 (dk_at dksX5_error_0 0 rfl rfl)
theorem dX5_error_1 : decode cX5_error 1 = .ok (.istore_n 2, 1) := dk_61 (dk_at dksX5_error_0 1 rfl rfl)
theorem dX5_error_2 : decode cX5_error 2 = .ok (.iconst 0, 1) := dk_3 (dk_at dksX5_error_0 2 rfl rfl)
theorem dX5_error_3 : decode cX5_error 3 = .ok (.istore_n 3, 1) := dk_62 (dk_at dksX5_error_0 3 rfl rfl)
theorem dX5_error_4 : decode cX5_error 4 = .ok (.iload_n 3, 1) := dk_29 (dk_at dksX5_error_0 4 rfl rfl)
theorem dX5_error_5 : decode cX5_error 5 = .ok (.aload_n 0, 1) := dk_42 (dk_at dksX5_error_0 5 rfl rfl)
theorem dX5_error_6 : decode cX5_error 6 = .ok (.getfield 7, 3) := dk_180 0 7 (dk_at dksX5_error_0 6 rfl rfl)
theorem dX5_error_9 : decode cX5_error 9 = .ok (.iconst 0, 1) := dk_3 (dk_at dksX5_error_0 9 rfl rfl)
theorem dX5_error_10 : decode cX5_error 10 = .ok (.iaload, 1) := dk_46 (dk_at dksX5_error_0 10 rfl rfl)
theorem dX5_error_11 : decode cX5_error 11 = .ok (.if_icmp .ge 81, 3) := dk_162 0 81 (dk_at dksX5_error_0 11 rfl rfl)
theorem dX5_error_14 : decode cX5_error 14 = .ok (.ldc 235, 2) := dk_18 235 (dk_at dksX5_error_0 14 rfl rfl)
theorem dX5_error_16 : decode cX5_error 16 = .ok (.istore 4, 2) := dk_54 4 (dk_at dksX5_error_0 16 rfl rfl)
theorem dX5_error_18 : decode cX5_error 18 = .ok (.iconst 0, 1) := dk_3 (dk_at dksX5_error_0 18 rfl rfl)
theorem dX5_error_19 : decode cX5_error 19 = .ok (.istore 5, 2) := dk_54 5 (dk_at dksX5_error_0 19 rfl rfl)
theorem dX5_error_21 : decode cX5_error 21 = .ok (.iload 5, 2) := dk_21 5 (dk_at dksX5_error_0 21 rfl rfl)
theorem dX5_error_23 : decode cX5_error 23 = .ok (.aload_n 0, 1) := dk_42 (dk_at dksX5_error_0 23 rfl rfl)
theorem dX5_error_24 : decode cX5_error 24 = .ok (.getfield 7, 3) := dk_180 0 7 (dk_at dksX5_error_1 0 rfl rfl)
theorem dX5_error_27 : decode cX5_error 27 = .ok (.iconst 0, 1) := dk_3 (dk_at dksX5_error_1 3 rfl rfl)
theorem dX5_error_28 : decode cX5_error 28 = .ok (.iaload, 1) := dk_46 (dk_at dksX5_error_1 4 rfl rfl)
theorem dX5_error_29 : decode cX5_error 29 = .ok (.if_icmp .ge 52, 3) := dk_162 0 52 (dk_at dksX5_error_1 5 rfl rfl)
theorem dX5_error_32 : decode cX5_error 32 = .ok (.iload_n 1, 1) := dk_27 (dk_at dksX5_error_1 8 rfl rfl)
theorem dX5_error_33 : decode cX5_error 33 = .ok (.iload 5, 2) := dk_21 5 (dk_at dksX5_error_1 9 rfl rfl)
theorem dX5_error_35 : decode cX5_error 35 = .ok (.ishr, 1) := dk_122 (dk_at dksX5_error_1 11 rfl rfl)
theorem dX5_error_36 : decode cX5_error 36 = .ok (.iconst 1, 1) := dk_4 (dk_at dksX5_error_1 12 rfl rfl)
theorem dX5_error_37 : decode cX5_error 37 = .ok (.iand, 1) := dk_126 (dk_at dksX5_error_1 13 rfl rfl)
theorem dX5_error_38 : decode cX5_error 38 = .ok (.ifCond .ne 6, 3) := dk_154 0 6 (dk_at dksX5_error_1 14 rfl rfl)
theorem dX5_error_41 : decode cX5_error 41 = .ok (.goto 34, 3) := dk_167 0 34 (dk_at dksX5_error_1 17 rfl rfl)
theorem dX5_error_44 : decode cX5_error 44 = .ok (.aload_n 0, 1) := dk_42 (dk_at dksX5_error_1 20 rfl rfl)
theorem dX5_error_45 : decode cX5_error 45 = .ok (.iload_n 3, 1) := dk_29 (dk_at dksX5_error_1 21 rfl rfl)
theorem dX5_error_46 : decode cX5_error 46 = .ok (.invokestatic 85, 3) := dk_184 0 85 (dk_at dksX5_error_2 0 rfl rfl)
theorem dX5_error_49 : decode cX5_error 49 = .ok (.iload 5, 2) := dk_21 5 (dk_at dksX5_error_2 3 rfl rfl)
theorem dX5_error_51 : decode cX5_error 51 = .ok (.invokestatic 85, 3) := dk_184 0 85 (dk_at dksX5_error_2 5 rfl rfl)
theorem dX5_error_54 : decode cX5_error 54 = .ok (.invokevirtual 106, 3) := dk_182 0 106 (dk_at dksX5_error_2 8 rfl rfl)
theorem dX5_error_57 : decode cX5_error 57 = .ok (.istore 6, 2) := dk_54 6 (dk_at dksX5_error_2 11 rfl rfl)
theorem dX5_error_59 : decode cX5_error 59 = .ok (.iload 6, 2) := dk_21 6 (dk_at dksX5_error_2 13 rfl rfl)
theorem dX5_error_61 : decode cX5_error 61 = .ok (.iload 4, 2) := dk_21 4 (dk_at dksX5_error_2 15 rfl rfl)
theorem dX5_error_63 : decode cX5_error 63 = .ok (.if_icmp .ge 8, 3) := dk_162 0 8 (dk_at dksX5_error_2 17 rfl rfl)
theorem dX5_error_66 : decode cX5_error 66 = .ok (.iload 6, 2) := dk_21 6 (dk_at dksX5_error_2 20 rfl rfl)
theorem dX5_error_68 : decode cX5_error 68 = .ok (.goto 5, 3) := dk_167 0 5 (dk_at dksX5_error_3 0 rfl rfl)
theorem dX5_error_71 : decode cX5_error 71 = .ok (.iload 4, 2) := dk_21 4 (dk_at dksX5_error_3 3 rfl rfl)
theorem dX5_error_73 : decode cX5_error 73 = .ok (.istore 4, 2) := dk_54 4 (dk_at dksX5_error_3 5 rfl rfl)
theorem dX5_error_75 : decode cX5_error 75 = .ok (.iinc 5 1, 3) := dk_132 5 1 (dk_at dksX5_error_3 7 rfl rfl)
theorem dX5_error_78 : decode cX5_error 78 = .ok (.goto (-57), 3) := dk_167 255 199 (dk_at dksX5_error_3 10 rfl rfl)
theorem dX5_error_81 : decode cX5_error 81 = .ok (.iload_n 2, 1) := dk_28 (dk_at dksX5_error_3 13 rfl rfl)
theorem dX5_error_82 : decode cX5_error 82 = .ok (.iload 4, 2) := dk_21 4 (dk_at dksX5_error_3 14 rfl rfl)
theorem dX5_error_84 : decode cX5_error 84 = .ok (.iadd, 1) := dk_96 (dk_at dksX5_error_3 16 rfl rfl)
theorem dX5_error_85 : decode cX5_error 85 = .ok (.istore_n 2, 1) := dk_61 (dk_at dksX5_error_3 17 rfl rfl)
theorem dX5_error_86 : decode cX5_error 86 = .ok (.iinc 3 1, 3) := dk_132 3 1 (dk_at dksX5_error_3 18 rfl rfl)
theorem dX5_error_89 : decode cX5_error 89 = .ok (.goto (-85), 3) := dk_167 255 171 (dk_at dksX5_error_3 21 rfl rfl)
theorem dX5_error_92 : decode cX5_error 92 = .ok (.iload_n 2, 1) := dk_28 (dk_at dksX5_error_4 0 rfl rfl)
theorem dX5_error_93 : decode cX5_error 93 = .ok (.ireturn, 1) := dk_172 (dk_at dksX5_error_4 1 rfl rfl)
def dkwX5_hasLowest_0 : List UInt8 := [26, 27, 130, 61, 26, 28, 126, 28, 116, 126, 153, 0, 7, 4, 167, 0, 4, 3, 172]
abbrev dktX5_hasLowest_0 : List UInt8 := dkwX5_hasLowest_0 ++ []
theorem dksX5_hasLowest_0 : cX5_hasLowest.data.toList.drop 0 = dktX5_hasLowest_0 := by decide +kernel
theorem dX5_hasLowest_0 : decode cX5_hasLowest 0 = .ok (.iload_n 0, 1) := dk_26 (dk_at dksX5_hasLowest_0 0 rfl rfl)
theorem dX5_hasLowest_1 : decode cX5_hasLowest 1 = .ok (.iload_n 1, 1) := dk_27 (dk_at dksX5_hasLowest_0 1 rfl rfl)
theorem dX5_hasLowest_2 : decode cX5_hasLowest 2 = .ok (.ixor, 1) := dk_130 (dk_at dksX5_hasLowest_0 2 rfl rfl)
theorem dX5_hasLowest_3 : decode cX5_hasLowest 3 = .ok (.istore_n 2, 1) := dk_61 (dk_at dksX5_hasLowest_0 3 rfl rfl)
theorem dX5_hasLowest_4 : decode cX5_hasLowest 4 = .ok (.iload_n 0, 1) := dk_26 (dk_at dksX5_hasLowest_0 4 rfl rfl)
theorem dX5_hasLowest_5 : decode cX5_hasLowest 5 = .ok (.iload_n 2, 1) := dk_28 (dk_at dksX5_hasLowest_0 5 rfl rfl)
theorem dX5_hasLowest_6 : decode cX5_hasLowest 6 = .ok (.iand, 1) := dk_126 (dk_at dksX5_hasLowest_0 6 rfl rfl)
theorem dX5_hasLowest_7 : decode cX5_hasLowest 7 = .ok (.iload_n 2, 1) := dk_28 (dk_at dksX5_hasLowest_0 7 rfl rfl)
theorem dX5_hasLowest_8 : decode cX5_hasLowest 8 = .ok (.ineg, 1) := dk_116 (dk_at dksX5_hasLowest_0 8 rfl rfl)
theorem dX5_hasLowest_9 : decode cX5_hasLowest 9 = .ok (.iand, 1) := dk_126 (dk_at dksX5_hasLowest_0 9 rfl rfl)
theorem dX5_hasLowest_10 : decode cX5_hasLowest 10 = .ok (.ifCond .eq 7, 3) := dk_153 0 7 (dk_at dksX5_hasLowest_0 10 rfl rfl)
theorem dX5_hasLowest_13 : decode cX5_hasLowest 13 = .ok (.iconst 1, 1) := dk_4 (dk_at dksX5_hasLowest_0 13 rfl rfl)
theorem dX5_hasLowest_14 : decode cX5_hasLowest 14 = .ok (.goto 4, 3) := dk_167 0 4 (dk_at dksX5_hasLowest_0 14 rfl rfl)
theorem dX5_hasLowest_17 : decode cX5_hasLowest 17 = .ok (.iconst 0, 1) := dk_3 (dk_at dksX5_hasLowest_0 17 rfl rfl)
theorem dX5_hasLowest_18 : decode cX5_hasLowest 18 = .ok (.ireturn, 1) := dk_172 (dk_at dksX5_hasLowest_0 18 rfl rfl)
def dkwX5_paletteErrorBySearch_0 : List UInt8 := [42, 27, 182, 1, 12, 172]
abbrev dktX5_paletteErrorBySearch_0 : List UInt8 := dkwX5_paletteErrorBySearch_0 ++ []
theorem dksX5_paletteErrorBySearch_0 : cX5_paletteErrorBySearch.data.toList.drop 0 = dktX5_paletteErrorBySearch_0 := by decide +kernel
theorem dX5_paletteErrorBySearch_0 : decode cX5_paletteErrorBySearch 0 = .ok (.aload_n 0, 1) := dk_42 (dk_at dksX5_paletteErrorBySearch_0 0 rfl rfl)
theorem dX5_paletteErrorBySearch_1 : decode cX5_paletteErrorBySearch 1 = .ok (.iload_n 1, 1) := dk_27 (dk_at dksX5_paletteErrorBySearch_0 1 rfl rfl)
theorem dX5_paletteErrorBySearch_2 : decode cX5_paletteErrorBySearch 2 = .ok (.invokevirtual 268, 3) := dk_182 1 12 (dk_at dksX5_paletteErrorBySearch_0 2 rfl rfl)
theorem dX5_paletteErrorBySearch_5 : decode cX5_paletteErrorBySearch 5 = .ok (.ireturn, 1) := dk_172 (dk_at dksX5_paletteErrorBySearch_0 5 rfl rfl)
def dkwX5_paletteColour_4 : List UInt8 := [172]
abbrev dktX5_paletteColour_4 : List UInt8 := dkwX5_paletteColour_4 ++ []
def dkwX5_paletteColour_3 : List UInt8 := [4, 126, 154, 0, 9, 132, 4, 1, 167, 255, 244, 132, 5, 1, 167, 255, 229, 42, 21, 4, 3, 182, 0, 92]
abbrev dktX5_paletteColour_3 : List UInt8 := dkwX5_paletteColour_3 ++ dktX5_paletteColour_4
def dkwX5_paletteColour_2 : List UInt8 := [27, 182, 1, 9, 62, 2, 54, 4, 3, 54, 5, 21, 5, 28, 163, 0, 27, 132, 4, 1, 29, 21, 4, 122]
abbrev dktX5_paletteColour_2 : List UInt8 := dkwX5_paletteColour_2 ++ dktX5_paletteColour_3
def dkwX5_paletteColour_1 : List UInt8 := [184, 0, 112, 154, 0, 7, 5, 167, 0, 4, 3, 181, 0, 25, 42, 180, 0, 25, 158, 0, 5, 3, 172, 42]
abbrev dktX5_paletteColour_1 : List UInt8 := dkwX5_paletteColour_1 ++ dktX5_paletteColour_2
def dkwX5_paletteColour_0 : List UInt8 := [42, 27, 4, 42, 180, 0, 7, 3, 46, 184, 0, 112, 154, 0, 7, 4, 167, 0, 19, 28, 3, 27, 4, 100]
abbrev dktX5_paletteColour_0 : List UInt8 := dkwX5_paletteColour_0 ++ dktX5_paletteColour_1
theorem dksX5_paletteColour_0 : cX5_paletteColour.data.toList.drop 0 = dktX5_paletteColour_0 := by decide +kernel
theorem dksX5_paletteColour_1 : cX5_paletteColour.data.toList.drop 24 = dktX5_paletteColour_1 := dk_seg dksX5_paletteColour_0 24 rfl rfl
theorem dksX5_paletteColour_2 : cX5_paletteColour.data.toList.drop 48 = dktX5_paletteColour_2 := dk_seg dksX5_paletteColour_1 24 rfl rfl
theorem dksX5_paletteColour_3 : cX5_paletteColour.data.toList.drop 72 = dktX5_paletteColour_3 := dk_seg dksX5_paletteColour_2 24 rfl rfl
theorem dksX5_paletteColour_4 : cX5_paletteColour.data.toList.drop 96 = dktX5_paletteColour_4 := dk_seg dksX5_paletteColour_3 24 rfl rfl
theorem dX5_paletteColour_0 : decode cX5_paletteColour 0 = .ok (.aload_n 0, 1) := dk_42 (dk_at dksX5_paletteColour_0 0 rfl rfl)
theorem dX5_paletteColour_1 : decode cX5_paletteColour 1 = .ok (.iload_n 1, 1) := dk_27 (dk_at dksX5_paletteColour_0 1 rfl rfl)
theorem dX5_paletteColour_2 : decode cX5_paletteColour 2 = .ok (.iconst 1, 1) := dk_4 (dk_at dksX5_paletteColour_0 2 rfl rfl)
theorem dX5_paletteColour_3 : decode cX5_paletteColour 3 = .ok (.aload_n 0, 1) := dk_42 (dk_at dksX5_paletteColour_0 3 rfl rfl)
theorem dX5_paletteColour_4 : decode cX5_paletteColour 4 = .ok (.getfield 7, 3) := dk_180 0 7 (dk_at dksX5_paletteColour_0 4 rfl rfl)
theorem dX5_paletteColour_7 : decode cX5_paletteColour 7 = .ok (.iconst 0, 1) := dk_3 (dk_at dksX5_paletteColour_0 7 rfl rfl)
theorem dX5_paletteColour_8 : decode cX5_paletteColour 8 = .ok (.iaload, 1) := dk_46 (dk_at dksX5_paletteColour_0 8 rfl rfl)
theorem dX5_paletteColour_9 : decode cX5_paletteColour 9 = .ok (.invokestatic 112, 3) := dk_184 0 112 (dk_at dksX5_paletteColour_0 9 rfl rfl)
theorem dX5_paletteColour_12 : decode cX5_paletteColour 12 = .ok (.ifCond .ne 7, 3) := dk_154 0 7 (dk_at dksX5_paletteColour_0 12 rfl rfl)
theorem dX5_paletteColour_15 : decode cX5_paletteColour 15 = .ok (.iconst 1, 1) := dk_4 (dk_at dksX5_paletteColour_0 15 rfl rfl)
theorem dX5_paletteColour_16 : decode cX5_paletteColour 16 = .ok (.goto 19, 3) := dk_167 0 19 (dk_at dksX5_paletteColour_0 16 rfl rfl)
theorem dX5_paletteColour_19 : decode cX5_paletteColour 19 = .ok (.iload_n 2, 1) := dk_28 (dk_at dksX5_paletteColour_0 19 rfl rfl)
theorem dX5_paletteColour_20 : decode cX5_paletteColour 20 = .ok (.iconst 0, 1) := dk_3 (dk_at dksX5_paletteColour_0 20 rfl rfl)
theorem dX5_paletteColour_21 : decode cX5_paletteColour 21 = .ok (.iload_n 1, 1) := dk_27 (dk_at dksX5_paletteColour_0 21 rfl rfl)
theorem dX5_paletteColour_22 : decode cX5_paletteColour 22 = .ok (.iconst 1, 1) := dk_4 (dk_at dksX5_paletteColour_0 22 rfl rfl)
theorem dX5_paletteColour_23 : decode cX5_paletteColour 23 = .ok (.isub, 1) := dk_100 (dk_at dksX5_paletteColour_0 23 rfl rfl)
theorem dX5_paletteColour_24 : decode cX5_paletteColour 24 = .ok (.invokestatic 112, 3) := dk_184 0 112 (dk_at dksX5_paletteColour_1 0 rfl rfl)
theorem dX5_paletteColour_27 : decode cX5_paletteColour 27 = .ok (.ifCond .ne 7, 3) := dk_154 0 7 (dk_at dksX5_paletteColour_1 3 rfl rfl)
theorem dX5_paletteColour_30 : decode cX5_paletteColour 30 = .ok (.iconst 2, 1) := dk_5 (dk_at dksX5_paletteColour_1 6 rfl rfl)
theorem dX5_paletteColour_31 : decode cX5_paletteColour 31 = .ok (.goto 4, 3) := dk_167 0 4 (dk_at dksX5_paletteColour_1 7 rfl rfl)
theorem dX5_paletteColour_34 : decode cX5_paletteColour 34 = .ok (.iconst 0, 1) := dk_3 (dk_at dksX5_paletteColour_1 10 rfl rfl)
theorem dX5_paletteColour_35 : decode cX5_paletteColour 35 = .ok (.putfield 25, 3) := dk_181 0 25 (dk_at dksX5_paletteColour_1 11 rfl rfl)
theorem dX5_paletteColour_38 : decode cX5_paletteColour 38 = .ok (.aload_n 0, 1) := dk_42 (dk_at dksX5_paletteColour_1 14 rfl rfl)
theorem dX5_paletteColour_39 : decode cX5_paletteColour 39 = .ok (.getfield 25, 3) := dk_180 0 25 (dk_at dksX5_paletteColour_1 15 rfl rfl)
theorem dX5_paletteColour_42 : decode cX5_paletteColour 42 = .ok (.ifCond .le 5, 3) := dk_158 0 5 (dk_at dksX5_paletteColour_1 18 rfl rfl)
theorem dX5_paletteColour_45 : decode cX5_paletteColour 45 = .ok (.iconst 0, 1) := dk_3 (dk_at dksX5_paletteColour_1 21 rfl rfl)
theorem dX5_paletteColour_46 : decode cX5_paletteColour 46 = .ok (.ireturn, 1) := dk_172 (dk_at dksX5_paletteColour_1 22 rfl rfl)
theorem dX5_paletteColour_47 : decode cX5_paletteColour 47 = .ok (.aload_n 0, 1) := dk_42 (dk_at dksX5_paletteColour_1 23 rfl rfl)
theorem dX5_paletteColour_48 : decode cX5_paletteColour 48 = .ok (.iload_n 1, 1) := dk_27 (dk_at dksX5_paletteColour_2 0 rfl rfl)
theorem dX5_paletteColour_49 : decode cX5_paletteColour 49 = .ok (.invokevirtual 265, 3) := dk_182 1 9 (dk_at dksX5_paletteColour_2 1 rfl rfl)
theorem dX5_paletteColour_52 : decode cX5_paletteColour 52 = .ok (.istore_n 3, 1) := dk_62 (dk_at dksX5_paletteColour_2 4 rfl rfl)
theorem dX5_paletteColour_53 : decode cX5_paletteColour 53 = .ok (.iconst (-1), 1) := dk_2 (dk_at dksX5_paletteColour_2 5 rfl rfl)
theorem dX5_paletteColour_54 : decode cX5_paletteColour 54 = .ok (.istore 4, 2) := dk_54 4 (dk_at dksX5_paletteColour_2 6 rfl rfl)
theorem dX5_paletteColour_56 : decode cX5_paletteColour 56 = .ok (.iconst 0, 1) := dk_3 (dk_at dksX5_paletteColour_2 8 rfl rfl)
theorem dX5_paletteColour_57 : decode cX5_paletteColour 57 = .ok (.istore 5, 2) := dk_54 5 (dk_at dksX5_paletteColour_2 9 rfl rfl)
theorem dX5_paletteColour_59 : decode cX5_paletteColour 59 = .ok (.iload 5, 2) := dk_21 5 (dk_at dksX5_paletteColour_2 11 rfl rfl)
theorem dX5_paletteColour_61 : decode cX5_paletteColour 61 = .ok (.iload_n 2, 1) := dk_28 (dk_at dksX5_paletteColour_2 13 rfl rfl)
theorem dX5_paletteColour_62 : decode cX5_paletteColour 62 = .ok (.if_icmp .gt 27, 3) := dk_163 0 27 (dk_at dksX5_paletteColour_2 14 rfl rfl)
theorem dX5_paletteColour_65 : decode cX5_paletteColour 65 = .ok (.iinc 4 1, 3) := dk_132 4 1 (dk_at dksX5_paletteColour_2 17 rfl rfl)
theorem dX5_paletteColour_68 : decode cX5_paletteColour 68 = .ok (.iload_n 3, 1) := dk_29 (dk_at dksX5_paletteColour_2 20 rfl rfl)
theorem dX5_paletteColour_69 : decode cX5_paletteColour 69 = .ok (.iload 4, 2) := dk_21 4 (dk_at dksX5_paletteColour_2 21 rfl rfl)
theorem dX5_paletteColour_71 : decode cX5_paletteColour 71 = .ok (.ishr, 1) := dk_122 (dk_at dksX5_paletteColour_2 23 rfl rfl)
theorem dX5_paletteColour_72 : decode cX5_paletteColour 72 = .ok (.iconst 1, 1) := dk_4 (dk_at dksX5_paletteColour_3 0 rfl rfl)
theorem dX5_paletteColour_73 : decode cX5_paletteColour 73 = .ok (.iand, 1) := dk_126 (dk_at dksX5_paletteColour_3 1 rfl rfl)
theorem dX5_paletteColour_74 : decode cX5_paletteColour 74 = .ok (.ifCond .ne 9, 3) := dk_154 0 9 (dk_at dksX5_paletteColour_3 2 rfl rfl)
theorem dX5_paletteColour_77 : decode cX5_paletteColour 77 = .ok (.iinc 4 1, 3) := dk_132 4 1 (dk_at dksX5_paletteColour_3 5 rfl rfl)
theorem dX5_paletteColour_80 : decode cX5_paletteColour 80 = .ok (.goto (-12), 3) := dk_167 255 244 (dk_at dksX5_paletteColour_3 8 rfl rfl)
theorem dX5_paletteColour_83 : decode cX5_paletteColour 83 = .ok (.iinc 5 1, 3) := dk_132 5 1 (dk_at dksX5_paletteColour_3 11 rfl rfl)
theorem dX5_paletteColour_86 : decode cX5_paletteColour 86 = .ok (.goto (-27), 3) := dk_167 255 229 (dk_at dksX5_paletteColour_3 14 rfl rfl)
theorem dX5_paletteColour_89 : decode cX5_paletteColour 89 = .ok (.aload_n 0, 1) := dk_42 (dk_at dksX5_paletteColour_3 17 rfl rfl)
theorem dX5_paletteColour_90 : decode cX5_paletteColour 90 = .ok (.iload 4, 2) := dk_21 4 (dk_at dksX5_paletteColour_3 18 rfl rfl)
theorem dX5_paletteColour_92 : decode cX5_paletteColour 92 = .ok (.iconst 0, 1) := dk_3 (dk_at dksX5_paletteColour_3 20 rfl rfl)
theorem dX5_paletteColour_93 : decode cX5_paletteColour 93 = .ok (.invokevirtual 92, 3) := dk_182 0 92 (dk_at dksX5_paletteColour_3 21 rfl rfl)
theorem dX5_paletteColour_96 : decode cX5_paletteColour 96 = .ok (.ireturn, 1) := dk_172 (dk_at dksX5_paletteColour_4 0 rfl rfl)
def dkwX5_day_0 : List UInt8 := [42, 42, 180, 0, 7, 7, 46, 182, 0, 216, 172]
abbrev dktX5_day_0 : List UInt8 := dkwX5_day_0 ++ []
theorem dksX5_day_0 : cX5_day.data.toList.drop 0 = dktX5_day_0 := by decide +kernel
theorem dX5_day_0 : decode cX5_day 0 = .ok (.aload_n 0, 1) := dk_42 (dk_at dksX5_day_0 0 rfl rfl)
theorem dX5_day_1 : decode cX5_day 1 = .ok (.aload_n 0, 1) := dk_42 (dk_at dksX5_day_0 1 rfl rfl)
theorem dX5_day_2 : decode cX5_day 2 = .ok (.getfield 7, 3) := dk_180 0 7 (dk_at dksX5_day_0 2 rfl rfl)
theorem dX5_day_5 : decode cX5_day 5 = .ok (.iconst 4, 1) := dk_7 (dk_at dksX5_day_0 5 rfl rfl)
theorem dX5_day_6 : decode cX5_day 6 = .ok (.iaload, 1) := dk_46 (dk_at dksX5_day_0 6 rfl rfl)
theorem dX5_day_7 : decode cX5_day 7 = .ok (.invokevirtual 216, 3) := dk_182 0 216 (dk_at dksX5_day_0 7 rfl rfl)
theorem dX5_day_10 : decode cX5_day 10 = .ok (.ireturn, 1) := dk_172 (dk_at dksX5_day_0 10 rfl rfl)
def dkwX5_metric_0 : List UInt8 := [42, 3, 181, 0, 25, 42, 180, 0, 7, 8, 46, 146, 172]
abbrev dktX5_metric_0 : List UInt8 := dkwX5_metric_0 ++ []
theorem dksX5_metric_0 : cX5_metric.data.toList.drop 0 = dktX5_metric_0 := by decide +kernel
theorem dX5_metric_0 : decode cX5_metric 0 = .ok (.aload_n 0, 1) := dk_42 (dk_at dksX5_metric_0 0 rfl rfl)
theorem dX5_metric_1 : decode cX5_metric 1 = .ok (.iconst 0, 1) := dk_3 (dk_at dksX5_metric_0 1 rfl rfl)
theorem dX5_metric_2 : decode cX5_metric 2 = .ok (.putfield 25, 3) := dk_181 0 25 (dk_at dksX5_metric_0 2 rfl rfl)
theorem dX5_metric_5 : decode cX5_metric 5 = .ok (.aload_n 0, 1) := dk_42 (dk_at dksX5_metric_0 5 rfl rfl)
theorem dX5_metric_6 : decode cX5_metric 6 = .ok (.getfield 7, 3) := dk_180 0 7 (dk_at dksX5_metric_0 6 rfl rfl)
theorem dX5_metric_9 : decode cX5_metric 9 = .ok (.iconst 5, 1) := dk_8 (dk_at dksX5_metric_0 9 rfl rfl)
theorem dX5_metric_10 : decode cX5_metric 10 = .ok (.iaload, 1) := dk_46 (dk_at dksX5_metric_0 10 rfl rfl)
theorem dX5_metric_11 : decode cX5_metric 11 = .ok (.i2c, 1) := dk_146 (dk_at dksX5_metric_0 11 rfl rfl)
theorem dX5_metric_12 : decode cX5_metric 12 = .ok (.ireturn, 1) := dk_172 (dk_at dksX5_metric_0 12 rfl rfl)
def dkwX5_coins_0 : List UInt8 := [42, 42, 180, 0, 7, 16, 6, 46, 182, 0, 216, 172]
abbrev dktX5_coins_0 : List UInt8 := dkwX5_coins_0 ++ []
theorem dksX5_coins_0 : cX5_coins.data.toList.drop 0 = dktX5_coins_0 := by decide +kernel
theorem dX5_coins_0 : decode cX5_coins 0 = .ok (.aload_n 0, 1) := dk_42 (dk_at dksX5_coins_0 0 rfl rfl)
theorem dX5_coins_1 : decode cX5_coins 1 = .ok (.aload_n 0, 1) := dk_42 (dk_at dksX5_coins_0 1 rfl rfl)
theorem dX5_coins_2 : decode cX5_coins 2 = .ok (.getfield 7, 3) := dk_180 0 7 (dk_at dksX5_coins_0 2 rfl rfl)
theorem dX5_coins_5 : decode cX5_coins 5 = .ok (.bipush 6, 2) := dk_16 6 (dk_at dksX5_coins_0 5 rfl rfl)
theorem dX5_coins_7 : decode cX5_coins 7 = .ok (.iaload, 1) := dk_46 (dk_at dksX5_coins_0 7 rfl rfl)
theorem dX5_coins_8 : decode cX5_coins 8 = .ok (.invokevirtual 216, 3) := dk_182 0 216 (dk_at dksX5_coins_0 8 rfl rfl)
theorem dX5_coins_11 : decode cX5_coins 11 = .ok (.ireturn, 1) := dk_172 (dk_at dksX5_coins_0 11 rfl rfl)
def dkwX5_coinsByAccounts_0 : List UInt8 := [42, 42, 180, 0, 7, 16, 6, 46, 182, 0, 216, 172]
abbrev dktX5_coinsByAccounts_0 : List UInt8 := dkwX5_coinsByAccounts_0 ++ []
theorem dksX5_coinsByAccounts_0 : cX5_coinsByAccounts.data.toList.drop 0 = dktX5_coinsByAccounts_0 := by decide +kernel
theorem dX5_coinsByAccounts_0 : decode cX5_coinsByAccounts 0 = .ok (.aload_n 0, 1) := dk_42 (dk_at dksX5_coinsByAccounts_0 0 rfl rfl)
theorem dX5_coinsByAccounts_1 : decode cX5_coinsByAccounts 1 = .ok (.aload_n 0, 1) := dk_42 (dk_at dksX5_coinsByAccounts_0 1 rfl rfl)
theorem dX5_coinsByAccounts_2 : decode cX5_coinsByAccounts 2 = .ok (.getfield 7, 3) := dk_180 0 7 (dk_at dksX5_coinsByAccounts_0 2 rfl rfl)
theorem dX5_coinsByAccounts_5 : decode cX5_coinsByAccounts 5 = .ok (.bipush 6, 2) := dk_16 6 (dk_at dksX5_coinsByAccounts_0 5 rfl rfl)
theorem dX5_coinsByAccounts_7 : decode cX5_coinsByAccounts 7 = .ok (.iaload, 1) := dk_46 (dk_at dksX5_coinsByAccounts_0 7 rfl rfl)
theorem dX5_coinsByAccounts_8 : decode cX5_coinsByAccounts 8 = .ok (.invokevirtual 216, 3) := dk_182 0 216 (dk_at dksX5_coinsByAccounts_0 8 rfl rfl)
theorem dX5_coinsByAccounts_11 : decode cX5_coinsByAccounts 11 = .ok (.ireturn, 1) := dk_172 (dk_at dksX5_coinsByAccounts_0 11 rfl rfl)
def dkwX5_returnedTotal_0 : List UInt8 := [42, 42, 180, 0, 7, 16, 7, 46, 182, 0, 216, 172]
abbrev dktX5_returnedTotal_0 : List UInt8 := dkwX5_returnedTotal_0 ++ []
theorem dksX5_returnedTotal_0 : cX5_returnedTotal.data.toList.drop 0 = dktX5_returnedTotal_0 := by decide +kernel
theorem dX5_returnedTotal_0 : decode cX5_returnedTotal 0 = .ok (.aload_n 0, 1) := dk_42 (dk_at dksX5_returnedTotal_0 0 rfl rfl)
theorem dX5_returnedTotal_1 : decode cX5_returnedTotal 1 = .ok (.aload_n 0, 1) := dk_42 (dk_at dksX5_returnedTotal_0 1 rfl rfl)
theorem dX5_returnedTotal_2 : decode cX5_returnedTotal 2 = .ok (.getfield 7, 3) := dk_180 0 7 (dk_at dksX5_returnedTotal_0 2 rfl rfl)
theorem dX5_returnedTotal_5 : decode cX5_returnedTotal 5 = .ok (.bipush 7, 2) := dk_16 7 (dk_at dksX5_returnedTotal_0 5 rfl rfl)
theorem dX5_returnedTotal_7 : decode cX5_returnedTotal 7 = .ok (.iaload, 1) := dk_46 (dk_at dksX5_returnedTotal_0 7 rfl rfl)
theorem dX5_returnedTotal_8 : decode cX5_returnedTotal 8 = .ok (.invokevirtual 216, 3) := dk_182 0 216 (dk_at dksX5_returnedTotal_0 8 rfl rfl)
theorem dX5_returnedTotal_11 : decode cX5_returnedTotal 11 = .ok (.ireturn, 1) := dk_172 (dk_at dksX5_returnedTotal_0 11 rfl rfl)
def dkwX5_meanBrightness_2 : List UInt8 := [167, 255, 235, 27, 135, 6, 42, 180, 0, 7, 3, 46, 104, 135, 111, 175]
abbrev dktX5_meanBrightness_2 : List UInt8 := dkwX5_meanBrightness_2 ++ []
def dkwX5_meanBrightness_1 : List UInt8 := [60, 3, 61, 28, 42, 180, 0, 7, 3, 46, 162, 0, 17, 27, 42, 28, 182, 0, 226, 96, 60, 132, 2, 1]
abbrev dktX5_meanBrightness_1 : List UInt8 := dkwX5_meanBrightness_1 ++ dktX5_meanBrightness_2
def dkwX5_meanBrightness_0 : List UInt8 := [42, 42, 180, 0, 7, 3, 46, 158, 0, 7, 4, 167, 0, 4, 3, 182, 0, 219, 158, 0, 5, 14, 175, 3]
abbrev dktX5_meanBrightness_0 : List UInt8 := dkwX5_meanBrightness_0 ++ dktX5_meanBrightness_1
theorem dksX5_meanBrightness_0 : cX5_meanBrightness.data.toList.drop 0 = dktX5_meanBrightness_0 := by decide +kernel
theorem dksX5_meanBrightness_1 : cX5_meanBrightness.data.toList.drop 24 = dktX5_meanBrightness_1 := dk_seg dksX5_meanBrightness_0 24 rfl rfl
theorem dksX5_meanBrightness_2 : cX5_meanBrightness.data.toList.drop 48 = dktX5_meanBrightness_2 := dk_seg dksX5_meanBrightness_1 24 rfl rfl
theorem dX5_meanBrightness_0 : decode cX5_meanBrightness 0 = .ok (.aload_n 0, 1) := dk_42 (dk_at dksX5_meanBrightness_0 0 rfl rfl)
theorem dX5_meanBrightness_1 : decode cX5_meanBrightness 1 = .ok (.aload_n 0, 1) := dk_42 (dk_at dksX5_meanBrightness_0 1 rfl rfl)
theorem dX5_meanBrightness_2 : decode cX5_meanBrightness 2 = .ok (.getfield 7, 3) := dk_180 0 7 (dk_at dksX5_meanBrightness_0 2 rfl rfl)
theorem dX5_meanBrightness_5 : decode cX5_meanBrightness 5 = .ok (.iconst 0, 1) := dk_3 (dk_at dksX5_meanBrightness_0 5 rfl rfl)
theorem dX5_meanBrightness_6 : decode cX5_meanBrightness 6 = .ok (.iaload, 1) := dk_46 (dk_at dksX5_meanBrightness_0 6 rfl rfl)
theorem dX5_meanBrightness_7 : decode cX5_meanBrightness 7 = .ok (.ifCond .le 7, 3) := dk_158 0 7 (dk_at dksX5_meanBrightness_0 7 rfl rfl)
theorem dX5_meanBrightness_10 : decode cX5_meanBrightness 10 = .ok (.iconst 1, 1) := dk_4 (dk_at dksX5_meanBrightness_0 10 rfl rfl)
theorem dX5_meanBrightness_11 : decode cX5_meanBrightness 11 = .ok (.goto 4, 3) := dk_167 0 4 (dk_at dksX5_meanBrightness_0 11 rfl rfl)
theorem dX5_meanBrightness_14 : decode cX5_meanBrightness 14 = .ok (.iconst 0, 1) := dk_3 (dk_at dksX5_meanBrightness_0 14 rfl rfl)
theorem dX5_meanBrightness_15 : decode cX5_meanBrightness 15 = .ok (.invokevirtual 219, 3) := dk_182 0 219 (dk_at dksX5_meanBrightness_0 15 rfl rfl)
theorem dX5_meanBrightness_18 : decode cX5_meanBrightness 18 = .ok (.ifCond .le 5, 3) := dk_158 0 5 (dk_at dksX5_meanBrightness_0 18 rfl rfl)
theorem dX5_meanBrightness_21 : decode cX5_meanBrightness 21 = .ok (.dconst 0, 1) := dk_14 (dk_at dksX5_meanBrightness_0 21 rfl rfl)
theorem dX5_meanBrightness_22 : decode cX5_meanBrightness 22 = .ok (.dreturn, 1) := dk_175 (dk_at dksX5_meanBrightness_0 22 rfl rfl)
theorem dX5_meanBrightness_23 : decode cX5_meanBrightness 23 = .ok (.iconst 0, 1) := dk_3 (dk_at dksX5_meanBrightness_0 23 rfl rfl)
theorem dX5_meanBrightness_24 : decode cX5_meanBrightness 24 = .ok (.istore_n 1, 1) := dk_60 (dk_at dksX5_meanBrightness_1 0 rfl rfl)
theorem dX5_meanBrightness_25 : decode cX5_meanBrightness 25 = .ok (.iconst 0, 1) := dk_3 (dk_at dksX5_meanBrightness_1 1 rfl rfl)
theorem dX5_meanBrightness_26 : decode cX5_meanBrightness 26 = .ok (.istore_n 2, 1) := dk_61 (dk_at dksX5_meanBrightness_1 2 rfl rfl)
theorem dX5_meanBrightness_27 : decode cX5_meanBrightness 27 = .ok (.iload_n 2, 1) := dk_28 (dk_at dksX5_meanBrightness_1 3 rfl rfl)
theorem dX5_meanBrightness_28 : decode cX5_meanBrightness 28 = .ok (.aload_n 0, 1) := dk_42 (dk_at dksX5_meanBrightness_1 4 rfl rfl)
theorem dX5_meanBrightness_29 : decode cX5_meanBrightness 29 = .ok (.getfield 7, 3) := dk_180 0 7 (dk_at dksX5_meanBrightness_1 5 rfl rfl)
theorem dX5_meanBrightness_32 : decode cX5_meanBrightness 32 = .ok (.iconst 0, 1) := dk_3 (dk_at dksX5_meanBrightness_1 8 rfl rfl)
theorem dX5_meanBrightness_33 : decode cX5_meanBrightness 33 = .ok (.iaload, 1) := dk_46 (dk_at dksX5_meanBrightness_1 9 rfl rfl)
theorem dX5_meanBrightness_34 : decode cX5_meanBrightness 34 = .ok (.if_icmp .ge 17, 3) := dk_162 0 17 (dk_at dksX5_meanBrightness_1 10 rfl rfl)
theorem dX5_meanBrightness_37 : decode cX5_meanBrightness 37 = .ok (.iload_n 1, 1) := dk_27 (dk_at dksX5_meanBrightness_1 13 rfl rfl)
theorem dX5_meanBrightness_38 : decode cX5_meanBrightness 38 = .ok (.aload_n 0, 1) := dk_42 (dk_at dksX5_meanBrightness_1 14 rfl rfl)
theorem dX5_meanBrightness_39 : decode cX5_meanBrightness 39 = .ok (.iload_n 2, 1) := dk_28 (dk_at dksX5_meanBrightness_1 15 rfl rfl)
theorem dX5_meanBrightness_40 : decode cX5_meanBrightness 40 = .ok (.invokevirtual 226, 3) := dk_182 0 226 (dk_at dksX5_meanBrightness_1 16 rfl rfl)
theorem dX5_meanBrightness_43 : decode cX5_meanBrightness 43 = .ok (.iadd, 1) := dk_96 (dk_at dksX5_meanBrightness_1 19 rfl rfl)
theorem dX5_meanBrightness_44 : decode cX5_meanBrightness 44 = .ok (.istore_n 1, 1) := dk_60 (dk_at dksX5_meanBrightness_1 20 rfl rfl)
theorem dX5_meanBrightness_45 : decode cX5_meanBrightness 45 = .ok (.iinc 2 1, 3) := dk_132 2 1 (dk_at dksX5_meanBrightness_1 21 rfl rfl)
theorem dX5_meanBrightness_48 : decode cX5_meanBrightness 48 = .ok (.goto (-21), 3) := dk_167 255 235 (dk_at dksX5_meanBrightness_2 0 rfl rfl)
theorem dX5_meanBrightness_51 : decode cX5_meanBrightness 51 = .ok (.iload_n 1, 1) := dk_27 (dk_at dksX5_meanBrightness_2 3 rfl rfl)
theorem dX5_meanBrightness_52 : decode cX5_meanBrightness 52 = .ok (.i2d, 1) := dk_135 (dk_at dksX5_meanBrightness_2 4 rfl rfl)
theorem dX5_meanBrightness_53 : decode cX5_meanBrightness 53 = .ok (.iconst 3, 1) := dk_6 (dk_at dksX5_meanBrightness_2 5 rfl rfl)
theorem dX5_meanBrightness_54 : decode cX5_meanBrightness 54 = .ok (.aload_n 0, 1) := dk_42 (dk_at dksX5_meanBrightness_2 6 rfl rfl)
theorem dX5_meanBrightness_55 : decode cX5_meanBrightness 55 = .ok (.getfield 7, 3) := dk_180 0 7 (dk_at dksX5_meanBrightness_2 7 rfl rfl)
theorem dX5_meanBrightness_58 : decode cX5_meanBrightness 58 = .ok (.iconst 0, 1) := dk_3 (dk_at dksX5_meanBrightness_2 10 rfl rfl)
theorem dX5_meanBrightness_59 : decode cX5_meanBrightness 59 = .ok (.iaload, 1) := dk_46 (dk_at dksX5_meanBrightness_2 11 rfl rfl)
theorem dX5_meanBrightness_60 : decode cX5_meanBrightness 60 = .ok (.imul, 1) := dk_104 (dk_at dksX5_meanBrightness_2 12 rfl rfl)
theorem dX5_meanBrightness_61 : decode cX5_meanBrightness 61 = .ok (.i2d, 1) := dk_135 (dk_at dksX5_meanBrightness_2 13 rfl rfl)
theorem dX5_meanBrightness_62 : decode cX5_meanBrightness 62 = .ok (.ddiv, 1) := dk_111 (dk_at dksX5_meanBrightness_2 14 rfl rfl)
theorem dX5_meanBrightness_63 : decode cX5_meanBrightness 63 = .ok (.dreturn, 1) := dk_175 (dk_at dksX5_meanBrightness_2 15 rfl rfl)
def dkwX5_greyShare_1 : List UInt8 := [167, 0, 16, 42, 182, 0, 207, 134, 42, 180, 0, 7, 3, 46, 134, 110, 174]
abbrev dktX5_greyShare_1 : List UInt8 := dkwX5_greyShare_1 ++ []
def dkwX5_greyShare_0 : List UInt8 := [42, 42, 180, 0, 7, 3, 46, 158, 0, 7, 4, 167, 0, 4, 3, 182, 0, 219, 158, 0, 7, 11]
abbrev dktX5_greyShare_0 : List UInt8 := dkwX5_greyShare_0 ++ dktX5_greyShare_1
theorem dksX5_greyShare_0 : cX5_greyShare.data.toList.drop 0 = dktX5_greyShare_0 := by decide +kernel
theorem dksX5_greyShare_1 : cX5_greyShare.data.toList.drop 22 = dktX5_greyShare_1 := dk_seg dksX5_greyShare_0 22 rfl rfl
theorem dX5_greyShare_0 : decode cX5_greyShare 0 = .ok (.aload_n 0, 1) := dk_42 (dk_at dksX5_greyShare_0 0 rfl rfl)
theorem dX5_greyShare_1 : decode cX5_greyShare 1 = .ok (.aload_n 0, 1) := dk_42 (dk_at dksX5_greyShare_0 1 rfl rfl)
theorem dX5_greyShare_2 : decode cX5_greyShare 2 = .ok (.getfield 7, 3) := dk_180 0 7 (dk_at dksX5_greyShare_0 2 rfl rfl)
theorem dX5_greyShare_5 : decode cX5_greyShare 5 = .ok (.iconst 0, 1) := dk_3 (dk_at dksX5_greyShare_0 5 rfl rfl)
theorem dX5_greyShare_6 : decode cX5_greyShare 6 = .ok (.iaload, 1) := dk_46 (dk_at dksX5_greyShare_0 6 rfl rfl)
theorem dX5_greyShare_7 : decode cX5_greyShare 7 = .ok (.ifCond .le 7, 3) := dk_158 0 7 (dk_at dksX5_greyShare_0 7 rfl rfl)
theorem dX5_greyShare_10 : decode cX5_greyShare 10 = .ok (.iconst 1, 1) := dk_4 (dk_at dksX5_greyShare_0 10 rfl rfl)
theorem dX5_greyShare_11 : decode cX5_greyShare 11 = .ok (.goto 4, 3) := dk_167 0 4 (dk_at dksX5_greyShare_0 11 rfl rfl)
theorem dX5_greyShare_14 : decode cX5_greyShare 14 = .ok (.iconst 0, 1) := dk_3 (dk_at dksX5_greyShare_0 14 rfl rfl)
theorem dX5_greyShare_15 : decode cX5_greyShare 15 = .ok (.invokevirtual 219, 3) := dk_182 0 219 (dk_at dksX5_greyShare_0 15 rfl rfl)
theorem dX5_greyShare_18 : decode cX5_greyShare 18 = .ok (.ifCond .le 7, 3) := dk_158 0 7 (dk_at dksX5_greyShare_0 18 rfl rfl)
theorem dX5_greyShare_21 : decode cX5_greyShare 21 = .ok (.fconst 0, 1) := dk_11 (dk_at dksX5_greyShare_0 21 rfl rfl)
theorem dX5_greyShare_22 : decode cX5_greyShare 22 = .ok (.goto 16, 3) := dk_167 0 16 (dk_at dksX5_greyShare_1 0 rfl rfl)
theorem dX5_greyShare_25 : decode cX5_greyShare 25 = .ok (.aload_n 0, 1) := dk_42 (dk_at dksX5_greyShare_1 3 rfl rfl)
theorem dX5_greyShare_26 : decode cX5_greyShare 26 = .ok (.invokevirtual 207, 3) := dk_182 0 207 (dk_at dksX5_greyShare_1 4 rfl rfl)
theorem dX5_greyShare_29 : decode cX5_greyShare 29 = .ok (.i2f, 1) := dk_134 (dk_at dksX5_greyShare_1 7 rfl rfl)
theorem dX5_greyShare_30 : decode cX5_greyShare 30 = .ok (.aload_n 0, 1) := dk_42 (dk_at dksX5_greyShare_1 8 rfl rfl)
theorem dX5_greyShare_31 : decode cX5_greyShare 31 = .ok (.getfield 7, 3) := dk_180 0 7 (dk_at dksX5_greyShare_1 9 rfl rfl)
theorem dX5_greyShare_34 : decode cX5_greyShare 34 = .ok (.iconst 0, 1) := dk_3 (dk_at dksX5_greyShare_1 12 rfl rfl)
theorem dX5_greyShare_35 : decode cX5_greyShare 35 = .ok (.iaload, 1) := dk_46 (dk_at dksX5_greyShare_1 13 rfl rfl)
theorem dX5_greyShare_36 : decode cX5_greyShare 36 = .ok (.i2f, 1) := dk_134 (dk_at dksX5_greyShare_1 14 rfl rfl)
theorem dX5_greyShare_37 : decode cX5_greyShare 37 = .ok (.fdiv, 1) := dk_110 (dk_at dksX5_greyShare_1 15 rfl rfl)
theorem dX5_greyShare_38 : decode cX5_greyShare 38 = .ok (.freturn, 1) := dk_174 (dk_at dksX5_greyShare_1 16 rfl rfl)
def dkwX5_isConsistent_0 : List UInt8 := [42, 4, 182, 0, 216, 4, 160, 0, 7, 4, 167, 0, 4, 3, 172]
abbrev dktX5_isConsistent_0 : List UInt8 := dkwX5_isConsistent_0 ++ []
theorem dksX5_isConsistent_0 : cX5_isConsistent.data.toList.drop 0 = dktX5_isConsistent_0 := by decide +kernel
theorem dX5_isConsistent_0 : decode cX5_isConsistent 0 = .ok (.aload_n 0, 1) := dk_42 (dk_at dksX5_isConsistent_0 0 rfl rfl)
theorem dX5_isConsistent_1 : decode cX5_isConsistent 1 = .ok (.iconst 1, 1) := dk_4 (dk_at dksX5_isConsistent_0 1 rfl rfl)
theorem dX5_isConsistent_2 : decode cX5_isConsistent 2 = .ok (.invokevirtual 216, 3) := dk_182 0 216 (dk_at dksX5_isConsistent_0 2 rfl rfl)
theorem dX5_isConsistent_5 : decode cX5_isConsistent 5 = .ok (.iconst 1, 1) := dk_4 (dk_at dksX5_isConsistent_0 5 rfl rfl)
theorem dX5_isConsistent_6 : decode cX5_isConsistent 6 = .ok (.if_icmp .ne 7, 3) := dk_160 0 7 (dk_at dksX5_isConsistent_0 6 rfl rfl)
theorem dX5_isConsistent_9 : decode cX5_isConsistent 9 = .ok (.iconst 1, 1) := dk_4 (dk_at dksX5_isConsistent_0 9 rfl rfl)
theorem dX5_isConsistent_10 : decode cX5_isConsistent 10 = .ok (.goto 4, 3) := dk_167 0 4 (dk_at dksX5_isConsistent_0 10 rfl rfl)
theorem dX5_isConsistent_13 : decode cX5_isConsistent 13 = .ok (.iconst 0, 1) := dk_3 (dk_at dksX5_isConsistent_0 13 rfl rfl)
theorem dX5_isConsistent_14 : decode cX5_isConsistent 14 = .ok (.ireturn, 1) := dk_172 (dk_at dksX5_isConsistent_0 14 rfl rfl)
def dkwX5_renderColour_4 : List UInt8 := [16, 103, 182, 1, 15, 42, 180, 0, 54, 172]
abbrev dktX5_renderColour_4 : List UInt8 := dkwX5_renderColour_4 ++ []
def dkwX5_renderColour_3 : List UInt8 := [16, 100, 182, 1, 15, 42, 42, 28, 182, 0, 201, 182, 1, 18, 42, 28, 182, 0, 210, 154, 0, 9, 42]
abbrev dktX5_renderColour_3 : List UInt8 := dkwX5_renderColour_3 ++ dktX5_renderColour_4
def dkwX5_renderColour_2 : List UInt8 := [184, 0, 85, 182, 1, 21, 42, 16, 102, 182, 1, 15, 42, 42, 28, 7, 182, 0, 92, 182, 1, 18, 42]
abbrev dktX5_renderColour_2 : List UInt8 := dkwX5_renderColour_2 ++ dktX5_renderColour_3
def dkwX5_renderColour_1 : List UInt8 := [182, 0, 156, 61, 42, 3, 181, 0, 54, 42, 27, 182, 1, 18, 42, 16, 35, 182, 1, 15, 42, 28]
abbrev dktX5_renderColour_1 : List UInt8 := dkwX5_renderColour_1 ++ dktX5_renderColour_2
def dkwX5_renderColour_0 : List UInt8 := [42, 42, 27, 182, 0, 156, 155, 0, 7, 4, 167, 0, 4, 3, 182, 0, 219, 158, 0, 5, 3, 172, 42, 27]
abbrev dktX5_renderColour_0 : List UInt8 := dkwX5_renderColour_0 ++ dktX5_renderColour_1
theorem dksX5_renderColour_0 : cX5_renderColour.data.toList.drop 0 = dktX5_renderColour_0 := by decide +kernel
theorem dksX5_renderColour_1 : cX5_renderColour.data.toList.drop 24 = dktX5_renderColour_1 := dk_seg dksX5_renderColour_0 24 rfl rfl
theorem dksX5_renderColour_2 : cX5_renderColour.data.toList.drop 46 = dktX5_renderColour_2 := dk_seg dksX5_renderColour_1 22 rfl rfl
theorem dksX5_renderColour_3 : cX5_renderColour.data.toList.drop 69 = dktX5_renderColour_3 := dk_seg dksX5_renderColour_2 23 rfl rfl
theorem dksX5_renderColour_4 : cX5_renderColour.data.toList.drop 92 = dktX5_renderColour_4 := dk_seg dksX5_renderColour_3 23 rfl rfl
theorem dX5_renderColour_0 : decode cX5_renderColour 0 = .ok (.aload_n 0, 1) := dk_42 (dk_at dksX5_renderColour_0 0 rfl rfl)
theorem dX5_renderColour_1 : decode cX5_renderColour 1 = .ok (.aload_n 0, 1) := dk_42 (dk_at dksX5_renderColour_0 1 rfl rfl)
theorem dX5_renderColour_2 : decode cX5_renderColour 2 = .ok (.iload_n 1, 1) := dk_27 (dk_at dksX5_renderColour_0 2 rfl rfl)
theorem dX5_renderColour_3 : decode cX5_renderColour 3 = .ok (.invokevirtual 156, 3) := dk_182 0 156 (dk_at dksX5_renderColour_0 3 rfl rfl)
theorem dX5_renderColour_6 : decode cX5_renderColour 6 = .ok (.ifCond .lt 7, 3) := dk_155 0 7 (dk_at dksX5_renderColour_0 6 rfl rfl)
theorem dX5_renderColour_9 : decode cX5_renderColour 9 = .ok (.iconst 1, 1) := dk_4 (dk_at dksX5_renderColour_0 9 rfl rfl)
theorem dX5_renderColour_10 : decode cX5_renderColour 10 = .ok (.goto 4, 3) := dk_167 0 4 (dk_at dksX5_renderColour_0 10 rfl rfl)
theorem dX5_renderColour_13 : decode cX5_renderColour 13 = .ok (.iconst 0, 1) := dk_3 (dk_at dksX5_renderColour_0 13 rfl rfl)
theorem dX5_renderColour_14 : decode cX5_renderColour 14 = .ok (.invokevirtual 219, 3) := dk_182 0 219 (dk_at dksX5_renderColour_0 14 rfl rfl)
theorem dX5_renderColour_17 : decode cX5_renderColour 17 = .ok (.ifCond .le 5, 3) := dk_158 0 5 (dk_at dksX5_renderColour_0 17 rfl rfl)
theorem dX5_renderColour_20 : decode cX5_renderColour 20 = .ok (.iconst 0, 1) := dk_3 (dk_at dksX5_renderColour_0 20 rfl rfl)
theorem dX5_renderColour_21 : decode cX5_renderColour 21 = .ok (.ireturn, 1) := dk_172 (dk_at dksX5_renderColour_0 21 rfl rfl)
theorem dX5_renderColour_22 : decode cX5_renderColour 22 = .ok (.aload_n 0, 1) := dk_42 (dk_at dksX5_renderColour_0 22 rfl rfl)
theorem dX5_renderColour_23 : decode cX5_renderColour 23 = .ok (.iload_n 1, 1) := dk_27 (dk_at dksX5_renderColour_0 23 rfl rfl)
theorem dX5_renderColour_24 : decode cX5_renderColour 24 = .ok (.invokevirtual 156, 3) := dk_182 0 156 (dk_at dksX5_renderColour_1 0 rfl rfl)
theorem dX5_renderColour_27 : decode cX5_renderColour 27 = .ok (.istore_n 2, 1) := dk_61 (dk_at dksX5_renderColour_1 3 rfl rfl)
theorem dX5_renderColour_28 : decode cX5_renderColour 28 = .ok (.aload_n 0, 1) := dk_42 (dk_at dksX5_renderColour_1 4 rfl rfl)
theorem dX5_renderColour_29 : decode cX5_renderColour 29 = .ok (.iconst 0, 1) := dk_3 (dk_at dksX5_renderColour_1 5 rfl rfl)
theorem dX5_renderColour_30 : decode cX5_renderColour 30 = .ok (.putfield 54, 3) := dk_181 0 54 (dk_at dksX5_renderColour_1 6 rfl rfl)
theorem dX5_renderColour_33 : decode cX5_renderColour 33 = .ok (.aload_n 0, 1) := dk_42 (dk_at dksX5_renderColour_1 9 rfl rfl)
theorem dX5_renderColour_34 : decode cX5_renderColour 34 = .ok (.iload_n 1, 1) := dk_27 (dk_at dksX5_renderColour_1 10 rfl rfl)
theorem dX5_renderColour_35 : decode cX5_renderColour 35 = .ok (.invokevirtual 274, 3) := dk_182 1 18 (dk_at dksX5_renderColour_1 11 rfl rfl)
theorem dX5_renderColour_38 : decode cX5_renderColour 38 = .ok (.aload_n 0, 1) := dk_42 (dk_at dksX5_renderColour_1 14 rfl rfl)
theorem dX5_renderColour_39 : decode cX5_renderColour 39 = .ok (.bipush 35, 2) := dk_16 35 (dk_at dksX5_renderColour_1 15 rfl rfl)
theorem dX5_renderColour_41 : decode cX5_renderColour 41 = .ok (.invokevirtual 271, 3) := dk_182 1 15 (dk_at dksX5_renderColour_1 17 rfl rfl)
theorem dX5_renderColour_44 : decode cX5_renderColour 44 = .ok (.aload_n 0, 1) := dk_42 (dk_at dksX5_renderColour_1 20 rfl rfl)
theorem dX5_renderColour_45 : decode cX5_renderColour 45 = .ok (.iload_n 2, 1) := dk_28 (dk_at dksX5_renderColour_1 21 rfl rfl)
theorem dX5_renderColour_46 : decode cX5_renderColour 46 = .ok (.invokestatic 85, 3) := dk_184 0 85 (dk_at dksX5_renderColour_2 0 rfl rfl)
theorem dX5_renderColour_49 : decode cX5_renderColour 49 = .ok (.invokevirtual 277, 3) := dk_182 1 21 (dk_at dksX5_renderColour_2 3 rfl rfl)
theorem dX5_renderColour_52 : decode cX5_renderColour 52 = .ok (.aload_n 0, 1) := dk_42 (dk_at dksX5_renderColour_2 6 rfl rfl)
theorem dX5_renderColour_53 : decode cX5_renderColour 53 = .ok (.bipush 102, 2) := dk_16 102 (dk_at dksX5_renderColour_2 7 rfl rfl)
theorem dX5_renderColour_55 : decode cX5_renderColour 55 = .ok (.invokevirtual 271, 3) := dk_182 1 15 (dk_at dksX5_renderColour_2 9 rfl rfl)
theorem dX5_renderColour_58 : decode cX5_renderColour 58 = .ok (.aload_n 0, 1) := dk_42 (dk_at dksX5_renderColour_2 12 rfl rfl)
theorem dX5_renderColour_59 : decode cX5_renderColour 59 = .ok (.aload_n 0, 1) := dk_42 (dk_at dksX5_renderColour_2 13 rfl rfl)
theorem dX5_renderColour_60 : decode cX5_renderColour 60 = .ok (.iload_n 2, 1) := dk_28 (dk_at dksX5_renderColour_2 14 rfl rfl)
theorem dX5_renderColour_61 : decode cX5_renderColour 61 = .ok (.iconst 4, 1) := dk_7 (dk_at dksX5_renderColour_2 15 rfl rfl)
theorem dX5_renderColour_62 : decode cX5_renderColour 62 = .ok (.invokevirtual 92, 3) := dk_182 0 92 (dk_at dksX5_renderColour_2 16 rfl rfl)
theorem dX5_renderColour_65 : decode cX5_renderColour 65 = .ok (.invokevirtual 274, 3) := dk_182 1 18 (dk_at dksX5_renderColour_2 19 rfl rfl)
theorem dX5_renderColour_68 : decode cX5_renderColour 68 = .ok (.aload_n 0, 1) := dk_42 (dk_at dksX5_renderColour_2 22 rfl rfl)
theorem dX5_renderColour_69 : decode cX5_renderColour 69 = .ok (.bipush 100, 2) := dk_16 100 (dk_at dksX5_renderColour_3 0 rfl rfl)
theorem dX5_renderColour_71 : decode cX5_renderColour 71 = .ok (.invokevirtual 271, 3) := dk_182 1 15 (dk_at dksX5_renderColour_3 2 rfl rfl)
theorem dX5_renderColour_74 : decode cX5_renderColour 74 = .ok (.aload_n 0, 1) := dk_42 (dk_at dksX5_renderColour_3 5 rfl rfl)
theorem dX5_renderColour_75 : decode cX5_renderColour 75 = .ok (.aload_n 0, 1) := dk_42 (dk_at dksX5_renderColour_3 6 rfl rfl)
theorem dX5_renderColour_76 : decode cX5_renderColour 76 = .ok (.iload_n 2, 1) := dk_28 (dk_at dksX5_renderColour_3 7 rfl rfl)
theorem dX5_renderColour_77 : decode cX5_renderColour 77 = .ok (.invokevirtual 201, 3) := dk_182 0 201 (dk_at dksX5_renderColour_3 8 rfl rfl)
theorem dX5_renderColour_80 : decode cX5_renderColour 80 = .ok (.invokevirtual 274, 3) := dk_182 1 18 (dk_at dksX5_renderColour_3 11 rfl rfl)
theorem dX5_renderColour_83 : decode cX5_renderColour 83 = .ok (.aload_n 0, 1) := dk_42 (dk_at dksX5_renderColour_3 14 rfl rfl)
theorem dX5_renderColour_84 : decode cX5_renderColour 84 = .ok (.iload_n 2, 1) := dk_28 (dk_at dksX5_renderColour_3 15 rfl rfl)
theorem dX5_renderColour_85 : decode cX5_renderColour 85 = .ok (.invokevirtual 210, 3) := dk_182 0 210 (dk_at dksX5_renderColour_3 16 rfl rfl)
theorem dX5_renderColour_88 : decode cX5_renderColour 88 = .ok (.ifCond .ne 9, 3) := dk_154 0 9 (dk_at dksX5_renderColour_3 19 rfl rfl)
theorem dX5_renderColour_91 : decode cX5_renderColour 91 = .ok (.aload_n 0, 1) := dk_42 (dk_at dksX5_renderColour_3 22 rfl rfl)
theorem dX5_renderColour_92 : decode cX5_renderColour 92 = .ok (.bipush 103, 2) := dk_16 103 (dk_at dksX5_renderColour_4 0 rfl rfl)
theorem dX5_renderColour_94 : decode cX5_renderColour 94 = .ok (.invokevirtual 271, 3) := dk_182 1 15 (dk_at dksX5_renderColour_4 2 rfl rfl)
theorem dX5_renderColour_97 : decode cX5_renderColour 97 = .ok (.aload_n 0, 1) := dk_42 (dk_at dksX5_renderColour_4 5 rfl rfl)
theorem dX5_renderColour_98 : decode cX5_renderColour 98 = .ok (.getfield 54, 3) := dk_180 0 54 (dk_at dksX5_renderColour_4 6 rfl rfl)
theorem dX5_renderColour_101 : decode cX5_renderColour 101 = .ok (.ireturn, 1) := dk_172 (dk_at dksX5_renderColour_4 9 rfl rfl)
def dkwX5_writeNumber_1 : List UInt8 := [16, 48, 27, 28, 108, 16, 10, 112, 96, 182, 1, 15, 28, 16, 10, 108, 61, 167, 255, 234, 177]
abbrev dktX5_writeNumber_1 : List UInt8 := dkwX5_writeNumber_1 ++ []
def dkwX5_writeNumber_0 : List UInt8 := [4, 61, 27, 28, 108, 16, 9, 164, 0, 11, 28, 16, 10, 104, 61, 167, 255, 243, 28, 158, 0, 24, 42]
abbrev dktX5_writeNumber_0 : List UInt8 := dkwX5_writeNumber_0 ++ dktX5_writeNumber_1
theorem dksX5_writeNumber_0 : cX5_writeNumber.data.toList.drop 0 = dktX5_writeNumber_0 := by decide +kernel
theorem dksX5_writeNumber_1 : cX5_writeNumber.data.toList.drop 23 = dktX5_writeNumber_1 := dk_seg dksX5_writeNumber_0 23 rfl rfl
theorem dX5_writeNumber_0 : decode cX5_writeNumber 0 = .ok (.iconst 1, 1) := dk_4 (dk_at dksX5_writeNumber_0 0 rfl rfl)
theorem dX5_writeNumber_1 : decode cX5_writeNumber 1 = .ok (.istore_n 2, 1) := dk_61 (dk_at dksX5_writeNumber_0 1 rfl rfl)
theorem dX5_writeNumber_2 : decode cX5_writeNumber 2 = .ok (.iload_n 1, 1) := dk_27 (dk_at dksX5_writeNumber_0 2 rfl rfl)
theorem dX5_writeNumber_3 : decode cX5_writeNumber 3 = .ok (.iload_n 2, 1) := dk_28 (dk_at dksX5_writeNumber_0 3 rfl rfl)
theorem dX5_writeNumber_4 : decode cX5_writeNumber 4 = .ok (.idiv, 1) := dk_108 (dk_at dksX5_writeNumber_0 4 rfl rfl)
theorem dX5_writeNumber_5 : decode cX5_writeNumber 5 = .ok (.bipush 9, 2) := dk_16 9 (dk_at dksX5_writeNumber_0 5 rfl rfl)
theorem dX5_writeNumber_7 : decode cX5_writeNumber 7 = .ok (.if_icmp .le 11, 3) := dk_164 0 11 (dk_at dksX5_writeNumber_0 7 rfl rfl)
theorem dX5_writeNumber_10 : decode cX5_writeNumber 10 = .ok (.iload_n 2, 1) := dk_28 (dk_at dksX5_writeNumber_0 10 rfl rfl)
theorem dX5_writeNumber_11 : decode cX5_writeNumber 11 = .ok (.bipush 10, 2) := dk_16 10 (dk_at dksX5_writeNumber_0 11 rfl rfl)
theorem dX5_writeNumber_13 : decode cX5_writeNumber 13 = .ok (.imul, 1) := dk_104 (dk_at dksX5_writeNumber_0 13 rfl rfl)
theorem dX5_writeNumber_14 : decode cX5_writeNumber 14 = .ok (.istore_n 2, 1) := dk_61 (dk_at dksX5_writeNumber_0 14 rfl rfl)
theorem dX5_writeNumber_15 : decode cX5_writeNumber 15 = .ok (.goto (-13), 3) := dk_167 255 243 (dk_at dksX5_writeNumber_0 15 rfl rfl)
theorem dX5_writeNumber_18 : decode cX5_writeNumber 18 = .ok (.iload_n 2, 1) := dk_28 (dk_at dksX5_writeNumber_0 18 rfl rfl)
theorem dX5_writeNumber_19 : decode cX5_writeNumber 19 = .ok (.ifCond .le 24, 3) := dk_158 0 24 (dk_at dksX5_writeNumber_0 19 rfl rfl)
theorem dX5_writeNumber_22 : decode cX5_writeNumber 22 = .ok (.aload_n 0, 1) := dk_42 (dk_at dksX5_writeNumber_0 22 rfl rfl)
theorem dX5_writeNumber_23 : decode cX5_writeNumber 23 = .ok (.bipush 48, 2) := dk_16 48 (dk_at dksX5_writeNumber_1 0 rfl rfl)
theorem dX5_writeNumber_25 : decode cX5_writeNumber 25 = .ok (.iload_n 1, 1) := dk_27 (dk_at dksX5_writeNumber_1 2 rfl rfl)
theorem dX5_writeNumber_26 : decode cX5_writeNumber 26 = .ok (.iload_n 2, 1) := dk_28 (dk_at dksX5_writeNumber_1 3 rfl rfl)
theorem dX5_writeNumber_27 : decode cX5_writeNumber 27 = .ok (.idiv, 1) := dk_108 (dk_at dksX5_writeNumber_1 4 rfl rfl)
theorem dX5_writeNumber_28 : decode cX5_writeNumber 28 = .ok (.bipush 10, 2) := dk_16 10 (dk_at dksX5_writeNumber_1 5 rfl rfl)
theorem dX5_writeNumber_30 : decode cX5_writeNumber 30 = .ok (.irem, 1) := dk_112 (dk_at dksX5_writeNumber_1 7 rfl rfl)
theorem dX5_writeNumber_31 : decode cX5_writeNumber 31 = .ok (.iadd, 1) := dk_96 (dk_at dksX5_writeNumber_1 8 rfl rfl)
theorem dX5_writeNumber_32 : decode cX5_writeNumber 32 = .ok (.invokevirtual 271, 3) := dk_182 1 15 (dk_at dksX5_writeNumber_1 9 rfl rfl)
theorem dX5_writeNumber_35 : decode cX5_writeNumber 35 = .ok (.iload_n 2, 1) := dk_28 (dk_at dksX5_writeNumber_1 12 rfl rfl)
theorem dX5_writeNumber_36 : decode cX5_writeNumber 36 = .ok (.bipush 10, 2) := dk_16 10 (dk_at dksX5_writeNumber_1 13 rfl rfl)
theorem dX5_writeNumber_38 : decode cX5_writeNumber 38 = .ok (.idiv, 1) := dk_108 (dk_at dksX5_writeNumber_1 15 rfl rfl)
theorem dX5_writeNumber_39 : decode cX5_writeNumber 39 = .ok (.istore_n 2, 1) := dk_61 (dk_at dksX5_writeNumber_1 16 rfl rfl)
theorem dX5_writeNumber_40 : decode cX5_writeNumber 40 = .ok (.goto (-22), 3) := dk_167 255 234 (dk_at dksX5_writeNumber_1 17 rfl rfl)
theorem dX5_writeNumber_43 : decode cX5_writeNumber 43 = .ok (.return_, 1) := dk_177 (dk_at dksX5_writeNumber_1 20 rfl rfl)
def dkwX5_write_0 : List UInt8 := [42, 180, 0, 51, 42, 180, 0, 54, 27, 79, 42, 89, 180, 0, 54, 4, 96, 181, 0, 54, 177]
abbrev dktX5_write_0 : List UInt8 := dkwX5_write_0 ++ []
theorem dksX5_write_0 : cX5_write.data.toList.drop 0 = dktX5_write_0 := by decide +kernel
theorem dX5_write_0 : decode cX5_write 0 = .ok (.aload_n 0, 1) := dk_42 (dk_at dksX5_write_0 0 rfl rfl)
theorem dX5_write_1 : decode cX5_write 1 = .ok (.getfield 51, 3) := dk_180 0 51 (dk_at dksX5_write_0 1 rfl rfl)
theorem dX5_write_4 : decode cX5_write 4 = .ok (.aload_n 0, 1) := dk_42 (dk_at dksX5_write_0 4 rfl rfl)
theorem dX5_write_5 : decode cX5_write 5 = .ok (.getfield 54, 3) := dk_180 0 54 (dk_at dksX5_write_0 5 rfl rfl)
theorem dX5_write_8 : decode cX5_write 8 = .ok (.iload_n 1, 1) := dk_27 (dk_at dksX5_write_0 8 rfl rfl)
theorem dX5_write_9 : decode cX5_write 9 = .ok (.iastore, 1) := dk_79 (dk_at dksX5_write_0 9 rfl rfl)
theorem dX5_write_10 : decode cX5_write 10 = .ok (.aload_n 0, 1) := dk_42 (dk_at dksX5_write_0 10 rfl rfl)
theorem dX5_write_11 : decode cX5_write 11 = .ok (.dup, 1) := dk_89 (dk_at dksX5_write_0 11 rfl rfl)
theorem dX5_write_12 : decode cX5_write 12 = .ok (.getfield 54, 3) := dk_180 0 54 (dk_at dksX5_write_0 12 rfl rfl)
theorem dX5_write_15 : decode cX5_write 15 = .ok (.iconst 1, 1) := dk_4 (dk_at dksX5_write_0 15 rfl rfl)
theorem dX5_write_16 : decode cX5_write 16 = .ok (.iadd, 1) := dk_96 (dk_at dksX5_write_0 16 rfl rfl)
theorem dX5_write_17 : decode cX5_write 17 = .ok (.putfield 54, 3) := dk_181 0 54 (dk_at dksX5_write_0 17 rfl rfl)
theorem dX5_write_20 : decode cX5_write 20 = .ok (.return_, 1) := dk_177 (dk_at dksX5_write_0 20 rfl rfl)
def dkwX5_writeParts_1 : List UInt8 := [28, 96, 46, 182, 1, 18, 132, 2, 1, 167, 255, 225, 177]
abbrev dktX5_writeParts_1 : List UInt8 := dkwX5_writeParts_1 ++ []
def dkwX5_writeParts_0 : List UInt8 := [4, 61, 28, 6, 163, 0, 32, 28, 4, 164, 0, 9, 42, 16, 47, 182, 1, 15, 42, 42, 180, 0, 7, 27]
abbrev dktX5_writeParts_0 : List UInt8 := dkwX5_writeParts_0 ++ dktX5_writeParts_1
theorem dksX5_writeParts_0 : cX5_writeParts.data.toList.drop 0 = dktX5_writeParts_0 := by decide +kernel
theorem dksX5_writeParts_1 : cX5_writeParts.data.toList.drop 24 = dktX5_writeParts_1 := dk_seg dksX5_writeParts_0 24 rfl rfl
theorem dX5_writeParts_0 : decode cX5_writeParts 0 = .ok (.iconst 1, 1) := dk_4 (dk_at dksX5_writeParts_0 0 rfl rfl)
theorem dX5_writeParts_1 : decode cX5_writeParts 1 = .ok (.istore_n 2, 1) := dk_61 (dk_at dksX5_writeParts_0 1 rfl rfl)
theorem dX5_writeParts_2 : decode cX5_writeParts 2 = .ok (.iload_n 2, 1) := dk_28 (dk_at dksX5_writeParts_0 2 rfl rfl)
theorem dX5_writeParts_3 : decode cX5_writeParts 3 = .ok (.iconst 3, 1) := dk_6 (dk_at dksX5_writeParts_0 3 rfl rfl)
theorem dX5_writeParts_4 : decode cX5_writeParts 4 = .ok (.if_icmp .gt 32, 3) := dk_163 0 32 (dk_at dksX5_writeParts_0 4 rfl rfl)
theorem dX5_writeParts_7 : decode cX5_writeParts 7 = .ok (.iload_n 2, 1) := dk_28 (dk_at dksX5_writeParts_0 7 rfl rfl)
theorem dX5_writeParts_8 : decode cX5_writeParts 8 = .ok (.iconst 1, 1) := dk_4 (dk_at dksX5_writeParts_0 8 rfl rfl)
theorem dX5_writeParts_9 : decode cX5_writeParts 9 = .ok (.if_icmp .le 9, 3) := dk_164 0 9 (dk_at dksX5_writeParts_0 9 rfl rfl)
theorem dX5_writeParts_12 : decode cX5_writeParts 12 = .ok (.aload_n 0, 1) := dk_42 (dk_at dksX5_writeParts_0 12 rfl rfl)
theorem dX5_writeParts_13 : decode cX5_writeParts 13 = .ok (.bipush 47, 2) := dk_16 47 (dk_at dksX5_writeParts_0 13 rfl rfl)
theorem dX5_writeParts_15 : decode cX5_writeParts 15 = .ok (.invokevirtual 271, 3) := dk_182 1 15 (dk_at dksX5_writeParts_0 15 rfl rfl)
theorem dX5_writeParts_18 : decode cX5_writeParts 18 = .ok (.aload_n 0, 1) := dk_42 (dk_at dksX5_writeParts_0 18 rfl rfl)
theorem dX5_writeParts_19 : decode cX5_writeParts 19 = .ok (.aload_n 0, 1) := dk_42 (dk_at dksX5_writeParts_0 19 rfl rfl)
theorem dX5_writeParts_20 : decode cX5_writeParts 20 = .ok (.getfield 7, 3) := dk_180 0 7 (dk_at dksX5_writeParts_0 20 rfl rfl)
theorem dX5_writeParts_23 : decode cX5_writeParts 23 = .ok (.iload_n 1, 1) := dk_27 (dk_at dksX5_writeParts_0 23 rfl rfl)
theorem dX5_writeParts_24 : decode cX5_writeParts 24 = .ok (.iload_n 2, 1) := dk_28 (dk_at dksX5_writeParts_1 0 rfl rfl)
theorem dX5_writeParts_25 : decode cX5_writeParts 25 = .ok (.iadd, 1) := dk_96 (dk_at dksX5_writeParts_1 1 rfl rfl)
theorem dX5_writeParts_26 : decode cX5_writeParts 26 = .ok (.iaload, 1) := dk_46 (dk_at dksX5_writeParts_1 2 rfl rfl)
theorem dX5_writeParts_27 : decode cX5_writeParts 27 = .ok (.invokevirtual 274, 3) := dk_182 1 18 (dk_at dksX5_writeParts_1 3 rfl rfl)
theorem dX5_writeParts_30 : decode cX5_writeParts 30 = .ok (.iinc 2 1, 3) := dk_132 2 1 (dk_at dksX5_writeParts_1 6 rfl rfl)
theorem dX5_writeParts_33 : decode cX5_writeParts 33 = .ok (.goto (-31), 3) := dk_167 255 225 (dk_at dksX5_writeParts_1 9 rfl rfl)
theorem dX5_writeParts_36 : decode cX5_writeParts 36 = .ok (.return_, 1) := dk_177 (dk_at dksX5_writeParts_1 12 rfl rfl)
def dkwX5_renderReport_3 : List UInt8 := [16, 43, 182, 1, 15, 42, 42, 28, 8, 182, 0, 96, 182, 1, 18, 42, 180, 0, 54, 172]
abbrev dktX5_renderReport_3 : List UInt8 := dkwX5_renderReport_3 ++ []
def dkwX5_renderReport_2 : List UInt8 := [184, 0, 89, 182, 1, 21, 42, 16, 126, 182, 1, 15, 42, 42, 28, 7, 182, 0, 96, 182, 1, 18, 42]
abbrev dktX5_renderReport_2 : List UInt8 := dkwX5_renderReport_2 ++ dktX5_renderReport_3
def dkwX5_renderReport_1 : List UInt8 := [182, 0, 146, 61, 42, 3, 181, 0, 54, 42, 27, 182, 1, 18, 42, 16, 63, 182, 1, 15, 42, 28]
abbrev dktX5_renderReport_1 : List UInt8 := dkwX5_renderReport_1 ++ dktX5_renderReport_2
def dkwX5_renderReport_0 : List UInt8 := [42, 42, 27, 182, 0, 146, 155, 0, 7, 4, 167, 0, 4, 3, 182, 0, 219, 158, 0, 5, 3, 172, 42, 27]
abbrev dktX5_renderReport_0 : List UInt8 := dkwX5_renderReport_0 ++ dktX5_renderReport_1
theorem dksX5_renderReport_0 : cX5_renderReport.data.toList.drop 0 = dktX5_renderReport_0 := by decide +kernel
theorem dksX5_renderReport_1 : cX5_renderReport.data.toList.drop 24 = dktX5_renderReport_1 := dk_seg dksX5_renderReport_0 24 rfl rfl
theorem dksX5_renderReport_2 : cX5_renderReport.data.toList.drop 46 = dktX5_renderReport_2 := dk_seg dksX5_renderReport_1 22 rfl rfl
theorem dksX5_renderReport_3 : cX5_renderReport.data.toList.drop 69 = dktX5_renderReport_3 := dk_seg dksX5_renderReport_2 23 rfl rfl
theorem dX5_renderReport_0 : decode cX5_renderReport 0 = .ok (.aload_n 0, 1) := dk_42 (dk_at dksX5_renderReport_0 0 rfl rfl)
theorem dX5_renderReport_1 : decode cX5_renderReport 1 = .ok (.aload_n 0, 1) := dk_42 (dk_at dksX5_renderReport_0 1 rfl rfl)
theorem dX5_renderReport_2 : decode cX5_renderReport 2 = .ok (.iload_n 1, 1) := dk_27 (dk_at dksX5_renderReport_0 2 rfl rfl)
theorem dX5_renderReport_3 : decode cX5_renderReport 3 = .ok (.invokevirtual 146, 3) := dk_182 0 146 (dk_at dksX5_renderReport_0 3 rfl rfl)
theorem dX5_renderReport_6 : decode cX5_renderReport 6 = .ok (.ifCond .lt 7, 3) := dk_155 0 7 (dk_at dksX5_renderReport_0 6 rfl rfl)
theorem dX5_renderReport_9 : decode cX5_renderReport 9 = .ok (.iconst 1, 1) := dk_4 (dk_at dksX5_renderReport_0 9 rfl rfl)
theorem dX5_renderReport_10 : decode cX5_renderReport 10 = .ok (.goto 4, 3) := dk_167 0 4 (dk_at dksX5_renderReport_0 10 rfl rfl)
theorem dX5_renderReport_13 : decode cX5_renderReport 13 = .ok (.iconst 0, 1) := dk_3 (dk_at dksX5_renderReport_0 13 rfl rfl)
theorem dX5_renderReport_14 : decode cX5_renderReport 14 = .ok (.invokevirtual 219, 3) := dk_182 0 219 (dk_at dksX5_renderReport_0 14 rfl rfl)
theorem dX5_renderReport_17 : decode cX5_renderReport 17 = .ok (.ifCond .le 5, 3) := dk_158 0 5 (dk_at dksX5_renderReport_0 17 rfl rfl)
theorem dX5_renderReport_20 : decode cX5_renderReport 20 = .ok (.iconst 0, 1) := dk_3 (dk_at dksX5_renderReport_0 20 rfl rfl)
theorem dX5_renderReport_21 : decode cX5_renderReport 21 = .ok (.ireturn, 1) := dk_172 (dk_at dksX5_renderReport_0 21 rfl rfl)
theorem dX5_renderReport_22 : decode cX5_renderReport 22 = .ok (.aload_n 0, 1) := dk_42 (dk_at dksX5_renderReport_0 22 rfl rfl)
theorem dX5_renderReport_23 : decode cX5_renderReport 23 = .ok (.iload_n 1, 1) := dk_27 (dk_at dksX5_renderReport_0 23 rfl rfl)
theorem dX5_renderReport_24 : decode cX5_renderReport 24 = .ok (.invokevirtual 146, 3) := dk_182 0 146 (dk_at dksX5_renderReport_1 0 rfl rfl)
theorem dX5_renderReport_27 : decode cX5_renderReport 27 = .ok (.istore_n 2, 1) := dk_61 (dk_at dksX5_renderReport_1 3 rfl rfl)
theorem dX5_renderReport_28 : decode cX5_renderReport 28 = .ok (.aload_n 0, 1) := dk_42 (dk_at dksX5_renderReport_1 4 rfl rfl)
theorem dX5_renderReport_29 : decode cX5_renderReport 29 = .ok (.iconst 0, 1) := dk_3 (dk_at dksX5_renderReport_1 5 rfl rfl)
theorem dX5_renderReport_30 : decode cX5_renderReport 30 = .ok (.putfield 54, 3) := dk_181 0 54 (dk_at dksX5_renderReport_1 6 rfl rfl)
theorem dX5_renderReport_33 : decode cX5_renderReport 33 = .ok (.aload_n 0, 1) := dk_42 (dk_at dksX5_renderReport_1 9 rfl rfl)
theorem dX5_renderReport_34 : decode cX5_renderReport 34 = .ok (.iload_n 1, 1) := dk_27 (dk_at dksX5_renderReport_1 10 rfl rfl)
theorem dX5_renderReport_35 : decode cX5_renderReport 35 = .ok (.invokevirtual 274, 3) := dk_182 1 18 (dk_at dksX5_renderReport_1 11 rfl rfl)
theorem dX5_renderReport_38 : decode cX5_renderReport 38 = .ok (.aload_n 0, 1) := dk_42 (dk_at dksX5_renderReport_1 14 rfl rfl)
theorem dX5_renderReport_39 : decode cX5_renderReport 39 = .ok (.bipush 63, 2) := dk_16 63 (dk_at dksX5_renderReport_1 15 rfl rfl)
theorem dX5_renderReport_41 : decode cX5_renderReport 41 = .ok (.invokevirtual 271, 3) := dk_182 1 15 (dk_at dksX5_renderReport_1 17 rfl rfl)
theorem dX5_renderReport_44 : decode cX5_renderReport 44 = .ok (.aload_n 0, 1) := dk_42 (dk_at dksX5_renderReport_1 20 rfl rfl)
theorem dX5_renderReport_45 : decode cX5_renderReport 45 = .ok (.iload_n 2, 1) := dk_28 (dk_at dksX5_renderReport_1 21 rfl rfl)
theorem dX5_renderReport_46 : decode cX5_renderReport 46 = .ok (.invokestatic 89, 3) := dk_184 0 89 (dk_at dksX5_renderReport_2 0 rfl rfl)
theorem dX5_renderReport_49 : decode cX5_renderReport 49 = .ok (.invokevirtual 277, 3) := dk_182 1 21 (dk_at dksX5_renderReport_2 3 rfl rfl)
theorem dX5_renderReport_52 : decode cX5_renderReport 52 = .ok (.aload_n 0, 1) := dk_42 (dk_at dksX5_renderReport_2 6 rfl rfl)
theorem dX5_renderReport_53 : decode cX5_renderReport 53 = .ok (.bipush 126, 2) := dk_16 126 (dk_at dksX5_renderReport_2 7 rfl rfl)
theorem dX5_renderReport_55 : decode cX5_renderReport 55 = .ok (.invokevirtual 271, 3) := dk_182 1 15 (dk_at dksX5_renderReport_2 9 rfl rfl)
theorem dX5_renderReport_58 : decode cX5_renderReport 58 = .ok (.aload_n 0, 1) := dk_42 (dk_at dksX5_renderReport_2 12 rfl rfl)
theorem dX5_renderReport_59 : decode cX5_renderReport 59 = .ok (.aload_n 0, 1) := dk_42 (dk_at dksX5_renderReport_2 13 rfl rfl)
theorem dX5_renderReport_60 : decode cX5_renderReport 60 = .ok (.iload_n 2, 1) := dk_28 (dk_at dksX5_renderReport_2 14 rfl rfl)
theorem dX5_renderReport_61 : decode cX5_renderReport 61 = .ok (.iconst 4, 1) := dk_7 (dk_at dksX5_renderReport_2 15 rfl rfl)
theorem dX5_renderReport_62 : decode cX5_renderReport 62 = .ok (.invokevirtual 96, 3) := dk_182 0 96 (dk_at dksX5_renderReport_2 16 rfl rfl)
theorem dX5_renderReport_65 : decode cX5_renderReport 65 = .ok (.invokevirtual 274, 3) := dk_182 1 18 (dk_at dksX5_renderReport_2 19 rfl rfl)
theorem dX5_renderReport_68 : decode cX5_renderReport 68 = .ok (.aload_n 0, 1) := dk_42 (dk_at dksX5_renderReport_2 22 rfl rfl)
theorem dX5_renderReport_69 : decode cX5_renderReport 69 = .ok (.bipush 43, 2) := dk_16 43 (dk_at dksX5_renderReport_3 0 rfl rfl)
theorem dX5_renderReport_71 : decode cX5_renderReport 71 = .ok (.invokevirtual 271, 3) := dk_182 1 15 (dk_at dksX5_renderReport_3 2 rfl rfl)
theorem dX5_renderReport_74 : decode cX5_renderReport 74 = .ok (.aload_n 0, 1) := dk_42 (dk_at dksX5_renderReport_3 5 rfl rfl)
theorem dX5_renderReport_75 : decode cX5_renderReport 75 = .ok (.aload_n 0, 1) := dk_42 (dk_at dksX5_renderReport_3 6 rfl rfl)
theorem dX5_renderReport_76 : decode cX5_renderReport 76 = .ok (.iload_n 2, 1) := dk_28 (dk_at dksX5_renderReport_3 7 rfl rfl)
theorem dX5_renderReport_77 : decode cX5_renderReport 77 = .ok (.iconst 5, 1) := dk_8 (dk_at dksX5_renderReport_3 8 rfl rfl)
theorem dX5_renderReport_78 : decode cX5_renderReport 78 = .ok (.invokevirtual 96, 3) := dk_182 0 96 (dk_at dksX5_renderReport_3 9 rfl rfl)
theorem dX5_renderReport_81 : decode cX5_renderReport 81 = .ok (.invokevirtual 274, 3) := dk_182 1 18 (dk_at dksX5_renderReport_3 12 rfl rfl)
theorem dX5_renderReport_84 : decode cX5_renderReport 84 = .ok (.aload_n 0, 1) := dk_42 (dk_at dksX5_renderReport_3 15 rfl rfl)
theorem dX5_renderReport_85 : decode cX5_renderReport 85 = .ok (.getfield 54, 3) := dk_180 0 54 (dk_at dksX5_renderReport_3 16 rfl rfl)
theorem dX5_renderReport_88 : decode cX5_renderReport 88 = .ok (.ireturn, 1) := dk_172 (dk_at dksX5_renderReport_3 19 rfl rfl)
def dkwX5_outputAt_1 : List UInt8 := [180, 0, 51, 27, 46, 146, 172]
abbrev dktX5_outputAt_1 : List UInt8 := dkwX5_outputAt_1 ++ []
def dkwX5_outputAt_0 : List UInt8 := [42, 27, 3, 42, 180, 0, 54, 4, 100, 184, 0, 112, 182, 0, 219, 158, 0, 8, 16, 32, 167, 0, 10, 42]
abbrev dktX5_outputAt_0 : List UInt8 := dkwX5_outputAt_0 ++ dktX5_outputAt_1
theorem dksX5_outputAt_0 : cX5_outputAt.data.toList.drop 0 = dktX5_outputAt_0 := by decide +kernel
theorem dksX5_outputAt_1 : cX5_outputAt.data.toList.drop 24 = dktX5_outputAt_1 := dk_seg dksX5_outputAt_0 24 rfl rfl
theorem dX5_outputAt_0 : decode cX5_outputAt 0 = .ok (.aload_n 0, 1) := dk_42 (dk_at dksX5_outputAt_0 0 rfl rfl)
theorem dX5_outputAt_1 : decode cX5_outputAt 1 = .ok (.iload_n 1, 1) := dk_27 (dk_at dksX5_outputAt_0 1 rfl rfl)
theorem dX5_outputAt_2 : decode cX5_outputAt 2 = .ok (.iconst 0, 1) := dk_3 (dk_at dksX5_outputAt_0 2 rfl rfl)
theorem dX5_outputAt_3 : decode cX5_outputAt 3 = .ok (.aload_n 0, 1) := dk_42 (dk_at dksX5_outputAt_0 3 rfl rfl)
theorem dX5_outputAt_4 : decode cX5_outputAt 4 = .ok (.getfield 54, 3) := dk_180 0 54 (dk_at dksX5_outputAt_0 4 rfl rfl)
theorem dX5_outputAt_7 : decode cX5_outputAt 7 = .ok (.iconst 1, 1) := dk_4 (dk_at dksX5_outputAt_0 7 rfl rfl)
theorem dX5_outputAt_8 : decode cX5_outputAt 8 = .ok (.isub, 1) := dk_100 (dk_at dksX5_outputAt_0 8 rfl rfl)
theorem dX5_outputAt_9 : decode cX5_outputAt 9 = .ok (.invokestatic 112, 3) := dk_184 0 112 (dk_at dksX5_outputAt_0 9 rfl rfl)
theorem dX5_outputAt_12 : decode cX5_outputAt 12 = .ok (.invokevirtual 219, 3) := dk_182 0 219 (dk_at dksX5_outputAt_0 12 rfl rfl)
theorem dX5_outputAt_15 : decode cX5_outputAt 15 = .ok (.ifCond .le 8, 3) := dk_158 0 8 (dk_at dksX5_outputAt_0 15 rfl rfl)
theorem dX5_outputAt_18 : decode cX5_outputAt 18 = .ok (.bipush 32, 2) := dk_16 32 (dk_at dksX5_outputAt_0 18 rfl rfl)
theorem dX5_outputAt_20 : decode cX5_outputAt 20 = .ok (.goto 10, 3) := dk_167 0 10 (dk_at dksX5_outputAt_0 20 rfl rfl)
theorem dX5_outputAt_23 : decode cX5_outputAt 23 = .ok (.aload_n 0, 1) := dk_42 (dk_at dksX5_outputAt_0 23 rfl rfl)
theorem dX5_outputAt_24 : decode cX5_outputAt 24 = .ok (.getfield 51, 3) := dk_180 0 51 (dk_at dksX5_outputAt_1 0 rfl rfl)
theorem dX5_outputAt_27 : decode cX5_outputAt 27 = .ok (.iload_n 1, 1) := dk_27 (dk_at dksX5_outputAt_1 3 rfl rfl)
theorem dX5_outputAt_28 : decode cX5_outputAt 28 = .ok (.iaload, 1) := dk_46 (dk_at dksX5_outputAt_1 4 rfl rfl)
theorem dX5_outputAt_29 : decode cX5_outputAt 29 = .ok (.i2c, 1) := dk_146 (dk_at dksX5_outputAt_1 5 rfl rfl)
theorem dX5_outputAt_30 : decode cX5_outputAt 30 = .ok (.ireturn, 1) := dk_172 (dk_at dksX5_outputAt_1 6 rfl rfl)
def dkwX5_type_2 : List UInt8 := [42, 180, 0, 66, 27, 79, 42, 89, 180, 0, 66, 4, 96, 181, 0, 66, 42, 180, 0, 66, 172]
abbrev dktX5_type_2 : List UInt8 := dkwX5_type_2 ++ []
def dkwX5_type_1 : List UInt8 := [160, 0, 7, 5, 167, 0, 4, 3, 181, 0, 25, 42, 180, 0, 25, 158, 0, 5, 3, 172, 42, 180, 0, 57]
abbrev dktX5_type_1 : List UInt8 := dkwX5_type_1 ++ dktX5_type_2
def dkwX5_type_0 : List UInt8 := [42, 27, 16, 32, 16, 126, 184, 0, 112, 154, 0, 7, 4, 167, 0, 17, 42, 180, 0, 66, 16, 60]
abbrev dktX5_type_0 : List UInt8 := dkwX5_type_0 ++ dktX5_type_1
theorem dksX5_type_0 : cX5_type.data.toList.drop 0 = dktX5_type_0 := by decide +kernel
theorem dksX5_type_1 : cX5_type.data.toList.drop 22 = dktX5_type_1 := dk_seg dksX5_type_0 22 rfl rfl
theorem dksX5_type_2 : cX5_type.data.toList.drop 46 = dktX5_type_2 := dk_seg dksX5_type_1 24 rfl rfl
theorem dX5_type_0 : decode cX5_type 0 = .ok (.aload_n 0, 1) := dk_42 (dk_at dksX5_type_0 0 rfl rfl)
theorem dX5_type_1 : decode cX5_type 1 = .ok (.iload_n 1, 1) := dk_27 (dk_at dksX5_type_0 1 rfl rfl)
theorem dX5_type_2 : decode cX5_type 2 = .ok (.bipush 32, 2) := dk_16 32 (dk_at dksX5_type_0 2 rfl rfl)
theorem dX5_type_4 : decode cX5_type 4 = .ok (.bipush 126, 2) := dk_16 126 (dk_at dksX5_type_0 4 rfl rfl)
theorem dX5_type_6 : decode cX5_type 6 = .ok (.invokestatic 112, 3) := dk_184 0 112 (dk_at dksX5_type_0 6 rfl rfl)
theorem dX5_type_9 : decode cX5_type 9 = .ok (.ifCond .ne 7, 3) := dk_154 0 7 (dk_at dksX5_type_0 9 rfl rfl)
theorem dX5_type_12 : decode cX5_type 12 = .ok (.iconst 1, 1) := dk_4 (dk_at dksX5_type_0 12 rfl rfl)
theorem dX5_type_13 : decode cX5_type 13 = .ok (.goto 17, 3) := dk_167 0 17 (dk_at dksX5_type_0 13 rfl rfl)
theorem dX5_type_16 : decode cX5_type 16 = .ok (.aload_n 0, 1) := dk_42 (dk_at dksX5_type_0 16 rfl rfl)
theorem dX5_type_17 : decode cX5_type 17 = .ok (.getfield 66, 3) := dk_180 0 66 (dk_at dksX5_type_0 17 rfl rfl)
theorem dX5_type_20 : decode cX5_type 20 = .ok (.bipush 60, 2) := dk_16 60 (dk_at dksX5_type_0 20 rfl rfl)
theorem dX5_type_22 : decode cX5_type 22 = .ok (.if_icmp .ne 7, 3) := dk_160 0 7 (dk_at dksX5_type_1 0 rfl rfl)
theorem dX5_type_25 : decode cX5_type 25 = .ok (.iconst 2, 1) := dk_5 (dk_at dksX5_type_1 3 rfl rfl)
theorem dX5_type_26 : decode cX5_type 26 = .ok (.goto 4, 3) := dk_167 0 4 (dk_at dksX5_type_1 4 rfl rfl)
theorem dX5_type_29 : decode cX5_type 29 = .ok (.iconst 0, 1) := dk_3 (dk_at dksX5_type_1 7 rfl rfl)
theorem dX5_type_30 : decode cX5_type 30 = .ok (.putfield 25, 3) := dk_181 0 25 (dk_at dksX5_type_1 8 rfl rfl)
theorem dX5_type_33 : decode cX5_type 33 = .ok (.aload_n 0, 1) := dk_42 (dk_at dksX5_type_1 11 rfl rfl)
theorem dX5_type_34 : decode cX5_type 34 = .ok (.getfield 25, 3) := dk_180 0 25 (dk_at dksX5_type_1 12 rfl rfl)
theorem dX5_type_37 : decode cX5_type 37 = .ok (.ifCond .le 5, 3) := dk_158 0 5 (dk_at dksX5_type_1 15 rfl rfl)
theorem dX5_type_40 : decode cX5_type 40 = .ok (.iconst 0, 1) := dk_3 (dk_at dksX5_type_1 18 rfl rfl)
theorem dX5_type_41 : decode cX5_type 41 = .ok (.ireturn, 1) := dk_172 (dk_at dksX5_type_1 19 rfl rfl)
theorem dX5_type_42 : decode cX5_type 42 = .ok (.aload_n 0, 1) := dk_42 (dk_at dksX5_type_1 20 rfl rfl)
theorem dX5_type_43 : decode cX5_type 43 = .ok (.getfield 57, 3) := dk_180 0 57 (dk_at dksX5_type_1 21 rfl rfl)
theorem dX5_type_46 : decode cX5_type 46 = .ok (.aload_n 0, 1) := dk_42 (dk_at dksX5_type_2 0 rfl rfl)
theorem dX5_type_47 : decode cX5_type 47 = .ok (.getfield 66, 3) := dk_180 0 66 (dk_at dksX5_type_2 1 rfl rfl)
theorem dX5_type_50 : decode cX5_type 50 = .ok (.iload_n 1, 1) := dk_27 (dk_at dksX5_type_2 4 rfl rfl)
theorem dX5_type_51 : decode cX5_type 51 = .ok (.iastore, 1) := dk_79 (dk_at dksX5_type_2 5 rfl rfl)
theorem dX5_type_52 : decode cX5_type 52 = .ok (.aload_n 0, 1) := dk_42 (dk_at dksX5_type_2 6 rfl rfl)
theorem dX5_type_53 : decode cX5_type 53 = .ok (.dup, 1) := dk_89 (dk_at dksX5_type_2 7 rfl rfl)
theorem dX5_type_54 : decode cX5_type 54 = .ok (.getfield 66, 3) := dk_180 0 66 (dk_at dksX5_type_2 8 rfl rfl)
theorem dX5_type_57 : decode cX5_type 57 = .ok (.iconst 1, 1) := dk_4 (dk_at dksX5_type_2 11 rfl rfl)
theorem dX5_type_58 : decode cX5_type 58 = .ok (.iadd, 1) := dk_96 (dk_at dksX5_type_2 12 rfl rfl)
theorem dX5_type_59 : decode cX5_type 59 = .ok (.putfield 66, 3) := dk_181 0 66 (dk_at dksX5_type_2 13 rfl rfl)
theorem dX5_type_62 : decode cX5_type 62 = .ok (.aload_n 0, 1) := dk_42 (dk_at dksX5_type_2 16 rfl rfl)
theorem dX5_type_63 : decode cX5_type 63 = .ok (.getfield 66, 3) := dk_180 0 66 (dk_at dksX5_type_2 17 rfl rfl)
theorem dX5_type_66 : decode cX5_type 66 = .ok (.ireturn, 1) := dk_172 (dk_at dksX5_type_2 20 rfl rfl)
def dkwX5_runScript_8 : List UInt8 := [180, 0, 75, 182, 0, 136, 172]
abbrev dktX5_runScript_8 : List UInt8 := dkwX5_runScript_8 ++ []
def dkwX5_runScript_7 : List UInt8 := [181, 0, 35, 42, 21, 4, 181, 0, 38, 42, 5, 182, 0, 130, 172, 132, 2, 1, 167, 255, 103, 42, 42]
abbrev dktX5_runScript_7 : List UInt8 := dkwX5_runScript_7 ++ dktX5_runScript_8
def dkwX5_runScript_6 : List UInt8 := [96, 46, 182, 1, 66, 60, 167, 0, 33, 42, 180, 0, 13, 3, 42, 180, 0, 7, 3, 184, 0, 81, 42, 28]
abbrev dktX5_runScript_6 : List UInt8 := dkwX5_runScript_6 ++ dktX5_runScript_7
def dkwX5_runScript_5 : List UInt8 := [96, 46, 42, 180, 0, 63, 29, 5, 96, 46, 42, 180, 0, 63, 29, 6, 96, 46, 42, 180, 0, 63, 29, 7]
abbrev dktX5_runScript_5 : List UInt8 := dkwX5_runScript_5 ++ dktX5_runScript_6
def dkwX5_runScript_4 : List UInt8 := [21, 4, 154, 0, 55, 42, 42, 180, 0, 60, 28, 46, 42, 180, 0, 63, 29, 46, 42, 180, 0, 63, 29, 4]
abbrev dktX5_runScript_4 : List UInt8 := dkwX5_runScript_4 ++ dktX5_runScript_5
def dkwX5_runScript_3 : List UInt8 := [5, 96, 46, 42, 180, 0, 63, 29, 6, 96, 46, 42, 180, 0, 63, 29, 7, 96, 46, 182, 1, 62, 54, 4]
abbrev dktX5_runScript_3 : List UInt8 := dkwX5_runScript_3 ++ dktX5_runScript_4
def dkwX5_runScript_2 : List UInt8 := [180, 0, 60, 28, 46, 42, 180, 0, 63, 29, 46, 42, 180, 0, 63, 29, 4, 96, 46, 42, 180, 0, 63, 29]
abbrev dktX5_runScript_2 : List UInt8 := dkwX5_runScript_2 ++ dktX5_runScript_3
def dkwX5_runScript_1 : List UInt8 := [4, 182, 0, 130, 172, 3, 60, 3, 61, 28, 42, 180, 0, 75, 162, 0, 151, 16, 8, 28, 104, 62, 42, 42]
abbrev dktX5_runScript_1 : List UInt8 := dkwX5_runScript_1 ++ dktX5_runScript_2
def dkwX5_runScript_0 : List UInt8 := [42, 182, 0, 123, 42, 182, 1, 59, 42, 180, 0, 78, 153, 0, 17, 42, 42, 180, 0, 72, 181, 0, 32, 42]
abbrev dktX5_runScript_0 : List UInt8 := dkwX5_runScript_0 ++ dktX5_runScript_1
theorem dksX5_runScript_0 : cX5_runScript.data.toList.drop 0 = dktX5_runScript_0 := by decide +kernel
theorem dksX5_runScript_1 : cX5_runScript.data.toList.drop 24 = dktX5_runScript_1 := dk_seg dksX5_runScript_0 24 rfl rfl
theorem dksX5_runScript_2 : cX5_runScript.data.toList.drop 48 = dktX5_runScript_2 := dk_seg dksX5_runScript_1 24 rfl rfl
theorem dksX5_runScript_3 : cX5_runScript.data.toList.drop 72 = dktX5_runScript_3 := dk_seg dksX5_runScript_2 24 rfl rfl
theorem dksX5_runScript_4 : cX5_runScript.data.toList.drop 96 = dktX5_runScript_4 := dk_seg dksX5_runScript_3 24 rfl rfl
theorem dksX5_runScript_5 : cX5_runScript.data.toList.drop 120 = dktX5_runScript_5 := dk_seg dksX5_runScript_4 24 rfl rfl
theorem dksX5_runScript_6 : cX5_runScript.data.toList.drop 144 = dktX5_runScript_6 := dk_seg dksX5_runScript_5 24 rfl rfl
theorem dksX5_runScript_7 : cX5_runScript.data.toList.drop 168 = dktX5_runScript_7 := dk_seg dksX5_runScript_6 24 rfl rfl
theorem dksX5_runScript_8 : cX5_runScript.data.toList.drop 191 = dktX5_runScript_8 := dk_seg dksX5_runScript_7 23 rfl rfl
theorem dX5_runScript_0 : decode cX5_runScript 0 = .ok (.aload_n 0, 1) := dk_42 (dk_at dksX5_runScript_0 0 rfl rfl)
theorem dX5_runScript_1 : decode cX5_runScript 1 = .ok (.invokevirtual 123, 3) := dk_182 0 123 (dk_at dksX5_runScript_0 1 rfl rfl)
theorem dX5_runScript_4 : decode cX5_runScript 4 = .ok (.aload_n 0, 1) := dk_42 (dk_at dksX5_runScript_0 4 rfl rfl)
theorem dX5_runScript_5 : decode cX5_runScript 5 = .ok (.invokevirtual 315, 3) := dk_182 1 59 (dk_at dksX5_runScript_0 5 rfl rfl)
theorem dX5_runScript_8 : decode cX5_runScript 8 = .ok (.aload_n 0, 1) := dk_42 (dk_at dksX5_runScript_0 8 rfl rfl)
theorem dX5_runScript_9 : decode cX5_runScript 9 = .ok (.getfield 78, 3) := dk_180 0 78 (dk_at dksX5_runScript_0 9 rfl rfl)
theorem dX5_runScript_12 : decode cX5_runScript 12 = .ok (.ifCond .eq 17, 3) := dk_153 0 17 (dk_at dksX5_runScript_0 12 rfl rfl)
theorem dX5_runScript_15 : decode cX5_runScript 15 = .ok (.aload_n 0, 1) := dk_42 (dk_at dksX5_runScript_0 15 rfl rfl)
theorem dX5_runScript_16 : decode cX5_runScript 16 = .ok (.aload_n 0, 1) := dk_42 (dk_at dksX5_runScript_0 16 rfl rfl)
theorem dX5_runScript_17 : decode cX5_runScript 17 = .ok (.getfield 72, 3) := dk_180 0 72 (dk_at dksX5_runScript_0 17 rfl rfl)
theorem dX5_runScript_20 : decode cX5_runScript 20 = .ok (.putfield 32, 3) := dk_181 0 32 (dk_at dksX5_runScript_0 20 rfl rfl)
theorem dX5_runScript_23 : decode cX5_runScript 23 = .ok (.aload_n 0, 1) := dk_42 (dk_at dksX5_runScript_0 23 rfl rfl)
theorem dX5_runScript_24 : decode cX5_runScript 24 = .ok (.iconst 1, 1) := dk_4 (dk_at dksX5_runScript_1 0 rfl rfl)
theorem dX5_runScript_25 : decode cX5_runScript 25 = .ok (.invokevirtual 130, 3) := dk_182 0 130 (dk_at dksX5_runScript_1 1 rfl rfl)
theorem dX5_runScript_28 : decode cX5_runScript 28 = .ok (.ireturn, 1) := dk_172 (dk_at dksX5_runScript_1 4 rfl rfl)
theorem dX5_runScript_29 : decode cX5_runScript 29 = .ok (.iconst 0, 1) := dk_3 (dk_at dksX5_runScript_1 5 rfl rfl)
theorem dX5_runScript_30 : decode cX5_runScript 30 = .ok (.istore_n 1, 1) := dk_60 (dk_at dksX5_runScript_1 6 rfl rfl)
theorem dX5_runScript_31 : decode cX5_runScript 31 = .ok (.iconst 0, 1) := dk_3 (dk_at dksX5_runScript_1 7 rfl rfl)
theorem dX5_runScript_32 : decode cX5_runScript 32 = .ok (.istore_n 2, 1) := dk_61 (dk_at dksX5_runScript_1 8 rfl rfl)
theorem dX5_runScript_33 : decode cX5_runScript 33 = .ok (.iload_n 2, 1) := dk_28 (dk_at dksX5_runScript_1 9 rfl rfl)
theorem dX5_runScript_34 : decode cX5_runScript 34 = .ok (.aload_n 0, 1) := dk_42 (dk_at dksX5_runScript_1 10 rfl rfl)
theorem dX5_runScript_35 : decode cX5_runScript 35 = .ok (.getfield 75, 3) := dk_180 0 75 (dk_at dksX5_runScript_1 11 rfl rfl)
theorem dX5_runScript_38 : decode cX5_runScript 38 = .ok (.if_icmp .ge 151, 3) := dk_162 0 151 (dk_at dksX5_runScript_1 14 rfl rfl)
theorem dX5_runScript_41 : decode cX5_runScript 41 = .ok (.bipush 8, 2) := dk_16 8 (dk_at dksX5_runScript_1 17 rfl rfl)
theorem dX5_runScript_43 : decode cX5_runScript 43 = .ok (.iload_n 2, 1) := dk_28 (dk_at dksX5_runScript_1 19 rfl rfl)
theorem dX5_runScript_44 : decode cX5_runScript 44 = .ok (.imul, 1) := dk_104 (dk_at dksX5_runScript_1 20 rfl rfl)
theorem dX5_runScript_45 : decode cX5_runScript 45 = .ok (.istore_n 3, 1) := dk_62 (dk_at dksX5_runScript_1 21 rfl rfl)
theorem dX5_runScript_46 : decode cX5_runScript 46 = .ok (.aload_n 0, 1) := dk_42 (dk_at dksX5_runScript_1 22 rfl rfl)
theorem dX5_runScript_47 : decode cX5_runScript 47 = .ok (.aload_n 0, 1) := dk_42 (dk_at dksX5_runScript_1 23 rfl rfl)
theorem dX5_runScript_48 : decode cX5_runScript 48 = .ok (.getfield 60, 3) := dk_180 0 60 (dk_at dksX5_runScript_2 0 rfl rfl)
theorem dX5_runScript_51 : decode cX5_runScript 51 = .ok (.iload_n 2, 1) := dk_28 (dk_at dksX5_runScript_2 3 rfl rfl)
theorem dX5_runScript_52 : decode cX5_runScript 52 = .ok (.iaload, 1) := dk_46 (dk_at dksX5_runScript_2 4 rfl rfl)
theorem dX5_runScript_53 : decode cX5_runScript 53 = .ok (.aload_n 0, 1) := dk_42 (dk_at dksX5_runScript_2 5 rfl rfl)
theorem dX5_runScript_54 : decode cX5_runScript 54 = .ok (.getfield 63, 3) := dk_180 0 63 (dk_at dksX5_runScript_2 6 rfl rfl)
theorem dX5_runScript_57 : decode cX5_runScript 57 = .ok (.iload_n 3, 1) := dk_29 (dk_at dksX5_runScript_2 9 rfl rfl)
theorem dX5_runScript_58 : decode cX5_runScript 58 = .ok (.iaload, 1) := dk_46 (dk_at dksX5_runScript_2 10 rfl rfl)
theorem dX5_runScript_59 : decode cX5_runScript 59 = .ok (.aload_n 0, 1) := dk_42 (dk_at dksX5_runScript_2 11 rfl rfl)
theorem dX5_runScript_60 : decode cX5_runScript 60 = .ok (.getfield 63, 3) := dk_180 0 63 (dk_at dksX5_runScript_2 12 rfl rfl)
theorem dX5_runScript_63 : decode cX5_runScript 63 = .ok (.iload_n 3, 1) := dk_29 (dk_at dksX5_runScript_2 15 rfl rfl)
theorem dX5_runScript_64 : decode cX5_runScript 64 = .ok (.iconst 1, 1) := dk_4 (dk_at dksX5_runScript_2 16 rfl rfl)
theorem dX5_runScript_65 : decode cX5_runScript 65 = .ok (.iadd, 1) := dk_96 (dk_at dksX5_runScript_2 17 rfl rfl)
theorem dX5_runScript_66 : decode cX5_runScript 66 = .ok (.iaload, 1) := dk_46 (dk_at dksX5_runScript_2 18 rfl rfl)
theorem dX5_runScript_67 : decode cX5_runScript 67 = .ok (.aload_n 0, 1) := dk_42 (dk_at dksX5_runScript_2 19 rfl rfl)
theorem dX5_runScript_68 : decode cX5_runScript 68 = .ok (.getfield 63, 3) := dk_180 0 63 (dk_at dksX5_runScript_2 20 rfl rfl)
theorem dX5_runScript_71 : decode cX5_runScript 71 = .ok (.iload_n 3, 1) := dk_29 (dk_at dksX5_runScript_2 23 rfl rfl)
theorem dX5_runScript_72 : decode cX5_runScript 72 = .ok (.iconst 2, 1) := dk_5 (dk_at dksX5_runScript_3 0 rfl rfl)
theorem dX5_runScript_73 : decode cX5_runScript 73 = .ok (.iadd, 1) := dk_96 (dk_at dksX5_runScript_3 1 rfl rfl)
theorem dX5_runScript_74 : decode cX5_runScript 74 = .ok (.iaload, 1) := dk_46 (dk_at dksX5_runScript_3 2 rfl rfl)
theorem dX5_runScript_75 : decode cX5_runScript 75 = .ok (.aload_n 0, 1) := dk_42 (dk_at dksX5_runScript_3 3 rfl rfl)
theorem dX5_runScript_76 : decode cX5_runScript 76 = .ok (.getfield 63, 3) := dk_180 0 63 (dk_at dksX5_runScript_3 4 rfl rfl)
theorem dX5_runScript_79 : decode cX5_runScript 79 = .ok (.iload_n 3, 1) := dk_29 (dk_at dksX5_runScript_3 7 rfl rfl)
theorem dX5_runScript_80 : decode cX5_runScript 80 = .ok (.iconst 3, 1) := dk_6 (dk_at dksX5_runScript_3 8 rfl rfl)
theorem dX5_runScript_81 : decode cX5_runScript 81 = .ok (.iadd, 1) := dk_96 (dk_at dksX5_runScript_3 9 rfl rfl)
theorem dX5_runScript_82 : decode cX5_runScript 82 = .ok (.iaload, 1) := dk_46 (dk_at dksX5_runScript_3 10 rfl rfl)
theorem dX5_runScript_83 : decode cX5_runScript 83 = .ok (.aload_n 0, 1) := dk_42 (dk_at dksX5_runScript_3 11 rfl rfl)
theorem dX5_runScript_84 : decode cX5_runScript 84 = .ok (.getfield 63, 3) := dk_180 0 63 (dk_at dksX5_runScript_3 12 rfl rfl)
theorem dX5_runScript_87 : decode cX5_runScript 87 = .ok (.iload_n 3, 1) := dk_29 (dk_at dksX5_runScript_3 15 rfl rfl)
theorem dX5_runScript_88 : decode cX5_runScript 88 = .ok (.iconst 4, 1) := dk_7 (dk_at dksX5_runScript_3 16 rfl rfl)
theorem dX5_runScript_89 : decode cX5_runScript 89 = .ok (.iadd, 1) := dk_96 (dk_at dksX5_runScript_3 17 rfl rfl)
theorem dX5_runScript_90 : decode cX5_runScript 90 = .ok (.iaload, 1) := dk_46 (dk_at dksX5_runScript_3 18 rfl rfl)
theorem dX5_runScript_91 : decode cX5_runScript 91 = .ok (.invokevirtual 318, 3) := dk_182 1 62 (dk_at dksX5_runScript_3 19 rfl rfl)
theorem dX5_runScript_94 : decode cX5_runScript 94 = .ok (.istore 4, 2) := dk_54 4 (dk_at dksX5_runScript_3 22 rfl rfl)
theorem dX5_runScript_96 : decode cX5_runScript 96 = .ok (.iload 4, 2) := dk_21 4 (dk_at dksX5_runScript_4 0 rfl rfl)
theorem dX5_runScript_98 : decode cX5_runScript 98 = .ok (.ifCond .ne 55, 3) := dk_154 0 55 (dk_at dksX5_runScript_4 2 rfl rfl)
theorem dX5_runScript_101 : decode cX5_runScript 101 = .ok (.aload_n 0, 1) := dk_42 (dk_at dksX5_runScript_4 5 rfl rfl)
theorem dX5_runScript_102 : decode cX5_runScript 102 = .ok (.aload_n 0, 1) := dk_42 (dk_at dksX5_runScript_4 6 rfl rfl)
theorem dX5_runScript_103 : decode cX5_runScript 103 = .ok (.getfield 60, 3) := dk_180 0 60 (dk_at dksX5_runScript_4 7 rfl rfl)
theorem dX5_runScript_106 : decode cX5_runScript 106 = .ok (.iload_n 2, 1) := dk_28 (dk_at dksX5_runScript_4 10 rfl rfl)
theorem dX5_runScript_107 : decode cX5_runScript 107 = .ok (.iaload, 1) := dk_46 (dk_at dksX5_runScript_4 11 rfl rfl)
theorem dX5_runScript_108 : decode cX5_runScript 108 = .ok (.aload_n 0, 1) := dk_42 (dk_at dksX5_runScript_4 12 rfl rfl)
theorem dX5_runScript_109 : decode cX5_runScript 109 = .ok (.getfield 63, 3) := dk_180 0 63 (dk_at dksX5_runScript_4 13 rfl rfl)
theorem dX5_runScript_112 : decode cX5_runScript 112 = .ok (.iload_n 3, 1) := dk_29 (dk_at dksX5_runScript_4 16 rfl rfl)
theorem dX5_runScript_113 : decode cX5_runScript 113 = .ok (.iaload, 1) := dk_46 (dk_at dksX5_runScript_4 17 rfl rfl)
theorem dX5_runScript_114 : decode cX5_runScript 114 = .ok (.aload_n 0, 1) := dk_42 (dk_at dksX5_runScript_4 18 rfl rfl)
theorem dX5_runScript_115 : decode cX5_runScript 115 = .ok (.getfield 63, 3) := dk_180 0 63 (dk_at dksX5_runScript_4 19 rfl rfl)
theorem dX5_runScript_118 : decode cX5_runScript 118 = .ok (.iload_n 3, 1) := dk_29 (dk_at dksX5_runScript_4 22 rfl rfl)
theorem dX5_runScript_119 : decode cX5_runScript 119 = .ok (.iconst 1, 1) := dk_4 (dk_at dksX5_runScript_4 23 rfl rfl)
theorem dX5_runScript_120 : decode cX5_runScript 120 = .ok (.iadd, 1) := dk_96 (dk_at dksX5_runScript_5 0 rfl rfl)
theorem dX5_runScript_121 : decode cX5_runScript 121 = .ok (.iaload, 1) := dk_46 (dk_at dksX5_runScript_5 1 rfl rfl)
theorem dX5_runScript_122 : decode cX5_runScript 122 = .ok (.aload_n 0, 1) := dk_42 (dk_at dksX5_runScript_5 2 rfl rfl)
theorem dX5_runScript_123 : decode cX5_runScript 123 = .ok (.getfield 63, 3) := dk_180 0 63 (dk_at dksX5_runScript_5 3 rfl rfl)
theorem dX5_runScript_126 : decode cX5_runScript 126 = .ok (.iload_n 3, 1) := dk_29 (dk_at dksX5_runScript_5 6 rfl rfl)
theorem dX5_runScript_127 : decode cX5_runScript 127 = .ok (.iconst 2, 1) := dk_5 (dk_at dksX5_runScript_5 7 rfl rfl)
theorem dX5_runScript_128 : decode cX5_runScript 128 = .ok (.iadd, 1) := dk_96 (dk_at dksX5_runScript_5 8 rfl rfl)
theorem dX5_runScript_129 : decode cX5_runScript 129 = .ok (.iaload, 1) := dk_46 (dk_at dksX5_runScript_5 9 rfl rfl)
theorem dX5_runScript_130 : decode cX5_runScript 130 = .ok (.aload_n 0, 1) := dk_42 (dk_at dksX5_runScript_5 10 rfl rfl)
theorem dX5_runScript_131 : decode cX5_runScript 131 = .ok (.getfield 63, 3) := dk_180 0 63 (dk_at dksX5_runScript_5 11 rfl rfl)
theorem dX5_runScript_134 : decode cX5_runScript 134 = .ok (.iload_n 3, 1) := dk_29 (dk_at dksX5_runScript_5 14 rfl rfl)
theorem dX5_runScript_135 : decode cX5_runScript 135 = .ok (.iconst 3, 1) := dk_6 (dk_at dksX5_runScript_5 15 rfl rfl)
theorem dX5_runScript_136 : decode cX5_runScript 136 = .ok (.iadd, 1) := dk_96 (dk_at dksX5_runScript_5 16 rfl rfl)
theorem dX5_runScript_137 : decode cX5_runScript 137 = .ok (.iaload, 1) := dk_46 (dk_at dksX5_runScript_5 17 rfl rfl)
theorem dX5_runScript_138 : decode cX5_runScript 138 = .ok (.aload_n 0, 1) := dk_42 (dk_at dksX5_runScript_5 18 rfl rfl)
theorem dX5_runScript_139 : decode cX5_runScript 139 = .ok (.getfield 63, 3) := dk_180 0 63 (dk_at dksX5_runScript_5 19 rfl rfl)
theorem dX5_runScript_142 : decode cX5_runScript 142 = .ok (.iload_n 3, 1) := dk_29 (dk_at dksX5_runScript_5 22 rfl rfl)
theorem dX5_runScript_143 : decode cX5_runScript 143 = .ok (.iconst 4, 1) := dk_7 (dk_at dksX5_runScript_5 23 rfl rfl)
theorem dX5_runScript_144 : decode cX5_runScript 144 = .ok (.iadd, 1) := dk_96 (dk_at dksX5_runScript_6 0 rfl rfl)
theorem dX5_runScript_145 : decode cX5_runScript 145 = .ok (.iaload, 1) := dk_46 (dk_at dksX5_runScript_6 1 rfl rfl)
theorem dX5_runScript_146 : decode cX5_runScript 146 = .ok (.invokevirtual 322, 3) := dk_182 1 66 (dk_at dksX5_runScript_6 2 rfl rfl)
theorem dX5_runScript_149 : decode cX5_runScript 149 = .ok (.istore_n 1, 1) := dk_60 (dk_at dksX5_runScript_6 5 rfl rfl)
theorem dX5_runScript_150 : decode cX5_runScript 150 = .ok (.goto 33, 3) := dk_167 0 33 (dk_at dksX5_runScript_6 6 rfl rfl)
theorem dX5_runScript_153 : decode cX5_runScript 153 = .ok (.aload_n 0, 1) := dk_42 (dk_at dksX5_runScript_6 9 rfl rfl)
theorem dX5_runScript_154 : decode cX5_runScript 154 = .ok (.getfield 13, 3) := dk_180 0 13 (dk_at dksX5_runScript_6 10 rfl rfl)
theorem dX5_runScript_157 : decode cX5_runScript 157 = .ok (.iconst 0, 1) := dk_3 (dk_at dksX5_runScript_6 13 rfl rfl)
theorem dX5_runScript_158 : decode cX5_runScript 158 = .ok (.aload_n 0, 1) := dk_42 (dk_at dksX5_runScript_6 14 rfl rfl)
theorem dX5_runScript_159 : decode cX5_runScript 159 = .ok (.getfield 7, 3) := dk_180 0 7 (dk_at dksX5_runScript_6 15 rfl rfl)
theorem dX5_runScript_162 : decode cX5_runScript 162 = .ok (.iconst 0, 1) := dk_3 (dk_at dksX5_runScript_6 18 rfl rfl)
theorem dX5_runScript_163 : decode cX5_runScript 163 = .ok (.invokestatic 81, 3) := dk_184 0 81 (dk_at dksX5_runScript_6 19 rfl rfl)
theorem dX5_runScript_166 : decode cX5_runScript 166 = .ok (.aload_n 0, 1) := dk_42 (dk_at dksX5_runScript_6 22 rfl rfl)
theorem dX5_runScript_167 : decode cX5_runScript 167 = .ok (.iload_n 2, 1) := dk_28 (dk_at dksX5_runScript_6 23 rfl rfl)
theorem dX5_runScript_168 : decode cX5_runScript 168 = .ok (.putfield 35, 3) := dk_181 0 35 (dk_at dksX5_runScript_7 0 rfl rfl)
theorem dX5_runScript_171 : decode cX5_runScript 171 = .ok (.aload_n 0, 1) := dk_42 (dk_at dksX5_runScript_7 3 rfl rfl)
theorem dX5_runScript_172 : decode cX5_runScript 172 = .ok (.iload 4, 2) := dk_21 4 (dk_at dksX5_runScript_7 4 rfl rfl)
theorem dX5_runScript_174 : decode cX5_runScript 174 = .ok (.putfield 38, 3) := dk_181 0 38 (dk_at dksX5_runScript_7 6 rfl rfl)
theorem dX5_runScript_177 : decode cX5_runScript 177 = .ok (.aload_n 0, 1) := dk_42 (dk_at dksX5_runScript_7 9 rfl rfl)
theorem dX5_runScript_178 : decode cX5_runScript 178 = .ok (.iconst 2, 1) := dk_5 (dk_at dksX5_runScript_7 10 rfl rfl)
theorem dX5_runScript_179 : decode cX5_runScript 179 = .ok (.invokevirtual 130, 3) := dk_182 0 130 (dk_at dksX5_runScript_7 11 rfl rfl)
theorem dX5_runScript_182 : decode cX5_runScript 182 = .ok (.ireturn, 1) := dk_172 (dk_at dksX5_runScript_7 14 rfl rfl)
theorem dX5_runScript_183 : decode cX5_runScript 183 = .ok (.iinc 2 1, 3) := dk_132 2 1 (dk_at dksX5_runScript_7 15 rfl rfl)
theorem dX5_runScript_186 : decode cX5_runScript 186 = .ok (.goto (-153), 3) := dk_167 255 103 (dk_at dksX5_runScript_7 18 rfl rfl)
theorem dX5_runScript_189 : decode cX5_runScript 189 = .ok (.aload_n 0, 1) := dk_42 (dk_at dksX5_runScript_7 21 rfl rfl)
theorem dX5_runScript_190 : decode cX5_runScript 190 = .ok (.aload_n 0, 1) := dk_42 (dk_at dksX5_runScript_7 22 rfl rfl)
theorem dX5_runScript_191 : decode cX5_runScript 191 = .ok (.getfield 75, 3) := dk_180 0 75 (dk_at dksX5_runScript_8 0 rfl rfl)
theorem dX5_runScript_194 : decode cX5_runScript 194 = .ok (.invokevirtual 136, 3) := dk_182 0 136 (dk_at dksX5_runScript_8 3 rfl rfl)
theorem dX5_runScript_197 : decode cX5_runScript 197 = .ok (.ireturn, 1) := dk_172 (dk_at dksX5_runScript_8 6 rfl rfl)
def dkwX5_parse_3 : List UInt8 := [162, 0, 7, 4, 167, 0, 4, 3, 128, 181, 0, 78, 177]
abbrev dktX5_parse_3 : List UInt8 := dkwX5_parse_3 ++ []
def dkwX5_parse_2 : List UInt8 := [181, 0, 72, 42, 182, 1, 53, 167, 255, 233, 42, 89, 180, 0, 78, 42, 180, 0, 72, 42, 180, 0, 69]
abbrev dktX5_parse_2 : List UInt8 := dkwX5_parse_2 ++ dktX5_parse_3
def dkwX5_parse_1 : List UInt8 := [3, 181, 0, 78, 42, 182, 1, 53, 42, 182, 1, 24, 16, 59, 160, 0, 20, 42, 89, 180, 0, 72, 4, 96]
abbrev dktX5_parse_1 : List UInt8 := dkwX5_parse_1 ++ dktX5_parse_2
def dkwX5_parse_0 : List UInt8 := [42, 42, 180, 0, 66, 181, 0, 69, 42, 3, 181, 0, 66, 42, 3, 181, 0, 72, 42, 3, 181, 0, 75, 42]
abbrev dktX5_parse_0 : List UInt8 := dkwX5_parse_0 ++ dktX5_parse_1
theorem dksX5_parse_0 : cX5_parse.data.toList.drop 0 = dktX5_parse_0 := by decide +kernel
theorem dksX5_parse_1 : cX5_parse.data.toList.drop 24 = dktX5_parse_1 := dk_seg dksX5_parse_0 24 rfl rfl
theorem dksX5_parse_2 : cX5_parse.data.toList.drop 48 = dktX5_parse_2 := dk_seg dksX5_parse_1 24 rfl rfl
theorem dksX5_parse_3 : cX5_parse.data.toList.drop 71 = dktX5_parse_3 := dk_seg dksX5_parse_2 23 rfl rfl
theorem dX5_parse_0 : decode cX5_parse 0 = .ok (.aload_n 0, 1) := dk_42 (dk_at dksX5_parse_0 0 rfl rfl)
theorem dX5_parse_1 : decode cX5_parse 1 = .ok (.aload_n 0, 1) := dk_42 (dk_at dksX5_parse_0 1 rfl rfl)
theorem dX5_parse_2 : decode cX5_parse 2 = .ok (.getfield 66, 3) := dk_180 0 66 (dk_at dksX5_parse_0 2 rfl rfl)
theorem dX5_parse_5 : decode cX5_parse 5 = .ok (.putfield 69, 3) := dk_181 0 69 (dk_at dksX5_parse_0 5 rfl rfl)
theorem dX5_parse_8 : decode cX5_parse 8 = .ok (.aload_n 0, 1) := dk_42 (dk_at dksX5_parse_0 8 rfl rfl)
theorem dX5_parse_9 : decode cX5_parse 9 = .ok (.iconst 0, 1) := dk_3 (dk_at dksX5_parse_0 9 rfl rfl)
theorem dX5_parse_10 : decode cX5_parse 10 = .ok (.putfield 66, 3) := dk_181 0 66 (dk_at dksX5_parse_0 10 rfl rfl)
theorem dX5_parse_13 : decode cX5_parse 13 = .ok (.aload_n 0, 1) := dk_42 (dk_at dksX5_parse_0 13 rfl rfl)
theorem dX5_parse_14 : decode cX5_parse 14 = .ok (.iconst 0, 1) := dk_3 (dk_at dksX5_parse_0 14 rfl rfl)
theorem dX5_parse_15 : decode cX5_parse 15 = .ok (.putfield 72, 3) := dk_181 0 72 (dk_at dksX5_parse_0 15 rfl rfl)
theorem dX5_parse_18 : decode cX5_parse 18 = .ok (.aload_n 0, 1) := dk_42 (dk_at dksX5_parse_0 18 rfl rfl)
theorem dX5_parse_19 : decode cX5_parse 19 = .ok (.iconst 0, 1) := dk_3 (dk_at dksX5_parse_0 19 rfl rfl)
theorem dX5_parse_20 : decode cX5_parse 20 = .ok (.putfield 75, 3) := dk_181 0 75 (dk_at dksX5_parse_0 20 rfl rfl)
theorem dX5_parse_23 : decode cX5_parse 23 = .ok (.aload_n 0, 1) := dk_42 (dk_at dksX5_parse_0 23 rfl rfl)
theorem dX5_parse_24 : decode cX5_parse 24 = .ok (.iconst 0, 1) := dk_3 (dk_at dksX5_parse_1 0 rfl rfl)
theorem dX5_parse_25 : decode cX5_parse 25 = .ok (.putfield 78, 3) := dk_181 0 78 (dk_at dksX5_parse_1 1 rfl rfl)
theorem dX5_parse_28 : decode cX5_parse 28 = .ok (.aload_n 0, 1) := dk_42 (dk_at dksX5_parse_1 4 rfl rfl)
theorem dX5_parse_29 : decode cX5_parse 29 = .ok (.invokevirtual 309, 3) := dk_182 1 53 (dk_at dksX5_parse_1 5 rfl rfl)
theorem dX5_parse_32 : decode cX5_parse 32 = .ok (.aload_n 0, 1) := dk_42 (dk_at dksX5_parse_1 8 rfl rfl)
theorem dX5_parse_33 : decode cX5_parse 33 = .ok (.invokevirtual 280, 3) := dk_182 1 24 (dk_at dksX5_parse_1 9 rfl rfl)
theorem dX5_parse_36 : decode cX5_parse 36 = .ok (.bipush 59, 2) := dk_16 59 (dk_at dksX5_parse_1 12 rfl rfl)
theorem dX5_parse_38 : decode cX5_parse 38 = .ok (.if_icmp .ne 20, 3) := dk_160 0 20 (dk_at dksX5_parse_1 14 rfl rfl)
theorem dX5_parse_41 : decode cX5_parse 41 = .ok (.aload_n 0, 1) := dk_42 (dk_at dksX5_parse_1 17 rfl rfl)
theorem dX5_parse_42 : decode cX5_parse 42 = .ok (.dup, 1) := dk_89 (dk_at dksX5_parse_1 18 rfl rfl)
theorem dX5_parse_43 : decode cX5_parse 43 = .ok (.getfield 72, 3) := dk_180 0 72 (dk_at dksX5_parse_1 19 rfl rfl)
theorem dX5_parse_46 : decode cX5_parse 46 = .ok (.iconst 1, 1) := dk_4 (dk_at dksX5_parse_1 22 rfl rfl)
theorem dX5_parse_47 : decode cX5_parse 47 = .ok (.iadd, 1) := dk_96 (dk_at dksX5_parse_1 23 rfl rfl)
theorem dX5_parse_48 : decode cX5_parse 48 = .ok (.putfield 72, 3) := dk_181 0 72 (dk_at dksX5_parse_2 0 rfl rfl)
theorem dX5_parse_51 : decode cX5_parse 51 = .ok (.aload_n 0, 1) := dk_42 (dk_at dksX5_parse_2 3 rfl rfl)
theorem dX5_parse_52 : decode cX5_parse 52 = .ok (.invokevirtual 309, 3) := dk_182 1 53 (dk_at dksX5_parse_2 4 rfl rfl)
theorem dX5_parse_55 : decode cX5_parse 55 = .ok (.goto (-23), 3) := dk_167 255 233 (dk_at dksX5_parse_2 7 rfl rfl)
theorem dX5_parse_58 : decode cX5_parse 58 = .ok (.aload_n 0, 1) := dk_42 (dk_at dksX5_parse_2 10 rfl rfl)
theorem dX5_parse_59 : decode cX5_parse 59 = .ok (.dup, 1) := dk_89 (dk_at dksX5_parse_2 11 rfl rfl)
theorem dX5_parse_60 : decode cX5_parse 60 = .ok (.getfield 78, 3) := dk_180 0 78 (dk_at dksX5_parse_2 12 rfl rfl)
theorem dX5_parse_63 : decode cX5_parse 63 = .ok (.aload_n 0, 1) := dk_42 (dk_at dksX5_parse_2 15 rfl rfl)
theorem dX5_parse_64 : decode cX5_parse 64 = .ok (.getfield 72, 3) := dk_180 0 72 (dk_at dksX5_parse_2 16 rfl rfl)
theorem dX5_parse_67 : decode cX5_parse 67 = .ok (.aload_n 0, 1) := dk_42 (dk_at dksX5_parse_2 19 rfl rfl)
theorem dX5_parse_68 : decode cX5_parse 68 = .ok (.getfield 69, 3) := dk_180 0 69 (dk_at dksX5_parse_2 20 rfl rfl)
theorem dX5_parse_71 : decode cX5_parse 71 = .ok (.if_icmp .ge 7, 3) := dk_162 0 7 (dk_at dksX5_parse_3 0 rfl rfl)
theorem dX5_parse_74 : decode cX5_parse 74 = .ok (.iconst 1, 1) := dk_4 (dk_at dksX5_parse_3 3 rfl rfl)
theorem dX5_parse_75 : decode cX5_parse 75 = .ok (.goto 4, 3) := dk_167 0 4 (dk_at dksX5_parse_3 4 rfl rfl)
theorem dX5_parse_78 : decode cX5_parse 78 = .ok (.iconst 0, 1) := dk_3 (dk_at dksX5_parse_3 7 rfl rfl)
theorem dX5_parse_79 : decode cX5_parse 79 = .ok (.ior, 1) := dk_128 (dk_at dksX5_parse_3 8 rfl rfl)
theorem dX5_parse_80 : decode cX5_parse 80 = .ok (.putfield 78, 3) := dk_181 0 78 (dk_at dksX5_parse_3 9 rfl rfl)
theorem dX5_parse_83 : decode cX5_parse 83 = .ok (.return_, 1) := dk_177 (dk_at dksX5_parse_3 12 rfl rfl)
def dkwX5_command_2 : List UInt8 := [177]
abbrev dktX5_command_2 : List UInt8 := dkwX5_command_2 ++ []
def dkwX5_command_1 : List UInt8 := [153, 0, 4, 177, 42, 180, 0, 60, 42, 180, 0, 75, 27, 79, 42, 89, 180, 0, 75, 4, 96, 181, 0, 75]
abbrev dktX5_command_1 : List UInt8 := dkwX5_command_1 ++ dktX5_command_2
def dkwX5_command_0 : List UInt8 := [42, 182, 1, 47, 60, 42, 180, 0, 78, 153, 0, 4, 177, 42, 27, 182, 1, 50, 42, 180, 0, 78]
abbrev dktX5_command_0 : List UInt8 := dkwX5_command_0 ++ dktX5_command_1
theorem dksX5_command_0 : cX5_command.data.toList.drop 0 = dktX5_command_0 := by decide +kernel
theorem dksX5_command_1 : cX5_command.data.toList.drop 22 = dktX5_command_1 := dk_seg dksX5_command_0 22 rfl rfl
theorem dksX5_command_2 : cX5_command.data.toList.drop 46 = dktX5_command_2 := dk_seg dksX5_command_1 24 rfl rfl
theorem dX5_command_0 : decode cX5_command 0 = .ok (.aload_n 0, 1) := dk_42 (dk_at dksX5_command_0 0 rfl rfl)
theorem dX5_command_1 : decode cX5_command 1 = .ok (.invokevirtual 303, 3) := dk_182 1 47 (dk_at dksX5_command_0 1 rfl rfl)
theorem dX5_command_4 : decode cX5_command 4 = .ok (.istore_n 1, 1) := dk_60 (dk_at dksX5_command_0 4 rfl rfl)
theorem dX5_command_5 : decode cX5_command 5 = .ok (.aload_n 0, 1) := dk_42 (dk_at dksX5_command_0 5 rfl rfl)
theorem dX5_command_6 : decode cX5_command 6 = .ok (.getfield 78, 3) := dk_180 0 78 (dk_at dksX5_command_0 6 rfl rfl)
theorem dX5_command_9 : decode cX5_command 9 = .ok (.ifCond .eq 4, 3) := dk_153 0 4 (dk_at dksX5_command_0 9 rfl rfl)
theorem dX5_command_12 : decode cX5_command 12 = .ok (.return_, 1) := dk_177 (dk_at dksX5_command_0 12 rfl rfl)
theorem dX5_command_13 : decode cX5_command 13 = .ok (.aload_n 0, 1) := dk_42 (dk_at dksX5_command_0 13 rfl rfl)
theorem dX5_command_14 : decode cX5_command 14 = .ok (.iload_n 1, 1) := dk_27 (dk_at dksX5_command_0 14 rfl rfl)
theorem dX5_command_15 : decode cX5_command 15 = .ok (.invokevirtual 306, 3) := dk_182 1 50 (dk_at dksX5_command_0 15 rfl rfl)
theorem dX5_command_18 : decode cX5_command 18 = .ok (.aload_n 0, 1) := dk_42 (dk_at dksX5_command_0 18 rfl rfl)
theorem dX5_command_19 : decode cX5_command 19 = .ok (.getfield 78, 3) := dk_180 0 78 (dk_at dksX5_command_0 19 rfl rfl)
theorem dX5_command_22 : decode cX5_command 22 = .ok (.ifCond .eq 4, 3) := dk_153 0 4 (dk_at dksX5_command_1 0 rfl rfl)
theorem dX5_command_25 : decode cX5_command 25 = .ok (.return_, 1) := dk_177 (dk_at dksX5_command_1 3 rfl rfl)
theorem dX5_command_26 : decode cX5_command 26 = .ok (.aload_n 0, 1) := dk_42 (dk_at dksX5_command_1 4 rfl rfl)
theorem dX5_command_27 : decode cX5_command 27 = .ok (.getfield 60, 3) := dk_180 0 60 (dk_at dksX5_command_1 5 rfl rfl)
theorem dX5_command_30 : decode cX5_command 30 = .ok (.aload_n 0, 1) := dk_42 (dk_at dksX5_command_1 8 rfl rfl)
theorem dX5_command_31 : decode cX5_command 31 = .ok (.getfield 75, 3) := dk_180 0 75 (dk_at dksX5_command_1 9 rfl rfl)
theorem dX5_command_34 : decode cX5_command 34 = .ok (.iload_n 1, 1) := dk_27 (dk_at dksX5_command_1 12 rfl rfl)
theorem dX5_command_35 : decode cX5_command 35 = .ok (.iastore, 1) := dk_79 (dk_at dksX5_command_1 13 rfl rfl)
theorem dX5_command_36 : decode cX5_command 36 = .ok (.aload_n 0, 1) := dk_42 (dk_at dksX5_command_1 14 rfl rfl)
theorem dX5_command_37 : decode cX5_command 37 = .ok (.dup, 1) := dk_89 (dk_at dksX5_command_1 15 rfl rfl)
theorem dX5_command_38 : decode cX5_command 38 = .ok (.getfield 75, 3) := dk_180 0 75 (dk_at dksX5_command_1 16 rfl rfl)
theorem dX5_command_41 : decode cX5_command 41 = .ok (.iconst 1, 1) := dk_4 (dk_at dksX5_command_1 19 rfl rfl)
theorem dX5_command_42 : decode cX5_command 42 = .ok (.iadd, 1) := dk_96 (dk_at dksX5_command_1 20 rfl rfl)
theorem dX5_command_43 : decode cX5_command 43 = .ok (.putfield 75, 3) := dk_181 0 75 (dk_at dksX5_command_1 21 rfl rfl)
theorem dX5_command_46 : decode cX5_command 46 = .ok (.return_, 1) := dk_177 (dk_at dksX5_command_2 0 rfl rfl)
def dkwX5_word_4 : List UInt8 := [167, 255, 168, 42, 89, 180, 0, 72, 27, 96, 181, 0, 72, 42, 4, 181, 0, 78, 3, 172]
abbrev dktX5_word_4 : List UInt8 := dkwX5_word_4 ++ []
def dkwX5_word_3 : List UInt8 := [180, 0, 72, 29, 96, 181, 0, 72, 28, 172, 29, 27, 164, 0, 7, 29, 167, 0, 4, 27, 60, 132, 2, 1]
abbrev dktX5_word_3 : List UInt8 := dkwX5_word_3 ++ dktX5_word_4
def dkwX5_word_2 : List UInt8 := [184, 1, 38, 160, 0, 9, 132, 3, 1, 167, 255, 213, 28, 29, 184, 1, 38, 154, 0, 15, 42, 89]
abbrev dktX5_word_2 : List UInt8 := dkwX5_word_2 ++ dktX5_word_3
def dkwX5_word_1 : List UInt8 := [29, 96, 42, 180, 0, 69, 162, 0, 28, 42, 180, 0, 57, 42, 180, 0, 72, 29, 96, 46, 28, 29]
abbrev dktX5_word_1 : List UInt8 := dkwX5_word_1 ++ dktX5_word_2
def dkwX5_word_0 : List UInt8 := [3, 60, 3, 61, 28, 16, 9, 162, 0, 88, 3, 62, 28, 29, 184, 1, 38, 158, 0, 41, 42, 180, 0, 72]
abbrev dktX5_word_0 : List UInt8 := dkwX5_word_0 ++ dktX5_word_1
theorem dksX5_word_0 : cX5_word.data.toList.drop 0 = dktX5_word_0 := by decide +kernel
theorem dksX5_word_1 : cX5_word.data.toList.drop 24 = dktX5_word_1 := dk_seg dksX5_word_0 24 rfl rfl
theorem dksX5_word_2 : cX5_word.data.toList.drop 46 = dktX5_word_2 := dk_seg dksX5_word_1 22 rfl rfl
theorem dksX5_word_3 : cX5_word.data.toList.drop 68 = dktX5_word_3 := dk_seg dksX5_word_2 22 rfl rfl
theorem dksX5_word_4 : cX5_word.data.toList.drop 92 = dktX5_word_4 := dk_seg dksX5_word_3 24 rfl rfl
theorem dX5_word_0 : decode cX5_word 0 = .ok (.iconst 0, 1) := dk_3 (dk_at dksX5_word_0 0 rfl rfl)
theorem dX5_word_1 : decode cX5_word 1 = .ok (.istore_n 1, 1) := dk_60 (dk_at dksX5_word_0 1 rfl rfl)
theorem dX5_word_2 : decode cX5_word 2 = .ok (.iconst 0, 1) := dk_3 (dk_at dksX5_word_0 2 rfl rfl)
theorem dX5_word_3 : decode cX5_word 3 = .ok (.istore_n 2, 1) := dk_61 (dk_at dksX5_word_0 3 rfl rfl)
theorem dX5_word_4 : decode cX5_word 4 = .ok (.iload_n 2, 1) := dk_28 (dk_at dksX5_word_0 4 rfl rfl)
theorem dX5_word_5 : decode cX5_word 5 = .ok (.bipush 9, 2) := dk_16 9 (dk_at dksX5_word_0 5 rfl rfl)
theorem dX5_word_7 : decode cX5_word 7 = .ok (.if_icmp .ge 88, 3) := dk_162 0 88 (dk_at dksX5_word_0 7 rfl rfl)
theorem dX5_word_10 : decode cX5_word 10 = .ok (.iconst 0, 1) := dk_3 (dk_at dksX5_word_0 10 rfl rfl)
theorem dX5_word_11 : decode cX5_word 11 = .ok (.istore_n 3, 1) := dk_62 (dk_at dksX5_word_0 11 rfl rfl)
theorem dX5_word_12 : decode cX5_word 12 = .ok (.iload_n 2, 1) := dk_28 (dk_at dksX5_word_0 12 rfl rfl)
theorem dX5_word_13 : decode cX5_word 13 = .ok (.iload_n 3, 1) := dk_29 (dk_at dksX5_word_0 13 rfl rfl)
theorem dX5_word_14 : decode cX5_word 14 = .ok (.invokestatic 294, 3) := dk_184 1 38 (dk_at dksX5_word_0 14 rfl rfl)
theorem dX5_word_17 : decode cX5_word 17 = .ok (.ifCond .le 41, 3) := dk_158 0 41 (dk_at dksX5_word_0 17 rfl rfl)
theorem dX5_word_20 : decode cX5_word 20 = .ok (.aload_n 0, 1) := dk_42 (dk_at dksX5_word_0 20 rfl rfl)
theorem dX5_word_21 : decode cX5_word 21 = .ok (.getfield 72, 3) := dk_180 0 72 (dk_at dksX5_word_0 21 rfl rfl)
theorem dX5_word_24 : decode cX5_word 24 = .ok (.iload_n 3, 1) := dk_29 (dk_at dksX5_word_1 0 rfl rfl)
theorem dX5_word_25 : decode cX5_word 25 = .ok (.iadd, 1) := dk_96 (dk_at dksX5_word_1 1 rfl rfl)
theorem dX5_word_26 : decode cX5_word 26 = .ok (.aload_n 0, 1) := dk_42 (dk_at dksX5_word_1 2 rfl rfl)
theorem dX5_word_27 : decode cX5_word 27 = .ok (.getfield 69, 3) := dk_180 0 69 (dk_at dksX5_word_1 3 rfl rfl)
theorem dX5_word_30 : decode cX5_word 30 = .ok (.if_icmp .ge 28, 3) := dk_162 0 28 (dk_at dksX5_word_1 6 rfl rfl)
theorem dX5_word_33 : decode cX5_word 33 = .ok (.aload_n 0, 1) := dk_42 (dk_at dksX5_word_1 9 rfl rfl)
theorem dX5_word_34 : decode cX5_word 34 = .ok (.getfield 57, 3) := dk_180 0 57 (dk_at dksX5_word_1 10 rfl rfl)
theorem dX5_word_37 : decode cX5_word 37 = .ok (.aload_n 0, 1) := dk_42 (dk_at dksX5_word_1 13 rfl rfl)
theorem dX5_word_38 : decode cX5_word 38 = .ok (.getfield 72, 3) := dk_180 0 72 (dk_at dksX5_word_1 14 rfl rfl)
theorem dX5_word_41 : decode cX5_word 41 = .ok (.iload_n 3, 1) := dk_29 (dk_at dksX5_word_1 17 rfl rfl)
theorem dX5_word_42 : decode cX5_word 42 = .ok (.iadd, 1) := dk_96 (dk_at dksX5_word_1 18 rfl rfl)
theorem dX5_word_43 : decode cX5_word 43 = .ok (.iaload, 1) := dk_46 (dk_at dksX5_word_1 19 rfl rfl)
theorem dX5_word_44 : decode cX5_word 44 = .ok (.iload_n 2, 1) := dk_28 (dk_at dksX5_word_1 20 rfl rfl)
theorem dX5_word_45 : decode cX5_word 45 = .ok (.iload_n 3, 1) := dk_29 (dk_at dksX5_word_1 21 rfl rfl)
theorem dX5_word_46 : decode cX5_word 46 = .ok (.invokestatic 294, 3) := dk_184 1 38 (dk_at dksX5_word_2 0 rfl rfl)
theorem dX5_word_49 : decode cX5_word 49 = .ok (.if_icmp .ne 9, 3) := dk_160 0 9 (dk_at dksX5_word_2 3 rfl rfl)
theorem dX5_word_52 : decode cX5_word 52 = .ok (.iinc 3 1, 3) := dk_132 3 1 (dk_at dksX5_word_2 6 rfl rfl)
theorem dX5_word_55 : decode cX5_word 55 = .ok (.goto (-43), 3) := dk_167 255 213 (dk_at dksX5_word_2 9 rfl rfl)
theorem dX5_word_58 : decode cX5_word 58 = .ok (.iload_n 2, 1) := dk_28 (dk_at dksX5_word_2 12 rfl rfl)
theorem dX5_word_59 : decode cX5_word 59 = .ok (.iload_n 3, 1) := dk_29 (dk_at dksX5_word_2 13 rfl rfl)
theorem dX5_word_60 : decode cX5_word 60 = .ok (.invokestatic 294, 3) := dk_184 1 38 (dk_at dksX5_word_2 14 rfl rfl)
theorem dX5_word_63 : decode cX5_word 63 = .ok (.ifCond .ne 15, 3) := dk_154 0 15 (dk_at dksX5_word_2 17 rfl rfl)
theorem dX5_word_66 : decode cX5_word 66 = .ok (.aload_n 0, 1) := dk_42 (dk_at dksX5_word_2 20 rfl rfl)
theorem dX5_word_67 : decode cX5_word 67 = .ok (.dup, 1) := dk_89 (dk_at dksX5_word_2 21 rfl rfl)
theorem dX5_word_68 : decode cX5_word 68 = .ok (.getfield 72, 3) := dk_180 0 72 (dk_at dksX5_word_3 0 rfl rfl)
theorem dX5_word_71 : decode cX5_word 71 = .ok (.iload_n 3, 1) := dk_29 (dk_at dksX5_word_3 3 rfl rfl)
theorem dX5_word_72 : decode cX5_word 72 = .ok (.iadd, 1) := dk_96 (dk_at dksX5_word_3 4 rfl rfl)
theorem dX5_word_73 : decode cX5_word 73 = .ok (.putfield 72, 3) := dk_181 0 72 (dk_at dksX5_word_3 5 rfl rfl)
theorem dX5_word_76 : decode cX5_word 76 = .ok (.iload_n 2, 1) := dk_28 (dk_at dksX5_word_3 8 rfl rfl)
theorem dX5_word_77 : decode cX5_word 77 = .ok (.ireturn, 1) := dk_172 (dk_at dksX5_word_3 9 rfl rfl)
theorem dX5_word_78 : decode cX5_word 78 = .ok (.iload_n 3, 1) := dk_29 (dk_at dksX5_word_3 10 rfl rfl)
theorem dX5_word_79 : decode cX5_word 79 = .ok (.iload_n 1, 1) := dk_27 (dk_at dksX5_word_3 11 rfl rfl)
theorem dX5_word_80 : decode cX5_word 80 = .ok (.if_icmp .le 7, 3) := dk_164 0 7 (dk_at dksX5_word_3 12 rfl rfl)
theorem dX5_word_83 : decode cX5_word 83 = .ok (.iload_n 3, 1) := dk_29 (dk_at dksX5_word_3 15 rfl rfl)
theorem dX5_word_84 : decode cX5_word 84 = .ok (.goto 4, 3) := dk_167 0 4 (dk_at dksX5_word_3 16 rfl rfl)
theorem dX5_word_87 : decode cX5_word 87 = .ok (.iload_n 1, 1) := dk_27 (dk_at dksX5_word_3 19 rfl rfl)
theorem dX5_word_88 : decode cX5_word 88 = .ok (.istore_n 1, 1) := dk_60 (dk_at dksX5_word_3 20 rfl rfl)
theorem dX5_word_89 : decode cX5_word 89 = .ok (.iinc 2 1, 3) := dk_132 2 1 (dk_at dksX5_word_3 21 rfl rfl)
theorem dX5_word_92 : decode cX5_word 92 = .ok (.goto (-88), 3) := dk_167 255 168 (dk_at dksX5_word_4 0 rfl rfl)
theorem dX5_word_95 : decode cX5_word 95 = .ok (.aload_n 0, 1) := dk_42 (dk_at dksX5_word_4 3 rfl rfl)
theorem dX5_word_96 : decode cX5_word 96 = .ok (.dup, 1) := dk_89 (dk_at dksX5_word_4 4 rfl rfl)
theorem dX5_word_97 : decode cX5_word 97 = .ok (.getfield 72, 3) := dk_180 0 72 (dk_at dksX5_word_4 5 rfl rfl)
theorem dX5_word_100 : decode cX5_word 100 = .ok (.iload_n 1, 1) := dk_27 (dk_at dksX5_word_4 8 rfl rfl)
theorem dX5_word_101 : decode cX5_word 101 = .ok (.iadd, 1) := dk_96 (dk_at dksX5_word_4 9 rfl rfl)
theorem dX5_word_102 : decode cX5_word 102 = .ok (.putfield 72, 3) := dk_181 0 72 (dk_at dksX5_word_4 10 rfl rfl)
theorem dX5_word_105 : decode cX5_word 105 = .ok (.aload_n 0, 1) := dk_42 (dk_at dksX5_word_4 13 rfl rfl)
theorem dX5_word_106 : decode cX5_word 106 = .ok (.iconst 1, 1) := dk_4 (dk_at dksX5_word_4 14 rfl rfl)
theorem dX5_word_107 : decode cX5_word 107 = .ok (.putfield 78, 3) := dk_181 0 78 (dk_at dksX5_word_4 15 rfl rfl)
theorem dX5_word_110 : decode cX5_word 110 = .ok (.iconst 0, 1) := dk_3 (dk_at dksX5_word_4 18 rfl rfl)
theorem dX5_word_111 : decode cX5_word 111 = .ok (.ireturn, 1) := dk_172 (dk_at dksX5_word_4 19 rfl rfl)
def dkwX5_spelled_8 : List UInt8 := [16, 97, 16, 121, 3, 3, 3, 3, 184, 1, 34, 172]
abbrev dktX5_spelled_8 : List UInt8 := dkwX5_spelled_8 ++ []
def dkwX5_spelled_7 : List UInt8 := [3, 184, 1, 34, 172, 27, 16, 109, 16, 105, 16, 120, 3, 3, 3, 3, 184, 1, 34, 172, 27, 16, 100]
abbrev dktX5_spelled_7 : List UInt8 := dkwX5_spelled_7 ++ dktX5_spelled_8
def dkwX5_spelled_6 : List UInt8 := [16, 117, 16, 114, 16, 110, 3, 184, 1, 34, 172, 27, 16, 115, 16, 101, 16, 116, 16, 116, 16, 108, 16, 101]
abbrev dktX5_spelled_6 : List UInt8 := dkwX5_spelled_6 ++ dktX5_spelled_7
def dkwX5_spelled_5 : List UInt8 := [16, 109, 16, 101, 16, 116, 16, 114, 16, 105, 16, 99, 3, 184, 1, 34, 172, 27, 16, 114, 16, 101, 16, 116]
abbrev dktX5_spelled_5 : List UInt8 := dkwX5_spelled_5 ++ dktX5_spelled_6
def dkwX5_spelled_4 : List UInt8 := [184, 1, 34, 172, 27, 16, 100, 16, 105, 16, 115, 16, 99, 16, 97, 16, 114, 16, 100, 184, 1, 34, 172, 27]
abbrev dktX5_spelled_4 : List UInt8 := dkwX5_spelled_4 ++ dktX5_spelled_5
def dkwX5_spelled_3 : List UInt8 := [16, 111, 16, 114, 16, 116, 3, 184, 1, 34, 172, 27, 16, 100, 16, 114, 16, 111, 16, 112, 3, 3, 3]
abbrev dktX5_spelled_3 : List UInt8 := dkwX5_spelled_3 ++ dktX5_spelled_4
def dkwX5_spelled_2 : List UInt8 := [27, 16, 102, 16, 105, 16, 110, 16, 100, 3, 3, 3, 184, 1, 34, 172, 27, 16, 114, 16, 101, 16, 112]
abbrev dktX5_spelled_2 : List UInt8 := dkwX5_spelled_2 ++ dktX5_spelled_3
def dkwX5_spelled_1 : List UInt8 := [170, 0, 0, 0, 0, 0, 185, 0, 0, 0, 0, 0, 0, 0, 7, 0, 0, 0, 47, 0, 0, 0, 63, 0, 0, 0, 81, 0, 0, 0, 97, 0, 0, 0, 116, 0, 0, 0, 134, 0, 0, 0, 152, 0, 0, 0, 170]
abbrev dktX5_spelled_1 : List UInt8 := dkwX5_spelled_1 ++ dktX5_spelled_2
def dkwX5_spelled_0 : List UInt8 := [26]
abbrev dktX5_spelled_0 : List UInt8 := dkwX5_spelled_0 ++ dktX5_spelled_1
theorem dksX5_spelled_0 : cX5_spelled.data.toList.drop 0 = dktX5_spelled_0 := by decide +kernel
theorem dksX5_spelled_1 : cX5_spelled.data.toList.drop 1 = dktX5_spelled_1 := dk_seg dksX5_spelled_0 1 rfl rfl
theorem dksX5_spelled_2 : cX5_spelled.data.toList.drop 48 = dktX5_spelled_2 := dk_seg dksX5_spelled_1 47 rfl rfl
theorem dksX5_spelled_3 : cX5_spelled.data.toList.drop 71 = dktX5_spelled_3 := dk_seg dksX5_spelled_2 23 rfl rfl
theorem dksX5_spelled_4 : cX5_spelled.data.toList.drop 94 = dktX5_spelled_4 := dk_seg dksX5_spelled_3 23 rfl rfl
theorem dksX5_spelled_5 : cX5_spelled.data.toList.drop 118 = dktX5_spelled_5 := dk_seg dksX5_spelled_4 24 rfl rfl
theorem dksX5_spelled_6 : cX5_spelled.data.toList.drop 142 = dktX5_spelled_6 := dk_seg dksX5_spelled_5 24 rfl rfl
theorem dksX5_spelled_7 : cX5_spelled.data.toList.drop 166 = dktX5_spelled_7 := dk_seg dksX5_spelled_6 24 rfl rfl
theorem dksX5_spelled_8 : cX5_spelled.data.toList.drop 189 = dktX5_spelled_8 := dk_seg dksX5_spelled_7 23 rfl rfl
theorem dX5_spelled_0 : decode cX5_spelled 0 = .ok (.iload_n 0, 1) := dk_26 (dk_at dksX5_spelled_0 0 rfl rfl)
theorem dX5_spelled_1 : decode cX5_spelled 1 = .ok (.tableswitch 185 0 7 #[47, 63, 81, 97, 116, 134, 152, 170], 47) := by decide +kernel
theorem dX5_spelled_48 : decode cX5_spelled 48 = .ok (.iload_n 1, 1) := dk_27 (dk_at dksX5_spelled_2 0 rfl rfl)
theorem dX5_spelled_49 : decode cX5_spelled 49 = .ok (.bipush 102, 2) := dk_16 102 (dk_at dksX5_spelled_2 1 rfl rfl)
theorem dX5_spelled_51 : decode cX5_spelled 51 = .ok (.bipush 105, 2) := dk_16 105 (dk_at dksX5_spelled_2 3 rfl rfl)
theorem dX5_spelled_53 : decode cX5_spelled 53 = .ok (.bipush 110, 2) := dk_16 110 (dk_at dksX5_spelled_2 5 rfl rfl)
theorem dX5_spelled_55 : decode cX5_spelled 55 = .ok (.bipush 100, 2) := dk_16 100 (dk_at dksX5_spelled_2 7 rfl rfl)
theorem dX5_spelled_57 : decode cX5_spelled 57 = .ok (.iconst 0, 1) := dk_3 (dk_at dksX5_spelled_2 9 rfl rfl)
theorem dX5_spelled_58 : decode cX5_spelled 58 = .ok (.iconst 0, 1) := dk_3 (dk_at dksX5_spelled_2 10 rfl rfl)
theorem dX5_spelled_59 : decode cX5_spelled 59 = .ok (.iconst 0, 1) := dk_3 (dk_at dksX5_spelled_2 11 rfl rfl)
theorem dX5_spelled_60 : decode cX5_spelled 60 = .ok (.invokestatic 290, 3) := dk_184 1 34 (dk_at dksX5_spelled_2 12 rfl rfl)
theorem dX5_spelled_63 : decode cX5_spelled 63 = .ok (.ireturn, 1) := dk_172 (dk_at dksX5_spelled_2 15 rfl rfl)
theorem dX5_spelled_64 : decode cX5_spelled 64 = .ok (.iload_n 1, 1) := dk_27 (dk_at dksX5_spelled_2 16 rfl rfl)
theorem dX5_spelled_65 : decode cX5_spelled 65 = .ok (.bipush 114, 2) := dk_16 114 (dk_at dksX5_spelled_2 17 rfl rfl)
theorem dX5_spelled_67 : decode cX5_spelled 67 = .ok (.bipush 101, 2) := dk_16 101 (dk_at dksX5_spelled_2 19 rfl rfl)
theorem dX5_spelled_69 : decode cX5_spelled 69 = .ok (.bipush 112, 2) := dk_16 112 (dk_at dksX5_spelled_2 21 rfl rfl)
theorem dX5_spelled_71 : decode cX5_spelled 71 = .ok (.bipush 111, 2) := dk_16 111 (dk_at dksX5_spelled_3 0 rfl rfl)
theorem dX5_spelled_73 : decode cX5_spelled 73 = .ok (.bipush 114, 2) := dk_16 114 (dk_at dksX5_spelled_3 2 rfl rfl)
theorem dX5_spelled_75 : decode cX5_spelled 75 = .ok (.bipush 116, 2) := dk_16 116 (dk_at dksX5_spelled_3 4 rfl rfl)
theorem dX5_spelled_77 : decode cX5_spelled 77 = .ok (.iconst 0, 1) := dk_3 (dk_at dksX5_spelled_3 6 rfl rfl)
theorem dX5_spelled_78 : decode cX5_spelled 78 = .ok (.invokestatic 290, 3) := dk_184 1 34 (dk_at dksX5_spelled_3 7 rfl rfl)
theorem dX5_spelled_81 : decode cX5_spelled 81 = .ok (.ireturn, 1) := dk_172 (dk_at dksX5_spelled_3 10 rfl rfl)
theorem dX5_spelled_82 : decode cX5_spelled 82 = .ok (.iload_n 1, 1) := dk_27 (dk_at dksX5_spelled_3 11 rfl rfl)
theorem dX5_spelled_83 : decode cX5_spelled 83 = .ok (.bipush 100, 2) := dk_16 100 (dk_at dksX5_spelled_3 12 rfl rfl)
theorem dX5_spelled_85 : decode cX5_spelled 85 = .ok (.bipush 114, 2) := dk_16 114 (dk_at dksX5_spelled_3 14 rfl rfl)
theorem dX5_spelled_87 : decode cX5_spelled 87 = .ok (.bipush 111, 2) := dk_16 111 (dk_at dksX5_spelled_3 16 rfl rfl)
theorem dX5_spelled_89 : decode cX5_spelled 89 = .ok (.bipush 112, 2) := dk_16 112 (dk_at dksX5_spelled_3 18 rfl rfl)
theorem dX5_spelled_91 : decode cX5_spelled 91 = .ok (.iconst 0, 1) := dk_3 (dk_at dksX5_spelled_3 20 rfl rfl)
theorem dX5_spelled_92 : decode cX5_spelled 92 = .ok (.iconst 0, 1) := dk_3 (dk_at dksX5_spelled_3 21 rfl rfl)
theorem dX5_spelled_93 : decode cX5_spelled 93 = .ok (.iconst 0, 1) := dk_3 (dk_at dksX5_spelled_3 22 rfl rfl)
theorem dX5_spelled_94 : decode cX5_spelled 94 = .ok (.invokestatic 290, 3) := dk_184 1 34 (dk_at dksX5_spelled_4 0 rfl rfl)
theorem dX5_spelled_97 : decode cX5_spelled 97 = .ok (.ireturn, 1) := dk_172 (dk_at dksX5_spelled_4 3 rfl rfl)
theorem dX5_spelled_98 : decode cX5_spelled 98 = .ok (.iload_n 1, 1) := dk_27 (dk_at dksX5_spelled_4 4 rfl rfl)
theorem dX5_spelled_99 : decode cX5_spelled 99 = .ok (.bipush 100, 2) := dk_16 100 (dk_at dksX5_spelled_4 5 rfl rfl)
theorem dX5_spelled_101 : decode cX5_spelled 101 = .ok (.bipush 105, 2) := dk_16 105 (dk_at dksX5_spelled_4 7 rfl rfl)
theorem dX5_spelled_103 : decode cX5_spelled 103 = .ok (.bipush 115, 2) := dk_16 115 (dk_at dksX5_spelled_4 9 rfl rfl)
theorem dX5_spelled_105 : decode cX5_spelled 105 = .ok (.bipush 99, 2) := dk_16 99 (dk_at dksX5_spelled_4 11 rfl rfl)
theorem dX5_spelled_107 : decode cX5_spelled 107 = .ok (.bipush 97, 2) := dk_16 97 (dk_at dksX5_spelled_4 13 rfl rfl)
theorem dX5_spelled_109 : decode cX5_spelled 109 = .ok (.bipush 114, 2) := dk_16 114 (dk_at dksX5_spelled_4 15 rfl rfl)
theorem dX5_spelled_111 : decode cX5_spelled 111 = .ok (.bipush 100, 2) := dk_16 100 (dk_at dksX5_spelled_4 17 rfl rfl)
theorem dX5_spelled_113 : decode cX5_spelled 113 = .ok (.invokestatic 290, 3) := dk_184 1 34 (dk_at dksX5_spelled_4 19 rfl rfl)
theorem dX5_spelled_116 : decode cX5_spelled 116 = .ok (.ireturn, 1) := dk_172 (dk_at dksX5_spelled_4 22 rfl rfl)
theorem dX5_spelled_117 : decode cX5_spelled 117 = .ok (.iload_n 1, 1) := dk_27 (dk_at dksX5_spelled_4 23 rfl rfl)
theorem dX5_spelled_118 : decode cX5_spelled 118 = .ok (.bipush 109, 2) := dk_16 109 (dk_at dksX5_spelled_5 0 rfl rfl)
theorem dX5_spelled_120 : decode cX5_spelled 120 = .ok (.bipush 101, 2) := dk_16 101 (dk_at dksX5_spelled_5 2 rfl rfl)
theorem dX5_spelled_122 : decode cX5_spelled 122 = .ok (.bipush 116, 2) := dk_16 116 (dk_at dksX5_spelled_5 4 rfl rfl)
theorem dX5_spelled_124 : decode cX5_spelled 124 = .ok (.bipush 114, 2) := dk_16 114 (dk_at dksX5_spelled_5 6 rfl rfl)
theorem dX5_spelled_126 : decode cX5_spelled 126 = .ok (.bipush 105, 2) := dk_16 105 (dk_at dksX5_spelled_5 8 rfl rfl)
theorem dX5_spelled_128 : decode cX5_spelled 128 = .ok (.bipush 99, 2) := dk_16 99 (dk_at dksX5_spelled_5 10 rfl rfl)
theorem dX5_spelled_130 : decode cX5_spelled 130 = .ok (.iconst 0, 1) := dk_3 (dk_at dksX5_spelled_5 12 rfl rfl)
theorem dX5_spelled_131 : decode cX5_spelled 131 = .ok (.invokestatic 290, 3) := dk_184 1 34 (dk_at dksX5_spelled_5 13 rfl rfl)
theorem dX5_spelled_134 : decode cX5_spelled 134 = .ok (.ireturn, 1) := dk_172 (dk_at dksX5_spelled_5 16 rfl rfl)
theorem dX5_spelled_135 : decode cX5_spelled 135 = .ok (.iload_n 1, 1) := dk_27 (dk_at dksX5_spelled_5 17 rfl rfl)
theorem dX5_spelled_136 : decode cX5_spelled 136 = .ok (.bipush 114, 2) := dk_16 114 (dk_at dksX5_spelled_5 18 rfl rfl)
theorem dX5_spelled_138 : decode cX5_spelled 138 = .ok (.bipush 101, 2) := dk_16 101 (dk_at dksX5_spelled_5 20 rfl rfl)
theorem dX5_spelled_140 : decode cX5_spelled 140 = .ok (.bipush 116, 2) := dk_16 116 (dk_at dksX5_spelled_5 22 rfl rfl)
theorem dX5_spelled_142 : decode cX5_spelled 142 = .ok (.bipush 117, 2) := dk_16 117 (dk_at dksX5_spelled_6 0 rfl rfl)
theorem dX5_spelled_144 : decode cX5_spelled 144 = .ok (.bipush 114, 2) := dk_16 114 (dk_at dksX5_spelled_6 2 rfl rfl)
theorem dX5_spelled_146 : decode cX5_spelled 146 = .ok (.bipush 110, 2) := dk_16 110 (dk_at dksX5_spelled_6 4 rfl rfl)
theorem dX5_spelled_148 : decode cX5_spelled 148 = .ok (.iconst 0, 1) := dk_3 (dk_at dksX5_spelled_6 6 rfl rfl)
theorem dX5_spelled_149 : decode cX5_spelled 149 = .ok (.invokestatic 290, 3) := dk_184 1 34 (dk_at dksX5_spelled_6 7 rfl rfl)
theorem dX5_spelled_152 : decode cX5_spelled 152 = .ok (.ireturn, 1) := dk_172 (dk_at dksX5_spelled_6 10 rfl rfl)
theorem dX5_spelled_153 : decode cX5_spelled 153 = .ok (.iload_n 1, 1) := dk_27 (dk_at dksX5_spelled_6 11 rfl rfl)
theorem dX5_spelled_154 : decode cX5_spelled 154 = .ok (.bipush 115, 2) := dk_16 115 (dk_at dksX5_spelled_6 12 rfl rfl)
theorem dX5_spelled_156 : decode cX5_spelled 156 = .ok (.bipush 101, 2) := dk_16 101 (dk_at dksX5_spelled_6 14 rfl rfl)
theorem dX5_spelled_158 : decode cX5_spelled 158 = .ok (.bipush 116, 2) := dk_16 116 (dk_at dksX5_spelled_6 16 rfl rfl)
theorem dX5_spelled_160 : decode cX5_spelled 160 = .ok (.bipush 116, 2) := dk_16 116 (dk_at dksX5_spelled_6 18 rfl rfl)
theorem dX5_spelled_162 : decode cX5_spelled 162 = .ok (.bipush 108, 2) := dk_16 108 (dk_at dksX5_spelled_6 20 rfl rfl)
theorem dX5_spelled_164 : decode cX5_spelled 164 = .ok (.bipush 101, 2) := dk_16 101 (dk_at dksX5_spelled_6 22 rfl rfl)
theorem dX5_spelled_166 : decode cX5_spelled 166 = .ok (.iconst 0, 1) := dk_3 (dk_at dksX5_spelled_7 0 rfl rfl)
theorem dX5_spelled_167 : decode cX5_spelled 167 = .ok (.invokestatic 290, 3) := dk_184 1 34 (dk_at dksX5_spelled_7 1 rfl rfl)
theorem dX5_spelled_170 : decode cX5_spelled 170 = .ok (.ireturn, 1) := dk_172 (dk_at dksX5_spelled_7 4 rfl rfl)
theorem dX5_spelled_171 : decode cX5_spelled 171 = .ok (.iload_n 1, 1) := dk_27 (dk_at dksX5_spelled_7 5 rfl rfl)
theorem dX5_spelled_172 : decode cX5_spelled 172 = .ok (.bipush 109, 2) := dk_16 109 (dk_at dksX5_spelled_7 6 rfl rfl)
theorem dX5_spelled_174 : decode cX5_spelled 174 = .ok (.bipush 105, 2) := dk_16 105 (dk_at dksX5_spelled_7 8 rfl rfl)
theorem dX5_spelled_176 : decode cX5_spelled 176 = .ok (.bipush 120, 2) := dk_16 120 (dk_at dksX5_spelled_7 10 rfl rfl)
theorem dX5_spelled_178 : decode cX5_spelled 178 = .ok (.iconst 0, 1) := dk_3 (dk_at dksX5_spelled_7 12 rfl rfl)
theorem dX5_spelled_179 : decode cX5_spelled 179 = .ok (.iconst 0, 1) := dk_3 (dk_at dksX5_spelled_7 13 rfl rfl)
theorem dX5_spelled_180 : decode cX5_spelled 180 = .ok (.iconst 0, 1) := dk_3 (dk_at dksX5_spelled_7 14 rfl rfl)
theorem dX5_spelled_181 : decode cX5_spelled 181 = .ok (.iconst 0, 1) := dk_3 (dk_at dksX5_spelled_7 15 rfl rfl)
theorem dX5_spelled_182 : decode cX5_spelled 182 = .ok (.invokestatic 290, 3) := dk_184 1 34 (dk_at dksX5_spelled_7 16 rfl rfl)
theorem dX5_spelled_185 : decode cX5_spelled 185 = .ok (.ireturn, 1) := dk_172 (dk_at dksX5_spelled_7 19 rfl rfl)
theorem dX5_spelled_186 : decode cX5_spelled 186 = .ok (.iload_n 1, 1) := dk_27 (dk_at dksX5_spelled_7 20 rfl rfl)
theorem dX5_spelled_187 : decode cX5_spelled 187 = .ok (.bipush 100, 2) := dk_16 100 (dk_at dksX5_spelled_7 21 rfl rfl)
theorem dX5_spelled_189 : decode cX5_spelled 189 = .ok (.bipush 97, 2) := dk_16 97 (dk_at dksX5_spelled_8 0 rfl rfl)
theorem dX5_spelled_191 : decode cX5_spelled 191 = .ok (.bipush 121, 2) := dk_16 121 (dk_at dksX5_spelled_8 2 rfl rfl)
theorem dX5_spelled_193 : decode cX5_spelled 193 = .ok (.iconst 0, 1) := dk_3 (dk_at dksX5_spelled_8 4 rfl rfl)
theorem dX5_spelled_194 : decode cX5_spelled 194 = .ok (.iconst 0, 1) := dk_3 (dk_at dksX5_spelled_8 5 rfl rfl)
theorem dX5_spelled_195 : decode cX5_spelled 195 = .ok (.iconst 0, 1) := dk_3 (dk_at dksX5_spelled_8 6 rfl rfl)
theorem dX5_spelled_196 : decode cX5_spelled 196 = .ok (.iconst 0, 1) := dk_3 (dk_at dksX5_spelled_8 7 rfl rfl)
theorem dX5_spelled_197 : decode cX5_spelled 197 = .ok (.invokestatic 290, 3) := dk_184 1 34 (dk_at dksX5_spelled_8 8 rfl rfl)
theorem dX5_spelled_200 : decode cX5_spelled 200 = .ok (.ireturn, 1) := dk_172 (dk_at dksX5_spelled_8 11 rfl rfl)
def dkwX5_pick_2 : List UInt8 := [27, 172, 28, 172, 29, 172, 21, 4, 172, 21, 5, 172, 21, 6, 172, 21, 7, 172, 3, 172]
abbrev dktX5_pick_2 : List UInt8 := dkwX5_pick_2 ++ []
def dkwX5_pick_1 : List UInt8 := [170, 0, 0, 0, 0, 0, 61, 0, 0, 0, 0, 0, 0, 0, 6, 0, 0, 0, 43, 0, 0, 0, 45, 0, 0, 0, 47, 0, 0, 0, 49, 0, 0, 0, 52, 0, 0, 0, 55, 0, 0, 0, 58]
abbrev dktX5_pick_1 : List UInt8 := dkwX5_pick_1 ++ dktX5_pick_2
def dkwX5_pick_0 : List UInt8 := [26]
abbrev dktX5_pick_0 : List UInt8 := dkwX5_pick_0 ++ dktX5_pick_1
theorem dksX5_pick_0 : cX5_pick.data.toList.drop 0 = dktX5_pick_0 := by decide +kernel
theorem dksX5_pick_1 : cX5_pick.data.toList.drop 1 = dktX5_pick_1 := dk_seg dksX5_pick_0 1 rfl rfl
theorem dksX5_pick_2 : cX5_pick.data.toList.drop 44 = dktX5_pick_2 := dk_seg dksX5_pick_1 43 rfl rfl
theorem dX5_pick_0 : decode cX5_pick 0 = .ok (.iload_n 0, 1) := dk_26 (dk_at dksX5_pick_0 0 rfl rfl)
theorem dX5_pick_1 : decode cX5_pick 1 = .ok (.tableswitch 61 0 6 #[43, 45, 47, 49, 52, 55, 58], 43) := by decide +kernel
theorem dX5_pick_44 : decode cX5_pick 44 = .ok (.iload_n 1, 1) := dk_27 (dk_at dksX5_pick_2 0 rfl rfl)
theorem dX5_pick_45 : decode cX5_pick 45 = .ok (.ireturn, 1) := dk_172 (dk_at dksX5_pick_2 1 rfl rfl)
theorem dX5_pick_46 : decode cX5_pick 46 = .ok (.iload_n 2, 1) := dk_28 (dk_at dksX5_pick_2 2 rfl rfl)
theorem dX5_pick_47 : decode cX5_pick 47 = .ok (.ireturn, 1) := dk_172 (dk_at dksX5_pick_2 3 rfl rfl)
theorem dX5_pick_48 : decode cX5_pick 48 = .ok (.iload_n 3, 1) := dk_29 (dk_at dksX5_pick_2 4 rfl rfl)
theorem dX5_pick_49 : decode cX5_pick 49 = .ok (.ireturn, 1) := dk_172 (dk_at dksX5_pick_2 5 rfl rfl)
theorem dX5_pick_50 : decode cX5_pick 50 = .ok (.iload 4, 2) := dk_21 4 (dk_at dksX5_pick_2 6 rfl rfl)
theorem dX5_pick_52 : decode cX5_pick 52 = .ok (.ireturn, 1) := dk_172 (dk_at dksX5_pick_2 8 rfl rfl)
theorem dX5_pick_53 : decode cX5_pick 53 = .ok (.iload 5, 2) := dk_21 5 (dk_at dksX5_pick_2 9 rfl rfl)
theorem dX5_pick_55 : decode cX5_pick 55 = .ok (.ireturn, 1) := dk_172 (dk_at dksX5_pick_2 11 rfl rfl)
theorem dX5_pick_56 : decode cX5_pick 56 = .ok (.iload 6, 2) := dk_21 6 (dk_at dksX5_pick_2 12 rfl rfl)
theorem dX5_pick_58 : decode cX5_pick 58 = .ok (.ireturn, 1) := dk_172 (dk_at dksX5_pick_2 14 rfl rfl)
theorem dX5_pick_59 : decode cX5_pick 59 = .ok (.iload 7, 2) := dk_21 7 (dk_at dksX5_pick_2 15 rfl rfl)
theorem dX5_pick_61 : decode cX5_pick 61 = .ok (.ireturn, 1) := dk_172 (dk_at dksX5_pick_2 17 rfl rfl)
theorem dX5_pick_62 : decode cX5_pick 62 = .ok (.iconst 0, 1) := dk_3 (dk_at dksX5_pick_2 18 rfl rfl)
theorem dX5_pick_63 : decode cX5_pick 63 = .ok (.ireturn, 1) := dk_172 (dk_at dksX5_pick_2 19 rfl rfl)
def dkwX5_readsArguments_5 : List UInt8 := [160, 0, 20, 42, 16, 32, 3, 182, 1, 30, 167, 0, 10, 42, 16, 32, 3, 182, 1, 30, 177]
abbrev dktX5_readsArguments_5 : List UInt8 := dkwX5_readsArguments_5 ++ []
def dkwX5_readsArguments_4 : List UInt8 := [167, 0, 42, 42, 180, 0, 63, 16, 8, 42, 180, 0, 75, 104, 4, 79, 42, 182, 1, 24, 16, 32]
abbrev dktX5_readsArguments_4 : List UInt8 := dkwX5_readsArguments_4 ++ dktX5_readsArguments_5
def dkwX5_readsArguments_3 : List UInt8 := [182, 1, 44, 167, 0, 62, 42, 16, 32, 3, 182, 1, 30, 42, 16, 32, 4, 182, 1, 30, 167, 0, 45]
abbrev dktX5_readsArguments_3 : List UInt8 := dkwX5_readsArguments_3 ++ dktX5_readsArguments_4
def dkwX5_readsArguments_2 : List UInt8 := [42, 182, 1, 41, 167, 0, 83, 42, 182, 1, 41, 42, 16, 32, 7, 182, 1, 30, 167, 0, 69, 42]
abbrev dktX5_readsArguments_2 : List UInt8 := dkwX5_readsArguments_2 ++ dktX5_readsArguments_3
def dkwX5_readsArguments_1 : List UInt8 := [170, 0, 0, 0, 0, 0, 131, 0, 0, 0, 0, 0, 0, 0, 8, 0, 0, 0, 51, 0, 0, 0, 58, 0, 0, 0, 131, 0, 0, 0, 131, 0, 0, 0, 72, 0, 0, 0, 79, 0, 0, 0, 96, 0, 0, 0, 79, 0, 0, 0, 99]
abbrev dktX5_readsArguments_1 : List UInt8 := dkwX5_readsArguments_1 ++ dktX5_readsArguments_2
def dkwX5_readsArguments_0 : List UInt8 := [27]
abbrev dktX5_readsArguments_0 : List UInt8 := dkwX5_readsArguments_0 ++ dktX5_readsArguments_1
theorem dksX5_readsArguments_0 : cX5_readsArguments.data.toList.drop 0 = dktX5_readsArguments_0 := by decide +kernel
theorem dksX5_readsArguments_1 : cX5_readsArguments.data.toList.drop 1 = dktX5_readsArguments_1 := dk_seg dksX5_readsArguments_0 1 rfl rfl
theorem dksX5_readsArguments_2 : cX5_readsArguments.data.toList.drop 52 = dktX5_readsArguments_2 := dk_seg dksX5_readsArguments_1 51 rfl rfl
theorem dksX5_readsArguments_3 : cX5_readsArguments.data.toList.drop 74 = dktX5_readsArguments_3 := dk_seg dksX5_readsArguments_2 22 rfl rfl
theorem dksX5_readsArguments_4 : cX5_readsArguments.data.toList.drop 97 = dktX5_readsArguments_4 := dk_seg dksX5_readsArguments_3 23 rfl rfl
theorem dksX5_readsArguments_5 : cX5_readsArguments.data.toList.drop 119 = dktX5_readsArguments_5 := dk_seg dksX5_readsArguments_4 22 rfl rfl
theorem dX5_readsArguments_0 : decode cX5_readsArguments 0 = .ok (.iload_n 1, 1) := dk_27 (dk_at dksX5_readsArguments_0 0 rfl rfl)
theorem dX5_readsArguments_1 : decode cX5_readsArguments 1 = .ok (.tableswitch 131 0 8 #[51, 58, 131, 131, 72, 79, 96, 79, 99], 51) := by decide +kernel
theorem dX5_readsArguments_52 : decode cX5_readsArguments 52 = .ok (.aload_n 0, 1) := dk_42 (dk_at dksX5_readsArguments_2 0 rfl rfl)
theorem dX5_readsArguments_53 : decode cX5_readsArguments 53 = .ok (.invokevirtual 297, 3) := dk_182 1 41 (dk_at dksX5_readsArguments_2 1 rfl rfl)
theorem dX5_readsArguments_56 : decode cX5_readsArguments 56 = .ok (.goto 83, 3) := dk_167 0 83 (dk_at dksX5_readsArguments_2 4 rfl rfl)
theorem dX5_readsArguments_59 : decode cX5_readsArguments 59 = .ok (.aload_n 0, 1) := dk_42 (dk_at dksX5_readsArguments_2 7 rfl rfl)
theorem dX5_readsArguments_60 : decode cX5_readsArguments 60 = .ok (.invokevirtual 297, 3) := dk_182 1 41 (dk_at dksX5_readsArguments_2 8 rfl rfl)
theorem dX5_readsArguments_63 : decode cX5_readsArguments 63 = .ok (.aload_n 0, 1) := dk_42 (dk_at dksX5_readsArguments_2 11 rfl rfl)
theorem dX5_readsArguments_64 : decode cX5_readsArguments 64 = .ok (.bipush 32, 2) := dk_16 32 (dk_at dksX5_readsArguments_2 12 rfl rfl)
theorem dX5_readsArguments_66 : decode cX5_readsArguments 66 = .ok (.iconst 4, 1) := dk_7 (dk_at dksX5_readsArguments_2 14 rfl rfl)
theorem dX5_readsArguments_67 : decode cX5_readsArguments 67 = .ok (.invokevirtual 286, 3) := dk_182 1 30 (dk_at dksX5_readsArguments_2 15 rfl rfl)
theorem dX5_readsArguments_70 : decode cX5_readsArguments 70 = .ok (.goto 69, 3) := dk_167 0 69 (dk_at dksX5_readsArguments_2 18 rfl rfl)
theorem dX5_readsArguments_73 : decode cX5_readsArguments 73 = .ok (.aload_n 0, 1) := dk_42 (dk_at dksX5_readsArguments_2 21 rfl rfl)
theorem dX5_readsArguments_74 : decode cX5_readsArguments 74 = .ok (.invokevirtual 300, 3) := dk_182 1 44 (dk_at dksX5_readsArguments_3 0 rfl rfl)
theorem dX5_readsArguments_77 : decode cX5_readsArguments 77 = .ok (.goto 62, 3) := dk_167 0 62 (dk_at dksX5_readsArguments_3 3 rfl rfl)
theorem dX5_readsArguments_80 : decode cX5_readsArguments 80 = .ok (.aload_n 0, 1) := dk_42 (dk_at dksX5_readsArguments_3 6 rfl rfl)
theorem dX5_readsArguments_81 : decode cX5_readsArguments 81 = .ok (.bipush 32, 2) := dk_16 32 (dk_at dksX5_readsArguments_3 7 rfl rfl)
theorem dX5_readsArguments_83 : decode cX5_readsArguments 83 = .ok (.iconst 0, 1) := dk_3 (dk_at dksX5_readsArguments_3 9 rfl rfl)
theorem dX5_readsArguments_84 : decode cX5_readsArguments 84 = .ok (.invokevirtual 286, 3) := dk_182 1 30 (dk_at dksX5_readsArguments_3 10 rfl rfl)
theorem dX5_readsArguments_87 : decode cX5_readsArguments 87 = .ok (.aload_n 0, 1) := dk_42 (dk_at dksX5_readsArguments_3 13 rfl rfl)
theorem dX5_readsArguments_88 : decode cX5_readsArguments 88 = .ok (.bipush 32, 2) := dk_16 32 (dk_at dksX5_readsArguments_3 14 rfl rfl)
theorem dX5_readsArguments_90 : decode cX5_readsArguments 90 = .ok (.iconst 1, 1) := dk_4 (dk_at dksX5_readsArguments_3 16 rfl rfl)
theorem dX5_readsArguments_91 : decode cX5_readsArguments 91 = .ok (.invokevirtual 286, 3) := dk_182 1 30 (dk_at dksX5_readsArguments_3 17 rfl rfl)
theorem dX5_readsArguments_94 : decode cX5_readsArguments 94 = .ok (.goto 45, 3) := dk_167 0 45 (dk_at dksX5_readsArguments_3 20 rfl rfl)
theorem dX5_readsArguments_97 : decode cX5_readsArguments 97 = .ok (.goto 42, 3) := dk_167 0 42 (dk_at dksX5_readsArguments_4 0 rfl rfl)
theorem dX5_readsArguments_100 : decode cX5_readsArguments 100 = .ok (.aload_n 0, 1) := dk_42 (dk_at dksX5_readsArguments_4 3 rfl rfl)
theorem dX5_readsArguments_101 : decode cX5_readsArguments 101 = .ok (.getfield 63, 3) := dk_180 0 63 (dk_at dksX5_readsArguments_4 4 rfl rfl)
theorem dX5_readsArguments_104 : decode cX5_readsArguments 104 = .ok (.bipush 8, 2) := dk_16 8 (dk_at dksX5_readsArguments_4 7 rfl rfl)
theorem dX5_readsArguments_106 : decode cX5_readsArguments 106 = .ok (.aload_n 0, 1) := dk_42 (dk_at dksX5_readsArguments_4 9 rfl rfl)
theorem dX5_readsArguments_107 : decode cX5_readsArguments 107 = .ok (.getfield 75, 3) := dk_180 0 75 (dk_at dksX5_readsArguments_4 10 rfl rfl)
theorem dX5_readsArguments_110 : decode cX5_readsArguments 110 = .ok (.imul, 1) := dk_104 (dk_at dksX5_readsArguments_4 13 rfl rfl)
theorem dX5_readsArguments_111 : decode cX5_readsArguments 111 = .ok (.iconst 1, 1) := dk_4 (dk_at dksX5_readsArguments_4 14 rfl rfl)
theorem dX5_readsArguments_112 : decode cX5_readsArguments 112 = .ok (.iastore, 1) := dk_79 (dk_at dksX5_readsArguments_4 15 rfl rfl)
theorem dX5_readsArguments_113 : decode cX5_readsArguments 113 = .ok (.aload_n 0, 1) := dk_42 (dk_at dksX5_readsArguments_4 16 rfl rfl)
theorem dX5_readsArguments_114 : decode cX5_readsArguments 114 = .ok (.invokevirtual 280, 3) := dk_182 1 24 (dk_at dksX5_readsArguments_4 17 rfl rfl)
theorem dX5_readsArguments_117 : decode cX5_readsArguments 117 = .ok (.bipush 32, 2) := dk_16 32 (dk_at dksX5_readsArguments_4 20 rfl rfl)
theorem dX5_readsArguments_119 : decode cX5_readsArguments 119 = .ok (.if_icmp .ne 20, 3) := dk_160 0 20 (dk_at dksX5_readsArguments_5 0 rfl rfl)
theorem dX5_readsArguments_122 : decode cX5_readsArguments 122 = .ok (.aload_n 0, 1) := dk_42 (dk_at dksX5_readsArguments_5 3 rfl rfl)
theorem dX5_readsArguments_123 : decode cX5_readsArguments 123 = .ok (.bipush 32, 2) := dk_16 32 (dk_at dksX5_readsArguments_5 4 rfl rfl)
theorem dX5_readsArguments_125 : decode cX5_readsArguments 125 = .ok (.iconst 0, 1) := dk_3 (dk_at dksX5_readsArguments_5 6 rfl rfl)
theorem dX5_readsArguments_126 : decode cX5_readsArguments 126 = .ok (.invokevirtual 286, 3) := dk_182 1 30 (dk_at dksX5_readsArguments_5 7 rfl rfl)
theorem dX5_readsArguments_129 : decode cX5_readsArguments 129 = .ok (.goto 10, 3) := dk_167 0 10 (dk_at dksX5_readsArguments_5 10 rfl rfl)
theorem dX5_readsArguments_132 : decode cX5_readsArguments 132 = .ok (.aload_n 0, 1) := dk_42 (dk_at dksX5_readsArguments_5 13 rfl rfl)
theorem dX5_readsArguments_133 : decode cX5_readsArguments 133 = .ok (.bipush 32, 2) := dk_16 32 (dk_at dksX5_readsArguments_5 14 rfl rfl)
theorem dX5_readsArguments_135 : decode cX5_readsArguments 135 = .ok (.iconst 0, 1) := dk_3 (dk_at dksX5_readsArguments_5 16 rfl rfl)
theorem dX5_readsArguments_136 : decode cX5_readsArguments 136 = .ok (.invokevirtual 286, 3) := dk_182 1 30 (dk_at dksX5_readsArguments_5 17 rfl rfl)
theorem dX5_readsArguments_139 : decode cX5_readsArguments 139 = .ok (.return_, 1) := dk_177 (dk_at dksX5_readsArguments_5 20 rfl rfl)
def dkwX5_readsColour_1 : List UInt8 := [6, 182, 1, 30, 177]
abbrev dktX5_readsColour_1 : List UInt8 := dkwX5_readsColour_1 ++ []
def dkwX5_readsColour_0 : List UInt8 := [42, 16, 32, 3, 182, 1, 30, 42, 16, 47, 4, 182, 1, 30, 42, 16, 47, 5, 182, 1, 30, 42, 16, 32]
abbrev dktX5_readsColour_0 : List UInt8 := dkwX5_readsColour_0 ++ dktX5_readsColour_1
theorem dksX5_readsColour_0 : cX5_readsColour.data.toList.drop 0 = dktX5_readsColour_0 := by decide +kernel
theorem dksX5_readsColour_1 : cX5_readsColour.data.toList.drop 24 = dktX5_readsColour_1 := dk_seg dksX5_readsColour_0 24 rfl rfl
theorem dX5_readsColour_0 : decode cX5_readsColour 0 = .ok (.aload_n 0, 1) := dk_42 (dk_at dksX5_readsColour_0 0 rfl rfl)
theorem dX5_readsColour_1 : decode cX5_readsColour 1 = .ok (.bipush 32, 2) := dk_16 32 (dk_at dksX5_readsColour_0 1 rfl rfl)
theorem dX5_readsColour_3 : decode cX5_readsColour 3 = .ok (.iconst 0, 1) := dk_3 (dk_at dksX5_readsColour_0 3 rfl rfl)
theorem dX5_readsColour_4 : decode cX5_readsColour 4 = .ok (.invokevirtual 286, 3) := dk_182 1 30 (dk_at dksX5_readsColour_0 4 rfl rfl)
theorem dX5_readsColour_7 : decode cX5_readsColour 7 = .ok (.aload_n 0, 1) := dk_42 (dk_at dksX5_readsColour_0 7 rfl rfl)
theorem dX5_readsColour_8 : decode cX5_readsColour 8 = .ok (.bipush 47, 2) := dk_16 47 (dk_at dksX5_readsColour_0 8 rfl rfl)
theorem dX5_readsColour_10 : decode cX5_readsColour 10 = .ok (.iconst 1, 1) := dk_4 (dk_at dksX5_readsColour_0 10 rfl rfl)
theorem dX5_readsColour_11 : decode cX5_readsColour 11 = .ok (.invokevirtual 286, 3) := dk_182 1 30 (dk_at dksX5_readsColour_0 11 rfl rfl)
theorem dX5_readsColour_14 : decode cX5_readsColour 14 = .ok (.aload_n 0, 1) := dk_42 (dk_at dksX5_readsColour_0 14 rfl rfl)
theorem dX5_readsColour_15 : decode cX5_readsColour 15 = .ok (.bipush 47, 2) := dk_16 47 (dk_at dksX5_readsColour_0 15 rfl rfl)
theorem dX5_readsColour_17 : decode cX5_readsColour 17 = .ok (.iconst 2, 1) := dk_5 (dk_at dksX5_readsColour_0 17 rfl rfl)
theorem dX5_readsColour_18 : decode cX5_readsColour 18 = .ok (.invokevirtual 286, 3) := dk_182 1 30 (dk_at dksX5_readsColour_0 18 rfl rfl)
theorem dX5_readsColour_21 : decode cX5_readsColour 21 = .ok (.aload_n 0, 1) := dk_42 (dk_at dksX5_readsColour_0 21 rfl rfl)
theorem dX5_readsColour_22 : decode cX5_readsColour 22 = .ok (.bipush 32, 2) := dk_16 32 (dk_at dksX5_readsColour_0 22 rfl rfl)
theorem dX5_readsColour_24 : decode cX5_readsColour 24 = .ok (.iconst 3, 1) := dk_6 (dk_at dksX5_readsColour_1 0 rfl rfl)
theorem dX5_readsColour_25 : decode cX5_readsColour 25 = .ok (.invokevirtual 286, 3) := dk_182 1 30 (dk_at dksX5_readsColour_1 1 rfl rfl)
theorem dX5_readsColour_28 : decode cX5_readsColour 28 = .ok (.return_, 1) := dk_177 (dk_at dksX5_readsColour_1 4 rfl rfl)
def dkwX5_reads_2 : List UInt8 := [16, 8, 42, 180, 0, 75, 104, 28, 96, 42, 182, 1, 27, 79, 177]
abbrev dktX5_reads_2 : List UInt8 := dkwX5_reads_2 ++ []
def dkwX5_reads_1 : List UInt8 := [180, 0, 72, 42, 180, 0, 78, 153, 0, 7, 3, 167, 0, 4, 4, 96, 181, 0, 72, 42, 180, 0, 63]
abbrev dktX5_reads_1 : List UInt8 := dkwX5_reads_1 ++ dktX5_reads_2
def dkwX5_reads_0 : List UInt8 := [42, 89, 180, 0, 78, 42, 182, 1, 24, 27, 159, 0, 7, 4, 167, 0, 4, 3, 128, 181, 0, 78, 42, 89]
abbrev dktX5_reads_0 : List UInt8 := dkwX5_reads_0 ++ dktX5_reads_1
theorem dksX5_reads_0 : cX5_reads.data.toList.drop 0 = dktX5_reads_0 := by decide +kernel
theorem dksX5_reads_1 : cX5_reads.data.toList.drop 24 = dktX5_reads_1 := dk_seg dksX5_reads_0 24 rfl rfl
theorem dksX5_reads_2 : cX5_reads.data.toList.drop 47 = dktX5_reads_2 := dk_seg dksX5_reads_1 23 rfl rfl
theorem dX5_reads_0 : decode cX5_reads 0 = .ok (.aload_n 0, 1) := dk_42 (dk_at dksX5_reads_0 0 rfl rfl)
theorem dX5_reads_1 : decode cX5_reads 1 = .ok (.dup, 1) := dk_89 (dk_at dksX5_reads_0 1 rfl rfl)
theorem dX5_reads_2 : decode cX5_reads 2 = .ok (.getfield 78, 3) := dk_180 0 78 (dk_at dksX5_reads_0 2 rfl rfl)
theorem dX5_reads_5 : decode cX5_reads 5 = .ok (.aload_n 0, 1) := dk_42 (dk_at dksX5_reads_0 5 rfl rfl)
theorem dX5_reads_6 : decode cX5_reads 6 = .ok (.invokevirtual 280, 3) := dk_182 1 24 (dk_at dksX5_reads_0 6 rfl rfl)
theorem dX5_reads_9 : decode cX5_reads 9 = .ok (.iload_n 1, 1) := dk_27 (dk_at dksX5_reads_0 9 rfl rfl)
theorem dX5_reads_10 : decode cX5_reads 10 = .ok (.if_icmp .eq 7, 3) := dk_159 0 7 (dk_at dksX5_reads_0 10 rfl rfl)
theorem dX5_reads_13 : decode cX5_reads 13 = .ok (.iconst 1, 1) := dk_4 (dk_at dksX5_reads_0 13 rfl rfl)
theorem dX5_reads_14 : decode cX5_reads 14 = .ok (.goto 4, 3) := dk_167 0 4 (dk_at dksX5_reads_0 14 rfl rfl)
theorem dX5_reads_17 : decode cX5_reads 17 = .ok (.iconst 0, 1) := dk_3 (dk_at dksX5_reads_0 17 rfl rfl)
theorem dX5_reads_18 : decode cX5_reads 18 = .ok (.ior, 1) := dk_128 (dk_at dksX5_reads_0 18 rfl rfl)
theorem dX5_reads_19 : decode cX5_reads 19 = .ok (.putfield 78, 3) := dk_181 0 78 (dk_at dksX5_reads_0 19 rfl rfl)
theorem dX5_reads_22 : decode cX5_reads 22 = .ok (.aload_n 0, 1) := dk_42 (dk_at dksX5_reads_0 22 rfl rfl)
theorem dX5_reads_23 : decode cX5_reads 23 = .ok (.dup, 1) := dk_89 (dk_at dksX5_reads_0 23 rfl rfl)
theorem dX5_reads_24 : decode cX5_reads 24 = .ok (.getfield 72, 3) := dk_180 0 72 (dk_at dksX5_reads_1 0 rfl rfl)
theorem dX5_reads_27 : decode cX5_reads 27 = .ok (.aload_n 0, 1) := dk_42 (dk_at dksX5_reads_1 3 rfl rfl)
theorem dX5_reads_28 : decode cX5_reads 28 = .ok (.getfield 78, 3) := dk_180 0 78 (dk_at dksX5_reads_1 4 rfl rfl)
theorem dX5_reads_31 : decode cX5_reads 31 = .ok (.ifCond .eq 7, 3) := dk_153 0 7 (dk_at dksX5_reads_1 7 rfl rfl)
theorem dX5_reads_34 : decode cX5_reads 34 = .ok (.iconst 0, 1) := dk_3 (dk_at dksX5_reads_1 10 rfl rfl)
theorem dX5_reads_35 : decode cX5_reads 35 = .ok (.goto 4, 3) := dk_167 0 4 (dk_at dksX5_reads_1 11 rfl rfl)
theorem dX5_reads_38 : decode cX5_reads 38 = .ok (.iconst 1, 1) := dk_4 (dk_at dksX5_reads_1 14 rfl rfl)
theorem dX5_reads_39 : decode cX5_reads 39 = .ok (.iadd, 1) := dk_96 (dk_at dksX5_reads_1 15 rfl rfl)
theorem dX5_reads_40 : decode cX5_reads 40 = .ok (.putfield 72, 3) := dk_181 0 72 (dk_at dksX5_reads_1 16 rfl rfl)
theorem dX5_reads_43 : decode cX5_reads 43 = .ok (.aload_n 0, 1) := dk_42 (dk_at dksX5_reads_1 19 rfl rfl)
theorem dX5_reads_44 : decode cX5_reads 44 = .ok (.getfield 63, 3) := dk_180 0 63 (dk_at dksX5_reads_1 20 rfl rfl)
theorem dX5_reads_47 : decode cX5_reads 47 = .ok (.bipush 8, 2) := dk_16 8 (dk_at dksX5_reads_2 0 rfl rfl)
theorem dX5_reads_49 : decode cX5_reads 49 = .ok (.aload_n 0, 1) := dk_42 (dk_at dksX5_reads_2 2 rfl rfl)
theorem dX5_reads_50 : decode cX5_reads 50 = .ok (.getfield 75, 3) := dk_180 0 75 (dk_at dksX5_reads_2 3 rfl rfl)
theorem dX5_reads_53 : decode cX5_reads 53 = .ok (.imul, 1) := dk_104 (dk_at dksX5_reads_2 6 rfl rfl)
theorem dX5_reads_54 : decode cX5_reads 54 = .ok (.iload_n 2, 1) := dk_28 (dk_at dksX5_reads_2 7 rfl rfl)
theorem dX5_reads_55 : decode cX5_reads 55 = .ok (.iadd, 1) := dk_96 (dk_at dksX5_reads_2 8 rfl rfl)
theorem dX5_reads_56 : decode cX5_reads 56 = .ok (.aload_n 0, 1) := dk_42 (dk_at dksX5_reads_2 9 rfl rfl)
theorem dX5_reads_57 : decode cX5_reads 57 = .ok (.invokevirtual 283, 3) := dk_182 1 27 (dk_at dksX5_reads_2 10 rfl rfl)
theorem dX5_reads_60 : decode cX5_reads 60 = .ok (.iastore, 1) := dk_79 (dk_at dksX5_reads_2 13 rfl rfl)
theorem dX5_reads_61 : decode cX5_reads 61 = .ok (.return_, 1) := dk_177 (dk_at dksX5_reads_2 14 rfl rfl)
def dkwX5_mark_1 : List UInt8 := [180, 0, 72, 46, 167, 0, 4, 2, 172]
abbrev dktX5_mark_1 : List UInt8 := dkwX5_mark_1 ++ []
def dkwX5_mark_0 : List UInt8 := [42, 180, 0, 78, 154, 0, 26, 42, 180, 0, 72, 42, 180, 0, 69, 162, 0, 15, 42, 180, 0, 57, 42]
abbrev dktX5_mark_0 : List UInt8 := dkwX5_mark_0 ++ dktX5_mark_1
theorem dksX5_mark_0 : cX5_mark.data.toList.drop 0 = dktX5_mark_0 := by decide +kernel
theorem dksX5_mark_1 : cX5_mark.data.toList.drop 23 = dktX5_mark_1 := dk_seg dksX5_mark_0 23 rfl rfl
theorem dX5_mark_0 : decode cX5_mark 0 = .ok (.aload_n 0, 1) := dk_42 (dk_at dksX5_mark_0 0 rfl rfl)
theorem dX5_mark_1 : decode cX5_mark 1 = .ok (.getfield 78, 3) := dk_180 0 78 (dk_at dksX5_mark_0 1 rfl rfl)
theorem dX5_mark_4 : decode cX5_mark 4 = .ok (.ifCond .ne 26, 3) := dk_154 0 26 (dk_at dksX5_mark_0 4 rfl rfl)
theorem dX5_mark_7 : decode cX5_mark 7 = .ok (.aload_n 0, 1) := dk_42 (dk_at dksX5_mark_0 7 rfl rfl)
theorem dX5_mark_8 : decode cX5_mark 8 = .ok (.getfield 72, 3) := dk_180 0 72 (dk_at dksX5_mark_0 8 rfl rfl)
theorem dX5_mark_11 : decode cX5_mark 11 = .ok (.aload_n 0, 1) := dk_42 (dk_at dksX5_mark_0 11 rfl rfl)
theorem dX5_mark_12 : decode cX5_mark 12 = .ok (.getfield 69, 3) := dk_180 0 69 (dk_at dksX5_mark_0 12 rfl rfl)
theorem dX5_mark_15 : decode cX5_mark 15 = .ok (.if_icmp .ge 15, 3) := dk_162 0 15 (dk_at dksX5_mark_0 15 rfl rfl)
theorem dX5_mark_18 : decode cX5_mark 18 = .ok (.aload_n 0, 1) := dk_42 (dk_at dksX5_mark_0 18 rfl rfl)
theorem dX5_mark_19 : decode cX5_mark 19 = .ok (.getfield 57, 3) := dk_180 0 57 (dk_at dksX5_mark_0 19 rfl rfl)
theorem dX5_mark_22 : decode cX5_mark 22 = .ok (.aload_n 0, 1) := dk_42 (dk_at dksX5_mark_0 22 rfl rfl)
theorem dX5_mark_23 : decode cX5_mark 23 = .ok (.getfield 72, 3) := dk_180 0 72 (dk_at dksX5_mark_1 0 rfl rfl)
theorem dX5_mark_26 : decode cX5_mark 26 = .ok (.iaload, 1) := dk_46 (dk_at dksX5_mark_1 3 rfl rfl)
theorem dX5_mark_27 : decode cX5_mark 27 = .ok (.goto 4, 3) := dk_167 0 4 (dk_at dksX5_mark_1 4 rfl rfl)
theorem dX5_mark_30 : decode cX5_mark 30 = .ok (.iconst (-1), 1) := dk_2 (dk_at dksX5_mark_1 7 rfl rfl)
theorem dX5_mark_31 : decode cX5_mark 31 = .ok (.ireturn, 1) := dk_172 (dk_at dksX5_mark_1 8 rfl rfl)
def dkwX5_number_3 : List UInt8 := [180, 0, 72, 4, 96, 181, 0, 72, 132, 2, 1, 167, 255, 206, 27, 172]
abbrev dktX5_number_3 : List UInt8 := dkwX5_number_3 ++ []
def dkwX5_number_2 : List UInt8 := [153, 0, 37, 16, 10, 27, 104, 42, 180, 0, 57, 42, 180, 0, 72, 46, 96, 16, 48, 100, 60, 42, 89]
abbrev dktX5_number_2 : List UInt8 := dkwX5_number_2 ++ dktX5_number_3
def dkwX5_number_1 : List UInt8 := [128, 181, 0, 78, 3, 60, 3, 61, 28, 7, 162, 0, 51, 42, 182, 1, 24, 16, 48, 16, 57, 184, 0, 112]
abbrev dktX5_number_1 : List UInt8 := dkwX5_number_1 ++ dktX5_number_2
def dkwX5_number_0 : List UInt8 := [42, 89, 180, 0, 78, 42, 182, 1, 24, 16, 48, 16, 57, 184, 0, 112, 154, 0, 7, 4, 167, 0, 4, 3]
abbrev dktX5_number_0 : List UInt8 := dkwX5_number_0 ++ dktX5_number_1
theorem dksX5_number_0 : cX5_number.data.toList.drop 0 = dktX5_number_0 := by decide +kernel
theorem dksX5_number_1 : cX5_number.data.toList.drop 24 = dktX5_number_1 := dk_seg dksX5_number_0 24 rfl rfl
theorem dksX5_number_2 : cX5_number.data.toList.drop 48 = dktX5_number_2 := dk_seg dksX5_number_1 24 rfl rfl
theorem dksX5_number_3 : cX5_number.data.toList.drop 71 = dktX5_number_3 := dk_seg dksX5_number_2 23 rfl rfl
theorem dX5_number_0 : decode cX5_number 0 = .ok (.aload_n 0, 1) := dk_42 (dk_at dksX5_number_0 0 rfl rfl)
theorem dX5_number_1 : decode cX5_number 1 = .ok (.dup, 1) := dk_89 (dk_at dksX5_number_0 1 rfl rfl)
theorem dX5_number_2 : decode cX5_number 2 = .ok (.getfield 78, 3) := dk_180 0 78 (dk_at dksX5_number_0 2 rfl rfl)
theorem dX5_number_5 : decode cX5_number 5 = .ok (.aload_n 0, 1) := dk_42 (dk_at dksX5_number_0 5 rfl rfl)
theorem dX5_number_6 : decode cX5_number 6 = .ok (.invokevirtual 280, 3) := dk_182 1 24 (dk_at dksX5_number_0 6 rfl rfl)
theorem dX5_number_9 : decode cX5_number 9 = .ok (.bipush 48, 2) := dk_16 48 (dk_at dksX5_number_0 9 rfl rfl)
theorem dX5_number_11 : decode cX5_number 11 = .ok (.bipush 57, 2) := dk_16 57 (dk_at dksX5_number_0 11 rfl rfl)
theorem dX5_number_13 : decode cX5_number 13 = .ok (.invokestatic 112, 3) := dk_184 0 112 (dk_at dksX5_number_0 13 rfl rfl)
theorem dX5_number_16 : decode cX5_number 16 = .ok (.ifCond .ne 7, 3) := dk_154 0 7 (dk_at dksX5_number_0 16 rfl rfl)
theorem dX5_number_19 : decode cX5_number 19 = .ok (.iconst 1, 1) := dk_4 (dk_at dksX5_number_0 19 rfl rfl)
theorem dX5_number_20 : decode cX5_number 20 = .ok (.goto 4, 3) := dk_167 0 4 (dk_at dksX5_number_0 20 rfl rfl)
theorem dX5_number_23 : decode cX5_number 23 = .ok (.iconst 0, 1) := dk_3 (dk_at dksX5_number_0 23 rfl rfl)
theorem dX5_number_24 : decode cX5_number 24 = .ok (.ior, 1) := dk_128 (dk_at dksX5_number_1 0 rfl rfl)
theorem dX5_number_25 : decode cX5_number 25 = .ok (.putfield 78, 3) := dk_181 0 78 (dk_at dksX5_number_1 1 rfl rfl)
theorem dX5_number_28 : decode cX5_number 28 = .ok (.iconst 0, 1) := dk_3 (dk_at dksX5_number_1 4 rfl rfl)
theorem dX5_number_29 : decode cX5_number 29 = .ok (.istore_n 1, 1) := dk_60 (dk_at dksX5_number_1 5 rfl rfl)
theorem dX5_number_30 : decode cX5_number 30 = .ok (.iconst 0, 1) := dk_3 (dk_at dksX5_number_1 6 rfl rfl)
theorem dX5_number_31 : decode cX5_number 31 = .ok (.istore_n 2, 1) := dk_61 (dk_at dksX5_number_1 7 rfl rfl)
theorem dX5_number_32 : decode cX5_number 32 = .ok (.iload_n 2, 1) := dk_28 (dk_at dksX5_number_1 8 rfl rfl)
theorem dX5_number_33 : decode cX5_number 33 = .ok (.iconst 4, 1) := dk_7 (dk_at dksX5_number_1 9 rfl rfl)
theorem dX5_number_34 : decode cX5_number 34 = .ok (.if_icmp .ge 51, 3) := dk_162 0 51 (dk_at dksX5_number_1 10 rfl rfl)
theorem dX5_number_37 : decode cX5_number 37 = .ok (.aload_n 0, 1) := dk_42 (dk_at dksX5_number_1 13 rfl rfl)
theorem dX5_number_38 : decode cX5_number 38 = .ok (.invokevirtual 280, 3) := dk_182 1 24 (dk_at dksX5_number_1 14 rfl rfl)
theorem dX5_number_41 : decode cX5_number 41 = .ok (.bipush 48, 2) := dk_16 48 (dk_at dksX5_number_1 17 rfl rfl)
theorem dX5_number_43 : decode cX5_number 43 = .ok (.bipush 57, 2) := dk_16 57 (dk_at dksX5_number_1 19 rfl rfl)
theorem dX5_number_45 : decode cX5_number 45 = .ok (.invokestatic 112, 3) := dk_184 0 112 (dk_at dksX5_number_1 21 rfl rfl)
theorem dX5_number_48 : decode cX5_number 48 = .ok (.ifCond .eq 37, 3) := dk_153 0 37 (dk_at dksX5_number_2 0 rfl rfl)
theorem dX5_number_51 : decode cX5_number 51 = .ok (.bipush 10, 2) := dk_16 10 (dk_at dksX5_number_2 3 rfl rfl)
theorem dX5_number_53 : decode cX5_number 53 = .ok (.iload_n 1, 1) := dk_27 (dk_at dksX5_number_2 5 rfl rfl)
theorem dX5_number_54 : decode cX5_number 54 = .ok (.imul, 1) := dk_104 (dk_at dksX5_number_2 6 rfl rfl)
theorem dX5_number_55 : decode cX5_number 55 = .ok (.aload_n 0, 1) := dk_42 (dk_at dksX5_number_2 7 rfl rfl)
theorem dX5_number_56 : decode cX5_number 56 = .ok (.getfield 57, 3) := dk_180 0 57 (dk_at dksX5_number_2 8 rfl rfl)
theorem dX5_number_59 : decode cX5_number 59 = .ok (.aload_n 0, 1) := dk_42 (dk_at dksX5_number_2 11 rfl rfl)
theorem dX5_number_60 : decode cX5_number 60 = .ok (.getfield 72, 3) := dk_180 0 72 (dk_at dksX5_number_2 12 rfl rfl)
theorem dX5_number_63 : decode cX5_number 63 = .ok (.iaload, 1) := dk_46 (dk_at dksX5_number_2 15 rfl rfl)
theorem dX5_number_64 : decode cX5_number 64 = .ok (.iadd, 1) := dk_96 (dk_at dksX5_number_2 16 rfl rfl)
theorem dX5_number_65 : decode cX5_number 65 = .ok (.bipush 48, 2) := dk_16 48 (dk_at dksX5_number_2 17 rfl rfl)
theorem dX5_number_67 : decode cX5_number 67 = .ok (.isub, 1) := dk_100 (dk_at dksX5_number_2 19 rfl rfl)
theorem dX5_number_68 : decode cX5_number 68 = .ok (.istore_n 1, 1) := dk_60 (dk_at dksX5_number_2 20 rfl rfl)
theorem dX5_number_69 : decode cX5_number 69 = .ok (.aload_n 0, 1) := dk_42 (dk_at dksX5_number_2 21 rfl rfl)
theorem dX5_number_70 : decode cX5_number 70 = .ok (.dup, 1) := dk_89 (dk_at dksX5_number_2 22 rfl rfl)
theorem dX5_number_71 : decode cX5_number 71 = .ok (.getfield 72, 3) := dk_180 0 72 (dk_at dksX5_number_3 0 rfl rfl)
theorem dX5_number_74 : decode cX5_number 74 = .ok (.iconst 1, 1) := dk_4 (dk_at dksX5_number_3 3 rfl rfl)
theorem dX5_number_75 : decode cX5_number 75 = .ok (.iadd, 1) := dk_96 (dk_at dksX5_number_3 4 rfl rfl)
theorem dX5_number_76 : decode cX5_number 76 = .ok (.putfield 72, 3) := dk_181 0 72 (dk_at dksX5_number_3 5 rfl rfl)
theorem dX5_number_79 : decode cX5_number 79 = .ok (.iinc 2 1, 3) := dk_132 2 1 (dk_at dksX5_number_3 8 rfl rfl)
theorem dX5_number_82 : decode cX5_number 82 = .ok (.goto (-50), 3) := dk_167 255 206 (dk_at dksX5_number_3 11 rfl rfl)
theorem dX5_number_85 : decode cX5_number 85 = .ok (.iload_n 1, 1) := dk_27 (dk_at dksX5_number_3 14 rfl rfl)
theorem dX5_number_86 : decode cX5_number 86 = .ok (.ireturn, 1) := dk_172 (dk_at dksX5_number_3 15 rfl rfl)
def dkwX5_readsMetric_4 : List UInt8 := [153, 0, 7, 3, 167, 0, 4, 4, 96, 181, 0, 72, 177]
abbrev dktX5_readsMetric_4 : List UInt8 := dkwX5_readsMetric_4 ++ []
def dkwX5_readsMetric_3 : List UInt8 := [180, 0, 63, 16, 8, 42, 180, 0, 75, 104, 42, 182, 1, 24, 79, 42, 89, 180, 0, 72, 42, 180, 0, 78]
abbrev dktX5_readsMetric_3 : List UInt8 := dkwX5_readsMetric_3 ++ dktX5_readsMetric_4
def dkwX5_readsMetric_2 : List UInt8 := [180, 0, 78, 42, 182, 1, 24, 184, 0, 165, 154, 0, 7, 4, 167, 0, 4, 3, 128, 181, 0, 78, 42]
abbrev dktX5_readsMetric_2 : List UInt8 := dkwX5_readsMetric_2 ++ dktX5_readsMetric_3
def dkwX5_readsMetric_1 : List UInt8 := [89, 180, 0, 72, 42, 180, 0, 78, 153, 0, 7, 3, 167, 0, 4, 4, 96, 181, 0, 72, 42, 89]
abbrev dktX5_readsMetric_1 : List UInt8 := dkwX5_readsMetric_1 ++ dktX5_readsMetric_2
def dkwX5_readsMetric_0 : List UInt8 := [42, 89, 180, 0, 78, 42, 182, 1, 24, 16, 32, 159, 0, 7, 4, 167, 0, 4, 3, 128, 181, 0, 78, 42]
abbrev dktX5_readsMetric_0 : List UInt8 := dkwX5_readsMetric_0 ++ dktX5_readsMetric_1
theorem dksX5_readsMetric_0 : cX5_readsMetric.data.toList.drop 0 = dktX5_readsMetric_0 := by decide +kernel
theorem dksX5_readsMetric_1 : cX5_readsMetric.data.toList.drop 24 = dktX5_readsMetric_1 := dk_seg dksX5_readsMetric_0 24 rfl rfl
theorem dksX5_readsMetric_2 : cX5_readsMetric.data.toList.drop 46 = dktX5_readsMetric_2 := dk_seg dksX5_readsMetric_1 22 rfl rfl
theorem dksX5_readsMetric_3 : cX5_readsMetric.data.toList.drop 69 = dktX5_readsMetric_3 := dk_seg dksX5_readsMetric_2 23 rfl rfl
theorem dksX5_readsMetric_4 : cX5_readsMetric.data.toList.drop 93 = dktX5_readsMetric_4 := dk_seg dksX5_readsMetric_3 24 rfl rfl
theorem dX5_readsMetric_0 : decode cX5_readsMetric 0 = .ok (.aload_n 0, 1) := dk_42 (dk_at dksX5_readsMetric_0 0 rfl rfl)
theorem dX5_readsMetric_1 : decode cX5_readsMetric 1 = .ok (.dup, 1) := dk_89 (dk_at dksX5_readsMetric_0 1 rfl rfl)
theorem dX5_readsMetric_2 : decode cX5_readsMetric 2 = .ok (.getfield 78, 3) := dk_180 0 78 (dk_at dksX5_readsMetric_0 2 rfl rfl)
theorem dX5_readsMetric_5 : decode cX5_readsMetric 5 = .ok (.aload_n 0, 1) := dk_42 (dk_at dksX5_readsMetric_0 5 rfl rfl)
theorem dX5_readsMetric_6 : decode cX5_readsMetric 6 = .ok (.invokevirtual 280, 3) := dk_182 1 24 (dk_at dksX5_readsMetric_0 6 rfl rfl)
theorem dX5_readsMetric_9 : decode cX5_readsMetric 9 = .ok (.bipush 32, 2) := dk_16 32 (dk_at dksX5_readsMetric_0 9 rfl rfl)
theorem dX5_readsMetric_11 : decode cX5_readsMetric 11 = .ok (.if_icmp .eq 7, 3) := dk_159 0 7 (dk_at dksX5_readsMetric_0 11 rfl rfl)
theorem dX5_readsMetric_14 : decode cX5_readsMetric 14 = .ok (.iconst 1, 1) := dk_4 (dk_at dksX5_readsMetric_0 14 rfl rfl)
theorem dX5_readsMetric_15 : decode cX5_readsMetric 15 = .ok (.goto 4, 3) := dk_167 0 4 (dk_at dksX5_readsMetric_0 15 rfl rfl)
theorem dX5_readsMetric_18 : decode cX5_readsMetric 18 = .ok (.iconst 0, 1) := dk_3 (dk_at dksX5_readsMetric_0 18 rfl rfl)
theorem dX5_readsMetric_19 : decode cX5_readsMetric 19 = .ok (.ior, 1) := dk_128 (dk_at dksX5_readsMetric_0 19 rfl rfl)
theorem dX5_readsMetric_20 : decode cX5_readsMetric 20 = .ok (.putfield 78, 3) := dk_181 0 78 (dk_at dksX5_readsMetric_0 20 rfl rfl)
theorem dX5_readsMetric_23 : decode cX5_readsMetric 23 = .ok (.aload_n 0, 1) := dk_42 (dk_at dksX5_readsMetric_0 23 rfl rfl)
theorem dX5_readsMetric_24 : decode cX5_readsMetric 24 = .ok (.dup, 1) := dk_89 (dk_at dksX5_readsMetric_1 0 rfl rfl)
theorem dX5_readsMetric_25 : decode cX5_readsMetric 25 = .ok (.getfield 72, 3) := dk_180 0 72 (dk_at dksX5_readsMetric_1 1 rfl rfl)
theorem dX5_readsMetric_28 : decode cX5_readsMetric 28 = .ok (.aload_n 0, 1) := dk_42 (dk_at dksX5_readsMetric_1 4 rfl rfl)
theorem dX5_readsMetric_29 : decode cX5_readsMetric 29 = .ok (.getfield 78, 3) := dk_180 0 78 (dk_at dksX5_readsMetric_1 5 rfl rfl)
theorem dX5_readsMetric_32 : decode cX5_readsMetric 32 = .ok (.ifCond .eq 7, 3) := dk_153 0 7 (dk_at dksX5_readsMetric_1 8 rfl rfl)
theorem dX5_readsMetric_35 : decode cX5_readsMetric 35 = .ok (.iconst 0, 1) := dk_3 (dk_at dksX5_readsMetric_1 11 rfl rfl)
theorem dX5_readsMetric_36 : decode cX5_readsMetric 36 = .ok (.goto 4, 3) := dk_167 0 4 (dk_at dksX5_readsMetric_1 12 rfl rfl)
theorem dX5_readsMetric_39 : decode cX5_readsMetric 39 = .ok (.iconst 1, 1) := dk_4 (dk_at dksX5_readsMetric_1 15 rfl rfl)
theorem dX5_readsMetric_40 : decode cX5_readsMetric 40 = .ok (.iadd, 1) := dk_96 (dk_at dksX5_readsMetric_1 16 rfl rfl)
theorem dX5_readsMetric_41 : decode cX5_readsMetric 41 = .ok (.putfield 72, 3) := dk_181 0 72 (dk_at dksX5_readsMetric_1 17 rfl rfl)
theorem dX5_readsMetric_44 : decode cX5_readsMetric 44 = .ok (.aload_n 0, 1) := dk_42 (dk_at dksX5_readsMetric_1 20 rfl rfl)
theorem dX5_readsMetric_45 : decode cX5_readsMetric 45 = .ok (.dup, 1) := dk_89 (dk_at dksX5_readsMetric_1 21 rfl rfl)
theorem dX5_readsMetric_46 : decode cX5_readsMetric 46 = .ok (.getfield 78, 3) := dk_180 0 78 (dk_at dksX5_readsMetric_2 0 rfl rfl)
theorem dX5_readsMetric_49 : decode cX5_readsMetric 49 = .ok (.aload_n 0, 1) := dk_42 (dk_at dksX5_readsMetric_2 3 rfl rfl)
theorem dX5_readsMetric_50 : decode cX5_readsMetric 50 = .ok (.invokevirtual 280, 3) := dk_182 1 24 (dk_at dksX5_readsMetric_2 4 rfl rfl)
theorem dX5_readsMetric_53 : decode cX5_readsMetric 53 = .ok (.invokestatic 165, 3) := dk_184 0 165 (dk_at dksX5_readsMetric_2 7 rfl rfl)
theorem dX5_readsMetric_56 : decode cX5_readsMetric 56 = .ok (.ifCond .ne 7, 3) := dk_154 0 7 (dk_at dksX5_readsMetric_2 10 rfl rfl)
theorem dX5_readsMetric_59 : decode cX5_readsMetric 59 = .ok (.iconst 1, 1) := dk_4 (dk_at dksX5_readsMetric_2 13 rfl rfl)
theorem dX5_readsMetric_60 : decode cX5_readsMetric 60 = .ok (.goto 4, 3) := dk_167 0 4 (dk_at dksX5_readsMetric_2 14 rfl rfl)
theorem dX5_readsMetric_63 : decode cX5_readsMetric 63 = .ok (.iconst 0, 1) := dk_3 (dk_at dksX5_readsMetric_2 17 rfl rfl)
theorem dX5_readsMetric_64 : decode cX5_readsMetric 64 = .ok (.ior, 1) := dk_128 (dk_at dksX5_readsMetric_2 18 rfl rfl)
theorem dX5_readsMetric_65 : decode cX5_readsMetric 65 = .ok (.putfield 78, 3) := dk_181 0 78 (dk_at dksX5_readsMetric_2 19 rfl rfl)
theorem dX5_readsMetric_68 : decode cX5_readsMetric 68 = .ok (.aload_n 0, 1) := dk_42 (dk_at dksX5_readsMetric_2 22 rfl rfl)
theorem dX5_readsMetric_69 : decode cX5_readsMetric 69 = .ok (.getfield 63, 3) := dk_180 0 63 (dk_at dksX5_readsMetric_3 0 rfl rfl)
theorem dX5_readsMetric_72 : decode cX5_readsMetric 72 = .ok (.bipush 8, 2) := dk_16 8 (dk_at dksX5_readsMetric_3 3 rfl rfl)
theorem dX5_readsMetric_74 : decode cX5_readsMetric 74 = .ok (.aload_n 0, 1) := dk_42 (dk_at dksX5_readsMetric_3 5 rfl rfl)
theorem dX5_readsMetric_75 : decode cX5_readsMetric 75 = .ok (.getfield 75, 3) := dk_180 0 75 (dk_at dksX5_readsMetric_3 6 rfl rfl)
theorem dX5_readsMetric_78 : decode cX5_readsMetric 78 = .ok (.imul, 1) := dk_104 (dk_at dksX5_readsMetric_3 9 rfl rfl)
theorem dX5_readsMetric_79 : decode cX5_readsMetric 79 = .ok (.aload_n 0, 1) := dk_42 (dk_at dksX5_readsMetric_3 10 rfl rfl)
theorem dX5_readsMetric_80 : decode cX5_readsMetric 80 = .ok (.invokevirtual 280, 3) := dk_182 1 24 (dk_at dksX5_readsMetric_3 11 rfl rfl)
theorem dX5_readsMetric_83 : decode cX5_readsMetric 83 = .ok (.iastore, 1) := dk_79 (dk_at dksX5_readsMetric_3 14 rfl rfl)
theorem dX5_readsMetric_84 : decode cX5_readsMetric 84 = .ok (.aload_n 0, 1) := dk_42 (dk_at dksX5_readsMetric_3 15 rfl rfl)
theorem dX5_readsMetric_85 : decode cX5_readsMetric 85 = .ok (.dup, 1) := dk_89 (dk_at dksX5_readsMetric_3 16 rfl rfl)
theorem dX5_readsMetric_86 : decode cX5_readsMetric 86 = .ok (.getfield 72, 3) := dk_180 0 72 (dk_at dksX5_readsMetric_3 17 rfl rfl)
theorem dX5_readsMetric_89 : decode cX5_readsMetric 89 = .ok (.aload_n 0, 1) := dk_42 (dk_at dksX5_readsMetric_3 20 rfl rfl)
theorem dX5_readsMetric_90 : decode cX5_readsMetric 90 = .ok (.getfield 78, 3) := dk_180 0 78 (dk_at dksX5_readsMetric_3 21 rfl rfl)
theorem dX5_readsMetric_93 : decode cX5_readsMetric 93 = .ok (.ifCond .eq 7, 3) := dk_153 0 7 (dk_at dksX5_readsMetric_4 0 rfl rfl)
theorem dX5_readsMetric_96 : decode cX5_readsMetric 96 = .ok (.iconst 0, 1) := dk_3 (dk_at dksX5_readsMetric_4 3 rfl rfl)
theorem dX5_readsMetric_97 : decode cX5_readsMetric 97 = .ok (.goto 4, 3) := dk_167 0 4 (dk_at dksX5_readsMetric_4 4 rfl rfl)
theorem dX5_readsMetric_100 : decode cX5_readsMetric 100 = .ok (.iconst 1, 1) := dk_4 (dk_at dksX5_readsMetric_4 7 rfl rfl)
theorem dX5_readsMetric_101 : decode cX5_readsMetric 101 = .ok (.iadd, 1) := dk_96 (dk_at dksX5_readsMetric_4 8 rfl rfl)
theorem dX5_readsMetric_102 : decode cX5_readsMetric 102 = .ok (.putfield 72, 3) := dk_181 0 72 (dk_at dksX5_readsMetric_4 9 rfl rfl)
theorem dX5_readsMetric_105 : decode cX5_readsMetric 105 = .ok (.return_, 1) := dk_177 (dk_at dksX5_readsMetric_4 12 rfl rfl)
def dkwX5_why_6 : List UInt8 := [184, 1, 56, 172, 28, 4, 16, 99, 184, 0, 112, 153, 0, 7, 3, 167, 0, 5, 16, 97, 172, 3, 172]
abbrev dktX5_why_6 : List UInt8 := dkwX5_why_6 ++ []
def dkwX5_why_5 : List UInt8 := [29, 182, 0, 179, 16, 101, 16, 117, 184, 1, 56, 172, 42, 28, 29, 182, 0, 195, 16, 101, 16, 97]
abbrev dktX5_why_5 : List UInt8 := dkwX5_why_5 ++ dktX5_why_6
def dkwX5_why_4 : List UInt8 := [16, 101, 167, 0, 4, 3, 172, 42, 28, 182, 0, 156, 156, 0, 8, 16, 101, 167, 0, 4, 3, 172, 42, 28]
abbrev dktX5_why_4 : List UInt8 := dkwX5_why_4 ++ dktX5_why_5
def dkwX5_why_3 : List UInt8 := [21, 5, 21, 6, 182, 0, 139, 16, 97, 16, 115, 184, 1, 56, 172, 42, 28, 182, 0, 146, 156, 0, 8]
abbrev dktX5_why_3 : List UInt8 := dkwX5_why_3 ++ dktX5_why_4
def dkwX5_why_2 : List UInt8 := [42, 28, 29, 21, 4, 21, 5, 182, 0, 126, 16, 97, 16, 115, 184, 1, 56, 172, 42, 28, 29, 21, 4]
abbrev dktX5_why_2 : List UInt8 := dkwX5_why_2 ++ dktX5_why_3
def dkwX5_why_1 : List UInt8 := [170, 0, 0, 0, 0, 0, 164, 0, 0, 0, 0, 0, 0, 0, 8, 0, 0, 0, 51, 0, 0, 0, 69, 0, 0, 0, 89, 0, 0, 0, 104, 0, 0, 0, 164, 0, 0, 0, 119, 0, 0, 0, 164, 0, 0, 0, 133, 0, 0, 0, 147]
abbrev dktX5_why_1 : List UInt8 := dkwX5_why_1 ++ dktX5_why_2
def dkwX5_why_0 : List UInt8 := [27]
abbrev dktX5_why_0 : List UInt8 := dkwX5_why_0 ++ dktX5_why_1
theorem dksX5_why_0 : cX5_why.data.toList.drop 0 = dktX5_why_0 := by decide +kernel
theorem dksX5_why_1 : cX5_why.data.toList.drop 1 = dktX5_why_1 := dk_seg dksX5_why_0 1 rfl rfl
theorem dksX5_why_2 : cX5_why.data.toList.drop 52 = dktX5_why_2 := dk_seg dksX5_why_1 51 rfl rfl
theorem dksX5_why_3 : cX5_why.data.toList.drop 75 = dktX5_why_3 := dk_seg dksX5_why_2 23 rfl rfl
theorem dksX5_why_4 : cX5_why.data.toList.drop 98 = dktX5_why_4 := dk_seg dksX5_why_3 23 rfl rfl
theorem dksX5_why_5 : cX5_why.data.toList.drop 122 = dktX5_why_5 := dk_seg dksX5_why_4 24 rfl rfl
theorem dksX5_why_6 : cX5_why.data.toList.drop 144 = dktX5_why_6 := dk_seg dksX5_why_5 22 rfl rfl
theorem dX5_why_0 : decode cX5_why 0 = .ok (.iload_n 1, 1) := dk_27 (dk_at dksX5_why_0 0 rfl rfl)
theorem dX5_why_1 : decode cX5_why 1 = .ok (.tableswitch 164 0 8 #[51, 69, 89, 104, 164, 119, 164, 133, 147], 51) := by decide +kernel
theorem dX5_why_52 : decode cX5_why 52 = .ok (.aload_n 0, 1) := dk_42 (dk_at dksX5_why_2 0 rfl rfl)
theorem dX5_why_53 : decode cX5_why 53 = .ok (.iload_n 2, 1) := dk_28 (dk_at dksX5_why_2 1 rfl rfl)
theorem dX5_why_54 : decode cX5_why 54 = .ok (.iload_n 3, 1) := dk_29 (dk_at dksX5_why_2 2 rfl rfl)
theorem dX5_why_55 : decode cX5_why 55 = .ok (.iload 4, 2) := dk_21 4 (dk_at dksX5_why_2 3 rfl rfl)
theorem dX5_why_57 : decode cX5_why 57 = .ok (.iload 5, 2) := dk_21 5 (dk_at dksX5_why_2 5 rfl rfl)
theorem dX5_why_59 : decode cX5_why 59 = .ok (.invokevirtual 126, 3) := dk_182 0 126 (dk_at dksX5_why_2 7 rfl rfl)
theorem dX5_why_62 : decode cX5_why 62 = .ok (.bipush 97, 2) := dk_16 97 (dk_at dksX5_why_2 10 rfl rfl)
theorem dX5_why_64 : decode cX5_why 64 = .ok (.bipush 115, 2) := dk_16 115 (dk_at dksX5_why_2 12 rfl rfl)
theorem dX5_why_66 : decode cX5_why 66 = .ok (.invokestatic 312, 3) := dk_184 1 56 (dk_at dksX5_why_2 14 rfl rfl)
theorem dX5_why_69 : decode cX5_why 69 = .ok (.ireturn, 1) := dk_172 (dk_at dksX5_why_2 17 rfl rfl)
theorem dX5_why_70 : decode cX5_why 70 = .ok (.aload_n 0, 1) := dk_42 (dk_at dksX5_why_2 18 rfl rfl)
theorem dX5_why_71 : decode cX5_why 71 = .ok (.iload_n 2, 1) := dk_28 (dk_at dksX5_why_2 19 rfl rfl)
theorem dX5_why_72 : decode cX5_why 72 = .ok (.iload_n 3, 1) := dk_29 (dk_at dksX5_why_2 20 rfl rfl)
theorem dX5_why_73 : decode cX5_why 73 = .ok (.iload 4, 2) := dk_21 4 (dk_at dksX5_why_2 21 rfl rfl)
theorem dX5_why_75 : decode cX5_why 75 = .ok (.iload 5, 2) := dk_21 5 (dk_at dksX5_why_3 0 rfl rfl)
theorem dX5_why_77 : decode cX5_why 77 = .ok (.iload 6, 2) := dk_21 6 (dk_at dksX5_why_3 2 rfl rfl)
theorem dX5_why_79 : decode cX5_why 79 = .ok (.invokevirtual 139, 3) := dk_182 0 139 (dk_at dksX5_why_3 4 rfl rfl)
theorem dX5_why_82 : decode cX5_why 82 = .ok (.bipush 97, 2) := dk_16 97 (dk_at dksX5_why_3 7 rfl rfl)
theorem dX5_why_84 : decode cX5_why 84 = .ok (.bipush 115, 2) := dk_16 115 (dk_at dksX5_why_3 9 rfl rfl)
theorem dX5_why_86 : decode cX5_why 86 = .ok (.invokestatic 312, 3) := dk_184 1 56 (dk_at dksX5_why_3 11 rfl rfl)
theorem dX5_why_89 : decode cX5_why 89 = .ok (.ireturn, 1) := dk_172 (dk_at dksX5_why_3 14 rfl rfl)
theorem dX5_why_90 : decode cX5_why 90 = .ok (.aload_n 0, 1) := dk_42 (dk_at dksX5_why_3 15 rfl rfl)
theorem dX5_why_91 : decode cX5_why 91 = .ok (.iload_n 2, 1) := dk_28 (dk_at dksX5_why_3 16 rfl rfl)
theorem dX5_why_92 : decode cX5_why 92 = .ok (.invokevirtual 146, 3) := dk_182 0 146 (dk_at dksX5_why_3 17 rfl rfl)
theorem dX5_why_95 : decode cX5_why 95 = .ok (.ifCond .ge 8, 3) := dk_156 0 8 (dk_at dksX5_why_3 20 rfl rfl)
theorem dX5_why_98 : decode cX5_why 98 = .ok (.bipush 101, 2) := dk_16 101 (dk_at dksX5_why_4 0 rfl rfl)
theorem dX5_why_100 : decode cX5_why 100 = .ok (.goto 4, 3) := dk_167 0 4 (dk_at dksX5_why_4 2 rfl rfl)
theorem dX5_why_103 : decode cX5_why 103 = .ok (.iconst 0, 1) := dk_3 (dk_at dksX5_why_4 5 rfl rfl)
theorem dX5_why_104 : decode cX5_why 104 = .ok (.ireturn, 1) := dk_172 (dk_at dksX5_why_4 6 rfl rfl)
theorem dX5_why_105 : decode cX5_why 105 = .ok (.aload_n 0, 1) := dk_42 (dk_at dksX5_why_4 7 rfl rfl)
theorem dX5_why_106 : decode cX5_why 106 = .ok (.iload_n 2, 1) := dk_28 (dk_at dksX5_why_4 8 rfl rfl)
theorem dX5_why_107 : decode cX5_why 107 = .ok (.invokevirtual 156, 3) := dk_182 0 156 (dk_at dksX5_why_4 9 rfl rfl)
theorem dX5_why_110 : decode cX5_why 110 = .ok (.ifCond .ge 8, 3) := dk_156 0 8 (dk_at dksX5_why_4 12 rfl rfl)
theorem dX5_why_113 : decode cX5_why 113 = .ok (.bipush 101, 2) := dk_16 101 (dk_at dksX5_why_4 15 rfl rfl)
theorem dX5_why_115 : decode cX5_why 115 = .ok (.goto 4, 3) := dk_167 0 4 (dk_at dksX5_why_4 17 rfl rfl)
theorem dX5_why_118 : decode cX5_why 118 = .ok (.iconst 0, 1) := dk_3 (dk_at dksX5_why_4 20 rfl rfl)
theorem dX5_why_119 : decode cX5_why 119 = .ok (.ireturn, 1) := dk_172 (dk_at dksX5_why_4 21 rfl rfl)
theorem dX5_why_120 : decode cX5_why 120 = .ok (.aload_n 0, 1) := dk_42 (dk_at dksX5_why_4 22 rfl rfl)
theorem dX5_why_121 : decode cX5_why 121 = .ok (.iload_n 2, 1) := dk_28 (dk_at dksX5_why_4 23 rfl rfl)
theorem dX5_why_122 : decode cX5_why 122 = .ok (.iload_n 3, 1) := dk_29 (dk_at dksX5_why_5 0 rfl rfl)
theorem dX5_why_123 : decode cX5_why 123 = .ok (.invokevirtual 179, 3) := dk_182 0 179 (dk_at dksX5_why_5 1 rfl rfl)
theorem dX5_why_126 : decode cX5_why 126 = .ok (.bipush 101, 2) := dk_16 101 (dk_at dksX5_why_5 4 rfl rfl)
theorem dX5_why_128 : decode cX5_why 128 = .ok (.bipush 117, 2) := dk_16 117 (dk_at dksX5_why_5 6 rfl rfl)
theorem dX5_why_130 : decode cX5_why 130 = .ok (.invokestatic 312, 3) := dk_184 1 56 (dk_at dksX5_why_5 8 rfl rfl)
theorem dX5_why_133 : decode cX5_why 133 = .ok (.ireturn, 1) := dk_172 (dk_at dksX5_why_5 11 rfl rfl)
theorem dX5_why_134 : decode cX5_why 134 = .ok (.aload_n 0, 1) := dk_42 (dk_at dksX5_why_5 12 rfl rfl)
theorem dX5_why_135 : decode cX5_why 135 = .ok (.iload_n 2, 1) := dk_28 (dk_at dksX5_why_5 13 rfl rfl)
theorem dX5_why_136 : decode cX5_why 136 = .ok (.iload_n 3, 1) := dk_29 (dk_at dksX5_why_5 14 rfl rfl)
theorem dX5_why_137 : decode cX5_why 137 = .ok (.invokevirtual 195, 3) := dk_182 0 195 (dk_at dksX5_why_5 15 rfl rfl)
theorem dX5_why_140 : decode cX5_why 140 = .ok (.bipush 101, 2) := dk_16 101 (dk_at dksX5_why_5 18 rfl rfl)
theorem dX5_why_142 : decode cX5_why 142 = .ok (.bipush 97, 2) := dk_16 97 (dk_at dksX5_why_5 20 rfl rfl)
theorem dX5_why_144 : decode cX5_why 144 = .ok (.invokestatic 312, 3) := dk_184 1 56 (dk_at dksX5_why_6 0 rfl rfl)
theorem dX5_why_147 : decode cX5_why 147 = .ok (.ireturn, 1) := dk_172 (dk_at dksX5_why_6 3 rfl rfl)
theorem dX5_why_148 : decode cX5_why 148 = .ok (.iload_n 2, 1) := dk_28 (dk_at dksX5_why_6 4 rfl rfl)
theorem dX5_why_149 : decode cX5_why 149 = .ok (.iconst 1, 1) := dk_4 (dk_at dksX5_why_6 5 rfl rfl)
theorem dX5_why_150 : decode cX5_why 150 = .ok (.bipush 99, 2) := dk_16 99 (dk_at dksX5_why_6 6 rfl rfl)
theorem dX5_why_152 : decode cX5_why 152 = .ok (.invokestatic 112, 3) := dk_184 0 112 (dk_at dksX5_why_6 8 rfl rfl)
theorem dX5_why_155 : decode cX5_why 155 = .ok (.ifCond .eq 7, 3) := dk_153 0 7 (dk_at dksX5_why_6 11 rfl rfl)
theorem dX5_why_158 : decode cX5_why 158 = .ok (.iconst 0, 1) := dk_3 (dk_at dksX5_why_6 14 rfl rfl)
theorem dX5_why_159 : decode cX5_why 159 = .ok (.goto 5, 3) := dk_167 0 5 (dk_at dksX5_why_6 15 rfl rfl)
theorem dX5_why_162 : decode cX5_why 162 = .ok (.bipush 97, 2) := dk_16 97 (dk_at dksX5_why_6 18 rfl rfl)
theorem dX5_why_164 : decode cX5_why 164 = .ok (.ireturn, 1) := dk_172 (dk_at dksX5_why_6 20 rfl rfl)
theorem dX5_why_165 : decode cX5_why 165 = .ok (.iconst 0, 1) := dk_3 (dk_at dksX5_why_6 21 rfl rfl)
theorem dX5_why_166 : decode cX5_why 166 = .ok (.ireturn, 1) := dk_172 (dk_at dksX5_why_6 22 rfl rfl)
def dkwX5_kindOf_0 : List UInt8 := [26, 154, 0, 7, 3, 167, 0, 13, 26, 4, 160, 0, 7, 27, 167, 0, 4, 28, 172]
abbrev dktX5_kindOf_0 : List UInt8 := dkwX5_kindOf_0 ++ []
theorem dksX5_kindOf_0 : cX5_kindOf.data.toList.drop 0 = dktX5_kindOf_0 := by decide +kernel
theorem dX5_kindOf_0 : decode cX5_kindOf 0 = .ok (.iload_n 0, 1) := dk_26 (dk_at dksX5_kindOf_0 0 rfl rfl)
theorem dX5_kindOf_1 : decode cX5_kindOf 1 = .ok (.ifCond .ne 7, 3) := dk_154 0 7 (dk_at dksX5_kindOf_0 1 rfl rfl)
theorem dX5_kindOf_4 : decode cX5_kindOf 4 = .ok (.iconst 0, 1) := dk_3 (dk_at dksX5_kindOf_0 4 rfl rfl)
theorem dX5_kindOf_5 : decode cX5_kindOf 5 = .ok (.goto 13, 3) := dk_167 0 13 (dk_at dksX5_kindOf_0 5 rfl rfl)
theorem dX5_kindOf_8 : decode cX5_kindOf 8 = .ok (.iload_n 0, 1) := dk_26 (dk_at dksX5_kindOf_0 8 rfl rfl)
theorem dX5_kindOf_9 : decode cX5_kindOf 9 = .ok (.iconst 1, 1) := dk_4 (dk_at dksX5_kindOf_0 9 rfl rfl)
theorem dX5_kindOf_10 : decode cX5_kindOf 10 = .ok (.if_icmp .ne 7, 3) := dk_160 0 7 (dk_at dksX5_kindOf_0 10 rfl rfl)
theorem dX5_kindOf_13 : decode cX5_kindOf 13 = .ok (.iload_n 1, 1) := dk_27 (dk_at dksX5_kindOf_0 13 rfl rfl)
theorem dX5_kindOf_14 : decode cX5_kindOf 14 = .ok (.goto 4, 3) := dk_167 0 4 (dk_at dksX5_kindOf_0 14 rfl rfl)
theorem dX5_kindOf_17 : decode cX5_kindOf 17 = .ok (.iload_n 2, 1) := dk_28 (dk_at dksX5_kindOf_0 17 rfl rfl)
theorem dX5_kindOf_18 : decode cX5_kindOf 18 = .ok (.ireturn, 1) := dk_172 (dk_at dksX5_kindOf_0 18 rfl rfl)
def dkwX5_does_4 : List UInt8 := [172, 42, 182, 0, 185, 172, 42, 28, 29, 182, 0, 198, 172, 42, 28, 182, 0, 213, 172]
abbrev dktX5_does_4 : List UInt8 := dkwX5_does_4 ++ []
def dkwX5_does_3 : List UInt8 := [42, 28, 182, 0, 153, 172, 42, 28, 182, 0, 162, 172, 42, 28, 182, 0, 169, 172, 42, 28, 29, 182, 0, 182]
abbrev dktX5_does_3 : List UInt8 := dkwX5_does_3 ++ dktX5_does_4
def dkwX5_does_2 : List UInt8 := [42, 28, 29, 21, 4, 21, 5, 182, 0, 133, 172, 42, 28, 29, 21, 4, 21, 5, 21, 6, 182, 0, 143, 172]
abbrev dktX5_does_2 : List UInt8 := dkwX5_does_2 ++ dktX5_does_3
def dkwX5_does_1 : List UInt8 := [170, 0, 0, 0, 0, 0, 108, 0, 0, 0, 0, 0, 0, 0, 7, 0, 0, 0, 47, 0, 0, 0, 58, 0, 0, 0, 71, 0, 0, 0, 77, 0, 0, 0, 83, 0, 0, 0, 89, 0, 0, 0, 96, 0, 0, 0, 101]
abbrev dktX5_does_1 : List UInt8 := dkwX5_does_1 ++ dktX5_does_2
def dkwX5_does_0 : List UInt8 := [27]
abbrev dktX5_does_0 : List UInt8 := dkwX5_does_0 ++ dktX5_does_1
theorem dksX5_does_0 : cX5_does.data.toList.drop 0 = dktX5_does_0 := by decide +kernel
theorem dksX5_does_1 : cX5_does.data.toList.drop 1 = dktX5_does_1 := dk_seg dksX5_does_0 1 rfl rfl
theorem dksX5_does_2 : cX5_does.data.toList.drop 48 = dktX5_does_2 := dk_seg dksX5_does_1 47 rfl rfl
theorem dksX5_does_3 : cX5_does.data.toList.drop 72 = dktX5_does_3 := dk_seg dksX5_does_2 24 rfl rfl
theorem dksX5_does_4 : cX5_does.data.toList.drop 96 = dktX5_does_4 := dk_seg dksX5_does_3 24 rfl rfl
theorem dX5_does_0 : decode cX5_does 0 = .ok (.iload_n 1, 1) := dk_27 (dk_at dksX5_does_0 0 rfl rfl)
theorem dX5_does_1 : decode cX5_does 1 = .ok (.tableswitch 108 0 7 #[47, 58, 71, 77, 83, 89, 96, 101], 47) := by decide +kernel
theorem dX5_does_48 : decode cX5_does 48 = .ok (.aload_n 0, 1) := dk_42 (dk_at dksX5_does_2 0 rfl rfl)
theorem dX5_does_49 : decode cX5_does 49 = .ok (.iload_n 2, 1) := dk_28 (dk_at dksX5_does_2 1 rfl rfl)
theorem dX5_does_50 : decode cX5_does 50 = .ok (.iload_n 3, 1) := dk_29 (dk_at dksX5_does_2 2 rfl rfl)
theorem dX5_does_51 : decode cX5_does 51 = .ok (.iload 4, 2) := dk_21 4 (dk_at dksX5_does_2 3 rfl rfl)
theorem dX5_does_53 : decode cX5_does 53 = .ok (.iload 5, 2) := dk_21 5 (dk_at dksX5_does_2 5 rfl rfl)
theorem dX5_does_55 : decode cX5_does 55 = .ok (.invokevirtual 133, 3) := dk_182 0 133 (dk_at dksX5_does_2 7 rfl rfl)
theorem dX5_does_58 : decode cX5_does 58 = .ok (.ireturn, 1) := dk_172 (dk_at dksX5_does_2 10 rfl rfl)
theorem dX5_does_59 : decode cX5_does 59 = .ok (.aload_n 0, 1) := dk_42 (dk_at dksX5_does_2 11 rfl rfl)
theorem dX5_does_60 : decode cX5_does 60 = .ok (.iload_n 2, 1) := dk_28 (dk_at dksX5_does_2 12 rfl rfl)
theorem dX5_does_61 : decode cX5_does 61 = .ok (.iload_n 3, 1) := dk_29 (dk_at dksX5_does_2 13 rfl rfl)
theorem dX5_does_62 : decode cX5_does 62 = .ok (.iload 4, 2) := dk_21 4 (dk_at dksX5_does_2 14 rfl rfl)
theorem dX5_does_64 : decode cX5_does 64 = .ok (.iload 5, 2) := dk_21 5 (dk_at dksX5_does_2 16 rfl rfl)
theorem dX5_does_66 : decode cX5_does 66 = .ok (.iload 6, 2) := dk_21 6 (dk_at dksX5_does_2 18 rfl rfl)
theorem dX5_does_68 : decode cX5_does 68 = .ok (.invokevirtual 143, 3) := dk_182 0 143 (dk_at dksX5_does_2 20 rfl rfl)
theorem dX5_does_71 : decode cX5_does 71 = .ok (.ireturn, 1) := dk_172 (dk_at dksX5_does_2 23 rfl rfl)
theorem dX5_does_72 : decode cX5_does 72 = .ok (.aload_n 0, 1) := dk_42 (dk_at dksX5_does_3 0 rfl rfl)
theorem dX5_does_73 : decode cX5_does 73 = .ok (.iload_n 2, 1) := dk_28 (dk_at dksX5_does_3 1 rfl rfl)
theorem dX5_does_74 : decode cX5_does 74 = .ok (.invokevirtual 153, 3) := dk_182 0 153 (dk_at dksX5_does_3 2 rfl rfl)
theorem dX5_does_77 : decode cX5_does 77 = .ok (.ireturn, 1) := dk_172 (dk_at dksX5_does_3 5 rfl rfl)
theorem dX5_does_78 : decode cX5_does 78 = .ok (.aload_n 0, 1) := dk_42 (dk_at dksX5_does_3 6 rfl rfl)
theorem dX5_does_79 : decode cX5_does 79 = .ok (.iload_n 2, 1) := dk_28 (dk_at dksX5_does_3 7 rfl rfl)
theorem dX5_does_80 : decode cX5_does 80 = .ok (.invokevirtual 162, 3) := dk_182 0 162 (dk_at dksX5_does_3 8 rfl rfl)
theorem dX5_does_83 : decode cX5_does 83 = .ok (.ireturn, 1) := dk_172 (dk_at dksX5_does_3 11 rfl rfl)
theorem dX5_does_84 : decode cX5_does 84 = .ok (.aload_n 0, 1) := dk_42 (dk_at dksX5_does_3 12 rfl rfl)
theorem dX5_does_85 : decode cX5_does 85 = .ok (.iload_n 2, 1) := dk_28 (dk_at dksX5_does_3 13 rfl rfl)
theorem dX5_does_86 : decode cX5_does 86 = .ok (.invokevirtual 169, 3) := dk_182 0 169 (dk_at dksX5_does_3 14 rfl rfl)
theorem dX5_does_89 : decode cX5_does 89 = .ok (.ireturn, 1) := dk_172 (dk_at dksX5_does_3 17 rfl rfl)
theorem dX5_does_90 : decode cX5_does 90 = .ok (.aload_n 0, 1) := dk_42 (dk_at dksX5_does_3 18 rfl rfl)
theorem dX5_does_91 : decode cX5_does 91 = .ok (.iload_n 2, 1) := dk_28 (dk_at dksX5_does_3 19 rfl rfl)
theorem dX5_does_92 : decode cX5_does 92 = .ok (.iload_n 3, 1) := dk_29 (dk_at dksX5_does_3 20 rfl rfl)
theorem dX5_does_93 : decode cX5_does 93 = .ok (.invokevirtual 182, 3) := dk_182 0 182 (dk_at dksX5_does_3 21 rfl rfl)
theorem dX5_does_96 : decode cX5_does 96 = .ok (.ireturn, 1) := dk_172 (dk_at dksX5_does_4 0 rfl rfl)
theorem dX5_does_97 : decode cX5_does 97 = .ok (.aload_n 0, 1) := dk_42 (dk_at dksX5_does_4 1 rfl rfl)
theorem dX5_does_98 : decode cX5_does 98 = .ok (.invokevirtual 185, 3) := dk_182 0 185 (dk_at dksX5_does_4 2 rfl rfl)
theorem dX5_does_101 : decode cX5_does 101 = .ok (.ireturn, 1) := dk_172 (dk_at dksX5_does_4 5 rfl rfl)
theorem dX5_does_102 : decode cX5_does 102 = .ok (.aload_n 0, 1) := dk_42 (dk_at dksX5_does_4 6 rfl rfl)
theorem dX5_does_103 : decode cX5_does 103 = .ok (.iload_n 2, 1) := dk_28 (dk_at dksX5_does_4 7 rfl rfl)
theorem dX5_does_104 : decode cX5_does 104 = .ok (.iload_n 3, 1) := dk_29 (dk_at dksX5_does_4 8 rfl rfl)
theorem dX5_does_105 : decode cX5_does 105 = .ok (.invokevirtual 198, 3) := dk_182 0 198 (dk_at dksX5_does_4 9 rfl rfl)
theorem dX5_does_108 : decode cX5_does 108 = .ok (.ireturn, 1) := dk_172 (dk_at dksX5_does_4 12 rfl rfl)
theorem dX5_does_109 : decode cX5_does 109 = .ok (.aload_n 0, 1) := dk_42 (dk_at dksX5_does_4 13 rfl rfl)
theorem dX5_does_110 : decode cX5_does 110 = .ok (.iload_n 2, 1) := dk_28 (dk_at dksX5_does_4 14 rfl rfl)
theorem dX5_does_111 : decode cX5_does 111 = .ok (.invokevirtual 213, 3) := dk_182 0 213 (dk_at dksX5_does_4 15 rfl rfl)
theorem dX5_does_114 : decode cX5_does 114 = .ok (.ireturn, 1) := dk_172 (dk_at dksX5_does_4 18 rfl rfl)
def dkwX5_errorPosition_0 : List UInt8 := [42, 42, 180, 0, 32, 182, 1, 69, 172]
abbrev dktX5_errorPosition_0 : List UInt8 := dkwX5_errorPosition_0 ++ []
theorem dksX5_errorPosition_0 : cX5_errorPosition.data.toList.drop 0 = dktX5_errorPosition_0 := by decide +kernel
theorem dX5_errorPosition_0 : decode cX5_errorPosition 0 = .ok (.aload_n 0, 1) := dk_42 (dk_at dksX5_errorPosition_0 0 rfl rfl)
theorem dX5_errorPosition_1 : decode cX5_errorPosition 1 = .ok (.aload_n 0, 1) := dk_42 (dk_at dksX5_errorPosition_0 1 rfl rfl)
theorem dX5_errorPosition_2 : decode cX5_errorPosition 2 = .ok (.getfield 32, 3) := dk_180 0 32 (dk_at dksX5_errorPosition_0 2 rfl rfl)
theorem dX5_errorPosition_5 : decode cX5_errorPosition 5 = .ok (.invokevirtual 325, 3) := dk_182 1 69 (dk_at dksX5_errorPosition_0 5 rfl rfl)
theorem dX5_errorPosition_8 : decode cX5_errorPosition 8 = .ok (.ireturn, 1) := dk_172 (dk_at dksX5_errorPosition_0 8 rfl rfl)
def dkwX5_present_0 : List UInt8 := [42, 27, 155, 0, 7, 4, 167, 0, 4, 3, 182, 0, 219, 158, 0, 7, 3, 167, 0, 4, 27, 172]
abbrev dktX5_present_0 : List UInt8 := dkwX5_present_0 ++ []
theorem dksX5_present_0 : cX5_present.data.toList.drop 0 = dktX5_present_0 := by decide +kernel
theorem dX5_present_0 : decode cX5_present 0 = .ok (.aload_n 0, 1) := dk_42 (dk_at dksX5_present_0 0 rfl rfl)
theorem dX5_present_1 : decode cX5_present 1 = .ok (.iload_n 1, 1) := dk_27 (dk_at dksX5_present_0 1 rfl rfl)
theorem dX5_present_2 : decode cX5_present 2 = .ok (.ifCond .lt 7, 3) := dk_155 0 7 (dk_at dksX5_present_0 2 rfl rfl)
theorem dX5_present_5 : decode cX5_present 5 = .ok (.iconst 1, 1) := dk_4 (dk_at dksX5_present_0 5 rfl rfl)
theorem dX5_present_6 : decode cX5_present 6 = .ok (.goto 4, 3) := dk_167 0 4 (dk_at dksX5_present_0 6 rfl rfl)
theorem dX5_present_9 : decode cX5_present 9 = .ok (.iconst 0, 1) := dk_3 (dk_at dksX5_present_0 9 rfl rfl)
theorem dX5_present_10 : decode cX5_present 10 = .ok (.invokevirtual 219, 3) := dk_182 0 219 (dk_at dksX5_present_0 10 rfl rfl)
theorem dX5_present_13 : decode cX5_present 13 = .ok (.ifCond .le 7, 3) := dk_158 0 7 (dk_at dksX5_present_0 13 rfl rfl)
theorem dX5_present_16 : decode cX5_present 16 = .ok (.iconst 0, 1) := dk_3 (dk_at dksX5_present_0 16 rfl rfl)
theorem dX5_present_17 : decode cX5_present 17 = .ok (.goto 4, 3) := dk_167 0 4 (dk_at dksX5_present_0 17 rfl rfl)
theorem dX5_present_20 : decode cX5_present 20 = .ok (.iload_n 1, 1) := dk_27 (dk_at dksX5_present_0 20 rfl rfl)
theorem dX5_present_21 : decode cX5_present 21 = .ok (.ireturn, 1) := dk_172 (dk_at dksX5_present_0 21 rfl rfl)
def dkwX5_failedCommand_0 : List UInt8 := [42, 42, 180, 0, 35, 182, 1, 69, 172]
abbrev dktX5_failedCommand_0 : List UInt8 := dkwX5_failedCommand_0 ++ []
theorem dksX5_failedCommand_0 : cX5_failedCommand.data.toList.drop 0 = dktX5_failedCommand_0 := by decide +kernel
theorem dX5_failedCommand_0 : decode cX5_failedCommand 0 = .ok (.aload_n 0, 1) := dk_42 (dk_at dksX5_failedCommand_0 0 rfl rfl)
theorem dX5_failedCommand_1 : decode cX5_failedCommand 1 = .ok (.aload_n 0, 1) := dk_42 (dk_at dksX5_failedCommand_0 1 rfl rfl)
theorem dX5_failedCommand_2 : decode cX5_failedCommand 2 = .ok (.getfield 35, 3) := dk_180 0 35 (dk_at dksX5_failedCommand_0 2 rfl rfl)
theorem dX5_failedCommand_5 : decode cX5_failedCommand 5 = .ok (.invokevirtual 325, 3) := dk_182 1 69 (dk_at dksX5_failedCommand_0 5 rfl rfl)
theorem dX5_failedCommand_8 : decode cX5_failedCommand 8 = .ok (.ireturn, 1) := dk_172 (dk_at dksX5_failedCommand_0 8 rfl rfl)
def dkwX5_failureKind_1 : List UInt8 := [42, 180, 0, 38, 146, 172]
abbrev dktX5_failureKind_1 : List UInt8 := dkwX5_failureKind_1 ++ []
def dkwX5_failureKind_0 : List UInt8 := [42, 42, 180, 0, 38, 158, 0, 7, 4, 167, 0, 4, 3, 182, 0, 219, 158, 0, 8, 16, 32, 167, 0, 8]
abbrev dktX5_failureKind_0 : List UInt8 := dkwX5_failureKind_0 ++ dktX5_failureKind_1
theorem dksX5_failureKind_0 : cX5_failureKind.data.toList.drop 0 = dktX5_failureKind_0 := by decide +kernel
theorem dksX5_failureKind_1 : cX5_failureKind.data.toList.drop 24 = dktX5_failureKind_1 := dk_seg dksX5_failureKind_0 24 rfl rfl
theorem dX5_failureKind_0 : decode cX5_failureKind 0 = .ok (.aload_n 0, 1) := dk_42 (dk_at dksX5_failureKind_0 0 rfl rfl)
theorem dX5_failureKind_1 : decode cX5_failureKind 1 = .ok (.aload_n 0, 1) := dk_42 (dk_at dksX5_failureKind_0 1 rfl rfl)
theorem dX5_failureKind_2 : decode cX5_failureKind 2 = .ok (.getfield 38, 3) := dk_180 0 38 (dk_at dksX5_failureKind_0 2 rfl rfl)
theorem dX5_failureKind_5 : decode cX5_failureKind 5 = .ok (.ifCond .le 7, 3) := dk_158 0 7 (dk_at dksX5_failureKind_0 5 rfl rfl)
theorem dX5_failureKind_8 : decode cX5_failureKind 8 = .ok (.iconst 1, 1) := dk_4 (dk_at dksX5_failureKind_0 8 rfl rfl)
theorem dX5_failureKind_9 : decode cX5_failureKind 9 = .ok (.goto 4, 3) := dk_167 0 4 (dk_at dksX5_failureKind_0 9 rfl rfl)
theorem dX5_failureKind_12 : decode cX5_failureKind 12 = .ok (.iconst 0, 1) := dk_3 (dk_at dksX5_failureKind_0 12 rfl rfl)
theorem dX5_failureKind_13 : decode cX5_failureKind 13 = .ok (.invokevirtual 219, 3) := dk_182 0 219 (dk_at dksX5_failureKind_0 13 rfl rfl)
theorem dX5_failureKind_16 : decode cX5_failureKind 16 = .ok (.ifCond .le 8, 3) := dk_158 0 8 (dk_at dksX5_failureKind_0 16 rfl rfl)
theorem dX5_failureKind_19 : decode cX5_failureKind 19 = .ok (.bipush 32, 2) := dk_16 32 (dk_at dksX5_failureKind_0 19 rfl rfl)
theorem dX5_failureKind_21 : decode cX5_failureKind 21 = .ok (.goto 8, 3) := dk_167 0 8 (dk_at dksX5_failureKind_0 21 rfl rfl)
theorem dX5_failureKind_24 : decode cX5_failureKind 24 = .ok (.aload_n 0, 1) := dk_42 (dk_at dksX5_failureKind_1 0 rfl rfl)
theorem dX5_failureKind_25 : decode cX5_failureKind 25 = .ok (.getfield 38, 3) := dk_180 0 38 (dk_at dksX5_failureKind_1 1 rfl rfl)
theorem dX5_failureKind_28 : decode cX5_failureKind 28 = .ok (.i2c, 1) := dk_146 (dk_at dksX5_failureKind_1 4 rfl rfl)
theorem dX5_failureKind_29 : decode cX5_failureKind 29 = .ok (.ireturn, 1) := dk_172 (dk_at dksX5_failureKind_1 5 rfl rfl)
def dkwX5_undo_2 : List UInt8 := [3, 184, 0, 81, 42, 180, 0, 29, 172]
abbrev dktX5_undo_2 : List UInt8 := dkwX5_undo_2 ++ []
def dkwX5_undo_1 : List UInt8 := [180, 0, 29, 4, 100, 181, 0, 29, 42, 180, 0, 19, 17, 0, 136, 42, 180, 0, 29, 104, 42, 180, 0, 7]
abbrev dktX5_undo_1 : List UInt8 := dkwX5_undo_1 ++ dktX5_undo_2
def dkwX5_undo_0 : List UInt8 := [42, 42, 180, 0, 29, 158, 0, 7, 4, 167, 0, 4, 3, 182, 0, 219, 158, 0, 5, 3, 172, 42, 89]
abbrev dktX5_undo_0 : List UInt8 := dkwX5_undo_0 ++ dktX5_undo_1
theorem dksX5_undo_0 : cX5_undo.data.toList.drop 0 = dktX5_undo_0 := by decide +kernel
theorem dksX5_undo_1 : cX5_undo.data.toList.drop 23 = dktX5_undo_1 := dk_seg dksX5_undo_0 23 rfl rfl
theorem dksX5_undo_2 : cX5_undo.data.toList.drop 47 = dktX5_undo_2 := dk_seg dksX5_undo_1 24 rfl rfl
theorem dX5_undo_0 : decode cX5_undo 0 = .ok (.aload_n 0, 1) := dk_42 (dk_at dksX5_undo_0 0 rfl rfl)
theorem dX5_undo_1 : decode cX5_undo 1 = .ok (.aload_n 0, 1) := dk_42 (dk_at dksX5_undo_0 1 rfl rfl)
theorem dX5_undo_2 : decode cX5_undo 2 = .ok (.getfield 29, 3) := dk_180 0 29 (dk_at dksX5_undo_0 2 rfl rfl)
theorem dX5_undo_5 : decode cX5_undo 5 = .ok (.ifCond .le 7, 3) := dk_158 0 7 (dk_at dksX5_undo_0 5 rfl rfl)
theorem dX5_undo_8 : decode cX5_undo 8 = .ok (.iconst 1, 1) := dk_4 (dk_at dksX5_undo_0 8 rfl rfl)
theorem dX5_undo_9 : decode cX5_undo 9 = .ok (.goto 4, 3) := dk_167 0 4 (dk_at dksX5_undo_0 9 rfl rfl)
theorem dX5_undo_12 : decode cX5_undo 12 = .ok (.iconst 0, 1) := dk_3 (dk_at dksX5_undo_0 12 rfl rfl)
theorem dX5_undo_13 : decode cX5_undo 13 = .ok (.invokevirtual 219, 3) := dk_182 0 219 (dk_at dksX5_undo_0 13 rfl rfl)
theorem dX5_undo_16 : decode cX5_undo 16 = .ok (.ifCond .le 5, 3) := dk_158 0 5 (dk_at dksX5_undo_0 16 rfl rfl)
theorem dX5_undo_19 : decode cX5_undo 19 = .ok (.iconst 0, 1) := dk_3 (dk_at dksX5_undo_0 19 rfl rfl)
theorem dX5_undo_20 : decode cX5_undo 20 = .ok (.ireturn, 1) := dk_172 (dk_at dksX5_undo_0 20 rfl rfl)
theorem dX5_undo_21 : decode cX5_undo 21 = .ok (.aload_n 0, 1) := dk_42 (dk_at dksX5_undo_0 21 rfl rfl)
theorem dX5_undo_22 : decode cX5_undo 22 = .ok (.dup, 1) := dk_89 (dk_at dksX5_undo_0 22 rfl rfl)
theorem dX5_undo_23 : decode cX5_undo 23 = .ok (.getfield 29, 3) := dk_180 0 29 (dk_at dksX5_undo_1 0 rfl rfl)
theorem dX5_undo_26 : decode cX5_undo 26 = .ok (.iconst 1, 1) := dk_4 (dk_at dksX5_undo_1 3 rfl rfl)
theorem dX5_undo_27 : decode cX5_undo 27 = .ok (.isub, 1) := dk_100 (dk_at dksX5_undo_1 4 rfl rfl)
theorem dX5_undo_28 : decode cX5_undo 28 = .ok (.putfield 29, 3) := dk_181 0 29 (dk_at dksX5_undo_1 5 rfl rfl)
theorem dX5_undo_31 : decode cX5_undo 31 = .ok (.aload_n 0, 1) := dk_42 (dk_at dksX5_undo_1 8 rfl rfl)
theorem dX5_undo_32 : decode cX5_undo 32 = .ok (.getfield 19, 3) := dk_180 0 19 (dk_at dksX5_undo_1 9 rfl rfl)
theorem dX5_undo_35 : decode cX5_undo 35 = .ok (.sipush 136, 3) := dk_17 0 136 (dk_at dksX5_undo_1 12 rfl rfl)
theorem dX5_undo_38 : decode cX5_undo 38 = .ok (.aload_n 0, 1) := dk_42 (dk_at dksX5_undo_1 15 rfl rfl)
theorem dX5_undo_39 : decode cX5_undo 39 = .ok (.getfield 29, 3) := dk_180 0 29 (dk_at dksX5_undo_1 16 rfl rfl)
theorem dX5_undo_42 : decode cX5_undo 42 = .ok (.imul, 1) := dk_104 (dk_at dksX5_undo_1 19 rfl rfl)
theorem dX5_undo_43 : decode cX5_undo 43 = .ok (.aload_n 0, 1) := dk_42 (dk_at dksX5_undo_1 20 rfl rfl)
theorem dX5_undo_44 : decode cX5_undo 44 = .ok (.getfield 7, 3) := dk_180 0 7 (dk_at dksX5_undo_1 21 rfl rfl)
theorem dX5_undo_47 : decode cX5_undo 47 = .ok (.iconst 0, 1) := dk_3 (dk_at dksX5_undo_2 0 rfl rfl)
theorem dX5_undo_48 : decode cX5_undo 48 = .ok (.invokestatic 81, 3) := dk_184 0 81 (dk_at dksX5_undo_2 1 rfl rfl)
theorem dX5_undo_51 : decode cX5_undo 51 = .ok (.aload_n 0, 1) := dk_42 (dk_at dksX5_undo_2 4 rfl rfl)
theorem dX5_undo_52 : decode cX5_undo 52 = .ok (.getfield 29, 3) := dk_180 0 29 (dk_at dksX5_undo_2 5 rfl rfl)
theorem dX5_undo_55 : decode cX5_undo 55 = .ok (.ireturn, 1) := dk_172 (dk_at dksX5_undo_2 8 rfl rfl)
def dkwX5_save_1 : List UInt8 := [180, 0, 7, 3, 46, 172]
abbrev dktX5_save_1 : List UInt8 := dkwX5_save_1 ++ []
def dkwX5_save_0 : List UInt8 := [42, 3, 181, 0, 25, 42, 180, 0, 7, 3, 42, 180, 0, 16, 3, 184, 0, 81, 42, 4, 181, 0, 41, 42]
abbrev dktX5_save_0 : List UInt8 := dkwX5_save_0 ++ dktX5_save_1
theorem dksX5_save_0 : cX5_save.data.toList.drop 0 = dktX5_save_0 := by decide +kernel
theorem dksX5_save_1 : cX5_save.data.toList.drop 24 = dktX5_save_1 := dk_seg dksX5_save_0 24 rfl rfl
theorem dX5_save_0 : decode cX5_save 0 = .ok (.aload_n 0, 1) := dk_42 (dk_at dksX5_save_0 0 rfl rfl)
theorem dX5_save_1 : decode cX5_save 1 = .ok (.iconst 0, 1) := dk_3 (dk_at dksX5_save_0 1 rfl rfl)
theorem dX5_save_2 : decode cX5_save 2 = .ok (.putfield 25, 3) := dk_181 0 25 (dk_at dksX5_save_0 2 rfl rfl)
theorem dX5_save_5 : decode cX5_save 5 = .ok (.aload_n 0, 1) := dk_42 (dk_at dksX5_save_0 5 rfl rfl)
theorem dX5_save_6 : decode cX5_save 6 = .ok (.getfield 7, 3) := dk_180 0 7 (dk_at dksX5_save_0 6 rfl rfl)
theorem dX5_save_9 : decode cX5_save 9 = .ok (.iconst 0, 1) := dk_3 (dk_at dksX5_save_0 9 rfl rfl)
theorem dX5_save_10 : decode cX5_save 10 = .ok (.aload_n 0, 1) := dk_42 (dk_at dksX5_save_0 10 rfl rfl)
theorem dX5_save_11 : decode cX5_save 11 = .ok (.getfield 16, 3) := dk_180 0 16 (dk_at dksX5_save_0 11 rfl rfl)
theorem dX5_save_14 : decode cX5_save 14 = .ok (.iconst 0, 1) := dk_3 (dk_at dksX5_save_0 14 rfl rfl)
theorem dX5_save_15 : decode cX5_save 15 = .ok (.invokestatic 81, 3) := dk_184 0 81 (dk_at dksX5_save_0 15 rfl rfl)
theorem dX5_save_18 : decode cX5_save 18 = .ok (.aload_n 0, 1) := dk_42 (dk_at dksX5_save_0 18 rfl rfl)
theorem dX5_save_19 : decode cX5_save 19 = .ok (.iconst 1, 1) := dk_4 (dk_at dksX5_save_0 19 rfl rfl)
theorem dX5_save_20 : decode cX5_save 20 = .ok (.putfield 41, 3) := dk_181 0 41 (dk_at dksX5_save_0 20 rfl rfl)
theorem dX5_save_23 : decode cX5_save 23 = .ok (.aload_n 0, 1) := dk_42 (dk_at dksX5_save_0 23 rfl rfl)
theorem dX5_save_24 : decode cX5_save 24 = .ok (.getfield 7, 3) := dk_180 0 7 (dk_at dksX5_save_1 0 rfl rfl)
theorem dX5_save_27 : decode cX5_save 27 = .ok (.iconst 0, 1) := dk_3 (dk_at dksX5_save_1 3 rfl rfl)
theorem dX5_save_28 : decode cX5_save 28 = .ok (.iaload, 1) := dk_46 (dk_at dksX5_save_1 4 rfl rfl)
theorem dX5_save_29 : decode cX5_save 29 = .ok (.ireturn, 1) := dk_172 (dk_at dksX5_save_1 5 rfl rfl)
def dkwX5_restore_1 : List UInt8 := [184, 0, 81, 42, 3, 181, 0, 29, 42, 180, 0, 7, 3, 46, 172]
abbrev dktX5_restore_1 : List UInt8 := dkwX5_restore_1 ++ []
def dkwX5_restore_0 : List UInt8 := [42, 42, 180, 0, 41, 182, 0, 219, 158, 0, 5, 3, 172, 42, 180, 0, 16, 3, 42, 180, 0, 7, 3]
abbrev dktX5_restore_0 : List UInt8 := dkwX5_restore_0 ++ dktX5_restore_1
theorem dksX5_restore_0 : cX5_restore.data.toList.drop 0 = dktX5_restore_0 := by decide +kernel
theorem dksX5_restore_1 : cX5_restore.data.toList.drop 23 = dktX5_restore_1 := dk_seg dksX5_restore_0 23 rfl rfl
theorem dX5_restore_0 : decode cX5_restore 0 = .ok (.aload_n 0, 1) := dk_42 (dk_at dksX5_restore_0 0 rfl rfl)
theorem dX5_restore_1 : decode cX5_restore 1 = .ok (.aload_n 0, 1) := dk_42 (dk_at dksX5_restore_0 1 rfl rfl)
theorem dX5_restore_2 : decode cX5_restore 2 = .ok (.getfield 41, 3) := dk_180 0 41 (dk_at dksX5_restore_0 2 rfl rfl)
theorem dX5_restore_5 : decode cX5_restore 5 = .ok (.invokevirtual 219, 3) := dk_182 0 219 (dk_at dksX5_restore_0 5 rfl rfl)
theorem dX5_restore_8 : decode cX5_restore 8 = .ok (.ifCond .le 5, 3) := dk_158 0 5 (dk_at dksX5_restore_0 8 rfl rfl)
theorem dX5_restore_11 : decode cX5_restore 11 = .ok (.iconst 0, 1) := dk_3 (dk_at dksX5_restore_0 11 rfl rfl)
theorem dX5_restore_12 : decode cX5_restore 12 = .ok (.ireturn, 1) := dk_172 (dk_at dksX5_restore_0 12 rfl rfl)
theorem dX5_restore_13 : decode cX5_restore 13 = .ok (.aload_n 0, 1) := dk_42 (dk_at dksX5_restore_0 13 rfl rfl)
theorem dX5_restore_14 : decode cX5_restore 14 = .ok (.getfield 16, 3) := dk_180 0 16 (dk_at dksX5_restore_0 14 rfl rfl)
theorem dX5_restore_17 : decode cX5_restore 17 = .ok (.iconst 0, 1) := dk_3 (dk_at dksX5_restore_0 17 rfl rfl)
theorem dX5_restore_18 : decode cX5_restore 18 = .ok (.aload_n 0, 1) := dk_42 (dk_at dksX5_restore_0 18 rfl rfl)
theorem dX5_restore_19 : decode cX5_restore 19 = .ok (.getfield 7, 3) := dk_180 0 7 (dk_at dksX5_restore_0 19 rfl rfl)
theorem dX5_restore_22 : decode cX5_restore 22 = .ok (.iconst 0, 1) := dk_3 (dk_at dksX5_restore_0 22 rfl rfl)
theorem dX5_restore_23 : decode cX5_restore 23 = .ok (.invokestatic 81, 3) := dk_184 0 81 (dk_at dksX5_restore_1 0 rfl rfl)
theorem dX5_restore_26 : decode cX5_restore 26 = .ok (.aload_n 0, 1) := dk_42 (dk_at dksX5_restore_1 3 rfl rfl)
theorem dX5_restore_27 : decode cX5_restore 27 = .ok (.iconst 0, 1) := dk_3 (dk_at dksX5_restore_1 4 rfl rfl)
theorem dX5_restore_28 : decode cX5_restore 28 = .ok (.putfield 29, 3) := dk_181 0 29 (dk_at dksX5_restore_1 5 rfl rfl)
theorem dX5_restore_31 : decode cX5_restore 31 = .ok (.aload_n 0, 1) := dk_42 (dk_at dksX5_restore_1 8 rfl rfl)
theorem dX5_restore_32 : decode cX5_restore 32 = .ok (.getfield 7, 3) := dk_180 0 7 (dk_at dksX5_restore_1 9 rfl rfl)
theorem dX5_restore_35 : decode cX5_restore 35 = .ok (.iconst 0, 1) := dk_3 (dk_at dksX5_restore_1 12 rfl rfl)
theorem dX5_restore_36 : decode cX5_restore 36 = .ok (.iaload, 1) := dk_46 (dk_at dksX5_restore_1 13 rfl rfl)
theorem dX5_restore_37 : decode cX5_restore 37 = .ok (.ireturn, 1) := dk_172 (dk_at dksX5_restore_1 14 rfl rfl)
