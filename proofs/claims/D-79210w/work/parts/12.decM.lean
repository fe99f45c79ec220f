set_option maxRecDepth 100000
def dkwX3_init_6 : List UInt8 := [42, 182, 0, 63, 177]
abbrev dktX3_init_6 : List UInt8 := dkwX3_init_6 ++ []
def dkwX3_init_5 : List UInt8 := [188, 10, 181, 0, 50, 42, 2, 181, 0, 53, 42, 2, 181, 0, 57, 42, 17, 1, 64, 188, 10, 181, 0, 60]
abbrev dktX3_init_5 : List UInt8 := dkwX3_init_5 ++ dktX3_init_6
def dkwX3_init_4 : List UInt8 := [181, 0, 41, 42, 17, 16, 0, 188, 10, 181, 0, 44, 42, 17, 16, 0, 188, 10, 181, 0, 47, 42, 16, 60]
abbrev dktX3_init_4 : List UInt8 := dkwX3_init_4 ++ dktX3_init_5
def dkwX3_init_3 : List UInt8 := [181, 0, 32, 42, 16, 9, 188, 10, 181, 0, 35, 42, 16, 12, 188, 10, 181, 0, 38, 42, 16, 10, 188, 10]
abbrev dktX3_init_3 : List UInt8 := dkwX3_init_3 ++ dktX3_init_4
def dkwX3_init_2 : List UInt8 := [181, 0, 22, 42, 16, 12, 188, 4, 181, 0, 25, 42, 16, 8, 188, 10, 181, 0, 29, 42, 16, 8, 188, 10]
abbrev dktX3_init_2 : List UInt8 := dkwX3_init_2 ++ dktX3_init_3
def dkwX3_init_1 : List UInt8 := [17, 1, 129, 188, 10, 181, 0, 16, 42, 17, 12, 8, 188, 10, 181, 0, 19, 42, 16, 16, 188, 10]
abbrev dktX3_init_1 : List UInt8 := dkwX3_init_1 ++ dktX3_init_2
def dkwX3_init_0 : List UInt8 := [42, 183, 0, 1, 42, 17, 1, 129, 188, 10, 181, 0, 7, 42, 17, 1, 129, 188, 10, 181, 0, 13, 42]
abbrev dktX3_init_0 : List UInt8 := dkwX3_init_0 ++ dktX3_init_1
theorem dksX3_init_0 : cX3_init.data.toList.drop 0 = dktX3_init_0 := by decide +kernel
theorem dksX3_init_1 : cX3_init.data.toList.drop 23 = dktX3_init_1 := dk_seg dksX3_init_0 23 rfl rfl
theorem dksX3_init_2 : cX3_init.data.toList.drop 45 = dktX3_init_2 := dk_seg dksX3_init_1 22 rfl rfl
theorem dksX3_init_3 : cX3_init.data.toList.drop 69 = dktX3_init_3 := dk_seg dksX3_init_2 24 rfl rfl
theorem dksX3_init_4 : cX3_init.data.toList.drop 93 = dktX3_init_4 := dk_seg dksX3_init_3 24 rfl rfl
theorem dksX3_init_5 : cX3_init.data.toList.drop 117 = dktX3_init_5 := dk_seg dksX3_init_4 24 rfl rfl
theorem dksX3_init_6 : cX3_init.data.toList.drop 141 = dktX3_init_6 := dk_seg dksX3_init_5 24 rfl rfl
theorem dX3_init_0 : decode cX3_init 0 = .ok (.aload_n 0, 1) := dk_42 (dk_at dksX3_init_0 0 rfl rfl)
theorem dX3_init_1 : decode cX3_init 1 = .ok (.invokespecial 1, 3) := dk_183 0 1 (dk_at dksX3_init_0 1 rfl rfl)
theorem dX3_init_4 : decode cX3_init 4 = .ok (.aload_n 0, 1) := dk_42 (dk_at dksX3_init_0 4 rfl rfl)
theorem dX3_init_5 : decode cX3_init 5 = .ok (.sipush 385, 3) := dk_17 1 129 (dk_at dksX3_init_0 5 rfl rfl)
theorem dX3_init_8 : decode cX3_init 8 = .ok (.newarray .int, 2) := dk_188_10 (dk_at dksX3_init_0 8 rfl rfl)
theorem dX3_init_10 : decode cX3_init 10 = .ok (.putfield 7, 3) := dk_181 0 7 (dk_at dksX3_init_0 10 rfl rfl)
theorem dX3_init_13 : decode cX3_init 13 = .ok (.aload_n 0, 1) := dk_42 (dk_at dksX3_init_0 13 rfl rfl)
theorem dX3_init_14 : decode cX3_init 14 = .ok (.sipush 385, 3) := dk_17 1 129 (dk_at dksX3_init_0 14 rfl rfl)
theorem dX3_init_17 : decode cX3_init 17 = .ok (.newarray .int, 2) := dk_188_10 (dk_at dksX3_init_0 17 rfl rfl)
theorem dX3_init_19 : decode cX3_init 19 = .ok (.putfield 13, 3) := dk_181 0 13 (dk_at dksX3_init_0 19 rfl rfl)
theorem dX3_init_22 : decode cX3_init 22 = .ok (.aload_n 0, 1) := dk_42 (dk_at dksX3_init_0 22 rfl rfl)
theorem dX3_init_23 : decode cX3_init 23 = .ok (.sipush 385, 3) := dk_17 1 129 (dk_at dksX3_init_1 0 rfl rfl)
theorem dX3_init_26 : decode cX3_init 26 = .ok (.newarray .int, 2) := dk_188_10 (dk_at dksX3_init_1 3 rfl rfl)
theorem dX3_init_28 : decode cX3_init 28 = .ok (.putfield 16, 3) := dk_181 0 16 (dk_at dksX3_init_1 5 rfl rfl)
theorem dX3_init_31 : decode cX3_init 31 = .ok (.aload_n 0, 1) := dk_42 (dk_at dksX3_init_1 8 rfl rfl)
theorem dX3_init_32 : decode cX3_init 32 = .ok (.sipush 3080, 3) := dk_17 12 8 (dk_at dksX3_init_1 9 rfl rfl)
theorem dX3_init_35 : decode cX3_init 35 = .ok (.newarray .int, 2) := dk_188_10 (dk_at dksX3_init_1 12 rfl rfl)
theorem dX3_init_37 : decode cX3_init 37 = .ok (.putfield 19, 3) := dk_181 0 19 (dk_at dksX3_init_1 14 rfl rfl)
theorem dX3_init_40 : decode cX3_init 40 = .ok (.aload_n 0, 1) := dk_42 (dk_at dksX3_init_1 17 rfl rfl)
theorem dX3_init_41 : decode cX3_init 41 = .ok (.bipush 16, 2) := dk_16 16 (dk_at dksX3_init_1 18 rfl rfl)
theorem dX3_init_43 : decode cX3_init 43 = .ok (.newarray .int, 2) := dk_188_10 (dk_at dksX3_init_1 20 rfl rfl)
theorem dX3_init_45 : decode cX3_init 45 = .ok (.putfield 22, 3) := dk_181 0 22 (dk_at dksX3_init_2 0 rfl rfl)
theorem dX3_init_48 : decode cX3_init 48 = .ok (.aload_n 0, 1) := dk_42 (dk_at dksX3_init_2 3 rfl rfl)
theorem dX3_init_49 : decode cX3_init 49 = .ok (.bipush 12, 2) := dk_16 12 (dk_at dksX3_init_2 4 rfl rfl)
theorem dX3_init_51 : decode cX3_init 51 = .ok (.newarray .boolean, 2) := dk_188_4 (dk_at dksX3_init_2 6 rfl rfl)
theorem dX3_init_53 : decode cX3_init 53 = .ok (.putfield 25, 3) := dk_181 0 25 (dk_at dksX3_init_2 8 rfl rfl)
theorem dX3_init_56 : decode cX3_init 56 = .ok (.aload_n 0, 1) := dk_42 (dk_at dksX3_init_2 11 rfl rfl)
theorem dX3_init_57 : decode cX3_init 57 = .ok (.bipush 8, 2) := dk_16 8 (dk_at dksX3_init_2 12 rfl rfl)
theorem dX3_init_59 : decode cX3_init 59 = .ok (.newarray .int, 2) := dk_188_10 (dk_at dksX3_init_2 14 rfl rfl)
theorem dX3_init_61 : decode cX3_init 61 = .ok (.putfield 29, 3) := dk_181 0 29 (dk_at dksX3_init_2 16 rfl rfl)
theorem dX3_init_64 : decode cX3_init 64 = .ok (.aload_n 0, 1) := dk_42 (dk_at dksX3_init_2 19 rfl rfl)
theorem dX3_init_65 : decode cX3_init 65 = .ok (.bipush 8, 2) := dk_16 8 (dk_at dksX3_init_2 20 rfl rfl)
theorem dX3_init_67 : decode cX3_init 67 = .ok (.newarray .int, 2) := dk_188_10 (dk_at dksX3_init_2 22 rfl rfl)
theorem dX3_init_69 : decode cX3_init 69 = .ok (.putfield 32, 3) := dk_181 0 32 (dk_at dksX3_init_3 0 rfl rfl)
theorem dX3_init_72 : decode cX3_init 72 = .ok (.aload_n 0, 1) := dk_42 (dk_at dksX3_init_3 3 rfl rfl)
theorem dX3_init_73 : decode cX3_init 73 = .ok (.bipush 9, 2) := dk_16 9 (dk_at dksX3_init_3 4 rfl rfl)
theorem dX3_init_75 : decode cX3_init 75 = .ok (.newarray .int, 2) := dk_188_10 (dk_at dksX3_init_3 6 rfl rfl)
theorem dX3_init_77 : decode cX3_init 77 = .ok (.putfield 35, 3) := dk_181 0 35 (dk_at dksX3_init_3 8 rfl rfl)
theorem dX3_init_80 : decode cX3_init 80 = .ok (.aload_n 0, 1) := dk_42 (dk_at dksX3_init_3 11 rfl rfl)
theorem dX3_init_81 : decode cX3_init 81 = .ok (.bipush 12, 2) := dk_16 12 (dk_at dksX3_init_3 12 rfl rfl)
theorem dX3_init_83 : decode cX3_init 83 = .ok (.newarray .int, 2) := dk_188_10 (dk_at dksX3_init_3 14 rfl rfl)
theorem dX3_init_85 : decode cX3_init 85 = .ok (.putfield 38, 3) := dk_181 0 38 (dk_at dksX3_init_3 16 rfl rfl)
theorem dX3_init_88 : decode cX3_init 88 = .ok (.aload_n 0, 1) := dk_42 (dk_at dksX3_init_3 19 rfl rfl)
theorem dX3_init_89 : decode cX3_init 89 = .ok (.bipush 10, 2) := dk_16 10 (dk_at dksX3_init_3 20 rfl rfl)
theorem dX3_init_91 : decode cX3_init 91 = .ok (.newarray .int, 2) := dk_188_10 (dk_at dksX3_init_3 22 rfl rfl)
theorem dX3_init_93 : decode cX3_init 93 = .ok (.putfield 41, 3) := dk_181 0 41 (dk_at dksX3_init_4 0 rfl rfl)
theorem dX3_init_96 : decode cX3_init 96 = .ok (.aload_n 0, 1) := dk_42 (dk_at dksX3_init_4 3 rfl rfl)
theorem dX3_init_97 : decode cX3_init 97 = .ok (.sipush 4096, 3) := dk_17 16 0 (dk_at dksX3_init_4 4 rfl rfl)
theorem dX3_init_100 : decode cX3_init 100 = .ok (.newarray .int, 2) := dk_188_10 (dk_at dksX3_init_4 7 rfl rfl)
theorem dX3_init_102 : decode cX3_init 102 = .ok (.putfield 44, 3) := dk_181 0 44 (dk_at dksX3_init_4 9 rfl rfl)
theorem dX3_init_105 : decode cX3_init 105 = .ok (.aload_n 0, 1) := dk_42 (dk_at dksX3_init_4 12 rfl rfl)
theorem dX3_init_106 : decode cX3_init 106 = .ok (.sipush 4096, 3) := dk_17 16 0 (dk_at dksX3_init_4 13 rfl rfl)
theorem dX3_init_109 : decode cX3_init 109 = .ok (.newarray .int, 2) := dk_188_10 (dk_at dksX3_init_4 16 rfl rfl)
theorem dX3_init_111 : decode cX3_init 111 = .ok (.putfield 47, 3) := dk_181 0 47 (dk_at dksX3_init_4 18 rfl rfl)
theorem dX3_init_114 : decode cX3_init 114 = .ok (.aload_n 0, 1) := dk_42 (dk_at dksX3_init_4 21 rfl rfl)
theorem dX3_init_115 : decode cX3_init 115 = .ok (.bipush 60, 2) := dk_16 60 (dk_at dksX3_init_4 22 rfl rfl)
theorem dX3_init_117 : decode cX3_init 117 = .ok (.newarray .int, 2) := dk_188_10 (dk_at dksX3_init_5 0 rfl rfl)
theorem dX3_init_119 : decode cX3_init 119 = .ok (.putfield 50, 3) := dk_181 0 50 (dk_at dksX3_init_5 2 rfl rfl)
theorem dX3_init_122 : decode cX3_init 122 = .ok (.aload_n 0, 1) := dk_42 (dk_at dksX3_init_5 5 rfl rfl)
theorem dX3_init_123 : decode cX3_init 123 = .ok (.iconst (-1), 1) := dk_2 (dk_at dksX3_init_5 6 rfl rfl)
theorem dX3_init_124 : decode cX3_init 124 = .ok (.putfield 53, 3) := dk_181 0 53 (dk_at dksX3_init_5 7 rfl rfl)
theorem dX3_init_127 : decode cX3_init 127 = .ok (.aload_n 0, 1) := dk_42 (dk_at dksX3_init_5 10 rfl rfl)
theorem dX3_init_128 : decode cX3_init 128 = .ok (.iconst (-1), 1) := dk_2 (dk_at dksX3_init_5 11 rfl rfl)
theorem dX3_init_129 : decode cX3_init 129 = .ok (.putfield 57, 3) := dk_181 0 57 (dk_at dksX3_init_5 12 rfl rfl)
theorem dX3_init_132 : decode cX3_init 132 = .ok (.aload_n 0, 1) := dk_42 (dk_at dksX3_init_5 15 rfl rfl)
theorem dX3_init_133 : decode cX3_init 133 = .ok (.sipush 320, 3) := dk_17 1 64 (dk_at dksX3_init_5 16 rfl rfl)
theorem dX3_init_136 : decode cX3_init 136 = .ok (.newarray .int, 2) := dk_188_10 (dk_at dksX3_init_5 19 rfl rfl)
theorem dX3_init_138 : decode cX3_init 138 = .ok (.putfield 60, 3) := dk_181 0 60 (dk_at dksX3_init_5 21 rfl rfl)
theorem dX3_init_141 : decode cX3_init 141 = .ok (.aload_n 0, 1) := dk_42 (dk_at dksX3_init_6 0 rfl rfl)
theorem dX3_init_142 : decode cX3_init 142 = .ok (.invokevirtual 63, 3) := dk_182 0 63 (dk_at dksX3_init_6 1 rfl rfl)
theorem dX3_init_145 : decode cX3_init 145 = .ok (.return_, 1) := dk_177 (dk_at dksX3_init_6 4 rfl rfl)
def dkwX3_begins_1 : List UInt8 := [180, 0, 7, 3, 16, 20, 79, 42, 180, 0, 7, 4, 5, 79, 42, 3, 181, 0, 69, 177]
abbrev dktX3_begins_1 : List UInt8 := dkwX3_begins_1 ++ []
def dkwX3_begins_0 : List UInt8 := [3, 60, 27, 17, 1, 129, 162, 0, 16, 42, 180, 0, 7, 27, 3, 79, 132, 1, 1, 167, 255, 239, 42]
abbrev dktX3_begins_0 : List UInt8 := dkwX3_begins_0 ++ dktX3_begins_1
theorem dksX3_begins_0 : cX3_begins.data.toList.drop 0 = dktX3_begins_0 := by decide +kernel
theorem dksX3_begins_1 : cX3_begins.data.toList.drop 23 = dktX3_begins_1 := dk_seg dksX3_begins_0 23 rfl rfl
theorem dX3_begins_0 : decode cX3_begins 0 = .ok (.iconst 0, 1) := dk_3 (dk_at dksX3_begins_0 0 rfl rfl)
theorem dX3_begins_1 : decode cX3_begins 1 = .ok (.istore_n 1, 1) := dk_60 (dk_at dksX3_begins_0 1 rfl rfl)
theorem dX3_begins_2 : decode cX3_begins 2 = .ok (.iload_n 1, 1) := dk_27 (dk_at dksX3_begins_0 2 rfl rfl)
theorem dX3_begins_3 : decode cX3_begins 3 = .ok (.sipush 385, 3) := dk_17 1 129 (dk_at dksX3_begins_0 3 rfl rfl)
theorem dX3_begins_6 : decode cX3_begins 6 = .ok (.if_icmp .ge 16, 3) := dk_162 0 16 (dk_at dksX3_begins_0 6 rfl rfl)
theorem dX3_begins_9 : decode cX3_begins 9 = .ok (.aload_n 0, 1) := dk_42 (dk_at dksX3_begins_0 9 rfl rfl)
theorem dX3_begins_10 : decode cX3_begins 10 = .ok (.getfield 7, 3) := dk_180 0 7 (dk_at dksX3_begins_0 10 rfl rfl)
theorem dX3_begins_13 : decode cX3_begins 13 = .ok (.iload_n 1, 1) := dk_27 (dk_at dksX3_begins_0 13 rfl rfl)
theorem dX3_begins_14 : decode cX3_begins 14 = .ok (.iconst 0, 1) := dk_3 (dk_at dksX3_begins_0 14 rfl rfl)
theorem dX3_begins_15 : decode cX3_begins 15 = .ok (.iastore, 1) := dk_79 (dk_at dksX3_begins_0 15 rfl rfl)
theorem dX3_begins_16 : decode cX3_begins 16 = .ok (.iinc 1 1, 3) := dk_132 1 1 (dk_at dksX3_begins_0 16 rfl rfl)
theorem dX3_begins_19 : decode cX3_begins 19 = .ok (.goto (-17), 3) := dk_167 255 239 (dk_at dksX3_begins_0 19 rfl rfl)
theorem dX3_begins_22 : decode cX3_begins 22 = .ok (.aload_n 0, 1) := dk_42 (dk_at dksX3_begins_0 22 rfl rfl)
theorem dX3_begins_23 : decode cX3_begins 23 = .ok (.getfield 7, 3) := dk_180 0 7 (dk_at dksX3_begins_1 0 rfl rfl)
theorem dX3_begins_26 : decode cX3_begins 26 = .ok (.iconst 0, 1) := dk_3 (dk_at dksX3_begins_1 3 rfl rfl)
theorem dX3_begins_27 : decode cX3_begins 27 = .ok (.bipush 20, 2) := dk_16 20 (dk_at dksX3_begins_1 4 rfl rfl)
theorem dX3_begins_29 : decode cX3_begins 29 = .ok (.iastore, 1) := dk_79 (dk_at dksX3_begins_1 6 rfl rfl)
theorem dX3_begins_30 : decode cX3_begins 30 = .ok (.aload_n 0, 1) := dk_42 (dk_at dksX3_begins_1 7 rfl rfl)
theorem dX3_begins_31 : decode cX3_begins 31 = .ok (.getfield 7, 3) := dk_180 0 7 (dk_at dksX3_begins_1 8 rfl rfl)
theorem dX3_begins_34 : decode cX3_begins 34 = .ok (.iconst 1, 1) := dk_4 (dk_at dksX3_begins_1 11 rfl rfl)
theorem dX3_begins_35 : decode cX3_begins 35 = .ok (.iconst 2, 1) := dk_5 (dk_at dksX3_begins_1 12 rfl rfl)
theorem dX3_begins_36 : decode cX3_begins 36 = .ok (.iastore, 1) := dk_79 (dk_at dksX3_begins_1 13 rfl rfl)
theorem dX3_begins_37 : decode cX3_begins 37 = .ok (.aload_n 0, 1) := dk_42 (dk_at dksX3_begins_1 14 rfl rfl)
theorem dX3_begins_38 : decode cX3_begins 38 = .ok (.iconst 0, 1) := dk_3 (dk_at dksX3_begins_1 15 rfl rfl)
theorem dX3_begins_39 : decode cX3_begins 39 = .ok (.putfield 69, 3) := dk_181 0 69 (dk_at dksX3_begins_1 16 rfl rfl)
theorem dX3_begins_42 : decode cX3_begins 42 = .ok (.return_, 1) := dk_177 (dk_at dksX3_begins_1 19 rfl rfl)
theorem dX3_thrown_0 : decode cX3_thrown 0 = .ok (.aload_n 0, 1) := by decide +kernel
theorem dX3_thrown_1 : decode cX3_thrown 1 = .ok (.getfield 66, 3) := by decide +kernel
theorem dX3_thrown_4 : decode cX3_thrown 4 = .ok (.ireturn, 1) := by decide +kernel
def dkwX3_clear_0 : List UInt8 := [42, 3, 181, 0, 66, 42, 180, 0, 7, 16, 101, 46, 60, 42, 182, 0, 63, 27, 172]
abbrev dktX3_clear_0 : List UInt8 := dkwX3_clear_0 ++ []
theorem dksX3_clear_0 : cX3_clear.data.toList.drop 0 = dktX3_clear_0 := by decide +kernel
theorem dX3_clear_0 : decode cX3_clear 0 = .ok (.aload_n 0, 1) := dk_42 (dk_at dksX3_clear_0 0 rfl rfl)
theorem dX3_clear_1 : decode cX3_clear 1 = .ok (.iconst 0, 1) := dk_3 (dk_at dksX3_clear_0 1 rfl rfl)
theorem dX3_clear_2 : decode cX3_clear 2 = .ok (.putfield 66, 3) := dk_181 0 66 (dk_at dksX3_clear_0 2 rfl rfl)
theorem dX3_clear_5 : decode cX3_clear 5 = .ok (.aload_n 0, 1) := dk_42 (dk_at dksX3_clear_0 5 rfl rfl)
theorem dX3_clear_6 : decode cX3_clear 6 = .ok (.getfield 7, 3) := dk_180 0 7 (dk_at dksX3_clear_0 6 rfl rfl)
theorem dX3_clear_9 : decode cX3_clear 9 = .ok (.bipush 101, 2) := dk_16 101 (dk_at dksX3_clear_0 9 rfl rfl)
theorem dX3_clear_11 : decode cX3_clear 11 = .ok (.iaload, 1) := dk_46 (dk_at dksX3_clear_0 11 rfl rfl)
theorem dX3_clear_12 : decode cX3_clear 12 = .ok (.istore_n 1, 1) := dk_60 (dk_at dksX3_clear_0 12 rfl rfl)
theorem dX3_clear_13 : decode cX3_clear 13 = .ok (.aload_n 0, 1) := dk_42 (dk_at dksX3_clear_0 13 rfl rfl)
theorem dX3_clear_14 : decode cX3_clear 14 = .ok (.invokevirtual 63, 3) := dk_182 0 63 (dk_at dksX3_clear_0 14 rfl rfl)
theorem dX3_clear_17 : decode cX3_clear 17 = .ok (.iload_n 1, 1) := dk_27 (dk_at dksX3_clear_0 17 rfl rfl)
theorem dX3_clear_18 : decode cX3_clear 18 = .ok (.ireturn, 1) := dk_172 (dk_at dksX3_clear_0 18 rfl rfl)
def dkwX3_undo_2 : List UInt8 := [180, 0, 7, 3, 184, 0, 72, 42, 180, 0, 69, 172]
abbrev dktX3_undo_2 : List UInt8 := dkwX3_undo_2 ++ []
def dkwX3_undo_1 : List UInt8 := [172, 42, 89, 180, 0, 69, 4, 100, 181, 0, 69, 42, 180, 0, 19, 17, 1, 129, 42, 180, 0, 69, 104, 42]
abbrev dktX3_undo_1 : List UInt8 := dkwX3_undo_1 ++ dktX3_undo_2
def dkwX3_undo_0 : List UInt8 := [42, 42, 180, 0, 69, 154, 0, 7, 4, 167, 0, 4, 3, 181, 0, 66, 42, 180, 0, 66, 158, 0, 5, 3]
abbrev dktX3_undo_0 : List UInt8 := dkwX3_undo_0 ++ dktX3_undo_1
theorem dksX3_undo_0 : cX3_undo.data.toList.drop 0 = dktX3_undo_0 := by decide +kernel
theorem dksX3_undo_1 : cX3_undo.data.toList.drop 24 = dktX3_undo_1 := dk_seg dksX3_undo_0 24 rfl rfl
theorem dksX3_undo_2 : cX3_undo.data.toList.drop 48 = dktX3_undo_2 := dk_seg dksX3_undo_1 24 rfl rfl
theorem dX3_undo_0 : decode cX3_undo 0 = .ok (.aload_n 0, 1) := dk_42 (dk_at dksX3_undo_0 0 rfl rfl)
theorem dX3_undo_1 : decode cX3_undo 1 = .ok (.aload_n 0, 1) := dk_42 (dk_at dksX3_undo_0 1 rfl rfl)
theorem dX3_undo_2 : decode cX3_undo 2 = .ok (.getfield 69, 3) := dk_180 0 69 (dk_at dksX3_undo_0 2 rfl rfl)
theorem dX3_undo_5 : decode cX3_undo 5 = .ok (.ifCond .ne 7, 3) := dk_154 0 7 (dk_at dksX3_undo_0 5 rfl rfl)
theorem dX3_undo_8 : decode cX3_undo 8 = .ok (.iconst 1, 1) := dk_4 (dk_at dksX3_undo_0 8 rfl rfl)
theorem dX3_undo_9 : decode cX3_undo 9 = .ok (.goto 4, 3) := dk_167 0 4 (dk_at dksX3_undo_0 9 rfl rfl)
theorem dX3_undo_12 : decode cX3_undo 12 = .ok (.iconst 0, 1) := dk_3 (dk_at dksX3_undo_0 12 rfl rfl)
theorem dX3_undo_13 : decode cX3_undo 13 = .ok (.putfield 66, 3) := dk_181 0 66 (dk_at dksX3_undo_0 13 rfl rfl)
theorem dX3_undo_16 : decode cX3_undo 16 = .ok (.aload_n 0, 1) := dk_42 (dk_at dksX3_undo_0 16 rfl rfl)
theorem dX3_undo_17 : decode cX3_undo 17 = .ok (.getfield 66, 3) := dk_180 0 66 (dk_at dksX3_undo_0 17 rfl rfl)
theorem dX3_undo_20 : decode cX3_undo 20 = .ok (.ifCond .le 5, 3) := dk_158 0 5 (dk_at dksX3_undo_0 20 rfl rfl)
theorem dX3_undo_23 : decode cX3_undo 23 = .ok (.iconst 0, 1) := dk_3 (dk_at dksX3_undo_0 23 rfl rfl)
theorem dX3_undo_24 : decode cX3_undo 24 = .ok (.ireturn, 1) := dk_172 (dk_at dksX3_undo_1 0 rfl rfl)
theorem dX3_undo_25 : decode cX3_undo 25 = .ok (.aload_n 0, 1) := dk_42 (dk_at dksX3_undo_1 1 rfl rfl)
theorem dX3_undo_26 : decode cX3_undo 26 = .ok (.dup, 1) := dk_89 (dk_at dksX3_undo_1 2 rfl rfl)
theorem dX3_undo_27 : decode cX3_undo 27 = .ok (.getfield 69, 3) := dk_180 0 69 (dk_at dksX3_undo_1 3 rfl rfl)
theorem dX3_undo_30 : decode cX3_undo 30 = .ok (.iconst 1, 1) := dk_4 (dk_at dksX3_undo_1 6 rfl rfl)
theorem dX3_undo_31 : decode cX3_undo 31 = .ok (.isub, 1) := dk_100 (dk_at dksX3_undo_1 7 rfl rfl)
theorem dX3_undo_32 : decode cX3_undo 32 = .ok (.putfield 69, 3) := dk_181 0 69 (dk_at dksX3_undo_1 8 rfl rfl)
theorem dX3_undo_35 : decode cX3_undo 35 = .ok (.aload_n 0, 1) := dk_42 (dk_at dksX3_undo_1 11 rfl rfl)
theorem dX3_undo_36 : decode cX3_undo 36 = .ok (.getfield 19, 3) := dk_180 0 19 (dk_at dksX3_undo_1 12 rfl rfl)
theorem dX3_undo_39 : decode cX3_undo 39 = .ok (.sipush 385, 3) := dk_17 1 129 (dk_at dksX3_undo_1 15 rfl rfl)
theorem dX3_undo_42 : decode cX3_undo 42 = .ok (.aload_n 0, 1) := dk_42 (dk_at dksX3_undo_1 18 rfl rfl)
theorem dX3_undo_43 : decode cX3_undo 43 = .ok (.getfield 69, 3) := dk_180 0 69 (dk_at dksX3_undo_1 19 rfl rfl)
theorem dX3_undo_46 : decode cX3_undo 46 = .ok (.imul, 1) := dk_104 (dk_at dksX3_undo_1 22 rfl rfl)
theorem dX3_undo_47 : decode cX3_undo 47 = .ok (.aload_n 0, 1) := dk_42 (dk_at dksX3_undo_1 23 rfl rfl)
theorem dX3_undo_48 : decode cX3_undo 48 = .ok (.getfield 7, 3) := dk_180 0 7 (dk_at dksX3_undo_2 0 rfl rfl)
theorem dX3_undo_51 : decode cX3_undo 51 = .ok (.iconst 0, 1) := dk_3 (dk_at dksX3_undo_2 3 rfl rfl)
theorem dX3_undo_52 : decode cX3_undo 52 = .ok (.invokestatic 72, 3) := dk_184 0 72 (dk_at dksX3_undo_2 4 rfl rfl)
theorem dX3_undo_55 : decode cX3_undo 55 = .ok (.aload_n 0, 1) := dk_42 (dk_at dksX3_undo_2 7 rfl rfl)
theorem dX3_undo_56 : decode cX3_undo 56 = .ok (.getfield 69, 3) := dk_180 0 69 (dk_at dksX3_undo_2 8 rfl rfl)
theorem dX3_undo_59 : decode cX3_undo 59 = .ok (.ireturn, 1) := dk_172 (dk_at dksX3_undo_2 11 rfl rfl)
def dkwX3_copies_1 : List UInt8 := [132, 4, 1, 167, 255, 233, 177]
abbrev dktX3_copies_1 : List UInt8 := dkwX3_copies_1 ++ []
def dkwX3_copies_0 : List UInt8 := [3, 54, 4, 21, 4, 17, 1, 129, 162, 0, 21, 44, 29, 21, 4, 96, 42, 27, 21, 4, 96, 46, 79]
abbrev dktX3_copies_0 : List UInt8 := dkwX3_copies_0 ++ dktX3_copies_1
theorem dksX3_copies_0 : cX3_copies.data.toList.drop 0 = dktX3_copies_0 := by decide +kernel
theorem dksX3_copies_1 : cX3_copies.data.toList.drop 23 = dktX3_copies_1 := dk_seg dksX3_copies_0 23 rfl rfl
theorem dX3_copies_0 : decode cX3_copies 0 = .ok (.iconst 0, 1) := dk_3 (dk_at dksX3_copies_0 0 rfl rfl)
theorem dX3_copies_1 : decode cX3_copies 1 = .ok (.istore 4, 2) := dk_54 4 (dk_at dksX3_copies_0 1 rfl rfl)
theorem dX3_copies_3 : decode cX3_copies 3 = .ok (.iload 4, 2) := dk_21 4 (dk_at dksX3_copies_0 3 rfl rfl)
theorem dX3_copies_5 : decode cX3_copies 5 = .ok (.sipush 385, 3) := dk_17 1 129 (dk_at dksX3_copies_0 5 rfl rfl)
theorem dX3_copies_8 : decode cX3_copies 8 = .ok (.if_icmp .ge 21, 3) := dk_162 0 21 (dk_at dksX3_copies_0 8 rfl rfl)
theorem dX3_copies_11 : decode cX3_copies 11 = .ok (.aload_n 2, 1) := dk_44 (dk_at dksX3_copies_0 11 rfl rfl)
theorem dX3_copies_12 : decode cX3_copies 12 = .ok (.iload_n 3, 1) := dk_29 (dk_at dksX3_copies_0 12 rfl rfl)
theorem dX3_copies_13 : decode cX3_copies 13 = .ok (.iload 4, 2) := dk_21 4 (dk_at dksX3_copies_0 13 rfl rfl)
theorem dX3_copies_15 : decode cX3_copies 15 = .ok (.iadd, 1) := dk_96 (dk_at dksX3_copies_0 15 rfl rfl)
theorem dX3_copies_16 : decode cX3_copies 16 = .ok (.aload_n 0, 1) := dk_42 (dk_at dksX3_copies_0 16 rfl rfl)
theorem dX3_copies_17 : decode cX3_copies 17 = .ok (.iload_n 1, 1) := dk_27 (dk_at dksX3_copies_0 17 rfl rfl)
theorem dX3_copies_18 : decode cX3_copies 18 = .ok (.iload 4, 2) := dk_21 4 (dk_at dksX3_copies_0 18 rfl rfl)
theorem dX3_copies_20 : decode cX3_copies 20 = .ok (.iadd, 1) := dk_96 (dk_at dksX3_copies_0 20 rfl rfl)
theorem dX3_copies_21 : decode cX3_copies 21 = .ok (.iaload, 1) := dk_46 (dk_at dksX3_copies_0 21 rfl rfl)
theorem dX3_copies_22 : decode cX3_copies 22 = .ok (.iastore, 1) := dk_79 (dk_at dksX3_copies_0 22 rfl rfl)
theorem dX3_copies_23 : decode cX3_copies 23 = .ok (.iinc 4 1, 3) := dk_132 4 1 (dk_at dksX3_copies_1 0 rfl rfl)
theorem dX3_copies_26 : decode cX3_copies 26 = .ok (.goto (-23), 3) := dk_167 255 233 (dk_at dksX3_copies_1 3 rfl rfl)
theorem dX3_copies_29 : decode cX3_copies 29 = .ok (.return_, 1) := dk_177 (dk_at dksX3_copies_1 6 rfl rfl)
def dkwX3_snapshot_1 : List UInt8 := [180, 0, 7, 16, 101, 46, 172]
abbrev dktX3_snapshot_1 : List UInt8 := dkwX3_snapshot_1 ++ []
def dkwX3_snapshot_0 : List UInt8 := [42, 3, 181, 0, 66, 42, 4, 181, 0, 84, 42, 180, 0, 7, 3, 42, 180, 0, 13, 3, 184, 0, 72, 42]
abbrev dktX3_snapshot_0 : List UInt8 := dkwX3_snapshot_0 ++ dktX3_snapshot_1
theorem dksX3_snapshot_0 : cX3_snapshot.data.toList.drop 0 = dktX3_snapshot_0 := by decide +kernel
theorem dksX3_snapshot_1 : cX3_snapshot.data.toList.drop 24 = dktX3_snapshot_1 := dk_seg dksX3_snapshot_0 24 rfl rfl
theorem dX3_snapshot_0 : decode cX3_snapshot 0 = .ok (.aload_n 0, 1) := dk_42 (dk_at dksX3_snapshot_0 0 rfl rfl)
theorem dX3_snapshot_1 : decode cX3_snapshot 1 = .ok (.iconst 0, 1) := dk_3 (dk_at dksX3_snapshot_0 1 rfl rfl)
theorem dX3_snapshot_2 : decode cX3_snapshot 2 = .ok (.putfield 66, 3) := dk_181 0 66 (dk_at dksX3_snapshot_0 2 rfl rfl)
theorem dX3_snapshot_5 : decode cX3_snapshot 5 = .ok (.aload_n 0, 1) := dk_42 (dk_at dksX3_snapshot_0 5 rfl rfl)
theorem dX3_snapshot_6 : decode cX3_snapshot 6 = .ok (.iconst 1, 1) := dk_4 (dk_at dksX3_snapshot_0 6 rfl rfl)
theorem dX3_snapshot_7 : decode cX3_snapshot 7 = .ok (.putfield 84, 3) := dk_181 0 84 (dk_at dksX3_snapshot_0 7 rfl rfl)
theorem dX3_snapshot_10 : decode cX3_snapshot 10 = .ok (.aload_n 0, 1) := dk_42 (dk_at dksX3_snapshot_0 10 rfl rfl)
theorem dX3_snapshot_11 : decode cX3_snapshot 11 = .ok (.getfield 7, 3) := dk_180 0 7 (dk_at dksX3_snapshot_0 11 rfl rfl)
theorem dX3_snapshot_14 : decode cX3_snapshot 14 = .ok (.iconst 0, 1) := dk_3 (dk_at dksX3_snapshot_0 14 rfl rfl)
theorem dX3_snapshot_15 : decode cX3_snapshot 15 = .ok (.aload_n 0, 1) := dk_42 (dk_at dksX3_snapshot_0 15 rfl rfl)
theorem dX3_snapshot_16 : decode cX3_snapshot 16 = .ok (.getfield 13, 3) := dk_180 0 13 (dk_at dksX3_snapshot_0 16 rfl rfl)
theorem dX3_snapshot_19 : decode cX3_snapshot 19 = .ok (.iconst 0, 1) := dk_3 (dk_at dksX3_snapshot_0 19 rfl rfl)
theorem dX3_snapshot_20 : decode cX3_snapshot 20 = .ok (.invokestatic 72, 3) := dk_184 0 72 (dk_at dksX3_snapshot_0 20 rfl rfl)
theorem dX3_snapshot_23 : decode cX3_snapshot 23 = .ok (.aload_n 0, 1) := dk_42 (dk_at dksX3_snapshot_0 23 rfl rfl)
theorem dX3_snapshot_24 : decode cX3_snapshot 24 = .ok (.getfield 7, 3) := dk_180 0 7 (dk_at dksX3_snapshot_1 0 rfl rfl)
theorem dX3_snapshot_27 : decode cX3_snapshot 27 = .ok (.bipush 101, 2) := dk_16 101 (dk_at dksX3_snapshot_1 3 rfl rfl)
theorem dX3_snapshot_29 : decode cX3_snapshot 29 = .ok (.iaload, 1) := dk_46 (dk_at dksX3_snapshot_1 5 rfl rfl)
theorem dX3_snapshot_30 : decode cX3_snapshot 30 = .ok (.ireturn, 1) := dk_172 (dk_at dksX3_snapshot_1 6 rfl rfl)
def dkwX3_restore_2 : List UInt8 := [16, 101, 46, 172]
abbrev dktX3_restore_2 : List UInt8 := dkwX3_restore_2 ++ []
def dkwX3_restore_1 : List UInt8 := [172, 42, 180, 0, 13, 3, 42, 180, 0, 7, 3, 184, 0, 72, 42, 3, 181, 0, 69, 42, 180, 0, 7]
abbrev dktX3_restore_1 : List UInt8 := dkwX3_restore_1 ++ dktX3_restore_2
def dkwX3_restore_0 : List UInt8 := [42, 42, 180, 0, 84, 153, 0, 7, 3, 167, 0, 4, 4, 181, 0, 66, 42, 180, 0, 84, 154, 0, 5, 3]
abbrev dktX3_restore_0 : List UInt8 := dkwX3_restore_0 ++ dktX3_restore_1
theorem dksX3_restore_0 : cX3_restore.data.toList.drop 0 = dktX3_restore_0 := by decide +kernel
theorem dksX3_restore_1 : cX3_restore.data.toList.drop 24 = dktX3_restore_1 := dk_seg dksX3_restore_0 24 rfl rfl
theorem dksX3_restore_2 : cX3_restore.data.toList.drop 47 = dktX3_restore_2 := dk_seg dksX3_restore_1 23 rfl rfl
theorem dX3_restore_0 : decode cX3_restore 0 = .ok (.aload_n 0, 1) := dk_42 (dk_at dksX3_restore_0 0 rfl rfl)
theorem dX3_restore_1 : decode cX3_restore 1 = .ok (.aload_n 0, 1) := dk_42 (dk_at dksX3_restore_0 1 rfl rfl)
theorem dX3_restore_2 : decode cX3_restore 2 = .ok (.getfield 84, 3) := dk_180 0 84 (dk_at dksX3_restore_0 2 rfl rfl)
theorem dX3_restore_5 : decode cX3_restore 5 = .ok (.ifCond .eq 7, 3) := dk_153 0 7 (dk_at dksX3_restore_0 5 rfl rfl)
theorem dX3_restore_8 : decode cX3_restore 8 = .ok (.iconst 0, 1) := dk_3 (dk_at dksX3_restore_0 8 rfl rfl)
theorem dX3_restore_9 : decode cX3_restore 9 = .ok (.goto 4, 3) := dk_167 0 4 (dk_at dksX3_restore_0 9 rfl rfl)
theorem dX3_restore_12 : decode cX3_restore 12 = .ok (.iconst 1, 1) := dk_4 (dk_at dksX3_restore_0 12 rfl rfl)
theorem dX3_restore_13 : decode cX3_restore 13 = .ok (.putfield 66, 3) := dk_181 0 66 (dk_at dksX3_restore_0 13 rfl rfl)
theorem dX3_restore_16 : decode cX3_restore 16 = .ok (.aload_n 0, 1) := dk_42 (dk_at dksX3_restore_0 16 rfl rfl)
theorem dX3_restore_17 : decode cX3_restore 17 = .ok (.getfield 84, 3) := dk_180 0 84 (dk_at dksX3_restore_0 17 rfl rfl)
theorem dX3_restore_20 : decode cX3_restore 20 = .ok (.ifCond .ne 5, 3) := dk_154 0 5 (dk_at dksX3_restore_0 20 rfl rfl)
theorem dX3_restore_23 : decode cX3_restore 23 = .ok (.iconst 0, 1) := dk_3 (dk_at dksX3_restore_0 23 rfl rfl)
theorem dX3_restore_24 : decode cX3_restore 24 = .ok (.ireturn, 1) := dk_172 (dk_at dksX3_restore_1 0 rfl rfl)
theorem dX3_restore_25 : decode cX3_restore 25 = .ok (.aload_n 0, 1) := dk_42 (dk_at dksX3_restore_1 1 rfl rfl)
theorem dX3_restore_26 : decode cX3_restore 26 = .ok (.getfield 13, 3) := dk_180 0 13 (dk_at dksX3_restore_1 2 rfl rfl)
theorem dX3_restore_29 : decode cX3_restore 29 = .ok (.iconst 0, 1) := dk_3 (dk_at dksX3_restore_1 5 rfl rfl)
theorem dX3_restore_30 : decode cX3_restore 30 = .ok (.aload_n 0, 1) := dk_42 (dk_at dksX3_restore_1 6 rfl rfl)
theorem dX3_restore_31 : decode cX3_restore 31 = .ok (.getfield 7, 3) := dk_180 0 7 (dk_at dksX3_restore_1 7 rfl rfl)
theorem dX3_restore_34 : decode cX3_restore 34 = .ok (.iconst 0, 1) := dk_3 (dk_at dksX3_restore_1 10 rfl rfl)
theorem dX3_restore_35 : decode cX3_restore 35 = .ok (.invokestatic 72, 3) := dk_184 0 72 (dk_at dksX3_restore_1 11 rfl rfl)
theorem dX3_restore_38 : decode cX3_restore 38 = .ok (.aload_n 0, 1) := dk_42 (dk_at dksX3_restore_1 14 rfl rfl)
theorem dX3_restore_39 : decode cX3_restore 39 = .ok (.iconst 0, 1) := dk_3 (dk_at dksX3_restore_1 15 rfl rfl)
theorem dX3_restore_40 : decode cX3_restore 40 = .ok (.putfield 69, 3) := dk_181 0 69 (dk_at dksX3_restore_1 16 rfl rfl)
theorem dX3_restore_43 : decode cX3_restore 43 = .ok (.aload_n 0, 1) := dk_42 (dk_at dksX3_restore_1 19 rfl rfl)
theorem dX3_restore_44 : decode cX3_restore 44 = .ok (.getfield 7, 3) := dk_180 0 7 (dk_at dksX3_restore_1 20 rfl rfl)
theorem dX3_restore_47 : decode cX3_restore 47 = .ok (.bipush 101, 2) := dk_16 101 (dk_at dksX3_restore_2 0 rfl rfl)
theorem dX3_restore_49 : decode cX3_restore 49 = .ok (.iaload, 1) := dk_46 (dk_at dksX3_restore_2 2 rfl rfl)
theorem dX3_restore_50 : decode cX3_restore 50 = .ok (.ireturn, 1) := dk_172 (dk_at dksX3_restore_2 3 rfl rfl)
def dkwX3_setSpare_1 : List UInt8 := [158, 0, 7, 3, 167, 0, 9, 42, 3, 27, 182, 0, 94, 172]
abbrev dktX3_setSpare_1 : List UInt8 := dkwX3_setSpare_1 ++ []
def dkwX3_setSpare_0 : List UInt8 := [42, 27, 3, 16, 50, 184, 0, 90, 153, 0, 7, 3, 167, 0, 4, 4, 181, 0, 66, 42, 180, 0, 66]
abbrev dktX3_setSpare_0 : List UInt8 := dkwX3_setSpare_0 ++ dktX3_setSpare_1
theorem dksX3_setSpare_0 : cX3_setSpare.data.toList.drop 0 = dktX3_setSpare_0 := by decide +kernel
theorem dksX3_setSpare_1 : cX3_setSpare.data.toList.drop 23 = dktX3_setSpare_1 := dk_seg dksX3_setSpare_0 23 rfl rfl
theorem dX3_setSpare_0 : decode cX3_setSpare 0 = .ok (.aload_n 0, 1) := dk_42 (dk_at dksX3_setSpare_0 0 rfl rfl)
theorem dX3_setSpare_1 : decode cX3_setSpare 1 = .ok (.iload_n 1, 1) := dk_27 (dk_at dksX3_setSpare_0 1 rfl rfl)
theorem dX3_setSpare_2 : decode cX3_setSpare 2 = .ok (.iconst 0, 1) := dk_3 (dk_at dksX3_setSpare_0 2 rfl rfl)
theorem dX3_setSpare_3 : decode cX3_setSpare 3 = .ok (.bipush 50, 2) := dk_16 50 (dk_at dksX3_setSpare_0 3 rfl rfl)
theorem dX3_setSpare_5 : decode cX3_setSpare 5 = .ok (.invokestatic 90, 3) := dk_184 0 90 (dk_at dksX3_setSpare_0 5 rfl rfl)
theorem dX3_setSpare_8 : decode cX3_setSpare 8 = .ok (.ifCond .eq 7, 3) := dk_153 0 7 (dk_at dksX3_setSpare_0 8 rfl rfl)
theorem dX3_setSpare_11 : decode cX3_setSpare 11 = .ok (.iconst 0, 1) := dk_3 (dk_at dksX3_setSpare_0 11 rfl rfl)
theorem dX3_setSpare_12 : decode cX3_setSpare 12 = .ok (.goto 4, 3) := dk_167 0 4 (dk_at dksX3_setSpare_0 12 rfl rfl)
theorem dX3_setSpare_15 : decode cX3_setSpare 15 = .ok (.iconst 1, 1) := dk_4 (dk_at dksX3_setSpare_0 15 rfl rfl)
theorem dX3_setSpare_16 : decode cX3_setSpare 16 = .ok (.putfield 66, 3) := dk_181 0 66 (dk_at dksX3_setSpare_0 16 rfl rfl)
theorem dX3_setSpare_19 : decode cX3_setSpare 19 = .ok (.aload_n 0, 1) := dk_42 (dk_at dksX3_setSpare_0 19 rfl rfl)
theorem dX3_setSpare_20 : decode cX3_setSpare 20 = .ok (.getfield 66, 3) := dk_180 0 66 (dk_at dksX3_setSpare_0 20 rfl rfl)
theorem dX3_setSpare_23 : decode cX3_setSpare 23 = .ok (.ifCond .le 7, 3) := dk_158 0 7 (dk_at dksX3_setSpare_1 0 rfl rfl)
theorem dX3_setSpare_26 : decode cX3_setSpare 26 = .ok (.iconst 0, 1) := dk_3 (dk_at dksX3_setSpare_1 3 rfl rfl)
theorem dX3_setSpare_27 : decode cX3_setSpare 27 = .ok (.goto 9, 3) := dk_167 0 9 (dk_at dksX3_setSpare_1 4 rfl rfl)
theorem dX3_setSpare_30 : decode cX3_setSpare 30 = .ok (.aload_n 0, 1) := dk_42 (dk_at dksX3_setSpare_1 7 rfl rfl)
theorem dX3_setSpare_31 : decode cX3_setSpare 31 = .ok (.iconst 0, 1) := dk_3 (dk_at dksX3_setSpare_1 8 rfl rfl)
theorem dX3_setSpare_32 : decode cX3_setSpare 32 = .ok (.iload_n 1, 1) := dk_27 (dk_at dksX3_setSpare_1 9 rfl rfl)
theorem dX3_setSpare_33 : decode cX3_setSpare 33 = .ok (.invokevirtual 94, 3) := dk_182 0 94 (dk_at dksX3_setSpare_1 10 rfl rfl)
theorem dX3_setSpare_36 : decode cX3_setSpare 36 = .ok (.ireturn, 1) := dk_172 (dk_at dksX3_setSpare_1 13 rfl rfl)
def dkwX3_in_0 : List UInt8 := [26, 27, 161, 0, 12, 26, 28, 163, 0, 7, 4, 167, 0, 4, 3, 172]
abbrev dktX3_in_0 : List UInt8 := dkwX3_in_0 ++ []
theorem dksX3_in_0 : cX3_in.data.toList.drop 0 = dktX3_in_0 := by decide +kernel
theorem dX3_in_0 : decode cX3_in 0 = .ok (.iload_n 0, 1) := dk_26 (dk_at dksX3_in_0 0 rfl rfl)
theorem dX3_in_1 : decode cX3_in 1 = .ok (.iload_n 1, 1) := dk_27 (dk_at dksX3_in_0 1 rfl rfl)
theorem dX3_in_2 : decode cX3_in 2 = .ok (.if_icmp .lt 12, 3) := dk_161 0 12 (dk_at dksX3_in_0 2 rfl rfl)
theorem dX3_in_5 : decode cX3_in 5 = .ok (.iload_n 0, 1) := dk_26 (dk_at dksX3_in_0 5 rfl rfl)
theorem dX3_in_6 : decode cX3_in 6 = .ok (.iload_n 2, 1) := dk_28 (dk_at dksX3_in_0 6 rfl rfl)
theorem dX3_in_7 : decode cX3_in 7 = .ok (.if_icmp .gt 7, 3) := dk_163 0 7 (dk_at dksX3_in_0 7 rfl rfl)
theorem dX3_in_10 : decode cX3_in 10 = .ok (.iconst 1, 1) := dk_4 (dk_at dksX3_in_0 10 rfl rfl)
theorem dX3_in_11 : decode cX3_in 11 = .ok (.goto 4, 3) := dk_167 0 4 (dk_at dksX3_in_0 11 rfl rfl)
theorem dX3_in_14 : decode cX3_in 14 = .ok (.iconst 0, 1) := dk_3 (dk_at dksX3_in_0 14 rfl rfl)
theorem dX3_in_15 : decode cX3_in 15 = .ok (.ireturn, 1) := dk_172 (dk_at dksX3_in_0 15 rfl rfl)
def dkwX3_sets_0 : List UInt8 := [42, 182, 0, 87, 42, 180, 0, 7, 27, 46, 62, 42, 180, 0, 7, 27, 28, 79, 29, 172]
abbrev dktX3_sets_0 : List UInt8 := dkwX3_sets_0 ++ []
theorem dksX3_sets_0 : cX3_sets.data.toList.drop 0 = dktX3_sets_0 := by decide +kernel
theorem dX3_sets_0 : decode cX3_sets 0 = .ok (.aload_n 0, 1) := dk_42 (dk_at dksX3_sets_0 0 rfl rfl)
theorem dX3_sets_1 : decode cX3_sets 1 = .ok (.invokevirtual 87, 3) := dk_182 0 87 (dk_at dksX3_sets_0 1 rfl rfl)
theorem dX3_sets_4 : decode cX3_sets 4 = .ok (.aload_n 0, 1) := dk_42 (dk_at dksX3_sets_0 4 rfl rfl)
theorem dX3_sets_5 : decode cX3_sets 5 = .ok (.getfield 7, 3) := dk_180 0 7 (dk_at dksX3_sets_0 5 rfl rfl)
theorem dX3_sets_8 : decode cX3_sets 8 = .ok (.iload_n 1, 1) := dk_27 (dk_at dksX3_sets_0 8 rfl rfl)
theorem dX3_sets_9 : decode cX3_sets 9 = .ok (.iaload, 1) := dk_46 (dk_at dksX3_sets_0 9 rfl rfl)
theorem dX3_sets_10 : decode cX3_sets 10 = .ok (.istore_n 3, 1) := dk_62 (dk_at dksX3_sets_0 10 rfl rfl)
theorem dX3_sets_11 : decode cX3_sets 11 = .ok (.aload_n 0, 1) := dk_42 (dk_at dksX3_sets_0 11 rfl rfl)
theorem dX3_sets_12 : decode cX3_sets 12 = .ok (.getfield 7, 3) := dk_180 0 7 (dk_at dksX3_sets_0 12 rfl rfl)
theorem dX3_sets_15 : decode cX3_sets 15 = .ok (.iload_n 1, 1) := dk_27 (dk_at dksX3_sets_0 15 rfl rfl)
theorem dX3_sets_16 : decode cX3_sets 16 = .ok (.iload_n 2, 1) := dk_28 (dk_at dksX3_sets_0 16 rfl rfl)
theorem dX3_sets_17 : decode cX3_sets 17 = .ok (.iastore, 1) := dk_79 (dk_at dksX3_sets_0 17 rfl rfl)
theorem dX3_sets_18 : decode cX3_sets 18 = .ok (.iload_n 3, 1) := dk_29 (dk_at dksX3_sets_0 18 rfl rfl)
theorem dX3_sets_19 : decode cX3_sets 19 = .ok (.ireturn, 1) := dk_172 (dk_at dksX3_sets_0 19 rfl rfl)
def dkwX3_changes_0 : List UInt8 := [42, 180, 0, 76, 154, 0, 11, 42, 42, 180, 0, 7, 182, 0, 80, 177]
abbrev dktX3_changes_0 : List UInt8 := dkwX3_changes_0 ++ []
theorem dksX3_changes_0 : cX3_changes.data.toList.drop 0 = dktX3_changes_0 := by decide +kernel
theorem dX3_changes_0 : decode cX3_changes 0 = .ok (.aload_n 0, 1) := dk_42 (dk_at dksX3_changes_0 0 rfl rfl)
theorem dX3_changes_1 : decode cX3_changes 1 = .ok (.getfield 76, 3) := dk_180 0 76 (dk_at dksX3_changes_0 1 rfl rfl)
theorem dX3_changes_4 : decode cX3_changes 4 = .ok (.ifCond .ne 11, 3) := dk_154 0 11 (dk_at dksX3_changes_0 4 rfl rfl)
theorem dX3_changes_7 : decode cX3_changes 7 = .ok (.aload_n 0, 1) := dk_42 (dk_at dksX3_changes_0 7 rfl rfl)
theorem dX3_changes_8 : decode cX3_changes 8 = .ok (.aload_n 0, 1) := dk_42 (dk_at dksX3_changes_0 8 rfl rfl)
theorem dX3_changes_9 : decode cX3_changes 9 = .ok (.getfield 7, 3) := dk_180 0 7 (dk_at dksX3_changes_0 9 rfl rfl)
theorem dX3_changes_12 : decode cX3_changes 12 = .ok (.invokevirtual 80, 3) := dk_182 0 80 (dk_at dksX3_changes_0 12 rfl rfl)
theorem dX3_changes_15 : decode cX3_changes 15 = .ok (.return_, 1) := dk_177 (dk_at dksX3_changes_0 15 rfl rfl)
def dkwX3_keeps_3 : List UInt8 := [180, 0, 69, 4, 96, 181, 0, 69, 177]
abbrev dktX3_keeps_3 : List UInt8 := dkwX3_keeps_3 ++ []
def dkwX3_keeps_2 : List UInt8 := [181, 0, 69, 43, 3, 42, 180, 0, 19, 17, 1, 129, 42, 180, 0, 69, 104, 184, 0, 72, 42, 89]
abbrev dktX3_keeps_2 : List UInt8 := dkwX3_keeps_2 ++ dktX3_keeps_3
def dkwX3_keeps_1 : List UInt8 := [180, 0, 19, 28, 17, 1, 129, 96, 46, 79, 132, 2, 1, 167, 255, 230, 42, 89, 180, 0, 69, 4, 100]
abbrev dktX3_keeps_1 : List UInt8 := dkwX3_keeps_1 ++ dktX3_keeps_2
def dkwX3_keeps_0 : List UInt8 := [42, 180, 0, 69, 16, 8, 160, 0, 44, 3, 61, 28, 17, 10, 135, 162, 0, 25, 42, 180, 0, 19, 28, 42]
abbrev dktX3_keeps_0 : List UInt8 := dkwX3_keeps_0 ++ dktX3_keeps_1
theorem dksX3_keeps_0 : cX3_keeps.data.toList.drop 0 = dktX3_keeps_0 := by decide +kernel
theorem dksX3_keeps_1 : cX3_keeps.data.toList.drop 24 = dktX3_keeps_1 := dk_seg dksX3_keeps_0 24 rfl rfl
theorem dksX3_keeps_2 : cX3_keeps.data.toList.drop 47 = dktX3_keeps_2 := dk_seg dksX3_keeps_1 23 rfl rfl
theorem dksX3_keeps_3 : cX3_keeps.data.toList.drop 69 = dktX3_keeps_3 := dk_seg dksX3_keeps_2 22 rfl rfl
theorem dX3_keeps_0 : decode cX3_keeps 0 = .ok (.aload_n 0, 1) := dk_42 (dk_at dksX3_keeps_0 0 rfl rfl)
theorem dX3_keeps_1 : decode cX3_keeps 1 = .ok (.getfield 69, 3) := dk_180 0 69 (dk_at dksX3_keeps_0 1 rfl rfl)
theorem dX3_keeps_4 : decode cX3_keeps 4 = .ok (.bipush 8, 2) := dk_16 8 (dk_at dksX3_keeps_0 4 rfl rfl)
theorem dX3_keeps_6 : decode cX3_keeps 6 = .ok (.if_icmp .ne 44, 3) := dk_160 0 44 (dk_at dksX3_keeps_0 6 rfl rfl)
theorem dX3_keeps_9 : decode cX3_keeps 9 = .ok (.iconst 0, 1) := dk_3 (dk_at dksX3_keeps_0 9 rfl rfl)
theorem dX3_keeps_10 : decode cX3_keeps 10 = .ok (.istore_n 2, 1) := dk_61 (dk_at dksX3_keeps_0 10 rfl rfl)
theorem dX3_keeps_11 : decode cX3_keeps 11 = .ok (.iload_n 2, 1) := dk_28 (dk_at dksX3_keeps_0 11 rfl rfl)
theorem dX3_keeps_12 : decode cX3_keeps 12 = .ok (.sipush 2695, 3) := dk_17 10 135 (dk_at dksX3_keeps_0 12 rfl rfl)
theorem dX3_keeps_15 : decode cX3_keeps 15 = .ok (.if_icmp .ge 25, 3) := dk_162 0 25 (dk_at dksX3_keeps_0 15 rfl rfl)
theorem dX3_keeps_18 : decode cX3_keeps 18 = .ok (.aload_n 0, 1) := dk_42 (dk_at dksX3_keeps_0 18 rfl rfl)
theorem dX3_keeps_19 : decode cX3_keeps 19 = .ok (.getfield 19, 3) := dk_180 0 19 (dk_at dksX3_keeps_0 19 rfl rfl)
theorem dX3_keeps_22 : decode cX3_keeps 22 = .ok (.iload_n 2, 1) := dk_28 (dk_at dksX3_keeps_0 22 rfl rfl)
theorem dX3_keeps_23 : decode cX3_keeps 23 = .ok (.aload_n 0, 1) := dk_42 (dk_at dksX3_keeps_0 23 rfl rfl)
theorem dX3_keeps_24 : decode cX3_keeps 24 = .ok (.getfield 19, 3) := dk_180 0 19 (dk_at dksX3_keeps_1 0 rfl rfl)
theorem dX3_keeps_27 : decode cX3_keeps 27 = .ok (.iload_n 2, 1) := dk_28 (dk_at dksX3_keeps_1 3 rfl rfl)
theorem dX3_keeps_28 : decode cX3_keeps 28 = .ok (.sipush 385, 3) := dk_17 1 129 (dk_at dksX3_keeps_1 4 rfl rfl)
theorem dX3_keeps_31 : decode cX3_keeps 31 = .ok (.iadd, 1) := dk_96 (dk_at dksX3_keeps_1 7 rfl rfl)
theorem dX3_keeps_32 : decode cX3_keeps 32 = .ok (.iaload, 1) := dk_46 (dk_at dksX3_keeps_1 8 rfl rfl)
theorem dX3_keeps_33 : decode cX3_keeps 33 = .ok (.iastore, 1) := dk_79 (dk_at dksX3_keeps_1 9 rfl rfl)
theorem dX3_keeps_34 : decode cX3_keeps 34 = .ok (.iinc 2 1, 3) := dk_132 2 1 (dk_at dksX3_keeps_1 10 rfl rfl)
theorem dX3_keeps_37 : decode cX3_keeps 37 = .ok (.goto (-26), 3) := dk_167 255 230 (dk_at dksX3_keeps_1 13 rfl rfl)
theorem dX3_keeps_40 : decode cX3_keeps 40 = .ok (.aload_n 0, 1) := dk_42 (dk_at dksX3_keeps_1 16 rfl rfl)
theorem dX3_keeps_41 : decode cX3_keeps 41 = .ok (.dup, 1) := dk_89 (dk_at dksX3_keeps_1 17 rfl rfl)
theorem dX3_keeps_42 : decode cX3_keeps 42 = .ok (.getfield 69, 3) := dk_180 0 69 (dk_at dksX3_keeps_1 18 rfl rfl)
theorem dX3_keeps_45 : decode cX3_keeps 45 = .ok (.iconst 1, 1) := dk_4 (dk_at dksX3_keeps_1 21 rfl rfl)
theorem dX3_keeps_46 : decode cX3_keeps 46 = .ok (.isub, 1) := dk_100 (dk_at dksX3_keeps_1 22 rfl rfl)
theorem dX3_keeps_47 : decode cX3_keeps 47 = .ok (.putfield 69, 3) := dk_181 0 69 (dk_at dksX3_keeps_2 0 rfl rfl)
theorem dX3_keeps_50 : decode cX3_keeps 50 = .ok (.aload_n 1, 1) := dk_43 (dk_at dksX3_keeps_2 3 rfl rfl)
theorem dX3_keeps_51 : decode cX3_keeps 51 = .ok (.iconst 0, 1) := dk_3 (dk_at dksX3_keeps_2 4 rfl rfl)
theorem dX3_keeps_52 : decode cX3_keeps 52 = .ok (.aload_n 0, 1) := dk_42 (dk_at dksX3_keeps_2 5 rfl rfl)
theorem dX3_keeps_53 : decode cX3_keeps 53 = .ok (.getfield 19, 3) := dk_180 0 19 (dk_at dksX3_keeps_2 6 rfl rfl)
theorem dX3_keeps_56 : decode cX3_keeps 56 = .ok (.sipush 385, 3) := dk_17 1 129 (dk_at dksX3_keeps_2 9 rfl rfl)
theorem dX3_keeps_59 : decode cX3_keeps 59 = .ok (.aload_n 0, 1) := dk_42 (dk_at dksX3_keeps_2 12 rfl rfl)
theorem dX3_keeps_60 : decode cX3_keeps 60 = .ok (.getfield 69, 3) := dk_180 0 69 (dk_at dksX3_keeps_2 13 rfl rfl)
theorem dX3_keeps_63 : decode cX3_keeps 63 = .ok (.imul, 1) := dk_104 (dk_at dksX3_keeps_2 16 rfl rfl)
theorem dX3_keeps_64 : decode cX3_keeps 64 = .ok (.invokestatic 72, 3) := dk_184 0 72 (dk_at dksX3_keeps_2 17 rfl rfl)
theorem dX3_keeps_67 : decode cX3_keeps 67 = .ok (.aload_n 0, 1) := dk_42 (dk_at dksX3_keeps_2 20 rfl rfl)
theorem dX3_keeps_68 : decode cX3_keeps 68 = .ok (.dup, 1) := dk_89 (dk_at dksX3_keeps_2 21 rfl rfl)
theorem dX3_keeps_69 : decode cX3_keeps 69 = .ok (.getfield 69, 3) := dk_180 0 69 (dk_at dksX3_keeps_3 0 rfl rfl)
theorem dX3_keeps_72 : decode cX3_keeps 72 = .ok (.iconst 1, 1) := dk_4 (dk_at dksX3_keeps_3 3 rfl rfl)
theorem dX3_keeps_73 : decode cX3_keeps 73 = .ok (.iadd, 1) := dk_96 (dk_at dksX3_keeps_3 4 rfl rfl)
theorem dX3_keeps_74 : decode cX3_keeps 74 = .ok (.putfield 69, 3) := dk_181 0 69 (dk_at dksX3_keeps_3 5 rfl rfl)
theorem dX3_keeps_77 : decode cX3_keeps 77 = .ok (.return_, 1) := dk_177 (dk_at dksX3_keeps_3 8 rfl rfl)
def dkwX3_setTail_1 : List UInt8 := [158, 0, 7, 3, 167, 0, 9, 42, 4, 27, 182, 0, 94, 172]
abbrev dktX3_setTail_1 : List UInt8 := dkwX3_setTail_1 ++ []
def dkwX3_setTail_0 : List UInt8 := [42, 27, 3, 16, 20, 184, 0, 90, 153, 0, 7, 3, 167, 0, 4, 4, 181, 0, 66, 42, 180, 0, 66]
abbrev dktX3_setTail_0 : List UInt8 := dkwX3_setTail_0 ++ dktX3_setTail_1
theorem dksX3_setTail_0 : cX3_setTail.data.toList.drop 0 = dktX3_setTail_0 := by decide +kernel
theorem dksX3_setTail_1 : cX3_setTail.data.toList.drop 23 = dktX3_setTail_1 := dk_seg dksX3_setTail_0 23 rfl rfl
theorem dX3_setTail_0 : decode cX3_setTail 0 = .ok (.aload_n 0, 1) := dk_42 (dk_at dksX3_setTail_0 0 rfl rfl)
theorem dX3_setTail_1 : decode cX3_setTail 1 = .ok (.iload_n 1, 1) := dk_27 (dk_at dksX3_setTail_0 1 rfl rfl)
theorem dX3_setTail_2 : decode cX3_setTail 2 = .ok (.iconst 0, 1) := dk_3 (dk_at dksX3_setTail_0 2 rfl rfl)
theorem dX3_setTail_3 : decode cX3_setTail 3 = .ok (.bipush 20, 2) := dk_16 20 (dk_at dksX3_setTail_0 3 rfl rfl)
theorem dX3_setTail_5 : decode cX3_setTail 5 = .ok (.invokestatic 90, 3) := dk_184 0 90 (dk_at dksX3_setTail_0 5 rfl rfl)
theorem dX3_setTail_8 : decode cX3_setTail 8 = .ok (.ifCond .eq 7, 3) := dk_153 0 7 (dk_at dksX3_setTail_0 8 rfl rfl)
theorem dX3_setTail_11 : decode cX3_setTail 11 = .ok (.iconst 0, 1) := dk_3 (dk_at dksX3_setTail_0 11 rfl rfl)
theorem dX3_setTail_12 : decode cX3_setTail 12 = .ok (.goto 4, 3) := dk_167 0 4 (dk_at dksX3_setTail_0 12 rfl rfl)
theorem dX3_setTail_15 : decode cX3_setTail 15 = .ok (.iconst 1, 1) := dk_4 (dk_at dksX3_setTail_0 15 rfl rfl)
theorem dX3_setTail_16 : decode cX3_setTail 16 = .ok (.putfield 66, 3) := dk_181 0 66 (dk_at dksX3_setTail_0 16 rfl rfl)
theorem dX3_setTail_19 : decode cX3_setTail 19 = .ok (.aload_n 0, 1) := dk_42 (dk_at dksX3_setTail_0 19 rfl rfl)
theorem dX3_setTail_20 : decode cX3_setTail 20 = .ok (.getfield 66, 3) := dk_180 0 66 (dk_at dksX3_setTail_0 20 rfl rfl)
theorem dX3_setTail_23 : decode cX3_setTail 23 = .ok (.ifCond .le 7, 3) := dk_158 0 7 (dk_at dksX3_setTail_1 0 rfl rfl)
theorem dX3_setTail_26 : decode cX3_setTail 26 = .ok (.iconst 0, 1) := dk_3 (dk_at dksX3_setTail_1 3 rfl rfl)
theorem dX3_setTail_27 : decode cX3_setTail 27 = .ok (.goto 9, 3) := dk_167 0 9 (dk_at dksX3_setTail_1 4 rfl rfl)
theorem dX3_setTail_30 : decode cX3_setTail 30 = .ok (.aload_n 0, 1) := dk_42 (dk_at dksX3_setTail_1 7 rfl rfl)
theorem dX3_setTail_31 : decode cX3_setTail 31 = .ok (.iconst 1, 1) := dk_4 (dk_at dksX3_setTail_1 8 rfl rfl)
theorem dX3_setTail_32 : decode cX3_setTail 32 = .ok (.iload_n 1, 1) := dk_27 (dk_at dksX3_setTail_1 9 rfl rfl)
theorem dX3_setTail_33 : decode cX3_setTail 33 = .ok (.invokevirtual 94, 3) := dk_182 0 94 (dk_at dksX3_setTail_1 10 rfl rfl)
theorem dX3_setTail_36 : decode cX3_setTail 36 = .ok (.ireturn, 1) := dk_172 (dk_at dksX3_setTail_1 13 rfl rfl)
def dkwX3_addTray_7 : List UInt8 := [92, 46, 4, 96, 79, 42, 180, 0, 7, 16, 40, 46, 4, 100, 172]
abbrev dktX3_addTray_7 : List UInt8 := dkwX3_addTray_7 ++ []
def dkwX3_addTray_6 : List UInt8 := [21, 6, 6, 96, 21, 4, 79, 42, 180, 0, 7, 21, 6, 7, 96, 21, 5, 79, 42, 180, 0, 7, 16, 40]
abbrev dktX3_addTray_6 : List UInt8 := dkwX3_addTray_6 ++ dktX3_addTray_7
def dkwX3_addTray_5 : List UInt8 := [180, 0, 7, 21, 6, 4, 96, 28, 79, 42, 180, 0, 7, 21, 6, 5, 96, 29, 79, 42, 180, 0, 7]
abbrev dktX3_addTray_5 : List UInt8 := dkwX3_addTray_5 ++ dktX3_addTray_6
def dkwX3_addTray_4 : List UInt8 := [16, 41, 8, 42, 180, 0, 7, 16, 40, 46, 104, 96, 54, 6, 42, 180, 0, 7, 21, 6, 27, 79, 42]
abbrev dktX3_addTray_4 : List UInt8 := dkwX3_addTray_4 ++ dktX3_addTray_5
def dkwX3_addTray_3 : List UInt8 := [160, 0, 7, 6, 167, 0, 4, 3, 181, 0, 66, 42, 180, 0, 66, 158, 0, 5, 3, 172, 42, 182, 0, 87]
abbrev dktX3_addTray_3 : List UInt8 := dkwX3_addTray_3 ++ dktX3_addTray_4
def dkwX3_addTray_2 : List UInt8 := [21, 5, 4, 6, 184, 0, 90, 154, 0, 7, 5, 167, 0, 20, 42, 180, 0, 7, 16, 40, 46, 16, 12]
abbrev dktX3_addTray_2 : List UInt8 := dkwX3_addTray_2 ++ dktX3_addTray_3
def dkwX3_addTray_1 : List UInt8 := [29, 4, 16, 99, 184, 0, 90, 153, 0, 26, 21, 4, 16, 10, 17, 3, 231, 184, 0, 90, 153, 0, 13]
abbrev dktX3_addTray_1 : List UInt8 := dkwX3_addTray_1 ++ dktX3_addTray_2
def dkwX3_addTray_0 : List UInt8 := [42, 27, 184, 0, 101, 153, 0, 10, 28, 184, 0, 101, 154, 0, 7, 4, 167, 0, 62, 27, 28, 159, 0, 36]
abbrev dktX3_addTray_0 : List UInt8 := dkwX3_addTray_0 ++ dktX3_addTray_1
theorem dksX3_addTray_0 : cX3_addTray.data.toList.drop 0 = dktX3_addTray_0 := by decide +kernel
theorem dksX3_addTray_1 : cX3_addTray.data.toList.drop 24 = dktX3_addTray_1 := dk_seg dksX3_addTray_0 24 rfl rfl
theorem dksX3_addTray_2 : cX3_addTray.data.toList.drop 47 = dktX3_addTray_2 := dk_seg dksX3_addTray_1 23 rfl rfl
theorem dksX3_addTray_3 : cX3_addTray.data.toList.drop 70 = dktX3_addTray_3 := dk_seg dksX3_addTray_2 23 rfl rfl
theorem dksX3_addTray_4 : cX3_addTray.data.toList.drop 94 = dktX3_addTray_4 := dk_seg dksX3_addTray_3 24 rfl rfl
theorem dksX3_addTray_5 : cX3_addTray.data.toList.drop 117 = dktX3_addTray_5 := dk_seg dksX3_addTray_4 23 rfl rfl
theorem dksX3_addTray_6 : cX3_addTray.data.toList.drop 140 = dktX3_addTray_6 := dk_seg dksX3_addTray_5 23 rfl rfl
theorem dksX3_addTray_7 : cX3_addTray.data.toList.drop 164 = dktX3_addTray_7 := dk_seg dksX3_addTray_6 24 rfl rfl
theorem dX3_addTray_0 : decode cX3_addTray 0 = .ok (.aload_n 0, 1) := dk_42 (dk_at dksX3_addTray_0 0 rfl rfl)
theorem dX3_addTray_1 : decode cX3_addTray 1 = .ok (.iload_n 1, 1) := dk_27 (dk_at dksX3_addTray_0 1 rfl rfl)
theorem dX3_addTray_2 : decode cX3_addTray 2 = .ok (.invokestatic 101, 3) := dk_184 0 101 (dk_at dksX3_addTray_0 2 rfl rfl)
theorem dX3_addTray_5 : decode cX3_addTray 5 = .ok (.ifCond .eq 10, 3) := dk_153 0 10 (dk_at dksX3_addTray_0 5 rfl rfl)
theorem dX3_addTray_8 : decode cX3_addTray 8 = .ok (.iload_n 2, 1) := dk_28 (dk_at dksX3_addTray_0 8 rfl rfl)
theorem dX3_addTray_9 : decode cX3_addTray 9 = .ok (.invokestatic 101, 3) := dk_184 0 101 (dk_at dksX3_addTray_0 9 rfl rfl)
theorem dX3_addTray_12 : decode cX3_addTray 12 = .ok (.ifCond .ne 7, 3) := dk_154 0 7 (dk_at dksX3_addTray_0 12 rfl rfl)
theorem dX3_addTray_15 : decode cX3_addTray 15 = .ok (.iconst 1, 1) := dk_4 (dk_at dksX3_addTray_0 15 rfl rfl)
theorem dX3_addTray_16 : decode cX3_addTray 16 = .ok (.goto 62, 3) := dk_167 0 62 (dk_at dksX3_addTray_0 16 rfl rfl)
theorem dX3_addTray_19 : decode cX3_addTray 19 = .ok (.iload_n 1, 1) := dk_27 (dk_at dksX3_addTray_0 19 rfl rfl)
theorem dX3_addTray_20 : decode cX3_addTray 20 = .ok (.iload_n 2, 1) := dk_28 (dk_at dksX3_addTray_0 20 rfl rfl)
theorem dX3_addTray_21 : decode cX3_addTray 21 = .ok (.if_icmp .eq 36, 3) := dk_159 0 36 (dk_at dksX3_addTray_0 21 rfl rfl)
theorem dX3_addTray_24 : decode cX3_addTray 24 = .ok (.iload_n 3, 1) := dk_29 (dk_at dksX3_addTray_1 0 rfl rfl)
theorem dX3_addTray_25 : decode cX3_addTray 25 = .ok (.iconst 1, 1) := dk_4 (dk_at dksX3_addTray_1 1 rfl rfl)
theorem dX3_addTray_26 : decode cX3_addTray 26 = .ok (.bipush 99, 2) := dk_16 99 (dk_at dksX3_addTray_1 2 rfl rfl)
theorem dX3_addTray_28 : decode cX3_addTray 28 = .ok (.invokestatic 90, 3) := dk_184 0 90 (dk_at dksX3_addTray_1 4 rfl rfl)
theorem dX3_addTray_31 : decode cX3_addTray 31 = .ok (.ifCond .eq 26, 3) := dk_153 0 26 (dk_at dksX3_addTray_1 7 rfl rfl)
theorem dX3_addTray_34 : decode cX3_addTray 34 = .ok (.iload 4, 2) := dk_21 4 (dk_at dksX3_addTray_1 10 rfl rfl)
theorem dX3_addTray_36 : decode cX3_addTray 36 = .ok (.bipush 10, 2) := dk_16 10 (dk_at dksX3_addTray_1 12 rfl rfl)
theorem dX3_addTray_38 : decode cX3_addTray 38 = .ok (.sipush 999, 3) := dk_17 3 231 (dk_at dksX3_addTray_1 14 rfl rfl)
theorem dX3_addTray_41 : decode cX3_addTray 41 = .ok (.invokestatic 90, 3) := dk_184 0 90 (dk_at dksX3_addTray_1 17 rfl rfl)
theorem dX3_addTray_44 : decode cX3_addTray 44 = .ok (.ifCond .eq 13, 3) := dk_153 0 13 (dk_at dksX3_addTray_1 20 rfl rfl)
theorem dX3_addTray_47 : decode cX3_addTray 47 = .ok (.iload 5, 2) := dk_21 5 (dk_at dksX3_addTray_2 0 rfl rfl)
theorem dX3_addTray_49 : decode cX3_addTray 49 = .ok (.iconst 1, 1) := dk_4 (dk_at dksX3_addTray_2 2 rfl rfl)
theorem dX3_addTray_50 : decode cX3_addTray 50 = .ok (.iconst 3, 1) := dk_6 (dk_at dksX3_addTray_2 3 rfl rfl)
theorem dX3_addTray_51 : decode cX3_addTray 51 = .ok (.invokestatic 90, 3) := dk_184 0 90 (dk_at dksX3_addTray_2 4 rfl rfl)
theorem dX3_addTray_54 : decode cX3_addTray 54 = .ok (.ifCond .ne 7, 3) := dk_154 0 7 (dk_at dksX3_addTray_2 7 rfl rfl)
theorem dX3_addTray_57 : decode cX3_addTray 57 = .ok (.iconst 2, 1) := dk_5 (dk_at dksX3_addTray_2 10 rfl rfl)
theorem dX3_addTray_58 : decode cX3_addTray 58 = .ok (.goto 20, 3) := dk_167 0 20 (dk_at dksX3_addTray_2 11 rfl rfl)
theorem dX3_addTray_61 : decode cX3_addTray 61 = .ok (.aload_n 0, 1) := dk_42 (dk_at dksX3_addTray_2 14 rfl rfl)
theorem dX3_addTray_62 : decode cX3_addTray 62 = .ok (.getfield 7, 3) := dk_180 0 7 (dk_at dksX3_addTray_2 15 rfl rfl)
theorem dX3_addTray_65 : decode cX3_addTray 65 = .ok (.bipush 40, 2) := dk_16 40 (dk_at dksX3_addTray_2 18 rfl rfl)
theorem dX3_addTray_67 : decode cX3_addTray 67 = .ok (.iaload, 1) := dk_46 (dk_at dksX3_addTray_2 20 rfl rfl)
theorem dX3_addTray_68 : decode cX3_addTray 68 = .ok (.bipush 12, 2) := dk_16 12 (dk_at dksX3_addTray_2 21 rfl rfl)
theorem dX3_addTray_70 : decode cX3_addTray 70 = .ok (.if_icmp .ne 7, 3) := dk_160 0 7 (dk_at dksX3_addTray_3 0 rfl rfl)
theorem dX3_addTray_73 : decode cX3_addTray 73 = .ok (.iconst 3, 1) := dk_6 (dk_at dksX3_addTray_3 3 rfl rfl)
theorem dX3_addTray_74 : decode cX3_addTray 74 = .ok (.goto 4, 3) := dk_167 0 4 (dk_at dksX3_addTray_3 4 rfl rfl)
theorem dX3_addTray_77 : decode cX3_addTray 77 = .ok (.iconst 0, 1) := dk_3 (dk_at dksX3_addTray_3 7 rfl rfl)
theorem dX3_addTray_78 : decode cX3_addTray 78 = .ok (.putfield 66, 3) := dk_181 0 66 (dk_at dksX3_addTray_3 8 rfl rfl)
theorem dX3_addTray_81 : decode cX3_addTray 81 = .ok (.aload_n 0, 1) := dk_42 (dk_at dksX3_addTray_3 11 rfl rfl)
theorem dX3_addTray_82 : decode cX3_addTray 82 = .ok (.getfield 66, 3) := dk_180 0 66 (dk_at dksX3_addTray_3 12 rfl rfl)
theorem dX3_addTray_85 : decode cX3_addTray 85 = .ok (.ifCond .le 5, 3) := dk_158 0 5 (dk_at dksX3_addTray_3 15 rfl rfl)
theorem dX3_addTray_88 : decode cX3_addTray 88 = .ok (.iconst 0, 1) := dk_3 (dk_at dksX3_addTray_3 18 rfl rfl)
theorem dX3_addTray_89 : decode cX3_addTray 89 = .ok (.ireturn, 1) := dk_172 (dk_at dksX3_addTray_3 19 rfl rfl)
theorem dX3_addTray_90 : decode cX3_addTray 90 = .ok (.aload_n 0, 1) := dk_42 (dk_at dksX3_addTray_3 20 rfl rfl)
theorem dX3_addTray_91 : decode cX3_addTray 91 = .ok (.invokevirtual 87, 3) := dk_182 0 87 (dk_at dksX3_addTray_3 21 rfl rfl)
theorem dX3_addTray_94 : decode cX3_addTray 94 = .ok (.bipush 41, 2) := dk_16 41 (dk_at dksX3_addTray_4 0 rfl rfl)
theorem dX3_addTray_96 : decode cX3_addTray 96 = .ok (.iconst 5, 1) := dk_8 (dk_at dksX3_addTray_4 2 rfl rfl)
theorem dX3_addTray_97 : decode cX3_addTray 97 = .ok (.aload_n 0, 1) := dk_42 (dk_at dksX3_addTray_4 3 rfl rfl)
theorem dX3_addTray_98 : decode cX3_addTray 98 = .ok (.getfield 7, 3) := dk_180 0 7 (dk_at dksX3_addTray_4 4 rfl rfl)
theorem dX3_addTray_101 : decode cX3_addTray 101 = .ok (.bipush 40, 2) := dk_16 40 (dk_at dksX3_addTray_4 7 rfl rfl)
theorem dX3_addTray_103 : decode cX3_addTray 103 = .ok (.iaload, 1) := dk_46 (dk_at dksX3_addTray_4 9 rfl rfl)
theorem dX3_addTray_104 : decode cX3_addTray 104 = .ok (.imul, 1) := dk_104 (dk_at dksX3_addTray_4 10 rfl rfl)
theorem dX3_addTray_105 : decode cX3_addTray 105 = .ok (.iadd, 1) := dk_96 (dk_at dksX3_addTray_4 11 rfl rfl)
theorem dX3_addTray_106 : decode cX3_addTray 106 = .ok (.istore 6, 2) := dk_54 6 (dk_at dksX3_addTray_4 12 rfl rfl)
theorem dX3_addTray_108 : decode cX3_addTray 108 = .ok (.aload_n 0, 1) := dk_42 (dk_at dksX3_addTray_4 14 rfl rfl)
theorem dX3_addTray_109 : decode cX3_addTray 109 = .ok (.getfield 7, 3) := dk_180 0 7 (dk_at dksX3_addTray_4 15 rfl rfl)
theorem dX3_addTray_112 : decode cX3_addTray 112 = .ok (.iload 6, 2) := dk_21 6 (dk_at dksX3_addTray_4 18 rfl rfl)
theorem dX3_addTray_114 : decode cX3_addTray 114 = .ok (.iload_n 1, 1) := dk_27 (dk_at dksX3_addTray_4 20 rfl rfl)
theorem dX3_addTray_115 : decode cX3_addTray 115 = .ok (.iastore, 1) := dk_79 (dk_at dksX3_addTray_4 21 rfl rfl)
theorem dX3_addTray_116 : decode cX3_addTray 116 = .ok (.aload_n 0, 1) := dk_42 (dk_at dksX3_addTray_4 22 rfl rfl)
theorem dX3_addTray_117 : decode cX3_addTray 117 = .ok (.getfield 7, 3) := dk_180 0 7 (dk_at dksX3_addTray_5 0 rfl rfl)
theorem dX3_addTray_120 : decode cX3_addTray 120 = .ok (.iload 6, 2) := dk_21 6 (dk_at dksX3_addTray_5 3 rfl rfl)
theorem dX3_addTray_122 : decode cX3_addTray 122 = .ok (.iconst 1, 1) := dk_4 (dk_at dksX3_addTray_5 5 rfl rfl)
theorem dX3_addTray_123 : decode cX3_addTray 123 = .ok (.iadd, 1) := dk_96 (dk_at dksX3_addTray_5 6 rfl rfl)
theorem dX3_addTray_124 : decode cX3_addTray 124 = .ok (.iload_n 2, 1) := dk_28 (dk_at dksX3_addTray_5 7 rfl rfl)
theorem dX3_addTray_125 : decode cX3_addTray 125 = .ok (.iastore, 1) := dk_79 (dk_at dksX3_addTray_5 8 rfl rfl)
theorem dX3_addTray_126 : decode cX3_addTray 126 = .ok (.aload_n 0, 1) := dk_42 (dk_at dksX3_addTray_5 9 rfl rfl)
theorem dX3_addTray_127 : decode cX3_addTray 127 = .ok (.getfield 7, 3) := dk_180 0 7 (dk_at dksX3_addTray_5 10 rfl rfl)
theorem dX3_addTray_130 : decode cX3_addTray 130 = .ok (.iload 6, 2) := dk_21 6 (dk_at dksX3_addTray_5 13 rfl rfl)
theorem dX3_addTray_132 : decode cX3_addTray 132 = .ok (.iconst 2, 1) := dk_5 (dk_at dksX3_addTray_5 15 rfl rfl)
theorem dX3_addTray_133 : decode cX3_addTray 133 = .ok (.iadd, 1) := dk_96 (dk_at dksX3_addTray_5 16 rfl rfl)
theorem dX3_addTray_134 : decode cX3_addTray 134 = .ok (.iload_n 3, 1) := dk_29 (dk_at dksX3_addTray_5 17 rfl rfl)
theorem dX3_addTray_135 : decode cX3_addTray 135 = .ok (.iastore, 1) := dk_79 (dk_at dksX3_addTray_5 18 rfl rfl)
theorem dX3_addTray_136 : decode cX3_addTray 136 = .ok (.aload_n 0, 1) := dk_42 (dk_at dksX3_addTray_5 19 rfl rfl)
theorem dX3_addTray_137 : decode cX3_addTray 137 = .ok (.getfield 7, 3) := dk_180 0 7 (dk_at dksX3_addTray_5 20 rfl rfl)
theorem dX3_addTray_140 : decode cX3_addTray 140 = .ok (.iload 6, 2) := dk_21 6 (dk_at dksX3_addTray_6 0 rfl rfl)
theorem dX3_addTray_142 : decode cX3_addTray 142 = .ok (.iconst 3, 1) := dk_6 (dk_at dksX3_addTray_6 2 rfl rfl)
theorem dX3_addTray_143 : decode cX3_addTray 143 = .ok (.iadd, 1) := dk_96 (dk_at dksX3_addTray_6 3 rfl rfl)
theorem dX3_addTray_144 : decode cX3_addTray 144 = .ok (.iload 4, 2) := dk_21 4 (dk_at dksX3_addTray_6 4 rfl rfl)
theorem dX3_addTray_146 : decode cX3_addTray 146 = .ok (.iastore, 1) := dk_79 (dk_at dksX3_addTray_6 6 rfl rfl)
theorem dX3_addTray_147 : decode cX3_addTray 147 = .ok (.aload_n 0, 1) := dk_42 (dk_at dksX3_addTray_6 7 rfl rfl)
theorem dX3_addTray_148 : decode cX3_addTray 148 = .ok (.getfield 7, 3) := dk_180 0 7 (dk_at dksX3_addTray_6 8 rfl rfl)
theorem dX3_addTray_151 : decode cX3_addTray 151 = .ok (.iload 6, 2) := dk_21 6 (dk_at dksX3_addTray_6 11 rfl rfl)
theorem dX3_addTray_153 : decode cX3_addTray 153 = .ok (.iconst 4, 1) := dk_7 (dk_at dksX3_addTray_6 13 rfl rfl)
theorem dX3_addTray_154 : decode cX3_addTray 154 = .ok (.iadd, 1) := dk_96 (dk_at dksX3_addTray_6 14 rfl rfl)
theorem dX3_addTray_155 : decode cX3_addTray 155 = .ok (.iload 5, 2) := dk_21 5 (dk_at dksX3_addTray_6 15 rfl rfl)
theorem dX3_addTray_157 : decode cX3_addTray 157 = .ok (.iastore, 1) := dk_79 (dk_at dksX3_addTray_6 17 rfl rfl)
theorem dX3_addTray_158 : decode cX3_addTray 158 = .ok (.aload_n 0, 1) := dk_42 (dk_at dksX3_addTray_6 18 rfl rfl)
theorem dX3_addTray_159 : decode cX3_addTray 159 = .ok (.getfield 7, 3) := dk_180 0 7 (dk_at dksX3_addTray_6 19 rfl rfl)
theorem dX3_addTray_162 : decode cX3_addTray 162 = .ok (.bipush 40, 2) := dk_16 40 (dk_at dksX3_addTray_6 22 rfl rfl)
theorem dX3_addTray_164 : decode cX3_addTray 164 = .ok (.dup2, 1) := dk_92 (dk_at dksX3_addTray_7 0 rfl rfl)
theorem dX3_addTray_165 : decode cX3_addTray 165 = .ok (.iaload, 1) := dk_46 (dk_at dksX3_addTray_7 1 rfl rfl)
theorem dX3_addTray_166 : decode cX3_addTray 166 = .ok (.iconst 1, 1) := dk_4 (dk_at dksX3_addTray_7 2 rfl rfl)
theorem dX3_addTray_167 : decode cX3_addTray 167 = .ok (.iadd, 1) := dk_96 (dk_at dksX3_addTray_7 3 rfl rfl)
theorem dX3_addTray_168 : decode cX3_addTray 168 = .ok (.iastore, 1) := dk_79 (dk_at dksX3_addTray_7 4 rfl rfl)
theorem dX3_addTray_169 : decode cX3_addTray 169 = .ok (.aload_n 0, 1) := dk_42 (dk_at dksX3_addTray_7 5 rfl rfl)
theorem dX3_addTray_170 : decode cX3_addTray 170 = .ok (.getfield 7, 3) := dk_180 0 7 (dk_at dksX3_addTray_7 6 rfl rfl)
theorem dX3_addTray_173 : decode cX3_addTray 173 = .ok (.bipush 40, 2) := dk_16 40 (dk_at dksX3_addTray_7 9 rfl rfl)
theorem dX3_addTray_175 : decode cX3_addTray 175 = .ok (.iaload, 1) := dk_46 (dk_at dksX3_addTray_7 11 rfl rfl)
theorem dX3_addTray_176 : decode cX3_addTray 176 = .ok (.iconst 1, 1) := dk_4 (dk_at dksX3_addTray_7 12 rfl rfl)
theorem dX3_addTray_177 : decode cX3_addTray 177 = .ok (.isub, 1) := dk_100 (dk_at dksX3_addTray_7 13 rfl rfl)
theorem dX3_addTray_178 : decode cX3_addTray 178 = .ok (.ireturn, 1) := dk_172 (dk_at dksX3_addTray_7 14 rfl rfl)
def dkwX3_isPlace_0 : List UInt8 := [26, 3, 16, 7, 184, 0, 90, 172]
abbrev dktX3_isPlace_0 : List UInt8 := dkwX3_isPlace_0 ++ []
theorem dksX3_isPlace_0 : cX3_isPlace.data.toList.drop 0 = dktX3_isPlace_0 := by decide +kernel
theorem dX3_isPlace_0 : decode cX3_isPlace 0 = .ok (.iload_n 0, 1) := dk_26 (dk_at dksX3_isPlace_0 0 rfl rfl)
theorem dX3_isPlace_1 : decode cX3_isPlace 1 = .ok (.iconst 0, 1) := dk_3 (dk_at dksX3_isPlace_0 1 rfl rfl)
theorem dX3_isPlace_2 : decode cX3_isPlace 2 = .ok (.bipush 7, 2) := dk_16 7 (dk_at dksX3_isPlace_0 2 rfl rfl)
theorem dX3_isPlace_4 : decode cX3_isPlace 4 = .ok (.invokestatic 90, 3) := dk_184 0 90 (dk_at dksX3_isPlace_0 4 rfl rfl)
theorem dX3_isPlace_7 : decode cX3_isPlace 7 = .ok (.ireturn, 1) := dk_172 (dk_at dksX3_isPlace_0 7 rfl rfl)
def dkwX3_dropTray_7 : List UInt8 := [132, 2, 1, 167, 255, 190, 42, 180, 0, 7, 16, 40, 46, 172]
abbrev dktX3_dropTray_7 : List UInt8 := dkwX3_dropTray_7 ++ []
def dkwX3_dropTray_6 : List UInt8 := [29, 96, 182, 0, 105, 27, 164, 0, 7, 4, 167, 0, 4, 3, 100, 79, 132, 3, 1, 167, 255, 209]
abbrev dktX3_dropTray_6 : List UInt8 := dkwX3_dropTray_6 ++ dktX3_dropTray_7
def dkwX3_dropTray_5 : List UInt8 := [182, 0, 105, 162, 0, 43, 42, 180, 0, 7, 28, 16, 7, 29, 96, 184, 0, 98, 92, 46, 42, 28, 16, 7]
abbrev dktX3_dropTray_5 : List UInt8 := dkwX3_dropTray_5 ++ dktX3_dropTray_6
def dkwX3_dropTray_4 : List UInt8 := [167, 255, 223, 3, 61, 28, 42, 180, 0, 7, 16, 101, 46, 162, 0, 61, 3, 62, 29, 42, 28, 7]
abbrev dktX3_dropTray_4 : List UInt8 := dkwX3_dropTray_4 ++ dktX3_dropTray_5
def dkwX3_dropTray_3 : List UInt8 := [46, 104, 96, 162, 0, 23, 42, 180, 0, 7, 28, 42, 180, 0, 7, 28, 8, 96, 46, 79, 132, 2, 1]
abbrev dktX3_dropTray_3 : List UInt8 := dkwX3_dropTray_3 ++ dktX3_dropTray_4
def dkwX3_dropTray_2 : List UInt8 := [16, 40, 92, 46, 4, 100, 79, 16, 41, 8, 27, 104, 96, 61, 28, 16, 41, 8, 42, 180, 0, 7, 16, 40]
abbrev dktX3_dropTray_2 : List UInt8 := dkwX3_dropTray_2 ++ dktX3_dropTray_3
def dkwX3_dropTray_1 : List UInt8 := [167, 0, 4, 3, 181, 0, 66, 42, 180, 0, 66, 158, 0, 5, 3, 172, 42, 182, 0, 87, 42, 180, 0, 7]
abbrev dktX3_dropTray_1 : List UInt8 := dkwX3_dropTray_1 ++ dktX3_dropTray_2
def dkwX3_dropTray_0 : List UInt8 := [42, 42, 27, 182, 0, 111, 154, 0, 7, 4, 167, 0, 16, 42, 27, 182, 0, 114, 153, 0, 7, 5]
abbrev dktX3_dropTray_0 : List UInt8 := dkwX3_dropTray_0 ++ dktX3_dropTray_1
theorem dksX3_dropTray_0 : cX3_dropTray.data.toList.drop 0 = dktX3_dropTray_0 := by decide +kernel
theorem dksX3_dropTray_1 : cX3_dropTray.data.toList.drop 22 = dktX3_dropTray_1 := dk_seg dksX3_dropTray_0 22 rfl rfl
theorem dksX3_dropTray_2 : cX3_dropTray.data.toList.drop 46 = dktX3_dropTray_2 := dk_seg dksX3_dropTray_1 24 rfl rfl
theorem dksX3_dropTray_3 : cX3_dropTray.data.toList.drop 70 = dktX3_dropTray_3 := dk_seg dksX3_dropTray_2 24 rfl rfl
theorem dksX3_dropTray_4 : cX3_dropTray.data.toList.drop 93 = dktX3_dropTray_4 := dk_seg dksX3_dropTray_3 23 rfl rfl
theorem dksX3_dropTray_5 : cX3_dropTray.data.toList.drop 115 = dktX3_dropTray_5 := dk_seg dksX3_dropTray_4 22 rfl rfl
theorem dksX3_dropTray_6 : cX3_dropTray.data.toList.drop 139 = dktX3_dropTray_6 := dk_seg dksX3_dropTray_5 24 rfl rfl
theorem dksX3_dropTray_7 : cX3_dropTray.data.toList.drop 161 = dktX3_dropTray_7 := dk_seg dksX3_dropTray_6 22 rfl rfl
theorem dX3_dropTray_0 : decode cX3_dropTray 0 = .ok (.aload_n 0, 1) := dk_42 (dk_at dksX3_dropTray_0 0 rfl rfl)
theorem dX3_dropTray_1 : decode cX3_dropTray 1 = .ok (.aload_n 0, 1) := dk_42 (dk_at dksX3_dropTray_0 1 rfl rfl)
theorem dX3_dropTray_2 : decode cX3_dropTray 2 = .ok (.iload_n 1, 1) := dk_27 (dk_at dksX3_dropTray_0 2 rfl rfl)
theorem dX3_dropTray_3 : decode cX3_dropTray 3 = .ok (.invokevirtual 111, 3) := dk_182 0 111 (dk_at dksX3_dropTray_0 3 rfl rfl)
theorem dX3_dropTray_6 : decode cX3_dropTray 6 = .ok (.ifCond .ne 7, 3) := dk_154 0 7 (dk_at dksX3_dropTray_0 6 rfl rfl)
theorem dX3_dropTray_9 : decode cX3_dropTray 9 = .ok (.iconst 1, 1) := dk_4 (dk_at dksX3_dropTray_0 9 rfl rfl)
theorem dX3_dropTray_10 : decode cX3_dropTray 10 = .ok (.goto 16, 3) := dk_167 0 16 (dk_at dksX3_dropTray_0 10 rfl rfl)
theorem dX3_dropTray_13 : decode cX3_dropTray 13 = .ok (.aload_n 0, 1) := dk_42 (dk_at dksX3_dropTray_0 13 rfl rfl)
theorem dX3_dropTray_14 : decode cX3_dropTray 14 = .ok (.iload_n 1, 1) := dk_27 (dk_at dksX3_dropTray_0 14 rfl rfl)
theorem dX3_dropTray_15 : decode cX3_dropTray 15 = .ok (.invokevirtual 114, 3) := dk_182 0 114 (dk_at dksX3_dropTray_0 15 rfl rfl)
theorem dX3_dropTray_18 : decode cX3_dropTray 18 = .ok (.ifCond .eq 7, 3) := dk_153 0 7 (dk_at dksX3_dropTray_0 18 rfl rfl)
theorem dX3_dropTray_21 : decode cX3_dropTray 21 = .ok (.iconst 2, 1) := dk_5 (dk_at dksX3_dropTray_0 21 rfl rfl)
theorem dX3_dropTray_22 : decode cX3_dropTray 22 = .ok (.goto 4, 3) := dk_167 0 4 (dk_at dksX3_dropTray_1 0 rfl rfl)
theorem dX3_dropTray_25 : decode cX3_dropTray 25 = .ok (.iconst 0, 1) := dk_3 (dk_at dksX3_dropTray_1 3 rfl rfl)
theorem dX3_dropTray_26 : decode cX3_dropTray 26 = .ok (.putfield 66, 3) := dk_181 0 66 (dk_at dksX3_dropTray_1 4 rfl rfl)
theorem dX3_dropTray_29 : decode cX3_dropTray 29 = .ok (.aload_n 0, 1) := dk_42 (dk_at dksX3_dropTray_1 7 rfl rfl)
theorem dX3_dropTray_30 : decode cX3_dropTray 30 = .ok (.getfield 66, 3) := dk_180 0 66 (dk_at dksX3_dropTray_1 8 rfl rfl)
theorem dX3_dropTray_33 : decode cX3_dropTray 33 = .ok (.ifCond .le 5, 3) := dk_158 0 5 (dk_at dksX3_dropTray_1 11 rfl rfl)
theorem dX3_dropTray_36 : decode cX3_dropTray 36 = .ok (.iconst 0, 1) := dk_3 (dk_at dksX3_dropTray_1 14 rfl rfl)
theorem dX3_dropTray_37 : decode cX3_dropTray 37 = .ok (.ireturn, 1) := dk_172 (dk_at dksX3_dropTray_1 15 rfl rfl)
theorem dX3_dropTray_38 : decode cX3_dropTray 38 = .ok (.aload_n 0, 1) := dk_42 (dk_at dksX3_dropTray_1 16 rfl rfl)
theorem dX3_dropTray_39 : decode cX3_dropTray 39 = .ok (.invokevirtual 87, 3) := dk_182 0 87 (dk_at dksX3_dropTray_1 17 rfl rfl)
theorem dX3_dropTray_42 : decode cX3_dropTray 42 = .ok (.aload_n 0, 1) := dk_42 (dk_at dksX3_dropTray_1 20 rfl rfl)
theorem dX3_dropTray_43 : decode cX3_dropTray 43 = .ok (.getfield 7, 3) := dk_180 0 7 (dk_at dksX3_dropTray_1 21 rfl rfl)
theorem dX3_dropTray_46 : decode cX3_dropTray 46 = .ok (.bipush 40, 2) := dk_16 40 (dk_at dksX3_dropTray_2 0 rfl rfl)
theorem dX3_dropTray_48 : decode cX3_dropTray 48 = .ok (.dup2, 1) := dk_92 (dk_at dksX3_dropTray_2 2 rfl rfl)
theorem dX3_dropTray_49 : decode cX3_dropTray 49 = .ok (.iaload, 1) := dk_46 (dk_at dksX3_dropTray_2 3 rfl rfl)
theorem dX3_dropTray_50 : decode cX3_dropTray 50 = .ok (.iconst 1, 1) := dk_4 (dk_at dksX3_dropTray_2 4 rfl rfl)
theorem dX3_dropTray_51 : decode cX3_dropTray 51 = .ok (.isub, 1) := dk_100 (dk_at dksX3_dropTray_2 5 rfl rfl)
theorem dX3_dropTray_52 : decode cX3_dropTray 52 = .ok (.iastore, 1) := dk_79 (dk_at dksX3_dropTray_2 6 rfl rfl)
theorem dX3_dropTray_53 : decode cX3_dropTray 53 = .ok (.bipush 41, 2) := dk_16 41 (dk_at dksX3_dropTray_2 7 rfl rfl)
theorem dX3_dropTray_55 : decode cX3_dropTray 55 = .ok (.iconst 5, 1) := dk_8 (dk_at dksX3_dropTray_2 9 rfl rfl)
theorem dX3_dropTray_56 : decode cX3_dropTray 56 = .ok (.iload_n 1, 1) := dk_27 (dk_at dksX3_dropTray_2 10 rfl rfl)
theorem dX3_dropTray_57 : decode cX3_dropTray 57 = .ok (.imul, 1) := dk_104 (dk_at dksX3_dropTray_2 11 rfl rfl)
theorem dX3_dropTray_58 : decode cX3_dropTray 58 = .ok (.iadd, 1) := dk_96 (dk_at dksX3_dropTray_2 12 rfl rfl)
theorem dX3_dropTray_59 : decode cX3_dropTray 59 = .ok (.istore_n 2, 1) := dk_61 (dk_at dksX3_dropTray_2 13 rfl rfl)
theorem dX3_dropTray_60 : decode cX3_dropTray 60 = .ok (.iload_n 2, 1) := dk_28 (dk_at dksX3_dropTray_2 14 rfl rfl)
theorem dX3_dropTray_61 : decode cX3_dropTray 61 = .ok (.bipush 41, 2) := dk_16 41 (dk_at dksX3_dropTray_2 15 rfl rfl)
theorem dX3_dropTray_63 : decode cX3_dropTray 63 = .ok (.iconst 5, 1) := dk_8 (dk_at dksX3_dropTray_2 17 rfl rfl)
theorem dX3_dropTray_64 : decode cX3_dropTray 64 = .ok (.aload_n 0, 1) := dk_42 (dk_at dksX3_dropTray_2 18 rfl rfl)
theorem dX3_dropTray_65 : decode cX3_dropTray 65 = .ok (.getfield 7, 3) := dk_180 0 7 (dk_at dksX3_dropTray_2 19 rfl rfl)
theorem dX3_dropTray_68 : decode cX3_dropTray 68 = .ok (.bipush 40, 2) := dk_16 40 (dk_at dksX3_dropTray_2 22 rfl rfl)
theorem dX3_dropTray_70 : decode cX3_dropTray 70 = .ok (.iaload, 1) := dk_46 (dk_at dksX3_dropTray_3 0 rfl rfl)
theorem dX3_dropTray_71 : decode cX3_dropTray 71 = .ok (.imul, 1) := dk_104 (dk_at dksX3_dropTray_3 1 rfl rfl)
theorem dX3_dropTray_72 : decode cX3_dropTray 72 = .ok (.iadd, 1) := dk_96 (dk_at dksX3_dropTray_3 2 rfl rfl)
theorem dX3_dropTray_73 : decode cX3_dropTray 73 = .ok (.if_icmp .ge 23, 3) := dk_162 0 23 (dk_at dksX3_dropTray_3 3 rfl rfl)
theorem dX3_dropTray_76 : decode cX3_dropTray 76 = .ok (.aload_n 0, 1) := dk_42 (dk_at dksX3_dropTray_3 6 rfl rfl)
theorem dX3_dropTray_77 : decode cX3_dropTray 77 = .ok (.getfield 7, 3) := dk_180 0 7 (dk_at dksX3_dropTray_3 7 rfl rfl)
theorem dX3_dropTray_80 : decode cX3_dropTray 80 = .ok (.iload_n 2, 1) := dk_28 (dk_at dksX3_dropTray_3 10 rfl rfl)
theorem dX3_dropTray_81 : decode cX3_dropTray 81 = .ok (.aload_n 0, 1) := dk_42 (dk_at dksX3_dropTray_3 11 rfl rfl)
theorem dX3_dropTray_82 : decode cX3_dropTray 82 = .ok (.getfield 7, 3) := dk_180 0 7 (dk_at dksX3_dropTray_3 12 rfl rfl)
theorem dX3_dropTray_85 : decode cX3_dropTray 85 = .ok (.iload_n 2, 1) := dk_28 (dk_at dksX3_dropTray_3 15 rfl rfl)
theorem dX3_dropTray_86 : decode cX3_dropTray 86 = .ok (.iconst 5, 1) := dk_8 (dk_at dksX3_dropTray_3 16 rfl rfl)
theorem dX3_dropTray_87 : decode cX3_dropTray 87 = .ok (.iadd, 1) := dk_96 (dk_at dksX3_dropTray_3 17 rfl rfl)
theorem dX3_dropTray_88 : decode cX3_dropTray 88 = .ok (.iaload, 1) := dk_46 (dk_at dksX3_dropTray_3 18 rfl rfl)
theorem dX3_dropTray_89 : decode cX3_dropTray 89 = .ok (.iastore, 1) := dk_79 (dk_at dksX3_dropTray_3 19 rfl rfl)
theorem dX3_dropTray_90 : decode cX3_dropTray 90 = .ok (.iinc 2 1, 3) := dk_132 2 1 (dk_at dksX3_dropTray_3 20 rfl rfl)
theorem dX3_dropTray_93 : decode cX3_dropTray 93 = .ok (.goto (-33), 3) := dk_167 255 223 (dk_at dksX3_dropTray_4 0 rfl rfl)
theorem dX3_dropTray_96 : decode cX3_dropTray 96 = .ok (.iconst 0, 1) := dk_3 (dk_at dksX3_dropTray_4 3 rfl rfl)
theorem dX3_dropTray_97 : decode cX3_dropTray 97 = .ok (.istore_n 2, 1) := dk_61 (dk_at dksX3_dropTray_4 4 rfl rfl)
theorem dX3_dropTray_98 : decode cX3_dropTray 98 = .ok (.iload_n 2, 1) := dk_28 (dk_at dksX3_dropTray_4 5 rfl rfl)
theorem dX3_dropTray_99 : decode cX3_dropTray 99 = .ok (.aload_n 0, 1) := dk_42 (dk_at dksX3_dropTray_4 6 rfl rfl)
theorem dX3_dropTray_100 : decode cX3_dropTray 100 = .ok (.getfield 7, 3) := dk_180 0 7 (dk_at dksX3_dropTray_4 7 rfl rfl)
theorem dX3_dropTray_103 : decode cX3_dropTray 103 = .ok (.bipush 101, 2) := dk_16 101 (dk_at dksX3_dropTray_4 10 rfl rfl)
theorem dX3_dropTray_105 : decode cX3_dropTray 105 = .ok (.iaload, 1) := dk_46 (dk_at dksX3_dropTray_4 12 rfl rfl)
theorem dX3_dropTray_106 : decode cX3_dropTray 106 = .ok (.if_icmp .ge 61, 3) := dk_162 0 61 (dk_at dksX3_dropTray_4 13 rfl rfl)
theorem dX3_dropTray_109 : decode cX3_dropTray 109 = .ok (.iconst 0, 1) := dk_3 (dk_at dksX3_dropTray_4 16 rfl rfl)
theorem dX3_dropTray_110 : decode cX3_dropTray 110 = .ok (.istore_n 3, 1) := dk_62 (dk_at dksX3_dropTray_4 17 rfl rfl)
theorem dX3_dropTray_111 : decode cX3_dropTray 111 = .ok (.iload_n 3, 1) := dk_29 (dk_at dksX3_dropTray_4 18 rfl rfl)
theorem dX3_dropTray_112 : decode cX3_dropTray 112 = .ok (.aload_n 0, 1) := dk_42 (dk_at dksX3_dropTray_4 19 rfl rfl)
theorem dX3_dropTray_113 : decode cX3_dropTray 113 = .ok (.iload_n 2, 1) := dk_28 (dk_at dksX3_dropTray_4 20 rfl rfl)
theorem dX3_dropTray_114 : decode cX3_dropTray 114 = .ok (.iconst 4, 1) := dk_7 (dk_at dksX3_dropTray_4 21 rfl rfl)
theorem dX3_dropTray_115 : decode cX3_dropTray 115 = .ok (.invokevirtual 105, 3) := dk_182 0 105 (dk_at dksX3_dropTray_5 0 rfl rfl)
theorem dX3_dropTray_118 : decode cX3_dropTray 118 = .ok (.if_icmp .ge 43, 3) := dk_162 0 43 (dk_at dksX3_dropTray_5 3 rfl rfl)
theorem dX3_dropTray_121 : decode cX3_dropTray 121 = .ok (.aload_n 0, 1) := dk_42 (dk_at dksX3_dropTray_5 6 rfl rfl)
theorem dX3_dropTray_122 : decode cX3_dropTray 122 = .ok (.getfield 7, 3) := dk_180 0 7 (dk_at dksX3_dropTray_5 7 rfl rfl)
theorem dX3_dropTray_125 : decode cX3_dropTray 125 = .ok (.iload_n 2, 1) := dk_28 (dk_at dksX3_dropTray_5 10 rfl rfl)
theorem dX3_dropTray_126 : decode cX3_dropTray 126 = .ok (.bipush 7, 2) := dk_16 7 (dk_at dksX3_dropTray_5 11 rfl rfl)
theorem dX3_dropTray_128 : decode cX3_dropTray 128 = .ok (.iload_n 3, 1) := dk_29 (dk_at dksX3_dropTray_5 13 rfl rfl)
theorem dX3_dropTray_129 : decode cX3_dropTray 129 = .ok (.iadd, 1) := dk_96 (dk_at dksX3_dropTray_5 14 rfl rfl)
theorem dX3_dropTray_130 : decode cX3_dropTray 130 = .ok (.invokestatic 98, 3) := dk_184 0 98 (dk_at dksX3_dropTray_5 15 rfl rfl)
theorem dX3_dropTray_133 : decode cX3_dropTray 133 = .ok (.dup2, 1) := dk_92 (dk_at dksX3_dropTray_5 18 rfl rfl)
theorem dX3_dropTray_134 : decode cX3_dropTray 134 = .ok (.iaload, 1) := dk_46 (dk_at dksX3_dropTray_5 19 rfl rfl)
theorem dX3_dropTray_135 : decode cX3_dropTray 135 = .ok (.aload_n 0, 1) := dk_42 (dk_at dksX3_dropTray_5 20 rfl rfl)
theorem dX3_dropTray_136 : decode cX3_dropTray 136 = .ok (.iload_n 2, 1) := dk_28 (dk_at dksX3_dropTray_5 21 rfl rfl)
theorem dX3_dropTray_137 : decode cX3_dropTray 137 = .ok (.bipush 7, 2) := dk_16 7 (dk_at dksX3_dropTray_5 22 rfl rfl)
theorem dX3_dropTray_139 : decode cX3_dropTray 139 = .ok (.iload_n 3, 1) := dk_29 (dk_at dksX3_dropTray_6 0 rfl rfl)
theorem dX3_dropTray_140 : decode cX3_dropTray 140 = .ok (.iadd, 1) := dk_96 (dk_at dksX3_dropTray_6 1 rfl rfl)
theorem dX3_dropTray_141 : decode cX3_dropTray 141 = .ok (.invokevirtual 105, 3) := dk_182 0 105 (dk_at dksX3_dropTray_6 2 rfl rfl)
theorem dX3_dropTray_144 : decode cX3_dropTray 144 = .ok (.iload_n 1, 1) := dk_27 (dk_at dksX3_dropTray_6 5 rfl rfl)
theorem dX3_dropTray_145 : decode cX3_dropTray 145 = .ok (.if_icmp .le 7, 3) := dk_164 0 7 (dk_at dksX3_dropTray_6 6 rfl rfl)
theorem dX3_dropTray_148 : decode cX3_dropTray 148 = .ok (.iconst 1, 1) := dk_4 (dk_at dksX3_dropTray_6 9 rfl rfl)
theorem dX3_dropTray_149 : decode cX3_dropTray 149 = .ok (.goto 4, 3) := dk_167 0 4 (dk_at dksX3_dropTray_6 10 rfl rfl)
theorem dX3_dropTray_152 : decode cX3_dropTray 152 = .ok (.iconst 0, 1) := dk_3 (dk_at dksX3_dropTray_6 13 rfl rfl)
theorem dX3_dropTray_153 : decode cX3_dropTray 153 = .ok (.isub, 1) := dk_100 (dk_at dksX3_dropTray_6 14 rfl rfl)
theorem dX3_dropTray_154 : decode cX3_dropTray 154 = .ok (.iastore, 1) := dk_79 (dk_at dksX3_dropTray_6 15 rfl rfl)
theorem dX3_dropTray_155 : decode cX3_dropTray 155 = .ok (.iinc 3 1, 3) := dk_132 3 1 (dk_at dksX3_dropTray_6 16 rfl rfl)
theorem dX3_dropTray_158 : decode cX3_dropTray 158 = .ok (.goto (-47), 3) := dk_167 255 209 (dk_at dksX3_dropTray_6 19 rfl rfl)
theorem dX3_dropTray_161 : decode cX3_dropTray 161 = .ok (.iinc 2 1, 3) := dk_132 2 1 (dk_at dksX3_dropTray_7 0 rfl rfl)
theorem dX3_dropTray_164 : decode cX3_dropTray 164 = .ok (.goto (-66), 3) := dk_167 255 190 (dk_at dksX3_dropTray_7 3 rfl rfl)
theorem dX3_dropTray_167 : decode cX3_dropTray 167 = .ok (.aload_n 0, 1) := dk_42 (dk_at dksX3_dropTray_7 6 rfl rfl)
theorem dX3_dropTray_168 : decode cX3_dropTray 168 = .ok (.getfield 7, 3) := dk_180 0 7 (dk_at dksX3_dropTray_7 7 rfl rfl)
theorem dX3_dropTray_171 : decode cX3_dropTray 171 = .ok (.bipush 40, 2) := dk_16 40 (dk_at dksX3_dropTray_7 10 rfl rfl)
theorem dX3_dropTray_173 : decode cX3_dropTray 173 = .ok (.iaload, 1) := dk_46 (dk_at dksX3_dropTray_7 12 rfl rfl)
theorem dX3_dropTray_174 : decode cX3_dropTray 174 = .ok (.ireturn, 1) := dk_172 (dk_at dksX3_dropTray_7 13 rfl rfl)
def dkwX3_isTray_0 : List UInt8 := [27, 3, 42, 180, 0, 7, 16, 40, 46, 4, 100, 184, 0, 90, 172]
abbrev dktX3_isTray_0 : List UInt8 := dkwX3_isTray_0 ++ []
theorem dksX3_isTray_0 : cX3_isTray.data.toList.drop 0 = dktX3_isTray_0 := by decide +kernel
theorem dX3_isTray_0 : decode cX3_isTray 0 = .ok (.iload_n 1, 1) := dk_27 (dk_at dksX3_isTray_0 0 rfl rfl)
theorem dX3_isTray_1 : decode cX3_isTray 1 = .ok (.iconst 0, 1) := dk_3 (dk_at dksX3_isTray_0 1 rfl rfl)
theorem dX3_isTray_2 : decode cX3_isTray 2 = .ok (.aload_n 0, 1) := dk_42 (dk_at dksX3_isTray_0 2 rfl rfl)
theorem dX3_isTray_3 : decode cX3_isTray 3 = .ok (.getfield 7, 3) := dk_180 0 7 (dk_at dksX3_isTray_0 3 rfl rfl)
theorem dX3_isTray_6 : decode cX3_isTray 6 = .ok (.bipush 40, 2) := dk_16 40 (dk_at dksX3_isTray_0 6 rfl rfl)
theorem dX3_isTray_8 : decode cX3_isTray 8 = .ok (.iaload, 1) := dk_46 (dk_at dksX3_isTray_0 8 rfl rfl)
theorem dX3_isTray_9 : decode cX3_isTray 9 = .ok (.iconst 1, 1) := dk_4 (dk_at dksX3_isTray_0 9 rfl rfl)
theorem dX3_isTray_10 : decode cX3_isTray 10 = .ok (.isub, 1) := dk_100 (dk_at dksX3_isTray_0 10 rfl rfl)
theorem dX3_isTray_11 : decode cX3_isTray 11 = .ok (.invokestatic 90, 3) := dk_184 0 90 (dk_at dksX3_isTray_0 11 rfl rfl)
theorem dX3_isTray_14 : decode cX3_isTray 14 = .ok (.ireturn, 1) := dk_172 (dk_at dksX3_isTray_0 14 rfl rfl)
def dkwX3_setIn_1 : List UInt8 := [155, 0, 9, 4, 29, 120, 167, 0, 4, 3, 128, 61, 132, 3, 1, 167, 255, 223, 28, 172]
abbrev dktX3_setIn_1 : List UInt8 := dkwX3_setIn_1 ++ []
def dkwX3_setIn_0 : List UInt8 := [3, 61, 3, 62, 29, 42, 180, 0, 7, 16, 101, 46, 162, 0, 28, 28, 42, 29, 27, 182, 0, 108]
abbrev dktX3_setIn_0 : List UInt8 := dkwX3_setIn_0 ++ dktX3_setIn_1
theorem dksX3_setIn_0 : cX3_setIn.data.toList.drop 0 = dktX3_setIn_0 := by decide +kernel
theorem dksX3_setIn_1 : cX3_setIn.data.toList.drop 22 = dktX3_setIn_1 := dk_seg dksX3_setIn_0 22 rfl rfl
theorem dX3_setIn_0 : decode cX3_setIn 0 = .ok (.iconst 0, 1) := dk_3 (dk_at dksX3_setIn_0 0 rfl rfl)
theorem dX3_setIn_1 : decode cX3_setIn 1 = .ok (.istore_n 2, 1) := dk_61 (dk_at dksX3_setIn_0 1 rfl rfl)
theorem dX3_setIn_2 : decode cX3_setIn 2 = .ok (.iconst 0, 1) := dk_3 (dk_at dksX3_setIn_0 2 rfl rfl)
theorem dX3_setIn_3 : decode cX3_setIn 3 = .ok (.istore_n 3, 1) := dk_62 (dk_at dksX3_setIn_0 3 rfl rfl)
theorem dX3_setIn_4 : decode cX3_setIn 4 = .ok (.iload_n 3, 1) := dk_29 (dk_at dksX3_setIn_0 4 rfl rfl)
theorem dX3_setIn_5 : decode cX3_setIn 5 = .ok (.aload_n 0, 1) := dk_42 (dk_at dksX3_setIn_0 5 rfl rfl)
theorem dX3_setIn_6 : decode cX3_setIn 6 = .ok (.getfield 7, 3) := dk_180 0 7 (dk_at dksX3_setIn_0 6 rfl rfl)
theorem dX3_setIn_9 : decode cX3_setIn 9 = .ok (.bipush 101, 2) := dk_16 101 (dk_at dksX3_setIn_0 9 rfl rfl)
theorem dX3_setIn_11 : decode cX3_setIn 11 = .ok (.iaload, 1) := dk_46 (dk_at dksX3_setIn_0 11 rfl rfl)
theorem dX3_setIn_12 : decode cX3_setIn 12 = .ok (.if_icmp .ge 28, 3) := dk_162 0 28 (dk_at dksX3_setIn_0 12 rfl rfl)
theorem dX3_setIn_15 : decode cX3_setIn 15 = .ok (.iload_n 2, 1) := dk_28 (dk_at dksX3_setIn_0 15 rfl rfl)
theorem dX3_setIn_16 : decode cX3_setIn 16 = .ok (.aload_n 0, 1) := dk_42 (dk_at dksX3_setIn_0 16 rfl rfl)
theorem dX3_setIn_17 : decode cX3_setIn 17 = .ok (.iload_n 3, 1) := dk_29 (dk_at dksX3_setIn_0 17 rfl rfl)
theorem dX3_setIn_18 : decode cX3_setIn 18 = .ok (.iload_n 1, 1) := dk_27 (dk_at dksX3_setIn_0 18 rfl rfl)
theorem dX3_setIn_19 : decode cX3_setIn 19 = .ok (.invokevirtual 108, 3) := dk_182 0 108 (dk_at dksX3_setIn_0 19 rfl rfl)
theorem dX3_setIn_22 : decode cX3_setIn 22 = .ok (.ifCond .lt 9, 3) := dk_155 0 9 (dk_at dksX3_setIn_1 0 rfl rfl)
theorem dX3_setIn_25 : decode cX3_setIn 25 = .ok (.iconst 1, 1) := dk_4 (dk_at dksX3_setIn_1 3 rfl rfl)
theorem dX3_setIn_26 : decode cX3_setIn 26 = .ok (.iload_n 3, 1) := dk_29 (dk_at dksX3_setIn_1 4 rfl rfl)
theorem dX3_setIn_27 : decode cX3_setIn 27 = .ok (.ishl, 1) := dk_120 (dk_at dksX3_setIn_1 5 rfl rfl)
theorem dX3_setIn_28 : decode cX3_setIn 28 = .ok (.goto 4, 3) := dk_167 0 4 (dk_at dksX3_setIn_1 6 rfl rfl)
theorem dX3_setIn_31 : decode cX3_setIn 31 = .ok (.iconst 0, 1) := dk_3 (dk_at dksX3_setIn_1 9 rfl rfl)
theorem dX3_setIn_32 : decode cX3_setIn 32 = .ok (.ior, 1) := dk_128 (dk_at dksX3_setIn_1 10 rfl rfl)
theorem dX3_setIn_33 : decode cX3_setIn 33 = .ok (.istore_n 2, 1) := dk_61 (dk_at dksX3_setIn_1 11 rfl rfl)
theorem dX3_setIn_34 : decode cX3_setIn 34 = .ok (.iinc 3 1, 3) := dk_132 3 1 (dk_at dksX3_setIn_1 12 rfl rfl)
theorem dX3_setIn_37 : decode cX3_setIn 37 = .ok (.goto (-33), 3) := dk_167 255 223 (dk_at dksX3_setIn_1 15 rfl rfl)
theorem dX3_setIn_40 : decode cX3_setIn 40 = .ok (.iload_n 2, 1) := dk_28 (dk_at dksX3_setIn_1 18 rfl rfl)
theorem dX3_setIn_41 : decode cX3_setIn 41 = .ok (.ireturn, 1) := dk_172 (dk_at dksX3_setIn_1 19 rfl rfl)
def dkwX3_stepIn_1 : List UInt8 := [160, 0, 5, 29, 172, 132, 3, 1, 167, 255, 228, 2, 172]
abbrev dktX3_stepIn_1 : List UInt8 := dkwX3_stepIn_1 ++ []
def dkwX3_stepIn_0 : List UInt8 := [3, 62, 29, 42, 27, 7, 182, 0, 105, 162, 0, 24, 42, 27, 16, 7, 29, 96, 182, 0, 105, 28]
abbrev dktX3_stepIn_0 : List UInt8 := dkwX3_stepIn_0 ++ dktX3_stepIn_1
theorem dksX3_stepIn_0 : cX3_stepIn.data.toList.drop 0 = dktX3_stepIn_0 := by decide +kernel
theorem dksX3_stepIn_1 : cX3_stepIn.data.toList.drop 22 = dktX3_stepIn_1 := dk_seg dksX3_stepIn_0 22 rfl rfl
theorem dX3_stepIn_0 : decode cX3_stepIn 0 = .ok (.iconst 0, 1) := dk_3 (dk_at dksX3_stepIn_0 0 rfl rfl)
theorem dX3_stepIn_1 : decode cX3_stepIn 1 = .ok (.istore_n 3, 1) := dk_62 (dk_at dksX3_stepIn_0 1 rfl rfl)
theorem dX3_stepIn_2 : decode cX3_stepIn 2 = .ok (.iload_n 3, 1) := dk_29 (dk_at dksX3_stepIn_0 2 rfl rfl)
theorem dX3_stepIn_3 : decode cX3_stepIn 3 = .ok (.aload_n 0, 1) := dk_42 (dk_at dksX3_stepIn_0 3 rfl rfl)
theorem dX3_stepIn_4 : decode cX3_stepIn 4 = .ok (.iload_n 1, 1) := dk_27 (dk_at dksX3_stepIn_0 4 rfl rfl)
theorem dX3_stepIn_5 : decode cX3_stepIn 5 = .ok (.iconst 4, 1) := dk_7 (dk_at dksX3_stepIn_0 5 rfl rfl)
theorem dX3_stepIn_6 : decode cX3_stepIn 6 = .ok (.invokevirtual 105, 3) := dk_182 0 105 (dk_at dksX3_stepIn_0 6 rfl rfl)
theorem dX3_stepIn_9 : decode cX3_stepIn 9 = .ok (.if_icmp .ge 24, 3) := dk_162 0 24 (dk_at dksX3_stepIn_0 9 rfl rfl)
theorem dX3_stepIn_12 : decode cX3_stepIn 12 = .ok (.aload_n 0, 1) := dk_42 (dk_at dksX3_stepIn_0 12 rfl rfl)
theorem dX3_stepIn_13 : decode cX3_stepIn 13 = .ok (.iload_n 1, 1) := dk_27 (dk_at dksX3_stepIn_0 13 rfl rfl)
theorem dX3_stepIn_14 : decode cX3_stepIn 14 = .ok (.bipush 7, 2) := dk_16 7 (dk_at dksX3_stepIn_0 14 rfl rfl)
theorem dX3_stepIn_16 : decode cX3_stepIn 16 = .ok (.iload_n 3, 1) := dk_29 (dk_at dksX3_stepIn_0 16 rfl rfl)
theorem dX3_stepIn_17 : decode cX3_stepIn 17 = .ok (.iadd, 1) := dk_96 (dk_at dksX3_stepIn_0 17 rfl rfl)
theorem dX3_stepIn_18 : decode cX3_stepIn 18 = .ok (.invokevirtual 105, 3) := dk_182 0 105 (dk_at dksX3_stepIn_0 18 rfl rfl)
theorem dX3_stepIn_21 : decode cX3_stepIn 21 = .ok (.iload_n 2, 1) := dk_28 (dk_at dksX3_stepIn_0 21 rfl rfl)
theorem dX3_stepIn_22 : decode cX3_stepIn 22 = .ok (.if_icmp .ne 5, 3) := dk_160 0 5 (dk_at dksX3_stepIn_1 0 rfl rfl)
theorem dX3_stepIn_25 : decode cX3_stepIn 25 = .ok (.iload_n 3, 1) := dk_29 (dk_at dksX3_stepIn_1 3 rfl rfl)
theorem dX3_stepIn_26 : decode cX3_stepIn 26 = .ok (.ireturn, 1) := dk_172 (dk_at dksX3_stepIn_1 4 rfl rfl)
theorem dX3_stepIn_27 : decode cX3_stepIn 27 = .ok (.iinc 3 1, 3) := dk_132 3 1 (dk_at dksX3_stepIn_1 5 rfl rfl)
theorem dX3_stepIn_30 : decode cX3_stepIn 30 = .ok (.goto (-28), 3) := dk_167 255 228 (dk_at dksX3_stepIn_1 8 rfl rfl)
theorem dX3_stepIn_33 : decode cX3_stepIn 33 = .ok (.iconst (-1), 1) := dk_2 (dk_at dksX3_stepIn_1 11 rfl rfl)
theorem dX3_stepIn_34 : decode cX3_stepIn 34 = .ok (.ireturn, 1) := dk_172 (dk_at dksX3_stepIn_1 12 rfl rfl)
def dkwX3_cableTold_0 : List UInt8 := [42, 180, 0, 7, 27, 28, 184, 0, 98, 46, 172]
abbrev dktX3_cableTold_0 : List UInt8 := dkwX3_cableTold_0 ++ []
theorem dksX3_cableTold_0 : cX3_cableTold.data.toList.drop 0 = dktX3_cableTold_0 := by decide +kernel
theorem dX3_cableTold_0 : decode cX3_cableTold 0 = .ok (.aload_n 0, 1) := dk_42 (dk_at dksX3_cableTold_0 0 rfl rfl)
theorem dX3_cableTold_1 : decode cX3_cableTold 1 = .ok (.getfield 7, 3) := dk_180 0 7 (dk_at dksX3_cableTold_0 1 rfl rfl)
theorem dX3_cableTold_4 : decode cX3_cableTold 4 = .ok (.iload_n 1, 1) := dk_27 (dk_at dksX3_cableTold_0 4 rfl rfl)
theorem dX3_cableTold_5 : decode cX3_cableTold 5 = .ok (.iload_n 2, 1) := dk_28 (dk_at dksX3_cableTold_0 5 rfl rfl)
theorem dX3_cableTold_6 : decode cX3_cableTold 6 = .ok (.invokestatic 98, 3) := dk_184 0 98 (dk_at dksX3_cableTold_0 6 rfl rfl)
theorem dX3_cableTold_9 : decode cX3_cableTold 9 = .ok (.iaload, 1) := dk_46 (dk_at dksX3_cableTold_0 9 rfl rfl)
theorem dX3_cableTold_10 : decode cX3_cableTold 10 = .ok (.ireturn, 1) := dk_172 (dk_at dksX3_cableTold_0 10 rfl rfl)
def dkwX3_at_0 : List UInt8 := [16, 102, 16, 21, 26, 104, 96, 27, 96, 172]
abbrev dktX3_at_0 : List UInt8 := dkwX3_at_0 ++ []
theorem dksX3_at_0 : cX3_at.data.toList.drop 0 = dktX3_at_0 := by decide +kernel
theorem dX3_at_0 : decode cX3_at 0 = .ok (.bipush 102, 2) := dk_16 102 (dk_at dksX3_at_0 0 rfl rfl)
theorem dX3_at_2 : decode cX3_at 2 = .ok (.bipush 21, 2) := dk_16 21 (dk_at dksX3_at_0 2 rfl rfl)
theorem dX3_at_4 : decode cX3_at 4 = .ok (.iload_n 0, 1) := dk_26 (dk_at dksX3_at_0 4 rfl rfl)
theorem dX3_at_5 : decode cX3_at 5 = .ok (.imul, 1) := dk_104 (dk_at dksX3_at_0 5 rfl rfl)
theorem dX3_at_6 : decode cX3_at 6 = .ok (.iadd, 1) := dk_96 (dk_at dksX3_at_0 6 rfl rfl)
theorem dX3_at_7 : decode cX3_at 7 = .ok (.iload_n 1, 1) := dk_27 (dk_at dksX3_at_0 7 rfl rfl)
theorem dX3_at_8 : decode cX3_at 8 = .ok (.iadd, 1) := dk_96 (dk_at dksX3_at_0 8 rfl rfl)
theorem dX3_at_9 : decode cX3_at 9 = .ok (.ireturn, 1) := dk_172 (dk_at dksX3_at_0 9 rfl rfl)
def dkwX3_addCable_7 : List UInt8 := [79, 21, 4, 172]
abbrev dktX3_addCable_7 : List UInt8 := dkwX3_addCable_7 ++ []
def dkwX3_addCable_6 : List UInt8 := [79, 42, 180, 0, 7, 21, 4, 16, 6, 184, 0, 98, 2, 79, 42, 180, 0, 7, 16, 101, 92, 46, 4, 96]
abbrev dktX3_addCable_6 : List UInt8 := dkwX3_addCable_6 ++ dktX3_addCable_7
def dkwX3_addCable_5 : List UInt8 := [79, 42, 180, 0, 7, 21, 4, 4, 184, 0, 98, 28, 79, 42, 180, 0, 7, 21, 4, 5, 184, 0, 98, 29]
abbrev dktX3_addCable_5 : List UInt8 := dkwX3_addCable_5 ++ dktX3_addCable_6
def dkwX3_addCable_4 : List UInt8 := [21, 5, 184, 0, 98, 3, 79, 132, 5, 1, 167, 255, 233, 42, 180, 0, 7, 21, 4, 3, 184, 0, 98, 27]
abbrev dktX3_addCable_4 : List UInt8 := dkwX3_addCable_4 ++ dktX3_addCable_5
def dkwX3_addCable_3 : List UInt8 := [180, 0, 7, 16, 101, 46, 54, 4, 3, 54, 5, 21, 5, 16, 21, 162, 0, 22, 42, 180, 0, 7, 21, 4]
abbrev dktX3_addCable_3 : List UInt8 := dkwX3_addCable_3 ++ dktX3_addCable_4
def dkwX3_addCable_2 : List UInt8 := [6, 167, 0, 4, 3, 181, 0, 66, 42, 180, 0, 66, 158, 0, 5, 3, 172, 42, 182, 0, 87, 42]
abbrev dktX3_addCable_2 : List UInt8 := dkwX3_addCable_2 ++ dktX3_addCable_3
def dkwX3_addCable_1 : List UInt8 := [167, 0, 29, 28, 29, 160, 0, 7, 5, 167, 0, 20, 42, 180, 0, 7, 16, 101, 46, 16, 12, 160, 0, 7]
abbrev dktX3_addCable_1 : List UInt8 := dkwX3_addCable_1 ++ dktX3_addCable_2
def dkwX3_addCable_0 : List UInt8 := [42, 42, 27, 182, 0, 118, 153, 0, 17, 28, 184, 0, 101, 153, 0, 10, 29, 184, 0, 101, 154, 0, 7, 4]
abbrev dktX3_addCable_0 : List UInt8 := dkwX3_addCable_0 ++ dktX3_addCable_1
theorem dksX3_addCable_0 : cX3_addCable.data.toList.drop 0 = dktX3_addCable_0 := by decide +kernel
theorem dksX3_addCable_1 : cX3_addCable.data.toList.drop 24 = dktX3_addCable_1 := dk_seg dksX3_addCable_0 24 rfl rfl
theorem dksX3_addCable_2 : cX3_addCable.data.toList.drop 48 = dktX3_addCable_2 := dk_seg dksX3_addCable_1 24 rfl rfl
theorem dksX3_addCable_3 : cX3_addCable.data.toList.drop 70 = dktX3_addCable_3 := dk_seg dksX3_addCable_2 22 rfl rfl
theorem dksX3_addCable_4 : cX3_addCable.data.toList.drop 94 = dktX3_addCable_4 := dk_seg dksX3_addCable_3 24 rfl rfl
theorem dksX3_addCable_5 : cX3_addCable.data.toList.drop 118 = dktX3_addCable_5 := dk_seg dksX3_addCable_4 24 rfl rfl
theorem dksX3_addCable_6 : cX3_addCable.data.toList.drop 142 = dktX3_addCable_6 := dk_seg dksX3_addCable_5 24 rfl rfl
theorem dksX3_addCable_7 : cX3_addCable.data.toList.drop 166 = dktX3_addCable_7 := dk_seg dksX3_addCable_6 24 rfl rfl
theorem dX3_addCable_0 : decode cX3_addCable 0 = .ok (.aload_n 0, 1) := dk_42 (dk_at dksX3_addCable_0 0 rfl rfl)
theorem dX3_addCable_1 : decode cX3_addCable 1 = .ok (.aload_n 0, 1) := dk_42 (dk_at dksX3_addCable_0 1 rfl rfl)
theorem dX3_addCable_2 : decode cX3_addCable 2 = .ok (.iload_n 1, 1) := dk_27 (dk_at dksX3_addCable_0 2 rfl rfl)
theorem dX3_addCable_3 : decode cX3_addCable 3 = .ok (.invokevirtual 118, 3) := dk_182 0 118 (dk_at dksX3_addCable_0 3 rfl rfl)
theorem dX3_addCable_6 : decode cX3_addCable 6 = .ok (.ifCond .eq 17, 3) := dk_153 0 17 (dk_at dksX3_addCable_0 6 rfl rfl)
theorem dX3_addCable_9 : decode cX3_addCable 9 = .ok (.iload_n 2, 1) := dk_28 (dk_at dksX3_addCable_0 9 rfl rfl)
theorem dX3_addCable_10 : decode cX3_addCable 10 = .ok (.invokestatic 101, 3) := dk_184 0 101 (dk_at dksX3_addCable_0 10 rfl rfl)
theorem dX3_addCable_13 : decode cX3_addCable 13 = .ok (.ifCond .eq 10, 3) := dk_153 0 10 (dk_at dksX3_addCable_0 13 rfl rfl)
theorem dX3_addCable_16 : decode cX3_addCable 16 = .ok (.iload_n 3, 1) := dk_29 (dk_at dksX3_addCable_0 16 rfl rfl)
theorem dX3_addCable_17 : decode cX3_addCable 17 = .ok (.invokestatic 101, 3) := dk_184 0 101 (dk_at dksX3_addCable_0 17 rfl rfl)
theorem dX3_addCable_20 : decode cX3_addCable 20 = .ok (.ifCond .ne 7, 3) := dk_154 0 7 (dk_at dksX3_addCable_0 20 rfl rfl)
theorem dX3_addCable_23 : decode cX3_addCable 23 = .ok (.iconst 1, 1) := dk_4 (dk_at dksX3_addCable_0 23 rfl rfl)
theorem dX3_addCable_24 : decode cX3_addCable 24 = .ok (.goto 29, 3) := dk_167 0 29 (dk_at dksX3_addCable_1 0 rfl rfl)
theorem dX3_addCable_27 : decode cX3_addCable 27 = .ok (.iload_n 2, 1) := dk_28 (dk_at dksX3_addCable_1 3 rfl rfl)
theorem dX3_addCable_28 : decode cX3_addCable 28 = .ok (.iload_n 3, 1) := dk_29 (dk_at dksX3_addCable_1 4 rfl rfl)
theorem dX3_addCable_29 : decode cX3_addCable 29 = .ok (.if_icmp .ne 7, 3) := dk_160 0 7 (dk_at dksX3_addCable_1 5 rfl rfl)
theorem dX3_addCable_32 : decode cX3_addCable 32 = .ok (.iconst 2, 1) := dk_5 (dk_at dksX3_addCable_1 8 rfl rfl)
theorem dX3_addCable_33 : decode cX3_addCable 33 = .ok (.goto 20, 3) := dk_167 0 20 (dk_at dksX3_addCable_1 9 rfl rfl)
theorem dX3_addCable_36 : decode cX3_addCable 36 = .ok (.aload_n 0, 1) := dk_42 (dk_at dksX3_addCable_1 12 rfl rfl)
theorem dX3_addCable_37 : decode cX3_addCable 37 = .ok (.getfield 7, 3) := dk_180 0 7 (dk_at dksX3_addCable_1 13 rfl rfl)
theorem dX3_addCable_40 : decode cX3_addCable 40 = .ok (.bipush 101, 2) := dk_16 101 (dk_at dksX3_addCable_1 16 rfl rfl)
theorem dX3_addCable_42 : decode cX3_addCable 42 = .ok (.iaload, 1) := dk_46 (dk_at dksX3_addCable_1 18 rfl rfl)
theorem dX3_addCable_43 : decode cX3_addCable 43 = .ok (.bipush 12, 2) := dk_16 12 (dk_at dksX3_addCable_1 19 rfl rfl)
theorem dX3_addCable_45 : decode cX3_addCable 45 = .ok (.if_icmp .ne 7, 3) := dk_160 0 7 (dk_at dksX3_addCable_1 21 rfl rfl)
theorem dX3_addCable_48 : decode cX3_addCable 48 = .ok (.iconst 3, 1) := dk_6 (dk_at dksX3_addCable_2 0 rfl rfl)
theorem dX3_addCable_49 : decode cX3_addCable 49 = .ok (.goto 4, 3) := dk_167 0 4 (dk_at dksX3_addCable_2 1 rfl rfl)
theorem dX3_addCable_52 : decode cX3_addCable 52 = .ok (.iconst 0, 1) := dk_3 (dk_at dksX3_addCable_2 4 rfl rfl)
theorem dX3_addCable_53 : decode cX3_addCable 53 = .ok (.putfield 66, 3) := dk_181 0 66 (dk_at dksX3_addCable_2 5 rfl rfl)
theorem dX3_addCable_56 : decode cX3_addCable 56 = .ok (.aload_n 0, 1) := dk_42 (dk_at dksX3_addCable_2 8 rfl rfl)
theorem dX3_addCable_57 : decode cX3_addCable 57 = .ok (.getfield 66, 3) := dk_180 0 66 (dk_at dksX3_addCable_2 9 rfl rfl)
theorem dX3_addCable_60 : decode cX3_addCable 60 = .ok (.ifCond .le 5, 3) := dk_158 0 5 (dk_at dksX3_addCable_2 12 rfl rfl)
theorem dX3_addCable_63 : decode cX3_addCable 63 = .ok (.iconst 0, 1) := dk_3 (dk_at dksX3_addCable_2 15 rfl rfl)
theorem dX3_addCable_64 : decode cX3_addCable 64 = .ok (.ireturn, 1) := dk_172 (dk_at dksX3_addCable_2 16 rfl rfl)
theorem dX3_addCable_65 : decode cX3_addCable 65 = .ok (.aload_n 0, 1) := dk_42 (dk_at dksX3_addCable_2 17 rfl rfl)
theorem dX3_addCable_66 : decode cX3_addCable 66 = .ok (.invokevirtual 87, 3) := dk_182 0 87 (dk_at dksX3_addCable_2 18 rfl rfl)
theorem dX3_addCable_69 : decode cX3_addCable 69 = .ok (.aload_n 0, 1) := dk_42 (dk_at dksX3_addCable_2 21 rfl rfl)
theorem dX3_addCable_70 : decode cX3_addCable 70 = .ok (.getfield 7, 3) := dk_180 0 7 (dk_at dksX3_addCable_3 0 rfl rfl)
theorem dX3_addCable_73 : decode cX3_addCable 73 = .ok (.bipush 101, 2) := dk_16 101 (dk_at dksX3_addCable_3 3 rfl rfl)
theorem dX3_addCable_75 : decode cX3_addCable 75 = .ok (.iaload, 1) := dk_46 (dk_at dksX3_addCable_3 5 rfl rfl)
theorem dX3_addCable_76 : decode cX3_addCable 76 = .ok (.istore 4, 2) := dk_54 4 (dk_at dksX3_addCable_3 6 rfl rfl)
theorem dX3_addCable_78 : decode cX3_addCable 78 = .ok (.iconst 0, 1) := dk_3 (dk_at dksX3_addCable_3 8 rfl rfl)
theorem dX3_addCable_79 : decode cX3_addCable 79 = .ok (.istore 5, 2) := dk_54 5 (dk_at dksX3_addCable_3 9 rfl rfl)
theorem dX3_addCable_81 : decode cX3_addCable 81 = .ok (.iload 5, 2) := dk_21 5 (dk_at dksX3_addCable_3 11 rfl rfl)
theorem dX3_addCable_83 : decode cX3_addCable 83 = .ok (.bipush 21, 2) := dk_16 21 (dk_at dksX3_addCable_3 13 rfl rfl)
theorem dX3_addCable_85 : decode cX3_addCable 85 = .ok (.if_icmp .ge 22, 3) := dk_162 0 22 (dk_at dksX3_addCable_3 15 rfl rfl)
theorem dX3_addCable_88 : decode cX3_addCable 88 = .ok (.aload_n 0, 1) := dk_42 (dk_at dksX3_addCable_3 18 rfl rfl)
theorem dX3_addCable_89 : decode cX3_addCable 89 = .ok (.getfield 7, 3) := dk_180 0 7 (dk_at dksX3_addCable_3 19 rfl rfl)
theorem dX3_addCable_92 : decode cX3_addCable 92 = .ok (.iload 4, 2) := dk_21 4 (dk_at dksX3_addCable_3 22 rfl rfl)
theorem dX3_addCable_94 : decode cX3_addCable 94 = .ok (.iload 5, 2) := dk_21 5 (dk_at dksX3_addCable_4 0 rfl rfl)
theorem dX3_addCable_96 : decode cX3_addCable 96 = .ok (.invokestatic 98, 3) := dk_184 0 98 (dk_at dksX3_addCable_4 2 rfl rfl)
theorem dX3_addCable_99 : decode cX3_addCable 99 = .ok (.iconst 0, 1) := dk_3 (dk_at dksX3_addCable_4 5 rfl rfl)
theorem dX3_addCable_100 : decode cX3_addCable 100 = .ok (.iastore, 1) := dk_79 (dk_at dksX3_addCable_4 6 rfl rfl)
theorem dX3_addCable_101 : decode cX3_addCable 101 = .ok (.iinc 5 1, 3) := dk_132 5 1 (dk_at dksX3_addCable_4 7 rfl rfl)
theorem dX3_addCable_104 : decode cX3_addCable 104 = .ok (.goto (-23), 3) := dk_167 255 233 (dk_at dksX3_addCable_4 10 rfl rfl)
theorem dX3_addCable_107 : decode cX3_addCable 107 = .ok (.aload_n 0, 1) := dk_42 (dk_at dksX3_addCable_4 13 rfl rfl)
theorem dX3_addCable_108 : decode cX3_addCable 108 = .ok (.getfield 7, 3) := dk_180 0 7 (dk_at dksX3_addCable_4 14 rfl rfl)
theorem dX3_addCable_111 : decode cX3_addCable 111 = .ok (.iload 4, 2) := dk_21 4 (dk_at dksX3_addCable_4 17 rfl rfl)
theorem dX3_addCable_113 : decode cX3_addCable 113 = .ok (.iconst 0, 1) := dk_3 (dk_at dksX3_addCable_4 19 rfl rfl)
theorem dX3_addCable_114 : decode cX3_addCable 114 = .ok (.invokestatic 98, 3) := dk_184 0 98 (dk_at dksX3_addCable_4 20 rfl rfl)
theorem dX3_addCable_117 : decode cX3_addCable 117 = .ok (.iload_n 1, 1) := dk_27 (dk_at dksX3_addCable_4 23 rfl rfl)
theorem dX3_addCable_118 : decode cX3_addCable 118 = .ok (.iastore, 1) := dk_79 (dk_at dksX3_addCable_5 0 rfl rfl)
theorem dX3_addCable_119 : decode cX3_addCable 119 = .ok (.aload_n 0, 1) := dk_42 (dk_at dksX3_addCable_5 1 rfl rfl)
theorem dX3_addCable_120 : decode cX3_addCable 120 = .ok (.getfield 7, 3) := dk_180 0 7 (dk_at dksX3_addCable_5 2 rfl rfl)
theorem dX3_addCable_123 : decode cX3_addCable 123 = .ok (.iload 4, 2) := dk_21 4 (dk_at dksX3_addCable_5 5 rfl rfl)
theorem dX3_addCable_125 : decode cX3_addCable 125 = .ok (.iconst 1, 1) := dk_4 (dk_at dksX3_addCable_5 7 rfl rfl)
theorem dX3_addCable_126 : decode cX3_addCable 126 = .ok (.invokestatic 98, 3) := dk_184 0 98 (dk_at dksX3_addCable_5 8 rfl rfl)
theorem dX3_addCable_129 : decode cX3_addCable 129 = .ok (.iload_n 2, 1) := dk_28 (dk_at dksX3_addCable_5 11 rfl rfl)
theorem dX3_addCable_130 : decode cX3_addCable 130 = .ok (.iastore, 1) := dk_79 (dk_at dksX3_addCable_5 12 rfl rfl)
theorem dX3_addCable_131 : decode cX3_addCable 131 = .ok (.aload_n 0, 1) := dk_42 (dk_at dksX3_addCable_5 13 rfl rfl)
theorem dX3_addCable_132 : decode cX3_addCable 132 = .ok (.getfield 7, 3) := dk_180 0 7 (dk_at dksX3_addCable_5 14 rfl rfl)
theorem dX3_addCable_135 : decode cX3_addCable 135 = .ok (.iload 4, 2) := dk_21 4 (dk_at dksX3_addCable_5 17 rfl rfl)
theorem dX3_addCable_137 : decode cX3_addCable 137 = .ok (.iconst 2, 1) := dk_5 (dk_at dksX3_addCable_5 19 rfl rfl)
theorem dX3_addCable_138 : decode cX3_addCable 138 = .ok (.invokestatic 98, 3) := dk_184 0 98 (dk_at dksX3_addCable_5 20 rfl rfl)
theorem dX3_addCable_141 : decode cX3_addCable 141 = .ok (.iload_n 3, 1) := dk_29 (dk_at dksX3_addCable_5 23 rfl rfl)
theorem dX3_addCable_142 : decode cX3_addCable 142 = .ok (.iastore, 1) := dk_79 (dk_at dksX3_addCable_6 0 rfl rfl)
theorem dX3_addCable_143 : decode cX3_addCable 143 = .ok (.aload_n 0, 1) := dk_42 (dk_at dksX3_addCable_6 1 rfl rfl)
theorem dX3_addCable_144 : decode cX3_addCable 144 = .ok (.getfield 7, 3) := dk_180 0 7 (dk_at dksX3_addCable_6 2 rfl rfl)
theorem dX3_addCable_147 : decode cX3_addCable 147 = .ok (.iload 4, 2) := dk_21 4 (dk_at dksX3_addCable_6 5 rfl rfl)
theorem dX3_addCable_149 : decode cX3_addCable 149 = .ok (.bipush 6, 2) := dk_16 6 (dk_at dksX3_addCable_6 7 rfl rfl)
theorem dX3_addCable_151 : decode cX3_addCable 151 = .ok (.invokestatic 98, 3) := dk_184 0 98 (dk_at dksX3_addCable_6 9 rfl rfl)
theorem dX3_addCable_154 : decode cX3_addCable 154 = .ok (.iconst (-1), 1) := dk_2 (dk_at dksX3_addCable_6 12 rfl rfl)
theorem dX3_addCable_155 : decode cX3_addCable 155 = .ok (.iastore, 1) := dk_79 (dk_at dksX3_addCable_6 13 rfl rfl)
theorem dX3_addCable_156 : decode cX3_addCable 156 = .ok (.aload_n 0, 1) := dk_42 (dk_at dksX3_addCable_6 14 rfl rfl)
theorem dX3_addCable_157 : decode cX3_addCable 157 = .ok (.getfield 7, 3) := dk_180 0 7 (dk_at dksX3_addCable_6 15 rfl rfl)
theorem dX3_addCable_160 : decode cX3_addCable 160 = .ok (.bipush 101, 2) := dk_16 101 (dk_at dksX3_addCable_6 18 rfl rfl)
theorem dX3_addCable_162 : decode cX3_addCable 162 = .ok (.dup2, 1) := dk_92 (dk_at dksX3_addCable_6 20 rfl rfl)
theorem dX3_addCable_163 : decode cX3_addCable 163 = .ok (.iaload, 1) := dk_46 (dk_at dksX3_addCable_6 21 rfl rfl)
theorem dX3_addCable_164 : decode cX3_addCable 164 = .ok (.iconst 1, 1) := dk_4 (dk_at dksX3_addCable_6 22 rfl rfl)
theorem dX3_addCable_165 : decode cX3_addCable 165 = .ok (.iadd, 1) := dk_96 (dk_at dksX3_addCable_6 23 rfl rfl)
theorem dX3_addCable_166 : decode cX3_addCable 166 = .ok (.iastore, 1) := dk_79 (dk_at dksX3_addCable_7 0 rfl rfl)
theorem dX3_addCable_167 : decode cX3_addCable 167 = .ok (.iload 4, 2) := dk_21 4 (dk_at dksX3_addCable_7 1 rfl rfl)
theorem dX3_addCable_169 : decode cX3_addCable 169 = .ok (.ireturn, 1) := dk_172 (dk_at dksX3_addCable_7 3 rfl rfl)
def dkwX3_isType_0 : List UInt8 := [27, 3, 42, 180, 0, 7, 6, 46, 4, 100, 184, 0, 90, 172]
abbrev dktX3_isType_0 : List UInt8 := dkwX3_isType_0 ++ []
theorem dksX3_isType_0 : cX3_isType.data.toList.drop 0 = dktX3_isType_0 := by decide +kernel
theorem dX3_isType_0 : decode cX3_isType 0 = .ok (.iload_n 1, 1) := dk_27 (dk_at dksX3_isType_0 0 rfl rfl)
theorem dX3_isType_1 : decode cX3_isType 1 = .ok (.iconst 0, 1) := dk_3 (dk_at dksX3_isType_0 1 rfl rfl)
theorem dX3_isType_2 : decode cX3_isType 2 = .ok (.aload_n 0, 1) := dk_42 (dk_at dksX3_isType_0 2 rfl rfl)
theorem dX3_isType_3 : decode cX3_isType 3 = .ok (.getfield 7, 3) := dk_180 0 7 (dk_at dksX3_isType_0 3 rfl rfl)
theorem dX3_isType_6 : decode cX3_isType 6 = .ok (.iconst 3, 1) := dk_6 (dk_at dksX3_isType_0 6 rfl rfl)
theorem dX3_isType_7 : decode cX3_isType 7 = .ok (.iaload, 1) := dk_46 (dk_at dksX3_isType_0 7 rfl rfl)
theorem dX3_isType_8 : decode cX3_isType 8 = .ok (.iconst 1, 1) := dk_4 (dk_at dksX3_isType_0 8 rfl rfl)
theorem dX3_isType_9 : decode cX3_isType 9 = .ok (.isub, 1) := dk_100 (dk_at dksX3_isType_0 9 rfl rfl)
theorem dX3_isType_10 : decode cX3_isType 10 = .ok (.invokestatic 90, 3) := dk_184 0 90 (dk_at dksX3_isType_0 10 rfl rfl)
theorem dX3_isType_13 : decode cX3_isType 13 = .ok (.ireturn, 1) := dk_172 (dk_at dksX3_isType_0 13 rfl rfl)
def dkwX3_addDrum_5 : List UInt8 := [17, 1, 98, 46, 4, 100, 172]
abbrev dktX3_addDrum_5 : List UInt8 := dkwX3_addDrum_5 ++ []
def dkwX3_addDrum_4 : List UInt8 := [180, 0, 7, 29, 5, 96, 28, 79, 42, 180, 0, 7, 17, 1, 98, 92, 46, 4, 96, 79, 42, 180, 0, 7]
abbrev dktX3_addDrum_4 : List UInt8 := dkwX3_addDrum_4 ++ dktX3_addDrum_5
def dkwX3_addDrum_3 : List UInt8 := [17, 1, 98, 46, 104, 96, 62, 42, 180, 0, 7, 29, 27, 79, 42, 180, 0, 7, 29, 4, 96, 28, 79, 42]
abbrev dktX3_addDrum_3 : List UInt8 := dkwX3_addDrum_3 ++ dktX3_addDrum_4
def dkwX3_addDrum_2 : List UInt8 := [181, 0, 66, 42, 180, 0, 66, 158, 0, 5, 3, 172, 42, 182, 0, 87, 17, 1, 99, 6, 42, 180, 0, 7]
abbrev dktX3_addDrum_2 : List UInt8 := dkwX3_addDrum_2 ++ dktX3_addDrum_3
def dkwX3_addDrum_1 : List UInt8 := [5, 167, 0, 21, 42, 180, 0, 7, 17, 1, 98, 46, 16, 10, 160, 0, 7, 6, 167, 0, 4, 3]
abbrev dktX3_addDrum_1 : List UInt8 := dkwX3_addDrum_1 ++ dktX3_addDrum_2
def dkwX3_addDrum_0 : List UInt8 := [42, 42, 27, 182, 0, 118, 154, 0, 7, 4, 167, 0, 36, 28, 3, 17, 3, 231, 184, 0, 90, 154, 0, 7]
abbrev dktX3_addDrum_0 : List UInt8 := dkwX3_addDrum_0 ++ dktX3_addDrum_1
theorem dksX3_addDrum_0 : cX3_addDrum.data.toList.drop 0 = dktX3_addDrum_0 := by decide +kernel
theorem dksX3_addDrum_1 : cX3_addDrum.data.toList.drop 24 = dktX3_addDrum_1 := dk_seg dksX3_addDrum_0 24 rfl rfl
theorem dksX3_addDrum_2 : cX3_addDrum.data.toList.drop 46 = dktX3_addDrum_2 := dk_seg dksX3_addDrum_1 22 rfl rfl
theorem dksX3_addDrum_3 : cX3_addDrum.data.toList.drop 70 = dktX3_addDrum_3 := dk_seg dksX3_addDrum_2 24 rfl rfl
theorem dksX3_addDrum_4 : cX3_addDrum.data.toList.drop 94 = dktX3_addDrum_4 := dk_seg dksX3_addDrum_3 24 rfl rfl
theorem dksX3_addDrum_5 : cX3_addDrum.data.toList.drop 118 = dktX3_addDrum_5 := dk_seg dksX3_addDrum_4 24 rfl rfl
theorem dX3_addDrum_0 : decode cX3_addDrum 0 = .ok (.aload_n 0, 1) := dk_42 (dk_at dksX3_addDrum_0 0 rfl rfl)
theorem dX3_addDrum_1 : decode cX3_addDrum 1 = .ok (.aload_n 0, 1) := dk_42 (dk_at dksX3_addDrum_0 1 rfl rfl)
theorem dX3_addDrum_2 : decode cX3_addDrum 2 = .ok (.iload_n 1, 1) := dk_27 (dk_at dksX3_addDrum_0 2 rfl rfl)
theorem dX3_addDrum_3 : decode cX3_addDrum 3 = .ok (.invokevirtual 118, 3) := dk_182 0 118 (dk_at dksX3_addDrum_0 3 rfl rfl)
theorem dX3_addDrum_6 : decode cX3_addDrum 6 = .ok (.ifCond .ne 7, 3) := dk_154 0 7 (dk_at dksX3_addDrum_0 6 rfl rfl)
theorem dX3_addDrum_9 : decode cX3_addDrum 9 = .ok (.iconst 1, 1) := dk_4 (dk_at dksX3_addDrum_0 9 rfl rfl)
theorem dX3_addDrum_10 : decode cX3_addDrum 10 = .ok (.goto 36, 3) := dk_167 0 36 (dk_at dksX3_addDrum_0 10 rfl rfl)
theorem dX3_addDrum_13 : decode cX3_addDrum 13 = .ok (.iload_n 2, 1) := dk_28 (dk_at dksX3_addDrum_0 13 rfl rfl)
theorem dX3_addDrum_14 : decode cX3_addDrum 14 = .ok (.iconst 0, 1) := dk_3 (dk_at dksX3_addDrum_0 14 rfl rfl)
theorem dX3_addDrum_15 : decode cX3_addDrum 15 = .ok (.sipush 999, 3) := dk_17 3 231 (dk_at dksX3_addDrum_0 15 rfl rfl)
theorem dX3_addDrum_18 : decode cX3_addDrum 18 = .ok (.invokestatic 90, 3) := dk_184 0 90 (dk_at dksX3_addDrum_0 18 rfl rfl)
theorem dX3_addDrum_21 : decode cX3_addDrum 21 = .ok (.ifCond .ne 7, 3) := dk_154 0 7 (dk_at dksX3_addDrum_0 21 rfl rfl)
theorem dX3_addDrum_24 : decode cX3_addDrum 24 = .ok (.iconst 2, 1) := dk_5 (dk_at dksX3_addDrum_1 0 rfl rfl)
theorem dX3_addDrum_25 : decode cX3_addDrum 25 = .ok (.goto 21, 3) := dk_167 0 21 (dk_at dksX3_addDrum_1 1 rfl rfl)
theorem dX3_addDrum_28 : decode cX3_addDrum 28 = .ok (.aload_n 0, 1) := dk_42 (dk_at dksX3_addDrum_1 4 rfl rfl)
theorem dX3_addDrum_29 : decode cX3_addDrum 29 = .ok (.getfield 7, 3) := dk_180 0 7 (dk_at dksX3_addDrum_1 5 rfl rfl)
theorem dX3_addDrum_32 : decode cX3_addDrum 32 = .ok (.sipush 354, 3) := dk_17 1 98 (dk_at dksX3_addDrum_1 8 rfl rfl)
theorem dX3_addDrum_35 : decode cX3_addDrum 35 = .ok (.iaload, 1) := dk_46 (dk_at dksX3_addDrum_1 11 rfl rfl)
theorem dX3_addDrum_36 : decode cX3_addDrum 36 = .ok (.bipush 10, 2) := dk_16 10 (dk_at dksX3_addDrum_1 12 rfl rfl)
theorem dX3_addDrum_38 : decode cX3_addDrum 38 = .ok (.if_icmp .ne 7, 3) := dk_160 0 7 (dk_at dksX3_addDrum_1 14 rfl rfl)
theorem dX3_addDrum_41 : decode cX3_addDrum 41 = .ok (.iconst 3, 1) := dk_6 (dk_at dksX3_addDrum_1 17 rfl rfl)
theorem dX3_addDrum_42 : decode cX3_addDrum 42 = .ok (.goto 4, 3) := dk_167 0 4 (dk_at dksX3_addDrum_1 18 rfl rfl)
theorem dX3_addDrum_45 : decode cX3_addDrum 45 = .ok (.iconst 0, 1) := dk_3 (dk_at dksX3_addDrum_1 21 rfl rfl)
theorem dX3_addDrum_46 : decode cX3_addDrum 46 = .ok (.putfield 66, 3) := dk_181 0 66 (dk_at dksX3_addDrum_2 0 rfl rfl)
theorem dX3_addDrum_49 : decode cX3_addDrum 49 = .ok (.aload_n 0, 1) := dk_42 (dk_at dksX3_addDrum_2 3 rfl rfl)
theorem dX3_addDrum_50 : decode cX3_addDrum 50 = .ok (.getfield 66, 3) := dk_180 0 66 (dk_at dksX3_addDrum_2 4 rfl rfl)
theorem dX3_addDrum_53 : decode cX3_addDrum 53 = .ok (.ifCond .le 5, 3) := dk_158 0 5 (dk_at dksX3_addDrum_2 7 rfl rfl)
theorem dX3_addDrum_56 : decode cX3_addDrum 56 = .ok (.iconst 0, 1) := dk_3 (dk_at dksX3_addDrum_2 10 rfl rfl)
theorem dX3_addDrum_57 : decode cX3_addDrum 57 = .ok (.ireturn, 1) := dk_172 (dk_at dksX3_addDrum_2 11 rfl rfl)
theorem dX3_addDrum_58 : decode cX3_addDrum 58 = .ok (.aload_n 0, 1) := dk_42 (dk_at dksX3_addDrum_2 12 rfl rfl)
theorem dX3_addDrum_59 : decode cX3_addDrum 59 = .ok (.invokevirtual 87, 3) := dk_182 0 87 (dk_at dksX3_addDrum_2 13 rfl rfl)
theorem dX3_addDrum_62 : decode cX3_addDrum 62 = .ok (.sipush 355, 3) := dk_17 1 99 (dk_at dksX3_addDrum_2 16 rfl rfl)
theorem dX3_addDrum_65 : decode cX3_addDrum 65 = .ok (.iconst 3, 1) := dk_6 (dk_at dksX3_addDrum_2 19 rfl rfl)
theorem dX3_addDrum_66 : decode cX3_addDrum 66 = .ok (.aload_n 0, 1) := dk_42 (dk_at dksX3_addDrum_2 20 rfl rfl)
theorem dX3_addDrum_67 : decode cX3_addDrum 67 = .ok (.getfield 7, 3) := dk_180 0 7 (dk_at dksX3_addDrum_2 21 rfl rfl)
theorem dX3_addDrum_70 : decode cX3_addDrum 70 = .ok (.sipush 354, 3) := dk_17 1 98 (dk_at dksX3_addDrum_3 0 rfl rfl)
theorem dX3_addDrum_73 : decode cX3_addDrum 73 = .ok (.iaload, 1) := dk_46 (dk_at dksX3_addDrum_3 3 rfl rfl)
theorem dX3_addDrum_74 : decode cX3_addDrum 74 = .ok (.imul, 1) := dk_104 (dk_at dksX3_addDrum_3 4 rfl rfl)
theorem dX3_addDrum_75 : decode cX3_addDrum 75 = .ok (.iadd, 1) := dk_96 (dk_at dksX3_addDrum_3 5 rfl rfl)
theorem dX3_addDrum_76 : decode cX3_addDrum 76 = .ok (.istore_n 3, 1) := dk_62 (dk_at dksX3_addDrum_3 6 rfl rfl)
theorem dX3_addDrum_77 : decode cX3_addDrum 77 = .ok (.aload_n 0, 1) := dk_42 (dk_at dksX3_addDrum_3 7 rfl rfl)
theorem dX3_addDrum_78 : decode cX3_addDrum 78 = .ok (.getfield 7, 3) := dk_180 0 7 (dk_at dksX3_addDrum_3 8 rfl rfl)
theorem dX3_addDrum_81 : decode cX3_addDrum 81 = .ok (.iload_n 3, 1) := dk_29 (dk_at dksX3_addDrum_3 11 rfl rfl)
theorem dX3_addDrum_82 : decode cX3_addDrum 82 = .ok (.iload_n 1, 1) := dk_27 (dk_at dksX3_addDrum_3 12 rfl rfl)
theorem dX3_addDrum_83 : decode cX3_addDrum 83 = .ok (.iastore, 1) := dk_79 (dk_at dksX3_addDrum_3 13 rfl rfl)
theorem dX3_addDrum_84 : decode cX3_addDrum 84 = .ok (.aload_n 0, 1) := dk_42 (dk_at dksX3_addDrum_3 14 rfl rfl)
theorem dX3_addDrum_85 : decode cX3_addDrum 85 = .ok (.getfield 7, 3) := dk_180 0 7 (dk_at dksX3_addDrum_3 15 rfl rfl)
theorem dX3_addDrum_88 : decode cX3_addDrum 88 = .ok (.iload_n 3, 1) := dk_29 (dk_at dksX3_addDrum_3 18 rfl rfl)
theorem dX3_addDrum_89 : decode cX3_addDrum 89 = .ok (.iconst 1, 1) := dk_4 (dk_at dksX3_addDrum_3 19 rfl rfl)
theorem dX3_addDrum_90 : decode cX3_addDrum 90 = .ok (.iadd, 1) := dk_96 (dk_at dksX3_addDrum_3 20 rfl rfl)
theorem dX3_addDrum_91 : decode cX3_addDrum 91 = .ok (.iload_n 2, 1) := dk_28 (dk_at dksX3_addDrum_3 21 rfl rfl)
theorem dX3_addDrum_92 : decode cX3_addDrum 92 = .ok (.iastore, 1) := dk_79 (dk_at dksX3_addDrum_3 22 rfl rfl)
theorem dX3_addDrum_93 : decode cX3_addDrum 93 = .ok (.aload_n 0, 1) := dk_42 (dk_at dksX3_addDrum_3 23 rfl rfl)
theorem dX3_addDrum_94 : decode cX3_addDrum 94 = .ok (.getfield 7, 3) := dk_180 0 7 (dk_at dksX3_addDrum_4 0 rfl rfl)
theorem dX3_addDrum_97 : decode cX3_addDrum 97 = .ok (.iload_n 3, 1) := dk_29 (dk_at dksX3_addDrum_4 3 rfl rfl)
theorem dX3_addDrum_98 : decode cX3_addDrum 98 = .ok (.iconst 2, 1) := dk_5 (dk_at dksX3_addDrum_4 4 rfl rfl)
theorem dX3_addDrum_99 : decode cX3_addDrum 99 = .ok (.iadd, 1) := dk_96 (dk_at dksX3_addDrum_4 5 rfl rfl)
theorem dX3_addDrum_100 : decode cX3_addDrum 100 = .ok (.iload_n 2, 1) := dk_28 (dk_at dksX3_addDrum_4 6 rfl rfl)
theorem dX3_addDrum_101 : decode cX3_addDrum 101 = .ok (.iastore, 1) := dk_79 (dk_at dksX3_addDrum_4 7 rfl rfl)
theorem dX3_addDrum_102 : decode cX3_addDrum 102 = .ok (.aload_n 0, 1) := dk_42 (dk_at dksX3_addDrum_4 8 rfl rfl)
theorem dX3_addDrum_103 : decode cX3_addDrum 103 = .ok (.getfield 7, 3) := dk_180 0 7 (dk_at dksX3_addDrum_4 9 rfl rfl)
theorem dX3_addDrum_106 : decode cX3_addDrum 106 = .ok (.sipush 354, 3) := dk_17 1 98 (dk_at dksX3_addDrum_4 12 rfl rfl)
theorem dX3_addDrum_109 : decode cX3_addDrum 109 = .ok (.dup2, 1) := dk_92 (dk_at dksX3_addDrum_4 15 rfl rfl)
theorem dX3_addDrum_110 : decode cX3_addDrum 110 = .ok (.iaload, 1) := dk_46 (dk_at dksX3_addDrum_4 16 rfl rfl)
theorem dX3_addDrum_111 : decode cX3_addDrum 111 = .ok (.iconst 1, 1) := dk_4 (dk_at dksX3_addDrum_4 17 rfl rfl)
theorem dX3_addDrum_112 : decode cX3_addDrum 112 = .ok (.iadd, 1) := dk_96 (dk_at dksX3_addDrum_4 18 rfl rfl)
theorem dX3_addDrum_113 : decode cX3_addDrum 113 = .ok (.iastore, 1) := dk_79 (dk_at dksX3_addDrum_4 19 rfl rfl)
theorem dX3_addDrum_114 : decode cX3_addDrum 114 = .ok (.aload_n 0, 1) := dk_42 (dk_at dksX3_addDrum_4 20 rfl rfl)
theorem dX3_addDrum_115 : decode cX3_addDrum 115 = .ok (.getfield 7, 3) := dk_180 0 7 (dk_at dksX3_addDrum_4 21 rfl rfl)
theorem dX3_addDrum_118 : decode cX3_addDrum 118 = .ok (.sipush 354, 3) := dk_17 1 98 (dk_at dksX3_addDrum_5 0 rfl rfl)
theorem dX3_addDrum_121 : decode cX3_addDrum 121 = .ok (.iaload, 1) := dk_46 (dk_at dksX3_addDrum_5 3 rfl rfl)
theorem dX3_addDrum_122 : decode cX3_addDrum 122 = .ok (.iconst 1, 1) := dk_4 (dk_at dksX3_addDrum_5 4 rfl rfl)
theorem dX3_addDrum_123 : decode cX3_addDrum 123 = .ok (.isub, 1) := dk_100 (dk_at dksX3_addDrum_5 5 rfl rfl)
theorem dX3_addDrum_124 : decode cX3_addDrum 124 = .ok (.ireturn, 1) := dk_172 (dk_at dksX3_addDrum_5 6 rfl rfl)
def dkwX3_fits_2 : List UInt8 := [172]
abbrev dktX3_fits_2 : List UInt8 := dkwX3_fits_2 ++ []
def dkwX3_fits_1 : List UInt8 := [181, 0, 66, 42, 180, 0, 66, 154, 0, 16, 42, 27, 28, 182, 0, 142, 155, 0, 7, 4, 167, 0, 4, 3]
abbrev dktX3_fits_1 : List UInt8 := dkwX3_fits_1 ++ dktX3_fits_2
def dkwX3_fits_0 : List UInt8 := [42, 42, 27, 182, 0, 111, 153, 0, 15, 42, 28, 182, 0, 118, 153, 0, 7, 3, 167, 0, 4, 4]
abbrev dktX3_fits_0 : List UInt8 := dkwX3_fits_0 ++ dktX3_fits_1
theorem dksX3_fits_0 : cX3_fits.data.toList.drop 0 = dktX3_fits_0 := by decide +kernel
theorem dksX3_fits_1 : cX3_fits.data.toList.drop 22 = dktX3_fits_1 := dk_seg dksX3_fits_0 22 rfl rfl
theorem dksX3_fits_2 : cX3_fits.data.toList.drop 46 = dktX3_fits_2 := dk_seg dksX3_fits_1 24 rfl rfl
theorem dX3_fits_0 : decode cX3_fits 0 = .ok (.aload_n 0, 1) := dk_42 (dk_at dksX3_fits_0 0 rfl rfl)
theorem dX3_fits_1 : decode cX3_fits 1 = .ok (.aload_n 0, 1) := dk_42 (dk_at dksX3_fits_0 1 rfl rfl)
theorem dX3_fits_2 : decode cX3_fits 2 = .ok (.iload_n 1, 1) := dk_27 (dk_at dksX3_fits_0 2 rfl rfl)
theorem dX3_fits_3 : decode cX3_fits 3 = .ok (.invokevirtual 111, 3) := dk_182 0 111 (dk_at dksX3_fits_0 3 rfl rfl)
theorem dX3_fits_6 : decode cX3_fits 6 = .ok (.ifCond .eq 15, 3) := dk_153 0 15 (dk_at dksX3_fits_0 6 rfl rfl)
theorem dX3_fits_9 : decode cX3_fits 9 = .ok (.aload_n 0, 1) := dk_42 (dk_at dksX3_fits_0 9 rfl rfl)
theorem dX3_fits_10 : decode cX3_fits 10 = .ok (.iload_n 2, 1) := dk_28 (dk_at dksX3_fits_0 10 rfl rfl)
theorem dX3_fits_11 : decode cX3_fits 11 = .ok (.invokevirtual 118, 3) := dk_182 0 118 (dk_at dksX3_fits_0 11 rfl rfl)
theorem dX3_fits_14 : decode cX3_fits 14 = .ok (.ifCond .eq 7, 3) := dk_153 0 7 (dk_at dksX3_fits_0 14 rfl rfl)
theorem dX3_fits_17 : decode cX3_fits 17 = .ok (.iconst 0, 1) := dk_3 (dk_at dksX3_fits_0 17 rfl rfl)
theorem dX3_fits_18 : decode cX3_fits 18 = .ok (.goto 4, 3) := dk_167 0 4 (dk_at dksX3_fits_0 18 rfl rfl)
theorem dX3_fits_21 : decode cX3_fits 21 = .ok (.iconst 1, 1) := dk_4 (dk_at dksX3_fits_0 21 rfl rfl)
theorem dX3_fits_22 : decode cX3_fits 22 = .ok (.putfield 66, 3) := dk_181 0 66 (dk_at dksX3_fits_1 0 rfl rfl)
theorem dX3_fits_25 : decode cX3_fits 25 = .ok (.aload_n 0, 1) := dk_42 (dk_at dksX3_fits_1 3 rfl rfl)
theorem dX3_fits_26 : decode cX3_fits 26 = .ok (.getfield 66, 3) := dk_180 0 66 (dk_at dksX3_fits_1 4 rfl rfl)
theorem dX3_fits_29 : decode cX3_fits 29 = .ok (.ifCond .ne 16, 3) := dk_154 0 16 (dk_at dksX3_fits_1 7 rfl rfl)
theorem dX3_fits_32 : decode cX3_fits 32 = .ok (.aload_n 0, 1) := dk_42 (dk_at dksX3_fits_1 10 rfl rfl)
theorem dX3_fits_33 : decode cX3_fits 33 = .ok (.iload_n 1, 1) := dk_27 (dk_at dksX3_fits_1 11 rfl rfl)
theorem dX3_fits_34 : decode cX3_fits 34 = .ok (.iload_n 2, 1) := dk_28 (dk_at dksX3_fits_1 12 rfl rfl)
theorem dX3_fits_35 : decode cX3_fits 35 = .ok (.invokevirtual 142, 3) := dk_182 0 142 (dk_at dksX3_fits_1 13 rfl rfl)
theorem dX3_fits_38 : decode cX3_fits 38 = .ok (.ifCond .lt 7, 3) := dk_155 0 7 (dk_at dksX3_fits_1 16 rfl rfl)
theorem dX3_fits_41 : decode cX3_fits 41 = .ok (.iconst 1, 1) := dk_4 (dk_at dksX3_fits_1 19 rfl rfl)
theorem dX3_fits_42 : decode cX3_fits 42 = .ok (.goto 4, 3) := dk_167 0 4 (dk_at dksX3_fits_1 20 rfl rfl)
theorem dX3_fits_45 : decode cX3_fits 45 = .ok (.iconst 0, 1) := dk_3 (dk_at dksX3_fits_1 23 rfl rfl)
theorem dX3_fits_46 : decode cX3_fits 46 = .ok (.ireturn, 1) := dk_172 (dk_at dksX3_fits_2 0 rfl rfl)
def dkwX3_placeIn_5 : List UInt8 := [163, 0, 6, 21, 4, 172, 132, 4, 1, 167, 255, 197, 29, 172]
abbrev dktX3_placeIn_5 : List UInt8 := dkwX3_placeIn_5 ++ []
def dkwX3_placeIn_4 : List UInt8 := [21, 4, 182, 0, 133, 42, 28, 182, 0, 127, 96, 42, 27, 182, 0, 124, 42, 27, 182, 0, 136, 100]
abbrev dktX3_placeIn_4 : List UInt8 := dkwX3_placeIn_4 ++ dktX3_placeIn_5
def dkwX3_placeIn_3 : List UInt8 := [182, 0, 121, 162, 0, 54, 42, 27, 21, 4, 182, 0, 139, 42, 28, 182, 0, 130, 160, 0, 33, 42, 27]
abbrev dktX3_placeIn_3 : List UInt8 := dkwX3_placeIn_3 ++ dktX3_placeIn_4
def dkwX3_placeIn_2 : List UInt8 := [182, 0, 139, 156, 0, 6, 21, 4, 62, 132, 4, 255, 167, 255, 208, 3, 54, 4, 21, 4, 42, 27, 7]
abbrev dktX3_placeIn_2 : List UInt8 := dkwX3_placeIn_2 ++ dktX3_placeIn_3
def dkwX3_placeIn_1 : List UInt8 := [42, 28, 182, 0, 127, 96, 42, 27, 182, 0, 124, 42, 27, 182, 0, 136, 100, 163, 0, 16, 42, 27, 21, 4]
abbrev dktX3_placeIn_1 : List UInt8 := dkwX3_placeIn_1 ++ dktX3_placeIn_2
def dkwX3_placeIn_0 : List UInt8 := [2, 62, 42, 27, 7, 182, 0, 121, 4, 100, 54, 4, 21, 4, 155, 0, 49, 42, 27, 21, 4, 182, 0, 133]
abbrev dktX3_placeIn_0 : List UInt8 := dkwX3_placeIn_0 ++ dktX3_placeIn_1
theorem dksX3_placeIn_0 : cX3_placeIn.data.toList.drop 0 = dktX3_placeIn_0 := by decide +kernel
theorem dksX3_placeIn_1 : cX3_placeIn.data.toList.drop 24 = dktX3_placeIn_1 := dk_seg dksX3_placeIn_0 24 rfl rfl
theorem dksX3_placeIn_2 : cX3_placeIn.data.toList.drop 48 = dktX3_placeIn_2 := dk_seg dksX3_placeIn_1 24 rfl rfl
theorem dksX3_placeIn_3 : cX3_placeIn.data.toList.drop 71 = dktX3_placeIn_3 := dk_seg dksX3_placeIn_2 23 rfl rfl
theorem dksX3_placeIn_4 : cX3_placeIn.data.toList.drop 94 = dktX3_placeIn_4 := dk_seg dksX3_placeIn_3 23 rfl rfl
theorem dksX3_placeIn_5 : cX3_placeIn.data.toList.drop 116 = dktX3_placeIn_5 := dk_seg dksX3_placeIn_4 22 rfl rfl
theorem dX3_placeIn_0 : decode cX3_placeIn 0 = .ok (.iconst (-1), 1) := dk_2 (dk_at dksX3_placeIn_0 0 rfl rfl)
theorem dX3_placeIn_1 : decode cX3_placeIn 1 = .ok (.istore_n 3, 1) := dk_62 (dk_at dksX3_placeIn_0 1 rfl rfl)
theorem dX3_placeIn_2 : decode cX3_placeIn 2 = .ok (.aload_n 0, 1) := dk_42 (dk_at dksX3_placeIn_0 2 rfl rfl)
theorem dX3_placeIn_3 : decode cX3_placeIn 3 = .ok (.iload_n 1, 1) := dk_27 (dk_at dksX3_placeIn_0 3 rfl rfl)
theorem dX3_placeIn_4 : decode cX3_placeIn 4 = .ok (.iconst 4, 1) := dk_7 (dk_at dksX3_placeIn_0 4 rfl rfl)
theorem dX3_placeIn_5 : decode cX3_placeIn 5 = .ok (.invokevirtual 121, 3) := dk_182 0 121 (dk_at dksX3_placeIn_0 5 rfl rfl)
theorem dX3_placeIn_8 : decode cX3_placeIn 8 = .ok (.iconst 1, 1) := dk_4 (dk_at dksX3_placeIn_0 8 rfl rfl)
theorem dX3_placeIn_9 : decode cX3_placeIn 9 = .ok (.isub, 1) := dk_100 (dk_at dksX3_placeIn_0 9 rfl rfl)
theorem dX3_placeIn_10 : decode cX3_placeIn 10 = .ok (.istore 4, 2) := dk_54 4 (dk_at dksX3_placeIn_0 10 rfl rfl)
theorem dX3_placeIn_12 : decode cX3_placeIn 12 = .ok (.iload 4, 2) := dk_21 4 (dk_at dksX3_placeIn_0 12 rfl rfl)
theorem dX3_placeIn_14 : decode cX3_placeIn 14 = .ok (.ifCond .lt 49, 3) := dk_155 0 49 (dk_at dksX3_placeIn_0 14 rfl rfl)
theorem dX3_placeIn_17 : decode cX3_placeIn 17 = .ok (.aload_n 0, 1) := dk_42 (dk_at dksX3_placeIn_0 17 rfl rfl)
theorem dX3_placeIn_18 : decode cX3_placeIn 18 = .ok (.iload_n 1, 1) := dk_27 (dk_at dksX3_placeIn_0 18 rfl rfl)
theorem dX3_placeIn_19 : decode cX3_placeIn 19 = .ok (.iload 4, 2) := dk_21 4 (dk_at dksX3_placeIn_0 19 rfl rfl)
theorem dX3_placeIn_21 : decode cX3_placeIn 21 = .ok (.invokevirtual 133, 3) := dk_182 0 133 (dk_at dksX3_placeIn_0 21 rfl rfl)
theorem dX3_placeIn_24 : decode cX3_placeIn 24 = .ok (.aload_n 0, 1) := dk_42 (dk_at dksX3_placeIn_1 0 rfl rfl)
theorem dX3_placeIn_25 : decode cX3_placeIn 25 = .ok (.iload_n 2, 1) := dk_28 (dk_at dksX3_placeIn_1 1 rfl rfl)
theorem dX3_placeIn_26 : decode cX3_placeIn 26 = .ok (.invokevirtual 127, 3) := dk_182 0 127 (dk_at dksX3_placeIn_1 2 rfl rfl)
theorem dX3_placeIn_29 : decode cX3_placeIn 29 = .ok (.iadd, 1) := dk_96 (dk_at dksX3_placeIn_1 5 rfl rfl)
theorem dX3_placeIn_30 : decode cX3_placeIn 30 = .ok (.aload_n 0, 1) := dk_42 (dk_at dksX3_placeIn_1 6 rfl rfl)
theorem dX3_placeIn_31 : decode cX3_placeIn 31 = .ok (.iload_n 1, 1) := dk_27 (dk_at dksX3_placeIn_1 7 rfl rfl)
theorem dX3_placeIn_32 : decode cX3_placeIn 32 = .ok (.invokevirtual 124, 3) := dk_182 0 124 (dk_at dksX3_placeIn_1 8 rfl rfl)
theorem dX3_placeIn_35 : decode cX3_placeIn 35 = .ok (.aload_n 0, 1) := dk_42 (dk_at dksX3_placeIn_1 11 rfl rfl)
theorem dX3_placeIn_36 : decode cX3_placeIn 36 = .ok (.iload_n 1, 1) := dk_27 (dk_at dksX3_placeIn_1 12 rfl rfl)
theorem dX3_placeIn_37 : decode cX3_placeIn 37 = .ok (.invokevirtual 136, 3) := dk_182 0 136 (dk_at dksX3_placeIn_1 13 rfl rfl)
theorem dX3_placeIn_40 : decode cX3_placeIn 40 = .ok (.isub, 1) := dk_100 (dk_at dksX3_placeIn_1 16 rfl rfl)
theorem dX3_placeIn_41 : decode cX3_placeIn 41 = .ok (.if_icmp .gt 16, 3) := dk_163 0 16 (dk_at dksX3_placeIn_1 17 rfl rfl)
theorem dX3_placeIn_44 : decode cX3_placeIn 44 = .ok (.aload_n 0, 1) := dk_42 (dk_at dksX3_placeIn_1 20 rfl rfl)
theorem dX3_placeIn_45 : decode cX3_placeIn 45 = .ok (.iload_n 1, 1) := dk_27 (dk_at dksX3_placeIn_1 21 rfl rfl)
theorem dX3_placeIn_46 : decode cX3_placeIn 46 = .ok (.iload 4, 2) := dk_21 4 (dk_at dksX3_placeIn_1 22 rfl rfl)
theorem dX3_placeIn_48 : decode cX3_placeIn 48 = .ok (.invokevirtual 139, 3) := dk_182 0 139 (dk_at dksX3_placeIn_2 0 rfl rfl)
theorem dX3_placeIn_51 : decode cX3_placeIn 51 = .ok (.ifCond .ge 6, 3) := dk_156 0 6 (dk_at dksX3_placeIn_2 3 rfl rfl)
theorem dX3_placeIn_54 : decode cX3_placeIn 54 = .ok (.iload 4, 2) := dk_21 4 (dk_at dksX3_placeIn_2 6 rfl rfl)
theorem dX3_placeIn_56 : decode cX3_placeIn 56 = .ok (.istore_n 3, 1) := dk_62 (dk_at dksX3_placeIn_2 8 rfl rfl)
theorem dX3_placeIn_57 : decode cX3_placeIn 57 = .ok (.iinc 4 (-1), 3) := dk_132 4 255 (dk_at dksX3_placeIn_2 9 rfl rfl)
theorem dX3_placeIn_60 : decode cX3_placeIn 60 = .ok (.goto (-48), 3) := dk_167 255 208 (dk_at dksX3_placeIn_2 12 rfl rfl)
theorem dX3_placeIn_63 : decode cX3_placeIn 63 = .ok (.iconst 0, 1) := dk_3 (dk_at dksX3_placeIn_2 15 rfl rfl)
theorem dX3_placeIn_64 : decode cX3_placeIn 64 = .ok (.istore 4, 2) := dk_54 4 (dk_at dksX3_placeIn_2 16 rfl rfl)
theorem dX3_placeIn_66 : decode cX3_placeIn 66 = .ok (.iload 4, 2) := dk_21 4 (dk_at dksX3_placeIn_2 18 rfl rfl)
theorem dX3_placeIn_68 : decode cX3_placeIn 68 = .ok (.aload_n 0, 1) := dk_42 (dk_at dksX3_placeIn_2 20 rfl rfl)
theorem dX3_placeIn_69 : decode cX3_placeIn 69 = .ok (.iload_n 1, 1) := dk_27 (dk_at dksX3_placeIn_2 21 rfl rfl)
theorem dX3_placeIn_70 : decode cX3_placeIn 70 = .ok (.iconst 4, 1) := dk_7 (dk_at dksX3_placeIn_2 22 rfl rfl)
theorem dX3_placeIn_71 : decode cX3_placeIn 71 = .ok (.invokevirtual 121, 3) := dk_182 0 121 (dk_at dksX3_placeIn_3 0 rfl rfl)
theorem dX3_placeIn_74 : decode cX3_placeIn 74 = .ok (.if_icmp .ge 54, 3) := dk_162 0 54 (dk_at dksX3_placeIn_3 3 rfl rfl)
theorem dX3_placeIn_77 : decode cX3_placeIn 77 = .ok (.aload_n 0, 1) := dk_42 (dk_at dksX3_placeIn_3 6 rfl rfl)
theorem dX3_placeIn_78 : decode cX3_placeIn 78 = .ok (.iload_n 1, 1) := dk_27 (dk_at dksX3_placeIn_3 7 rfl rfl)
theorem dX3_placeIn_79 : decode cX3_placeIn 79 = .ok (.iload 4, 2) := dk_21 4 (dk_at dksX3_placeIn_3 8 rfl rfl)
theorem dX3_placeIn_81 : decode cX3_placeIn 81 = .ok (.invokevirtual 139, 3) := dk_182 0 139 (dk_at dksX3_placeIn_3 10 rfl rfl)
theorem dX3_placeIn_84 : decode cX3_placeIn 84 = .ok (.aload_n 0, 1) := dk_42 (dk_at dksX3_placeIn_3 13 rfl rfl)
theorem dX3_placeIn_85 : decode cX3_placeIn 85 = .ok (.iload_n 2, 1) := dk_28 (dk_at dksX3_placeIn_3 14 rfl rfl)
theorem dX3_placeIn_86 : decode cX3_placeIn 86 = .ok (.invokevirtual 130, 3) := dk_182 0 130 (dk_at dksX3_placeIn_3 15 rfl rfl)
theorem dX3_placeIn_89 : decode cX3_placeIn 89 = .ok (.if_icmp .ne 33, 3) := dk_160 0 33 (dk_at dksX3_placeIn_3 18 rfl rfl)
theorem dX3_placeIn_92 : decode cX3_placeIn 92 = .ok (.aload_n 0, 1) := dk_42 (dk_at dksX3_placeIn_3 21 rfl rfl)
theorem dX3_placeIn_93 : decode cX3_placeIn 93 = .ok (.iload_n 1, 1) := dk_27 (dk_at dksX3_placeIn_3 22 rfl rfl)
theorem dX3_placeIn_94 : decode cX3_placeIn 94 = .ok (.iload 4, 2) := dk_21 4 (dk_at dksX3_placeIn_4 0 rfl rfl)
theorem dX3_placeIn_96 : decode cX3_placeIn 96 = .ok (.invokevirtual 133, 3) := dk_182 0 133 (dk_at dksX3_placeIn_4 2 rfl rfl)
theorem dX3_placeIn_99 : decode cX3_placeIn 99 = .ok (.aload_n 0, 1) := dk_42 (dk_at dksX3_placeIn_4 5 rfl rfl)
theorem dX3_placeIn_100 : decode cX3_placeIn 100 = .ok (.iload_n 2, 1) := dk_28 (dk_at dksX3_placeIn_4 6 rfl rfl)
theorem dX3_placeIn_101 : decode cX3_placeIn 101 = .ok (.invokevirtual 127, 3) := dk_182 0 127 (dk_at dksX3_placeIn_4 7 rfl rfl)
theorem dX3_placeIn_104 : decode cX3_placeIn 104 = .ok (.iadd, 1) := dk_96 (dk_at dksX3_placeIn_4 10 rfl rfl)
theorem dX3_placeIn_105 : decode cX3_placeIn 105 = .ok (.aload_n 0, 1) := dk_42 (dk_at dksX3_placeIn_4 11 rfl rfl)
theorem dX3_placeIn_106 : decode cX3_placeIn 106 = .ok (.iload_n 1, 1) := dk_27 (dk_at dksX3_placeIn_4 12 rfl rfl)
theorem dX3_placeIn_107 : decode cX3_placeIn 107 = .ok (.invokevirtual 124, 3) := dk_182 0 124 (dk_at dksX3_placeIn_4 13 rfl rfl)
theorem dX3_placeIn_110 : decode cX3_placeIn 110 = .ok (.aload_n 0, 1) := dk_42 (dk_at dksX3_placeIn_4 16 rfl rfl)
theorem dX3_placeIn_111 : decode cX3_placeIn 111 = .ok (.iload_n 1, 1) := dk_27 (dk_at dksX3_placeIn_4 17 rfl rfl)
theorem dX3_placeIn_112 : decode cX3_placeIn 112 = .ok (.invokevirtual 136, 3) := dk_182 0 136 (dk_at dksX3_placeIn_4 18 rfl rfl)
theorem dX3_placeIn_115 : decode cX3_placeIn 115 = .ok (.isub, 1) := dk_100 (dk_at dksX3_placeIn_4 21 rfl rfl)
theorem dX3_placeIn_116 : decode cX3_placeIn 116 = .ok (.if_icmp .gt 6, 3) := dk_163 0 6 (dk_at dksX3_placeIn_5 0 rfl rfl)
theorem dX3_placeIn_119 : decode cX3_placeIn 119 = .ok (.iload 4, 2) := dk_21 4 (dk_at dksX3_placeIn_5 3 rfl rfl)
theorem dX3_placeIn_121 : decode cX3_placeIn 121 = .ok (.ireturn, 1) := dk_172 (dk_at dksX3_placeIn_5 5 rfl rfl)
theorem dX3_placeIn_122 : decode cX3_placeIn 122 = .ok (.iinc 4 1, 3) := dk_132 4 1 (dk_at dksX3_placeIn_5 6 rfl rfl)
theorem dX3_placeIn_125 : decode cX3_placeIn 125 = .ok (.goto (-59), 3) := dk_167 255 197 (dk_at dksX3_placeIn_5 9 rfl rfl)
theorem dX3_placeIn_128 : decode cX3_placeIn 128 = .ok (.iload_n 3, 1) := dk_29 (dk_at dksX3_placeIn_5 12 rfl rfl)
theorem dX3_placeIn_129 : decode cX3_placeIn 129 = .ok (.ireturn, 1) := dk_172 (dk_at dksX3_placeIn_5 13 rfl rfl)
def dkwX3_trayTold_0 : List UInt8 := [42, 180, 0, 7, 16, 41, 8, 27, 104, 96, 28, 96, 46, 172]
abbrev dktX3_trayTold_0 : List UInt8 := dkwX3_trayTold_0 ++ []
theorem dksX3_trayTold_0 : cX3_trayTold.data.toList.drop 0 = dktX3_trayTold_0 := by decide +kernel
theorem dX3_trayTold_0 : decode cX3_trayTold 0 = .ok (.aload_n 0, 1) := dk_42 (dk_at dksX3_trayTold_0 0 rfl rfl)
theorem dX3_trayTold_1 : decode cX3_trayTold 1 = .ok (.getfield 7, 3) := dk_180 0 7 (dk_at dksX3_trayTold_0 1 rfl rfl)
theorem dX3_trayTold_4 : decode cX3_trayTold 4 = .ok (.bipush 41, 2) := dk_16 41 (dk_at dksX3_trayTold_0 4 rfl rfl)
theorem dX3_trayTold_6 : decode cX3_trayTold 6 = .ok (.iconst 5, 1) := dk_8 (dk_at dksX3_trayTold_0 6 rfl rfl)
theorem dX3_trayTold_7 : decode cX3_trayTold 7 = .ok (.iload_n 1, 1) := dk_27 (dk_at dksX3_trayTold_0 7 rfl rfl)
theorem dX3_trayTold_8 : decode cX3_trayTold 8 = .ok (.imul, 1) := dk_104 (dk_at dksX3_trayTold_0 8 rfl rfl)
theorem dX3_trayTold_9 : decode cX3_trayTold 9 = .ok (.iadd, 1) := dk_96 (dk_at dksX3_trayTold_0 9 rfl rfl)
theorem dX3_trayTold_10 : decode cX3_trayTold 10 = .ok (.iload_n 2, 1) := dk_28 (dk_at dksX3_trayTold_0 10 rfl rfl)
theorem dX3_trayTold_11 : decode cX3_trayTold 11 = .ok (.iadd, 1) := dk_96 (dk_at dksX3_trayTold_0 11 rfl rfl)
theorem dX3_trayTold_12 : decode cX3_trayTold 12 = .ok (.iaload, 1) := dk_46 (dk_at dksX3_trayTold_0 12 rfl rfl)
theorem dX3_trayTold_13 : decode cX3_trayTold 13 = .ok (.ireturn, 1) := dk_172 (dk_at dksX3_trayTold_0 13 rfl rfl)
def dkwX3_areaIn_2 : List UInt8 := [42, 21, 4, 3, 182, 0, 105, 182, 0, 127, 167, 0, 4, 3, 96, 62, 132, 4, 1, 167, 255, 194, 29, 172]
abbrev dktX3_areaIn_2 : List UInt8 := dkwX3_areaIn_2 ++ []
def dkwX3_areaIn_1 : List UInt8 := [54, 5, 29, 21, 5, 155, 0, 32, 42, 21, 4, 16, 14, 21, 5, 96, 182, 0, 105, 28, 160, 0, 17, 42]
abbrev dktX3_areaIn_1 : List UInt8 := dkwX3_areaIn_1 ++ dktX3_areaIn_2
def dkwX3_areaIn_0 : List UInt8 := [3, 62, 3, 54, 4, 21, 4, 42, 180, 0, 7, 16, 101, 46, 162, 0, 56, 42, 21, 4, 27, 182, 0, 108]
abbrev dktX3_areaIn_0 : List UInt8 := dkwX3_areaIn_0 ++ dktX3_areaIn_1
theorem dksX3_areaIn_0 : cX3_areaIn.data.toList.drop 0 = dktX3_areaIn_0 := by decide +kernel
theorem dksX3_areaIn_1 : cX3_areaIn.data.toList.drop 24 = dktX3_areaIn_1 := dk_seg dksX3_areaIn_0 24 rfl rfl
theorem dksX3_areaIn_2 : cX3_areaIn.data.toList.drop 48 = dktX3_areaIn_2 := dk_seg dksX3_areaIn_1 24 rfl rfl
theorem dX3_areaIn_0 : decode cX3_areaIn 0 = .ok (.iconst 0, 1) := dk_3 (dk_at dksX3_areaIn_0 0 rfl rfl)
theorem dX3_areaIn_1 : decode cX3_areaIn 1 = .ok (.istore_n 3, 1) := dk_62 (dk_at dksX3_areaIn_0 1 rfl rfl)
theorem dX3_areaIn_2 : decode cX3_areaIn 2 = .ok (.iconst 0, 1) := dk_3 (dk_at dksX3_areaIn_0 2 rfl rfl)
theorem dX3_areaIn_3 : decode cX3_areaIn 3 = .ok (.istore 4, 2) := dk_54 4 (dk_at dksX3_areaIn_0 3 rfl rfl)
theorem dX3_areaIn_5 : decode cX3_areaIn 5 = .ok (.iload 4, 2) := dk_21 4 (dk_at dksX3_areaIn_0 5 rfl rfl)
theorem dX3_areaIn_7 : decode cX3_areaIn 7 = .ok (.aload_n 0, 1) := dk_42 (dk_at dksX3_areaIn_0 7 rfl rfl)
theorem dX3_areaIn_8 : decode cX3_areaIn 8 = .ok (.getfield 7, 3) := dk_180 0 7 (dk_at dksX3_areaIn_0 8 rfl rfl)
theorem dX3_areaIn_11 : decode cX3_areaIn 11 = .ok (.bipush 101, 2) := dk_16 101 (dk_at dksX3_areaIn_0 11 rfl rfl)
theorem dX3_areaIn_13 : decode cX3_areaIn 13 = .ok (.iaload, 1) := dk_46 (dk_at dksX3_areaIn_0 13 rfl rfl)
theorem dX3_areaIn_14 : decode cX3_areaIn 14 = .ok (.if_icmp .ge 56, 3) := dk_162 0 56 (dk_at dksX3_areaIn_0 14 rfl rfl)
theorem dX3_areaIn_17 : decode cX3_areaIn 17 = .ok (.aload_n 0, 1) := dk_42 (dk_at dksX3_areaIn_0 17 rfl rfl)
theorem dX3_areaIn_18 : decode cX3_areaIn 18 = .ok (.iload 4, 2) := dk_21 4 (dk_at dksX3_areaIn_0 18 rfl rfl)
theorem dX3_areaIn_20 : decode cX3_areaIn 20 = .ok (.iload_n 1, 1) := dk_27 (dk_at dksX3_areaIn_0 20 rfl rfl)
theorem dX3_areaIn_21 : decode cX3_areaIn 21 = .ok (.invokevirtual 108, 3) := dk_182 0 108 (dk_at dksX3_areaIn_0 21 rfl rfl)
theorem dX3_areaIn_24 : decode cX3_areaIn 24 = .ok (.istore 5, 2) := dk_54 5 (dk_at dksX3_areaIn_1 0 rfl rfl)
theorem dX3_areaIn_26 : decode cX3_areaIn 26 = .ok (.iload_n 3, 1) := dk_29 (dk_at dksX3_areaIn_1 2 rfl rfl)
theorem dX3_areaIn_27 : decode cX3_areaIn 27 = .ok (.iload 5, 2) := dk_21 5 (dk_at dksX3_areaIn_1 3 rfl rfl)
theorem dX3_areaIn_29 : decode cX3_areaIn 29 = .ok (.ifCond .lt 32, 3) := dk_155 0 32 (dk_at dksX3_areaIn_1 5 rfl rfl)
theorem dX3_areaIn_32 : decode cX3_areaIn 32 = .ok (.aload_n 0, 1) := dk_42 (dk_at dksX3_areaIn_1 8 rfl rfl)
theorem dX3_areaIn_33 : decode cX3_areaIn 33 = .ok (.iload 4, 2) := dk_21 4 (dk_at dksX3_areaIn_1 9 rfl rfl)
theorem dX3_areaIn_35 : decode cX3_areaIn 35 = .ok (.bipush 14, 2) := dk_16 14 (dk_at dksX3_areaIn_1 11 rfl rfl)
theorem dX3_areaIn_37 : decode cX3_areaIn 37 = .ok (.iload 5, 2) := dk_21 5 (dk_at dksX3_areaIn_1 13 rfl rfl)
theorem dX3_areaIn_39 : decode cX3_areaIn 39 = .ok (.iadd, 1) := dk_96 (dk_at dksX3_areaIn_1 15 rfl rfl)
theorem dX3_areaIn_40 : decode cX3_areaIn 40 = .ok (.invokevirtual 105, 3) := dk_182 0 105 (dk_at dksX3_areaIn_1 16 rfl rfl)
theorem dX3_areaIn_43 : decode cX3_areaIn 43 = .ok (.iload_n 2, 1) := dk_28 (dk_at dksX3_areaIn_1 19 rfl rfl)
theorem dX3_areaIn_44 : decode cX3_areaIn 44 = .ok (.if_icmp .ne 17, 3) := dk_160 0 17 (dk_at dksX3_areaIn_1 20 rfl rfl)
theorem dX3_areaIn_47 : decode cX3_areaIn 47 = .ok (.aload_n 0, 1) := dk_42 (dk_at dksX3_areaIn_1 23 rfl rfl)
theorem dX3_areaIn_48 : decode cX3_areaIn 48 = .ok (.aload_n 0, 1) := dk_42 (dk_at dksX3_areaIn_2 0 rfl rfl)
theorem dX3_areaIn_49 : decode cX3_areaIn 49 = .ok (.iload 4, 2) := dk_21 4 (dk_at dksX3_areaIn_2 1 rfl rfl)
theorem dX3_areaIn_51 : decode cX3_areaIn 51 = .ok (.iconst 0, 1) := dk_3 (dk_at dksX3_areaIn_2 3 rfl rfl)
theorem dX3_areaIn_52 : decode cX3_areaIn 52 = .ok (.invokevirtual 105, 3) := dk_182 0 105 (dk_at dksX3_areaIn_2 4 rfl rfl)
theorem dX3_areaIn_55 : decode cX3_areaIn 55 = .ok (.invokevirtual 127, 3) := dk_182 0 127 (dk_at dksX3_areaIn_2 7 rfl rfl)
theorem dX3_areaIn_58 : decode cX3_areaIn 58 = .ok (.goto 4, 3) := dk_167 0 4 (dk_at dksX3_areaIn_2 10 rfl rfl)
theorem dX3_areaIn_61 : decode cX3_areaIn 61 = .ok (.iconst 0, 1) := dk_3 (dk_at dksX3_areaIn_2 13 rfl rfl)
theorem dX3_areaIn_62 : decode cX3_areaIn 62 = .ok (.iadd, 1) := dk_96 (dk_at dksX3_areaIn_2 14 rfl rfl)
theorem dX3_areaIn_63 : decode cX3_areaIn 63 = .ok (.istore_n 3, 1) := dk_62 (dk_at dksX3_areaIn_2 15 rfl rfl)
theorem dX3_areaIn_64 : decode cX3_areaIn 64 = .ok (.iinc 4 1, 3) := dk_132 4 1 (dk_at dksX3_areaIn_2 16 rfl rfl)
theorem dX3_areaIn_67 : decode cX3_areaIn 67 = .ok (.goto (-62), 3) := dk_167 255 194 (dk_at dksX3_areaIn_2 19 rfl rfl)
theorem dX3_areaIn_70 : decode cX3_areaIn 70 = .ok (.iload_n 3, 1) := dk_29 (dk_at dksX3_areaIn_2 22 rfl rfl)
theorem dX3_areaIn_71 : decode cX3_areaIn 71 = .ok (.ireturn, 1) := dk_172 (dk_at dksX3_areaIn_2 23 rfl rfl)
def dkwX3_areaOf_0 : List UInt8 := [42, 180, 0, 7, 7, 16, 6, 27, 104, 96, 8, 96, 46, 172]
abbrev dktX3_areaOf_0 : List UInt8 := dkwX3_areaOf_0 ++ []
theorem dksX3_areaOf_0 : cX3_areaOf.data.toList.drop 0 = dktX3_areaOf_0 := by decide +kernel
theorem dX3_areaOf_0 : decode cX3_areaOf 0 = .ok (.aload_n 0, 1) := dk_42 (dk_at dksX3_areaOf_0 0 rfl rfl)
theorem dX3_areaOf_1 : decode cX3_areaOf 1 = .ok (.getfield 7, 3) := dk_180 0 7 (dk_at dksX3_areaOf_0 1 rfl rfl)
theorem dX3_areaOf_4 : decode cX3_areaOf 4 = .ok (.iconst 4, 1) := dk_7 (dk_at dksX3_areaOf_0 4 rfl rfl)
theorem dX3_areaOf_5 : decode cX3_areaOf 5 = .ok (.bipush 6, 2) := dk_16 6 (dk_at dksX3_areaOf_0 5 rfl rfl)
theorem dX3_areaOf_7 : decode cX3_areaOf 7 = .ok (.iload_n 1, 1) := dk_27 (dk_at dksX3_areaOf_0 7 rfl rfl)
theorem dX3_areaOf_8 : decode cX3_areaOf 8 = .ok (.imul, 1) := dk_104 (dk_at dksX3_areaOf_0 8 rfl rfl)
theorem dX3_areaOf_9 : decode cX3_areaOf 9 = .ok (.iadd, 1) := dk_96 (dk_at dksX3_areaOf_0 9 rfl rfl)
theorem dX3_areaOf_10 : decode cX3_areaOf 10 = .ok (.iconst 5, 1) := dk_8 (dk_at dksX3_areaOf_0 10 rfl rfl)
theorem dX3_areaOf_11 : decode cX3_areaOf 11 = .ok (.iadd, 1) := dk_96 (dk_at dksX3_areaOf_0 11 rfl rfl)
theorem dX3_areaOf_12 : decode cX3_areaOf 12 = .ok (.iaload, 1) := dk_46 (dk_at dksX3_areaOf_0 12 rfl rfl)
theorem dX3_areaOf_13 : decode cX3_areaOf 13 = .ok (.ireturn, 1) := dk_172 (dk_at dksX3_areaOf_0 13 rfl rfl)
def dkwX3_roomOf_0 : List UInt8 := [42, 27, 6, 182, 0, 121, 42, 27, 7, 182, 0, 121, 108, 172]
abbrev dktX3_roomOf_0 : List UInt8 := dkwX3_roomOf_0 ++ []
theorem dksX3_roomOf_0 : cX3_roomOf.data.toList.drop 0 = dktX3_roomOf_0 := by decide +kernel
theorem dX3_roomOf_0 : decode cX3_roomOf 0 = .ok (.aload_n 0, 1) := dk_42 (dk_at dksX3_roomOf_0 0 rfl rfl)
theorem dX3_roomOf_1 : decode cX3_roomOf 1 = .ok (.iload_n 1, 1) := dk_27 (dk_at dksX3_roomOf_0 1 rfl rfl)
theorem dX3_roomOf_2 : decode cX3_roomOf 2 = .ok (.iconst 3, 1) := dk_6 (dk_at dksX3_roomOf_0 2 rfl rfl)
theorem dX3_roomOf_3 : decode cX3_roomOf 3 = .ok (.invokevirtual 121, 3) := dk_182 0 121 (dk_at dksX3_roomOf_0 3 rfl rfl)
theorem dX3_roomOf_6 : decode cX3_roomOf 6 = .ok (.aload_n 0, 1) := dk_42 (dk_at dksX3_roomOf_0 6 rfl rfl)
theorem dX3_roomOf_7 : decode cX3_roomOf 7 = .ok (.iload_n 1, 1) := dk_27 (dk_at dksX3_roomOf_0 7 rfl rfl)
theorem dX3_roomOf_8 : decode cX3_roomOf 8 = .ok (.iconst 4, 1) := dk_7 (dk_at dksX3_roomOf_0 8 rfl rfl)
theorem dX3_roomOf_9 : decode cX3_roomOf 9 = .ok (.invokevirtual 121, 3) := dk_182 0 121 (dk_at dksX3_roomOf_0 9 rfl rfl)
theorem dX3_roomOf_12 : decode cX3_roomOf 12 = .ok (.idiv, 1) := dk_108 (dk_at dksX3_roomOf_0 12 rfl rfl)
theorem dX3_roomOf_13 : decode cX3_roomOf 13 = .ok (.ireturn, 1) := dk_172 (dk_at dksX3_roomOf_0 13 rfl rfl)
def dkwX3_keptOf_0 : List UInt8 := [42, 27, 182, 0, 124, 42, 180, 0, 7, 3, 46, 104, 16, 99, 96, 16, 100, 108, 172]
abbrev dktX3_keptOf_0 : List UInt8 := dkwX3_keptOf_0 ++ []
theorem dksX3_keptOf_0 : cX3_keptOf.data.toList.drop 0 = dktX3_keptOf_0 := by decide +kernel
theorem dX3_keptOf_0 : decode cX3_keptOf 0 = .ok (.aload_n 0, 1) := dk_42 (dk_at dksX3_keptOf_0 0 rfl rfl)
theorem dX3_keptOf_1 : decode cX3_keptOf 1 = .ok (.iload_n 1, 1) := dk_27 (dk_at dksX3_keptOf_0 1 rfl rfl)
theorem dX3_keptOf_2 : decode cX3_keptOf 2 = .ok (.invokevirtual 124, 3) := dk_182 0 124 (dk_at dksX3_keptOf_0 2 rfl rfl)
theorem dX3_keptOf_5 : decode cX3_keptOf 5 = .ok (.aload_n 0, 1) := dk_42 (dk_at dksX3_keptOf_0 5 rfl rfl)
theorem dX3_keptOf_6 : decode cX3_keptOf 6 = .ok (.getfield 7, 3) := dk_180 0 7 (dk_at dksX3_keptOf_0 6 rfl rfl)
theorem dX3_keptOf_9 : decode cX3_keptOf 9 = .ok (.iconst 0, 1) := dk_3 (dk_at dksX3_keptOf_0 9 rfl rfl)
theorem dX3_keptOf_10 : decode cX3_keptOf 10 = .ok (.iaload, 1) := dk_46 (dk_at dksX3_keptOf_0 10 rfl rfl)
theorem dX3_keptOf_11 : decode cX3_keptOf 11 = .ok (.imul, 1) := dk_104 (dk_at dksX3_keptOf_0 11 rfl rfl)
theorem dX3_keptOf_12 : decode cX3_keptOf 12 = .ok (.bipush 99, 2) := dk_16 99 (dk_at dksX3_keptOf_0 12 rfl rfl)
theorem dX3_keptOf_14 : decode cX3_keptOf 14 = .ok (.iadd, 1) := dk_96 (dk_at dksX3_keptOf_0 14 rfl rfl)
theorem dX3_keptOf_15 : decode cX3_keptOf 15 = .ok (.bipush 100, 2) := dk_16 100 (dk_at dksX3_keptOf_0 15 rfl rfl)
theorem dX3_keptOf_17 : decode cX3_keptOf 17 = .ok (.idiv, 1) := dk_108 (dk_at dksX3_keptOf_0 17 rfl rfl)
theorem dX3_keptOf_18 : decode cX3_keptOf 18 = .ok (.ireturn, 1) := dk_172 (dk_at dksX3_keptOf_0 18 rfl rfl)
def dkwX3_classIn_2 : List UInt8 := [182, 0, 130, 172, 132, 3, 1, 167, 255, 204, 2, 172]
abbrev dktX3_classIn_2 : List UInt8 := dkwX3_classIn_2 ++ []
def dkwX3_classIn_1 : List UInt8 := [155, 0, 28, 42, 29, 16, 14, 21, 4, 96, 182, 0, 105, 28, 160, 0, 14, 42, 42, 29, 3, 182, 0, 105]
abbrev dktX3_classIn_1 : List UInt8 := dkwX3_classIn_1 ++ dktX3_classIn_2
def dkwX3_classIn_0 : List UInt8 := [3, 62, 29, 42, 180, 0, 7, 16, 101, 46, 162, 0, 47, 42, 29, 27, 182, 0, 108, 54, 4, 21, 4]
abbrev dktX3_classIn_0 : List UInt8 := dkwX3_classIn_0 ++ dktX3_classIn_1
theorem dksX3_classIn_0 : cX3_classIn.data.toList.drop 0 = dktX3_classIn_0 := by decide +kernel
theorem dksX3_classIn_1 : cX3_classIn.data.toList.drop 23 = dktX3_classIn_1 := dk_seg dksX3_classIn_0 23 rfl rfl
theorem dksX3_classIn_2 : cX3_classIn.data.toList.drop 47 = dktX3_classIn_2 := dk_seg dksX3_classIn_1 24 rfl rfl
theorem dX3_classIn_0 : decode cX3_classIn 0 = .ok (.iconst 0, 1) := dk_3 (dk_at dksX3_classIn_0 0 rfl rfl)
theorem dX3_classIn_1 : decode cX3_classIn 1 = .ok (.istore_n 3, 1) := dk_62 (dk_at dksX3_classIn_0 1 rfl rfl)
theorem dX3_classIn_2 : decode cX3_classIn 2 = .ok (.iload_n 3, 1) := dk_29 (dk_at dksX3_classIn_0 2 rfl rfl)
theorem dX3_classIn_3 : decode cX3_classIn 3 = .ok (.aload_n 0, 1) := dk_42 (dk_at dksX3_classIn_0 3 rfl rfl)
theorem dX3_classIn_4 : decode cX3_classIn 4 = .ok (.getfield 7, 3) := dk_180 0 7 (dk_at dksX3_classIn_0 4 rfl rfl)
theorem dX3_classIn_7 : decode cX3_classIn 7 = .ok (.bipush 101, 2) := dk_16 101 (dk_at dksX3_classIn_0 7 rfl rfl)
theorem dX3_classIn_9 : decode cX3_classIn 9 = .ok (.iaload, 1) := dk_46 (dk_at dksX3_classIn_0 9 rfl rfl)
theorem dX3_classIn_10 : decode cX3_classIn 10 = .ok (.if_icmp .ge 47, 3) := dk_162 0 47 (dk_at dksX3_classIn_0 10 rfl rfl)
theorem dX3_classIn_13 : decode cX3_classIn 13 = .ok (.aload_n 0, 1) := dk_42 (dk_at dksX3_classIn_0 13 rfl rfl)
theorem dX3_classIn_14 : decode cX3_classIn 14 = .ok (.iload_n 3, 1) := dk_29 (dk_at dksX3_classIn_0 14 rfl rfl)
theorem dX3_classIn_15 : decode cX3_classIn 15 = .ok (.iload_n 1, 1) := dk_27 (dk_at dksX3_classIn_0 15 rfl rfl)
theorem dX3_classIn_16 : decode cX3_classIn 16 = .ok (.invokevirtual 108, 3) := dk_182 0 108 (dk_at dksX3_classIn_0 16 rfl rfl)
theorem dX3_classIn_19 : decode cX3_classIn 19 = .ok (.istore 4, 2) := dk_54 4 (dk_at dksX3_classIn_0 19 rfl rfl)
theorem dX3_classIn_21 : decode cX3_classIn 21 = .ok (.iload 4, 2) := dk_21 4 (dk_at dksX3_classIn_0 21 rfl rfl)
theorem dX3_classIn_23 : decode cX3_classIn 23 = .ok (.ifCond .lt 28, 3) := dk_155 0 28 (dk_at dksX3_classIn_1 0 rfl rfl)
theorem dX3_classIn_26 : decode cX3_classIn 26 = .ok (.aload_n 0, 1) := dk_42 (dk_at dksX3_classIn_1 3 rfl rfl)
theorem dX3_classIn_27 : decode cX3_classIn 27 = .ok (.iload_n 3, 1) := dk_29 (dk_at dksX3_classIn_1 4 rfl rfl)
theorem dX3_classIn_28 : decode cX3_classIn 28 = .ok (.bipush 14, 2) := dk_16 14 (dk_at dksX3_classIn_1 5 rfl rfl)
theorem dX3_classIn_30 : decode cX3_classIn 30 = .ok (.iload 4, 2) := dk_21 4 (dk_at dksX3_classIn_1 7 rfl rfl)
theorem dX3_classIn_32 : decode cX3_classIn 32 = .ok (.iadd, 1) := dk_96 (dk_at dksX3_classIn_1 9 rfl rfl)
theorem dX3_classIn_33 : decode cX3_classIn 33 = .ok (.invokevirtual 105, 3) := dk_182 0 105 (dk_at dksX3_classIn_1 10 rfl rfl)
theorem dX3_classIn_36 : decode cX3_classIn 36 = .ok (.iload_n 2, 1) := dk_28 (dk_at dksX3_classIn_1 13 rfl rfl)
theorem dX3_classIn_37 : decode cX3_classIn 37 = .ok (.if_icmp .ne 14, 3) := dk_160 0 14 (dk_at dksX3_classIn_1 14 rfl rfl)
theorem dX3_classIn_40 : decode cX3_classIn 40 = .ok (.aload_n 0, 1) := dk_42 (dk_at dksX3_classIn_1 17 rfl rfl)
theorem dX3_classIn_41 : decode cX3_classIn 41 = .ok (.aload_n 0, 1) := dk_42 (dk_at dksX3_classIn_1 18 rfl rfl)
theorem dX3_classIn_42 : decode cX3_classIn 42 = .ok (.iload_n 3, 1) := dk_29 (dk_at dksX3_classIn_1 19 rfl rfl)
theorem dX3_classIn_43 : decode cX3_classIn 43 = .ok (.iconst 0, 1) := dk_3 (dk_at dksX3_classIn_1 20 rfl rfl)
theorem dX3_classIn_44 : decode cX3_classIn 44 = .ok (.invokevirtual 105, 3) := dk_182 0 105 (dk_at dksX3_classIn_1 21 rfl rfl)
theorem dX3_classIn_47 : decode cX3_classIn 47 = .ok (.invokevirtual 130, 3) := dk_182 0 130 (dk_at dksX3_classIn_2 0 rfl rfl)
theorem dX3_classIn_50 : decode cX3_classIn 50 = .ok (.ireturn, 1) := dk_172 (dk_at dksX3_classIn_2 3 rfl rfl)
theorem dX3_classIn_51 : decode cX3_classIn 51 = .ok (.iinc 3 1, 3) := dk_132 3 1 (dk_at dksX3_classIn_2 4 rfl rfl)
theorem dX3_classIn_54 : decode cX3_classIn 54 = .ok (.goto (-52), 3) := dk_167 255 204 (dk_at dksX3_classIn_2 7 rfl rfl)
theorem dX3_classIn_57 : decode cX3_classIn 57 = .ok (.iconst (-1), 1) := dk_2 (dk_at dksX3_classIn_2 10 rfl rfl)
theorem dX3_classIn_58 : decode cX3_classIn 58 = .ok (.ireturn, 1) := dk_172 (dk_at dksX3_classIn_2 11 rfl rfl)
def dkwX3_classOf_0 : List UInt8 := [42, 180, 0, 7, 7, 16, 6, 27, 104, 96, 7, 96, 46, 172]
abbrev dktX3_classOf_0 : List UInt8 := dkwX3_classOf_0 ++ []
theorem dksX3_classOf_0 : cX3_classOf.data.toList.drop 0 = dktX3_classOf_0 := by decide +kernel
theorem dX3_classOf_0 : decode cX3_classOf 0 = .ok (.aload_n 0, 1) := dk_42 (dk_at dksX3_classOf_0 0 rfl rfl)
theorem dX3_classOf_1 : decode cX3_classOf 1 = .ok (.getfield 7, 3) := dk_180 0 7 (dk_at dksX3_classOf_0 1 rfl rfl)
theorem dX3_classOf_4 : decode cX3_classOf 4 = .ok (.iconst 4, 1) := dk_7 (dk_at dksX3_classOf_0 4 rfl rfl)
theorem dX3_classOf_5 : decode cX3_classOf 5 = .ok (.bipush 6, 2) := dk_16 6 (dk_at dksX3_classOf_0 5 rfl rfl)
theorem dX3_classOf_7 : decode cX3_classOf 7 = .ok (.iload_n 1, 1) := dk_27 (dk_at dksX3_classOf_0 7 rfl rfl)
theorem dX3_classOf_8 : decode cX3_classOf 8 = .ok (.imul, 1) := dk_104 (dk_at dksX3_classOf_0 8 rfl rfl)
theorem dX3_classOf_9 : decode cX3_classOf 9 = .ok (.iadd, 1) := dk_96 (dk_at dksX3_classOf_0 9 rfl rfl)
theorem dX3_classOf_10 : decode cX3_classOf 10 = .ok (.iconst 4, 1) := dk_7 (dk_at dksX3_classOf_0 10 rfl rfl)
theorem dX3_classOf_11 : decode cX3_classOf 11 = .ok (.iadd, 1) := dk_96 (dk_at dksX3_classOf_0 11 rfl rfl)
theorem dX3_classOf_12 : decode cX3_classOf 12 = .ok (.iaload, 1) := dk_46 (dk_at dksX3_classOf_0 12 rfl rfl)
theorem dX3_classOf_13 : decode cX3_classOf 13 = .ok (.ireturn, 1) := dk_172 (dk_at dksX3_classOf_0 13 rfl rfl)
def dkwX3_tray_6 : List UInt8 := [21, 4, 172, 42, 27, 28, 182, 0, 121, 172]
abbrev dktX3_tray_6 : List UInt8 := dkwX3_tray_6 ++ []
def dkwX3_tray_5 : List UInt8 := [42, 27, 182, 0, 124, 172, 42, 27, 182, 0, 136, 172, 29, 172, 42, 27, 182, 0, 114, 184, 0, 145, 172]
abbrev dktX3_tray_5 : List UInt8 := dkwX3_tray_5 ++ dktX3_tray_6
def dkwX3_tray_4 : List UInt8 := [170, 0, 0, 0, 0, 0, 0, 62, 0, 0, 0, 5, 0, 0, 0, 9, 0, 0, 0, 36, 0, 0, 0, 42, 0, 0, 0, 48, 0, 0, 0, 50, 0, 0, 0, 59]
abbrev dktX3_tray_4 : List UInt8 := dkwX3_tray_4 ++ dktX3_tray_5
def dkwX3_tray_3 : List UInt8 := [27, 21, 5, 182, 0, 139, 156, 0, 7, 4, 167, 0, 4, 3, 96, 54, 4, 132, 5, 1, 167, 255, 212, 28]
abbrev dktX3_tray_3 : List UInt8 := dkwX3_tray_3 ++ dktX3_tray_4
def dkwX3_tray_2 : List UInt8 := [21, 5, 42, 27, 7, 182, 0, 121, 162, 0, 39, 29, 42, 27, 21, 5, 182, 0, 133, 96, 62, 21, 4, 42]
abbrev dktX3_tray_2 : List UInt8 := dkwX3_tray_2 ++ dktX3_tray_3
def dkwX3_tray_1 : List UInt8 := [167, 0, 4, 5, 181, 0, 66, 42, 180, 0, 66, 158, 0, 5, 3, 172, 3, 62, 3, 54, 4, 3, 54, 5]
abbrev dktX3_tray_1 : List UInt8 := dkwX3_tray_1 ++ dktX3_tray_2
def dkwX3_tray_0 : List UInt8 := [42, 42, 27, 182, 0, 111, 154, 0, 7, 4, 167, 0, 18, 28, 3, 16, 9, 184, 0, 90, 153, 0, 7, 3]
abbrev dktX3_tray_0 : List UInt8 := dkwX3_tray_0 ++ dktX3_tray_1
theorem dksX3_tray_0 : cX3_tray.data.toList.drop 0 = dktX3_tray_0 := by decide +kernel
theorem dksX3_tray_1 : cX3_tray.data.toList.drop 24 = dktX3_tray_1 := dk_seg dksX3_tray_0 24 rfl rfl
theorem dksX3_tray_2 : cX3_tray.data.toList.drop 48 = dktX3_tray_2 := dk_seg dksX3_tray_1 24 rfl rfl
theorem dksX3_tray_3 : cX3_tray.data.toList.drop 72 = dktX3_tray_3 := dk_seg dksX3_tray_2 24 rfl rfl
theorem dksX3_tray_4 : cX3_tray.data.toList.drop 96 = dktX3_tray_4 := dk_seg dksX3_tray_3 24 rfl rfl
theorem dksX3_tray_5 : cX3_tray.data.toList.drop 132 = dktX3_tray_5 := dk_seg dksX3_tray_4 36 rfl rfl
theorem dksX3_tray_6 : cX3_tray.data.toList.drop 155 = dktX3_tray_6 := dk_seg dksX3_tray_5 23 rfl rfl
theorem dX3_tray_0 : decode cX3_tray 0 = .ok (.aload_n 0, 1) := dk_42 (dk_at dksX3_tray_0 0 rfl rfl)
theorem dX3_tray_1 : decode cX3_tray 1 = .ok (.aload_n 0, 1) := dk_42 (dk_at dksX3_tray_0 1 rfl rfl)
theorem dX3_tray_2 : decode cX3_tray 2 = .ok (.iload_n 1, 1) := dk_27 (dk_at dksX3_tray_0 2 rfl rfl)
theorem dX3_tray_3 : decode cX3_tray 3 = .ok (.invokevirtual 111, 3) := dk_182 0 111 (dk_at dksX3_tray_0 3 rfl rfl)
theorem dX3_tray_6 : decode cX3_tray 6 = .ok (.ifCond .ne 7, 3) := dk_154 0 7 (dk_at dksX3_tray_0 6 rfl rfl)
theorem dX3_tray_9 : decode cX3_tray 9 = .ok (.iconst 1, 1) := dk_4 (dk_at dksX3_tray_0 9 rfl rfl)
theorem dX3_tray_10 : decode cX3_tray 10 = .ok (.goto 18, 3) := dk_167 0 18 (dk_at dksX3_tray_0 10 rfl rfl)
theorem dX3_tray_13 : decode cX3_tray 13 = .ok (.iload_n 2, 1) := dk_28 (dk_at dksX3_tray_0 13 rfl rfl)
theorem dX3_tray_14 : decode cX3_tray 14 = .ok (.iconst 0, 1) := dk_3 (dk_at dksX3_tray_0 14 rfl rfl)
theorem dX3_tray_15 : decode cX3_tray 15 = .ok (.bipush 9, 2) := dk_16 9 (dk_at dksX3_tray_0 15 rfl rfl)
theorem dX3_tray_17 : decode cX3_tray 17 = .ok (.invokestatic 90, 3) := dk_184 0 90 (dk_at dksX3_tray_0 17 rfl rfl)
theorem dX3_tray_20 : decode cX3_tray 20 = .ok (.ifCond .eq 7, 3) := dk_153 0 7 (dk_at dksX3_tray_0 20 rfl rfl)
theorem dX3_tray_23 : decode cX3_tray 23 = .ok (.iconst 0, 1) := dk_3 (dk_at dksX3_tray_0 23 rfl rfl)
theorem dX3_tray_24 : decode cX3_tray 24 = .ok (.goto 4, 3) := dk_167 0 4 (dk_at dksX3_tray_1 0 rfl rfl)
theorem dX3_tray_27 : decode cX3_tray 27 = .ok (.iconst 2, 1) := dk_5 (dk_at dksX3_tray_1 3 rfl rfl)
theorem dX3_tray_28 : decode cX3_tray 28 = .ok (.putfield 66, 3) := dk_181 0 66 (dk_at dksX3_tray_1 4 rfl rfl)
theorem dX3_tray_31 : decode cX3_tray 31 = .ok (.aload_n 0, 1) := dk_42 (dk_at dksX3_tray_1 7 rfl rfl)
theorem dX3_tray_32 : decode cX3_tray 32 = .ok (.getfield 66, 3) := dk_180 0 66 (dk_at dksX3_tray_1 8 rfl rfl)
theorem dX3_tray_35 : decode cX3_tray 35 = .ok (.ifCond .le 5, 3) := dk_158 0 5 (dk_at dksX3_tray_1 11 rfl rfl)
theorem dX3_tray_38 : decode cX3_tray 38 = .ok (.iconst 0, 1) := dk_3 (dk_at dksX3_tray_1 14 rfl rfl)
theorem dX3_tray_39 : decode cX3_tray 39 = .ok (.ireturn, 1) := dk_172 (dk_at dksX3_tray_1 15 rfl rfl)
theorem dX3_tray_40 : decode cX3_tray 40 = .ok (.iconst 0, 1) := dk_3 (dk_at dksX3_tray_1 16 rfl rfl)
theorem dX3_tray_41 : decode cX3_tray 41 = .ok (.istore_n 3, 1) := dk_62 (dk_at dksX3_tray_1 17 rfl rfl)
theorem dX3_tray_42 : decode cX3_tray 42 = .ok (.iconst 0, 1) := dk_3 (dk_at dksX3_tray_1 18 rfl rfl)
theorem dX3_tray_43 : decode cX3_tray 43 = .ok (.istore 4, 2) := dk_54 4 (dk_at dksX3_tray_1 19 rfl rfl)
theorem dX3_tray_45 : decode cX3_tray 45 = .ok (.iconst 0, 1) := dk_3 (dk_at dksX3_tray_1 21 rfl rfl)
theorem dX3_tray_46 : decode cX3_tray 46 = .ok (.istore 5, 2) := dk_54 5 (dk_at dksX3_tray_1 22 rfl rfl)
theorem dX3_tray_48 : decode cX3_tray 48 = .ok (.iload 5, 2) := dk_21 5 (dk_at dksX3_tray_2 0 rfl rfl)
theorem dX3_tray_50 : decode cX3_tray 50 = .ok (.aload_n 0, 1) := dk_42 (dk_at dksX3_tray_2 2 rfl rfl)
theorem dX3_tray_51 : decode cX3_tray 51 = .ok (.iload_n 1, 1) := dk_27 (dk_at dksX3_tray_2 3 rfl rfl)
theorem dX3_tray_52 : decode cX3_tray 52 = .ok (.iconst 4, 1) := dk_7 (dk_at dksX3_tray_2 4 rfl rfl)
theorem dX3_tray_53 : decode cX3_tray 53 = .ok (.invokevirtual 121, 3) := dk_182 0 121 (dk_at dksX3_tray_2 5 rfl rfl)
theorem dX3_tray_56 : decode cX3_tray 56 = .ok (.if_icmp .ge 39, 3) := dk_162 0 39 (dk_at dksX3_tray_2 8 rfl rfl)
theorem dX3_tray_59 : decode cX3_tray 59 = .ok (.iload_n 3, 1) := dk_29 (dk_at dksX3_tray_2 11 rfl rfl)
theorem dX3_tray_60 : decode cX3_tray 60 = .ok (.aload_n 0, 1) := dk_42 (dk_at dksX3_tray_2 12 rfl rfl)
theorem dX3_tray_61 : decode cX3_tray 61 = .ok (.iload_n 1, 1) := dk_27 (dk_at dksX3_tray_2 13 rfl rfl)
theorem dX3_tray_62 : decode cX3_tray 62 = .ok (.iload 5, 2) := dk_21 5 (dk_at dksX3_tray_2 14 rfl rfl)
theorem dX3_tray_64 : decode cX3_tray 64 = .ok (.invokevirtual 133, 3) := dk_182 0 133 (dk_at dksX3_tray_2 16 rfl rfl)
theorem dX3_tray_67 : decode cX3_tray 67 = .ok (.iadd, 1) := dk_96 (dk_at dksX3_tray_2 19 rfl rfl)
theorem dX3_tray_68 : decode cX3_tray 68 = .ok (.istore_n 3, 1) := dk_62 (dk_at dksX3_tray_2 20 rfl rfl)
theorem dX3_tray_69 : decode cX3_tray 69 = .ok (.iload 4, 2) := dk_21 4 (dk_at dksX3_tray_2 21 rfl rfl)
theorem dX3_tray_71 : decode cX3_tray 71 = .ok (.aload_n 0, 1) := dk_42 (dk_at dksX3_tray_2 23 rfl rfl)
theorem dX3_tray_72 : decode cX3_tray 72 = .ok (.iload_n 1, 1) := dk_27 (dk_at dksX3_tray_3 0 rfl rfl)
theorem dX3_tray_73 : decode cX3_tray 73 = .ok (.iload 5, 2) := dk_21 5 (dk_at dksX3_tray_3 1 rfl rfl)
theorem dX3_tray_75 : decode cX3_tray 75 = .ok (.invokevirtual 139, 3) := dk_182 0 139 (dk_at dksX3_tray_3 3 rfl rfl)
theorem dX3_tray_78 : decode cX3_tray 78 = .ok (.ifCond .ge 7, 3) := dk_156 0 7 (dk_at dksX3_tray_3 6 rfl rfl)
theorem dX3_tray_81 : decode cX3_tray 81 = .ok (.iconst 1, 1) := dk_4 (dk_at dksX3_tray_3 9 rfl rfl)
theorem dX3_tray_82 : decode cX3_tray 82 = .ok (.goto 4, 3) := dk_167 0 4 (dk_at dksX3_tray_3 10 rfl rfl)
theorem dX3_tray_85 : decode cX3_tray 85 = .ok (.iconst 0, 1) := dk_3 (dk_at dksX3_tray_3 13 rfl rfl)
theorem dX3_tray_86 : decode cX3_tray 86 = .ok (.iadd, 1) := dk_96 (dk_at dksX3_tray_3 14 rfl rfl)
theorem dX3_tray_87 : decode cX3_tray 87 = .ok (.istore 4, 2) := dk_54 4 (dk_at dksX3_tray_3 15 rfl rfl)
theorem dX3_tray_89 : decode cX3_tray 89 = .ok (.iinc 5 1, 3) := dk_132 5 1 (dk_at dksX3_tray_3 17 rfl rfl)
theorem dX3_tray_92 : decode cX3_tray 92 = .ok (.goto (-44), 3) := dk_167 255 212 (dk_at dksX3_tray_3 20 rfl rfl)
theorem dX3_tray_95 : decode cX3_tray 95 = .ok (.iload_n 2, 1) := dk_28 (dk_at dksX3_tray_3 23 rfl rfl)
theorem dX3_tray_96 : decode cX3_tray 96 = .ok (.tableswitch 62 5 9 #[36, 42, 48, 50, 59], 36) := by decide +kernel
theorem dX3_tray_132 : decode cX3_tray 132 = .ok (.aload_n 0, 1) := dk_42 (dk_at dksX3_tray_5 0 rfl rfl)
theorem dX3_tray_133 : decode cX3_tray 133 = .ok (.iload_n 1, 1) := dk_27 (dk_at dksX3_tray_5 1 rfl rfl)
theorem dX3_tray_134 : decode cX3_tray 134 = .ok (.invokevirtual 124, 3) := dk_182 0 124 (dk_at dksX3_tray_5 2 rfl rfl)
theorem dX3_tray_137 : decode cX3_tray 137 = .ok (.ireturn, 1) := dk_172 (dk_at dksX3_tray_5 5 rfl rfl)
theorem dX3_tray_138 : decode cX3_tray 138 = .ok (.aload_n 0, 1) := dk_42 (dk_at dksX3_tray_5 6 rfl rfl)
theorem dX3_tray_139 : decode cX3_tray 139 = .ok (.iload_n 1, 1) := dk_27 (dk_at dksX3_tray_5 7 rfl rfl)
theorem dX3_tray_140 : decode cX3_tray 140 = .ok (.invokevirtual 136, 3) := dk_182 0 136 (dk_at dksX3_tray_5 8 rfl rfl)
theorem dX3_tray_143 : decode cX3_tray 143 = .ok (.ireturn, 1) := dk_172 (dk_at dksX3_tray_5 11 rfl rfl)
theorem dX3_tray_144 : decode cX3_tray 144 = .ok (.iload_n 3, 1) := dk_29 (dk_at dksX3_tray_5 12 rfl rfl)
theorem dX3_tray_145 : decode cX3_tray 145 = .ok (.ireturn, 1) := dk_172 (dk_at dksX3_tray_5 13 rfl rfl)
theorem dX3_tray_146 : decode cX3_tray 146 = .ok (.aload_n 0, 1) := dk_42 (dk_at dksX3_tray_5 14 rfl rfl)
theorem dX3_tray_147 : decode cX3_tray 147 = .ok (.iload_n 1, 1) := dk_27 (dk_at dksX3_tray_5 15 rfl rfl)
theorem dX3_tray_148 : decode cX3_tray 148 = .ok (.invokevirtual 114, 3) := dk_182 0 114 (dk_at dksX3_tray_5 16 rfl rfl)
theorem dX3_tray_151 : decode cX3_tray 151 = .ok (.invokestatic 145, 3) := dk_184 0 145 (dk_at dksX3_tray_5 19 rfl rfl)
theorem dX3_tray_154 : decode cX3_tray 154 = .ok (.ireturn, 1) := dk_172 (dk_at dksX3_tray_5 22 rfl rfl)
theorem dX3_tray_155 : decode cX3_tray 155 = .ok (.iload 4, 2) := dk_21 4 (dk_at dksX3_tray_6 0 rfl rfl)
theorem dX3_tray_157 : decode cX3_tray 157 = .ok (.ireturn, 1) := dk_172 (dk_at dksX3_tray_6 2 rfl rfl)
theorem dX3_tray_158 : decode cX3_tray 158 = .ok (.aload_n 0, 1) := dk_42 (dk_at dksX3_tray_6 3 rfl rfl)
theorem dX3_tray_159 : decode cX3_tray 159 = .ok (.iload_n 1, 1) := dk_27 (dk_at dksX3_tray_6 4 rfl rfl)
theorem dX3_tray_160 : decode cX3_tray 160 = .ok (.iload_n 2, 1) := dk_28 (dk_at dksX3_tray_6 5 rfl rfl)
theorem dX3_tray_161 : decode cX3_tray 161 = .ok (.invokevirtual 121, 3) := dk_182 0 121 (dk_at dksX3_tray_6 6 rfl rfl)
theorem dX3_tray_164 : decode cX3_tray 164 = .ok (.ireturn, 1) := dk_172 (dk_at dksX3_tray_6 9 rfl rfl)
def dkwX3_bitsOf_0 : List UInt8 := [3, 60, 26, 61, 28, 153, 0, 15, 132, 1, 1, 28, 28, 4, 100, 126, 61, 167, 255, 243, 27, 172]
abbrev dktX3_bitsOf_0 : List UInt8 := dkwX3_bitsOf_0 ++ []
theorem dksX3_bitsOf_0 : cX3_bitsOf.data.toList.drop 0 = dktX3_bitsOf_0 := by decide +kernel
theorem dX3_bitsOf_0 : decode cX3_bitsOf 0 = .ok (.iconst 0, 1) := dk_3 (dk_at dksX3_bitsOf_0 0 rfl rfl)
theorem dX3_bitsOf_1 : decode cX3_bitsOf 1 = .ok (.istore_n 1, 1) := dk_60 (dk_at dksX3_bitsOf_0 1 rfl rfl)
theorem dX3_bitsOf_2 : decode cX3_bitsOf 2 = .ok (.iload_n 0, 1) := dk_26 (dk_at dksX3_bitsOf_0 2 rfl rfl)
theorem dX3_bitsOf_3 : decode cX3_bitsOf 3 = .ok (.istore_n 2, 1) := dk_61 (dk_at dksX3_bitsOf_0 3 rfl rfl)
theorem dX3_bitsOf_4 : decode cX3_bitsOf 4 = .ok (.iload_n 2, 1) := dk_28 (dk_at dksX3_bitsOf_0 4 rfl rfl)
theorem dX3_bitsOf_5 : decode cX3_bitsOf 5 = .ok (.ifCond .eq 15, 3) := dk_153 0 15 (dk_at dksX3_bitsOf_0 5 rfl rfl)
theorem dX3_bitsOf_8 : decode cX3_bitsOf 8 = .ok (.iinc 1 1, 3) := dk_132 1 1 (dk_at dksX3_bitsOf_0 8 rfl rfl)
theorem dX3_bitsOf_11 : decode cX3_bitsOf 11 = .ok (.iload_n 2, 1) := dk_28 (dk_at dksX3_bitsOf_0 11 rfl rfl)
theorem dX3_bitsOf_12 : decode cX3_bitsOf 12 = .ok (.iload_n 2, 1) := dk_28 (dk_at dksX3_bitsOf_0 12 rfl rfl)
theorem dX3_bitsOf_13 : decode cX3_bitsOf 13 = .ok (.iconst 1, 1) := dk_4 (dk_at dksX3_bitsOf_0 13 rfl rfl)
theorem dX3_bitsOf_14 : decode cX3_bitsOf 14 = .ok (.isub, 1) := dk_100 (dk_at dksX3_bitsOf_0 14 rfl rfl)
theorem dX3_bitsOf_15 : decode cX3_bitsOf 15 = .ok (.iand, 1) := dk_126 (dk_at dksX3_bitsOf_0 15 rfl rfl)
theorem dX3_bitsOf_16 : decode cX3_bitsOf 16 = .ok (.istore_n 2, 1) := dk_61 (dk_at dksX3_bitsOf_0 16 rfl rfl)
theorem dX3_bitsOf_17 : decode cX3_bitsOf 17 = .ok (.goto (-13), 3) := dk_167 255 243 (dk_at dksX3_bitsOf_0 17 rfl rfl)
theorem dX3_bitsOf_20 : decode cX3_bitsOf 20 = .ok (.iload_n 1, 1) := dk_27 (dk_at dksX3_bitsOf_0 20 rfl rfl)
theorem dX3_bitsOf_21 : decode cX3_bitsOf 21 = .ok (.ireturn, 1) := dk_172 (dk_at dksX3_bitsOf_0 21 rfl rfl)
def dkwX3_compartment_2 : List UInt8 := [167, 0, 22, 29, 153, 0, 12, 42, 27, 28, 182, 0, 133, 167, 0, 9, 42, 27, 28, 182, 0, 139, 172]
abbrev dktX3_compartment_2 : List UInt8 := dkwX3_compartment_2 ++ []
def dkwX3_compartment_1 : List UInt8 := [184, 0, 90, 153, 0, 7, 3, 167, 0, 4, 5, 181, 0, 66, 42, 180, 0, 66, 158, 0, 7, 3]
abbrev dktX3_compartment_1 : List UInt8 := dkwX3_compartment_1 ++ dktX3_compartment_2
def dkwX3_compartment_0 : List UInt8 := [42, 42, 27, 182, 0, 111, 154, 0, 7, 4, 167, 0, 24, 28, 3, 42, 27, 7, 182, 0, 121, 4, 100]
abbrev dktX3_compartment_0 : List UInt8 := dkwX3_compartment_0 ++ dktX3_compartment_1
theorem dksX3_compartment_0 : cX3_compartment.data.toList.drop 0 = dktX3_compartment_0 := by decide +kernel
theorem dksX3_compartment_1 : cX3_compartment.data.toList.drop 23 = dktX3_compartment_1 := dk_seg dksX3_compartment_0 23 rfl rfl
theorem dksX3_compartment_2 : cX3_compartment.data.toList.drop 45 = dktX3_compartment_2 := dk_seg dksX3_compartment_1 22 rfl rfl
theorem dX3_compartment_0 : decode cX3_compartment 0 = .ok (.aload_n 0, 1) := dk_42 (dk_at dksX3_compartment_0 0 rfl rfl)
theorem dX3_compartment_1 : decode cX3_compartment 1 = .ok (.aload_n 0, 1) := dk_42 (dk_at dksX3_compartment_0 1 rfl rfl)
theorem dX3_compartment_2 : decode cX3_compartment 2 = .ok (.iload_n 1, 1) := dk_27 (dk_at dksX3_compartment_0 2 rfl rfl)
theorem dX3_compartment_3 : decode cX3_compartment 3 = .ok (.invokevirtual 111, 3) := dk_182 0 111 (dk_at dksX3_compartment_0 3 rfl rfl)
theorem dX3_compartment_6 : decode cX3_compartment 6 = .ok (.ifCond .ne 7, 3) := dk_154 0 7 (dk_at dksX3_compartment_0 6 rfl rfl)
theorem dX3_compartment_9 : decode cX3_compartment 9 = .ok (.iconst 1, 1) := dk_4 (dk_at dksX3_compartment_0 9 rfl rfl)
theorem dX3_compartment_10 : decode cX3_compartment 10 = .ok (.goto 24, 3) := dk_167 0 24 (dk_at dksX3_compartment_0 10 rfl rfl)
theorem dX3_compartment_13 : decode cX3_compartment 13 = .ok (.iload_n 2, 1) := dk_28 (dk_at dksX3_compartment_0 13 rfl rfl)
theorem dX3_compartment_14 : decode cX3_compartment 14 = .ok (.iconst 0, 1) := dk_3 (dk_at dksX3_compartment_0 14 rfl rfl)
theorem dX3_compartment_15 : decode cX3_compartment 15 = .ok (.aload_n 0, 1) := dk_42 (dk_at dksX3_compartment_0 15 rfl rfl)
theorem dX3_compartment_16 : decode cX3_compartment 16 = .ok (.iload_n 1, 1) := dk_27 (dk_at dksX3_compartment_0 16 rfl rfl)
theorem dX3_compartment_17 : decode cX3_compartment 17 = .ok (.iconst 4, 1) := dk_7 (dk_at dksX3_compartment_0 17 rfl rfl)
theorem dX3_compartment_18 : decode cX3_compartment 18 = .ok (.invokevirtual 121, 3) := dk_182 0 121 (dk_at dksX3_compartment_0 18 rfl rfl)
theorem dX3_compartment_21 : decode cX3_compartment 21 = .ok (.iconst 1, 1) := dk_4 (dk_at dksX3_compartment_0 21 rfl rfl)
theorem dX3_compartment_22 : decode cX3_compartment 22 = .ok (.isub, 1) := dk_100 (dk_at dksX3_compartment_0 22 rfl rfl)
theorem dX3_compartment_23 : decode cX3_compartment 23 = .ok (.invokestatic 90, 3) := dk_184 0 90 (dk_at dksX3_compartment_1 0 rfl rfl)
theorem dX3_compartment_26 : decode cX3_compartment 26 = .ok (.ifCond .eq 7, 3) := dk_153 0 7 (dk_at dksX3_compartment_1 3 rfl rfl)
theorem dX3_compartment_29 : decode cX3_compartment 29 = .ok (.iconst 0, 1) := dk_3 (dk_at dksX3_compartment_1 6 rfl rfl)
theorem dX3_compartment_30 : decode cX3_compartment 30 = .ok (.goto 4, 3) := dk_167 0 4 (dk_at dksX3_compartment_1 7 rfl rfl)
theorem dX3_compartment_33 : decode cX3_compartment 33 = .ok (.iconst 2, 1) := dk_5 (dk_at dksX3_compartment_1 10 rfl rfl)
theorem dX3_compartment_34 : decode cX3_compartment 34 = .ok (.putfield 66, 3) := dk_181 0 66 (dk_at dksX3_compartment_1 11 rfl rfl)
theorem dX3_compartment_37 : decode cX3_compartment 37 = .ok (.aload_n 0, 1) := dk_42 (dk_at dksX3_compartment_1 14 rfl rfl)
theorem dX3_compartment_38 : decode cX3_compartment 38 = .ok (.getfield 66, 3) := dk_180 0 66 (dk_at dksX3_compartment_1 15 rfl rfl)
theorem dX3_compartment_41 : decode cX3_compartment 41 = .ok (.ifCond .le 7, 3) := dk_158 0 7 (dk_at dksX3_compartment_1 18 rfl rfl)
theorem dX3_compartment_44 : decode cX3_compartment 44 = .ok (.iconst 0, 1) := dk_3 (dk_at dksX3_compartment_1 21 rfl rfl)
theorem dX3_compartment_45 : decode cX3_compartment 45 = .ok (.goto 22, 3) := dk_167 0 22 (dk_at dksX3_compartment_2 0 rfl rfl)
theorem dX3_compartment_48 : decode cX3_compartment 48 = .ok (.iload_n 3, 1) := dk_29 (dk_at dksX3_compartment_2 3 rfl rfl)
theorem dX3_compartment_49 : decode cX3_compartment 49 = .ok (.ifCond .eq 12, 3) := dk_153 0 12 (dk_at dksX3_compartment_2 4 rfl rfl)
theorem dX3_compartment_52 : decode cX3_compartment 52 = .ok (.aload_n 0, 1) := dk_42 (dk_at dksX3_compartment_2 7 rfl rfl)
theorem dX3_compartment_53 : decode cX3_compartment 53 = .ok (.iload_n 1, 1) := dk_27 (dk_at dksX3_compartment_2 8 rfl rfl)
theorem dX3_compartment_54 : decode cX3_compartment 54 = .ok (.iload_n 2, 1) := dk_28 (dk_at dksX3_compartment_2 9 rfl rfl)
theorem dX3_compartment_55 : decode cX3_compartment 55 = .ok (.invokevirtual 133, 3) := dk_182 0 133 (dk_at dksX3_compartment_2 10 rfl rfl)
theorem dX3_compartment_58 : decode cX3_compartment 58 = .ok (.goto 9, 3) := dk_167 0 9 (dk_at dksX3_compartment_2 13 rfl rfl)
theorem dX3_compartment_61 : decode cX3_compartment 61 = .ok (.aload_n 0, 1) := dk_42 (dk_at dksX3_compartment_2 16 rfl rfl)
theorem dX3_compartment_62 : decode cX3_compartment 62 = .ok (.iload_n 1, 1) := dk_27 (dk_at dksX3_compartment_2 17 rfl rfl)
theorem dX3_compartment_63 : decode cX3_compartment 63 = .ok (.iload_n 2, 1) := dk_28 (dk_at dksX3_compartment_2 18 rfl rfl)
theorem dX3_compartment_64 : decode cX3_compartment 64 = .ok (.invokevirtual 139, 3) := dk_182 0 139 (dk_at dksX3_compartment_2 19 rfl rfl)
theorem dX3_compartment_67 : decode cX3_compartment 67 = .ok (.ireturn, 1) := dk_172 (dk_at dksX3_compartment_2 22 rfl rfl)
def dkwX3_cablesIn_1 : List UInt8 := [3, 167, 0, 8, 42, 27, 182, 0, 114, 172]
abbrev dktX3_cablesIn_1 : List UInt8 := dkwX3_cablesIn_1 ++ []
def dkwX3_cablesIn_0 : List UInt8 := [42, 42, 27, 182, 0, 111, 153, 0, 7, 3, 167, 0, 4, 4, 181, 0, 66, 42, 180, 0, 66, 158, 0, 7]
abbrev dktX3_cablesIn_0 : List UInt8 := dkwX3_cablesIn_0 ++ dktX3_cablesIn_1
theorem dksX3_cablesIn_0 : cX3_cablesIn.data.toList.drop 0 = dktX3_cablesIn_0 := by decide +kernel
theorem dksX3_cablesIn_1 : cX3_cablesIn.data.toList.drop 24 = dktX3_cablesIn_1 := dk_seg dksX3_cablesIn_0 24 rfl rfl
theorem dX3_cablesIn_0 : decode cX3_cablesIn 0 = .ok (.aload_n 0, 1) := dk_42 (dk_at dksX3_cablesIn_0 0 rfl rfl)
theorem dX3_cablesIn_1 : decode cX3_cablesIn 1 = .ok (.aload_n 0, 1) := dk_42 (dk_at dksX3_cablesIn_0 1 rfl rfl)
theorem dX3_cablesIn_2 : decode cX3_cablesIn 2 = .ok (.iload_n 1, 1) := dk_27 (dk_at dksX3_cablesIn_0 2 rfl rfl)
theorem dX3_cablesIn_3 : decode cX3_cablesIn 3 = .ok (.invokevirtual 111, 3) := dk_182 0 111 (dk_at dksX3_cablesIn_0 3 rfl rfl)
theorem dX3_cablesIn_6 : decode cX3_cablesIn 6 = .ok (.ifCond .eq 7, 3) := dk_153 0 7 (dk_at dksX3_cablesIn_0 6 rfl rfl)
theorem dX3_cablesIn_9 : decode cX3_cablesIn 9 = .ok (.iconst 0, 1) := dk_3 (dk_at dksX3_cablesIn_0 9 rfl rfl)
theorem dX3_cablesIn_10 : decode cX3_cablesIn 10 = .ok (.goto 4, 3) := dk_167 0 4 (dk_at dksX3_cablesIn_0 10 rfl rfl)
theorem dX3_cablesIn_13 : decode cX3_cablesIn 13 = .ok (.iconst 1, 1) := dk_4 (dk_at dksX3_cablesIn_0 13 rfl rfl)
theorem dX3_cablesIn_14 : decode cX3_cablesIn 14 = .ok (.putfield 66, 3) := dk_181 0 66 (dk_at dksX3_cablesIn_0 14 rfl rfl)
theorem dX3_cablesIn_17 : decode cX3_cablesIn 17 = .ok (.aload_n 0, 1) := dk_42 (dk_at dksX3_cablesIn_0 17 rfl rfl)
theorem dX3_cablesIn_18 : decode cX3_cablesIn 18 = .ok (.getfield 66, 3) := dk_180 0 66 (dk_at dksX3_cablesIn_0 18 rfl rfl)
theorem dX3_cablesIn_21 : decode cX3_cablesIn 21 = .ok (.ifCond .le 7, 3) := dk_158 0 7 (dk_at dksX3_cablesIn_0 21 rfl rfl)
theorem dX3_cablesIn_24 : decode cX3_cablesIn 24 = .ok (.iconst 0, 1) := dk_3 (dk_at dksX3_cablesIn_1 0 rfl rfl)
theorem dX3_cablesIn_25 : decode cX3_cablesIn 25 = .ok (.goto 8, 3) := dk_167 0 8 (dk_at dksX3_cablesIn_1 1 rfl rfl)
theorem dX3_cablesIn_28 : decode cX3_cablesIn 28 = .ok (.aload_n 0, 1) := dk_42 (dk_at dksX3_cablesIn_1 4 rfl rfl)
theorem dX3_cablesIn_29 : decode cX3_cablesIn 29 = .ok (.iload_n 1, 1) := dk_27 (dk_at dksX3_cablesIn_1 5 rfl rfl)
theorem dX3_cablesIn_30 : decode cX3_cablesIn 30 = .ok (.invokevirtual 114, 3) := dk_182 0 114 (dk_at dksX3_cablesIn_1 6 rfl rfl)
theorem dX3_cablesIn_33 : decode cX3_cablesIn 33 = .ok (.ireturn, 1) := dk_172 (dk_at dksX3_cablesIn_1 9 rfl rfl)
def dkwX3_fullest_3 : List UInt8 := [167, 255, 209, 27, 172]
abbrev dktX3_fullest_3 : List UInt8 := dkwX3_fullest_3 ++ []
def dkwX3_fullest_2 : List UInt8 := [182, 0, 148, 42, 28, 6, 182, 0, 121, 104, 164, 0, 7, 28, 167, 0, 4, 27, 60, 132, 2, 1]
abbrev dktX3_fullest_2 : List UInt8 := dkwX3_fullest_2 ++ dktX3_fullest_3
def dkwX3_fullest_1 : List UInt8 := [42, 180, 0, 7, 16, 40, 46, 162, 0, 42, 42, 28, 182, 0, 148, 42, 27, 6, 182, 0, 121, 104, 42, 27]
abbrev dktX3_fullest_1 : List UInt8 := dkwX3_fullest_1 ++ dktX3_fullest_2
def dkwX3_fullest_0 : List UInt8 := [42, 42, 180, 0, 7, 16, 40, 46, 154, 0, 7, 4, 167, 0, 4, 3, 181, 0, 66, 3, 60, 4, 61, 28]
abbrev dktX3_fullest_0 : List UInt8 := dkwX3_fullest_0 ++ dktX3_fullest_1
theorem dksX3_fullest_0 : cX3_fullest.data.toList.drop 0 = dktX3_fullest_0 := by decide +kernel
theorem dksX3_fullest_1 : cX3_fullest.data.toList.drop 24 = dktX3_fullest_1 := dk_seg dksX3_fullest_0 24 rfl rfl
theorem dksX3_fullest_2 : cX3_fullest.data.toList.drop 48 = dktX3_fullest_2 := dk_seg dksX3_fullest_1 24 rfl rfl
theorem dksX3_fullest_3 : cX3_fullest.data.toList.drop 70 = dktX3_fullest_3 := dk_seg dksX3_fullest_2 22 rfl rfl
theorem dX3_fullest_0 : decode cX3_fullest 0 = .ok (.aload_n 0, 1) := dk_42 (dk_at dksX3_fullest_0 0 rfl rfl)
theorem dX3_fullest_1 : decode cX3_fullest 1 = .ok (.aload_n 0, 1) := dk_42 (dk_at dksX3_fullest_0 1 rfl rfl)
theorem dX3_fullest_2 : decode cX3_fullest 2 = .ok (.getfield 7, 3) := dk_180 0 7 (dk_at dksX3_fullest_0 2 rfl rfl)
theorem dX3_fullest_5 : decode cX3_fullest 5 = .ok (.bipush 40, 2) := dk_16 40 (dk_at dksX3_fullest_0 5 rfl rfl)
theorem dX3_fullest_7 : decode cX3_fullest 7 = .ok (.iaload, 1) := dk_46 (dk_at dksX3_fullest_0 7 rfl rfl)
theorem dX3_fullest_8 : decode cX3_fullest 8 = .ok (.ifCond .ne 7, 3) := dk_154 0 7 (dk_at dksX3_fullest_0 8 rfl rfl)
theorem dX3_fullest_11 : decode cX3_fullest 11 = .ok (.iconst 1, 1) := dk_4 (dk_at dksX3_fullest_0 11 rfl rfl)
theorem dX3_fullest_12 : decode cX3_fullest 12 = .ok (.goto 4, 3) := dk_167 0 4 (dk_at dksX3_fullest_0 12 rfl rfl)
theorem dX3_fullest_15 : decode cX3_fullest 15 = .ok (.iconst 0, 1) := dk_3 (dk_at dksX3_fullest_0 15 rfl rfl)
theorem dX3_fullest_16 : decode cX3_fullest 16 = .ok (.putfield 66, 3) := dk_181 0 66 (dk_at dksX3_fullest_0 16 rfl rfl)
theorem dX3_fullest_19 : decode cX3_fullest 19 = .ok (.iconst 0, 1) := dk_3 (dk_at dksX3_fullest_0 19 rfl rfl)
theorem dX3_fullest_20 : decode cX3_fullest 20 = .ok (.istore_n 1, 1) := dk_60 (dk_at dksX3_fullest_0 20 rfl rfl)
theorem dX3_fullest_21 : decode cX3_fullest 21 = .ok (.iconst 1, 1) := dk_4 (dk_at dksX3_fullest_0 21 rfl rfl)
theorem dX3_fullest_22 : decode cX3_fullest 22 = .ok (.istore_n 2, 1) := dk_61 (dk_at dksX3_fullest_0 22 rfl rfl)
theorem dX3_fullest_23 : decode cX3_fullest 23 = .ok (.iload_n 2, 1) := dk_28 (dk_at dksX3_fullest_0 23 rfl rfl)
theorem dX3_fullest_24 : decode cX3_fullest 24 = .ok (.aload_n 0, 1) := dk_42 (dk_at dksX3_fullest_1 0 rfl rfl)
theorem dX3_fullest_25 : decode cX3_fullest 25 = .ok (.getfield 7, 3) := dk_180 0 7 (dk_at dksX3_fullest_1 1 rfl rfl)
theorem dX3_fullest_28 : decode cX3_fullest 28 = .ok (.bipush 40, 2) := dk_16 40 (dk_at dksX3_fullest_1 4 rfl rfl)
theorem dX3_fullest_30 : decode cX3_fullest 30 = .ok (.iaload, 1) := dk_46 (dk_at dksX3_fullest_1 6 rfl rfl)
theorem dX3_fullest_31 : decode cX3_fullest 31 = .ok (.if_icmp .ge 42, 3) := dk_162 0 42 (dk_at dksX3_fullest_1 7 rfl rfl)
theorem dX3_fullest_34 : decode cX3_fullest 34 = .ok (.aload_n 0, 1) := dk_42 (dk_at dksX3_fullest_1 10 rfl rfl)
theorem dX3_fullest_35 : decode cX3_fullest 35 = .ok (.iload_n 2, 1) := dk_28 (dk_at dksX3_fullest_1 11 rfl rfl)
theorem dX3_fullest_36 : decode cX3_fullest 36 = .ok (.invokevirtual 148, 3) := dk_182 0 148 (dk_at dksX3_fullest_1 12 rfl rfl)
theorem dX3_fullest_39 : decode cX3_fullest 39 = .ok (.aload_n 0, 1) := dk_42 (dk_at dksX3_fullest_1 15 rfl rfl)
theorem dX3_fullest_40 : decode cX3_fullest 40 = .ok (.iload_n 1, 1) := dk_27 (dk_at dksX3_fullest_1 16 rfl rfl)
theorem dX3_fullest_41 : decode cX3_fullest 41 = .ok (.iconst 3, 1) := dk_6 (dk_at dksX3_fullest_1 17 rfl rfl)
theorem dX3_fullest_42 : decode cX3_fullest 42 = .ok (.invokevirtual 121, 3) := dk_182 0 121 (dk_at dksX3_fullest_1 18 rfl rfl)
theorem dX3_fullest_45 : decode cX3_fullest 45 = .ok (.imul, 1) := dk_104 (dk_at dksX3_fullest_1 21 rfl rfl)
theorem dX3_fullest_46 : decode cX3_fullest 46 = .ok (.aload_n 0, 1) := dk_42 (dk_at dksX3_fullest_1 22 rfl rfl)
theorem dX3_fullest_47 : decode cX3_fullest 47 = .ok (.iload_n 1, 1) := dk_27 (dk_at dksX3_fullest_1 23 rfl rfl)
theorem dX3_fullest_48 : decode cX3_fullest 48 = .ok (.invokevirtual 148, 3) := dk_182 0 148 (dk_at dksX3_fullest_2 0 rfl rfl)
theorem dX3_fullest_51 : decode cX3_fullest 51 = .ok (.aload_n 0, 1) := dk_42 (dk_at dksX3_fullest_2 3 rfl rfl)
theorem dX3_fullest_52 : decode cX3_fullest 52 = .ok (.iload_n 2, 1) := dk_28 (dk_at dksX3_fullest_2 4 rfl rfl)
theorem dX3_fullest_53 : decode cX3_fullest 53 = .ok (.iconst 3, 1) := dk_6 (dk_at dksX3_fullest_2 5 rfl rfl)
theorem dX3_fullest_54 : decode cX3_fullest 54 = .ok (.invokevirtual 121, 3) := dk_182 0 121 (dk_at dksX3_fullest_2 6 rfl rfl)
theorem dX3_fullest_57 : decode cX3_fullest 57 = .ok (.imul, 1) := dk_104 (dk_at dksX3_fullest_2 9 rfl rfl)
theorem dX3_fullest_58 : decode cX3_fullest 58 = .ok (.if_icmp .le 7, 3) := dk_164 0 7 (dk_at dksX3_fullest_2 10 rfl rfl)
theorem dX3_fullest_61 : decode cX3_fullest 61 = .ok (.iload_n 2, 1) := dk_28 (dk_at dksX3_fullest_2 13 rfl rfl)
theorem dX3_fullest_62 : decode cX3_fullest 62 = .ok (.goto 4, 3) := dk_167 0 4 (dk_at dksX3_fullest_2 14 rfl rfl)
theorem dX3_fullest_65 : decode cX3_fullest 65 = .ok (.iload_n 1, 1) := dk_27 (dk_at dksX3_fullest_2 17 rfl rfl)
theorem dX3_fullest_66 : decode cX3_fullest 66 = .ok (.istore_n 1, 1) := dk_60 (dk_at dksX3_fullest_2 18 rfl rfl)
theorem dX3_fullest_67 : decode cX3_fullest 67 = .ok (.iinc 2 1, 3) := dk_132 2 1 (dk_at dksX3_fullest_2 19 rfl rfl)
theorem dX3_fullest_70 : decode cX3_fullest 70 = .ok (.goto (-47), 3) := dk_167 255 209 (dk_at dksX3_fullest_3 0 rfl rfl)
theorem dX3_fullest_73 : decode cX3_fullest 73 = .ok (.iload_n 1, 1) := dk_27 (dk_at dksX3_fullest_3 3 rfl rfl)
theorem dX3_fullest_74 : decode cX3_fullest 74 = .ok (.ireturn, 1) := dk_172 (dk_at dksX3_fullest_3 4 rfl rfl)
def dkwX3_areasIn_1 : List UInt8 := [132, 3, 1, 167, 255, 234, 28, 172]
abbrev dktX3_areasIn_1 : List UInt8 := dkwX3_areasIn_1 ++ []
def dkwX3_areasIn_0 : List UInt8 := [3, 61, 3, 62, 29, 42, 27, 7, 182, 0, 121, 162, 0, 18, 28, 42, 27, 29, 182, 0, 133, 96, 61]
abbrev dktX3_areasIn_0 : List UInt8 := dkwX3_areasIn_0 ++ dktX3_areasIn_1
theorem dksX3_areasIn_0 : cX3_areasIn.data.toList.drop 0 = dktX3_areasIn_0 := by decide +kernel
theorem dksX3_areasIn_1 : cX3_areasIn.data.toList.drop 23 = dktX3_areasIn_1 := dk_seg dksX3_areasIn_0 23 rfl rfl
theorem dX3_areasIn_0 : decode cX3_areasIn 0 = .ok (.iconst 0, 1) := dk_3 (dk_at dksX3_areasIn_0 0 rfl rfl)
theorem dX3_areasIn_1 : decode cX3_areasIn 1 = .ok (.istore_n 2, 1) := dk_61 (dk_at dksX3_areasIn_0 1 rfl rfl)
theorem dX3_areasIn_2 : decode cX3_areasIn 2 = .ok (.iconst 0, 1) := dk_3 (dk_at dksX3_areasIn_0 2 rfl rfl)
theorem dX3_areasIn_3 : decode cX3_areasIn 3 = .ok (.istore_n 3, 1) := dk_62 (dk_at dksX3_areasIn_0 3 rfl rfl)
theorem dX3_areasIn_4 : decode cX3_areasIn 4 = .ok (.iload_n 3, 1) := dk_29 (dk_at dksX3_areasIn_0 4 rfl rfl)
theorem dX3_areasIn_5 : decode cX3_areasIn 5 = .ok (.aload_n 0, 1) := dk_42 (dk_at dksX3_areasIn_0 5 rfl rfl)
theorem dX3_areasIn_6 : decode cX3_areasIn 6 = .ok (.iload_n 1, 1) := dk_27 (dk_at dksX3_areasIn_0 6 rfl rfl)
theorem dX3_areasIn_7 : decode cX3_areasIn 7 = .ok (.iconst 4, 1) := dk_7 (dk_at dksX3_areasIn_0 7 rfl rfl)
theorem dX3_areasIn_8 : decode cX3_areasIn 8 = .ok (.invokevirtual 121, 3) := dk_182 0 121 (dk_at dksX3_areasIn_0 8 rfl rfl)
theorem dX3_areasIn_11 : decode cX3_areasIn 11 = .ok (.if_icmp .ge 18, 3) := dk_162 0 18 (dk_at dksX3_areasIn_0 11 rfl rfl)
theorem dX3_areasIn_14 : decode cX3_areasIn 14 = .ok (.iload_n 2, 1) := dk_28 (dk_at dksX3_areasIn_0 14 rfl rfl)
theorem dX3_areasIn_15 : decode cX3_areasIn 15 = .ok (.aload_n 0, 1) := dk_42 (dk_at dksX3_areasIn_0 15 rfl rfl)
theorem dX3_areasIn_16 : decode cX3_areasIn 16 = .ok (.iload_n 1, 1) := dk_27 (dk_at dksX3_areasIn_0 16 rfl rfl)
theorem dX3_areasIn_17 : decode cX3_areasIn 17 = .ok (.iload_n 3, 1) := dk_29 (dk_at dksX3_areasIn_0 17 rfl rfl)
theorem dX3_areasIn_18 : decode cX3_areasIn 18 = .ok (.invokevirtual 133, 3) := dk_182 0 133 (dk_at dksX3_areasIn_0 18 rfl rfl)
theorem dX3_areasIn_21 : decode cX3_areasIn 21 = .ok (.iadd, 1) := dk_96 (dk_at dksX3_areasIn_0 21 rfl rfl)
theorem dX3_areasIn_22 : decode cX3_areasIn 22 = .ok (.istore_n 2, 1) := dk_61 (dk_at dksX3_areasIn_0 22 rfl rfl)
theorem dX3_areasIn_23 : decode cX3_areasIn 23 = .ok (.iinc 3 1, 3) := dk_132 3 1 (dk_at dksX3_areasIn_1 0 rfl rfl)
theorem dX3_areasIn_26 : decode cX3_areasIn 26 = .ok (.goto (-22), 3) := dk_167 255 234 (dk_at dksX3_areasIn_1 3 rfl rfl)
theorem dX3_areasIn_29 : decode cX3_areasIn 29 = .ok (.iload_n 2, 1) := dk_28 (dk_at dksX3_areasIn_1 6 rfl rfl)
theorem dX3_areasIn_30 : decode cX3_areasIn 30 = .ok (.ireturn, 1) := dk_172 (dk_at dksX3_areasIn_1 7 rfl rfl)
def dkwX3_fill_1 : List UInt8 := [11, 167, 0, 17, 42, 27, 182, 0, 148, 134, 42, 27, 6, 182, 0, 121, 134, 110, 174]
abbrev dktX3_fill_1 : List UInt8 := dkwX3_fill_1 ++ []
def dkwX3_fill_0 : List UInt8 := [42, 42, 27, 182, 0, 111, 153, 0, 7, 3, 167, 0, 4, 4, 181, 0, 66, 42, 180, 0, 66, 158, 0, 7]
abbrev dktX3_fill_0 : List UInt8 := dkwX3_fill_0 ++ dktX3_fill_1
theorem dksX3_fill_0 : cX3_fill.data.toList.drop 0 = dktX3_fill_0 := by decide +kernel
theorem dksX3_fill_1 : cX3_fill.data.toList.drop 24 = dktX3_fill_1 := dk_seg dksX3_fill_0 24 rfl rfl
theorem dX3_fill_0 : decode cX3_fill 0 = .ok (.aload_n 0, 1) := dk_42 (dk_at dksX3_fill_0 0 rfl rfl)
theorem dX3_fill_1 : decode cX3_fill 1 = .ok (.aload_n 0, 1) := dk_42 (dk_at dksX3_fill_0 1 rfl rfl)
theorem dX3_fill_2 : decode cX3_fill 2 = .ok (.iload_n 1, 1) := dk_27 (dk_at dksX3_fill_0 2 rfl rfl)
theorem dX3_fill_3 : decode cX3_fill 3 = .ok (.invokevirtual 111, 3) := dk_182 0 111 (dk_at dksX3_fill_0 3 rfl rfl)
theorem dX3_fill_6 : decode cX3_fill 6 = .ok (.ifCond .eq 7, 3) := dk_153 0 7 (dk_at dksX3_fill_0 6 rfl rfl)
theorem dX3_fill_9 : decode cX3_fill 9 = .ok (.iconst 0, 1) := dk_3 (dk_at dksX3_fill_0 9 rfl rfl)
theorem dX3_fill_10 : decode cX3_fill 10 = .ok (.goto 4, 3) := dk_167 0 4 (dk_at dksX3_fill_0 10 rfl rfl)
theorem dX3_fill_13 : decode cX3_fill 13 = .ok (.iconst 1, 1) := dk_4 (dk_at dksX3_fill_0 13 rfl rfl)
theorem dX3_fill_14 : decode cX3_fill 14 = .ok (.putfield 66, 3) := dk_181 0 66 (dk_at dksX3_fill_0 14 rfl rfl)
theorem dX3_fill_17 : decode cX3_fill 17 = .ok (.aload_n 0, 1) := dk_42 (dk_at dksX3_fill_0 17 rfl rfl)
theorem dX3_fill_18 : decode cX3_fill 18 = .ok (.getfield 66, 3) := dk_180 0 66 (dk_at dksX3_fill_0 18 rfl rfl)
theorem dX3_fill_21 : decode cX3_fill 21 = .ok (.ifCond .le 7, 3) := dk_158 0 7 (dk_at dksX3_fill_0 21 rfl rfl)
theorem dX3_fill_24 : decode cX3_fill 24 = .ok (.fconst 0, 1) := dk_11 (dk_at dksX3_fill_1 0 rfl rfl)
theorem dX3_fill_25 : decode cX3_fill 25 = .ok (.goto 17, 3) := dk_167 0 17 (dk_at dksX3_fill_1 1 rfl rfl)
theorem dX3_fill_28 : decode cX3_fill 28 = .ok (.aload_n 0, 1) := dk_42 (dk_at dksX3_fill_1 4 rfl rfl)
theorem dX3_fill_29 : decode cX3_fill 29 = .ok (.iload_n 1, 1) := dk_27 (dk_at dksX3_fill_1 5 rfl rfl)
theorem dX3_fill_30 : decode cX3_fill 30 = .ok (.invokevirtual 148, 3) := dk_182 0 148 (dk_at dksX3_fill_1 6 rfl rfl)
theorem dX3_fill_33 : decode cX3_fill 33 = .ok (.i2f, 1) := dk_134 (dk_at dksX3_fill_1 9 rfl rfl)
theorem dX3_fill_34 : decode cX3_fill 34 = .ok (.aload_n 0, 1) := dk_42 (dk_at dksX3_fill_1 10 rfl rfl)
theorem dX3_fill_35 : decode cX3_fill 35 = .ok (.iload_n 1, 1) := dk_27 (dk_at dksX3_fill_1 11 rfl rfl)
theorem dX3_fill_36 : decode cX3_fill 36 = .ok (.iconst 3, 1) := dk_6 (dk_at dksX3_fill_1 12 rfl rfl)
theorem dX3_fill_37 : decode cX3_fill 37 = .ok (.invokevirtual 121, 3) := dk_182 0 121 (dk_at dksX3_fill_1 13 rfl rfl)
theorem dX3_fill_40 : decode cX3_fill 40 = .ok (.i2f, 1) := dk_134 (dk_at dksX3_fill_1 16 rfl rfl)
theorem dX3_fill_41 : decode cX3_fill 41 = .ok (.fdiv, 1) := dk_110 (dk_at dksX3_fill_1 17 rfl rfl)
theorem dX3_fill_42 : decode cX3_fill 42 = .ok (.freturn, 1) := dk_174 (dk_at dksX3_fill_1 18 rfl rfl)
def dkwX3_shortest_3 : List UInt8 := [172]
abbrev dktX3_shortest_3 : List UInt8 := dkwX3_shortest_3 ++ []
def dkwX3_shortest_2 : List UInt8 := [182, 0, 164, 42, 28, 29, 182, 0, 168, 42, 180, 0, 151, 154, 0, 7, 2, 167, 0, 7, 42, 180, 0, 154]
abbrev dktX3_shortest_2 : List UInt8 := dkwX3_shortest_2 ++ dktX3_shortest_3
def dkwX3_shortest_1 : List UInt8 := [167, 0, 4, 4, 181, 0, 66, 42, 180, 0, 66, 157, 0, 8, 28, 29, 160, 0, 5, 3, 172, 42, 27]
abbrev dktX3_shortest_1 : List UInt8 := dkwX3_shortest_1 ++ dktX3_shortest_2
def dkwX3_shortest_0 : List UInt8 := [42, 42, 27, 182, 0, 118, 153, 0, 21, 28, 184, 0, 101, 153, 0, 14, 29, 184, 0, 101, 153, 0, 7, 3]
abbrev dktX3_shortest_0 : List UInt8 := dkwX3_shortest_0 ++ dktX3_shortest_1
theorem dksX3_shortest_0 : cX3_shortest.data.toList.drop 0 = dktX3_shortest_0 := by decide +kernel
theorem dksX3_shortest_1 : cX3_shortest.data.toList.drop 24 = dktX3_shortest_1 := dk_seg dksX3_shortest_0 24 rfl rfl
theorem dksX3_shortest_2 : cX3_shortest.data.toList.drop 47 = dktX3_shortest_2 := dk_seg dksX3_shortest_1 23 rfl rfl
theorem dksX3_shortest_3 : cX3_shortest.data.toList.drop 71 = dktX3_shortest_3 := dk_seg dksX3_shortest_2 24 rfl rfl
theorem dX3_shortest_0 : decode cX3_shortest 0 = .ok (.aload_n 0, 1) := dk_42 (dk_at dksX3_shortest_0 0 rfl rfl)
theorem dX3_shortest_1 : decode cX3_shortest 1 = .ok (.aload_n 0, 1) := dk_42 (dk_at dksX3_shortest_0 1 rfl rfl)
theorem dX3_shortest_2 : decode cX3_shortest 2 = .ok (.iload_n 1, 1) := dk_27 (dk_at dksX3_shortest_0 2 rfl rfl)
theorem dX3_shortest_3 : decode cX3_shortest 3 = .ok (.invokevirtual 118, 3) := dk_182 0 118 (dk_at dksX3_shortest_0 3 rfl rfl)
theorem dX3_shortest_6 : decode cX3_shortest 6 = .ok (.ifCond .eq 21, 3) := dk_153 0 21 (dk_at dksX3_shortest_0 6 rfl rfl)
theorem dX3_shortest_9 : decode cX3_shortest 9 = .ok (.iload_n 2, 1) := dk_28 (dk_at dksX3_shortest_0 9 rfl rfl)
theorem dX3_shortest_10 : decode cX3_shortest 10 = .ok (.invokestatic 101, 3) := dk_184 0 101 (dk_at dksX3_shortest_0 10 rfl rfl)
theorem dX3_shortest_13 : decode cX3_shortest 13 = .ok (.ifCond .eq 14, 3) := dk_153 0 14 (dk_at dksX3_shortest_0 13 rfl rfl)
theorem dX3_shortest_16 : decode cX3_shortest 16 = .ok (.iload_n 3, 1) := dk_29 (dk_at dksX3_shortest_0 16 rfl rfl)
theorem dX3_shortest_17 : decode cX3_shortest 17 = .ok (.invokestatic 101, 3) := dk_184 0 101 (dk_at dksX3_shortest_0 17 rfl rfl)
theorem dX3_shortest_20 : decode cX3_shortest 20 = .ok (.ifCond .eq 7, 3) := dk_153 0 7 (dk_at dksX3_shortest_0 20 rfl rfl)
theorem dX3_shortest_23 : decode cX3_shortest 23 = .ok (.iconst 0, 1) := dk_3 (dk_at dksX3_shortest_0 23 rfl rfl)
theorem dX3_shortest_24 : decode cX3_shortest 24 = .ok (.goto 4, 3) := dk_167 0 4 (dk_at dksX3_shortest_1 0 rfl rfl)
theorem dX3_shortest_27 : decode cX3_shortest 27 = .ok (.iconst 1, 1) := dk_4 (dk_at dksX3_shortest_1 3 rfl rfl)
theorem dX3_shortest_28 : decode cX3_shortest 28 = .ok (.putfield 66, 3) := dk_181 0 66 (dk_at dksX3_shortest_1 4 rfl rfl)
theorem dX3_shortest_31 : decode cX3_shortest 31 = .ok (.aload_n 0, 1) := dk_42 (dk_at dksX3_shortest_1 7 rfl rfl)
theorem dX3_shortest_32 : decode cX3_shortest 32 = .ok (.getfield 66, 3) := dk_180 0 66 (dk_at dksX3_shortest_1 8 rfl rfl)
theorem dX3_shortest_35 : decode cX3_shortest 35 = .ok (.ifCond .gt 8, 3) := dk_157 0 8 (dk_at dksX3_shortest_1 11 rfl rfl)
theorem dX3_shortest_38 : decode cX3_shortest 38 = .ok (.iload_n 2, 1) := dk_28 (dk_at dksX3_shortest_1 14 rfl rfl)
theorem dX3_shortest_39 : decode cX3_shortest 39 = .ok (.iload_n 3, 1) := dk_29 (dk_at dksX3_shortest_1 15 rfl rfl)
theorem dX3_shortest_40 : decode cX3_shortest 40 = .ok (.if_icmp .ne 5, 3) := dk_160 0 5 (dk_at dksX3_shortest_1 16 rfl rfl)
theorem dX3_shortest_43 : decode cX3_shortest 43 = .ok (.iconst 0, 1) := dk_3 (dk_at dksX3_shortest_1 19 rfl rfl)
theorem dX3_shortest_44 : decode cX3_shortest 44 = .ok (.ireturn, 1) := dk_172 (dk_at dksX3_shortest_1 20 rfl rfl)
theorem dX3_shortest_45 : decode cX3_shortest 45 = .ok (.aload_n 0, 1) := dk_42 (dk_at dksX3_shortest_1 21 rfl rfl)
theorem dX3_shortest_46 : decode cX3_shortest 46 = .ok (.iload_n 1, 1) := dk_27 (dk_at dksX3_shortest_1 22 rfl rfl)
theorem dX3_shortest_47 : decode cX3_shortest 47 = .ok (.invokevirtual 164, 3) := dk_182 0 164 (dk_at dksX3_shortest_2 0 rfl rfl)
theorem dX3_shortest_50 : decode cX3_shortest 50 = .ok (.aload_n 0, 1) := dk_42 (dk_at dksX3_shortest_2 3 rfl rfl)
theorem dX3_shortest_51 : decode cX3_shortest 51 = .ok (.iload_n 2, 1) := dk_28 (dk_at dksX3_shortest_2 4 rfl rfl)
theorem dX3_shortest_52 : decode cX3_shortest 52 = .ok (.iload_n 3, 1) := dk_29 (dk_at dksX3_shortest_2 5 rfl rfl)
theorem dX3_shortest_53 : decode cX3_shortest 53 = .ok (.invokevirtual 168, 3) := dk_182 0 168 (dk_at dksX3_shortest_2 6 rfl rfl)
theorem dX3_shortest_56 : decode cX3_shortest 56 = .ok (.aload_n 0, 1) := dk_42 (dk_at dksX3_shortest_2 9 rfl rfl)
theorem dX3_shortest_57 : decode cX3_shortest 57 = .ok (.getfield 151, 3) := dk_180 0 151 (dk_at dksX3_shortest_2 10 rfl rfl)
theorem dX3_shortest_60 : decode cX3_shortest 60 = .ok (.ifCond .ne 7, 3) := dk_154 0 7 (dk_at dksX3_shortest_2 13 rfl rfl)
theorem dX3_shortest_63 : decode cX3_shortest 63 = .ok (.iconst (-1), 1) := dk_2 (dk_at dksX3_shortest_2 16 rfl rfl)
theorem dX3_shortest_64 : decode cX3_shortest 64 = .ok (.goto 7, 3) := dk_167 0 7 (dk_at dksX3_shortest_2 17 rfl rfl)
theorem dX3_shortest_67 : decode cX3_shortest 67 = .ok (.aload_n 0, 1) := dk_42 (dk_at dksX3_shortest_2 20 rfl rfl)
theorem dX3_shortest_68 : decode cX3_shortest 68 = .ok (.getfield 154, 3) := dk_180 0 154 (dk_at dksX3_shortest_2 21 rfl rfl)
theorem dX3_shortest_71 : decode cX3_shortest 71 = .ok (.ireturn, 1) := dk_172 (dk_at dksX3_shortest_3 0 rfl rfl)
def dkwX3_opens_1 : List UInt8 := [27, 182, 0, 142, 155, 0, 7, 4, 167, 0, 4, 3, 84, 132, 2, 1, 167, 255, 218, 177]
abbrev dktX3_opens_1 : List UInt8 := dkwX3_opens_1 ++ []
def dkwX3_opens_0 : List UInt8 := [3, 61, 28, 42, 180, 0, 7, 16, 40, 46, 162, 0, 33, 42, 180, 0, 25, 28, 27, 155, 0, 12, 42, 28]
abbrev dktX3_opens_0 : List UInt8 := dkwX3_opens_0 ++ dktX3_opens_1
theorem dksX3_opens_0 : cX3_opens.data.toList.drop 0 = dktX3_opens_0 := by decide +kernel
theorem dksX3_opens_1 : cX3_opens.data.toList.drop 24 = dktX3_opens_1 := dk_seg dksX3_opens_0 24 rfl rfl
theorem dX3_opens_0 : decode cX3_opens 0 = .ok (.iconst 0, 1) := dk_3 (dk_at dksX3_opens_0 0 rfl rfl)
theorem dX3_opens_1 : decode cX3_opens 1 = .ok (.istore_n 2, 1) := dk_61 (dk_at dksX3_opens_0 1 rfl rfl)
theorem dX3_opens_2 : decode cX3_opens 2 = .ok (.iload_n 2, 1) := dk_28 (dk_at dksX3_opens_0 2 rfl rfl)
theorem dX3_opens_3 : decode cX3_opens 3 = .ok (.aload_n 0, 1) := dk_42 (dk_at dksX3_opens_0 3 rfl rfl)
theorem dX3_opens_4 : decode cX3_opens 4 = .ok (.getfield 7, 3) := dk_180 0 7 (dk_at dksX3_opens_0 4 rfl rfl)
theorem dX3_opens_7 : decode cX3_opens 7 = .ok (.bipush 40, 2) := dk_16 40 (dk_at dksX3_opens_0 7 rfl rfl)
theorem dX3_opens_9 : decode cX3_opens 9 = .ok (.iaload, 1) := dk_46 (dk_at dksX3_opens_0 9 rfl rfl)
theorem dX3_opens_10 : decode cX3_opens 10 = .ok (.if_icmp .ge 33, 3) := dk_162 0 33 (dk_at dksX3_opens_0 10 rfl rfl)
theorem dX3_opens_13 : decode cX3_opens 13 = .ok (.aload_n 0, 1) := dk_42 (dk_at dksX3_opens_0 13 rfl rfl)
theorem dX3_opens_14 : decode cX3_opens 14 = .ok (.getfield 25, 3) := dk_180 0 25 (dk_at dksX3_opens_0 14 rfl rfl)
theorem dX3_opens_17 : decode cX3_opens 17 = .ok (.iload_n 2, 1) := dk_28 (dk_at dksX3_opens_0 17 rfl rfl)
theorem dX3_opens_18 : decode cX3_opens 18 = .ok (.iload_n 1, 1) := dk_27 (dk_at dksX3_opens_0 18 rfl rfl)
theorem dX3_opens_19 : decode cX3_opens 19 = .ok (.ifCond .lt 12, 3) := dk_155 0 12 (dk_at dksX3_opens_0 19 rfl rfl)
theorem dX3_opens_22 : decode cX3_opens 22 = .ok (.aload_n 0, 1) := dk_42 (dk_at dksX3_opens_0 22 rfl rfl)
theorem dX3_opens_23 : decode cX3_opens 23 = .ok (.iload_n 2, 1) := dk_28 (dk_at dksX3_opens_0 23 rfl rfl)
theorem dX3_opens_24 : decode cX3_opens 24 = .ok (.iload_n 1, 1) := dk_27 (dk_at dksX3_opens_1 0 rfl rfl)
theorem dX3_opens_25 : decode cX3_opens 25 = .ok (.invokevirtual 142, 3) := dk_182 0 142 (dk_at dksX3_opens_1 1 rfl rfl)
theorem dX3_opens_28 : decode cX3_opens 28 = .ok (.ifCond .lt 7, 3) := dk_155 0 7 (dk_at dksX3_opens_1 4 rfl rfl)
theorem dX3_opens_31 : decode cX3_opens 31 = .ok (.iconst 1, 1) := dk_4 (dk_at dksX3_opens_1 7 rfl rfl)
theorem dX3_opens_32 : decode cX3_opens 32 = .ok (.goto 4, 3) := dk_167 0 4 (dk_at dksX3_opens_1 8 rfl rfl)
theorem dX3_opens_35 : decode cX3_opens 35 = .ok (.iconst 0, 1) := dk_3 (dk_at dksX3_opens_1 11 rfl rfl)
theorem dX3_opens_36 : decode cX3_opens 36 = .ok (.bastore, 1) := dk_84 (dk_at dksX3_opens_1 12 rfl rfl)
theorem dX3_opens_37 : decode cX3_opens 37 = .ok (.iinc 2 1, 3) := dk_132 2 1 (dk_at dksX3_opens_1 13 rfl rfl)
theorem dX3_opens_40 : decode cX3_opens 40 = .ok (.goto (-38), 3) := dk_167 255 218 (dk_at dksX3_opens_1 16 rfl rfl)
theorem dX3_opens_43 : decode cX3_opens 43 = .ok (.return_, 1) := dk_177 (dk_at dksX3_opens_1 19 rfl rfl)
def dkwX3_findsWay_13 : List UInt8 := [21, 9, 42, 180, 0, 29, 21, 9, 46, 79, 132, 9, 1, 167, 255, 232, 167, 254, 228, 177]
abbrev dktX3_findsWay_13 : List UInt8 := dkwX3_findsWay_13 ++ []
def dkwX3_findsWay_12 : List UInt8 := [96, 181, 0, 151, 42, 21, 6, 181, 0, 154, 3, 54, 9, 21, 9, 21, 4, 163, 0, 23, 42, 180, 0, 32]
abbrev dktX3_findsWay_12 : List UInt8 := dkwX3_findsWay_12 ++ dktX3_findsWay_13
def dkwX3_findsWay_11 : List UInt8 := [21, 6, 42, 180, 0, 154, 160, 0, 58, 21, 4, 4, 96, 42, 180, 0, 151, 162, 0, 47, 42, 21, 4, 4]
abbrev dktX3_findsWay_11 : List UInt8 := dkwX3_findsWay_11 ++ dktX3_findsWay_12
def dkwX3_findsWay_10 : List UInt8 := [21, 4, 2, 79, 167, 0, 83, 42, 180, 0, 151, 153, 0, 32, 21, 6, 42, 180, 0, 154, 161, 0, 23]
abbrev dktX3_findsWay_10 : List UInt8 := dkwX3_findsWay_10 ++ dktX3_findsWay_11
def dkwX3_findsWay_9 : List UInt8 := [182, 0, 121, 96, 54, 6, 45, 21, 4, 4, 96, 46, 28, 159, 0, 17, 132, 4, 1, 42, 180, 0, 29]
abbrev dktX3_findsWay_9 : List UInt8 := dkwX3_findsWay_9 ++ dktX3_findsWay_10
def dkwX3_findsWay_8 : List UInt8 := [182, 0, 161, 79, 21, 5, 4, 45, 21, 4, 4, 96, 46, 120, 128, 54, 5, 21, 6, 42, 21, 8, 5]
abbrev dktX3_findsWay_8 : List UInt8 := dkwX3_findsWay_8 ++ dktX3_findsWay_9
def dkwX3_findsWay_7 : List UInt8 := [167, 255, 129, 42, 180, 0, 29, 21, 4, 21, 8, 79, 45, 21, 4, 4, 96, 42, 21, 8, 45, 21, 4, 46]
abbrev dktX3_findsWay_7 : List UInt8 := dkwX3_findsWay_7 ++ dktX3_findsWay_8
def dkwX3_findsWay_6 : List UInt8 := [160, 0, 9, 132, 8, 1, 167, 255, 199, 21, 8, 42, 180, 0, 7, 16, 40, 46, 160, 0, 9, 132, 4, 255]
abbrev dktX3_findsWay_6 : List UInt8 := dkwX3_findsWay_6 ++ dktX3_findsWay_7
def dkwX3_findsWay_5 : List UInt8 := [182, 0, 157, 153, 0, 22, 21, 5, 42, 21, 8, 45, 21, 4, 46, 182, 0, 161, 122, 4, 126, 4]
abbrev dktX3_findsWay_5 : List UInt8 := dkwX3_findsWay_5 ++ dktX3_findsWay_6
def dkwX3_findsWay_4 : List UInt8 := [16, 40, 46, 162, 0, 51, 42, 180, 0, 25, 21, 8, 51, 153, 0, 35, 42, 21, 8, 45, 21, 4, 46]
abbrev dktX3_findsWay_4 : List UInt8 := dkwX3_findsWay_4 ++ dktX3_findsWay_5
def dkwX3_findsWay_3 : List UInt8 := [21, 4, 4, 96, 46, 120, 2, 130, 126, 54, 5, 21, 7, 4, 96, 54, 8, 21, 8, 42, 180, 0, 7]
abbrev dktX3_findsWay_3 : List UInt8 := dkwX3_findsWay_3 ++ dktX3_findsWay_4
def dkwX3_findsWay_2 : List UInt8 := [46, 54, 7, 21, 7, 155, 0, 30, 21, 6, 42, 21, 7, 5, 182, 0, 121, 100, 54, 6, 21, 5, 4, 45]
abbrev dktX3_findsWay_2 : List UInt8 := dkwX3_findsWay_2 ++ dktX3_findsWay_3
def dkwX3_findsWay_1 : List UInt8 := [120, 54, 5, 3, 54, 6, 42, 180, 0, 29, 3, 2, 79, 21, 4, 155, 1, 29, 42, 180, 0, 29, 21, 4]
abbrev dktX3_findsWay_1 : List UInt8 := dkwX3_findsWay_1 ++ dktX3_findsWay_2
def dkwX3_findsWay_0 : List UInt8 := [42, 3, 181, 0, 151, 42, 3, 181, 0, 154, 42, 180, 0, 35, 78, 45, 3, 27, 79, 3, 54, 4, 4, 27]
abbrev dktX3_findsWay_0 : List UInt8 := dkwX3_findsWay_0 ++ dktX3_findsWay_1
theorem dksX3_findsWay_0 : cX3_findsWay.data.toList.drop 0 = dktX3_findsWay_0 := by decide +kernel
theorem dksX3_findsWay_1 : cX3_findsWay.data.toList.drop 24 = dktX3_findsWay_1 := dk_seg dksX3_findsWay_0 24 rfl rfl
theorem dksX3_findsWay_2 : cX3_findsWay.data.toList.drop 48 = dktX3_findsWay_2 := dk_seg dksX3_findsWay_1 24 rfl rfl
theorem dksX3_findsWay_3 : cX3_findsWay.data.toList.drop 72 = dktX3_findsWay_3 := dk_seg dksX3_findsWay_2 24 rfl rfl
theorem dksX3_findsWay_4 : cX3_findsWay.data.toList.drop 95 = dktX3_findsWay_4 := dk_seg dksX3_findsWay_3 23 rfl rfl
theorem dksX3_findsWay_5 : cX3_findsWay.data.toList.drop 118 = dktX3_findsWay_5 := dk_seg dksX3_findsWay_4 23 rfl rfl
theorem dksX3_findsWay_6 : cX3_findsWay.data.toList.drop 140 = dktX3_findsWay_6 := dk_seg dksX3_findsWay_5 22 rfl rfl
theorem dksX3_findsWay_7 : cX3_findsWay.data.toList.drop 164 = dktX3_findsWay_7 := dk_seg dksX3_findsWay_6 24 rfl rfl
theorem dksX3_findsWay_8 : cX3_findsWay.data.toList.drop 188 = dktX3_findsWay_8 := dk_seg dksX3_findsWay_7 24 rfl rfl
theorem dksX3_findsWay_9 : cX3_findsWay.data.toList.drop 211 = dktX3_findsWay_9 := dk_seg dksX3_findsWay_8 23 rfl rfl
theorem dksX3_findsWay_10 : cX3_findsWay.data.toList.drop 234 = dktX3_findsWay_10 := dk_seg dksX3_findsWay_9 23 rfl rfl
theorem dksX3_findsWay_11 : cX3_findsWay.data.toList.drop 257 = dktX3_findsWay_11 := dk_seg dksX3_findsWay_10 23 rfl rfl
theorem dksX3_findsWay_12 : cX3_findsWay.data.toList.drop 281 = dktX3_findsWay_12 := dk_seg dksX3_findsWay_11 24 rfl rfl
theorem dksX3_findsWay_13 : cX3_findsWay.data.toList.drop 305 = dktX3_findsWay_13 := dk_seg dksX3_findsWay_12 24 rfl rfl
theorem dX3_findsWay_0 : decode cX3_findsWay 0 = .ok (.aload_n 0, 1) := dk_42 (dk_at dksX3_findsWay_0 0 rfl rfl)
theorem dX3_findsWay_1 : decode cX3_findsWay 1 = .ok (.iconst 0, 1) := dk_3 (dk_at dksX3_findsWay_0 1 rfl rfl)
theorem dX3_findsWay_2 : decode cX3_findsWay 2 = .ok (.putfield 151, 3) := dk_181 0 151 (dk_at dksX3_findsWay_0 2 rfl rfl)
theorem dX3_findsWay_5 : decode cX3_findsWay 5 = .ok (.aload_n 0, 1) := dk_42 (dk_at dksX3_findsWay_0 5 rfl rfl)
theorem dX3_findsWay_6 : decode cX3_findsWay 6 = .ok (.iconst 0, 1) := dk_3 (dk_at dksX3_findsWay_0 6 rfl rfl)
theorem dX3_findsWay_7 : decode cX3_findsWay 7 = .ok (.putfield 154, 3) := dk_181 0 154 (dk_at dksX3_findsWay_0 7 rfl rfl)
theorem dX3_findsWay_10 : decode cX3_findsWay 10 = .ok (.aload_n 0, 1) := dk_42 (dk_at dksX3_findsWay_0 10 rfl rfl)
theorem dX3_findsWay_11 : decode cX3_findsWay 11 = .ok (.getfield 35, 3) := dk_180 0 35 (dk_at dksX3_findsWay_0 11 rfl rfl)
theorem dX3_findsWay_14 : decode cX3_findsWay 14 = .ok (.astore_n 3, 1) := dk_78 (dk_at dksX3_findsWay_0 14 rfl rfl)
theorem dX3_findsWay_15 : decode cX3_findsWay 15 = .ok (.aload_n 3, 1) := dk_45 (dk_at dksX3_findsWay_0 15 rfl rfl)
theorem dX3_findsWay_16 : decode cX3_findsWay 16 = .ok (.iconst 0, 1) := dk_3 (dk_at dksX3_findsWay_0 16 rfl rfl)
theorem dX3_findsWay_17 : decode cX3_findsWay 17 = .ok (.iload_n 1, 1) := dk_27 (dk_at dksX3_findsWay_0 17 rfl rfl)
theorem dX3_findsWay_18 : decode cX3_findsWay 18 = .ok (.iastore, 1) := dk_79 (dk_at dksX3_findsWay_0 18 rfl rfl)
theorem dX3_findsWay_19 : decode cX3_findsWay 19 = .ok (.iconst 0, 1) := dk_3 (dk_at dksX3_findsWay_0 19 rfl rfl)
theorem dX3_findsWay_20 : decode cX3_findsWay 20 = .ok (.istore 4, 2) := dk_54 4 (dk_at dksX3_findsWay_0 20 rfl rfl)
theorem dX3_findsWay_22 : decode cX3_findsWay 22 = .ok (.iconst 1, 1) := dk_4 (dk_at dksX3_findsWay_0 22 rfl rfl)
theorem dX3_findsWay_23 : decode cX3_findsWay 23 = .ok (.iload_n 1, 1) := dk_27 (dk_at dksX3_findsWay_0 23 rfl rfl)
theorem dX3_findsWay_24 : decode cX3_findsWay 24 = .ok (.ishl, 1) := dk_120 (dk_at dksX3_findsWay_1 0 rfl rfl)
theorem dX3_findsWay_25 : decode cX3_findsWay 25 = .ok (.istore 5, 2) := dk_54 5 (dk_at dksX3_findsWay_1 1 rfl rfl)
theorem dX3_findsWay_27 : decode cX3_findsWay 27 = .ok (.iconst 0, 1) := dk_3 (dk_at dksX3_findsWay_1 3 rfl rfl)
theorem dX3_findsWay_28 : decode cX3_findsWay 28 = .ok (.istore 6, 2) := dk_54 6 (dk_at dksX3_findsWay_1 4 rfl rfl)
theorem dX3_findsWay_30 : decode cX3_findsWay 30 = .ok (.aload_n 0, 1) := dk_42 (dk_at dksX3_findsWay_1 6 rfl rfl)
theorem dX3_findsWay_31 : decode cX3_findsWay 31 = .ok (.getfield 29, 3) := dk_180 0 29 (dk_at dksX3_findsWay_1 7 rfl rfl)
theorem dX3_findsWay_34 : decode cX3_findsWay 34 = .ok (.iconst 0, 1) := dk_3 (dk_at dksX3_findsWay_1 10 rfl rfl)
theorem dX3_findsWay_35 : decode cX3_findsWay 35 = .ok (.iconst (-1), 1) := dk_2 (dk_at dksX3_findsWay_1 11 rfl rfl)
theorem dX3_findsWay_36 : decode cX3_findsWay 36 = .ok (.iastore, 1) := dk_79 (dk_at dksX3_findsWay_1 12 rfl rfl)
theorem dX3_findsWay_37 : decode cX3_findsWay 37 = .ok (.iload 4, 2) := dk_21 4 (dk_at dksX3_findsWay_1 13 rfl rfl)
theorem dX3_findsWay_39 : decode cX3_findsWay 39 = .ok (.ifCond .lt 285, 3) := dk_155 1 29 (dk_at dksX3_findsWay_1 15 rfl rfl)
theorem dX3_findsWay_42 : decode cX3_findsWay 42 = .ok (.aload_n 0, 1) := dk_42 (dk_at dksX3_findsWay_1 18 rfl rfl)
theorem dX3_findsWay_43 : decode cX3_findsWay 43 = .ok (.getfield 29, 3) := dk_180 0 29 (dk_at dksX3_findsWay_1 19 rfl rfl)
theorem dX3_findsWay_46 : decode cX3_findsWay 46 = .ok (.iload 4, 2) := dk_21 4 (dk_at dksX3_findsWay_1 22 rfl rfl)
theorem dX3_findsWay_48 : decode cX3_findsWay 48 = .ok (.iaload, 1) := dk_46 (dk_at dksX3_findsWay_2 0 rfl rfl)
theorem dX3_findsWay_49 : decode cX3_findsWay 49 = .ok (.istore 7, 2) := dk_54 7 (dk_at dksX3_findsWay_2 1 rfl rfl)
theorem dX3_findsWay_51 : decode cX3_findsWay 51 = .ok (.iload 7, 2) := dk_21 7 (dk_at dksX3_findsWay_2 3 rfl rfl)
theorem dX3_findsWay_53 : decode cX3_findsWay 53 = .ok (.ifCond .lt 30, 3) := dk_155 0 30 (dk_at dksX3_findsWay_2 5 rfl rfl)
theorem dX3_findsWay_56 : decode cX3_findsWay 56 = .ok (.iload 6, 2) := dk_21 6 (dk_at dksX3_findsWay_2 8 rfl rfl)
theorem dX3_findsWay_58 : decode cX3_findsWay 58 = .ok (.aload_n 0, 1) := dk_42 (dk_at dksX3_findsWay_2 10 rfl rfl)
theorem dX3_findsWay_59 : decode cX3_findsWay 59 = .ok (.iload 7, 2) := dk_21 7 (dk_at dksX3_findsWay_2 11 rfl rfl)
theorem dX3_findsWay_61 : decode cX3_findsWay 61 = .ok (.iconst 2, 1) := dk_5 (dk_at dksX3_findsWay_2 13 rfl rfl)
theorem dX3_findsWay_62 : decode cX3_findsWay 62 = .ok (.invokevirtual 121, 3) := dk_182 0 121 (dk_at dksX3_findsWay_2 14 rfl rfl)
theorem dX3_findsWay_65 : decode cX3_findsWay 65 = .ok (.isub, 1) := dk_100 (dk_at dksX3_findsWay_2 17 rfl rfl)
theorem dX3_findsWay_66 : decode cX3_findsWay 66 = .ok (.istore 6, 2) := dk_54 6 (dk_at dksX3_findsWay_2 18 rfl rfl)
theorem dX3_findsWay_68 : decode cX3_findsWay 68 = .ok (.iload 5, 2) := dk_21 5 (dk_at dksX3_findsWay_2 20 rfl rfl)
theorem dX3_findsWay_70 : decode cX3_findsWay 70 = .ok (.iconst 1, 1) := dk_4 (dk_at dksX3_findsWay_2 22 rfl rfl)
theorem dX3_findsWay_71 : decode cX3_findsWay 71 = .ok (.aload_n 3, 1) := dk_45 (dk_at dksX3_findsWay_2 23 rfl rfl)
theorem dX3_findsWay_72 : decode cX3_findsWay 72 = .ok (.iload 4, 2) := dk_21 4 (dk_at dksX3_findsWay_3 0 rfl rfl)
theorem dX3_findsWay_74 : decode cX3_findsWay 74 = .ok (.iconst 1, 1) := dk_4 (dk_at dksX3_findsWay_3 2 rfl rfl)
theorem dX3_findsWay_75 : decode cX3_findsWay 75 = .ok (.iadd, 1) := dk_96 (dk_at dksX3_findsWay_3 3 rfl rfl)
theorem dX3_findsWay_76 : decode cX3_findsWay 76 = .ok (.iaload, 1) := dk_46 (dk_at dksX3_findsWay_3 4 rfl rfl)
theorem dX3_findsWay_77 : decode cX3_findsWay 77 = .ok (.ishl, 1) := dk_120 (dk_at dksX3_findsWay_3 5 rfl rfl)
theorem dX3_findsWay_78 : decode cX3_findsWay 78 = .ok (.iconst (-1), 1) := dk_2 (dk_at dksX3_findsWay_3 6 rfl rfl)
theorem dX3_findsWay_79 : decode cX3_findsWay 79 = .ok (.ixor, 1) := dk_130 (dk_at dksX3_findsWay_3 7 rfl rfl)
theorem dX3_findsWay_80 : decode cX3_findsWay 80 = .ok (.iand, 1) := dk_126 (dk_at dksX3_findsWay_3 8 rfl rfl)
theorem dX3_findsWay_81 : decode cX3_findsWay 81 = .ok (.istore 5, 2) := dk_54 5 (dk_at dksX3_findsWay_3 9 rfl rfl)
theorem dX3_findsWay_83 : decode cX3_findsWay 83 = .ok (.iload 7, 2) := dk_21 7 (dk_at dksX3_findsWay_3 11 rfl rfl)
theorem dX3_findsWay_85 : decode cX3_findsWay 85 = .ok (.iconst 1, 1) := dk_4 (dk_at dksX3_findsWay_3 13 rfl rfl)
theorem dX3_findsWay_86 : decode cX3_findsWay 86 = .ok (.iadd, 1) := dk_96 (dk_at dksX3_findsWay_3 14 rfl rfl)
theorem dX3_findsWay_87 : decode cX3_findsWay 87 = .ok (.istore 8, 2) := dk_54 8 (dk_at dksX3_findsWay_3 15 rfl rfl)
theorem dX3_findsWay_89 : decode cX3_findsWay 89 = .ok (.iload 8, 2) := dk_21 8 (dk_at dksX3_findsWay_3 17 rfl rfl)
theorem dX3_findsWay_91 : decode cX3_findsWay 91 = .ok (.aload_n 0, 1) := dk_42 (dk_at dksX3_findsWay_3 19 rfl rfl)
theorem dX3_findsWay_92 : decode cX3_findsWay 92 = .ok (.getfield 7, 3) := dk_180 0 7 (dk_at dksX3_findsWay_3 20 rfl rfl)
theorem dX3_findsWay_95 : decode cX3_findsWay 95 = .ok (.bipush 40, 2) := dk_16 40 (dk_at dksX3_findsWay_4 0 rfl rfl)
theorem dX3_findsWay_97 : decode cX3_findsWay 97 = .ok (.iaload, 1) := dk_46 (dk_at dksX3_findsWay_4 2 rfl rfl)
theorem dX3_findsWay_98 : decode cX3_findsWay 98 = .ok (.if_icmp .ge 51, 3) := dk_162 0 51 (dk_at dksX3_findsWay_4 3 rfl rfl)
theorem dX3_findsWay_101 : decode cX3_findsWay 101 = .ok (.aload_n 0, 1) := dk_42 (dk_at dksX3_findsWay_4 6 rfl rfl)
theorem dX3_findsWay_102 : decode cX3_findsWay 102 = .ok (.getfield 25, 3) := dk_180 0 25 (dk_at dksX3_findsWay_4 7 rfl rfl)
theorem dX3_findsWay_105 : decode cX3_findsWay 105 = .ok (.iload 8, 2) := dk_21 8 (dk_at dksX3_findsWay_4 10 rfl rfl)
theorem dX3_findsWay_107 : decode cX3_findsWay 107 = .ok (.baload, 1) := dk_51 (dk_at dksX3_findsWay_4 12 rfl rfl)
theorem dX3_findsWay_108 : decode cX3_findsWay 108 = .ok (.ifCond .eq 35, 3) := dk_153 0 35 (dk_at dksX3_findsWay_4 13 rfl rfl)
theorem dX3_findsWay_111 : decode cX3_findsWay 111 = .ok (.aload_n 0, 1) := dk_42 (dk_at dksX3_findsWay_4 16 rfl rfl)
theorem dX3_findsWay_112 : decode cX3_findsWay 112 = .ok (.iload 8, 2) := dk_21 8 (dk_at dksX3_findsWay_4 17 rfl rfl)
theorem dX3_findsWay_114 : decode cX3_findsWay 114 = .ok (.aload_n 3, 1) := dk_45 (dk_at dksX3_findsWay_4 19 rfl rfl)
theorem dX3_findsWay_115 : decode cX3_findsWay 115 = .ok (.iload 4, 2) := dk_21 4 (dk_at dksX3_findsWay_4 20 rfl rfl)
theorem dX3_findsWay_117 : decode cX3_findsWay 117 = .ok (.iaload, 1) := dk_46 (dk_at dksX3_findsWay_4 22 rfl rfl)
theorem dX3_findsWay_118 : decode cX3_findsWay 118 = .ok (.invokevirtual 157, 3) := dk_182 0 157 (dk_at dksX3_findsWay_5 0 rfl rfl)
theorem dX3_findsWay_121 : decode cX3_findsWay 121 = .ok (.ifCond .eq 22, 3) := dk_153 0 22 (dk_at dksX3_findsWay_5 3 rfl rfl)
theorem dX3_findsWay_124 : decode cX3_findsWay 124 = .ok (.iload 5, 2) := dk_21 5 (dk_at dksX3_findsWay_5 6 rfl rfl)
theorem dX3_findsWay_126 : decode cX3_findsWay 126 = .ok (.aload_n 0, 1) := dk_42 (dk_at dksX3_findsWay_5 8 rfl rfl)
theorem dX3_findsWay_127 : decode cX3_findsWay 127 = .ok (.iload 8, 2) := dk_21 8 (dk_at dksX3_findsWay_5 9 rfl rfl)
theorem dX3_findsWay_129 : decode cX3_findsWay 129 = .ok (.aload_n 3, 1) := dk_45 (dk_at dksX3_findsWay_5 11 rfl rfl)
theorem dX3_findsWay_130 : decode cX3_findsWay 130 = .ok (.iload 4, 2) := dk_21 4 (dk_at dksX3_findsWay_5 12 rfl rfl)
theorem dX3_findsWay_132 : decode cX3_findsWay 132 = .ok (.iaload, 1) := dk_46 (dk_at dksX3_findsWay_5 14 rfl rfl)
theorem dX3_findsWay_133 : decode cX3_findsWay 133 = .ok (.invokevirtual 161, 3) := dk_182 0 161 (dk_at dksX3_findsWay_5 15 rfl rfl)
theorem dX3_findsWay_136 : decode cX3_findsWay 136 = .ok (.ishr, 1) := dk_122 (dk_at dksX3_findsWay_5 18 rfl rfl)
theorem dX3_findsWay_137 : decode cX3_findsWay 137 = .ok (.iconst 1, 1) := dk_4 (dk_at dksX3_findsWay_5 19 rfl rfl)
theorem dX3_findsWay_138 : decode cX3_findsWay 138 = .ok (.iand, 1) := dk_126 (dk_at dksX3_findsWay_5 20 rfl rfl)
theorem dX3_findsWay_139 : decode cX3_findsWay 139 = .ok (.iconst 1, 1) := dk_4 (dk_at dksX3_findsWay_5 21 rfl rfl)
theorem dX3_findsWay_140 : decode cX3_findsWay 140 = .ok (.if_icmp .ne 9, 3) := dk_160 0 9 (dk_at dksX3_findsWay_6 0 rfl rfl)
theorem dX3_findsWay_143 : decode cX3_findsWay 143 = .ok (.iinc 8 1, 3) := dk_132 8 1 (dk_at dksX3_findsWay_6 3 rfl rfl)
theorem dX3_findsWay_146 : decode cX3_findsWay 146 = .ok (.goto (-57), 3) := dk_167 255 199 (dk_at dksX3_findsWay_6 6 rfl rfl)
theorem dX3_findsWay_149 : decode cX3_findsWay 149 = .ok (.iload 8, 2) := dk_21 8 (dk_at dksX3_findsWay_6 9 rfl rfl)
theorem dX3_findsWay_151 : decode cX3_findsWay 151 = .ok (.aload_n 0, 1) := dk_42 (dk_at dksX3_findsWay_6 11 rfl rfl)
theorem dX3_findsWay_152 : decode cX3_findsWay 152 = .ok (.getfield 7, 3) := dk_180 0 7 (dk_at dksX3_findsWay_6 12 rfl rfl)
theorem dX3_findsWay_155 : decode cX3_findsWay 155 = .ok (.bipush 40, 2) := dk_16 40 (dk_at dksX3_findsWay_6 15 rfl rfl)
theorem dX3_findsWay_157 : decode cX3_findsWay 157 = .ok (.iaload, 1) := dk_46 (dk_at dksX3_findsWay_6 17 rfl rfl)
theorem dX3_findsWay_158 : decode cX3_findsWay 158 = .ok (.if_icmp .ne 9, 3) := dk_160 0 9 (dk_at dksX3_findsWay_6 18 rfl rfl)
theorem dX3_findsWay_161 : decode cX3_findsWay 161 = .ok (.iinc 4 (-1), 3) := dk_132 4 255 (dk_at dksX3_findsWay_6 21 rfl rfl)
theorem dX3_findsWay_164 : decode cX3_findsWay 164 = .ok (.goto (-127), 3) := dk_167 255 129 (dk_at dksX3_findsWay_7 0 rfl rfl)
theorem dX3_findsWay_167 : decode cX3_findsWay 167 = .ok (.aload_n 0, 1) := dk_42 (dk_at dksX3_findsWay_7 3 rfl rfl)
theorem dX3_findsWay_168 : decode cX3_findsWay 168 = .ok (.getfield 29, 3) := dk_180 0 29 (dk_at dksX3_findsWay_7 4 rfl rfl)
theorem dX3_findsWay_171 : decode cX3_findsWay 171 = .ok (.iload 4, 2) := dk_21 4 (dk_at dksX3_findsWay_7 7 rfl rfl)
theorem dX3_findsWay_173 : decode cX3_findsWay 173 = .ok (.iload 8, 2) := dk_21 8 (dk_at dksX3_findsWay_7 9 rfl rfl)
theorem dX3_findsWay_175 : decode cX3_findsWay 175 = .ok (.iastore, 1) := dk_79 (dk_at dksX3_findsWay_7 11 rfl rfl)
theorem dX3_findsWay_176 : decode cX3_findsWay 176 = .ok (.aload_n 3, 1) := dk_45 (dk_at dksX3_findsWay_7 12 rfl rfl)
theorem dX3_findsWay_177 : decode cX3_findsWay 177 = .ok (.iload 4, 2) := dk_21 4 (dk_at dksX3_findsWay_7 13 rfl rfl)
theorem dX3_findsWay_179 : decode cX3_findsWay 179 = .ok (.iconst 1, 1) := dk_4 (dk_at dksX3_findsWay_7 15 rfl rfl)
theorem dX3_findsWay_180 : decode cX3_findsWay 180 = .ok (.iadd, 1) := dk_96 (dk_at dksX3_findsWay_7 16 rfl rfl)
theorem dX3_findsWay_181 : decode cX3_findsWay 181 = .ok (.aload_n 0, 1) := dk_42 (dk_at dksX3_findsWay_7 17 rfl rfl)
theorem dX3_findsWay_182 : decode cX3_findsWay 182 = .ok (.iload 8, 2) := dk_21 8 (dk_at dksX3_findsWay_7 18 rfl rfl)
theorem dX3_findsWay_184 : decode cX3_findsWay 184 = .ok (.aload_n 3, 1) := dk_45 (dk_at dksX3_findsWay_7 20 rfl rfl)
theorem dX3_findsWay_185 : decode cX3_findsWay 185 = .ok (.iload 4, 2) := dk_21 4 (dk_at dksX3_findsWay_7 21 rfl rfl)
theorem dX3_findsWay_187 : decode cX3_findsWay 187 = .ok (.iaload, 1) := dk_46 (dk_at dksX3_findsWay_7 23 rfl rfl)
theorem dX3_findsWay_188 : decode cX3_findsWay 188 = .ok (.invokevirtual 161, 3) := dk_182 0 161 (dk_at dksX3_findsWay_8 0 rfl rfl)
theorem dX3_findsWay_191 : decode cX3_findsWay 191 = .ok (.iastore, 1) := dk_79 (dk_at dksX3_findsWay_8 3 rfl rfl)
theorem dX3_findsWay_192 : decode cX3_findsWay 192 = .ok (.iload 5, 2) := dk_21 5 (dk_at dksX3_findsWay_8 4 rfl rfl)
theorem dX3_findsWay_194 : decode cX3_findsWay 194 = .ok (.iconst 1, 1) := dk_4 (dk_at dksX3_findsWay_8 6 rfl rfl)
theorem dX3_findsWay_195 : decode cX3_findsWay 195 = .ok (.aload_n 3, 1) := dk_45 (dk_at dksX3_findsWay_8 7 rfl rfl)
theorem dX3_findsWay_196 : decode cX3_findsWay 196 = .ok (.iload 4, 2) := dk_21 4 (dk_at dksX3_findsWay_8 8 rfl rfl)
theorem dX3_findsWay_198 : decode cX3_findsWay 198 = .ok (.iconst 1, 1) := dk_4 (dk_at dksX3_findsWay_8 10 rfl rfl)
theorem dX3_findsWay_199 : decode cX3_findsWay 199 = .ok (.iadd, 1) := dk_96 (dk_at dksX3_findsWay_8 11 rfl rfl)
theorem dX3_findsWay_200 : decode cX3_findsWay 200 = .ok (.iaload, 1) := dk_46 (dk_at dksX3_findsWay_8 12 rfl rfl)
theorem dX3_findsWay_201 : decode cX3_findsWay 201 = .ok (.ishl, 1) := dk_120 (dk_at dksX3_findsWay_8 13 rfl rfl)
theorem dX3_findsWay_202 : decode cX3_findsWay 202 = .ok (.ior, 1) := dk_128 (dk_at dksX3_findsWay_8 14 rfl rfl)
theorem dX3_findsWay_203 : decode cX3_findsWay 203 = .ok (.istore 5, 2) := dk_54 5 (dk_at dksX3_findsWay_8 15 rfl rfl)
theorem dX3_findsWay_205 : decode cX3_findsWay 205 = .ok (.iload 6, 2) := dk_21 6 (dk_at dksX3_findsWay_8 17 rfl rfl)
theorem dX3_findsWay_207 : decode cX3_findsWay 207 = .ok (.aload_n 0, 1) := dk_42 (dk_at dksX3_findsWay_8 19 rfl rfl)
theorem dX3_findsWay_208 : decode cX3_findsWay 208 = .ok (.iload 8, 2) := dk_21 8 (dk_at dksX3_findsWay_8 20 rfl rfl)
theorem dX3_findsWay_210 : decode cX3_findsWay 210 = .ok (.iconst 2, 1) := dk_5 (dk_at dksX3_findsWay_8 22 rfl rfl)
theorem dX3_findsWay_211 : decode cX3_findsWay 211 = .ok (.invokevirtual 121, 3) := dk_182 0 121 (dk_at dksX3_findsWay_9 0 rfl rfl)
theorem dX3_findsWay_214 : decode cX3_findsWay 214 = .ok (.iadd, 1) := dk_96 (dk_at dksX3_findsWay_9 3 rfl rfl)
theorem dX3_findsWay_215 : decode cX3_findsWay 215 = .ok (.istore 6, 2) := dk_54 6 (dk_at dksX3_findsWay_9 4 rfl rfl)
theorem dX3_findsWay_217 : decode cX3_findsWay 217 = .ok (.aload_n 3, 1) := dk_45 (dk_at dksX3_findsWay_9 6 rfl rfl)
theorem dX3_findsWay_218 : decode cX3_findsWay 218 = .ok (.iload 4, 2) := dk_21 4 (dk_at dksX3_findsWay_9 7 rfl rfl)
theorem dX3_findsWay_220 : decode cX3_findsWay 220 = .ok (.iconst 1, 1) := dk_4 (dk_at dksX3_findsWay_9 9 rfl rfl)
theorem dX3_findsWay_221 : decode cX3_findsWay 221 = .ok (.iadd, 1) := dk_96 (dk_at dksX3_findsWay_9 10 rfl rfl)
theorem dX3_findsWay_222 : decode cX3_findsWay 222 = .ok (.iaload, 1) := dk_46 (dk_at dksX3_findsWay_9 11 rfl rfl)
theorem dX3_findsWay_223 : decode cX3_findsWay 223 = .ok (.iload_n 2, 1) := dk_28 (dk_at dksX3_findsWay_9 12 rfl rfl)
theorem dX3_findsWay_224 : decode cX3_findsWay 224 = .ok (.if_icmp .eq 17, 3) := dk_159 0 17 (dk_at dksX3_findsWay_9 13 rfl rfl)
theorem dX3_findsWay_227 : decode cX3_findsWay 227 = .ok (.iinc 4 1, 3) := dk_132 4 1 (dk_at dksX3_findsWay_9 16 rfl rfl)
theorem dX3_findsWay_230 : decode cX3_findsWay 230 = .ok (.aload_n 0, 1) := dk_42 (dk_at dksX3_findsWay_9 19 rfl rfl)
theorem dX3_findsWay_231 : decode cX3_findsWay 231 = .ok (.getfield 29, 3) := dk_180 0 29 (dk_at dksX3_findsWay_9 20 rfl rfl)
theorem dX3_findsWay_234 : decode cX3_findsWay 234 = .ok (.iload 4, 2) := dk_21 4 (dk_at dksX3_findsWay_10 0 rfl rfl)
theorem dX3_findsWay_236 : decode cX3_findsWay 236 = .ok (.iconst (-1), 1) := dk_2 (dk_at dksX3_findsWay_10 2 rfl rfl)
theorem dX3_findsWay_237 : decode cX3_findsWay 237 = .ok (.iastore, 1) := dk_79 (dk_at dksX3_findsWay_10 3 rfl rfl)
theorem dX3_findsWay_238 : decode cX3_findsWay 238 = .ok (.goto 83, 3) := dk_167 0 83 (dk_at dksX3_findsWay_10 4 rfl rfl)
theorem dX3_findsWay_241 : decode cX3_findsWay 241 = .ok (.aload_n 0, 1) := dk_42 (dk_at dksX3_findsWay_10 7 rfl rfl)
theorem dX3_findsWay_242 : decode cX3_findsWay 242 = .ok (.getfield 151, 3) := dk_180 0 151 (dk_at dksX3_findsWay_10 8 rfl rfl)
theorem dX3_findsWay_245 : decode cX3_findsWay 245 = .ok (.ifCond .eq 32, 3) := dk_153 0 32 (dk_at dksX3_findsWay_10 11 rfl rfl)
theorem dX3_findsWay_248 : decode cX3_findsWay 248 = .ok (.iload 6, 2) := dk_21 6 (dk_at dksX3_findsWay_10 14 rfl rfl)
theorem dX3_findsWay_250 : decode cX3_findsWay 250 = .ok (.aload_n 0, 1) := dk_42 (dk_at dksX3_findsWay_10 16 rfl rfl)
theorem dX3_findsWay_251 : decode cX3_findsWay 251 = .ok (.getfield 154, 3) := dk_180 0 154 (dk_at dksX3_findsWay_10 17 rfl rfl)
theorem dX3_findsWay_254 : decode cX3_findsWay 254 = .ok (.if_icmp .lt 23, 3) := dk_161 0 23 (dk_at dksX3_findsWay_10 20 rfl rfl)
theorem dX3_findsWay_257 : decode cX3_findsWay 257 = .ok (.iload 6, 2) := dk_21 6 (dk_at dksX3_findsWay_11 0 rfl rfl)
theorem dX3_findsWay_259 : decode cX3_findsWay 259 = .ok (.aload_n 0, 1) := dk_42 (dk_at dksX3_findsWay_11 2 rfl rfl)
theorem dX3_findsWay_260 : decode cX3_findsWay 260 = .ok (.getfield 154, 3) := dk_180 0 154 (dk_at dksX3_findsWay_11 3 rfl rfl)
theorem dX3_findsWay_263 : decode cX3_findsWay 263 = .ok (.if_icmp .ne 58, 3) := dk_160 0 58 (dk_at dksX3_findsWay_11 6 rfl rfl)
theorem dX3_findsWay_266 : decode cX3_findsWay 266 = .ok (.iload 4, 2) := dk_21 4 (dk_at dksX3_findsWay_11 9 rfl rfl)
theorem dX3_findsWay_268 : decode cX3_findsWay 268 = .ok (.iconst 1, 1) := dk_4 (dk_at dksX3_findsWay_11 11 rfl rfl)
theorem dX3_findsWay_269 : decode cX3_findsWay 269 = .ok (.iadd, 1) := dk_96 (dk_at dksX3_findsWay_11 12 rfl rfl)
theorem dX3_findsWay_270 : decode cX3_findsWay 270 = .ok (.aload_n 0, 1) := dk_42 (dk_at dksX3_findsWay_11 13 rfl rfl)
theorem dX3_findsWay_271 : decode cX3_findsWay 271 = .ok (.getfield 151, 3) := dk_180 0 151 (dk_at dksX3_findsWay_11 14 rfl rfl)
theorem dX3_findsWay_274 : decode cX3_findsWay 274 = .ok (.if_icmp .ge 47, 3) := dk_162 0 47 (dk_at dksX3_findsWay_11 17 rfl rfl)
theorem dX3_findsWay_277 : decode cX3_findsWay 277 = .ok (.aload_n 0, 1) := dk_42 (dk_at dksX3_findsWay_11 20 rfl rfl)
theorem dX3_findsWay_278 : decode cX3_findsWay 278 = .ok (.iload 4, 2) := dk_21 4 (dk_at dksX3_findsWay_11 21 rfl rfl)
theorem dX3_findsWay_280 : decode cX3_findsWay 280 = .ok (.iconst 1, 1) := dk_4 (dk_at dksX3_findsWay_11 23 rfl rfl)
theorem dX3_findsWay_281 : decode cX3_findsWay 281 = .ok (.iadd, 1) := dk_96 (dk_at dksX3_findsWay_12 0 rfl rfl)
theorem dX3_findsWay_282 : decode cX3_findsWay 282 = .ok (.putfield 151, 3) := dk_181 0 151 (dk_at dksX3_findsWay_12 1 rfl rfl)
theorem dX3_findsWay_285 : decode cX3_findsWay 285 = .ok (.aload_n 0, 1) := dk_42 (dk_at dksX3_findsWay_12 4 rfl rfl)
theorem dX3_findsWay_286 : decode cX3_findsWay 286 = .ok (.iload 6, 2) := dk_21 6 (dk_at dksX3_findsWay_12 5 rfl rfl)
theorem dX3_findsWay_288 : decode cX3_findsWay 288 = .ok (.putfield 154, 3) := dk_181 0 154 (dk_at dksX3_findsWay_12 7 rfl rfl)
theorem dX3_findsWay_291 : decode cX3_findsWay 291 = .ok (.iconst 0, 1) := dk_3 (dk_at dksX3_findsWay_12 10 rfl rfl)
theorem dX3_findsWay_292 : decode cX3_findsWay 292 = .ok (.istore 9, 2) := dk_54 9 (dk_at dksX3_findsWay_12 11 rfl rfl)
theorem dX3_findsWay_294 : decode cX3_findsWay 294 = .ok (.iload 9, 2) := dk_21 9 (dk_at dksX3_findsWay_12 13 rfl rfl)
theorem dX3_findsWay_296 : decode cX3_findsWay 296 = .ok (.iload 4, 2) := dk_21 4 (dk_at dksX3_findsWay_12 15 rfl rfl)
theorem dX3_findsWay_298 : decode cX3_findsWay 298 = .ok (.if_icmp .gt 23, 3) := dk_163 0 23 (dk_at dksX3_findsWay_12 17 rfl rfl)
theorem dX3_findsWay_301 : decode cX3_findsWay 301 = .ok (.aload_n 0, 1) := dk_42 (dk_at dksX3_findsWay_12 20 rfl rfl)
theorem dX3_findsWay_302 : decode cX3_findsWay 302 = .ok (.getfield 32, 3) := dk_180 0 32 (dk_at dksX3_findsWay_12 21 rfl rfl)
theorem dX3_findsWay_305 : decode cX3_findsWay 305 = .ok (.iload 9, 2) := dk_21 9 (dk_at dksX3_findsWay_13 0 rfl rfl)
theorem dX3_findsWay_307 : decode cX3_findsWay 307 = .ok (.aload_n 0, 1) := dk_42 (dk_at dksX3_findsWay_13 2 rfl rfl)
theorem dX3_findsWay_308 : decode cX3_findsWay 308 = .ok (.getfield 29, 3) := dk_180 0 29 (dk_at dksX3_findsWay_13 3 rfl rfl)
theorem dX3_findsWay_311 : decode cX3_findsWay 311 = .ok (.iload 9, 2) := dk_21 9 (dk_at dksX3_findsWay_13 6 rfl rfl)
theorem dX3_findsWay_313 : decode cX3_findsWay 313 = .ok (.iaload, 1) := dk_46 (dk_at dksX3_findsWay_13 8 rfl rfl)
theorem dX3_findsWay_314 : decode cX3_findsWay 314 = .ok (.iastore, 1) := dk_79 (dk_at dksX3_findsWay_13 9 rfl rfl)
theorem dX3_findsWay_315 : decode cX3_findsWay 315 = .ok (.iinc 9 1, 3) := dk_132 9 1 (dk_at dksX3_findsWay_13 10 rfl rfl)
theorem dX3_findsWay_318 : decode cX3_findsWay 318 = .ok (.goto (-24), 3) := dk_167 255 232 (dk_at dksX3_findsWay_13 13 rfl rfl)
theorem dX3_findsWay_321 : decode cX3_findsWay 321 = .ok (.goto (-284), 3) := dk_167 254 228 (dk_at dksX3_findsWay_13 16 rfl rfl)
theorem dX3_findsWay_324 : decode cX3_findsWay 324 = .ok (.return_, 1) := dk_177 (dk_at dksX3_findsWay_13 19 rfl rfl)
def dkwX3_isAt_1 : List UInt8 := [3, 172]
abbrev dktX3_isAt_1 : List UInt8 := dkwX3_isAt_1 ++ []
def dkwX3_isAt_0 : List UInt8 := [42, 27, 3, 182, 0, 121, 28, 159, 0, 13, 42, 27, 4, 182, 0, 121, 28, 160, 0, 7, 4, 167, 0, 4]
abbrev dktX3_isAt_0 : List UInt8 := dkwX3_isAt_0 ++ dktX3_isAt_1
theorem dksX3_isAt_0 : cX3_isAt.data.toList.drop 0 = dktX3_isAt_0 := by decide +kernel
theorem dksX3_isAt_1 : cX3_isAt.data.toList.drop 24 = dktX3_isAt_1 := dk_seg dksX3_isAt_0 24 rfl rfl
theorem dX3_isAt_0 : decode cX3_isAt 0 = .ok (.aload_n 0, 1) := dk_42 (dk_at dksX3_isAt_0 0 rfl rfl)
theorem dX3_isAt_1 : decode cX3_isAt 1 = .ok (.iload_n 1, 1) := dk_27 (dk_at dksX3_isAt_0 1 rfl rfl)
theorem dX3_isAt_2 : decode cX3_isAt 2 = .ok (.iconst 0, 1) := dk_3 (dk_at dksX3_isAt_0 2 rfl rfl)
theorem dX3_isAt_3 : decode cX3_isAt 3 = .ok (.invokevirtual 121, 3) := dk_182 0 121 (dk_at dksX3_isAt_0 3 rfl rfl)
theorem dX3_isAt_6 : decode cX3_isAt 6 = .ok (.iload_n 2, 1) := dk_28 (dk_at dksX3_isAt_0 6 rfl rfl)
theorem dX3_isAt_7 : decode cX3_isAt 7 = .ok (.if_icmp .eq 13, 3) := dk_159 0 13 (dk_at dksX3_isAt_0 7 rfl rfl)
theorem dX3_isAt_10 : decode cX3_isAt 10 = .ok (.aload_n 0, 1) := dk_42 (dk_at dksX3_isAt_0 10 rfl rfl)
theorem dX3_isAt_11 : decode cX3_isAt 11 = .ok (.iload_n 1, 1) := dk_27 (dk_at dksX3_isAt_0 11 rfl rfl)
theorem dX3_isAt_12 : decode cX3_isAt 12 = .ok (.iconst 1, 1) := dk_4 (dk_at dksX3_isAt_0 12 rfl rfl)
theorem dX3_isAt_13 : decode cX3_isAt 13 = .ok (.invokevirtual 121, 3) := dk_182 0 121 (dk_at dksX3_isAt_0 13 rfl rfl)
theorem dX3_isAt_16 : decode cX3_isAt 16 = .ok (.iload_n 2, 1) := dk_28 (dk_at dksX3_isAt_0 16 rfl rfl)
theorem dX3_isAt_17 : decode cX3_isAt 17 = .ok (.if_icmp .ne 7, 3) := dk_160 0 7 (dk_at dksX3_isAt_0 17 rfl rfl)
theorem dX3_isAt_20 : decode cX3_isAt 20 = .ok (.iconst 1, 1) := dk_4 (dk_at dksX3_isAt_0 20 rfl rfl)
theorem dX3_isAt_21 : decode cX3_isAt 21 = .ok (.goto 4, 3) := dk_167 0 4 (dk_at dksX3_isAt_0 21 rfl rfl)
theorem dX3_isAt_24 : decode cX3_isAt 24 = .ok (.iconst 0, 1) := dk_3 (dk_at dksX3_isAt_1 0 rfl rfl)
theorem dX3_isAt_25 : decode cX3_isAt 25 = .ok (.ireturn, 1) := dk_172 (dk_at dksX3_isAt_1 1 rfl rfl)
def dkwX3_other_1 : List UInt8 := [182, 0, 121, 42, 27, 4, 182, 0, 121, 96, 28, 100, 172]
abbrev dktX3_other_1 : List UInt8 := dkwX3_other_1 ++ []
def dkwX3_other_0 : List UInt8 := [42, 27, 3, 182, 0, 121, 28, 160, 0, 12, 42, 27, 4, 182, 0, 121, 167, 0, 18, 42, 27, 3]
abbrev dktX3_other_0 : List UInt8 := dkwX3_other_0 ++ dktX3_other_1
theorem dksX3_other_0 : cX3_other.data.toList.drop 0 = dktX3_other_0 := by decide +kernel
theorem dksX3_other_1 : cX3_other.data.toList.drop 22 = dktX3_other_1 := dk_seg dksX3_other_0 22 rfl rfl
theorem dX3_other_0 : decode cX3_other 0 = .ok (.aload_n 0, 1) := dk_42 (dk_at dksX3_other_0 0 rfl rfl)
theorem dX3_other_1 : decode cX3_other 1 = .ok (.iload_n 1, 1) := dk_27 (dk_at dksX3_other_0 1 rfl rfl)
theorem dX3_other_2 : decode cX3_other 2 = .ok (.iconst 0, 1) := dk_3 (dk_at dksX3_other_0 2 rfl rfl)
theorem dX3_other_3 : decode cX3_other 3 = .ok (.invokevirtual 121, 3) := dk_182 0 121 (dk_at dksX3_other_0 3 rfl rfl)
theorem dX3_other_6 : decode cX3_other 6 = .ok (.iload_n 2, 1) := dk_28 (dk_at dksX3_other_0 6 rfl rfl)
theorem dX3_other_7 : decode cX3_other 7 = .ok (.if_icmp .ne 12, 3) := dk_160 0 12 (dk_at dksX3_other_0 7 rfl rfl)
theorem dX3_other_10 : decode cX3_other 10 = .ok (.aload_n 0, 1) := dk_42 (dk_at dksX3_other_0 10 rfl rfl)
theorem dX3_other_11 : decode cX3_other 11 = .ok (.iload_n 1, 1) := dk_27 (dk_at dksX3_other_0 11 rfl rfl)
theorem dX3_other_12 : decode cX3_other 12 = .ok (.iconst 1, 1) := dk_4 (dk_at dksX3_other_0 12 rfl rfl)
theorem dX3_other_13 : decode cX3_other 13 = .ok (.invokevirtual 121, 3) := dk_182 0 121 (dk_at dksX3_other_0 13 rfl rfl)
theorem dX3_other_16 : decode cX3_other 16 = .ok (.goto 18, 3) := dk_167 0 18 (dk_at dksX3_other_0 16 rfl rfl)
theorem dX3_other_19 : decode cX3_other 19 = .ok (.aload_n 0, 1) := dk_42 (dk_at dksX3_other_0 19 rfl rfl)
theorem dX3_other_20 : decode cX3_other 20 = .ok (.iload_n 1, 1) := dk_27 (dk_at dksX3_other_0 20 rfl rfl)
theorem dX3_other_21 : decode cX3_other 21 = .ok (.iconst 0, 1) := dk_3 (dk_at dksX3_other_0 21 rfl rfl)
theorem dX3_other_22 : decode cX3_other 22 = .ok (.invokevirtual 121, 3) := dk_182 0 121 (dk_at dksX3_other_1 0 rfl rfl)
theorem dX3_other_25 : decode cX3_other 25 = .ok (.aload_n 0, 1) := dk_42 (dk_at dksX3_other_1 3 rfl rfl)
theorem dX3_other_26 : decode cX3_other 26 = .ok (.iload_n 1, 1) := dk_27 (dk_at dksX3_other_1 4 rfl rfl)
theorem dX3_other_27 : decode cX3_other 27 = .ok (.iconst 1, 1) := dk_4 (dk_at dksX3_other_1 5 rfl rfl)
theorem dX3_other_28 : decode cX3_other 28 = .ok (.invokevirtual 121, 3) := dk_182 0 121 (dk_at dksX3_other_1 6 rfl rfl)
theorem dX3_other_31 : decode cX3_other 31 = .ok (.iadd, 1) := dk_96 (dk_at dksX3_other_1 9 rfl rfl)
theorem dX3_other_32 : decode cX3_other 32 = .ok (.iload_n 2, 1) := dk_28 (dk_at dksX3_other_1 10 rfl rfl)
theorem dX3_other_33 : decode cX3_other 33 = .ok (.isub, 1) := dk_100 (dk_at dksX3_other_1 11 rfl rfl)
theorem dX3_other_34 : decode cX3_other 34 = .ok (.ireturn, 1) := dk_172 (dk_at dksX3_other_1 12 rfl rfl)
def dkwX3_route_7 : List UInt8 := [180, 0, 7, 27, 6, 184, 0, 98, 4, 79, 42, 27, 182, 0, 190, 172]
abbrev dktX3_route_7 : List UInt8 := dkwX3_route_7 ++ []
def dkwX3_route_6 : List UInt8 := [46, 79, 132, 3, 1, 167, 255, 198, 42, 180, 0, 7, 27, 7, 184, 0, 98, 42, 180, 0, 151, 79, 42]
abbrev dktX3_route_6 : List UInt8 := dkwX3_route_6 ++ dktX3_route_7
def dkwX3_route_5 : List UInt8 := [96, 184, 0, 98, 21, 4, 79, 42, 180, 0, 7, 27, 16, 7, 29, 96, 184, 0, 98, 42, 180, 0, 32, 29]
abbrev dktX3_route_5 : List UInt8 := dkwX3_route_5 ++ dktX3_route_6
def dkwX3_route_4 : List UInt8 := [162, 0, 56, 42, 42, 180, 0, 32, 29, 46, 28, 182, 0, 142, 54, 4, 42, 180, 0, 7, 27, 16, 14, 29]
abbrev dktX3_route_4 : List UInt8 := dkwX3_route_4 ++ dktX3_route_5
def dkwX3_route_3 : List UInt8 := [180, 0, 151, 154, 0, 9, 42, 27, 182, 0, 187, 172, 42, 182, 0, 87, 3, 62, 29, 42, 180, 0, 151]
abbrev dktX3_route_3 : List UInt8 := dkwX3_route_3 ++ dktX3_route_4
def dkwX3_route_2 : List UInt8 := [61, 42, 28, 182, 0, 164, 42, 42, 27, 4, 182, 0, 105, 42, 27, 5, 182, 0, 105, 182, 0, 168, 42]
abbrev dktX3_route_2 : List UInt8 := dkwX3_route_2 ++ dktX3_route_3
def dkwX3_route_1 : List UInt8 := [182, 0, 105, 153, 0, 15, 42, 5, 42, 27, 6, 182, 0, 105, 182, 0, 181, 172, 42, 27, 3, 182, 0, 105]
abbrev dktX3_route_1 : List UInt8 := dkwX3_route_1 ++ dktX3_route_2
def dkwX3_route_0 : List UInt8 := [42, 3, 181, 0, 66, 42, 27, 182, 0, 184, 154, 0, 10, 42, 4, 27, 182, 0, 181, 172, 42, 27, 6]
abbrev dktX3_route_0 : List UInt8 := dkwX3_route_0 ++ dktX3_route_1
theorem dksX3_route_0 : cX3_route.data.toList.drop 0 = dktX3_route_0 := by decide +kernel
theorem dksX3_route_1 : cX3_route.data.toList.drop 23 = dktX3_route_1 := dk_seg dksX3_route_0 23 rfl rfl
theorem dksX3_route_2 : cX3_route.data.toList.drop 47 = dktX3_route_2 := dk_seg dksX3_route_1 24 rfl rfl
theorem dksX3_route_3 : cX3_route.data.toList.drop 70 = dktX3_route_3 := dk_seg dksX3_route_2 23 rfl rfl
theorem dksX3_route_4 : cX3_route.data.toList.drop 93 = dktX3_route_4 := dk_seg dksX3_route_3 23 rfl rfl
theorem dksX3_route_5 : cX3_route.data.toList.drop 117 = dktX3_route_5 := dk_seg dksX3_route_4 24 rfl rfl
theorem dksX3_route_6 : cX3_route.data.toList.drop 141 = dktX3_route_6 := dk_seg dksX3_route_5 24 rfl rfl
theorem dksX3_route_7 : cX3_route.data.toList.drop 164 = dktX3_route_7 := dk_seg dksX3_route_6 23 rfl rfl
theorem dX3_route_0 : decode cX3_route 0 = .ok (.aload_n 0, 1) := dk_42 (dk_at dksX3_route_0 0 rfl rfl)
theorem dX3_route_1 : decode cX3_route 1 = .ok (.iconst 0, 1) := dk_3 (dk_at dksX3_route_0 1 rfl rfl)
theorem dX3_route_2 : decode cX3_route 2 = .ok (.putfield 66, 3) := dk_181 0 66 (dk_at dksX3_route_0 2 rfl rfl)
theorem dX3_route_5 : decode cX3_route 5 = .ok (.aload_n 0, 1) := dk_42 (dk_at dksX3_route_0 5 rfl rfl)
theorem dX3_route_6 : decode cX3_route 6 = .ok (.iload_n 1, 1) := dk_27 (dk_at dksX3_route_0 6 rfl rfl)
theorem dX3_route_7 : decode cX3_route 7 = .ok (.invokevirtual 184, 3) := dk_182 0 184 (dk_at dksX3_route_0 7 rfl rfl)
theorem dX3_route_10 : decode cX3_route 10 = .ok (.ifCond .ne 10, 3) := dk_154 0 10 (dk_at dksX3_route_0 10 rfl rfl)
theorem dX3_route_13 : decode cX3_route 13 = .ok (.aload_n 0, 1) := dk_42 (dk_at dksX3_route_0 13 rfl rfl)
theorem dX3_route_14 : decode cX3_route 14 = .ok (.iconst 1, 1) := dk_4 (dk_at dksX3_route_0 14 rfl rfl)
theorem dX3_route_15 : decode cX3_route 15 = .ok (.iload_n 1, 1) := dk_27 (dk_at dksX3_route_0 15 rfl rfl)
theorem dX3_route_16 : decode cX3_route 16 = .ok (.invokevirtual 181, 3) := dk_182 0 181 (dk_at dksX3_route_0 16 rfl rfl)
theorem dX3_route_19 : decode cX3_route 19 = .ok (.ireturn, 1) := dk_172 (dk_at dksX3_route_0 19 rfl rfl)
theorem dX3_route_20 : decode cX3_route 20 = .ok (.aload_n 0, 1) := dk_42 (dk_at dksX3_route_0 20 rfl rfl)
theorem dX3_route_21 : decode cX3_route 21 = .ok (.iload_n 1, 1) := dk_27 (dk_at dksX3_route_0 21 rfl rfl)
theorem dX3_route_22 : decode cX3_route 22 = .ok (.iconst 3, 1) := dk_6 (dk_at dksX3_route_0 22 rfl rfl)
theorem dX3_route_23 : decode cX3_route 23 = .ok (.invokevirtual 105, 3) := dk_182 0 105 (dk_at dksX3_route_1 0 rfl rfl)
theorem dX3_route_26 : decode cX3_route 26 = .ok (.ifCond .eq 15, 3) := dk_153 0 15 (dk_at dksX3_route_1 3 rfl rfl)
theorem dX3_route_29 : decode cX3_route 29 = .ok (.aload_n 0, 1) := dk_42 (dk_at dksX3_route_1 6 rfl rfl)
theorem dX3_route_30 : decode cX3_route 30 = .ok (.iconst 2, 1) := dk_5 (dk_at dksX3_route_1 7 rfl rfl)
theorem dX3_route_31 : decode cX3_route 31 = .ok (.aload_n 0, 1) := dk_42 (dk_at dksX3_route_1 8 rfl rfl)
theorem dX3_route_32 : decode cX3_route 32 = .ok (.iload_n 1, 1) := dk_27 (dk_at dksX3_route_1 9 rfl rfl)
theorem dX3_route_33 : decode cX3_route 33 = .ok (.iconst 3, 1) := dk_6 (dk_at dksX3_route_1 10 rfl rfl)
theorem dX3_route_34 : decode cX3_route 34 = .ok (.invokevirtual 105, 3) := dk_182 0 105 (dk_at dksX3_route_1 11 rfl rfl)
theorem dX3_route_37 : decode cX3_route 37 = .ok (.invokevirtual 181, 3) := dk_182 0 181 (dk_at dksX3_route_1 14 rfl rfl)
theorem dX3_route_40 : decode cX3_route 40 = .ok (.ireturn, 1) := dk_172 (dk_at dksX3_route_1 17 rfl rfl)
theorem dX3_route_41 : decode cX3_route 41 = .ok (.aload_n 0, 1) := dk_42 (dk_at dksX3_route_1 18 rfl rfl)
theorem dX3_route_42 : decode cX3_route 42 = .ok (.iload_n 1, 1) := dk_27 (dk_at dksX3_route_1 19 rfl rfl)
theorem dX3_route_43 : decode cX3_route 43 = .ok (.iconst 0, 1) := dk_3 (dk_at dksX3_route_1 20 rfl rfl)
theorem dX3_route_44 : decode cX3_route 44 = .ok (.invokevirtual 105, 3) := dk_182 0 105 (dk_at dksX3_route_1 21 rfl rfl)
theorem dX3_route_47 : decode cX3_route 47 = .ok (.istore_n 2, 1) := dk_61 (dk_at dksX3_route_2 0 rfl rfl)
theorem dX3_route_48 : decode cX3_route 48 = .ok (.aload_n 0, 1) := dk_42 (dk_at dksX3_route_2 1 rfl rfl)
theorem dX3_route_49 : decode cX3_route 49 = .ok (.iload_n 2, 1) := dk_28 (dk_at dksX3_route_2 2 rfl rfl)
theorem dX3_route_50 : decode cX3_route 50 = .ok (.invokevirtual 164, 3) := dk_182 0 164 (dk_at dksX3_route_2 3 rfl rfl)
theorem dX3_route_53 : decode cX3_route 53 = .ok (.aload_n 0, 1) := dk_42 (dk_at dksX3_route_2 6 rfl rfl)
theorem dX3_route_54 : decode cX3_route 54 = .ok (.aload_n 0, 1) := dk_42 (dk_at dksX3_route_2 7 rfl rfl)
theorem dX3_route_55 : decode cX3_route 55 = .ok (.iload_n 1, 1) := dk_27 (dk_at dksX3_route_2 8 rfl rfl)
theorem dX3_route_56 : decode cX3_route 56 = .ok (.iconst 1, 1) := dk_4 (dk_at dksX3_route_2 9 rfl rfl)
theorem dX3_route_57 : decode cX3_route 57 = .ok (.invokevirtual 105, 3) := dk_182 0 105 (dk_at dksX3_route_2 10 rfl rfl)
theorem dX3_route_60 : decode cX3_route 60 = .ok (.aload_n 0, 1) := dk_42 (dk_at dksX3_route_2 13 rfl rfl)
theorem dX3_route_61 : decode cX3_route 61 = .ok (.iload_n 1, 1) := dk_27 (dk_at dksX3_route_2 14 rfl rfl)
theorem dX3_route_62 : decode cX3_route 62 = .ok (.iconst 2, 1) := dk_5 (dk_at dksX3_route_2 15 rfl rfl)
theorem dX3_route_63 : decode cX3_route 63 = .ok (.invokevirtual 105, 3) := dk_182 0 105 (dk_at dksX3_route_2 16 rfl rfl)
theorem dX3_route_66 : decode cX3_route 66 = .ok (.invokevirtual 168, 3) := dk_182 0 168 (dk_at dksX3_route_2 19 rfl rfl)
theorem dX3_route_69 : decode cX3_route 69 = .ok (.aload_n 0, 1) := dk_42 (dk_at dksX3_route_2 22 rfl rfl)
theorem dX3_route_70 : decode cX3_route 70 = .ok (.getfield 151, 3) := dk_180 0 151 (dk_at dksX3_route_3 0 rfl rfl)
theorem dX3_route_73 : decode cX3_route 73 = .ok (.ifCond .ne 9, 3) := dk_154 0 9 (dk_at dksX3_route_3 3 rfl rfl)
theorem dX3_route_76 : decode cX3_route 76 = .ok (.aload_n 0, 1) := dk_42 (dk_at dksX3_route_3 6 rfl rfl)
theorem dX3_route_77 : decode cX3_route 77 = .ok (.iload_n 1, 1) := dk_27 (dk_at dksX3_route_3 7 rfl rfl)
theorem dX3_route_78 : decode cX3_route 78 = .ok (.invokevirtual 187, 3) := dk_182 0 187 (dk_at dksX3_route_3 8 rfl rfl)
theorem dX3_route_81 : decode cX3_route 81 = .ok (.ireturn, 1) := dk_172 (dk_at dksX3_route_3 11 rfl rfl)
theorem dX3_route_82 : decode cX3_route 82 = .ok (.aload_n 0, 1) := dk_42 (dk_at dksX3_route_3 12 rfl rfl)
theorem dX3_route_83 : decode cX3_route 83 = .ok (.invokevirtual 87, 3) := dk_182 0 87 (dk_at dksX3_route_3 13 rfl rfl)
theorem dX3_route_86 : decode cX3_route 86 = .ok (.iconst 0, 1) := dk_3 (dk_at dksX3_route_3 16 rfl rfl)
theorem dX3_route_87 : decode cX3_route 87 = .ok (.istore_n 3, 1) := dk_62 (dk_at dksX3_route_3 17 rfl rfl)
theorem dX3_route_88 : decode cX3_route 88 = .ok (.iload_n 3, 1) := dk_29 (dk_at dksX3_route_3 18 rfl rfl)
theorem dX3_route_89 : decode cX3_route 89 = .ok (.aload_n 0, 1) := dk_42 (dk_at dksX3_route_3 19 rfl rfl)
theorem dX3_route_90 : decode cX3_route 90 = .ok (.getfield 151, 3) := dk_180 0 151 (dk_at dksX3_route_3 20 rfl rfl)
theorem dX3_route_93 : decode cX3_route 93 = .ok (.if_icmp .ge 56, 3) := dk_162 0 56 (dk_at dksX3_route_4 0 rfl rfl)
theorem dX3_route_96 : decode cX3_route 96 = .ok (.aload_n 0, 1) := dk_42 (dk_at dksX3_route_4 3 rfl rfl)
theorem dX3_route_97 : decode cX3_route 97 = .ok (.aload_n 0, 1) := dk_42 (dk_at dksX3_route_4 4 rfl rfl)
theorem dX3_route_98 : decode cX3_route 98 = .ok (.getfield 32, 3) := dk_180 0 32 (dk_at dksX3_route_4 5 rfl rfl)
theorem dX3_route_101 : decode cX3_route 101 = .ok (.iload_n 3, 1) := dk_29 (dk_at dksX3_route_4 8 rfl rfl)
theorem dX3_route_102 : decode cX3_route 102 = .ok (.iaload, 1) := dk_46 (dk_at dksX3_route_4 9 rfl rfl)
theorem dX3_route_103 : decode cX3_route 103 = .ok (.iload_n 2, 1) := dk_28 (dk_at dksX3_route_4 10 rfl rfl)
theorem dX3_route_104 : decode cX3_route 104 = .ok (.invokevirtual 142, 3) := dk_182 0 142 (dk_at dksX3_route_4 11 rfl rfl)
theorem dX3_route_107 : decode cX3_route 107 = .ok (.istore 4, 2) := dk_54 4 (dk_at dksX3_route_4 14 rfl rfl)
theorem dX3_route_109 : decode cX3_route 109 = .ok (.aload_n 0, 1) := dk_42 (dk_at dksX3_route_4 16 rfl rfl)
theorem dX3_route_110 : decode cX3_route 110 = .ok (.getfield 7, 3) := dk_180 0 7 (dk_at dksX3_route_4 17 rfl rfl)
theorem dX3_route_113 : decode cX3_route 113 = .ok (.iload_n 1, 1) := dk_27 (dk_at dksX3_route_4 20 rfl rfl)
theorem dX3_route_114 : decode cX3_route 114 = .ok (.bipush 14, 2) := dk_16 14 (dk_at dksX3_route_4 21 rfl rfl)
theorem dX3_route_116 : decode cX3_route 116 = .ok (.iload_n 3, 1) := dk_29 (dk_at dksX3_route_4 23 rfl rfl)
theorem dX3_route_117 : decode cX3_route 117 = .ok (.iadd, 1) := dk_96 (dk_at dksX3_route_5 0 rfl rfl)
theorem dX3_route_118 : decode cX3_route 118 = .ok (.invokestatic 98, 3) := dk_184 0 98 (dk_at dksX3_route_5 1 rfl rfl)
theorem dX3_route_121 : decode cX3_route 121 = .ok (.iload 4, 2) := dk_21 4 (dk_at dksX3_route_5 4 rfl rfl)
theorem dX3_route_123 : decode cX3_route 123 = .ok (.iastore, 1) := dk_79 (dk_at dksX3_route_5 6 rfl rfl)
theorem dX3_route_124 : decode cX3_route 124 = .ok (.aload_n 0, 1) := dk_42 (dk_at dksX3_route_5 7 rfl rfl)
theorem dX3_route_125 : decode cX3_route 125 = .ok (.getfield 7, 3) := dk_180 0 7 (dk_at dksX3_route_5 8 rfl rfl)
theorem dX3_route_128 : decode cX3_route 128 = .ok (.iload_n 1, 1) := dk_27 (dk_at dksX3_route_5 11 rfl rfl)
theorem dX3_route_129 : decode cX3_route 129 = .ok (.bipush 7, 2) := dk_16 7 (dk_at dksX3_route_5 12 rfl rfl)
theorem dX3_route_131 : decode cX3_route 131 = .ok (.iload_n 3, 1) := dk_29 (dk_at dksX3_route_5 14 rfl rfl)
theorem dX3_route_132 : decode cX3_route 132 = .ok (.iadd, 1) := dk_96 (dk_at dksX3_route_5 15 rfl rfl)
theorem dX3_route_133 : decode cX3_route 133 = .ok (.invokestatic 98, 3) := dk_184 0 98 (dk_at dksX3_route_5 16 rfl rfl)
theorem dX3_route_136 : decode cX3_route 136 = .ok (.aload_n 0, 1) := dk_42 (dk_at dksX3_route_5 19 rfl rfl)
theorem dX3_route_137 : decode cX3_route 137 = .ok (.getfield 32, 3) := dk_180 0 32 (dk_at dksX3_route_5 20 rfl rfl)
theorem dX3_route_140 : decode cX3_route 140 = .ok (.iload_n 3, 1) := dk_29 (dk_at dksX3_route_5 23 rfl rfl)
theorem dX3_route_141 : decode cX3_route 141 = .ok (.iaload, 1) := dk_46 (dk_at dksX3_route_6 0 rfl rfl)
theorem dX3_route_142 : decode cX3_route 142 = .ok (.iastore, 1) := dk_79 (dk_at dksX3_route_6 1 rfl rfl)
theorem dX3_route_143 : decode cX3_route 143 = .ok (.iinc 3 1, 3) := dk_132 3 1 (dk_at dksX3_route_6 2 rfl rfl)
theorem dX3_route_146 : decode cX3_route 146 = .ok (.goto (-58), 3) := dk_167 255 198 (dk_at dksX3_route_6 5 rfl rfl)
theorem dX3_route_149 : decode cX3_route 149 = .ok (.aload_n 0, 1) := dk_42 (dk_at dksX3_route_6 8 rfl rfl)
theorem dX3_route_150 : decode cX3_route 150 = .ok (.getfield 7, 3) := dk_180 0 7 (dk_at dksX3_route_6 9 rfl rfl)
theorem dX3_route_153 : decode cX3_route 153 = .ok (.iload_n 1, 1) := dk_27 (dk_at dksX3_route_6 12 rfl rfl)
theorem dX3_route_154 : decode cX3_route 154 = .ok (.iconst 4, 1) := dk_7 (dk_at dksX3_route_6 13 rfl rfl)
theorem dX3_route_155 : decode cX3_route 155 = .ok (.invokestatic 98, 3) := dk_184 0 98 (dk_at dksX3_route_6 14 rfl rfl)
theorem dX3_route_158 : decode cX3_route 158 = .ok (.aload_n 0, 1) := dk_42 (dk_at dksX3_route_6 17 rfl rfl)
theorem dX3_route_159 : decode cX3_route 159 = .ok (.getfield 151, 3) := dk_180 0 151 (dk_at dksX3_route_6 18 rfl rfl)
theorem dX3_route_162 : decode cX3_route 162 = .ok (.iastore, 1) := dk_79 (dk_at dksX3_route_6 21 rfl rfl)
theorem dX3_route_163 : decode cX3_route 163 = .ok (.aload_n 0, 1) := dk_42 (dk_at dksX3_route_6 22 rfl rfl)
theorem dX3_route_164 : decode cX3_route 164 = .ok (.getfield 7, 3) := dk_180 0 7 (dk_at dksX3_route_7 0 rfl rfl)
theorem dX3_route_167 : decode cX3_route 167 = .ok (.iload_n 1, 1) := dk_27 (dk_at dksX3_route_7 3 rfl rfl)
theorem dX3_route_168 : decode cX3_route 168 = .ok (.iconst 3, 1) := dk_6 (dk_at dksX3_route_7 4 rfl rfl)
theorem dX3_route_169 : decode cX3_route 169 = .ok (.invokestatic 98, 3) := dk_184 0 98 (dk_at dksX3_route_7 5 rfl rfl)
theorem dX3_route_172 : decode cX3_route 172 = .ok (.iconst 1, 1) := dk_4 (dk_at dksX3_route_7 8 rfl rfl)
theorem dX3_route_173 : decode cX3_route 173 = .ok (.iastore, 1) := dk_79 (dk_at dksX3_route_7 9 rfl rfl)
theorem dX3_route_174 : decode cX3_route 174 = .ok (.aload_n 0, 1) := dk_42 (dk_at dksX3_route_7 10 rfl rfl)
theorem dX3_route_175 : decode cX3_route 175 = .ok (.iload_n 1, 1) := dk_27 (dk_at dksX3_route_7 11 rfl rfl)
theorem dX3_route_176 : decode cX3_route 176 = .ok (.invokevirtual 190, 3) := dk_182 0 190 (dk_at dksX3_route_7 12 rfl rfl)
theorem dX3_route_179 : decode cX3_route 179 = .ok (.ireturn, 1) := dk_172 (dk_at dksX3_route_7 15 rfl rfl)
def dkwX3_isCable_0 : List UInt8 := [27, 3, 42, 180, 0, 7, 16, 101, 46, 4, 100, 184, 0, 90, 172]
abbrev dktX3_isCable_0 : List UInt8 := dkwX3_isCable_0 ++ []
theorem dksX3_isCable_0 : cX3_isCable.data.toList.drop 0 = dktX3_isCable_0 := by decide +kernel
theorem dX3_isCable_0 : decode cX3_isCable 0 = .ok (.iload_n 1, 1) := dk_27 (dk_at dksX3_isCable_0 0 rfl rfl)
theorem dX3_isCable_1 : decode cX3_isCable 1 = .ok (.iconst 0, 1) := dk_3 (dk_at dksX3_isCable_0 1 rfl rfl)
theorem dX3_isCable_2 : decode cX3_isCable 2 = .ok (.aload_n 0, 1) := dk_42 (dk_at dksX3_isCable_0 2 rfl rfl)
theorem dX3_isCable_3 : decode cX3_isCable 3 = .ok (.getfield 7, 3) := dk_180 0 7 (dk_at dksX3_isCable_0 3 rfl rfl)
theorem dX3_isCable_6 : decode cX3_isCable 6 = .ok (.bipush 101, 2) := dk_16 101 (dk_at dksX3_isCable_0 6 rfl rfl)
theorem dX3_isCable_8 : decode cX3_isCable 8 = .ok (.iaload, 1) := dk_46 (dk_at dksX3_isCable_0 8 rfl rfl)
theorem dX3_isCable_9 : decode cX3_isCable 9 = .ok (.iconst 1, 1) := dk_4 (dk_at dksX3_isCable_0 9 rfl rfl)
theorem dX3_isCable_10 : decode cX3_isCable 10 = .ok (.isub, 1) := dk_100 (dk_at dksX3_isCable_0 10 rfl rfl)
theorem dX3_isCable_11 : decode cX3_isCable 11 = .ok (.invokestatic 90, 3) := dk_184 0 90 (dk_at dksX3_isCable_0 11 rfl rfl)
theorem dX3_isCable_14 : decode cX3_isCable 14 = .ok (.ireturn, 1) := dk_172 (dk_at dksX3_isCable_0 14 rfl rfl)
def dkwX3_refuses_1 : List UInt8 := [172]
abbrev dktX3_refuses_1 : List UInt8 := dkwX3_refuses_1 ++ []
def dkwX3_refuses_0 : List UInt8 := [42, 180, 0, 22, 3, 27, 79, 42, 180, 0, 22, 4, 28, 79, 42, 5, 181, 0, 172, 42, 4, 182, 0, 175]
abbrev dktX3_refuses_0 : List UInt8 := dkwX3_refuses_0 ++ dktX3_refuses_1
theorem dksX3_refuses_0 : cX3_refuses.data.toList.drop 0 = dktX3_refuses_0 := by decide +kernel
theorem dksX3_refuses_1 : cX3_refuses.data.toList.drop 24 = dktX3_refuses_1 := dk_seg dksX3_refuses_0 24 rfl rfl
theorem dX3_refuses_0 : decode cX3_refuses 0 = .ok (.aload_n 0, 1) := dk_42 (dk_at dksX3_refuses_0 0 rfl rfl)
theorem dX3_refuses_1 : decode cX3_refuses 1 = .ok (.getfield 22, 3) := dk_180 0 22 (dk_at dksX3_refuses_0 1 rfl rfl)
theorem dX3_refuses_4 : decode cX3_refuses 4 = .ok (.iconst 0, 1) := dk_3 (dk_at dksX3_refuses_0 4 rfl rfl)
theorem dX3_refuses_5 : decode cX3_refuses 5 = .ok (.iload_n 1, 1) := dk_27 (dk_at dksX3_refuses_0 5 rfl rfl)
theorem dX3_refuses_6 : decode cX3_refuses 6 = .ok (.iastore, 1) := dk_79 (dk_at dksX3_refuses_0 6 rfl rfl)
theorem dX3_refuses_7 : decode cX3_refuses 7 = .ok (.aload_n 0, 1) := dk_42 (dk_at dksX3_refuses_0 7 rfl rfl)
theorem dX3_refuses_8 : decode cX3_refuses 8 = .ok (.getfield 22, 3) := dk_180 0 22 (dk_at dksX3_refuses_0 8 rfl rfl)
theorem dX3_refuses_11 : decode cX3_refuses 11 = .ok (.iconst 1, 1) := dk_4 (dk_at dksX3_refuses_0 11 rfl rfl)
theorem dX3_refuses_12 : decode cX3_refuses 12 = .ok (.iload_n 2, 1) := dk_28 (dk_at dksX3_refuses_0 12 rfl rfl)
theorem dX3_refuses_13 : decode cX3_refuses 13 = .ok (.iastore, 1) := dk_79 (dk_at dksX3_refuses_0 13 rfl rfl)
theorem dX3_refuses_14 : decode cX3_refuses 14 = .ok (.aload_n 0, 1) := dk_42 (dk_at dksX3_refuses_0 14 rfl rfl)
theorem dX3_refuses_15 : decode cX3_refuses 15 = .ok (.iconst 2, 1) := dk_5 (dk_at dksX3_refuses_0 15 rfl rfl)
theorem dX3_refuses_16 : decode cX3_refuses 16 = .ok (.putfield 172, 3) := dk_181 0 172 (dk_at dksX3_refuses_0 16 rfl rfl)
theorem dX3_refuses_19 : decode cX3_refuses 19 = .ok (.aload_n 0, 1) := dk_42 (dk_at dksX3_refuses_0 19 rfl rfl)
theorem dX3_refuses_20 : decode cX3_refuses 20 = .ok (.iconst 1, 1) := dk_4 (dk_at dksX3_refuses_0 20 rfl rfl)
theorem dX3_refuses_21 : decode cX3_refuses 21 = .ok (.invokevirtual 175, 3) := dk_182 0 175 (dk_at dksX3_refuses_0 21 rfl rfl)
theorem dX3_refuses_24 : decode cX3_refuses 24 = .ok (.ireturn, 1) := dk_172 (dk_at dksX3_refuses_1 0 rfl rfl)
def dkwX3_fails_0 : List UInt8 := [42, 27, 181, 0, 66, 3, 172]
abbrev dktX3_fails_0 : List UInt8 := dkwX3_fails_0 ++ []
theorem dksX3_fails_0 : cX3_fails.data.toList.drop 0 = dktX3_fails_0 := by decide +kernel
theorem dX3_fails_0 : decode cX3_fails 0 = .ok (.aload_n 0, 1) := dk_42 (dk_at dksX3_fails_0 0 rfl rfl)
theorem dX3_fails_1 : decode cX3_fails 1 = .ok (.iload_n 1, 1) := dk_27 (dk_at dksX3_fails_0 1 rfl rfl)
theorem dX3_fails_2 : decode cX3_fails 2 = .ok (.putfield 66, 3) := dk_181 0 66 (dk_at dksX3_fails_0 2 rfl rfl)
theorem dX3_fails_5 : decode cX3_fails 5 = .ok (.iconst 0, 1) := dk_3 (dk_at dksX3_fails_0 5 rfl rfl)
theorem dX3_fails_6 : decode cX3_fails 6 = .ok (.ireturn, 1) := dk_172 (dk_at dksX3_fails_0 6 rfl rfl)
def dkwX3_refusesWay_5 : List UInt8 := [181, 0, 172, 132, 2, 1, 167, 255, 208, 3, 172]
abbrev dktX3_refusesWay_5 : List UInt8 := dkwX3_refusesWay_5 ++ []
def dkwX3_refusesWay_4 : List UInt8 := [182, 0, 142, 156, 0, 23, 42, 180, 0, 22, 42, 180, 0, 172, 28, 79, 42, 89, 180, 0, 172, 4, 96]
abbrev dktX3_refusesWay_4 : List UInt8 := dkwX3_refusesWay_4 ++ dktX3_refusesWay_5
def dkwX3_refusesWay_3 : List UInt8 := [181, 0, 172, 3, 61, 28, 42, 180, 0, 7, 16, 40, 46, 162, 0, 43, 42, 28, 42, 27, 3, 182, 0, 105]
abbrev dktX3_refusesWay_3 : List UInt8 := dkwX3_refusesWay_3 ++ dktX3_refusesWay_4
def dkwX3_refusesWay_2 : List UInt8 := [27, 5, 182, 0, 105, 79, 42, 6, 181, 0, 172, 3, 172, 42, 7, 3, 182, 0, 181, 87, 42, 4]
abbrev dktX3_refusesWay_2 : List UInt8 := dkwX3_refusesWay_2 ++ dktX3_refusesWay_3
def dkwX3_refusesWay_1 : List UInt8 := [180, 0, 151, 154, 0, 34, 42, 6, 42, 27, 4, 182, 0, 105, 182, 0, 181, 87, 42, 180, 0, 22, 5, 42]
abbrev dktX3_refusesWay_1 : List UInt8 := dkwX3_refusesWay_1 ++ dktX3_refusesWay_2
def dkwX3_refusesWay_0 : List UInt8 := [42, 2, 182, 0, 164, 42, 42, 27, 4, 182, 0, 105, 42, 27, 5, 182, 0, 105, 182, 0, 168, 42]
abbrev dktX3_refusesWay_0 : List UInt8 := dkwX3_refusesWay_0 ++ dktX3_refusesWay_1
theorem dksX3_refusesWay_0 : cX3_refusesWay.data.toList.drop 0 = dktX3_refusesWay_0 := by decide +kernel
theorem dksX3_refusesWay_1 : cX3_refusesWay.data.toList.drop 22 = dktX3_refusesWay_1 := dk_seg dksX3_refusesWay_0 22 rfl rfl
theorem dksX3_refusesWay_2 : cX3_refusesWay.data.toList.drop 46 = dktX3_refusesWay_2 := dk_seg dksX3_refusesWay_1 24 rfl rfl
theorem dksX3_refusesWay_3 : cX3_refusesWay.data.toList.drop 68 = dktX3_refusesWay_3 := dk_seg dksX3_refusesWay_2 22 rfl rfl
theorem dksX3_refusesWay_4 : cX3_refusesWay.data.toList.drop 92 = dktX3_refusesWay_4 := dk_seg dksX3_refusesWay_3 24 rfl rfl
theorem dksX3_refusesWay_5 : cX3_refusesWay.data.toList.drop 115 = dktX3_refusesWay_5 := dk_seg dksX3_refusesWay_4 23 rfl rfl
theorem dX3_refusesWay_0 : decode cX3_refusesWay 0 = .ok (.aload_n 0, 1) := dk_42 (dk_at dksX3_refusesWay_0 0 rfl rfl)
theorem dX3_refusesWay_1 : decode cX3_refusesWay 1 = .ok (.iconst (-1), 1) := dk_2 (dk_at dksX3_refusesWay_0 1 rfl rfl)
theorem dX3_refusesWay_2 : decode cX3_refusesWay 2 = .ok (.invokevirtual 164, 3) := dk_182 0 164 (dk_at dksX3_refusesWay_0 2 rfl rfl)
theorem dX3_refusesWay_5 : decode cX3_refusesWay 5 = .ok (.aload_n 0, 1) := dk_42 (dk_at dksX3_refusesWay_0 5 rfl rfl)
theorem dX3_refusesWay_6 : decode cX3_refusesWay 6 = .ok (.aload_n 0, 1) := dk_42 (dk_at dksX3_refusesWay_0 6 rfl rfl)
theorem dX3_refusesWay_7 : decode cX3_refusesWay 7 = .ok (.iload_n 1, 1) := dk_27 (dk_at dksX3_refusesWay_0 7 rfl rfl)
theorem dX3_refusesWay_8 : decode cX3_refusesWay 8 = .ok (.iconst 1, 1) := dk_4 (dk_at dksX3_refusesWay_0 8 rfl rfl)
theorem dX3_refusesWay_9 : decode cX3_refusesWay 9 = .ok (.invokevirtual 105, 3) := dk_182 0 105 (dk_at dksX3_refusesWay_0 9 rfl rfl)
theorem dX3_refusesWay_12 : decode cX3_refusesWay 12 = .ok (.aload_n 0, 1) := dk_42 (dk_at dksX3_refusesWay_0 12 rfl rfl)
theorem dX3_refusesWay_13 : decode cX3_refusesWay 13 = .ok (.iload_n 1, 1) := dk_27 (dk_at dksX3_refusesWay_0 13 rfl rfl)
theorem dX3_refusesWay_14 : decode cX3_refusesWay 14 = .ok (.iconst 2, 1) := dk_5 (dk_at dksX3_refusesWay_0 14 rfl rfl)
theorem dX3_refusesWay_15 : decode cX3_refusesWay 15 = .ok (.invokevirtual 105, 3) := dk_182 0 105 (dk_at dksX3_refusesWay_0 15 rfl rfl)
theorem dX3_refusesWay_18 : decode cX3_refusesWay 18 = .ok (.invokevirtual 168, 3) := dk_182 0 168 (dk_at dksX3_refusesWay_0 18 rfl rfl)
theorem dX3_refusesWay_21 : decode cX3_refusesWay 21 = .ok (.aload_n 0, 1) := dk_42 (dk_at dksX3_refusesWay_0 21 rfl rfl)
theorem dX3_refusesWay_22 : decode cX3_refusesWay 22 = .ok (.getfield 151, 3) := dk_180 0 151 (dk_at dksX3_refusesWay_1 0 rfl rfl)
theorem dX3_refusesWay_25 : decode cX3_refusesWay 25 = .ok (.ifCond .ne 34, 3) := dk_154 0 34 (dk_at dksX3_refusesWay_1 3 rfl rfl)
theorem dX3_refusesWay_28 : decode cX3_refusesWay 28 = .ok (.aload_n 0, 1) := dk_42 (dk_at dksX3_refusesWay_1 6 rfl rfl)
theorem dX3_refusesWay_29 : decode cX3_refusesWay 29 = .ok (.iconst 3, 1) := dk_6 (dk_at dksX3_refusesWay_1 7 rfl rfl)
theorem dX3_refusesWay_30 : decode cX3_refusesWay 30 = .ok (.aload_n 0, 1) := dk_42 (dk_at dksX3_refusesWay_1 8 rfl rfl)
theorem dX3_refusesWay_31 : decode cX3_refusesWay 31 = .ok (.iload_n 1, 1) := dk_27 (dk_at dksX3_refusesWay_1 9 rfl rfl)
theorem dX3_refusesWay_32 : decode cX3_refusesWay 32 = .ok (.iconst 1, 1) := dk_4 (dk_at dksX3_refusesWay_1 10 rfl rfl)
theorem dX3_refusesWay_33 : decode cX3_refusesWay 33 = .ok (.invokevirtual 105, 3) := dk_182 0 105 (dk_at dksX3_refusesWay_1 11 rfl rfl)
theorem dX3_refusesWay_36 : decode cX3_refusesWay 36 = .ok (.invokevirtual 181, 3) := dk_182 0 181 (dk_at dksX3_refusesWay_1 14 rfl rfl)
theorem dX3_refusesWay_39 : decode cX3_refusesWay 39 = .ok (.pop, 1) := dk_87 (dk_at dksX3_refusesWay_1 17 rfl rfl)
theorem dX3_refusesWay_40 : decode cX3_refusesWay 40 = .ok (.aload_n 0, 1) := dk_42 (dk_at dksX3_refusesWay_1 18 rfl rfl)
theorem dX3_refusesWay_41 : decode cX3_refusesWay 41 = .ok (.getfield 22, 3) := dk_180 0 22 (dk_at dksX3_refusesWay_1 19 rfl rfl)
theorem dX3_refusesWay_44 : decode cX3_refusesWay 44 = .ok (.iconst 2, 1) := dk_5 (dk_at dksX3_refusesWay_1 22 rfl rfl)
theorem dX3_refusesWay_45 : decode cX3_refusesWay 45 = .ok (.aload_n 0, 1) := dk_42 (dk_at dksX3_refusesWay_1 23 rfl rfl)
theorem dX3_refusesWay_46 : decode cX3_refusesWay 46 = .ok (.iload_n 1, 1) := dk_27 (dk_at dksX3_refusesWay_2 0 rfl rfl)
theorem dX3_refusesWay_47 : decode cX3_refusesWay 47 = .ok (.iconst 2, 1) := dk_5 (dk_at dksX3_refusesWay_2 1 rfl rfl)
theorem dX3_refusesWay_48 : decode cX3_refusesWay 48 = .ok (.invokevirtual 105, 3) := dk_182 0 105 (dk_at dksX3_refusesWay_2 2 rfl rfl)
theorem dX3_refusesWay_51 : decode cX3_refusesWay 51 = .ok (.iastore, 1) := dk_79 (dk_at dksX3_refusesWay_2 5 rfl rfl)
theorem dX3_refusesWay_52 : decode cX3_refusesWay 52 = .ok (.aload_n 0, 1) := dk_42 (dk_at dksX3_refusesWay_2 6 rfl rfl)
theorem dX3_refusesWay_53 : decode cX3_refusesWay 53 = .ok (.iconst 3, 1) := dk_6 (dk_at dksX3_refusesWay_2 7 rfl rfl)
theorem dX3_refusesWay_54 : decode cX3_refusesWay 54 = .ok (.putfield 172, 3) := dk_181 0 172 (dk_at dksX3_refusesWay_2 8 rfl rfl)
theorem dX3_refusesWay_57 : decode cX3_refusesWay 57 = .ok (.iconst 0, 1) := dk_3 (dk_at dksX3_refusesWay_2 11 rfl rfl)
theorem dX3_refusesWay_58 : decode cX3_refusesWay 58 = .ok (.ireturn, 1) := dk_172 (dk_at dksX3_refusesWay_2 12 rfl rfl)
theorem dX3_refusesWay_59 : decode cX3_refusesWay 59 = .ok (.aload_n 0, 1) := dk_42 (dk_at dksX3_refusesWay_2 13 rfl rfl)
theorem dX3_refusesWay_60 : decode cX3_refusesWay 60 = .ok (.iconst 4, 1) := dk_7 (dk_at dksX3_refusesWay_2 14 rfl rfl)
theorem dX3_refusesWay_61 : decode cX3_refusesWay 61 = .ok (.iconst 0, 1) := dk_3 (dk_at dksX3_refusesWay_2 15 rfl rfl)
theorem dX3_refusesWay_62 : decode cX3_refusesWay 62 = .ok (.invokevirtual 181, 3) := dk_182 0 181 (dk_at dksX3_refusesWay_2 16 rfl rfl)
theorem dX3_refusesWay_65 : decode cX3_refusesWay 65 = .ok (.pop, 1) := dk_87 (dk_at dksX3_refusesWay_2 19 rfl rfl)
theorem dX3_refusesWay_66 : decode cX3_refusesWay 66 = .ok (.aload_n 0, 1) := dk_42 (dk_at dksX3_refusesWay_2 20 rfl rfl)
theorem dX3_refusesWay_67 : decode cX3_refusesWay 67 = .ok (.iconst 1, 1) := dk_4 (dk_at dksX3_refusesWay_2 21 rfl rfl)
theorem dX3_refusesWay_68 : decode cX3_refusesWay 68 = .ok (.putfield 172, 3) := dk_181 0 172 (dk_at dksX3_refusesWay_3 0 rfl rfl)
theorem dX3_refusesWay_71 : decode cX3_refusesWay 71 = .ok (.iconst 0, 1) := dk_3 (dk_at dksX3_refusesWay_3 3 rfl rfl)
theorem dX3_refusesWay_72 : decode cX3_refusesWay 72 = .ok (.istore_n 2, 1) := dk_61 (dk_at dksX3_refusesWay_3 4 rfl rfl)
theorem dX3_refusesWay_73 : decode cX3_refusesWay 73 = .ok (.iload_n 2, 1) := dk_28 (dk_at dksX3_refusesWay_3 5 rfl rfl)
theorem dX3_refusesWay_74 : decode cX3_refusesWay 74 = .ok (.aload_n 0, 1) := dk_42 (dk_at dksX3_refusesWay_3 6 rfl rfl)
theorem dX3_refusesWay_75 : decode cX3_refusesWay 75 = .ok (.getfield 7, 3) := dk_180 0 7 (dk_at dksX3_refusesWay_3 7 rfl rfl)
theorem dX3_refusesWay_78 : decode cX3_refusesWay 78 = .ok (.bipush 40, 2) := dk_16 40 (dk_at dksX3_refusesWay_3 10 rfl rfl)
theorem dX3_refusesWay_80 : decode cX3_refusesWay 80 = .ok (.iaload, 1) := dk_46 (dk_at dksX3_refusesWay_3 12 rfl rfl)
theorem dX3_refusesWay_81 : decode cX3_refusesWay 81 = .ok (.if_icmp .ge 43, 3) := dk_162 0 43 (dk_at dksX3_refusesWay_3 13 rfl rfl)
theorem dX3_refusesWay_84 : decode cX3_refusesWay 84 = .ok (.aload_n 0, 1) := dk_42 (dk_at dksX3_refusesWay_3 16 rfl rfl)
theorem dX3_refusesWay_85 : decode cX3_refusesWay 85 = .ok (.iload_n 2, 1) := dk_28 (dk_at dksX3_refusesWay_3 17 rfl rfl)
theorem dX3_refusesWay_86 : decode cX3_refusesWay 86 = .ok (.aload_n 0, 1) := dk_42 (dk_at dksX3_refusesWay_3 18 rfl rfl)
theorem dX3_refusesWay_87 : decode cX3_refusesWay 87 = .ok (.iload_n 1, 1) := dk_27 (dk_at dksX3_refusesWay_3 19 rfl rfl)
theorem dX3_refusesWay_88 : decode cX3_refusesWay 88 = .ok (.iconst 0, 1) := dk_3 (dk_at dksX3_refusesWay_3 20 rfl rfl)
theorem dX3_refusesWay_89 : decode cX3_refusesWay 89 = .ok (.invokevirtual 105, 3) := dk_182 0 105 (dk_at dksX3_refusesWay_3 21 rfl rfl)
theorem dX3_refusesWay_92 : decode cX3_refusesWay 92 = .ok (.invokevirtual 142, 3) := dk_182 0 142 (dk_at dksX3_refusesWay_4 0 rfl rfl)
theorem dX3_refusesWay_95 : decode cX3_refusesWay 95 = .ok (.ifCond .ge 23, 3) := dk_156 0 23 (dk_at dksX3_refusesWay_4 3 rfl rfl)
theorem dX3_refusesWay_98 : decode cX3_refusesWay 98 = .ok (.aload_n 0, 1) := dk_42 (dk_at dksX3_refusesWay_4 6 rfl rfl)
theorem dX3_refusesWay_99 : decode cX3_refusesWay 99 = .ok (.getfield 22, 3) := dk_180 0 22 (dk_at dksX3_refusesWay_4 7 rfl rfl)
theorem dX3_refusesWay_102 : decode cX3_refusesWay 102 = .ok (.aload_n 0, 1) := dk_42 (dk_at dksX3_refusesWay_4 10 rfl rfl)
theorem dX3_refusesWay_103 : decode cX3_refusesWay 103 = .ok (.getfield 172, 3) := dk_180 0 172 (dk_at dksX3_refusesWay_4 11 rfl rfl)
theorem dX3_refusesWay_106 : decode cX3_refusesWay 106 = .ok (.iload_n 2, 1) := dk_28 (dk_at dksX3_refusesWay_4 14 rfl rfl)
theorem dX3_refusesWay_107 : decode cX3_refusesWay 107 = .ok (.iastore, 1) := dk_79 (dk_at dksX3_refusesWay_4 15 rfl rfl)
theorem dX3_refusesWay_108 : decode cX3_refusesWay 108 = .ok (.aload_n 0, 1) := dk_42 (dk_at dksX3_refusesWay_4 16 rfl rfl)
theorem dX3_refusesWay_109 : decode cX3_refusesWay 109 = .ok (.dup, 1) := dk_89 (dk_at dksX3_refusesWay_4 17 rfl rfl)
theorem dX3_refusesWay_110 : decode cX3_refusesWay 110 = .ok (.getfield 172, 3) := dk_180 0 172 (dk_at dksX3_refusesWay_4 18 rfl rfl)
theorem dX3_refusesWay_113 : decode cX3_refusesWay 113 = .ok (.iconst 1, 1) := dk_4 (dk_at dksX3_refusesWay_4 21 rfl rfl)
theorem dX3_refusesWay_114 : decode cX3_refusesWay 114 = .ok (.iadd, 1) := dk_96 (dk_at dksX3_refusesWay_4 22 rfl rfl)
theorem dX3_refusesWay_115 : decode cX3_refusesWay 115 = .ok (.putfield 172, 3) := dk_181 0 172 (dk_at dksX3_refusesWay_5 0 rfl rfl)
theorem dX3_refusesWay_118 : decode cX3_refusesWay 118 = .ok (.iinc 2 1, 3) := dk_132 2 1 (dk_at dksX3_refusesWay_5 3 rfl rfl)
theorem dX3_refusesWay_121 : decode cX3_refusesWay 121 = .ok (.goto (-48), 3) := dk_167 255 208 (dk_at dksX3_refusesWay_5 6 rfl rfl)
theorem dX3_refusesWay_124 : decode cX3_refusesWay 124 = .ok (.iconst 0, 1) := dk_3 (dk_at dksX3_refusesWay_5 9 rfl rfl)
theorem dX3_refusesWay_125 : decode cX3_refusesWay 125 = .ok (.ireturn, 1) := dk_172 (dk_at dksX3_refusesWay_5 10 rfl rfl)
def dkwX3_needs_0 : List UInt8 := [42, 27, 182, 0, 178, 5, 42, 180, 0, 7, 4, 46, 104, 96, 172]
abbrev dktX3_needs_0 : List UInt8 := dkwX3_needs_0 ++ []
theorem dksX3_needs_0 : cX3_needs.data.toList.drop 0 = dktX3_needs_0 := by decide +kernel
theorem dX3_needs_0 : decode cX3_needs 0 = .ok (.aload_n 0, 1) := dk_42 (dk_at dksX3_needs_0 0 rfl rfl)
theorem dX3_needs_1 : decode cX3_needs 1 = .ok (.iload_n 1, 1) := dk_27 (dk_at dksX3_needs_0 1 rfl rfl)
theorem dX3_needs_2 : decode cX3_needs 2 = .ok (.invokevirtual 178, 3) := dk_182 0 178 (dk_at dksX3_needs_0 2 rfl rfl)
theorem dX3_needs_5 : decode cX3_needs 5 = .ok (.iconst 2, 1) := dk_5 (dk_at dksX3_needs_0 5 rfl rfl)
theorem dX3_needs_6 : decode cX3_needs 6 = .ok (.aload_n 0, 1) := dk_42 (dk_at dksX3_needs_0 6 rfl rfl)
theorem dX3_needs_7 : decode cX3_needs 7 = .ok (.getfield 7, 3) := dk_180 0 7 (dk_at dksX3_needs_0 7 rfl rfl)
theorem dX3_needs_10 : decode cX3_needs 10 = .ok (.iconst 1, 1) := dk_4 (dk_at dksX3_needs_0 10 rfl rfl)
theorem dX3_needs_11 : decode cX3_needs 11 = .ok (.iaload, 1) := dk_46 (dk_at dksX3_needs_0 11 rfl rfl)
theorem dX3_needs_12 : decode cX3_needs 12 = .ok (.imul, 1) := dk_104 (dk_at dksX3_needs_0 12 rfl rfl)
theorem dX3_needs_13 : decode cX3_needs 13 = .ok (.iadd, 1) := dk_96 (dk_at dksX3_needs_0 13 rfl rfl)
theorem dX3_needs_14 : decode cX3_needs 14 = .ok (.ireturn, 1) := dk_172 (dk_at dksX3_needs_0 14 rfl rfl)
def dkwX3_lengthOf_1 : List UInt8 := [182, 0, 105, 5, 182, 0, 121, 96, 61, 132, 3, 1, 167, 255, 226, 28, 172]
abbrev dktX3_lengthOf_1 : List UInt8 := dkwX3_lengthOf_1 ++ []
def dkwX3_lengthOf_0 : List UInt8 := [3, 61, 3, 62, 29, 42, 27, 7, 182, 0, 105, 162, 0, 26, 28, 42, 42, 27, 16, 7, 29, 96]
abbrev dktX3_lengthOf_0 : List UInt8 := dkwX3_lengthOf_0 ++ dktX3_lengthOf_1
theorem dksX3_lengthOf_0 : cX3_lengthOf.data.toList.drop 0 = dktX3_lengthOf_0 := by decide +kernel
theorem dksX3_lengthOf_1 : cX3_lengthOf.data.toList.drop 22 = dktX3_lengthOf_1 := dk_seg dksX3_lengthOf_0 22 rfl rfl
theorem dX3_lengthOf_0 : decode cX3_lengthOf 0 = .ok (.iconst 0, 1) := dk_3 (dk_at dksX3_lengthOf_0 0 rfl rfl)
theorem dX3_lengthOf_1 : decode cX3_lengthOf 1 = .ok (.istore_n 2, 1) := dk_61 (dk_at dksX3_lengthOf_0 1 rfl rfl)
theorem dX3_lengthOf_2 : decode cX3_lengthOf 2 = .ok (.iconst 0, 1) := dk_3 (dk_at dksX3_lengthOf_0 2 rfl rfl)
theorem dX3_lengthOf_3 : decode cX3_lengthOf 3 = .ok (.istore_n 3, 1) := dk_62 (dk_at dksX3_lengthOf_0 3 rfl rfl)
theorem dX3_lengthOf_4 : decode cX3_lengthOf 4 = .ok (.iload_n 3, 1) := dk_29 (dk_at dksX3_lengthOf_0 4 rfl rfl)
theorem dX3_lengthOf_5 : decode cX3_lengthOf 5 = .ok (.aload_n 0, 1) := dk_42 (dk_at dksX3_lengthOf_0 5 rfl rfl)
theorem dX3_lengthOf_6 : decode cX3_lengthOf 6 = .ok (.iload_n 1, 1) := dk_27 (dk_at dksX3_lengthOf_0 6 rfl rfl)
theorem dX3_lengthOf_7 : decode cX3_lengthOf 7 = .ok (.iconst 4, 1) := dk_7 (dk_at dksX3_lengthOf_0 7 rfl rfl)
theorem dX3_lengthOf_8 : decode cX3_lengthOf 8 = .ok (.invokevirtual 105, 3) := dk_182 0 105 (dk_at dksX3_lengthOf_0 8 rfl rfl)
theorem dX3_lengthOf_11 : decode cX3_lengthOf 11 = .ok (.if_icmp .ge 26, 3) := dk_162 0 26 (dk_at dksX3_lengthOf_0 11 rfl rfl)
theorem dX3_lengthOf_14 : decode cX3_lengthOf 14 = .ok (.iload_n 2, 1) := dk_28 (dk_at dksX3_lengthOf_0 14 rfl rfl)
theorem dX3_lengthOf_15 : decode cX3_lengthOf 15 = .ok (.aload_n 0, 1) := dk_42 (dk_at dksX3_lengthOf_0 15 rfl rfl)
theorem dX3_lengthOf_16 : decode cX3_lengthOf 16 = .ok (.aload_n 0, 1) := dk_42 (dk_at dksX3_lengthOf_0 16 rfl rfl)
theorem dX3_lengthOf_17 : decode cX3_lengthOf 17 = .ok (.iload_n 1, 1) := dk_27 (dk_at dksX3_lengthOf_0 17 rfl rfl)
theorem dX3_lengthOf_18 : decode cX3_lengthOf 18 = .ok (.bipush 7, 2) := dk_16 7 (dk_at dksX3_lengthOf_0 18 rfl rfl)
theorem dX3_lengthOf_20 : decode cX3_lengthOf 20 = .ok (.iload_n 3, 1) := dk_29 (dk_at dksX3_lengthOf_0 20 rfl rfl)
theorem dX3_lengthOf_21 : decode cX3_lengthOf 21 = .ok (.iadd, 1) := dk_96 (dk_at dksX3_lengthOf_0 21 rfl rfl)
theorem dX3_lengthOf_22 : decode cX3_lengthOf 22 = .ok (.invokevirtual 105, 3) := dk_182 0 105 (dk_at dksX3_lengthOf_1 0 rfl rfl)
theorem dX3_lengthOf_25 : decode cX3_lengthOf 25 = .ok (.iconst 2, 1) := dk_5 (dk_at dksX3_lengthOf_1 3 rfl rfl)
theorem dX3_lengthOf_26 : decode cX3_lengthOf 26 = .ok (.invokevirtual 121, 3) := dk_182 0 121 (dk_at dksX3_lengthOf_1 4 rfl rfl)
theorem dX3_lengthOf_29 : decode cX3_lengthOf 29 = .ok (.iadd, 1) := dk_96 (dk_at dksX3_lengthOf_1 7 rfl rfl)
theorem dX3_lengthOf_30 : decode cX3_lengthOf 30 = .ok (.istore_n 2, 1) := dk_61 (dk_at dksX3_lengthOf_1 8 rfl rfl)
theorem dX3_lengthOf_31 : decode cX3_lengthOf 31 = .ok (.iinc 3 1, 3) := dk_132 3 1 (dk_at dksX3_lengthOf_1 9 rfl rfl)
theorem dX3_lengthOf_34 : decode cX3_lengthOf 34 = .ok (.goto (-30), 3) := dk_167 255 226 (dk_at dksX3_lengthOf_1 12 rfl rfl)
theorem dX3_lengthOf_37 : decode cX3_lengthOf 37 = .ok (.iload_n 2, 1) := dk_28 (dk_at dksX3_lengthOf_1 15 rfl rfl)
theorem dX3_lengthOf_38 : decode cX3_lengthOf 38 = .ok (.ireturn, 1) := dk_172 (dk_at dksX3_lengthOf_1 16 rfl rfl)
def dkwX3_free_2 : List UInt8 := [182, 0, 193, 172]
abbrev dktX3_free_2 : List UInt8 := dkwX3_free_2 ++ []
def dkwX3_free_1 : List UInt8 := [167, 0, 4, 3, 181, 0, 66, 42, 180, 0, 66, 158, 0, 5, 3, 172, 42, 182, 0, 87, 42, 27]
abbrev dktX3_free_1 : List UInt8 := dkwX3_free_1 ++ dktX3_free_2
def dkwX3_free_0 : List UInt8 := [42, 42, 27, 182, 0, 184, 154, 0, 7, 4, 167, 0, 18, 42, 27, 6, 182, 0, 105, 5, 160, 0, 7, 5]
abbrev dktX3_free_0 : List UInt8 := dkwX3_free_0 ++ dktX3_free_1
theorem dksX3_free_0 : cX3_free.data.toList.drop 0 = dktX3_free_0 := by decide +kernel
theorem dksX3_free_1 : cX3_free.data.toList.drop 24 = dktX3_free_1 := dk_seg dksX3_free_0 24 rfl rfl
theorem dksX3_free_2 : cX3_free.data.toList.drop 46 = dktX3_free_2 := dk_seg dksX3_free_1 22 rfl rfl
theorem dX3_free_0 : decode cX3_free 0 = .ok (.aload_n 0, 1) := dk_42 (dk_at dksX3_free_0 0 rfl rfl)
theorem dX3_free_1 : decode cX3_free 1 = .ok (.aload_n 0, 1) := dk_42 (dk_at dksX3_free_0 1 rfl rfl)
theorem dX3_free_2 : decode cX3_free 2 = .ok (.iload_n 1, 1) := dk_27 (dk_at dksX3_free_0 2 rfl rfl)
theorem dX3_free_3 : decode cX3_free 3 = .ok (.invokevirtual 184, 3) := dk_182 0 184 (dk_at dksX3_free_0 3 rfl rfl)
theorem dX3_free_6 : decode cX3_free 6 = .ok (.ifCond .ne 7, 3) := dk_154 0 7 (dk_at dksX3_free_0 6 rfl rfl)
theorem dX3_free_9 : decode cX3_free 9 = .ok (.iconst 1, 1) := dk_4 (dk_at dksX3_free_0 9 rfl rfl)
theorem dX3_free_10 : decode cX3_free 10 = .ok (.goto 18, 3) := dk_167 0 18 (dk_at dksX3_free_0 10 rfl rfl)
theorem dX3_free_13 : decode cX3_free 13 = .ok (.aload_n 0, 1) := dk_42 (dk_at dksX3_free_0 13 rfl rfl)
theorem dX3_free_14 : decode cX3_free 14 = .ok (.iload_n 1, 1) := dk_27 (dk_at dksX3_free_0 14 rfl rfl)
theorem dX3_free_15 : decode cX3_free 15 = .ok (.iconst 3, 1) := dk_6 (dk_at dksX3_free_0 15 rfl rfl)
theorem dX3_free_16 : decode cX3_free 16 = .ok (.invokevirtual 105, 3) := dk_182 0 105 (dk_at dksX3_free_0 16 rfl rfl)
theorem dX3_free_19 : decode cX3_free 19 = .ok (.iconst 2, 1) := dk_5 (dk_at dksX3_free_0 19 rfl rfl)
theorem dX3_free_20 : decode cX3_free 20 = .ok (.if_icmp .ne 7, 3) := dk_160 0 7 (dk_at dksX3_free_0 20 rfl rfl)
theorem dX3_free_23 : decode cX3_free 23 = .ok (.iconst 2, 1) := dk_5 (dk_at dksX3_free_0 23 rfl rfl)
theorem dX3_free_24 : decode cX3_free 24 = .ok (.goto 4, 3) := dk_167 0 4 (dk_at dksX3_free_1 0 rfl rfl)
theorem dX3_free_27 : decode cX3_free 27 = .ok (.iconst 0, 1) := dk_3 (dk_at dksX3_free_1 3 rfl rfl)
theorem dX3_free_28 : decode cX3_free 28 = .ok (.putfield 66, 3) := dk_181 0 66 (dk_at dksX3_free_1 4 rfl rfl)
theorem dX3_free_31 : decode cX3_free 31 = .ok (.aload_n 0, 1) := dk_42 (dk_at dksX3_free_1 7 rfl rfl)
theorem dX3_free_32 : decode cX3_free 32 = .ok (.getfield 66, 3) := dk_180 0 66 (dk_at dksX3_free_1 8 rfl rfl)
theorem dX3_free_35 : decode cX3_free 35 = .ok (.ifCond .le 5, 3) := dk_158 0 5 (dk_at dksX3_free_1 11 rfl rfl)
theorem dX3_free_38 : decode cX3_free 38 = .ok (.iconst 0, 1) := dk_3 (dk_at dksX3_free_1 14 rfl rfl)
theorem dX3_free_39 : decode cX3_free 39 = .ok (.ireturn, 1) := dk_172 (dk_at dksX3_free_1 15 rfl rfl)
theorem dX3_free_40 : decode cX3_free 40 = .ok (.aload_n 0, 1) := dk_42 (dk_at dksX3_free_1 16 rfl rfl)
theorem dX3_free_41 : decode cX3_free 41 = .ok (.invokevirtual 87, 3) := dk_182 0 87 (dk_at dksX3_free_1 17 rfl rfl)
theorem dX3_free_44 : decode cX3_free 44 = .ok (.aload_n 0, 1) := dk_42 (dk_at dksX3_free_1 20 rfl rfl)
theorem dX3_free_45 : decode cX3_free 45 = .ok (.iload_n 1, 1) := dk_27 (dk_at dksX3_free_1 21 rfl rfl)
theorem dX3_free_46 : decode cX3_free 46 = .ok (.invokevirtual 193, 3) := dk_182 0 193 (dk_at dksX3_free_2 0 rfl rfl)
theorem dX3_free_49 : decode cX3_free 49 = .ok (.ireturn, 1) := dk_172 (dk_at dksX3_free_2 3 rfl rfl)
def dkwX3_leaves_2 : List UInt8 := [184, 0, 98, 2, 79, 28, 172]
abbrev dktX3_leaves_2 : List UInt8 := dkwX3_leaves_2 ++ []
def dkwX3_leaves_1 : List UInt8 := [184, 0, 98, 3, 79, 42, 180, 0, 7, 27, 8, 184, 0, 98, 3, 79, 42, 180, 0, 7, 27, 16, 6]
abbrev dktX3_leaves_1 : List UInt8 := dkwX3_leaves_1 ++ dktX3_leaves_2
def dkwX3_leaves_0 : List UInt8 := [42, 27, 7, 182, 0, 105, 61, 42, 180, 0, 7, 27, 6, 184, 0, 98, 3, 79, 42, 180, 0, 7, 27, 7]
abbrev dktX3_leaves_0 : List UInt8 := dkwX3_leaves_0 ++ dktX3_leaves_1
theorem dksX3_leaves_0 : cX3_leaves.data.toList.drop 0 = dktX3_leaves_0 := by decide +kernel
theorem dksX3_leaves_1 : cX3_leaves.data.toList.drop 24 = dktX3_leaves_1 := dk_seg dksX3_leaves_0 24 rfl rfl
theorem dksX3_leaves_2 : cX3_leaves.data.toList.drop 47 = dktX3_leaves_2 := dk_seg dksX3_leaves_1 23 rfl rfl
theorem dX3_leaves_0 : decode cX3_leaves 0 = .ok (.aload_n 0, 1) := dk_42 (dk_at dksX3_leaves_0 0 rfl rfl)
theorem dX3_leaves_1 : decode cX3_leaves 1 = .ok (.iload_n 1, 1) := dk_27 (dk_at dksX3_leaves_0 1 rfl rfl)
theorem dX3_leaves_2 : decode cX3_leaves 2 = .ok (.iconst 4, 1) := dk_7 (dk_at dksX3_leaves_0 2 rfl rfl)
theorem dX3_leaves_3 : decode cX3_leaves 3 = .ok (.invokevirtual 105, 3) := dk_182 0 105 (dk_at dksX3_leaves_0 3 rfl rfl)
theorem dX3_leaves_6 : decode cX3_leaves 6 = .ok (.istore_n 2, 1) := dk_61 (dk_at dksX3_leaves_0 6 rfl rfl)
theorem dX3_leaves_7 : decode cX3_leaves 7 = .ok (.aload_n 0, 1) := dk_42 (dk_at dksX3_leaves_0 7 rfl rfl)
theorem dX3_leaves_8 : decode cX3_leaves 8 = .ok (.getfield 7, 3) := dk_180 0 7 (dk_at dksX3_leaves_0 8 rfl rfl)
theorem dX3_leaves_11 : decode cX3_leaves 11 = .ok (.iload_n 1, 1) := dk_27 (dk_at dksX3_leaves_0 11 rfl rfl)
theorem dX3_leaves_12 : decode cX3_leaves 12 = .ok (.iconst 3, 1) := dk_6 (dk_at dksX3_leaves_0 12 rfl rfl)
theorem dX3_leaves_13 : decode cX3_leaves 13 = .ok (.invokestatic 98, 3) := dk_184 0 98 (dk_at dksX3_leaves_0 13 rfl rfl)
theorem dX3_leaves_16 : decode cX3_leaves 16 = .ok (.iconst 0, 1) := dk_3 (dk_at dksX3_leaves_0 16 rfl rfl)
theorem dX3_leaves_17 : decode cX3_leaves 17 = .ok (.iastore, 1) := dk_79 (dk_at dksX3_leaves_0 17 rfl rfl)
theorem dX3_leaves_18 : decode cX3_leaves 18 = .ok (.aload_n 0, 1) := dk_42 (dk_at dksX3_leaves_0 18 rfl rfl)
theorem dX3_leaves_19 : decode cX3_leaves 19 = .ok (.getfield 7, 3) := dk_180 0 7 (dk_at dksX3_leaves_0 19 rfl rfl)
theorem dX3_leaves_22 : decode cX3_leaves 22 = .ok (.iload_n 1, 1) := dk_27 (dk_at dksX3_leaves_0 22 rfl rfl)
theorem dX3_leaves_23 : decode cX3_leaves 23 = .ok (.iconst 4, 1) := dk_7 (dk_at dksX3_leaves_0 23 rfl rfl)
theorem dX3_leaves_24 : decode cX3_leaves 24 = .ok (.invokestatic 98, 3) := dk_184 0 98 (dk_at dksX3_leaves_1 0 rfl rfl)
theorem dX3_leaves_27 : decode cX3_leaves 27 = .ok (.iconst 0, 1) := dk_3 (dk_at dksX3_leaves_1 3 rfl rfl)
theorem dX3_leaves_28 : decode cX3_leaves 28 = .ok (.iastore, 1) := dk_79 (dk_at dksX3_leaves_1 4 rfl rfl)
theorem dX3_leaves_29 : decode cX3_leaves 29 = .ok (.aload_n 0, 1) := dk_42 (dk_at dksX3_leaves_1 5 rfl rfl)
theorem dX3_leaves_30 : decode cX3_leaves 30 = .ok (.getfield 7, 3) := dk_180 0 7 (dk_at dksX3_leaves_1 6 rfl rfl)
theorem dX3_leaves_33 : decode cX3_leaves 33 = .ok (.iload_n 1, 1) := dk_27 (dk_at dksX3_leaves_1 9 rfl rfl)
theorem dX3_leaves_34 : decode cX3_leaves 34 = .ok (.iconst 5, 1) := dk_8 (dk_at dksX3_leaves_1 10 rfl rfl)
theorem dX3_leaves_35 : decode cX3_leaves 35 = .ok (.invokestatic 98, 3) := dk_184 0 98 (dk_at dksX3_leaves_1 11 rfl rfl)
theorem dX3_leaves_38 : decode cX3_leaves 38 = .ok (.iconst 0, 1) := dk_3 (dk_at dksX3_leaves_1 14 rfl rfl)
theorem dX3_leaves_39 : decode cX3_leaves 39 = .ok (.iastore, 1) := dk_79 (dk_at dksX3_leaves_1 15 rfl rfl)
theorem dX3_leaves_40 : decode cX3_leaves 40 = .ok (.aload_n 0, 1) := dk_42 (dk_at dksX3_leaves_1 16 rfl rfl)
theorem dX3_leaves_41 : decode cX3_leaves 41 = .ok (.getfield 7, 3) := dk_180 0 7 (dk_at dksX3_leaves_1 17 rfl rfl)
theorem dX3_leaves_44 : decode cX3_leaves 44 = .ok (.iload_n 1, 1) := dk_27 (dk_at dksX3_leaves_1 20 rfl rfl)
theorem dX3_leaves_45 : decode cX3_leaves 45 = .ok (.bipush 6, 2) := dk_16 6 (dk_at dksX3_leaves_1 21 rfl rfl)
theorem dX3_leaves_47 : decode cX3_leaves 47 = .ok (.invokestatic 98, 3) := dk_184 0 98 (dk_at dksX3_leaves_2 0 rfl rfl)
theorem dX3_leaves_50 : decode cX3_leaves 50 = .ok (.iconst (-1), 1) := dk_2 (dk_at dksX3_leaves_2 3 rfl rfl)
theorem dX3_leaves_51 : decode cX3_leaves 51 = .ok (.iastore, 1) := dk_79 (dk_at dksX3_leaves_2 4 rfl rfl)
theorem dX3_leaves_52 : decode cX3_leaves 52 = .ok (.iload_n 2, 1) := dk_28 (dk_at dksX3_leaves_2 5 rfl rfl)
theorem dX3_leaves_53 : decode cX3_leaves 53 = .ok (.ireturn, 1) := dk_172 (dk_at dksX3_leaves_2 6 rfl rfl)
def dkwX3_cut_10 : List UInt8 := [29, 172]
abbrev dktX3_cut_10 : List UInt8 := dkwX3_cut_10 ++ []
def dkwX3_cut_9 : List UInt8 := [79, 42, 180, 0, 7, 27, 8, 184, 0, 98, 28, 79, 42, 180, 0, 7, 27, 16, 6, 184, 0, 98, 29, 79]
abbrev dktX3_cut_9 : List UInt8 := dkwX3_cut_9 ++ dktX3_cut_10
def dkwX3_cut_8 : List UInt8 := [17, 1, 99, 6, 29, 104, 96, 4, 96, 92, 46, 28, 100, 79, 42, 180, 0, 7, 27, 6, 184, 0, 98, 5]
abbrev dktX3_cut_8 : List UInt8 := dkwX3_cut_8 ++ dktX3_cut_9
def dkwX3_cut_7 : List UInt8 := [42, 180, 0, 22, 5, 21, 4, 79, 42, 6, 181, 0, 172, 3, 172, 42, 182, 0, 87, 42, 180, 0, 7]
abbrev dktX3_cut_7 : List UInt8 := dkwX3_cut_7 ++ dktX3_cut_8
def dkwX3_cut_6 : List UInt8 := [21, 5, 167, 0, 4, 29, 62, 132, 5, 1, 167, 255, 160, 29, 156, 0, 25, 42, 8, 28, 182, 0, 181, 87]
abbrev dktX3_cut_6 : List UInt8 := dkwX3_cut_6 ++ dktX3_cut_7
def dkwX3_cut_5 : List UInt8 := [28, 161, 0, 28, 29, 155, 0, 19, 42, 21, 5, 4, 182, 0, 196, 42, 29, 4, 182, 0, 196, 162, 0, 8]
abbrev dktX3_cut_5 : List UInt8 := dkwX3_cut_5 ++ dktX3_cut_6
def dkwX3_cut_4 : List UInt8 := [164, 0, 13, 42, 21, 5, 4, 182, 0, 196, 167, 0, 5, 21, 4, 54, 4, 42, 21, 5, 4, 182, 0, 196]
abbrev dktX3_cut_4 : List UInt8 := dkwX3_cut_4 ++ dktX3_cut_5
def dkwX3_cut_3 : List UInt8 := [21, 5, 3, 182, 0, 196, 42, 27, 3, 182, 0, 105, 160, 0, 67, 42, 21, 5, 4, 182, 0, 196, 21, 4]
abbrev dktX3_cut_3 : List UInt8 := dkwX3_cut_3 ++ dktX3_cut_4
def dkwX3_cut_2 : List UInt8 := [61, 2, 62, 2, 54, 4, 3, 54, 5, 21, 5, 42, 180, 0, 7, 17, 1, 98, 46, 162, 0, 89, 42]
abbrev dktX3_cut_2 : List UInt8 := dkwX3_cut_2 ++ dktX3_cut_3
def dkwX3_cut_1 : List UInt8 := [182, 0, 105, 4, 159, 0, 15, 42, 5, 42, 27, 6, 182, 0, 105, 182, 0, 181, 172, 42, 27, 182, 0, 190]
abbrev dktX3_cut_1 : List UInt8 := dkwX3_cut_1 ++ dktX3_cut_2
def dkwX3_cut_0 : List UInt8 := [42, 3, 181, 0, 66, 42, 27, 182, 0, 184, 154, 0, 10, 42, 4, 27, 182, 0, 181, 172, 42, 27, 6]
abbrev dktX3_cut_0 : List UInt8 := dkwX3_cut_0 ++ dktX3_cut_1
theorem dksX3_cut_0 : cX3_cut.data.toList.drop 0 = dktX3_cut_0 := by decide +kernel
theorem dksX3_cut_1 : cX3_cut.data.toList.drop 23 = dktX3_cut_1 := dk_seg dksX3_cut_0 23 rfl rfl
theorem dksX3_cut_2 : cX3_cut.data.toList.drop 47 = dktX3_cut_2 := dk_seg dksX3_cut_1 24 rfl rfl
theorem dksX3_cut_3 : cX3_cut.data.toList.drop 70 = dktX3_cut_3 := dk_seg dksX3_cut_2 23 rfl rfl
theorem dksX3_cut_4 : cX3_cut.data.toList.drop 94 = dktX3_cut_4 := dk_seg dksX3_cut_3 24 rfl rfl
theorem dksX3_cut_5 : cX3_cut.data.toList.drop 118 = dktX3_cut_5 := dk_seg dksX3_cut_4 24 rfl rfl
theorem dksX3_cut_6 : cX3_cut.data.toList.drop 142 = dktX3_cut_6 := dk_seg dksX3_cut_5 24 rfl rfl
theorem dksX3_cut_7 : cX3_cut.data.toList.drop 166 = dktX3_cut_7 := dk_seg dksX3_cut_6 24 rfl rfl
theorem dksX3_cut_8 : cX3_cut.data.toList.drop 189 = dktX3_cut_8 := dk_seg dksX3_cut_7 23 rfl rfl
theorem dksX3_cut_9 : cX3_cut.data.toList.drop 213 = dktX3_cut_9 := dk_seg dksX3_cut_8 24 rfl rfl
theorem dksX3_cut_10 : cX3_cut.data.toList.drop 237 = dktX3_cut_10 := dk_seg dksX3_cut_9 24 rfl rfl
theorem dX3_cut_0 : decode cX3_cut 0 = .ok (.aload_n 0, 1) := dk_42 (dk_at dksX3_cut_0 0 rfl rfl)
theorem dX3_cut_1 : decode cX3_cut 1 = .ok (.iconst 0, 1) := dk_3 (dk_at dksX3_cut_0 1 rfl rfl)
theorem dX3_cut_2 : decode cX3_cut 2 = .ok (.putfield 66, 3) := dk_181 0 66 (dk_at dksX3_cut_0 2 rfl rfl)
theorem dX3_cut_5 : decode cX3_cut 5 = .ok (.aload_n 0, 1) := dk_42 (dk_at dksX3_cut_0 5 rfl rfl)
theorem dX3_cut_6 : decode cX3_cut 6 = .ok (.iload_n 1, 1) := dk_27 (dk_at dksX3_cut_0 6 rfl rfl)
theorem dX3_cut_7 : decode cX3_cut 7 = .ok (.invokevirtual 184, 3) := dk_182 0 184 (dk_at dksX3_cut_0 7 rfl rfl)
theorem dX3_cut_10 : decode cX3_cut 10 = .ok (.ifCond .ne 10, 3) := dk_154 0 10 (dk_at dksX3_cut_0 10 rfl rfl)
theorem dX3_cut_13 : decode cX3_cut 13 = .ok (.aload_n 0, 1) := dk_42 (dk_at dksX3_cut_0 13 rfl rfl)
theorem dX3_cut_14 : decode cX3_cut 14 = .ok (.iconst 1, 1) := dk_4 (dk_at dksX3_cut_0 14 rfl rfl)
theorem dX3_cut_15 : decode cX3_cut 15 = .ok (.iload_n 1, 1) := dk_27 (dk_at dksX3_cut_0 15 rfl rfl)
theorem dX3_cut_16 : decode cX3_cut 16 = .ok (.invokevirtual 181, 3) := dk_182 0 181 (dk_at dksX3_cut_0 16 rfl rfl)
theorem dX3_cut_19 : decode cX3_cut 19 = .ok (.ireturn, 1) := dk_172 (dk_at dksX3_cut_0 19 rfl rfl)
theorem dX3_cut_20 : decode cX3_cut 20 = .ok (.aload_n 0, 1) := dk_42 (dk_at dksX3_cut_0 20 rfl rfl)
theorem dX3_cut_21 : decode cX3_cut 21 = .ok (.iload_n 1, 1) := dk_27 (dk_at dksX3_cut_0 21 rfl rfl)
theorem dX3_cut_22 : decode cX3_cut 22 = .ok (.iconst 3, 1) := dk_6 (dk_at dksX3_cut_0 22 rfl rfl)
theorem dX3_cut_23 : decode cX3_cut 23 = .ok (.invokevirtual 105, 3) := dk_182 0 105 (dk_at dksX3_cut_1 0 rfl rfl)
theorem dX3_cut_26 : decode cX3_cut 26 = .ok (.iconst 1, 1) := dk_4 (dk_at dksX3_cut_1 3 rfl rfl)
theorem dX3_cut_27 : decode cX3_cut 27 = .ok (.if_icmp .eq 15, 3) := dk_159 0 15 (dk_at dksX3_cut_1 4 rfl rfl)
theorem dX3_cut_30 : decode cX3_cut 30 = .ok (.aload_n 0, 1) := dk_42 (dk_at dksX3_cut_1 7 rfl rfl)
theorem dX3_cut_31 : decode cX3_cut 31 = .ok (.iconst 2, 1) := dk_5 (dk_at dksX3_cut_1 8 rfl rfl)
theorem dX3_cut_32 : decode cX3_cut 32 = .ok (.aload_n 0, 1) := dk_42 (dk_at dksX3_cut_1 9 rfl rfl)
theorem dX3_cut_33 : decode cX3_cut 33 = .ok (.iload_n 1, 1) := dk_27 (dk_at dksX3_cut_1 10 rfl rfl)
theorem dX3_cut_34 : decode cX3_cut 34 = .ok (.iconst 3, 1) := dk_6 (dk_at dksX3_cut_1 11 rfl rfl)
theorem dX3_cut_35 : decode cX3_cut 35 = .ok (.invokevirtual 105, 3) := dk_182 0 105 (dk_at dksX3_cut_1 12 rfl rfl)
theorem dX3_cut_38 : decode cX3_cut 38 = .ok (.invokevirtual 181, 3) := dk_182 0 181 (dk_at dksX3_cut_1 15 rfl rfl)
theorem dX3_cut_41 : decode cX3_cut 41 = .ok (.ireturn, 1) := dk_172 (dk_at dksX3_cut_1 18 rfl rfl)
theorem dX3_cut_42 : decode cX3_cut 42 = .ok (.aload_n 0, 1) := dk_42 (dk_at dksX3_cut_1 19 rfl rfl)
theorem dX3_cut_43 : decode cX3_cut 43 = .ok (.iload_n 1, 1) := dk_27 (dk_at dksX3_cut_1 20 rfl rfl)
theorem dX3_cut_44 : decode cX3_cut 44 = .ok (.invokevirtual 190, 3) := dk_182 0 190 (dk_at dksX3_cut_1 21 rfl rfl)
theorem dX3_cut_47 : decode cX3_cut 47 = .ok (.istore_n 2, 1) := dk_61 (dk_at dksX3_cut_2 0 rfl rfl)
theorem dX3_cut_48 : decode cX3_cut 48 = .ok (.iconst (-1), 1) := dk_2 (dk_at dksX3_cut_2 1 rfl rfl)
theorem dX3_cut_49 : decode cX3_cut 49 = .ok (.istore_n 3, 1) := dk_62 (dk_at dksX3_cut_2 2 rfl rfl)
theorem dX3_cut_50 : decode cX3_cut 50 = .ok (.iconst (-1), 1) := dk_2 (dk_at dksX3_cut_2 3 rfl rfl)
theorem dX3_cut_51 : decode cX3_cut 51 = .ok (.istore 4, 2) := dk_54 4 (dk_at dksX3_cut_2 4 rfl rfl)
theorem dX3_cut_53 : decode cX3_cut 53 = .ok (.iconst 0, 1) := dk_3 (dk_at dksX3_cut_2 6 rfl rfl)
theorem dX3_cut_54 : decode cX3_cut 54 = .ok (.istore 5, 2) := dk_54 5 (dk_at dksX3_cut_2 7 rfl rfl)
theorem dX3_cut_56 : decode cX3_cut 56 = .ok (.iload 5, 2) := dk_21 5 (dk_at dksX3_cut_2 9 rfl rfl)
theorem dX3_cut_58 : decode cX3_cut 58 = .ok (.aload_n 0, 1) := dk_42 (dk_at dksX3_cut_2 11 rfl rfl)
theorem dX3_cut_59 : decode cX3_cut 59 = .ok (.getfield 7, 3) := dk_180 0 7 (dk_at dksX3_cut_2 12 rfl rfl)
theorem dX3_cut_62 : decode cX3_cut 62 = .ok (.sipush 354, 3) := dk_17 1 98 (dk_at dksX3_cut_2 15 rfl rfl)
theorem dX3_cut_65 : decode cX3_cut 65 = .ok (.iaload, 1) := dk_46 (dk_at dksX3_cut_2 18 rfl rfl)
theorem dX3_cut_66 : decode cX3_cut 66 = .ok (.if_icmp .ge 89, 3) := dk_162 0 89 (dk_at dksX3_cut_2 19 rfl rfl)
theorem dX3_cut_69 : decode cX3_cut 69 = .ok (.aload_n 0, 1) := dk_42 (dk_at dksX3_cut_2 22 rfl rfl)
theorem dX3_cut_70 : decode cX3_cut 70 = .ok (.iload 5, 2) := dk_21 5 (dk_at dksX3_cut_3 0 rfl rfl)
theorem dX3_cut_72 : decode cX3_cut 72 = .ok (.iconst 0, 1) := dk_3 (dk_at dksX3_cut_3 2 rfl rfl)
theorem dX3_cut_73 : decode cX3_cut 73 = .ok (.invokevirtual 196, 3) := dk_182 0 196 (dk_at dksX3_cut_3 3 rfl rfl)
theorem dX3_cut_76 : decode cX3_cut 76 = .ok (.aload_n 0, 1) := dk_42 (dk_at dksX3_cut_3 6 rfl rfl)
theorem dX3_cut_77 : decode cX3_cut 77 = .ok (.iload_n 1, 1) := dk_27 (dk_at dksX3_cut_3 7 rfl rfl)
theorem dX3_cut_78 : decode cX3_cut 78 = .ok (.iconst 0, 1) := dk_3 (dk_at dksX3_cut_3 8 rfl rfl)
theorem dX3_cut_79 : decode cX3_cut 79 = .ok (.invokevirtual 105, 3) := dk_182 0 105 (dk_at dksX3_cut_3 9 rfl rfl)
theorem dX3_cut_82 : decode cX3_cut 82 = .ok (.if_icmp .ne 67, 3) := dk_160 0 67 (dk_at dksX3_cut_3 12 rfl rfl)
theorem dX3_cut_85 : decode cX3_cut 85 = .ok (.aload_n 0, 1) := dk_42 (dk_at dksX3_cut_3 15 rfl rfl)
theorem dX3_cut_86 : decode cX3_cut 86 = .ok (.iload 5, 2) := dk_21 5 (dk_at dksX3_cut_3 16 rfl rfl)
theorem dX3_cut_88 : decode cX3_cut 88 = .ok (.iconst 1, 1) := dk_4 (dk_at dksX3_cut_3 18 rfl rfl)
theorem dX3_cut_89 : decode cX3_cut 89 = .ok (.invokevirtual 196, 3) := dk_182 0 196 (dk_at dksX3_cut_3 19 rfl rfl)
theorem dX3_cut_92 : decode cX3_cut 92 = .ok (.iload 4, 2) := dk_21 4 (dk_at dksX3_cut_3 22 rfl rfl)
theorem dX3_cut_94 : decode cX3_cut 94 = .ok (.if_icmp .le 13, 3) := dk_164 0 13 (dk_at dksX3_cut_4 0 rfl rfl)
theorem dX3_cut_97 : decode cX3_cut 97 = .ok (.aload_n 0, 1) := dk_42 (dk_at dksX3_cut_4 3 rfl rfl)
theorem dX3_cut_98 : decode cX3_cut 98 = .ok (.iload 5, 2) := dk_21 5 (dk_at dksX3_cut_4 4 rfl rfl)
theorem dX3_cut_100 : decode cX3_cut 100 = .ok (.iconst 1, 1) := dk_4 (dk_at dksX3_cut_4 6 rfl rfl)
theorem dX3_cut_101 : decode cX3_cut 101 = .ok (.invokevirtual 196, 3) := dk_182 0 196 (dk_at dksX3_cut_4 7 rfl rfl)
theorem dX3_cut_104 : decode cX3_cut 104 = .ok (.goto 5, 3) := dk_167 0 5 (dk_at dksX3_cut_4 10 rfl rfl)
theorem dX3_cut_107 : decode cX3_cut 107 = .ok (.iload 4, 2) := dk_21 4 (dk_at dksX3_cut_4 13 rfl rfl)
theorem dX3_cut_109 : decode cX3_cut 109 = .ok (.istore 4, 2) := dk_54 4 (dk_at dksX3_cut_4 15 rfl rfl)
theorem dX3_cut_111 : decode cX3_cut 111 = .ok (.aload_n 0, 1) := dk_42 (dk_at dksX3_cut_4 17 rfl rfl)
theorem dX3_cut_112 : decode cX3_cut 112 = .ok (.iload 5, 2) := dk_21 5 (dk_at dksX3_cut_4 18 rfl rfl)
theorem dX3_cut_114 : decode cX3_cut 114 = .ok (.iconst 1, 1) := dk_4 (dk_at dksX3_cut_4 20 rfl rfl)
theorem dX3_cut_115 : decode cX3_cut 115 = .ok (.invokevirtual 196, 3) := dk_182 0 196 (dk_at dksX3_cut_4 21 rfl rfl)
theorem dX3_cut_118 : decode cX3_cut 118 = .ok (.iload_n 2, 1) := dk_28 (dk_at dksX3_cut_5 0 rfl rfl)
theorem dX3_cut_119 : decode cX3_cut 119 = .ok (.if_icmp .lt 28, 3) := dk_161 0 28 (dk_at dksX3_cut_5 1 rfl rfl)
theorem dX3_cut_122 : decode cX3_cut 122 = .ok (.iload_n 3, 1) := dk_29 (dk_at dksX3_cut_5 4 rfl rfl)
theorem dX3_cut_123 : decode cX3_cut 123 = .ok (.ifCond .lt 19, 3) := dk_155 0 19 (dk_at dksX3_cut_5 5 rfl rfl)
theorem dX3_cut_126 : decode cX3_cut 126 = .ok (.aload_n 0, 1) := dk_42 (dk_at dksX3_cut_5 8 rfl rfl)
theorem dX3_cut_127 : decode cX3_cut 127 = .ok (.iload 5, 2) := dk_21 5 (dk_at dksX3_cut_5 9 rfl rfl)
theorem dX3_cut_129 : decode cX3_cut 129 = .ok (.iconst 1, 1) := dk_4 (dk_at dksX3_cut_5 11 rfl rfl)
theorem dX3_cut_130 : decode cX3_cut 130 = .ok (.invokevirtual 196, 3) := dk_182 0 196 (dk_at dksX3_cut_5 12 rfl rfl)
theorem dX3_cut_133 : decode cX3_cut 133 = .ok (.aload_n 0, 1) := dk_42 (dk_at dksX3_cut_5 15 rfl rfl)
theorem dX3_cut_134 : decode cX3_cut 134 = .ok (.iload_n 3, 1) := dk_29 (dk_at dksX3_cut_5 16 rfl rfl)
theorem dX3_cut_135 : decode cX3_cut 135 = .ok (.iconst 1, 1) := dk_4 (dk_at dksX3_cut_5 17 rfl rfl)
theorem dX3_cut_136 : decode cX3_cut 136 = .ok (.invokevirtual 196, 3) := dk_182 0 196 (dk_at dksX3_cut_5 18 rfl rfl)
theorem dX3_cut_139 : decode cX3_cut 139 = .ok (.if_icmp .ge 8, 3) := dk_162 0 8 (dk_at dksX3_cut_5 21 rfl rfl)
theorem dX3_cut_142 : decode cX3_cut 142 = .ok (.iload 5, 2) := dk_21 5 (dk_at dksX3_cut_6 0 rfl rfl)
theorem dX3_cut_144 : decode cX3_cut 144 = .ok (.goto 4, 3) := dk_167 0 4 (dk_at dksX3_cut_6 2 rfl rfl)
theorem dX3_cut_147 : decode cX3_cut 147 = .ok (.iload_n 3, 1) := dk_29 (dk_at dksX3_cut_6 5 rfl rfl)
theorem dX3_cut_148 : decode cX3_cut 148 = .ok (.istore_n 3, 1) := dk_62 (dk_at dksX3_cut_6 6 rfl rfl)
theorem dX3_cut_149 : decode cX3_cut 149 = .ok (.iinc 5 1, 3) := dk_132 5 1 (dk_at dksX3_cut_6 7 rfl rfl)
theorem dX3_cut_152 : decode cX3_cut 152 = .ok (.goto (-96), 3) := dk_167 255 160 (dk_at dksX3_cut_6 10 rfl rfl)
theorem dX3_cut_155 : decode cX3_cut 155 = .ok (.iload_n 3, 1) := dk_29 (dk_at dksX3_cut_6 13 rfl rfl)
theorem dX3_cut_156 : decode cX3_cut 156 = .ok (.ifCond .ge 25, 3) := dk_156 0 25 (dk_at dksX3_cut_6 14 rfl rfl)
theorem dX3_cut_159 : decode cX3_cut 159 = .ok (.aload_n 0, 1) := dk_42 (dk_at dksX3_cut_6 17 rfl rfl)
theorem dX3_cut_160 : decode cX3_cut 160 = .ok (.iconst 5, 1) := dk_8 (dk_at dksX3_cut_6 18 rfl rfl)
theorem dX3_cut_161 : decode cX3_cut 161 = .ok (.iload_n 2, 1) := dk_28 (dk_at dksX3_cut_6 19 rfl rfl)
theorem dX3_cut_162 : decode cX3_cut 162 = .ok (.invokevirtual 181, 3) := dk_182 0 181 (dk_at dksX3_cut_6 20 rfl rfl)
theorem dX3_cut_165 : decode cX3_cut 165 = .ok (.pop, 1) := dk_87 (dk_at dksX3_cut_6 23 rfl rfl)
theorem dX3_cut_166 : decode cX3_cut 166 = .ok (.aload_n 0, 1) := dk_42 (dk_at dksX3_cut_7 0 rfl rfl)
theorem dX3_cut_167 : decode cX3_cut 167 = .ok (.getfield 22, 3) := dk_180 0 22 (dk_at dksX3_cut_7 1 rfl rfl)
theorem dX3_cut_170 : decode cX3_cut 170 = .ok (.iconst 2, 1) := dk_5 (dk_at dksX3_cut_7 4 rfl rfl)
theorem dX3_cut_171 : decode cX3_cut 171 = .ok (.iload 4, 2) := dk_21 4 (dk_at dksX3_cut_7 5 rfl rfl)
theorem dX3_cut_173 : decode cX3_cut 173 = .ok (.iastore, 1) := dk_79 (dk_at dksX3_cut_7 7 rfl rfl)
theorem dX3_cut_174 : decode cX3_cut 174 = .ok (.aload_n 0, 1) := dk_42 (dk_at dksX3_cut_7 8 rfl rfl)
theorem dX3_cut_175 : decode cX3_cut 175 = .ok (.iconst 3, 1) := dk_6 (dk_at dksX3_cut_7 9 rfl rfl)
theorem dX3_cut_176 : decode cX3_cut 176 = .ok (.putfield 172, 3) := dk_181 0 172 (dk_at dksX3_cut_7 10 rfl rfl)
theorem dX3_cut_179 : decode cX3_cut 179 = .ok (.iconst 0, 1) := dk_3 (dk_at dksX3_cut_7 13 rfl rfl)
theorem dX3_cut_180 : decode cX3_cut 180 = .ok (.ireturn, 1) := dk_172 (dk_at dksX3_cut_7 14 rfl rfl)
theorem dX3_cut_181 : decode cX3_cut 181 = .ok (.aload_n 0, 1) := dk_42 (dk_at dksX3_cut_7 15 rfl rfl)
theorem dX3_cut_182 : decode cX3_cut 182 = .ok (.invokevirtual 87, 3) := dk_182 0 87 (dk_at dksX3_cut_7 16 rfl rfl)
theorem dX3_cut_185 : decode cX3_cut 185 = .ok (.aload_n 0, 1) := dk_42 (dk_at dksX3_cut_7 19 rfl rfl)
theorem dX3_cut_186 : decode cX3_cut 186 = .ok (.getfield 7, 3) := dk_180 0 7 (dk_at dksX3_cut_7 20 rfl rfl)
theorem dX3_cut_189 : decode cX3_cut 189 = .ok (.sipush 355, 3) := dk_17 1 99 (dk_at dksX3_cut_8 0 rfl rfl)
theorem dX3_cut_192 : decode cX3_cut 192 = .ok (.iconst 3, 1) := dk_6 (dk_at dksX3_cut_8 3 rfl rfl)
theorem dX3_cut_193 : decode cX3_cut 193 = .ok (.iload_n 3, 1) := dk_29 (dk_at dksX3_cut_8 4 rfl rfl)
theorem dX3_cut_194 : decode cX3_cut 194 = .ok (.imul, 1) := dk_104 (dk_at dksX3_cut_8 5 rfl rfl)
theorem dX3_cut_195 : decode cX3_cut 195 = .ok (.iadd, 1) := dk_96 (dk_at dksX3_cut_8 6 rfl rfl)
theorem dX3_cut_196 : decode cX3_cut 196 = .ok (.iconst 1, 1) := dk_4 (dk_at dksX3_cut_8 7 rfl rfl)
theorem dX3_cut_197 : decode cX3_cut 197 = .ok (.iadd, 1) := dk_96 (dk_at dksX3_cut_8 8 rfl rfl)
theorem dX3_cut_198 : decode cX3_cut 198 = .ok (.dup2, 1) := dk_92 (dk_at dksX3_cut_8 9 rfl rfl)
theorem dX3_cut_199 : decode cX3_cut 199 = .ok (.iaload, 1) := dk_46 (dk_at dksX3_cut_8 10 rfl rfl)
theorem dX3_cut_200 : decode cX3_cut 200 = .ok (.iload_n 2, 1) := dk_28 (dk_at dksX3_cut_8 11 rfl rfl)
theorem dX3_cut_201 : decode cX3_cut 201 = .ok (.isub, 1) := dk_100 (dk_at dksX3_cut_8 12 rfl rfl)
theorem dX3_cut_202 : decode cX3_cut 202 = .ok (.iastore, 1) := dk_79 (dk_at dksX3_cut_8 13 rfl rfl)
theorem dX3_cut_203 : decode cX3_cut 203 = .ok (.aload_n 0, 1) := dk_42 (dk_at dksX3_cut_8 14 rfl rfl)
theorem dX3_cut_204 : decode cX3_cut 204 = .ok (.getfield 7, 3) := dk_180 0 7 (dk_at dksX3_cut_8 15 rfl rfl)
theorem dX3_cut_207 : decode cX3_cut 207 = .ok (.iload_n 1, 1) := dk_27 (dk_at dksX3_cut_8 18 rfl rfl)
theorem dX3_cut_208 : decode cX3_cut 208 = .ok (.iconst 3, 1) := dk_6 (dk_at dksX3_cut_8 19 rfl rfl)
theorem dX3_cut_209 : decode cX3_cut 209 = .ok (.invokestatic 98, 3) := dk_184 0 98 (dk_at dksX3_cut_8 20 rfl rfl)
theorem dX3_cut_212 : decode cX3_cut 212 = .ok (.iconst 2, 1) := dk_5 (dk_at dksX3_cut_8 23 rfl rfl)
theorem dX3_cut_213 : decode cX3_cut 213 = .ok (.iastore, 1) := dk_79 (dk_at dksX3_cut_9 0 rfl rfl)
theorem dX3_cut_214 : decode cX3_cut 214 = .ok (.aload_n 0, 1) := dk_42 (dk_at dksX3_cut_9 1 rfl rfl)
theorem dX3_cut_215 : decode cX3_cut 215 = .ok (.getfield 7, 3) := dk_180 0 7 (dk_at dksX3_cut_9 2 rfl rfl)
theorem dX3_cut_218 : decode cX3_cut 218 = .ok (.iload_n 1, 1) := dk_27 (dk_at dksX3_cut_9 5 rfl rfl)
theorem dX3_cut_219 : decode cX3_cut 219 = .ok (.iconst 5, 1) := dk_8 (dk_at dksX3_cut_9 6 rfl rfl)
theorem dX3_cut_220 : decode cX3_cut 220 = .ok (.invokestatic 98, 3) := dk_184 0 98 (dk_at dksX3_cut_9 7 rfl rfl)
theorem dX3_cut_223 : decode cX3_cut 223 = .ok (.iload_n 2, 1) := dk_28 (dk_at dksX3_cut_9 10 rfl rfl)
theorem dX3_cut_224 : decode cX3_cut 224 = .ok (.iastore, 1) := dk_79 (dk_at dksX3_cut_9 11 rfl rfl)
theorem dX3_cut_225 : decode cX3_cut 225 = .ok (.aload_n 0, 1) := dk_42 (dk_at dksX3_cut_9 12 rfl rfl)
theorem dX3_cut_226 : decode cX3_cut 226 = .ok (.getfield 7, 3) := dk_180 0 7 (dk_at dksX3_cut_9 13 rfl rfl)
theorem dX3_cut_229 : decode cX3_cut 229 = .ok (.iload_n 1, 1) := dk_27 (dk_at dksX3_cut_9 16 rfl rfl)
theorem dX3_cut_230 : decode cX3_cut 230 = .ok (.bipush 6, 2) := dk_16 6 (dk_at dksX3_cut_9 17 rfl rfl)
theorem dX3_cut_232 : decode cX3_cut 232 = .ok (.invokestatic 98, 3) := dk_184 0 98 (dk_at dksX3_cut_9 19 rfl rfl)
theorem dX3_cut_235 : decode cX3_cut 235 = .ok (.iload_n 3, 1) := dk_29 (dk_at dksX3_cut_9 22 rfl rfl)
theorem dX3_cut_236 : decode cX3_cut 236 = .ok (.iastore, 1) := dk_79 (dk_at dksX3_cut_9 23 rfl rfl)
theorem dX3_cut_237 : decode cX3_cut 237 = .ok (.iload_n 3, 1) := dk_29 (dk_at dksX3_cut_10 0 rfl rfl)
theorem dX3_cut_238 : decode cX3_cut 238 = .ok (.ireturn, 1) := dk_172 (dk_at dksX3_cut_10 1 rfl rfl)
def dkwX3_drumTold_0 : List UInt8 := [42, 180, 0, 7, 17, 1, 99, 6, 27, 104, 96, 28, 96, 46, 172]
abbrev dktX3_drumTold_0 : List UInt8 := dkwX3_drumTold_0 ++ []
theorem dksX3_drumTold_0 : cX3_drumTold.data.toList.drop 0 = dktX3_drumTold_0 := by decide +kernel
theorem dX3_drumTold_0 : decode cX3_drumTold 0 = .ok (.aload_n 0, 1) := dk_42 (dk_at dksX3_drumTold_0 0 rfl rfl)
theorem dX3_drumTold_1 : decode cX3_drumTold 1 = .ok (.getfield 7, 3) := dk_180 0 7 (dk_at dksX3_drumTold_0 1 rfl rfl)
theorem dX3_drumTold_4 : decode cX3_drumTold 4 = .ok (.sipush 355, 3) := dk_17 1 99 (dk_at dksX3_drumTold_0 4 rfl rfl)
theorem dX3_drumTold_7 : decode cX3_drumTold 7 = .ok (.iconst 3, 1) := dk_6 (dk_at dksX3_drumTold_0 7 rfl rfl)
theorem dX3_drumTold_8 : decode cX3_drumTold 8 = .ok (.iload_n 1, 1) := dk_27 (dk_at dksX3_drumTold_0 8 rfl rfl)
theorem dX3_drumTold_9 : decode cX3_drumTold 9 = .ok (.imul, 1) := dk_104 (dk_at dksX3_drumTold_0 9 rfl rfl)
theorem dX3_drumTold_10 : decode cX3_drumTold 10 = .ok (.iadd, 1) := dk_96 (dk_at dksX3_drumTold_0 10 rfl rfl)
theorem dX3_drumTold_11 : decode cX3_drumTold 11 = .ok (.iload_n 2, 1) := dk_28 (dk_at dksX3_drumTold_0 11 rfl rfl)
theorem dX3_drumTold_12 : decode cX3_drumTold 12 = .ok (.iadd, 1) := dk_96 (dk_at dksX3_drumTold_0 12 rfl rfl)
theorem dX3_drumTold_13 : decode cX3_drumTold 13 = .ok (.iaload, 1) := dk_46 (dk_at dksX3_drumTold_0 13 rfl rfl)
theorem dX3_drumTold_14 : decode cX3_drumTold 14 = .ok (.ireturn, 1) := dk_172 (dk_at dksX3_drumTold_0 14 rfl rfl)
def dkwX3_scrap_2 : List UInt8 := [182, 0, 105, 61, 42, 180, 0, 7, 5, 92, 46, 28, 96, 79, 42, 27, 182, 0, 193, 87, 28, 172]
abbrev dktX3_scrap_2 : List UInt8 := dkwX3_scrap_2 ++ []
def dkwX3_scrap_1 : List UInt8 := [167, 0, 4, 3, 181, 0, 66, 42, 180, 0, 66, 158, 0, 5, 3, 172, 42, 182, 0, 87, 42, 27, 8]
abbrev dktX3_scrap_1 : List UInt8 := dkwX3_scrap_1 ++ dktX3_scrap_2
def dkwX3_scrap_0 : List UInt8 := [42, 42, 27, 182, 0, 184, 154, 0, 7, 4, 167, 0, 18, 42, 27, 6, 182, 0, 105, 5, 159, 0, 7, 5]
abbrev dktX3_scrap_0 : List UInt8 := dkwX3_scrap_0 ++ dktX3_scrap_1
theorem dksX3_scrap_0 : cX3_scrap.data.toList.drop 0 = dktX3_scrap_0 := by decide +kernel
theorem dksX3_scrap_1 : cX3_scrap.data.toList.drop 24 = dktX3_scrap_1 := dk_seg dksX3_scrap_0 24 rfl rfl
theorem dksX3_scrap_2 : cX3_scrap.data.toList.drop 47 = dktX3_scrap_2 := dk_seg dksX3_scrap_1 23 rfl rfl
theorem dX3_scrap_0 : decode cX3_scrap 0 = .ok (.aload_n 0, 1) := dk_42 (dk_at dksX3_scrap_0 0 rfl rfl)
theorem dX3_scrap_1 : decode cX3_scrap 1 = .ok (.aload_n 0, 1) := dk_42 (dk_at dksX3_scrap_0 1 rfl rfl)
theorem dX3_scrap_2 : decode cX3_scrap 2 = .ok (.iload_n 1, 1) := dk_27 (dk_at dksX3_scrap_0 2 rfl rfl)
theorem dX3_scrap_3 : decode cX3_scrap 3 = .ok (.invokevirtual 184, 3) := dk_182 0 184 (dk_at dksX3_scrap_0 3 rfl rfl)
theorem dX3_scrap_6 : decode cX3_scrap 6 = .ok (.ifCond .ne 7, 3) := dk_154 0 7 (dk_at dksX3_scrap_0 6 rfl rfl)
theorem dX3_scrap_9 : decode cX3_scrap 9 = .ok (.iconst 1, 1) := dk_4 (dk_at dksX3_scrap_0 9 rfl rfl)
theorem dX3_scrap_10 : decode cX3_scrap 10 = .ok (.goto 18, 3) := dk_167 0 18 (dk_at dksX3_scrap_0 10 rfl rfl)
theorem dX3_scrap_13 : decode cX3_scrap 13 = .ok (.aload_n 0, 1) := dk_42 (dk_at dksX3_scrap_0 13 rfl rfl)
theorem dX3_scrap_14 : decode cX3_scrap 14 = .ok (.iload_n 1, 1) := dk_27 (dk_at dksX3_scrap_0 14 rfl rfl)
theorem dX3_scrap_15 : decode cX3_scrap 15 = .ok (.iconst 3, 1) := dk_6 (dk_at dksX3_scrap_0 15 rfl rfl)
theorem dX3_scrap_16 : decode cX3_scrap 16 = .ok (.invokevirtual 105, 3) := dk_182 0 105 (dk_at dksX3_scrap_0 16 rfl rfl)
theorem dX3_scrap_19 : decode cX3_scrap 19 = .ok (.iconst 2, 1) := dk_5 (dk_at dksX3_scrap_0 19 rfl rfl)
theorem dX3_scrap_20 : decode cX3_scrap 20 = .ok (.if_icmp .eq 7, 3) := dk_159 0 7 (dk_at dksX3_scrap_0 20 rfl rfl)
theorem dX3_scrap_23 : decode cX3_scrap 23 = .ok (.iconst 2, 1) := dk_5 (dk_at dksX3_scrap_0 23 rfl rfl)
theorem dX3_scrap_24 : decode cX3_scrap 24 = .ok (.goto 4, 3) := dk_167 0 4 (dk_at dksX3_scrap_1 0 rfl rfl)
theorem dX3_scrap_27 : decode cX3_scrap 27 = .ok (.iconst 0, 1) := dk_3 (dk_at dksX3_scrap_1 3 rfl rfl)
theorem dX3_scrap_28 : decode cX3_scrap 28 = .ok (.putfield 66, 3) := dk_181 0 66 (dk_at dksX3_scrap_1 4 rfl rfl)
theorem dX3_scrap_31 : decode cX3_scrap 31 = .ok (.aload_n 0, 1) := dk_42 (dk_at dksX3_scrap_1 7 rfl rfl)
theorem dX3_scrap_32 : decode cX3_scrap 32 = .ok (.getfield 66, 3) := dk_180 0 66 (dk_at dksX3_scrap_1 8 rfl rfl)
theorem dX3_scrap_35 : decode cX3_scrap 35 = .ok (.ifCond .le 5, 3) := dk_158 0 5 (dk_at dksX3_scrap_1 11 rfl rfl)
theorem dX3_scrap_38 : decode cX3_scrap 38 = .ok (.iconst 0, 1) := dk_3 (dk_at dksX3_scrap_1 14 rfl rfl)
theorem dX3_scrap_39 : decode cX3_scrap 39 = .ok (.ireturn, 1) := dk_172 (dk_at dksX3_scrap_1 15 rfl rfl)
theorem dX3_scrap_40 : decode cX3_scrap 40 = .ok (.aload_n 0, 1) := dk_42 (dk_at dksX3_scrap_1 16 rfl rfl)
theorem dX3_scrap_41 : decode cX3_scrap 41 = .ok (.invokevirtual 87, 3) := dk_182 0 87 (dk_at dksX3_scrap_1 17 rfl rfl)
theorem dX3_scrap_44 : decode cX3_scrap 44 = .ok (.aload_n 0, 1) := dk_42 (dk_at dksX3_scrap_1 20 rfl rfl)
theorem dX3_scrap_45 : decode cX3_scrap 45 = .ok (.iload_n 1, 1) := dk_27 (dk_at dksX3_scrap_1 21 rfl rfl)
theorem dX3_scrap_46 : decode cX3_scrap 46 = .ok (.iconst 5, 1) := dk_8 (dk_at dksX3_scrap_1 22 rfl rfl)
theorem dX3_scrap_47 : decode cX3_scrap 47 = .ok (.invokevirtual 105, 3) := dk_182 0 105 (dk_at dksX3_scrap_2 0 rfl rfl)
theorem dX3_scrap_50 : decode cX3_scrap 50 = .ok (.istore_n 2, 1) := dk_61 (dk_at dksX3_scrap_2 3 rfl rfl)
theorem dX3_scrap_51 : decode cX3_scrap 51 = .ok (.aload_n 0, 1) := dk_42 (dk_at dksX3_scrap_2 4 rfl rfl)
theorem dX3_scrap_52 : decode cX3_scrap 52 = .ok (.getfield 7, 3) := dk_180 0 7 (dk_at dksX3_scrap_2 5 rfl rfl)
theorem dX3_scrap_55 : decode cX3_scrap 55 = .ok (.iconst 2, 1) := dk_5 (dk_at dksX3_scrap_2 8 rfl rfl)
theorem dX3_scrap_56 : decode cX3_scrap 56 = .ok (.dup2, 1) := dk_92 (dk_at dksX3_scrap_2 9 rfl rfl)
theorem dX3_scrap_57 : decode cX3_scrap 57 = .ok (.iaload, 1) := dk_46 (dk_at dksX3_scrap_2 10 rfl rfl)
theorem dX3_scrap_58 : decode cX3_scrap 58 = .ok (.iload_n 2, 1) := dk_28 (dk_at dksX3_scrap_2 11 rfl rfl)
theorem dX3_scrap_59 : decode cX3_scrap 59 = .ok (.iadd, 1) := dk_96 (dk_at dksX3_scrap_2 12 rfl rfl)
theorem dX3_scrap_60 : decode cX3_scrap 60 = .ok (.iastore, 1) := dk_79 (dk_at dksX3_scrap_2 13 rfl rfl)
theorem dX3_scrap_61 : decode cX3_scrap 61 = .ok (.aload_n 0, 1) := dk_42 (dk_at dksX3_scrap_2 14 rfl rfl)
theorem dX3_scrap_62 : decode cX3_scrap 62 = .ok (.iload_n 1, 1) := dk_27 (dk_at dksX3_scrap_2 15 rfl rfl)
theorem dX3_scrap_63 : decode cX3_scrap 63 = .ok (.invokevirtual 193, 3) := dk_182 0 193 (dk_at dksX3_scrap_2 16 rfl rfl)
theorem dX3_scrap_66 : decode cX3_scrap 66 = .ok (.pop, 1) := dk_87 (dk_at dksX3_scrap_2 19 rfl rfl)
theorem dX3_scrap_67 : decode cX3_scrap 67 = .ok (.iload_n 2, 1) := dk_28 (dk_at dksX3_scrap_2 20 rfl rfl)
theorem dX3_scrap_68 : decode cX3_scrap 68 = .ok (.ireturn, 1) := dk_172 (dk_at dksX3_scrap_2 21 rfl rfl)
def dkwX3_refusal_2 : List UInt8 := [180, 0, 22, 27, 46, 172]
abbrev dktX3_refusal_2 : List UInt8 := dkwX3_refusal_2 ++ []
def dkwX3_refusal_1 : List UInt8 := [153, 0, 7, 3, 167, 0, 4, 5, 181, 0, 66, 42, 180, 0, 66, 158, 0, 7, 3, 167, 0, 9, 42]
abbrev dktX3_refusal_1 : List UInt8 := dkwX3_refusal_1 ++ dktX3_refusal_2
def dkwX3_refusal_0 : List UInt8 := [42, 42, 180, 0, 172, 154, 0, 7, 4, 167, 0, 22, 27, 3, 42, 180, 0, 172, 4, 100, 184, 0, 90]
abbrev dktX3_refusal_0 : List UInt8 := dkwX3_refusal_0 ++ dktX3_refusal_1
theorem dksX3_refusal_0 : cX3_refusal.data.toList.drop 0 = dktX3_refusal_0 := by decide +kernel
theorem dksX3_refusal_1 : cX3_refusal.data.toList.drop 23 = dktX3_refusal_1 := dk_seg dksX3_refusal_0 23 rfl rfl
theorem dksX3_refusal_2 : cX3_refusal.data.toList.drop 46 = dktX3_refusal_2 := dk_seg dksX3_refusal_1 23 rfl rfl
theorem dX3_refusal_0 : decode cX3_refusal 0 = .ok (.aload_n 0, 1) := dk_42 (dk_at dksX3_refusal_0 0 rfl rfl)
theorem dX3_refusal_1 : decode cX3_refusal 1 = .ok (.aload_n 0, 1) := dk_42 (dk_at dksX3_refusal_0 1 rfl rfl)
theorem dX3_refusal_2 : decode cX3_refusal 2 = .ok (.getfield 172, 3) := dk_180 0 172 (dk_at dksX3_refusal_0 2 rfl rfl)
theorem dX3_refusal_5 : decode cX3_refusal 5 = .ok (.ifCond .ne 7, 3) := dk_154 0 7 (dk_at dksX3_refusal_0 5 rfl rfl)
theorem dX3_refusal_8 : decode cX3_refusal 8 = .ok (.iconst 1, 1) := dk_4 (dk_at dksX3_refusal_0 8 rfl rfl)
theorem dX3_refusal_9 : decode cX3_refusal 9 = .ok (.goto 22, 3) := dk_167 0 22 (dk_at dksX3_refusal_0 9 rfl rfl)
theorem dX3_refusal_12 : decode cX3_refusal 12 = .ok (.iload_n 1, 1) := dk_27 (dk_at dksX3_refusal_0 12 rfl rfl)
theorem dX3_refusal_13 : decode cX3_refusal 13 = .ok (.iconst 0, 1) := dk_3 (dk_at dksX3_refusal_0 13 rfl rfl)
theorem dX3_refusal_14 : decode cX3_refusal 14 = .ok (.aload_n 0, 1) := dk_42 (dk_at dksX3_refusal_0 14 rfl rfl)
theorem dX3_refusal_15 : decode cX3_refusal 15 = .ok (.getfield 172, 3) := dk_180 0 172 (dk_at dksX3_refusal_0 15 rfl rfl)
theorem dX3_refusal_18 : decode cX3_refusal 18 = .ok (.iconst 1, 1) := dk_4 (dk_at dksX3_refusal_0 18 rfl rfl)
theorem dX3_refusal_19 : decode cX3_refusal 19 = .ok (.isub, 1) := dk_100 (dk_at dksX3_refusal_0 19 rfl rfl)
theorem dX3_refusal_20 : decode cX3_refusal 20 = .ok (.invokestatic 90, 3) := dk_184 0 90 (dk_at dksX3_refusal_0 20 rfl rfl)
theorem dX3_refusal_23 : decode cX3_refusal 23 = .ok (.ifCond .eq 7, 3) := dk_153 0 7 (dk_at dksX3_refusal_1 0 rfl rfl)
theorem dX3_refusal_26 : decode cX3_refusal 26 = .ok (.iconst 0, 1) := dk_3 (dk_at dksX3_refusal_1 3 rfl rfl)
theorem dX3_refusal_27 : decode cX3_refusal 27 = .ok (.goto 4, 3) := dk_167 0 4 (dk_at dksX3_refusal_1 4 rfl rfl)
theorem dX3_refusal_30 : decode cX3_refusal 30 = .ok (.iconst 2, 1) := dk_5 (dk_at dksX3_refusal_1 7 rfl rfl)
theorem dX3_refusal_31 : decode cX3_refusal 31 = .ok (.putfield 66, 3) := dk_181 0 66 (dk_at dksX3_refusal_1 8 rfl rfl)
theorem dX3_refusal_34 : decode cX3_refusal 34 = .ok (.aload_n 0, 1) := dk_42 (dk_at dksX3_refusal_1 11 rfl rfl)
theorem dX3_refusal_35 : decode cX3_refusal 35 = .ok (.getfield 66, 3) := dk_180 0 66 (dk_at dksX3_refusal_1 12 rfl rfl)
theorem dX3_refusal_38 : decode cX3_refusal 38 = .ok (.ifCond .le 7, 3) := dk_158 0 7 (dk_at dksX3_refusal_1 15 rfl rfl)
theorem dX3_refusal_41 : decode cX3_refusal 41 = .ok (.iconst 0, 1) := dk_3 (dk_at dksX3_refusal_1 18 rfl rfl)
theorem dX3_refusal_42 : decode cX3_refusal 42 = .ok (.goto 9, 3) := dk_167 0 9 (dk_at dksX3_refusal_1 19 rfl rfl)
theorem dX3_refusal_45 : decode cX3_refusal 45 = .ok (.aload_n 0, 1) := dk_42 (dk_at dksX3_refusal_1 22 rfl rfl)
theorem dX3_refusal_46 : decode cX3_refusal 46 = .ok (.getfield 22, 3) := dk_180 0 22 (dk_at dksX3_refusal_2 0 rfl rfl)
theorem dX3_refusal_49 : decode cX3_refusal 49 = .ok (.iload_n 1, 1) := dk_27 (dk_at dksX3_refusal_2 3 rfl rfl)
theorem dX3_refusal_50 : decode cX3_refusal 50 = .ok (.iaload, 1) := dk_46 (dk_at dksX3_refusal_2 4 rfl rfl)
theorem dX3_refusal_51 : decode cX3_refusal 51 = .ok (.ireturn, 1) := dk_172 (dk_at dksX3_refusal_2 5 rfl rfl)
def dkwX3_cable_4 : List UInt8 := [182, 0, 105, 172]
abbrev dktX3_cable_4 : List UInt8 := dkwX3_cable_4 ++ []
def dkwX3_cable_3 : List UInt8 := [42, 27, 182, 0, 178, 172, 42, 27, 182, 0, 199, 172, 42, 27, 16, 6, 182, 0, 105, 172, 42, 27, 28]
abbrev dktX3_cable_3 : List UInt8 := dkwX3_cable_3 ++ dktX3_cable_4
def dkwX3_cable_2 : List UInt8 := [170, 0, 0, 0, 0, 0, 47, 0, 0, 0, 5, 0, 0, 0, 7, 0, 0, 0, 27, 0, 0, 0, 33, 0, 0, 0, 39]
abbrev dktX3_cable_2 : List UInt8 := dkwX3_cable_2 ++ dktX3_cable_3
def dkwX3_cable_1 : List UInt8 := [167, 0, 4, 5, 181, 0, 66, 42, 180, 0, 66, 158, 0, 5, 3, 172, 28]
abbrev dktX3_cable_1 : List UInt8 := dkwX3_cable_1 ++ dktX3_cable_2
def dkwX3_cable_0 : List UInt8 := [42, 42, 27, 182, 0, 184, 154, 0, 7, 4, 167, 0, 18, 28, 3, 16, 7, 184, 0, 90, 153, 0, 7, 3]
abbrev dktX3_cable_0 : List UInt8 := dkwX3_cable_0 ++ dktX3_cable_1
theorem dksX3_cable_0 : cX3_cable.data.toList.drop 0 = dktX3_cable_0 := by decide +kernel
theorem dksX3_cable_1 : cX3_cable.data.toList.drop 24 = dktX3_cable_1 := dk_seg dksX3_cable_0 24 rfl rfl
theorem dksX3_cable_2 : cX3_cable.data.toList.drop 41 = dktX3_cable_2 := dk_seg dksX3_cable_1 17 rfl rfl
theorem dksX3_cable_3 : cX3_cable.data.toList.drop 68 = dktX3_cable_3 := dk_seg dksX3_cable_2 27 rfl rfl
theorem dksX3_cable_4 : cX3_cable.data.toList.drop 91 = dktX3_cable_4 := dk_seg dksX3_cable_3 23 rfl rfl
theorem dX3_cable_0 : decode cX3_cable 0 = .ok (.aload_n 0, 1) := dk_42 (dk_at dksX3_cable_0 0 rfl rfl)
theorem dX3_cable_1 : decode cX3_cable 1 = .ok (.aload_n 0, 1) := dk_42 (dk_at dksX3_cable_0 1 rfl rfl)
theorem dX3_cable_2 : decode cX3_cable 2 = .ok (.iload_n 1, 1) := dk_27 (dk_at dksX3_cable_0 2 rfl rfl)
theorem dX3_cable_3 : decode cX3_cable 3 = .ok (.invokevirtual 184, 3) := dk_182 0 184 (dk_at dksX3_cable_0 3 rfl rfl)
theorem dX3_cable_6 : decode cX3_cable 6 = .ok (.ifCond .ne 7, 3) := dk_154 0 7 (dk_at dksX3_cable_0 6 rfl rfl)
theorem dX3_cable_9 : decode cX3_cable 9 = .ok (.iconst 1, 1) := dk_4 (dk_at dksX3_cable_0 9 rfl rfl)
theorem dX3_cable_10 : decode cX3_cable 10 = .ok (.goto 18, 3) := dk_167 0 18 (dk_at dksX3_cable_0 10 rfl rfl)
theorem dX3_cable_13 : decode cX3_cable 13 = .ok (.iload_n 2, 1) := dk_28 (dk_at dksX3_cable_0 13 rfl rfl)
theorem dX3_cable_14 : decode cX3_cable 14 = .ok (.iconst 0, 1) := dk_3 (dk_at dksX3_cable_0 14 rfl rfl)
theorem dX3_cable_15 : decode cX3_cable 15 = .ok (.bipush 7, 2) := dk_16 7 (dk_at dksX3_cable_0 15 rfl rfl)
theorem dX3_cable_17 : decode cX3_cable 17 = .ok (.invokestatic 90, 3) := dk_184 0 90 (dk_at dksX3_cable_0 17 rfl rfl)
theorem dX3_cable_20 : decode cX3_cable 20 = .ok (.ifCond .eq 7, 3) := dk_153 0 7 (dk_at dksX3_cable_0 20 rfl rfl)
theorem dX3_cable_23 : decode cX3_cable 23 = .ok (.iconst 0, 1) := dk_3 (dk_at dksX3_cable_0 23 rfl rfl)
theorem dX3_cable_24 : decode cX3_cable 24 = .ok (.goto 4, 3) := dk_167 0 4 (dk_at dksX3_cable_1 0 rfl rfl)
theorem dX3_cable_27 : decode cX3_cable 27 = .ok (.iconst 2, 1) := dk_5 (dk_at dksX3_cable_1 3 rfl rfl)
theorem dX3_cable_28 : decode cX3_cable 28 = .ok (.putfield 66, 3) := dk_181 0 66 (dk_at dksX3_cable_1 4 rfl rfl)
theorem dX3_cable_31 : decode cX3_cable 31 = .ok (.aload_n 0, 1) := dk_42 (dk_at dksX3_cable_1 7 rfl rfl)
theorem dX3_cable_32 : decode cX3_cable 32 = .ok (.getfield 66, 3) := dk_180 0 66 (dk_at dksX3_cable_1 8 rfl rfl)
theorem dX3_cable_35 : decode cX3_cable 35 = .ok (.ifCond .le 5, 3) := dk_158 0 5 (dk_at dksX3_cable_1 11 rfl rfl)
theorem dX3_cable_38 : decode cX3_cable 38 = .ok (.iconst 0, 1) := dk_3 (dk_at dksX3_cable_1 14 rfl rfl)
theorem dX3_cable_39 : decode cX3_cable 39 = .ok (.ireturn, 1) := dk_172 (dk_at dksX3_cable_1 15 rfl rfl)
theorem dX3_cable_40 : decode cX3_cable 40 = .ok (.iload_n 2, 1) := dk_28 (dk_at dksX3_cable_1 16 rfl rfl)
theorem dX3_cable_41 : decode cX3_cable 41 = .ok (.tableswitch 47 5 7 #[27, 33, 39], 27) := by decide +kernel
theorem dX3_cable_68 : decode cX3_cable 68 = .ok (.aload_n 0, 1) := dk_42 (dk_at dksX3_cable_3 0 rfl rfl)
theorem dX3_cable_69 : decode cX3_cable 69 = .ok (.iload_n 1, 1) := dk_27 (dk_at dksX3_cable_3 1 rfl rfl)
theorem dX3_cable_70 : decode cX3_cable 70 = .ok (.invokevirtual 178, 3) := dk_182 0 178 (dk_at dksX3_cable_3 2 rfl rfl)
theorem dX3_cable_73 : decode cX3_cable 73 = .ok (.ireturn, 1) := dk_172 (dk_at dksX3_cable_3 5 rfl rfl)
theorem dX3_cable_74 : decode cX3_cable 74 = .ok (.aload_n 0, 1) := dk_42 (dk_at dksX3_cable_3 6 rfl rfl)
theorem dX3_cable_75 : decode cX3_cable 75 = .ok (.iload_n 1, 1) := dk_27 (dk_at dksX3_cable_3 7 rfl rfl)
theorem dX3_cable_76 : decode cX3_cable 76 = .ok (.invokevirtual 199, 3) := dk_182 0 199 (dk_at dksX3_cable_3 8 rfl rfl)
theorem dX3_cable_79 : decode cX3_cable 79 = .ok (.ireturn, 1) := dk_172 (dk_at dksX3_cable_3 11 rfl rfl)
theorem dX3_cable_80 : decode cX3_cable 80 = .ok (.aload_n 0, 1) := dk_42 (dk_at dksX3_cable_3 12 rfl rfl)
theorem dX3_cable_81 : decode cX3_cable 81 = .ok (.iload_n 1, 1) := dk_27 (dk_at dksX3_cable_3 13 rfl rfl)
theorem dX3_cable_82 : decode cX3_cable 82 = .ok (.bipush 6, 2) := dk_16 6 (dk_at dksX3_cable_3 14 rfl rfl)
theorem dX3_cable_84 : decode cX3_cable 84 = .ok (.invokevirtual 105, 3) := dk_182 0 105 (dk_at dksX3_cable_3 16 rfl rfl)
theorem dX3_cable_87 : decode cX3_cable 87 = .ok (.ireturn, 1) := dk_172 (dk_at dksX3_cable_3 19 rfl rfl)
theorem dX3_cable_88 : decode cX3_cable 88 = .ok (.aload_n 0, 1) := dk_42 (dk_at dksX3_cable_3 20 rfl rfl)
theorem dX3_cable_89 : decode cX3_cable 89 = .ok (.iload_n 1, 1) := dk_27 (dk_at dksX3_cable_3 21 rfl rfl)
theorem dX3_cable_90 : decode cX3_cable 90 = .ok (.iload_n 2, 1) := dk_28 (dk_at dksX3_cable_3 22 rfl rfl)
theorem dX3_cable_91 : decode cX3_cable 91 = .ok (.invokevirtual 105, 3) := dk_182 0 105 (dk_at dksX3_cable_4 0 rfl rfl)
theorem dX3_cable_94 : decode cX3_cable 94 = .ok (.ireturn, 1) := dk_172 (dk_at dksX3_cable_4 3 rfl rfl)
def dkwX3_lengthNow_1 : List UInt8 := [172]
abbrev dktX3_lengthNow_1 : List UInt8 := dkwX3_lengthNow_1 ++ []
def dkwX3_lengthNow_0 : List UInt8 := [42, 27, 6, 182, 0, 105, 4, 160, 0, 11, 42, 27, 182, 0, 190, 167, 0, 9, 42, 27, 8, 182, 0, 105]
abbrev dktX3_lengthNow_0 : List UInt8 := dkwX3_lengthNow_0 ++ dktX3_lengthNow_1
theorem dksX3_lengthNow_0 : cX3_lengthNow.data.toList.drop 0 = dktX3_lengthNow_0 := by decide +kernel
theorem dksX3_lengthNow_1 : cX3_lengthNow.data.toList.drop 24 = dktX3_lengthNow_1 := dk_seg dksX3_lengthNow_0 24 rfl rfl
theorem dX3_lengthNow_0 : decode cX3_lengthNow 0 = .ok (.aload_n 0, 1) := dk_42 (dk_at dksX3_lengthNow_0 0 rfl rfl)
theorem dX3_lengthNow_1 : decode cX3_lengthNow 1 = .ok (.iload_n 1, 1) := dk_27 (dk_at dksX3_lengthNow_0 1 rfl rfl)
theorem dX3_lengthNow_2 : decode cX3_lengthNow 2 = .ok (.iconst 3, 1) := dk_6 (dk_at dksX3_lengthNow_0 2 rfl rfl)
theorem dX3_lengthNow_3 : decode cX3_lengthNow 3 = .ok (.invokevirtual 105, 3) := dk_182 0 105 (dk_at dksX3_lengthNow_0 3 rfl rfl)
theorem dX3_lengthNow_6 : decode cX3_lengthNow 6 = .ok (.iconst 1, 1) := dk_4 (dk_at dksX3_lengthNow_0 6 rfl rfl)
theorem dX3_lengthNow_7 : decode cX3_lengthNow 7 = .ok (.if_icmp .ne 11, 3) := dk_160 0 11 (dk_at dksX3_lengthNow_0 7 rfl rfl)
theorem dX3_lengthNow_10 : decode cX3_lengthNow 10 = .ok (.aload_n 0, 1) := dk_42 (dk_at dksX3_lengthNow_0 10 rfl rfl)
theorem dX3_lengthNow_11 : decode cX3_lengthNow 11 = .ok (.iload_n 1, 1) := dk_27 (dk_at dksX3_lengthNow_0 11 rfl rfl)
theorem dX3_lengthNow_12 : decode cX3_lengthNow 12 = .ok (.invokevirtual 190, 3) := dk_182 0 190 (dk_at dksX3_lengthNow_0 12 rfl rfl)
theorem dX3_lengthNow_15 : decode cX3_lengthNow 15 = .ok (.goto 9, 3) := dk_167 0 9 (dk_at dksX3_lengthNow_0 15 rfl rfl)
theorem dX3_lengthNow_18 : decode cX3_lengthNow 18 = .ok (.aload_n 0, 1) := dk_42 (dk_at dksX3_lengthNow_0 18 rfl rfl)
theorem dX3_lengthNow_19 : decode cX3_lengthNow 19 = .ok (.iload_n 1, 1) := dk_27 (dk_at dksX3_lengthNow_0 19 rfl rfl)
theorem dX3_lengthNow_20 : decode cX3_lengthNow 20 = .ok (.iconst 5, 1) := dk_8 (dk_at dksX3_lengthNow_0 20 rfl rfl)
theorem dX3_lengthNow_21 : decode cX3_lengthNow 21 = .ok (.invokevirtual 105, 3) := dk_182 0 105 (dk_at dksX3_lengthNow_0 21 rfl rfl)
theorem dX3_lengthNow_24 : decode cX3_lengthNow 24 = .ok (.ireturn, 1) := dk_172 (dk_at dksX3_lengthNow_1 0 rfl rfl)
def dkwX3_step_2 : List UInt8 := [167, 0, 21, 42, 27, 29, 153, 0, 8, 16, 14, 167, 0, 5, 16, 7, 28, 96, 182, 0, 105, 172]
abbrev dktX3_step_2 : List UInt8 := dkwX3_step_2 ++ []
def dkwX3_step_1 : List UInt8 := [184, 0, 90, 153, 0, 7, 3, 167, 0, 4, 5, 181, 0, 66, 42, 180, 0, 66, 158, 0, 7, 3]
abbrev dktX3_step_1 : List UInt8 := dkwX3_step_1 ++ dktX3_step_2
def dkwX3_step_0 : List UInt8 := [42, 42, 27, 182, 0, 184, 154, 0, 7, 4, 167, 0, 24, 28, 3, 42, 27, 7, 182, 0, 105, 4, 100]
abbrev dktX3_step_0 : List UInt8 := dkwX3_step_0 ++ dktX3_step_1
theorem dksX3_step_0 : cX3_step.data.toList.drop 0 = dktX3_step_0 := by decide +kernel
theorem dksX3_step_1 : cX3_step.data.toList.drop 23 = dktX3_step_1 := dk_seg dksX3_step_0 23 rfl rfl
theorem dksX3_step_2 : cX3_step.data.toList.drop 45 = dktX3_step_2 := dk_seg dksX3_step_1 22 rfl rfl
theorem dX3_step_0 : decode cX3_step 0 = .ok (.aload_n 0, 1) := dk_42 (dk_at dksX3_step_0 0 rfl rfl)
theorem dX3_step_1 : decode cX3_step 1 = .ok (.aload_n 0, 1) := dk_42 (dk_at dksX3_step_0 1 rfl rfl)
theorem dX3_step_2 : decode cX3_step 2 = .ok (.iload_n 1, 1) := dk_27 (dk_at dksX3_step_0 2 rfl rfl)
theorem dX3_step_3 : decode cX3_step 3 = .ok (.invokevirtual 184, 3) := dk_182 0 184 (dk_at dksX3_step_0 3 rfl rfl)
theorem dX3_step_6 : decode cX3_step 6 = .ok (.ifCond .ne 7, 3) := dk_154 0 7 (dk_at dksX3_step_0 6 rfl rfl)
theorem dX3_step_9 : decode cX3_step 9 = .ok (.iconst 1, 1) := dk_4 (dk_at dksX3_step_0 9 rfl rfl)
theorem dX3_step_10 : decode cX3_step 10 = .ok (.goto 24, 3) := dk_167 0 24 (dk_at dksX3_step_0 10 rfl rfl)
theorem dX3_step_13 : decode cX3_step 13 = .ok (.iload_n 2, 1) := dk_28 (dk_at dksX3_step_0 13 rfl rfl)
theorem dX3_step_14 : decode cX3_step 14 = .ok (.iconst 0, 1) := dk_3 (dk_at dksX3_step_0 14 rfl rfl)
theorem dX3_step_15 : decode cX3_step 15 = .ok (.aload_n 0, 1) := dk_42 (dk_at dksX3_step_0 15 rfl rfl)
theorem dX3_step_16 : decode cX3_step 16 = .ok (.iload_n 1, 1) := dk_27 (dk_at dksX3_step_0 16 rfl rfl)
theorem dX3_step_17 : decode cX3_step 17 = .ok (.iconst 4, 1) := dk_7 (dk_at dksX3_step_0 17 rfl rfl)
theorem dX3_step_18 : decode cX3_step 18 = .ok (.invokevirtual 105, 3) := dk_182 0 105 (dk_at dksX3_step_0 18 rfl rfl)
theorem dX3_step_21 : decode cX3_step 21 = .ok (.iconst 1, 1) := dk_4 (dk_at dksX3_step_0 21 rfl rfl)
theorem dX3_step_22 : decode cX3_step 22 = .ok (.isub, 1) := dk_100 (dk_at dksX3_step_0 22 rfl rfl)
theorem dX3_step_23 : decode cX3_step 23 = .ok (.invokestatic 90, 3) := dk_184 0 90 (dk_at dksX3_step_1 0 rfl rfl)
theorem dX3_step_26 : decode cX3_step 26 = .ok (.ifCond .eq 7, 3) := dk_153 0 7 (dk_at dksX3_step_1 3 rfl rfl)
theorem dX3_step_29 : decode cX3_step 29 = .ok (.iconst 0, 1) := dk_3 (dk_at dksX3_step_1 6 rfl rfl)
theorem dX3_step_30 : decode cX3_step 30 = .ok (.goto 4, 3) := dk_167 0 4 (dk_at dksX3_step_1 7 rfl rfl)
theorem dX3_step_33 : decode cX3_step 33 = .ok (.iconst 2, 1) := dk_5 (dk_at dksX3_step_1 10 rfl rfl)
theorem dX3_step_34 : decode cX3_step 34 = .ok (.putfield 66, 3) := dk_181 0 66 (dk_at dksX3_step_1 11 rfl rfl)
theorem dX3_step_37 : decode cX3_step 37 = .ok (.aload_n 0, 1) := dk_42 (dk_at dksX3_step_1 14 rfl rfl)
theorem dX3_step_38 : decode cX3_step 38 = .ok (.getfield 66, 3) := dk_180 0 66 (dk_at dksX3_step_1 15 rfl rfl)
theorem dX3_step_41 : decode cX3_step 41 = .ok (.ifCond .le 7, 3) := dk_158 0 7 (dk_at dksX3_step_1 18 rfl rfl)
theorem dX3_step_44 : decode cX3_step 44 = .ok (.iconst 0, 1) := dk_3 (dk_at dksX3_step_1 21 rfl rfl)
theorem dX3_step_45 : decode cX3_step 45 = .ok (.goto 21, 3) := dk_167 0 21 (dk_at dksX3_step_2 0 rfl rfl)
theorem dX3_step_48 : decode cX3_step 48 = .ok (.aload_n 0, 1) := dk_42 (dk_at dksX3_step_2 3 rfl rfl)
theorem dX3_step_49 : decode cX3_step 49 = .ok (.iload_n 1, 1) := dk_27 (dk_at dksX3_step_2 4 rfl rfl)
theorem dX3_step_50 : decode cX3_step 50 = .ok (.iload_n 3, 1) := dk_29 (dk_at dksX3_step_2 5 rfl rfl)
theorem dX3_step_51 : decode cX3_step 51 = .ok (.ifCond .eq 8, 3) := dk_153 0 8 (dk_at dksX3_step_2 6 rfl rfl)
theorem dX3_step_54 : decode cX3_step 54 = .ok (.bipush 14, 2) := dk_16 14 (dk_at dksX3_step_2 9 rfl rfl)
theorem dX3_step_56 : decode cX3_step 56 = .ok (.goto 5, 3) := dk_167 0 5 (dk_at dksX3_step_2 11 rfl rfl)
theorem dX3_step_59 : decode cX3_step 59 = .ok (.bipush 7, 2) := dk_16 7 (dk_at dksX3_step_2 14 rfl rfl)
theorem dX3_step_61 : decode cX3_step 61 = .ok (.iload_n 2, 1) := dk_28 (dk_at dksX3_step_2 16 rfl rfl)
theorem dX3_step_62 : decode cX3_step 62 = .ok (.iadd, 1) := dk_96 (dk_at dksX3_step_2 17 rfl rfl)
theorem dX3_step_63 : decode cX3_step 63 = .ok (.invokevirtual 105, 3) := dk_182 0 105 (dk_at dksX3_step_2 18 rfl rfl)
theorem dX3_step_66 : decode cX3_step 66 = .ok (.ireturn, 1) := dk_172 (dk_at dksX3_step_2 21 rfl rfl)
def dkwX3_planner_6 : List UInt8 := [42, 180, 0, 209, 172, 42, 180, 0, 69, 172]
abbrev dktX3_planner_6 : List UInt8 := dkwX3_planner_6 ++ []
def dkwX3_planner_5 : List UInt8 := [2, 182, 0, 202, 172, 42, 182, 0, 205, 172, 42, 180, 0, 7, 5, 46, 172, 42, 5, 2, 182, 0, 202, 172]
abbrev dktX3_planner_5 : List UInt8 := dkwX3_planner_5 ++ dktX3_planner_6
def dkwX3_planner_4 : List UInt8 := [180, 0, 7, 17, 1, 98, 46, 172, 42, 180, 0, 7, 3, 46, 172, 42, 180, 0, 7, 4, 46, 172, 42, 4]
abbrev dktX3_planner_4 : List UInt8 := dkwX3_planner_4 ++ dktX3_planner_5
def dkwX3_planner_3 : List UInt8 := [42, 180, 0, 7, 6, 46, 172, 42, 180, 0, 7, 16, 40, 46, 172, 42, 180, 0, 7, 16, 101, 46, 172, 42]
abbrev dktX3_planner_3 : List UInt8 := dkwX3_planner_3 ++ dktX3_planner_4
def dkwX3_planner_2 : List UInt8 := [170, 0, 0, 0, 0, 0, 136, 0, 0, 0, 0, 0, 0, 0, 10, 0, 0, 0, 59, 0, 0, 0, 66, 0, 0, 0, 74, 0, 0, 0, 82, 0, 0, 0, 91, 0, 0, 0, 98, 0, 0, 0, 105, 0, 0, 0, 112, 0, 0, 0, 117, 0, 0, 0, 124, 0, 0, 0, 131]
abbrev dktX3_planner_2 : List UInt8 := dkwX3_planner_2 ++ dktX3_planner_3
def dkwX3_planner_1 : List UInt8 := [158, 0, 5, 3, 172, 27]
abbrev dktX3_planner_1 : List UInt8 := dkwX3_planner_1 ++ dktX3_planner_2
def dkwX3_planner_0 : List UInt8 := [42, 27, 3, 16, 11, 184, 0, 90, 153, 0, 7, 3, 167, 0, 4, 4, 181, 0, 66, 42, 180, 0, 66]
abbrev dktX3_planner_0 : List UInt8 := dkwX3_planner_0 ++ dktX3_planner_1
theorem dksX3_planner_0 : cX3_planner.data.toList.drop 0 = dktX3_planner_0 := by decide +kernel
theorem dksX3_planner_1 : cX3_planner.data.toList.drop 23 = dktX3_planner_1 := dk_seg dksX3_planner_0 23 rfl rfl
theorem dksX3_planner_2 : cX3_planner.data.toList.drop 29 = dktX3_planner_2 := dk_seg dksX3_planner_1 6 rfl rfl
theorem dksX3_planner_3 : cX3_planner.data.toList.drop 88 = dktX3_planner_3 := dk_seg dksX3_planner_2 59 rfl rfl
theorem dksX3_planner_4 : cX3_planner.data.toList.drop 112 = dktX3_planner_4 := dk_seg dksX3_planner_3 24 rfl rfl
theorem dksX3_planner_5 : cX3_planner.data.toList.drop 136 = dktX3_planner_5 := dk_seg dksX3_planner_4 24 rfl rfl
theorem dksX3_planner_6 : cX3_planner.data.toList.drop 160 = dktX3_planner_6 := dk_seg dksX3_planner_5 24 rfl rfl
theorem dX3_planner_0 : decode cX3_planner 0 = .ok (.aload_n 0, 1) := dk_42 (dk_at dksX3_planner_0 0 rfl rfl)
theorem dX3_planner_1 : decode cX3_planner 1 = .ok (.iload_n 1, 1) := dk_27 (dk_at dksX3_planner_0 1 rfl rfl)
theorem dX3_planner_2 : decode cX3_planner 2 = .ok (.iconst 0, 1) := dk_3 (dk_at dksX3_planner_0 2 rfl rfl)
theorem dX3_planner_3 : decode cX3_planner 3 = .ok (.bipush 11, 2) := dk_16 11 (dk_at dksX3_planner_0 3 rfl rfl)
theorem dX3_planner_5 : decode cX3_planner 5 = .ok (.invokestatic 90, 3) := dk_184 0 90 (dk_at dksX3_planner_0 5 rfl rfl)
theorem dX3_planner_8 : decode cX3_planner 8 = .ok (.ifCond .eq 7, 3) := dk_153 0 7 (dk_at dksX3_planner_0 8 rfl rfl)
theorem dX3_planner_11 : decode cX3_planner 11 = .ok (.iconst 0, 1) := dk_3 (dk_at dksX3_planner_0 11 rfl rfl)
theorem dX3_planner_12 : decode cX3_planner 12 = .ok (.goto 4, 3) := dk_167 0 4 (dk_at dksX3_planner_0 12 rfl rfl)
theorem dX3_planner_15 : decode cX3_planner 15 = .ok (.iconst 1, 1) := dk_4 (dk_at dksX3_planner_0 15 rfl rfl)
theorem dX3_planner_16 : decode cX3_planner 16 = .ok (.putfield 66, 3) := dk_181 0 66 (dk_at dksX3_planner_0 16 rfl rfl)
theorem dX3_planner_19 : decode cX3_planner 19 = .ok (.aload_n 0, 1) := dk_42 (dk_at dksX3_planner_0 19 rfl rfl)
theorem dX3_planner_20 : decode cX3_planner 20 = .ok (.getfield 66, 3) := dk_180 0 66 (dk_at dksX3_planner_0 20 rfl rfl)
theorem dX3_planner_23 : decode cX3_planner 23 = .ok (.ifCond .le 5, 3) := dk_158 0 5 (dk_at dksX3_planner_1 0 rfl rfl)
theorem dX3_planner_26 : decode cX3_planner 26 = .ok (.iconst 0, 1) := dk_3 (dk_at dksX3_planner_1 3 rfl rfl)
theorem dX3_planner_27 : decode cX3_planner 27 = .ok (.ireturn, 1) := dk_172 (dk_at dksX3_planner_1 4 rfl rfl)
theorem dX3_planner_28 : decode cX3_planner 28 = .ok (.iload_n 1, 1) := dk_27 (dk_at dksX3_planner_1 5 rfl rfl)
theorem dX3_planner_29 : decode cX3_planner 29 = .ok (.tableswitch 136 0 10 #[59, 66, 74, 82, 91, 98, 105, 112, 117, 124, 131], 59) := by decide +kernel
theorem dX3_planner_88 : decode cX3_planner 88 = .ok (.aload_n 0, 1) := dk_42 (dk_at dksX3_planner_3 0 rfl rfl)
theorem dX3_planner_89 : decode cX3_planner 89 = .ok (.getfield 7, 3) := dk_180 0 7 (dk_at dksX3_planner_3 1 rfl rfl)
theorem dX3_planner_92 : decode cX3_planner 92 = .ok (.iconst 3, 1) := dk_6 (dk_at dksX3_planner_3 4 rfl rfl)
theorem dX3_planner_93 : decode cX3_planner 93 = .ok (.iaload, 1) := dk_46 (dk_at dksX3_planner_3 5 rfl rfl)
theorem dX3_planner_94 : decode cX3_planner 94 = .ok (.ireturn, 1) := dk_172 (dk_at dksX3_planner_3 6 rfl rfl)
theorem dX3_planner_95 : decode cX3_planner 95 = .ok (.aload_n 0, 1) := dk_42 (dk_at dksX3_planner_3 7 rfl rfl)
theorem dX3_planner_96 : decode cX3_planner 96 = .ok (.getfield 7, 3) := dk_180 0 7 (dk_at dksX3_planner_3 8 rfl rfl)
theorem dX3_planner_99 : decode cX3_planner 99 = .ok (.bipush 40, 2) := dk_16 40 (dk_at dksX3_planner_3 11 rfl rfl)
theorem dX3_planner_101 : decode cX3_planner 101 = .ok (.iaload, 1) := dk_46 (dk_at dksX3_planner_3 13 rfl rfl)
theorem dX3_planner_102 : decode cX3_planner 102 = .ok (.ireturn, 1) := dk_172 (dk_at dksX3_planner_3 14 rfl rfl)
theorem dX3_planner_103 : decode cX3_planner 103 = .ok (.aload_n 0, 1) := dk_42 (dk_at dksX3_planner_3 15 rfl rfl)
theorem dX3_planner_104 : decode cX3_planner 104 = .ok (.getfield 7, 3) := dk_180 0 7 (dk_at dksX3_planner_3 16 rfl rfl)
theorem dX3_planner_107 : decode cX3_planner 107 = .ok (.bipush 101, 2) := dk_16 101 (dk_at dksX3_planner_3 19 rfl rfl)
theorem dX3_planner_109 : decode cX3_planner 109 = .ok (.iaload, 1) := dk_46 (dk_at dksX3_planner_3 21 rfl rfl)
theorem dX3_planner_110 : decode cX3_planner 110 = .ok (.ireturn, 1) := dk_172 (dk_at dksX3_planner_3 22 rfl rfl)
theorem dX3_planner_111 : decode cX3_planner 111 = .ok (.aload_n 0, 1) := dk_42 (dk_at dksX3_planner_3 23 rfl rfl)
theorem dX3_planner_112 : decode cX3_planner 112 = .ok (.getfield 7, 3) := dk_180 0 7 (dk_at dksX3_planner_4 0 rfl rfl)
theorem dX3_planner_115 : decode cX3_planner 115 = .ok (.sipush 354, 3) := dk_17 1 98 (dk_at dksX3_planner_4 3 rfl rfl)
theorem dX3_planner_118 : decode cX3_planner 118 = .ok (.iaload, 1) := dk_46 (dk_at dksX3_planner_4 6 rfl rfl)
theorem dX3_planner_119 : decode cX3_planner 119 = .ok (.ireturn, 1) := dk_172 (dk_at dksX3_planner_4 7 rfl rfl)
theorem dX3_planner_120 : decode cX3_planner 120 = .ok (.aload_n 0, 1) := dk_42 (dk_at dksX3_planner_4 8 rfl rfl)
theorem dX3_planner_121 : decode cX3_planner 121 = .ok (.getfield 7, 3) := dk_180 0 7 (dk_at dksX3_planner_4 9 rfl rfl)
theorem dX3_planner_124 : decode cX3_planner 124 = .ok (.iconst 0, 1) := dk_3 (dk_at dksX3_planner_4 12 rfl rfl)
theorem dX3_planner_125 : decode cX3_planner 125 = .ok (.iaload, 1) := dk_46 (dk_at dksX3_planner_4 13 rfl rfl)
theorem dX3_planner_126 : decode cX3_planner 126 = .ok (.ireturn, 1) := dk_172 (dk_at dksX3_planner_4 14 rfl rfl)
theorem dX3_planner_127 : decode cX3_planner 127 = .ok (.aload_n 0, 1) := dk_42 (dk_at dksX3_planner_4 15 rfl rfl)
theorem dX3_planner_128 : decode cX3_planner 128 = .ok (.getfield 7, 3) := dk_180 0 7 (dk_at dksX3_planner_4 16 rfl rfl)
theorem dX3_planner_131 : decode cX3_planner 131 = .ok (.iconst 1, 1) := dk_4 (dk_at dksX3_planner_4 19 rfl rfl)
theorem dX3_planner_132 : decode cX3_planner 132 = .ok (.iaload, 1) := dk_46 (dk_at dksX3_planner_4 20 rfl rfl)
theorem dX3_planner_133 : decode cX3_planner 133 = .ok (.ireturn, 1) := dk_172 (dk_at dksX3_planner_4 21 rfl rfl)
theorem dX3_planner_134 : decode cX3_planner 134 = .ok (.aload_n 0, 1) := dk_42 (dk_at dksX3_planner_4 22 rfl rfl)
theorem dX3_planner_135 : decode cX3_planner 135 = .ok (.iconst 1, 1) := dk_4 (dk_at dksX3_planner_4 23 rfl rfl)
theorem dX3_planner_136 : decode cX3_planner 136 = .ok (.iconst (-1), 1) := dk_2 (dk_at dksX3_planner_5 0 rfl rfl)
theorem dX3_planner_137 : decode cX3_planner 137 = .ok (.invokevirtual 202, 3) := dk_182 0 202 (dk_at dksX3_planner_5 1 rfl rfl)
theorem dX3_planner_140 : decode cX3_planner 140 = .ok (.ireturn, 1) := dk_172 (dk_at dksX3_planner_5 4 rfl rfl)
theorem dX3_planner_141 : decode cX3_planner 141 = .ok (.aload_n 0, 1) := dk_42 (dk_at dksX3_planner_5 5 rfl rfl)
theorem dX3_planner_142 : decode cX3_planner 142 = .ok (.invokevirtual 205, 3) := dk_182 0 205 (dk_at dksX3_planner_5 6 rfl rfl)
theorem dX3_planner_145 : decode cX3_planner 145 = .ok (.ireturn, 1) := dk_172 (dk_at dksX3_planner_5 9 rfl rfl)
theorem dX3_planner_146 : decode cX3_planner 146 = .ok (.aload_n 0, 1) := dk_42 (dk_at dksX3_planner_5 10 rfl rfl)
theorem dX3_planner_147 : decode cX3_planner 147 = .ok (.getfield 7, 3) := dk_180 0 7 (dk_at dksX3_planner_5 11 rfl rfl)
theorem dX3_planner_150 : decode cX3_planner 150 = .ok (.iconst 2, 1) := dk_5 (dk_at dksX3_planner_5 14 rfl rfl)
theorem dX3_planner_151 : decode cX3_planner 151 = .ok (.iaload, 1) := dk_46 (dk_at dksX3_planner_5 15 rfl rfl)
theorem dX3_planner_152 : decode cX3_planner 152 = .ok (.ireturn, 1) := dk_172 (dk_at dksX3_planner_5 16 rfl rfl)
theorem dX3_planner_153 : decode cX3_planner 153 = .ok (.aload_n 0, 1) := dk_42 (dk_at dksX3_planner_5 17 rfl rfl)
theorem dX3_planner_154 : decode cX3_planner 154 = .ok (.iconst 2, 1) := dk_5 (dk_at dksX3_planner_5 18 rfl rfl)
theorem dX3_planner_155 : decode cX3_planner 155 = .ok (.iconst (-1), 1) := dk_2 (dk_at dksX3_planner_5 19 rfl rfl)
theorem dX3_planner_156 : decode cX3_planner 156 = .ok (.invokevirtual 202, 3) := dk_182 0 202 (dk_at dksX3_planner_5 20 rfl rfl)
theorem dX3_planner_159 : decode cX3_planner 159 = .ok (.ireturn, 1) := dk_172 (dk_at dksX3_planner_5 23 rfl rfl)
theorem dX3_planner_160 : decode cX3_planner 160 = .ok (.aload_n 0, 1) := dk_42 (dk_at dksX3_planner_6 0 rfl rfl)
theorem dX3_planner_161 : decode cX3_planner 161 = .ok (.getfield 209, 3) := dk_180 0 209 (dk_at dksX3_planner_6 1 rfl rfl)
theorem dX3_planner_164 : decode cX3_planner 164 = .ok (.ireturn, 1) := dk_172 (dk_at dksX3_planner_6 4 rfl rfl)
theorem dX3_planner_165 : decode cX3_planner 165 = .ok (.aload_n 0, 1) := dk_42 (dk_at dksX3_planner_6 5 rfl rfl)
theorem dX3_planner_166 : decode cX3_planner 166 = .ok (.getfield 69, 3) := dk_180 0 69 (dk_at dksX3_planner_6 6 rfl rfl)
theorem dX3_planner_169 : decode cX3_planner 169 = .ok (.ireturn, 1) := dk_172 (dk_at dksX3_planner_6 9 rfl rfl)
def dkwX3_sumOfDrums_2 : List UInt8 := [182, 0, 196, 167, 0, 4, 3, 96, 62, 132, 4, 1, 167, 255, 203, 29, 172]
abbrev dktX3_sumOfDrums_2 : List UInt8 := dkwX3_sumOfDrums_2 ++ []
def dkwX3_sumOfDrums_1 : List UInt8 := [21, 4, 3, 182, 0, 196, 28, 160, 0, 21, 27, 154, 0, 7, 4, 167, 0, 14, 42, 21, 4, 27]
abbrev dktX3_sumOfDrums_1 : List UInt8 := dkwX3_sumOfDrums_1 ++ dktX3_sumOfDrums_2
def dkwX3_sumOfDrums_0 : List UInt8 := [3, 62, 3, 54, 4, 21, 4, 42, 180, 0, 7, 17, 1, 98, 46, 162, 0, 46, 29, 28, 155, 0, 14, 42]
abbrev dktX3_sumOfDrums_0 : List UInt8 := dkwX3_sumOfDrums_0 ++ dktX3_sumOfDrums_1
theorem dksX3_sumOfDrums_0 : cX3_sumOfDrums.data.toList.drop 0 = dktX3_sumOfDrums_0 := by decide +kernel
theorem dksX3_sumOfDrums_1 : cX3_sumOfDrums.data.toList.drop 24 = dktX3_sumOfDrums_1 := dk_seg dksX3_sumOfDrums_0 24 rfl rfl
theorem dksX3_sumOfDrums_2 : cX3_sumOfDrums.data.toList.drop 46 = dktX3_sumOfDrums_2 := dk_seg dksX3_sumOfDrums_1 22 rfl rfl
theorem dX3_sumOfDrums_0 : decode cX3_sumOfDrums 0 = .ok (.iconst 0, 1) := dk_3 (dk_at dksX3_sumOfDrums_0 0 rfl rfl)
theorem dX3_sumOfDrums_1 : decode cX3_sumOfDrums 1 = .ok (.istore_n 3, 1) := dk_62 (dk_at dksX3_sumOfDrums_0 1 rfl rfl)
theorem dX3_sumOfDrums_2 : decode cX3_sumOfDrums 2 = .ok (.iconst 0, 1) := dk_3 (dk_at dksX3_sumOfDrums_0 2 rfl rfl)
theorem dX3_sumOfDrums_3 : decode cX3_sumOfDrums 3 = .ok (.istore 4, 2) := dk_54 4 (dk_at dksX3_sumOfDrums_0 3 rfl rfl)
theorem dX3_sumOfDrums_5 : decode cX3_sumOfDrums 5 = .ok (.iload 4, 2) := dk_21 4 (dk_at dksX3_sumOfDrums_0 5 rfl rfl)
theorem dX3_sumOfDrums_7 : decode cX3_sumOfDrums 7 = .ok (.aload_n 0, 1) := dk_42 (dk_at dksX3_sumOfDrums_0 7 rfl rfl)
theorem dX3_sumOfDrums_8 : decode cX3_sumOfDrums 8 = .ok (.getfield 7, 3) := dk_180 0 7 (dk_at dksX3_sumOfDrums_0 8 rfl rfl)
theorem dX3_sumOfDrums_11 : decode cX3_sumOfDrums 11 = .ok (.sipush 354, 3) := dk_17 1 98 (dk_at dksX3_sumOfDrums_0 11 rfl rfl)
theorem dX3_sumOfDrums_14 : decode cX3_sumOfDrums 14 = .ok (.iaload, 1) := dk_46 (dk_at dksX3_sumOfDrums_0 14 rfl rfl)
theorem dX3_sumOfDrums_15 : decode cX3_sumOfDrums 15 = .ok (.if_icmp .ge 46, 3) := dk_162 0 46 (dk_at dksX3_sumOfDrums_0 15 rfl rfl)
theorem dX3_sumOfDrums_18 : decode cX3_sumOfDrums 18 = .ok (.iload_n 3, 1) := dk_29 (dk_at dksX3_sumOfDrums_0 18 rfl rfl)
theorem dX3_sumOfDrums_19 : decode cX3_sumOfDrums 19 = .ok (.iload_n 2, 1) := dk_28 (dk_at dksX3_sumOfDrums_0 19 rfl rfl)
theorem dX3_sumOfDrums_20 : decode cX3_sumOfDrums 20 = .ok (.ifCond .lt 14, 3) := dk_155 0 14 (dk_at dksX3_sumOfDrums_0 20 rfl rfl)
theorem dX3_sumOfDrums_23 : decode cX3_sumOfDrums 23 = .ok (.aload_n 0, 1) := dk_42 (dk_at dksX3_sumOfDrums_0 23 rfl rfl)
theorem dX3_sumOfDrums_24 : decode cX3_sumOfDrums 24 = .ok (.iload 4, 2) := dk_21 4 (dk_at dksX3_sumOfDrums_1 0 rfl rfl)
theorem dX3_sumOfDrums_26 : decode cX3_sumOfDrums 26 = .ok (.iconst 0, 1) := dk_3 (dk_at dksX3_sumOfDrums_1 2 rfl rfl)
theorem dX3_sumOfDrums_27 : decode cX3_sumOfDrums 27 = .ok (.invokevirtual 196, 3) := dk_182 0 196 (dk_at dksX3_sumOfDrums_1 3 rfl rfl)
theorem dX3_sumOfDrums_30 : decode cX3_sumOfDrums 30 = .ok (.iload_n 2, 1) := dk_28 (dk_at dksX3_sumOfDrums_1 6 rfl rfl)
theorem dX3_sumOfDrums_31 : decode cX3_sumOfDrums 31 = .ok (.if_icmp .ne 21, 3) := dk_160 0 21 (dk_at dksX3_sumOfDrums_1 7 rfl rfl)
theorem dX3_sumOfDrums_34 : decode cX3_sumOfDrums 34 = .ok (.iload_n 1, 1) := dk_27 (dk_at dksX3_sumOfDrums_1 10 rfl rfl)
theorem dX3_sumOfDrums_35 : decode cX3_sumOfDrums 35 = .ok (.ifCond .ne 7, 3) := dk_154 0 7 (dk_at dksX3_sumOfDrums_1 11 rfl rfl)
theorem dX3_sumOfDrums_38 : decode cX3_sumOfDrums 38 = .ok (.iconst 1, 1) := dk_4 (dk_at dksX3_sumOfDrums_1 14 rfl rfl)
theorem dX3_sumOfDrums_39 : decode cX3_sumOfDrums 39 = .ok (.goto 14, 3) := dk_167 0 14 (dk_at dksX3_sumOfDrums_1 15 rfl rfl)
theorem dX3_sumOfDrums_42 : decode cX3_sumOfDrums 42 = .ok (.aload_n 0, 1) := dk_42 (dk_at dksX3_sumOfDrums_1 18 rfl rfl)
theorem dX3_sumOfDrums_43 : decode cX3_sumOfDrums 43 = .ok (.iload 4, 2) := dk_21 4 (dk_at dksX3_sumOfDrums_1 19 rfl rfl)
theorem dX3_sumOfDrums_45 : decode cX3_sumOfDrums 45 = .ok (.iload_n 1, 1) := dk_27 (dk_at dksX3_sumOfDrums_1 21 rfl rfl)
theorem dX3_sumOfDrums_46 : decode cX3_sumOfDrums 46 = .ok (.invokevirtual 196, 3) := dk_182 0 196 (dk_at dksX3_sumOfDrums_2 0 rfl rfl)
theorem dX3_sumOfDrums_49 : decode cX3_sumOfDrums 49 = .ok (.goto 4, 3) := dk_167 0 4 (dk_at dksX3_sumOfDrums_2 3 rfl rfl)
theorem dX3_sumOfDrums_52 : decode cX3_sumOfDrums 52 = .ok (.iconst 0, 1) := dk_3 (dk_at dksX3_sumOfDrums_2 6 rfl rfl)
theorem dX3_sumOfDrums_53 : decode cX3_sumOfDrums 53 = .ok (.iadd, 1) := dk_96 (dk_at dksX3_sumOfDrums_2 7 rfl rfl)
theorem dX3_sumOfDrums_54 : decode cX3_sumOfDrums 54 = .ok (.istore_n 3, 1) := dk_62 (dk_at dksX3_sumOfDrums_2 8 rfl rfl)
theorem dX3_sumOfDrums_55 : decode cX3_sumOfDrums 55 = .ok (.iinc 4 1, 3) := dk_132 4 1 (dk_at dksX3_sumOfDrums_2 9 rfl rfl)
theorem dX3_sumOfDrums_58 : decode cX3_sumOfDrums 58 = .ok (.goto (-53), 3) := dk_167 255 203 (dk_at dksX3_sumOfDrums_2 12 rfl rfl)
theorem dX3_sumOfDrums_61 : decode cX3_sumOfDrums 61 = .ok (.iload_n 3, 1) := dk_29 (dk_at dksX3_sumOfDrums_2 15 rfl rfl)
theorem dX3_sumOfDrums_62 : decode cX3_sumOfDrums 62 = .ok (.ireturn, 1) := dk_172 (dk_at dksX3_sumOfDrums_2 16 rfl rfl)
def dkwX3_cutLengths_1 : List UInt8 := [160, 0, 12, 42, 28, 8, 182, 0, 105, 167, 0, 4, 3, 96, 60, 132, 2, 1, 167, 255, 219, 27, 172]
abbrev dktX3_cutLengths_1 : List UInt8 := dkwX3_cutLengths_1 ++ []
def dkwX3_cutLengths_0 : List UInt8 := [3, 60, 3, 61, 28, 42, 180, 0, 7, 16, 101, 46, 162, 0, 32, 27, 42, 28, 6, 182, 0, 105, 5]
abbrev dktX3_cutLengths_0 : List UInt8 := dkwX3_cutLengths_0 ++ dktX3_cutLengths_1
theorem dksX3_cutLengths_0 : cX3_cutLengths.data.toList.drop 0 = dktX3_cutLengths_0 := by decide +kernel
theorem dksX3_cutLengths_1 : cX3_cutLengths.data.toList.drop 23 = dktX3_cutLengths_1 := dk_seg dksX3_cutLengths_0 23 rfl rfl
theorem dX3_cutLengths_0 : decode cX3_cutLengths 0 = .ok (.iconst 0, 1) := dk_3 (dk_at dksX3_cutLengths_0 0 rfl rfl)
theorem dX3_cutLengths_1 : decode cX3_cutLengths 1 = .ok (.istore_n 1, 1) := dk_60 (dk_at dksX3_cutLengths_0 1 rfl rfl)
theorem dX3_cutLengths_2 : decode cX3_cutLengths 2 = .ok (.iconst 0, 1) := dk_3 (dk_at dksX3_cutLengths_0 2 rfl rfl)
theorem dX3_cutLengths_3 : decode cX3_cutLengths 3 = .ok (.istore_n 2, 1) := dk_61 (dk_at dksX3_cutLengths_0 3 rfl rfl)
theorem dX3_cutLengths_4 : decode cX3_cutLengths 4 = .ok (.iload_n 2, 1) := dk_28 (dk_at dksX3_cutLengths_0 4 rfl rfl)
theorem dX3_cutLengths_5 : decode cX3_cutLengths 5 = .ok (.aload_n 0, 1) := dk_42 (dk_at dksX3_cutLengths_0 5 rfl rfl)
theorem dX3_cutLengths_6 : decode cX3_cutLengths 6 = .ok (.getfield 7, 3) := dk_180 0 7 (dk_at dksX3_cutLengths_0 6 rfl rfl)
theorem dX3_cutLengths_9 : decode cX3_cutLengths 9 = .ok (.bipush 101, 2) := dk_16 101 (dk_at dksX3_cutLengths_0 9 rfl rfl)
theorem dX3_cutLengths_11 : decode cX3_cutLengths 11 = .ok (.iaload, 1) := dk_46 (dk_at dksX3_cutLengths_0 11 rfl rfl)
theorem dX3_cutLengths_12 : decode cX3_cutLengths 12 = .ok (.if_icmp .ge 32, 3) := dk_162 0 32 (dk_at dksX3_cutLengths_0 12 rfl rfl)
theorem dX3_cutLengths_15 : decode cX3_cutLengths 15 = .ok (.iload_n 1, 1) := dk_27 (dk_at dksX3_cutLengths_0 15 rfl rfl)
theorem dX3_cutLengths_16 : decode cX3_cutLengths 16 = .ok (.aload_n 0, 1) := dk_42 (dk_at dksX3_cutLengths_0 16 rfl rfl)
theorem dX3_cutLengths_17 : decode cX3_cutLengths 17 = .ok (.iload_n 2, 1) := dk_28 (dk_at dksX3_cutLengths_0 17 rfl rfl)
theorem dX3_cutLengths_18 : decode cX3_cutLengths 18 = .ok (.iconst 3, 1) := dk_6 (dk_at dksX3_cutLengths_0 18 rfl rfl)
theorem dX3_cutLengths_19 : decode cX3_cutLengths 19 = .ok (.invokevirtual 105, 3) := dk_182 0 105 (dk_at dksX3_cutLengths_0 19 rfl rfl)
theorem dX3_cutLengths_22 : decode cX3_cutLengths 22 = .ok (.iconst 2, 1) := dk_5 (dk_at dksX3_cutLengths_0 22 rfl rfl)
theorem dX3_cutLengths_23 : decode cX3_cutLengths 23 = .ok (.if_icmp .ne 12, 3) := dk_160 0 12 (dk_at dksX3_cutLengths_1 0 rfl rfl)
theorem dX3_cutLengths_26 : decode cX3_cutLengths 26 = .ok (.aload_n 0, 1) := dk_42 (dk_at dksX3_cutLengths_1 3 rfl rfl)
theorem dX3_cutLengths_27 : decode cX3_cutLengths 27 = .ok (.iload_n 2, 1) := dk_28 (dk_at dksX3_cutLengths_1 4 rfl rfl)
theorem dX3_cutLengths_28 : decode cX3_cutLengths 28 = .ok (.iconst 5, 1) := dk_8 (dk_at dksX3_cutLengths_1 5 rfl rfl)
theorem dX3_cutLengths_29 : decode cX3_cutLengths 29 = .ok (.invokevirtual 105, 3) := dk_182 0 105 (dk_at dksX3_cutLengths_1 6 rfl rfl)
theorem dX3_cutLengths_32 : decode cX3_cutLengths 32 = .ok (.goto 4, 3) := dk_167 0 4 (dk_at dksX3_cutLengths_1 9 rfl rfl)
theorem dX3_cutLengths_35 : decode cX3_cutLengths 35 = .ok (.iconst 0, 1) := dk_3 (dk_at dksX3_cutLengths_1 12 rfl rfl)
theorem dX3_cutLengths_36 : decode cX3_cutLengths 36 = .ok (.iadd, 1) := dk_96 (dk_at dksX3_cutLengths_1 13 rfl rfl)
theorem dX3_cutLengths_37 : decode cX3_cutLengths 37 = .ok (.istore_n 1, 1) := dk_60 (dk_at dksX3_cutLengths_1 14 rfl rfl)
theorem dX3_cutLengths_38 : decode cX3_cutLengths 38 = .ok (.iinc 2 1, 3) := dk_132 2 1 (dk_at dksX3_cutLengths_1 15 rfl rfl)
theorem dX3_cutLengths_41 : decode cX3_cutLengths 41 = .ok (.goto (-37), 3) := dk_167 255 219 (dk_at dksX3_cutLengths_1 18 rfl rfl)
theorem dX3_cutLengths_44 : decode cX3_cutLengths 44 = .ok (.iload_n 1, 1) := dk_27 (dk_at dksX3_cutLengths_1 21 rfl rfl)
theorem dX3_cutLengths_45 : decode cX3_cutLengths 45 = .ok (.ireturn, 1) := dk_172 (dk_at dksX3_cutLengths_1 22 rfl rfl)
def dkwX3_type_6 : List UInt8 := [46, 172, 29, 172, 42, 28, 7, 100, 27, 182, 0, 202, 172]
abbrev dktX3_type_6 : List UInt8 := dkwX3_type_6 ++ []
def dkwX3_type_5 : List UInt8 := [42, 27, 182, 0, 130, 172, 42, 27, 182, 0, 127, 172, 42, 180, 0, 7, 7, 16, 6, 27, 104, 96, 6, 96]
abbrev dktX3_type_5 : List UInt8 := dkwX3_type_5 ++ dktX3_type_6
def dkwX3_type_4 : List UInt8 := [170, 0, 0, 0, 0, 58, 0, 0, 0, 0, 0, 0, 0, 3, 0, 0, 0, 30, 0, 0, 0, 36, 0, 0, 0, 42, 0, 0, 0, 56]
abbrev dktX3_type_4 : List UInt8 := dkwX3_type_4 ++ dktX3_type_5
def dkwX3_type_3 : List UInt8 := [167, 0, 4, 3, 96, 62, 132, 4, 1, 167, 255, 222, 28]
abbrev dktX3_type_3 : List UInt8 := dkwX3_type_3 ++ dktX3_type_4
def dkwX3_type_2 : List UInt8 := [180, 0, 7, 16, 101, 46, 162, 0, 28, 29, 42, 21, 4, 3, 182, 0, 105, 27, 160, 0, 7, 4]
abbrev dktX3_type_2 : List UInt8 := dkwX3_type_2 ++ dktX3_type_3
def dkwX3_type_1 : List UInt8 := [167, 0, 4, 5, 181, 0, 66, 42, 180, 0, 66, 158, 0, 5, 3, 172, 3, 62, 3, 54, 4, 21, 4, 42]
abbrev dktX3_type_1 : List UInt8 := dkwX3_type_1 ++ dktX3_type_2
def dkwX3_type_0 : List UInt8 := [42, 42, 27, 182, 0, 118, 154, 0, 7, 4, 167, 0, 17, 28, 3, 8, 184, 0, 90, 153, 0, 7, 3]
abbrev dktX3_type_0 : List UInt8 := dkwX3_type_0 ++ dktX3_type_1
theorem dksX3_type_0 : cX3_type.data.toList.drop 0 = dktX3_type_0 := by decide +kernel
theorem dksX3_type_1 : cX3_type.data.toList.drop 23 = dktX3_type_1 := dk_seg dksX3_type_0 23 rfl rfl
theorem dksX3_type_2 : cX3_type.data.toList.drop 47 = dktX3_type_2 := dk_seg dksX3_type_1 24 rfl rfl
theorem dksX3_type_3 : cX3_type.data.toList.drop 69 = dktX3_type_3 := dk_seg dksX3_type_2 22 rfl rfl
theorem dksX3_type_4 : cX3_type.data.toList.drop 82 = dktX3_type_4 := dk_seg dksX3_type_3 13 rfl rfl
theorem dksX3_type_5 : cX3_type.data.toList.drop 112 = dktX3_type_5 := dk_seg dksX3_type_4 30 rfl rfl
theorem dksX3_type_6 : cX3_type.data.toList.drop 136 = dktX3_type_6 := dk_seg dksX3_type_5 24 rfl rfl
theorem dX3_type_0 : decode cX3_type 0 = .ok (.aload_n 0, 1) := dk_42 (dk_at dksX3_type_0 0 rfl rfl)
theorem dX3_type_1 : decode cX3_type 1 = .ok (.aload_n 0, 1) := dk_42 (dk_at dksX3_type_0 1 rfl rfl)
theorem dX3_type_2 : decode cX3_type 2 = .ok (.iload_n 1, 1) := dk_27 (dk_at dksX3_type_0 2 rfl rfl)
theorem dX3_type_3 : decode cX3_type 3 = .ok (.invokevirtual 118, 3) := dk_182 0 118 (dk_at dksX3_type_0 3 rfl rfl)
theorem dX3_type_6 : decode cX3_type 6 = .ok (.ifCond .ne 7, 3) := dk_154 0 7 (dk_at dksX3_type_0 6 rfl rfl)
theorem dX3_type_9 : decode cX3_type 9 = .ok (.iconst 1, 1) := dk_4 (dk_at dksX3_type_0 9 rfl rfl)
theorem dX3_type_10 : decode cX3_type 10 = .ok (.goto 17, 3) := dk_167 0 17 (dk_at dksX3_type_0 10 rfl rfl)
theorem dX3_type_13 : decode cX3_type 13 = .ok (.iload_n 2, 1) := dk_28 (dk_at dksX3_type_0 13 rfl rfl)
theorem dX3_type_14 : decode cX3_type 14 = .ok (.iconst 0, 1) := dk_3 (dk_at dksX3_type_0 14 rfl rfl)
theorem dX3_type_15 : decode cX3_type 15 = .ok (.iconst 5, 1) := dk_8 (dk_at dksX3_type_0 15 rfl rfl)
theorem dX3_type_16 : decode cX3_type 16 = .ok (.invokestatic 90, 3) := dk_184 0 90 (dk_at dksX3_type_0 16 rfl rfl)
theorem dX3_type_19 : decode cX3_type 19 = .ok (.ifCond .eq 7, 3) := dk_153 0 7 (dk_at dksX3_type_0 19 rfl rfl)
theorem dX3_type_22 : decode cX3_type 22 = .ok (.iconst 0, 1) := dk_3 (dk_at dksX3_type_0 22 rfl rfl)
theorem dX3_type_23 : decode cX3_type 23 = .ok (.goto 4, 3) := dk_167 0 4 (dk_at dksX3_type_1 0 rfl rfl)
theorem dX3_type_26 : decode cX3_type 26 = .ok (.iconst 2, 1) := dk_5 (dk_at dksX3_type_1 3 rfl rfl)
theorem dX3_type_27 : decode cX3_type 27 = .ok (.putfield 66, 3) := dk_181 0 66 (dk_at dksX3_type_1 4 rfl rfl)
theorem dX3_type_30 : decode cX3_type 30 = .ok (.aload_n 0, 1) := dk_42 (dk_at dksX3_type_1 7 rfl rfl)
theorem dX3_type_31 : decode cX3_type 31 = .ok (.getfield 66, 3) := dk_180 0 66 (dk_at dksX3_type_1 8 rfl rfl)
theorem dX3_type_34 : decode cX3_type 34 = .ok (.ifCond .le 5, 3) := dk_158 0 5 (dk_at dksX3_type_1 11 rfl rfl)
theorem dX3_type_37 : decode cX3_type 37 = .ok (.iconst 0, 1) := dk_3 (dk_at dksX3_type_1 14 rfl rfl)
theorem dX3_type_38 : decode cX3_type 38 = .ok (.ireturn, 1) := dk_172 (dk_at dksX3_type_1 15 rfl rfl)
theorem dX3_type_39 : decode cX3_type 39 = .ok (.iconst 0, 1) := dk_3 (dk_at dksX3_type_1 16 rfl rfl)
theorem dX3_type_40 : decode cX3_type 40 = .ok (.istore_n 3, 1) := dk_62 (dk_at dksX3_type_1 17 rfl rfl)
theorem dX3_type_41 : decode cX3_type 41 = .ok (.iconst 0, 1) := dk_3 (dk_at dksX3_type_1 18 rfl rfl)
theorem dX3_type_42 : decode cX3_type 42 = .ok (.istore 4, 2) := dk_54 4 (dk_at dksX3_type_1 19 rfl rfl)
theorem dX3_type_44 : decode cX3_type 44 = .ok (.iload 4, 2) := dk_21 4 (dk_at dksX3_type_1 21 rfl rfl)
theorem dX3_type_46 : decode cX3_type 46 = .ok (.aload_n 0, 1) := dk_42 (dk_at dksX3_type_1 23 rfl rfl)
theorem dX3_type_47 : decode cX3_type 47 = .ok (.getfield 7, 3) := dk_180 0 7 (dk_at dksX3_type_2 0 rfl rfl)
theorem dX3_type_50 : decode cX3_type 50 = .ok (.bipush 101, 2) := dk_16 101 (dk_at dksX3_type_2 3 rfl rfl)
theorem dX3_type_52 : decode cX3_type 52 = .ok (.iaload, 1) := dk_46 (dk_at dksX3_type_2 5 rfl rfl)
theorem dX3_type_53 : decode cX3_type 53 = .ok (.if_icmp .ge 28, 3) := dk_162 0 28 (dk_at dksX3_type_2 6 rfl rfl)
theorem dX3_type_56 : decode cX3_type 56 = .ok (.iload_n 3, 1) := dk_29 (dk_at dksX3_type_2 9 rfl rfl)
theorem dX3_type_57 : decode cX3_type 57 = .ok (.aload_n 0, 1) := dk_42 (dk_at dksX3_type_2 10 rfl rfl)
theorem dX3_type_58 : decode cX3_type 58 = .ok (.iload 4, 2) := dk_21 4 (dk_at dksX3_type_2 11 rfl rfl)
theorem dX3_type_60 : decode cX3_type 60 = .ok (.iconst 0, 1) := dk_3 (dk_at dksX3_type_2 13 rfl rfl)
theorem dX3_type_61 : decode cX3_type 61 = .ok (.invokevirtual 105, 3) := dk_182 0 105 (dk_at dksX3_type_2 14 rfl rfl)
theorem dX3_type_64 : decode cX3_type 64 = .ok (.iload_n 1, 1) := dk_27 (dk_at dksX3_type_2 17 rfl rfl)
theorem dX3_type_65 : decode cX3_type 65 = .ok (.if_icmp .ne 7, 3) := dk_160 0 7 (dk_at dksX3_type_2 18 rfl rfl)
theorem dX3_type_68 : decode cX3_type 68 = .ok (.iconst 1, 1) := dk_4 (dk_at dksX3_type_2 21 rfl rfl)
theorem dX3_type_69 : decode cX3_type 69 = .ok (.goto 4, 3) := dk_167 0 4 (dk_at dksX3_type_3 0 rfl rfl)
theorem dX3_type_72 : decode cX3_type 72 = .ok (.iconst 0, 1) := dk_3 (dk_at dksX3_type_3 3 rfl rfl)
theorem dX3_type_73 : decode cX3_type 73 = .ok (.iadd, 1) := dk_96 (dk_at dksX3_type_3 4 rfl rfl)
theorem dX3_type_74 : decode cX3_type 74 = .ok (.istore_n 3, 1) := dk_62 (dk_at dksX3_type_3 5 rfl rfl)
theorem dX3_type_75 : decode cX3_type 75 = .ok (.iinc 4 1, 3) := dk_132 4 1 (dk_at dksX3_type_3 6 rfl rfl)
theorem dX3_type_78 : decode cX3_type 78 = .ok (.goto (-34), 3) := dk_167 255 222 (dk_at dksX3_type_3 9 rfl rfl)
theorem dX3_type_81 : decode cX3_type 81 = .ok (.iload_n 2, 1) := dk_28 (dk_at dksX3_type_3 12 rfl rfl)
theorem dX3_type_82 : decode cX3_type 82 = .ok (.tableswitch 58 0 3 #[30, 36, 42, 56], 30) := by decide +kernel
theorem dX3_type_112 : decode cX3_type 112 = .ok (.aload_n 0, 1) := dk_42 (dk_at dksX3_type_5 0 rfl rfl)
theorem dX3_type_113 : decode cX3_type 113 = .ok (.iload_n 1, 1) := dk_27 (dk_at dksX3_type_5 1 rfl rfl)
theorem dX3_type_114 : decode cX3_type 114 = .ok (.invokevirtual 130, 3) := dk_182 0 130 (dk_at dksX3_type_5 2 rfl rfl)
theorem dX3_type_117 : decode cX3_type 117 = .ok (.ireturn, 1) := dk_172 (dk_at dksX3_type_5 5 rfl rfl)
theorem dX3_type_118 : decode cX3_type 118 = .ok (.aload_n 0, 1) := dk_42 (dk_at dksX3_type_5 6 rfl rfl)
theorem dX3_type_119 : decode cX3_type 119 = .ok (.iload_n 1, 1) := dk_27 (dk_at dksX3_type_5 7 rfl rfl)
theorem dX3_type_120 : decode cX3_type 120 = .ok (.invokevirtual 127, 3) := dk_182 0 127 (dk_at dksX3_type_5 8 rfl rfl)
theorem dX3_type_123 : decode cX3_type 123 = .ok (.ireturn, 1) := dk_172 (dk_at dksX3_type_5 11 rfl rfl)
theorem dX3_type_124 : decode cX3_type 124 = .ok (.aload_n 0, 1) := dk_42 (dk_at dksX3_type_5 12 rfl rfl)
theorem dX3_type_125 : decode cX3_type 125 = .ok (.getfield 7, 3) := dk_180 0 7 (dk_at dksX3_type_5 13 rfl rfl)
theorem dX3_type_128 : decode cX3_type 128 = .ok (.iconst 4, 1) := dk_7 (dk_at dksX3_type_5 16 rfl rfl)
theorem dX3_type_129 : decode cX3_type 129 = .ok (.bipush 6, 2) := dk_16 6 (dk_at dksX3_type_5 17 rfl rfl)
theorem dX3_type_131 : decode cX3_type 131 = .ok (.iload_n 1, 1) := dk_27 (dk_at dksX3_type_5 19 rfl rfl)
theorem dX3_type_132 : decode cX3_type 132 = .ok (.imul, 1) := dk_104 (dk_at dksX3_type_5 20 rfl rfl)
theorem dX3_type_133 : decode cX3_type 133 = .ok (.iadd, 1) := dk_96 (dk_at dksX3_type_5 21 rfl rfl)
theorem dX3_type_134 : decode cX3_type 134 = .ok (.iconst 3, 1) := dk_6 (dk_at dksX3_type_5 22 rfl rfl)
theorem dX3_type_135 : decode cX3_type 135 = .ok (.iadd, 1) := dk_96 (dk_at dksX3_type_5 23 rfl rfl)
theorem dX3_type_136 : decode cX3_type 136 = .ok (.iaload, 1) := dk_46 (dk_at dksX3_type_6 0 rfl rfl)
theorem dX3_type_137 : decode cX3_type 137 = .ok (.ireturn, 1) := dk_172 (dk_at dksX3_type_6 1 rfl rfl)
theorem dX3_type_138 : decode cX3_type 138 = .ok (.iload_n 3, 1) := dk_29 (dk_at dksX3_type_6 2 rfl rfl)
theorem dX3_type_139 : decode cX3_type 139 = .ok (.ireturn, 1) := dk_172 (dk_at dksX3_type_6 3 rfl rfl)
theorem dX3_type_140 : decode cX3_type 140 = .ok (.aload_n 0, 1) := dk_42 (dk_at dksX3_type_6 4 rfl rfl)
theorem dX3_type_141 : decode cX3_type 141 = .ok (.iload_n 2, 1) := dk_28 (dk_at dksX3_type_6 5 rfl rfl)
theorem dX3_type_142 : decode cX3_type 142 = .ok (.iconst 4, 1) := dk_7 (dk_at dksX3_type_6 6 rfl rfl)
theorem dX3_type_143 : decode cX3_type 143 = .ok (.isub, 1) := dk_100 (dk_at dksX3_type_6 7 rfl rfl)
theorem dX3_type_144 : decode cX3_type 144 = .ok (.iload_n 1, 1) := dk_27 (dk_at dksX3_type_6 8 rfl rfl)
theorem dX3_type_145 : decode cX3_type 145 = .ok (.invokevirtual 202, 3) := dk_182 0 202 (dk_at dksX3_type_6 9 rfl rfl)
theorem dX3_type_148 : decode cX3_type 148 = .ok (.ireturn, 1) := dk_172 (dk_at dksX3_type_6 12 rfl rfl)
def dkwX3_letter_2 : List UInt8 := [158, 0, 8, 16, 97, 167, 0, 17, 42, 180, 0, 7, 7, 16, 6, 27, 104, 96, 28, 96, 46, 146, 172]
abbrev dktX3_letter_2 : List UInt8 := dkwX3_letter_2 ++ []
def dkwX3_letter_1 : List UInt8 := [96, 6, 96, 46, 4, 100, 184, 0, 90, 153, 0, 7, 3, 167, 0, 4, 5, 181, 0, 66, 42, 180, 0, 66]
abbrev dktX3_letter_1 : List UInt8 := dkwX3_letter_1 ++ dktX3_letter_2
def dkwX3_letter_0 : List UInt8 := [42, 42, 27, 182, 0, 118, 154, 0, 7, 4, 167, 0, 31, 28, 3, 42, 180, 0, 7, 7, 16, 6, 27, 104]
abbrev dktX3_letter_0 : List UInt8 := dkwX3_letter_0 ++ dktX3_letter_1
theorem dksX3_letter_0 : cX3_letter.data.toList.drop 0 = dktX3_letter_0 := by decide +kernel
theorem dksX3_letter_1 : cX3_letter.data.toList.drop 24 = dktX3_letter_1 := dk_seg dksX3_letter_0 24 rfl rfl
theorem dksX3_letter_2 : cX3_letter.data.toList.drop 48 = dktX3_letter_2 := dk_seg dksX3_letter_1 24 rfl rfl
theorem dX3_letter_0 : decode cX3_letter 0 = .ok (.aload_n 0, 1) := dk_42 (dk_at dksX3_letter_0 0 rfl rfl)
theorem dX3_letter_1 : decode cX3_letter 1 = .ok (.aload_n 0, 1) := dk_42 (dk_at dksX3_letter_0 1 rfl rfl)
theorem dX3_letter_2 : decode cX3_letter 2 = .ok (.iload_n 1, 1) := dk_27 (dk_at dksX3_letter_0 2 rfl rfl)
theorem dX3_letter_3 : decode cX3_letter 3 = .ok (.invokevirtual 118, 3) := dk_182 0 118 (dk_at dksX3_letter_0 3 rfl rfl)
theorem dX3_letter_6 : decode cX3_letter 6 = .ok (.ifCond .ne 7, 3) := dk_154 0 7 (dk_at dksX3_letter_0 6 rfl rfl)
theorem dX3_letter_9 : decode cX3_letter 9 = .ok (.iconst 1, 1) := dk_4 (dk_at dksX3_letter_0 9 rfl rfl)
theorem dX3_letter_10 : decode cX3_letter 10 = .ok (.goto 31, 3) := dk_167 0 31 (dk_at dksX3_letter_0 10 rfl rfl)
theorem dX3_letter_13 : decode cX3_letter 13 = .ok (.iload_n 2, 1) := dk_28 (dk_at dksX3_letter_0 13 rfl rfl)
theorem dX3_letter_14 : decode cX3_letter 14 = .ok (.iconst 0, 1) := dk_3 (dk_at dksX3_letter_0 14 rfl rfl)
theorem dX3_letter_15 : decode cX3_letter 15 = .ok (.aload_n 0, 1) := dk_42 (dk_at dksX3_letter_0 15 rfl rfl)
theorem dX3_letter_16 : decode cX3_letter 16 = .ok (.getfield 7, 3) := dk_180 0 7 (dk_at dksX3_letter_0 16 rfl rfl)
theorem dX3_letter_19 : decode cX3_letter 19 = .ok (.iconst 4, 1) := dk_7 (dk_at dksX3_letter_0 19 rfl rfl)
theorem dX3_letter_20 : decode cX3_letter 20 = .ok (.bipush 6, 2) := dk_16 6 (dk_at dksX3_letter_0 20 rfl rfl)
theorem dX3_letter_22 : decode cX3_letter 22 = .ok (.iload_n 1, 1) := dk_27 (dk_at dksX3_letter_0 22 rfl rfl)
theorem dX3_letter_23 : decode cX3_letter 23 = .ok (.imul, 1) := dk_104 (dk_at dksX3_letter_0 23 rfl rfl)
theorem dX3_letter_24 : decode cX3_letter 24 = .ok (.iadd, 1) := dk_96 (dk_at dksX3_letter_1 0 rfl rfl)
theorem dX3_letter_25 : decode cX3_letter 25 = .ok (.iconst 3, 1) := dk_6 (dk_at dksX3_letter_1 1 rfl rfl)
theorem dX3_letter_26 : decode cX3_letter 26 = .ok (.iadd, 1) := dk_96 (dk_at dksX3_letter_1 2 rfl rfl)
theorem dX3_letter_27 : decode cX3_letter 27 = .ok (.iaload, 1) := dk_46 (dk_at dksX3_letter_1 3 rfl rfl)
theorem dX3_letter_28 : decode cX3_letter 28 = .ok (.iconst 1, 1) := dk_4 (dk_at dksX3_letter_1 4 rfl rfl)
theorem dX3_letter_29 : decode cX3_letter 29 = .ok (.isub, 1) := dk_100 (dk_at dksX3_letter_1 5 rfl rfl)
theorem dX3_letter_30 : decode cX3_letter 30 = .ok (.invokestatic 90, 3) := dk_184 0 90 (dk_at dksX3_letter_1 6 rfl rfl)
theorem dX3_letter_33 : decode cX3_letter 33 = .ok (.ifCond .eq 7, 3) := dk_153 0 7 (dk_at dksX3_letter_1 9 rfl rfl)
theorem dX3_letter_36 : decode cX3_letter 36 = .ok (.iconst 0, 1) := dk_3 (dk_at dksX3_letter_1 12 rfl rfl)
theorem dX3_letter_37 : decode cX3_letter 37 = .ok (.goto 4, 3) := dk_167 0 4 (dk_at dksX3_letter_1 13 rfl rfl)
theorem dX3_letter_40 : decode cX3_letter 40 = .ok (.iconst 2, 1) := dk_5 (dk_at dksX3_letter_1 16 rfl rfl)
theorem dX3_letter_41 : decode cX3_letter 41 = .ok (.putfield 66, 3) := dk_181 0 66 (dk_at dksX3_letter_1 17 rfl rfl)
theorem dX3_letter_44 : decode cX3_letter 44 = .ok (.aload_n 0, 1) := dk_42 (dk_at dksX3_letter_1 20 rfl rfl)
theorem dX3_letter_45 : decode cX3_letter 45 = .ok (.getfield 66, 3) := dk_180 0 66 (dk_at dksX3_letter_1 21 rfl rfl)
theorem dX3_letter_48 : decode cX3_letter 48 = .ok (.ifCond .le 8, 3) := dk_158 0 8 (dk_at dksX3_letter_2 0 rfl rfl)
theorem dX3_letter_51 : decode cX3_letter 51 = .ok (.bipush 97, 2) := dk_16 97 (dk_at dksX3_letter_2 3 rfl rfl)
theorem dX3_letter_53 : decode cX3_letter 53 = .ok (.goto 17, 3) := dk_167 0 17 (dk_at dksX3_letter_2 5 rfl rfl)
theorem dX3_letter_56 : decode cX3_letter 56 = .ok (.aload_n 0, 1) := dk_42 (dk_at dksX3_letter_2 8 rfl rfl)
theorem dX3_letter_57 : decode cX3_letter 57 = .ok (.getfield 7, 3) := dk_180 0 7 (dk_at dksX3_letter_2 9 rfl rfl)
theorem dX3_letter_60 : decode cX3_letter 60 = .ok (.iconst 4, 1) := dk_7 (dk_at dksX3_letter_2 12 rfl rfl)
theorem dX3_letter_61 : decode cX3_letter 61 = .ok (.bipush 6, 2) := dk_16 6 (dk_at dksX3_letter_2 13 rfl rfl)
theorem dX3_letter_63 : decode cX3_letter 63 = .ok (.iload_n 1, 1) := dk_27 (dk_at dksX3_letter_2 15 rfl rfl)
theorem dX3_letter_64 : decode cX3_letter 64 = .ok (.imul, 1) := dk_104 (dk_at dksX3_letter_2 16 rfl rfl)
theorem dX3_letter_65 : decode cX3_letter 65 = .ok (.iadd, 1) := dk_96 (dk_at dksX3_letter_2 17 rfl rfl)
theorem dX3_letter_66 : decode cX3_letter 66 = .ok (.iload_n 2, 1) := dk_28 (dk_at dksX3_letter_2 18 rfl rfl)
theorem dX3_letter_67 : decode cX3_letter 67 = .ok (.iadd, 1) := dk_96 (dk_at dksX3_letter_2 19 rfl rfl)
theorem dX3_letter_68 : decode cX3_letter 68 = .ok (.iaload, 1) := dk_46 (dk_at dksX3_letter_2 20 rfl rfl)
theorem dX3_letter_69 : decode cX3_letter 69 = .ok (.i2c, 1) := dk_146 (dk_at dksX3_letter_2 21 rfl rfl)
theorem dX3_letter_70 : decode cX3_letter 70 = .ok (.ireturn, 1) := dk_172 (dk_at dksX3_letter_2 22 rfl rfl)
def dkwX3_drum_4 : List UInt8 := [6, 160, 0, 7, 5, 167, 0, 4, 28, 182, 0, 196, 172]
abbrev dktX3_drum_4 : List UInt8 := dkwX3_drum_4 ++ []
def dkwX3_drum_3 : List UInt8 := [167, 0, 4, 3, 96, 62, 132, 4, 1, 167, 255, 221, 28, 5, 160, 0, 7, 29, 167, 0, 18, 42, 27, 28]
abbrev dktX3_drum_3 : List UInt8 := dkwX3_drum_3 ++ dktX3_drum_4
def dkwX3_drum_2 : List UInt8 := [180, 0, 7, 16, 101, 46, 162, 0, 29, 29, 42, 21, 4, 16, 6, 182, 0, 105, 27, 160, 0, 7, 4]
abbrev dktX3_drum_2 : List UInt8 := dkwX3_drum_2 ++ dktX3_drum_3
def dkwX3_drum_1 : List UInt8 := [167, 0, 4, 5, 181, 0, 66, 42, 180, 0, 66, 158, 0, 5, 3, 172, 3, 62, 3, 54, 4, 21, 4, 42]
abbrev dktX3_drum_1 : List UInt8 := dkwX3_drum_1 ++ dktX3_drum_2
def dkwX3_drum_0 : List UInt8 := [42, 42, 27, 182, 0, 212, 154, 0, 7, 4, 167, 0, 17, 28, 3, 6, 184, 0, 90, 153, 0, 7, 3]
abbrev dktX3_drum_0 : List UInt8 := dkwX3_drum_0 ++ dktX3_drum_1
theorem dksX3_drum_0 : cX3_drum.data.toList.drop 0 = dktX3_drum_0 := by decide +kernel
theorem dksX3_drum_1 : cX3_drum.data.toList.drop 23 = dktX3_drum_1 := dk_seg dksX3_drum_0 23 rfl rfl
theorem dksX3_drum_2 : cX3_drum.data.toList.drop 47 = dktX3_drum_2 := dk_seg dksX3_drum_1 24 rfl rfl
theorem dksX3_drum_3 : cX3_drum.data.toList.drop 70 = dktX3_drum_3 := dk_seg dksX3_drum_2 23 rfl rfl
theorem dksX3_drum_4 : cX3_drum.data.toList.drop 94 = dktX3_drum_4 := dk_seg dksX3_drum_3 24 rfl rfl
theorem dX3_drum_0 : decode cX3_drum 0 = .ok (.aload_n 0, 1) := dk_42 (dk_at dksX3_drum_0 0 rfl rfl)
theorem dX3_drum_1 : decode cX3_drum 1 = .ok (.aload_n 0, 1) := dk_42 (dk_at dksX3_drum_0 1 rfl rfl)
theorem dX3_drum_2 : decode cX3_drum 2 = .ok (.iload_n 1, 1) := dk_27 (dk_at dksX3_drum_0 2 rfl rfl)
theorem dX3_drum_3 : decode cX3_drum 3 = .ok (.invokevirtual 212, 3) := dk_182 0 212 (dk_at dksX3_drum_0 3 rfl rfl)
theorem dX3_drum_6 : decode cX3_drum 6 = .ok (.ifCond .ne 7, 3) := dk_154 0 7 (dk_at dksX3_drum_0 6 rfl rfl)
theorem dX3_drum_9 : decode cX3_drum 9 = .ok (.iconst 1, 1) := dk_4 (dk_at dksX3_drum_0 9 rfl rfl)
theorem dX3_drum_10 : decode cX3_drum 10 = .ok (.goto 17, 3) := dk_167 0 17 (dk_at dksX3_drum_0 10 rfl rfl)
theorem dX3_drum_13 : decode cX3_drum 13 = .ok (.iload_n 2, 1) := dk_28 (dk_at dksX3_drum_0 13 rfl rfl)
theorem dX3_drum_14 : decode cX3_drum 14 = .ok (.iconst 0, 1) := dk_3 (dk_at dksX3_drum_0 14 rfl rfl)
theorem dX3_drum_15 : decode cX3_drum 15 = .ok (.iconst 3, 1) := dk_6 (dk_at dksX3_drum_0 15 rfl rfl)
theorem dX3_drum_16 : decode cX3_drum 16 = .ok (.invokestatic 90, 3) := dk_184 0 90 (dk_at dksX3_drum_0 16 rfl rfl)
theorem dX3_drum_19 : decode cX3_drum 19 = .ok (.ifCond .eq 7, 3) := dk_153 0 7 (dk_at dksX3_drum_0 19 rfl rfl)
theorem dX3_drum_22 : decode cX3_drum 22 = .ok (.iconst 0, 1) := dk_3 (dk_at dksX3_drum_0 22 rfl rfl)
theorem dX3_drum_23 : decode cX3_drum 23 = .ok (.goto 4, 3) := dk_167 0 4 (dk_at dksX3_drum_1 0 rfl rfl)
theorem dX3_drum_26 : decode cX3_drum 26 = .ok (.iconst 2, 1) := dk_5 (dk_at dksX3_drum_1 3 rfl rfl)
theorem dX3_drum_27 : decode cX3_drum 27 = .ok (.putfield 66, 3) := dk_181 0 66 (dk_at dksX3_drum_1 4 rfl rfl)
theorem dX3_drum_30 : decode cX3_drum 30 = .ok (.aload_n 0, 1) := dk_42 (dk_at dksX3_drum_1 7 rfl rfl)
theorem dX3_drum_31 : decode cX3_drum 31 = .ok (.getfield 66, 3) := dk_180 0 66 (dk_at dksX3_drum_1 8 rfl rfl)
theorem dX3_drum_34 : decode cX3_drum 34 = .ok (.ifCond .le 5, 3) := dk_158 0 5 (dk_at dksX3_drum_1 11 rfl rfl)
theorem dX3_drum_37 : decode cX3_drum 37 = .ok (.iconst 0, 1) := dk_3 (dk_at dksX3_drum_1 14 rfl rfl)
theorem dX3_drum_38 : decode cX3_drum 38 = .ok (.ireturn, 1) := dk_172 (dk_at dksX3_drum_1 15 rfl rfl)
theorem dX3_drum_39 : decode cX3_drum 39 = .ok (.iconst 0, 1) := dk_3 (dk_at dksX3_drum_1 16 rfl rfl)
theorem dX3_drum_40 : decode cX3_drum 40 = .ok (.istore_n 3, 1) := dk_62 (dk_at dksX3_drum_1 17 rfl rfl)
theorem dX3_drum_41 : decode cX3_drum 41 = .ok (.iconst 0, 1) := dk_3 (dk_at dksX3_drum_1 18 rfl rfl)
theorem dX3_drum_42 : decode cX3_drum 42 = .ok (.istore 4, 2) := dk_54 4 (dk_at dksX3_drum_1 19 rfl rfl)
theorem dX3_drum_44 : decode cX3_drum 44 = .ok (.iload 4, 2) := dk_21 4 (dk_at dksX3_drum_1 21 rfl rfl)
theorem dX3_drum_46 : decode cX3_drum 46 = .ok (.aload_n 0, 1) := dk_42 (dk_at dksX3_drum_1 23 rfl rfl)
theorem dX3_drum_47 : decode cX3_drum 47 = .ok (.getfield 7, 3) := dk_180 0 7 (dk_at dksX3_drum_2 0 rfl rfl)
theorem dX3_drum_50 : decode cX3_drum 50 = .ok (.bipush 101, 2) := dk_16 101 (dk_at dksX3_drum_2 3 rfl rfl)
theorem dX3_drum_52 : decode cX3_drum 52 = .ok (.iaload, 1) := dk_46 (dk_at dksX3_drum_2 5 rfl rfl)
theorem dX3_drum_53 : decode cX3_drum 53 = .ok (.if_icmp .ge 29, 3) := dk_162 0 29 (dk_at dksX3_drum_2 6 rfl rfl)
theorem dX3_drum_56 : decode cX3_drum 56 = .ok (.iload_n 3, 1) := dk_29 (dk_at dksX3_drum_2 9 rfl rfl)
theorem dX3_drum_57 : decode cX3_drum 57 = .ok (.aload_n 0, 1) := dk_42 (dk_at dksX3_drum_2 10 rfl rfl)
theorem dX3_drum_58 : decode cX3_drum 58 = .ok (.iload 4, 2) := dk_21 4 (dk_at dksX3_drum_2 11 rfl rfl)
theorem dX3_drum_60 : decode cX3_drum 60 = .ok (.bipush 6, 2) := dk_16 6 (dk_at dksX3_drum_2 13 rfl rfl)
theorem dX3_drum_62 : decode cX3_drum 62 = .ok (.invokevirtual 105, 3) := dk_182 0 105 (dk_at dksX3_drum_2 15 rfl rfl)
theorem dX3_drum_65 : decode cX3_drum 65 = .ok (.iload_n 1, 1) := dk_27 (dk_at dksX3_drum_2 18 rfl rfl)
theorem dX3_drum_66 : decode cX3_drum 66 = .ok (.if_icmp .ne 7, 3) := dk_160 0 7 (dk_at dksX3_drum_2 19 rfl rfl)
theorem dX3_drum_69 : decode cX3_drum 69 = .ok (.iconst 1, 1) := dk_4 (dk_at dksX3_drum_2 22 rfl rfl)
theorem dX3_drum_70 : decode cX3_drum 70 = .ok (.goto 4, 3) := dk_167 0 4 (dk_at dksX3_drum_3 0 rfl rfl)
theorem dX3_drum_73 : decode cX3_drum 73 = .ok (.iconst 0, 1) := dk_3 (dk_at dksX3_drum_3 3 rfl rfl)
theorem dX3_drum_74 : decode cX3_drum 74 = .ok (.iadd, 1) := dk_96 (dk_at dksX3_drum_3 4 rfl rfl)
theorem dX3_drum_75 : decode cX3_drum 75 = .ok (.istore_n 3, 1) := dk_62 (dk_at dksX3_drum_3 5 rfl rfl)
theorem dX3_drum_76 : decode cX3_drum 76 = .ok (.iinc 4 1, 3) := dk_132 4 1 (dk_at dksX3_drum_3 6 rfl rfl)
theorem dX3_drum_79 : decode cX3_drum 79 = .ok (.goto (-35), 3) := dk_167 255 221 (dk_at dksX3_drum_3 9 rfl rfl)
theorem dX3_drum_82 : decode cX3_drum 82 = .ok (.iload_n 2, 1) := dk_28 (dk_at dksX3_drum_3 12 rfl rfl)
theorem dX3_drum_83 : decode cX3_drum 83 = .ok (.iconst 2, 1) := dk_5 (dk_at dksX3_drum_3 13 rfl rfl)
theorem dX3_drum_84 : decode cX3_drum 84 = .ok (.if_icmp .ne 7, 3) := dk_160 0 7 (dk_at dksX3_drum_3 14 rfl rfl)
theorem dX3_drum_87 : decode cX3_drum 87 = .ok (.iload_n 3, 1) := dk_29 (dk_at dksX3_drum_3 17 rfl rfl)
theorem dX3_drum_88 : decode cX3_drum 88 = .ok (.goto 18, 3) := dk_167 0 18 (dk_at dksX3_drum_3 18 rfl rfl)
theorem dX3_drum_91 : decode cX3_drum 91 = .ok (.aload_n 0, 1) := dk_42 (dk_at dksX3_drum_3 21 rfl rfl)
theorem dX3_drum_92 : decode cX3_drum 92 = .ok (.iload_n 1, 1) := dk_27 (dk_at dksX3_drum_3 22 rfl rfl)
theorem dX3_drum_93 : decode cX3_drum 93 = .ok (.iload_n 2, 1) := dk_28 (dk_at dksX3_drum_3 23 rfl rfl)
theorem dX3_drum_94 : decode cX3_drum 94 = .ok (.iconst 3, 1) := dk_6 (dk_at dksX3_drum_4 0 rfl rfl)
theorem dX3_drum_95 : decode cX3_drum 95 = .ok (.if_icmp .ne 7, 3) := dk_160 0 7 (dk_at dksX3_drum_4 1 rfl rfl)
theorem dX3_drum_98 : decode cX3_drum 98 = .ok (.iconst 2, 1) := dk_5 (dk_at dksX3_drum_4 4 rfl rfl)
theorem dX3_drum_99 : decode cX3_drum 99 = .ok (.goto 4, 3) := dk_167 0 4 (dk_at dksX3_drum_4 5 rfl rfl)
theorem dX3_drum_102 : decode cX3_drum 102 = .ok (.iload_n 2, 1) := dk_28 (dk_at dksX3_drum_4 8 rfl rfl)
theorem dX3_drum_103 : decode cX3_drum 103 = .ok (.invokevirtual 196, 3) := dk_182 0 196 (dk_at dksX3_drum_4 9 rfl rfl)
theorem dX3_drum_106 : decode cX3_drum 106 = .ok (.ireturn, 1) := dk_172 (dk_at dksX3_drum_4 12 rfl rfl)
def dkwX3_isDrum_0 : List UInt8 := [27, 3, 42, 180, 0, 7, 17, 1, 98, 46, 4, 100, 184, 0, 90, 172]
abbrev dktX3_isDrum_0 : List UInt8 := dkwX3_isDrum_0 ++ []
theorem dksX3_isDrum_0 : cX3_isDrum.data.toList.drop 0 = dktX3_isDrum_0 := by decide +kernel
theorem dX3_isDrum_0 : decode cX3_isDrum 0 = .ok (.iload_n 1, 1) := dk_27 (dk_at dksX3_isDrum_0 0 rfl rfl)
theorem dX3_isDrum_1 : decode cX3_isDrum 1 = .ok (.iconst 0, 1) := dk_3 (dk_at dksX3_isDrum_0 1 rfl rfl)
theorem dX3_isDrum_2 : decode cX3_isDrum 2 = .ok (.aload_n 0, 1) := dk_42 (dk_at dksX3_isDrum_0 2 rfl rfl)
theorem dX3_isDrum_3 : decode cX3_isDrum 3 = .ok (.getfield 7, 3) := dk_180 0 7 (dk_at dksX3_isDrum_0 3 rfl rfl)
theorem dX3_isDrum_6 : decode cX3_isDrum 6 = .ok (.sipush 354, 3) := dk_17 1 98 (dk_at dksX3_isDrum_0 6 rfl rfl)
theorem dX3_isDrum_9 : decode cX3_isDrum 9 = .ok (.iaload, 1) := dk_46 (dk_at dksX3_isDrum_0 9 rfl rfl)
theorem dX3_isDrum_10 : decode cX3_isDrum 10 = .ok (.iconst 1, 1) := dk_4 (dk_at dksX3_isDrum_0 10 rfl rfl)
theorem dX3_isDrum_11 : decode cX3_isDrum 11 = .ok (.isub, 1) := dk_100 (dk_at dksX3_isDrum_0 11 rfl rfl)
theorem dX3_isDrum_12 : decode cX3_isDrum 12 = .ok (.invokestatic 90, 3) := dk_184 0 90 (dk_at dksX3_isDrum_0 12 rfl rfl)
theorem dX3_isDrum_15 : decode cX3_isDrum 15 = .ok (.ireturn, 1) := dk_172 (dk_at dksX3_isDrum_0 15 rfl rfl)
def dkwX3_fewestDrums_15 : List UInt8 := [172]
abbrev dktX3_fewestDrums_15 : List UInt8 := dkwX3_fewestDrums_15 ++ []
def dkwX3_fewestDrums_14 : List UInt8 := [4, 28, 120, 4, 100, 46, 54, 4, 21, 4, 29, 164, 0, 11, 42, 5, 182, 0, 175, 167, 0, 5, 21, 4]
abbrev dktX3_fewestDrums_14 : List UInt8 := dkwX3_fewestDrums_14 ++ dktX3_fewestDrums_15
def dkwX3_fewestDrums_13 : List UInt8 := [180, 0, 47, 21, 4, 21, 8, 79, 132, 5, 1, 167, 255, 79, 132, 4, 1, 167, 255, 53, 42, 180, 0, 44]
abbrev dktX3_fewestDrums_13 : List UInt8 := dkwX3_fewestDrums_13 ++ dktX3_fewestDrums_14
def dkwX3_fewestDrums_12 : List UInt8 := [21, 8, 42, 180, 0, 47, 21, 4, 46, 162, 0, 21, 42, 180, 0, 44, 21, 4, 21, 7, 79, 42]
abbrev dktX3_fewestDrums_12 : List UInt8 := dkwX3_fewestDrums_12 ++ dktX3_fewestDrums_13
def dkwX3_fewestDrums_11 : List UInt8 := [21, 7, 42, 180, 0, 44, 21, 4, 46, 161, 0, 27, 21, 7, 42, 180, 0, 44, 21, 4, 46, 160, 0, 33]
abbrev dktX3_fewestDrums_11 : List UInt8 := dkwX3_fewestDrums_11 ++ dktX3_fewestDrums_12
def dkwX3_fewestDrums_10 : List UInt8 := [180, 0, 41, 21, 7, 4, 100, 46, 163, 0, 7, 4, 167, 0, 4, 3, 54, 9, 21, 9, 153, 0, 57]
abbrev dktX3_fewestDrums_10 : List UInt8 := dkwX3_fewestDrums_10 ++ dktX3_fewestDrums_11
def dkwX3_fewestDrums_9 : List UInt8 := [164, 0, 15, 132, 7, 1, 42, 180, 0, 38, 21, 5, 46, 54, 8, 21, 7, 29, 163, 0, 21, 21, 8, 42]
abbrev dktX3_fewestDrums_9 : List UInt8 := dkwX3_fewestDrums_9 ++ dktX3_fewestDrums_10
def dkwX3_fewestDrums_8 : List UInt8 := [21, 6, 46, 42, 180, 0, 38, 21, 5, 46, 96, 54, 8, 21, 8, 42, 180, 0, 41, 21, 7, 4, 100, 46]
abbrev dktX3_fewestDrums_8 : List UInt8 := dkwX3_fewestDrums_8 ++ dktX3_fewestDrums_9
def dkwX3_fewestDrums_7 : List UInt8 := [21, 6, 46, 29, 164, 0, 6, 167, 0, 141, 42, 180, 0, 44, 21, 6, 46, 54, 7, 42, 180, 0, 47]
abbrev dktX3_fewestDrums_7 : List UInt8 := dkwX3_fewestDrums_7 ++ dktX3_fewestDrums_8
def dkwX3_fewestDrums_6 : List UInt8 := [28, 162, 0, 177, 21, 4, 4, 21, 5, 120, 130, 54, 6, 21, 6, 21, 4, 163, 0, 155, 42, 180, 0, 44]
abbrev dktX3_fewestDrums_6 : List UInt8 := dkwX3_fewestDrums_6 ++ dktX3_fewestDrums_7
def dkwX3_fewestDrums_5 : List UInt8 := [54, 4, 21, 4, 4, 28, 120, 162, 0, 201, 42, 180, 0, 44, 21, 4, 16, 99, 79, 3, 54, 5, 21, 5]
abbrev dktX3_fewestDrums_5 : List UInt8 := dkwX3_fewestDrums_5 ++ dktX3_fewestDrums_6
def dkwX3_fewestDrums_4 : List UInt8 := [154, 0, 9, 42, 5, 182, 0, 175, 172, 42, 180, 0, 44, 3, 4, 79, 42, 180, 0, 47, 3, 3, 79, 4]
abbrev dktX3_fewestDrums_4 : List UInt8 := dkwX3_fewestDrums_4 ++ dktX3_fewestDrums_5
def dkwX3_fewestDrums_3 : List UInt8 := [132, 2, 1, 132, 3, 1, 167, 255, 208, 42, 27, 182, 0, 215, 62, 28, 154, 0, 5, 3, 172, 29]
abbrev dktX3_fewestDrums_3 : List UInt8 := dkwX3_fewestDrums_3 ++ dktX3_fewestDrums_4
def dkwX3_fewestDrums_2 : List UInt8 := [160, 0, 27, 42, 29, 6, 182, 0, 105, 4, 160, 0, 17, 42, 180, 0, 38, 28, 42, 29, 182, 0, 190, 79]
abbrev dktX3_fewestDrums_2 : List UInt8 := dkwX3_fewestDrums_2 ++ dktX3_fewestDrums_3
def dkwX3_fewestDrums_1 : List UInt8 := [3, 172, 3, 61, 3, 62, 29, 42, 180, 0, 7, 16, 101, 46, 162, 0, 43, 42, 29, 3, 182, 0, 105, 27]
abbrev dktX3_fewestDrums_1 : List UInt8 := dkwX3_fewestDrums_1 ++ dktX3_fewestDrums_2
def dkwX3_fewestDrums_0 : List UInt8 := [42, 42, 27, 182, 0, 118, 153, 0, 7, 3, 167, 0, 4, 4, 181, 0, 66, 42, 180, 0, 66, 158, 0, 5]
abbrev dktX3_fewestDrums_0 : List UInt8 := dkwX3_fewestDrums_0 ++ dktX3_fewestDrums_1
theorem dksX3_fewestDrums_0 : cX3_fewestDrums.data.toList.drop 0 = dktX3_fewestDrums_0 := by decide +kernel
theorem dksX3_fewestDrums_1 : cX3_fewestDrums.data.toList.drop 24 = dktX3_fewestDrums_1 := dk_seg dksX3_fewestDrums_0 24 rfl rfl
theorem dksX3_fewestDrums_2 : cX3_fewestDrums.data.toList.drop 48 = dktX3_fewestDrums_2 := dk_seg dksX3_fewestDrums_1 24 rfl rfl
theorem dksX3_fewestDrums_3 : cX3_fewestDrums.data.toList.drop 72 = dktX3_fewestDrums_3 := dk_seg dksX3_fewestDrums_2 24 rfl rfl
theorem dksX3_fewestDrums_4 : cX3_fewestDrums.data.toList.drop 94 = dktX3_fewestDrums_4 := dk_seg dksX3_fewestDrums_3 22 rfl rfl
theorem dksX3_fewestDrums_5 : cX3_fewestDrums.data.toList.drop 118 = dktX3_fewestDrums_5 := dk_seg dksX3_fewestDrums_4 24 rfl rfl
theorem dksX3_fewestDrums_6 : cX3_fewestDrums.data.toList.drop 142 = dktX3_fewestDrums_6 := dk_seg dksX3_fewestDrums_5 24 rfl rfl
theorem dksX3_fewestDrums_7 : cX3_fewestDrums.data.toList.drop 166 = dktX3_fewestDrums_7 := dk_seg dksX3_fewestDrums_6 24 rfl rfl
theorem dksX3_fewestDrums_8 : cX3_fewestDrums.data.toList.drop 189 = dktX3_fewestDrums_8 := dk_seg dksX3_fewestDrums_7 23 rfl rfl
theorem dksX3_fewestDrums_9 : cX3_fewestDrums.data.toList.drop 213 = dktX3_fewestDrums_9 := dk_seg dksX3_fewestDrums_8 24 rfl rfl
theorem dksX3_fewestDrums_10 : cX3_fewestDrums.data.toList.drop 237 = dktX3_fewestDrums_10 := dk_seg dksX3_fewestDrums_9 24 rfl rfl
theorem dksX3_fewestDrums_11 : cX3_fewestDrums.data.toList.drop 260 = dktX3_fewestDrums_11 := dk_seg dksX3_fewestDrums_10 23 rfl rfl
theorem dksX3_fewestDrums_12 : cX3_fewestDrums.data.toList.drop 284 = dktX3_fewestDrums_12 := dk_seg dksX3_fewestDrums_11 24 rfl rfl
theorem dksX3_fewestDrums_13 : cX3_fewestDrums.data.toList.drop 306 = dktX3_fewestDrums_13 := dk_seg dksX3_fewestDrums_12 22 rfl rfl
theorem dksX3_fewestDrums_14 : cX3_fewestDrums.data.toList.drop 330 = dktX3_fewestDrums_14 := dk_seg dksX3_fewestDrums_13 24 rfl rfl
theorem dksX3_fewestDrums_15 : cX3_fewestDrums.data.toList.drop 354 = dktX3_fewestDrums_15 := dk_seg dksX3_fewestDrums_14 24 rfl rfl
theorem dX3_fewestDrums_0 : decode cX3_fewestDrums 0 = .ok (.aload_n 0, 1) := dk_42 (dk_at dksX3_fewestDrums_0 0 rfl rfl)
theorem dX3_fewestDrums_1 : decode cX3_fewestDrums 1 = .ok (.aload_n 0, 1) := dk_42 (dk_at dksX3_fewestDrums_0 1 rfl rfl)
theorem dX3_fewestDrums_2 : decode cX3_fewestDrums 2 = .ok (.iload_n 1, 1) := dk_27 (dk_at dksX3_fewestDrums_0 2 rfl rfl)
theorem dX3_fewestDrums_3 : decode cX3_fewestDrums 3 = .ok (.invokevirtual 118, 3) := dk_182 0 118 (dk_at dksX3_fewestDrums_0 3 rfl rfl)
theorem dX3_fewestDrums_6 : decode cX3_fewestDrums 6 = .ok (.ifCond .eq 7, 3) := dk_153 0 7 (dk_at dksX3_fewestDrums_0 6 rfl rfl)
theorem dX3_fewestDrums_9 : decode cX3_fewestDrums 9 = .ok (.iconst 0, 1) := dk_3 (dk_at dksX3_fewestDrums_0 9 rfl rfl)
theorem dX3_fewestDrums_10 : decode cX3_fewestDrums 10 = .ok (.goto 4, 3) := dk_167 0 4 (dk_at dksX3_fewestDrums_0 10 rfl rfl)
theorem dX3_fewestDrums_13 : decode cX3_fewestDrums 13 = .ok (.iconst 1, 1) := dk_4 (dk_at dksX3_fewestDrums_0 13 rfl rfl)
theorem dX3_fewestDrums_14 : decode cX3_fewestDrums 14 = .ok (.putfield 66, 3) := dk_181 0 66 (dk_at dksX3_fewestDrums_0 14 rfl rfl)
theorem dX3_fewestDrums_17 : decode cX3_fewestDrums 17 = .ok (.aload_n 0, 1) := dk_42 (dk_at dksX3_fewestDrums_0 17 rfl rfl)
theorem dX3_fewestDrums_18 : decode cX3_fewestDrums 18 = .ok (.getfield 66, 3) := dk_180 0 66 (dk_at dksX3_fewestDrums_0 18 rfl rfl)
theorem dX3_fewestDrums_21 : decode cX3_fewestDrums 21 = .ok (.ifCond .le 5, 3) := dk_158 0 5 (dk_at dksX3_fewestDrums_0 21 rfl rfl)
theorem dX3_fewestDrums_24 : decode cX3_fewestDrums 24 = .ok (.iconst 0, 1) := dk_3 (dk_at dksX3_fewestDrums_1 0 rfl rfl)
theorem dX3_fewestDrums_25 : decode cX3_fewestDrums 25 = .ok (.ireturn, 1) := dk_172 (dk_at dksX3_fewestDrums_1 1 rfl rfl)
theorem dX3_fewestDrums_26 : decode cX3_fewestDrums 26 = .ok (.iconst 0, 1) := dk_3 (dk_at dksX3_fewestDrums_1 2 rfl rfl)
theorem dX3_fewestDrums_27 : decode cX3_fewestDrums 27 = .ok (.istore_n 2, 1) := dk_61 (dk_at dksX3_fewestDrums_1 3 rfl rfl)
theorem dX3_fewestDrums_28 : decode cX3_fewestDrums 28 = .ok (.iconst 0, 1) := dk_3 (dk_at dksX3_fewestDrums_1 4 rfl rfl)
theorem dX3_fewestDrums_29 : decode cX3_fewestDrums 29 = .ok (.istore_n 3, 1) := dk_62 (dk_at dksX3_fewestDrums_1 5 rfl rfl)
theorem dX3_fewestDrums_30 : decode cX3_fewestDrums 30 = .ok (.iload_n 3, 1) := dk_29 (dk_at dksX3_fewestDrums_1 6 rfl rfl)
theorem dX3_fewestDrums_31 : decode cX3_fewestDrums 31 = .ok (.aload_n 0, 1) := dk_42 (dk_at dksX3_fewestDrums_1 7 rfl rfl)
theorem dX3_fewestDrums_32 : decode cX3_fewestDrums 32 = .ok (.getfield 7, 3) := dk_180 0 7 (dk_at dksX3_fewestDrums_1 8 rfl rfl)
theorem dX3_fewestDrums_35 : decode cX3_fewestDrums 35 = .ok (.bipush 101, 2) := dk_16 101 (dk_at dksX3_fewestDrums_1 11 rfl rfl)
theorem dX3_fewestDrums_37 : decode cX3_fewestDrums 37 = .ok (.iaload, 1) := dk_46 (dk_at dksX3_fewestDrums_1 13 rfl rfl)
theorem dX3_fewestDrums_38 : decode cX3_fewestDrums 38 = .ok (.if_icmp .ge 43, 3) := dk_162 0 43 (dk_at dksX3_fewestDrums_1 14 rfl rfl)
theorem dX3_fewestDrums_41 : decode cX3_fewestDrums 41 = .ok (.aload_n 0, 1) := dk_42 (dk_at dksX3_fewestDrums_1 17 rfl rfl)
theorem dX3_fewestDrums_42 : decode cX3_fewestDrums 42 = .ok (.iload_n 3, 1) := dk_29 (dk_at dksX3_fewestDrums_1 18 rfl rfl)
theorem dX3_fewestDrums_43 : decode cX3_fewestDrums 43 = .ok (.iconst 0, 1) := dk_3 (dk_at dksX3_fewestDrums_1 19 rfl rfl)
theorem dX3_fewestDrums_44 : decode cX3_fewestDrums 44 = .ok (.invokevirtual 105, 3) := dk_182 0 105 (dk_at dksX3_fewestDrums_1 20 rfl rfl)
theorem dX3_fewestDrums_47 : decode cX3_fewestDrums 47 = .ok (.iload_n 1, 1) := dk_27 (dk_at dksX3_fewestDrums_1 23 rfl rfl)
theorem dX3_fewestDrums_48 : decode cX3_fewestDrums 48 = .ok (.if_icmp .ne 27, 3) := dk_160 0 27 (dk_at dksX3_fewestDrums_2 0 rfl rfl)
theorem dX3_fewestDrums_51 : decode cX3_fewestDrums 51 = .ok (.aload_n 0, 1) := dk_42 (dk_at dksX3_fewestDrums_2 3 rfl rfl)
theorem dX3_fewestDrums_52 : decode cX3_fewestDrums 52 = .ok (.iload_n 3, 1) := dk_29 (dk_at dksX3_fewestDrums_2 4 rfl rfl)
theorem dX3_fewestDrums_53 : decode cX3_fewestDrums 53 = .ok (.iconst 3, 1) := dk_6 (dk_at dksX3_fewestDrums_2 5 rfl rfl)
theorem dX3_fewestDrums_54 : decode cX3_fewestDrums 54 = .ok (.invokevirtual 105, 3) := dk_182 0 105 (dk_at dksX3_fewestDrums_2 6 rfl rfl)
theorem dX3_fewestDrums_57 : decode cX3_fewestDrums 57 = .ok (.iconst 1, 1) := dk_4 (dk_at dksX3_fewestDrums_2 9 rfl rfl)
theorem dX3_fewestDrums_58 : decode cX3_fewestDrums 58 = .ok (.if_icmp .ne 17, 3) := dk_160 0 17 (dk_at dksX3_fewestDrums_2 10 rfl rfl)
theorem dX3_fewestDrums_61 : decode cX3_fewestDrums 61 = .ok (.aload_n 0, 1) := dk_42 (dk_at dksX3_fewestDrums_2 13 rfl rfl)
theorem dX3_fewestDrums_62 : decode cX3_fewestDrums 62 = .ok (.getfield 38, 3) := dk_180 0 38 (dk_at dksX3_fewestDrums_2 14 rfl rfl)
theorem dX3_fewestDrums_65 : decode cX3_fewestDrums 65 = .ok (.iload_n 2, 1) := dk_28 (dk_at dksX3_fewestDrums_2 17 rfl rfl)
theorem dX3_fewestDrums_66 : decode cX3_fewestDrums 66 = .ok (.aload_n 0, 1) := dk_42 (dk_at dksX3_fewestDrums_2 18 rfl rfl)
theorem dX3_fewestDrums_67 : decode cX3_fewestDrums 67 = .ok (.iload_n 3, 1) := dk_29 (dk_at dksX3_fewestDrums_2 19 rfl rfl)
theorem dX3_fewestDrums_68 : decode cX3_fewestDrums 68 = .ok (.invokevirtual 190, 3) := dk_182 0 190 (dk_at dksX3_fewestDrums_2 20 rfl rfl)
theorem dX3_fewestDrums_71 : decode cX3_fewestDrums 71 = .ok (.iastore, 1) := dk_79 (dk_at dksX3_fewestDrums_2 23 rfl rfl)
theorem dX3_fewestDrums_72 : decode cX3_fewestDrums 72 = .ok (.iinc 2 1, 3) := dk_132 2 1 (dk_at dksX3_fewestDrums_3 0 rfl rfl)
theorem dX3_fewestDrums_75 : decode cX3_fewestDrums 75 = .ok (.iinc 3 1, 3) := dk_132 3 1 (dk_at dksX3_fewestDrums_3 3 rfl rfl)
theorem dX3_fewestDrums_78 : decode cX3_fewestDrums 78 = .ok (.goto (-48), 3) := dk_167 255 208 (dk_at dksX3_fewestDrums_3 6 rfl rfl)
theorem dX3_fewestDrums_81 : decode cX3_fewestDrums 81 = .ok (.aload_n 0, 1) := dk_42 (dk_at dksX3_fewestDrums_3 9 rfl rfl)
theorem dX3_fewestDrums_82 : decode cX3_fewestDrums 82 = .ok (.iload_n 1, 1) := dk_27 (dk_at dksX3_fewestDrums_3 10 rfl rfl)
theorem dX3_fewestDrums_83 : decode cX3_fewestDrums 83 = .ok (.invokevirtual 215, 3) := dk_182 0 215 (dk_at dksX3_fewestDrums_3 11 rfl rfl)
theorem dX3_fewestDrums_86 : decode cX3_fewestDrums 86 = .ok (.istore_n 3, 1) := dk_62 (dk_at dksX3_fewestDrums_3 14 rfl rfl)
theorem dX3_fewestDrums_87 : decode cX3_fewestDrums 87 = .ok (.iload_n 2, 1) := dk_28 (dk_at dksX3_fewestDrums_3 15 rfl rfl)
theorem dX3_fewestDrums_88 : decode cX3_fewestDrums 88 = .ok (.ifCond .ne 5, 3) := dk_154 0 5 (dk_at dksX3_fewestDrums_3 16 rfl rfl)
theorem dX3_fewestDrums_91 : decode cX3_fewestDrums 91 = .ok (.iconst 0, 1) := dk_3 (dk_at dksX3_fewestDrums_3 19 rfl rfl)
theorem dX3_fewestDrums_92 : decode cX3_fewestDrums 92 = .ok (.ireturn, 1) := dk_172 (dk_at dksX3_fewestDrums_3 20 rfl rfl)
theorem dX3_fewestDrums_93 : decode cX3_fewestDrums 93 = .ok (.iload_n 3, 1) := dk_29 (dk_at dksX3_fewestDrums_3 21 rfl rfl)
theorem dX3_fewestDrums_94 : decode cX3_fewestDrums 94 = .ok (.ifCond .ne 9, 3) := dk_154 0 9 (dk_at dksX3_fewestDrums_4 0 rfl rfl)
theorem dX3_fewestDrums_97 : decode cX3_fewestDrums 97 = .ok (.aload_n 0, 1) := dk_42 (dk_at dksX3_fewestDrums_4 3 rfl rfl)
theorem dX3_fewestDrums_98 : decode cX3_fewestDrums 98 = .ok (.iconst 2, 1) := dk_5 (dk_at dksX3_fewestDrums_4 4 rfl rfl)
theorem dX3_fewestDrums_99 : decode cX3_fewestDrums 99 = .ok (.invokevirtual 175, 3) := dk_182 0 175 (dk_at dksX3_fewestDrums_4 5 rfl rfl)
theorem dX3_fewestDrums_102 : decode cX3_fewestDrums 102 = .ok (.ireturn, 1) := dk_172 (dk_at dksX3_fewestDrums_4 8 rfl rfl)
theorem dX3_fewestDrums_103 : decode cX3_fewestDrums 103 = .ok (.aload_n 0, 1) := dk_42 (dk_at dksX3_fewestDrums_4 9 rfl rfl)
theorem dX3_fewestDrums_104 : decode cX3_fewestDrums 104 = .ok (.getfield 44, 3) := dk_180 0 44 (dk_at dksX3_fewestDrums_4 10 rfl rfl)
theorem dX3_fewestDrums_107 : decode cX3_fewestDrums 107 = .ok (.iconst 0, 1) := dk_3 (dk_at dksX3_fewestDrums_4 13 rfl rfl)
theorem dX3_fewestDrums_108 : decode cX3_fewestDrums 108 = .ok (.iconst 1, 1) := dk_4 (dk_at dksX3_fewestDrums_4 14 rfl rfl)
theorem dX3_fewestDrums_109 : decode cX3_fewestDrums 109 = .ok (.iastore, 1) := dk_79 (dk_at dksX3_fewestDrums_4 15 rfl rfl)
theorem dX3_fewestDrums_110 : decode cX3_fewestDrums 110 = .ok (.aload_n 0, 1) := dk_42 (dk_at dksX3_fewestDrums_4 16 rfl rfl)
theorem dX3_fewestDrums_111 : decode cX3_fewestDrums 111 = .ok (.getfield 47, 3) := dk_180 0 47 (dk_at dksX3_fewestDrums_4 17 rfl rfl)
theorem dX3_fewestDrums_114 : decode cX3_fewestDrums 114 = .ok (.iconst 0, 1) := dk_3 (dk_at dksX3_fewestDrums_4 20 rfl rfl)
theorem dX3_fewestDrums_115 : decode cX3_fewestDrums 115 = .ok (.iconst 0, 1) := dk_3 (dk_at dksX3_fewestDrums_4 21 rfl rfl)
theorem dX3_fewestDrums_116 : decode cX3_fewestDrums 116 = .ok (.iastore, 1) := dk_79 (dk_at dksX3_fewestDrums_4 22 rfl rfl)
theorem dX3_fewestDrums_117 : decode cX3_fewestDrums 117 = .ok (.iconst 1, 1) := dk_4 (dk_at dksX3_fewestDrums_4 23 rfl rfl)
theorem dX3_fewestDrums_118 : decode cX3_fewestDrums 118 = .ok (.istore 4, 2) := dk_54 4 (dk_at dksX3_fewestDrums_5 0 rfl rfl)
theorem dX3_fewestDrums_120 : decode cX3_fewestDrums 120 = .ok (.iload 4, 2) := dk_21 4 (dk_at dksX3_fewestDrums_5 2 rfl rfl)
theorem dX3_fewestDrums_122 : decode cX3_fewestDrums 122 = .ok (.iconst 1, 1) := dk_4 (dk_at dksX3_fewestDrums_5 4 rfl rfl)
theorem dX3_fewestDrums_123 : decode cX3_fewestDrums 123 = .ok (.iload_n 2, 1) := dk_28 (dk_at dksX3_fewestDrums_5 5 rfl rfl)
theorem dX3_fewestDrums_124 : decode cX3_fewestDrums 124 = .ok (.ishl, 1) := dk_120 (dk_at dksX3_fewestDrums_5 6 rfl rfl)
theorem dX3_fewestDrums_125 : decode cX3_fewestDrums 125 = .ok (.if_icmp .ge 201, 3) := dk_162 0 201 (dk_at dksX3_fewestDrums_5 7 rfl rfl)
theorem dX3_fewestDrums_128 : decode cX3_fewestDrums 128 = .ok (.aload_n 0, 1) := dk_42 (dk_at dksX3_fewestDrums_5 10 rfl rfl)
theorem dX3_fewestDrums_129 : decode cX3_fewestDrums 129 = .ok (.getfield 44, 3) := dk_180 0 44 (dk_at dksX3_fewestDrums_5 11 rfl rfl)
theorem dX3_fewestDrums_132 : decode cX3_fewestDrums 132 = .ok (.iload 4, 2) := dk_21 4 (dk_at dksX3_fewestDrums_5 14 rfl rfl)
theorem dX3_fewestDrums_134 : decode cX3_fewestDrums 134 = .ok (.bipush 99, 2) := dk_16 99 (dk_at dksX3_fewestDrums_5 16 rfl rfl)
theorem dX3_fewestDrums_136 : decode cX3_fewestDrums 136 = .ok (.iastore, 1) := dk_79 (dk_at dksX3_fewestDrums_5 18 rfl rfl)
theorem dX3_fewestDrums_137 : decode cX3_fewestDrums 137 = .ok (.iconst 0, 1) := dk_3 (dk_at dksX3_fewestDrums_5 19 rfl rfl)
theorem dX3_fewestDrums_138 : decode cX3_fewestDrums 138 = .ok (.istore 5, 2) := dk_54 5 (dk_at dksX3_fewestDrums_5 20 rfl rfl)
theorem dX3_fewestDrums_140 : decode cX3_fewestDrums 140 = .ok (.iload 5, 2) := dk_21 5 (dk_at dksX3_fewestDrums_5 22 rfl rfl)
theorem dX3_fewestDrums_142 : decode cX3_fewestDrums 142 = .ok (.iload_n 2, 1) := dk_28 (dk_at dksX3_fewestDrums_6 0 rfl rfl)
theorem dX3_fewestDrums_143 : decode cX3_fewestDrums 143 = .ok (.if_icmp .ge 177, 3) := dk_162 0 177 (dk_at dksX3_fewestDrums_6 1 rfl rfl)
theorem dX3_fewestDrums_146 : decode cX3_fewestDrums 146 = .ok (.iload 4, 2) := dk_21 4 (dk_at dksX3_fewestDrums_6 4 rfl rfl)
theorem dX3_fewestDrums_148 : decode cX3_fewestDrums 148 = .ok (.iconst 1, 1) := dk_4 (dk_at dksX3_fewestDrums_6 6 rfl rfl)
theorem dX3_fewestDrums_149 : decode cX3_fewestDrums 149 = .ok (.iload 5, 2) := dk_21 5 (dk_at dksX3_fewestDrums_6 7 rfl rfl)
theorem dX3_fewestDrums_151 : decode cX3_fewestDrums 151 = .ok (.ishl, 1) := dk_120 (dk_at dksX3_fewestDrums_6 9 rfl rfl)
theorem dX3_fewestDrums_152 : decode cX3_fewestDrums 152 = .ok (.ixor, 1) := dk_130 (dk_at dksX3_fewestDrums_6 10 rfl rfl)
theorem dX3_fewestDrums_153 : decode cX3_fewestDrums 153 = .ok (.istore 6, 2) := dk_54 6 (dk_at dksX3_fewestDrums_6 11 rfl rfl)
theorem dX3_fewestDrums_155 : decode cX3_fewestDrums 155 = .ok (.iload 6, 2) := dk_21 6 (dk_at dksX3_fewestDrums_6 13 rfl rfl)
theorem dX3_fewestDrums_157 : decode cX3_fewestDrums 157 = .ok (.iload 4, 2) := dk_21 4 (dk_at dksX3_fewestDrums_6 15 rfl rfl)
theorem dX3_fewestDrums_159 : decode cX3_fewestDrums 159 = .ok (.if_icmp .gt 155, 3) := dk_163 0 155 (dk_at dksX3_fewestDrums_6 17 rfl rfl)
theorem dX3_fewestDrums_162 : decode cX3_fewestDrums 162 = .ok (.aload_n 0, 1) := dk_42 (dk_at dksX3_fewestDrums_6 20 rfl rfl)
theorem dX3_fewestDrums_163 : decode cX3_fewestDrums 163 = .ok (.getfield 44, 3) := dk_180 0 44 (dk_at dksX3_fewestDrums_6 21 rfl rfl)
theorem dX3_fewestDrums_166 : decode cX3_fewestDrums 166 = .ok (.iload 6, 2) := dk_21 6 (dk_at dksX3_fewestDrums_7 0 rfl rfl)
theorem dX3_fewestDrums_168 : decode cX3_fewestDrums 168 = .ok (.iaload, 1) := dk_46 (dk_at dksX3_fewestDrums_7 2 rfl rfl)
theorem dX3_fewestDrums_169 : decode cX3_fewestDrums 169 = .ok (.iload_n 3, 1) := dk_29 (dk_at dksX3_fewestDrums_7 3 rfl rfl)
theorem dX3_fewestDrums_170 : decode cX3_fewestDrums 170 = .ok (.if_icmp .le 6, 3) := dk_164 0 6 (dk_at dksX3_fewestDrums_7 4 rfl rfl)
theorem dX3_fewestDrums_173 : decode cX3_fewestDrums 173 = .ok (.goto 141, 3) := dk_167 0 141 (dk_at dksX3_fewestDrums_7 7 rfl rfl)
theorem dX3_fewestDrums_176 : decode cX3_fewestDrums 176 = .ok (.aload_n 0, 1) := dk_42 (dk_at dksX3_fewestDrums_7 10 rfl rfl)
theorem dX3_fewestDrums_177 : decode cX3_fewestDrums 177 = .ok (.getfield 44, 3) := dk_180 0 44 (dk_at dksX3_fewestDrums_7 11 rfl rfl)
theorem dX3_fewestDrums_180 : decode cX3_fewestDrums 180 = .ok (.iload 6, 2) := dk_21 6 (dk_at dksX3_fewestDrums_7 14 rfl rfl)
theorem dX3_fewestDrums_182 : decode cX3_fewestDrums 182 = .ok (.iaload, 1) := dk_46 (dk_at dksX3_fewestDrums_7 16 rfl rfl)
theorem dX3_fewestDrums_183 : decode cX3_fewestDrums 183 = .ok (.istore 7, 2) := dk_54 7 (dk_at dksX3_fewestDrums_7 17 rfl rfl)
theorem dX3_fewestDrums_185 : decode cX3_fewestDrums 185 = .ok (.aload_n 0, 1) := dk_42 (dk_at dksX3_fewestDrums_7 19 rfl rfl)
theorem dX3_fewestDrums_186 : decode cX3_fewestDrums 186 = .ok (.getfield 47, 3) := dk_180 0 47 (dk_at dksX3_fewestDrums_7 20 rfl rfl)
theorem dX3_fewestDrums_189 : decode cX3_fewestDrums 189 = .ok (.iload 6, 2) := dk_21 6 (dk_at dksX3_fewestDrums_8 0 rfl rfl)
theorem dX3_fewestDrums_191 : decode cX3_fewestDrums 191 = .ok (.iaload, 1) := dk_46 (dk_at dksX3_fewestDrums_8 2 rfl rfl)
theorem dX3_fewestDrums_192 : decode cX3_fewestDrums 192 = .ok (.aload_n 0, 1) := dk_42 (dk_at dksX3_fewestDrums_8 3 rfl rfl)
theorem dX3_fewestDrums_193 : decode cX3_fewestDrums 193 = .ok (.getfield 38, 3) := dk_180 0 38 (dk_at dksX3_fewestDrums_8 4 rfl rfl)
theorem dX3_fewestDrums_196 : decode cX3_fewestDrums 196 = .ok (.iload 5, 2) := dk_21 5 (dk_at dksX3_fewestDrums_8 7 rfl rfl)
theorem dX3_fewestDrums_198 : decode cX3_fewestDrums 198 = .ok (.iaload, 1) := dk_46 (dk_at dksX3_fewestDrums_8 9 rfl rfl)
theorem dX3_fewestDrums_199 : decode cX3_fewestDrums 199 = .ok (.iadd, 1) := dk_96 (dk_at dksX3_fewestDrums_8 10 rfl rfl)
theorem dX3_fewestDrums_200 : decode cX3_fewestDrums 200 = .ok (.istore 8, 2) := dk_54 8 (dk_at dksX3_fewestDrums_8 11 rfl rfl)
theorem dX3_fewestDrums_202 : decode cX3_fewestDrums 202 = .ok (.iload 8, 2) := dk_21 8 (dk_at dksX3_fewestDrums_8 13 rfl rfl)
theorem dX3_fewestDrums_204 : decode cX3_fewestDrums 204 = .ok (.aload_n 0, 1) := dk_42 (dk_at dksX3_fewestDrums_8 15 rfl rfl)
theorem dX3_fewestDrums_205 : decode cX3_fewestDrums 205 = .ok (.getfield 41, 3) := dk_180 0 41 (dk_at dksX3_fewestDrums_8 16 rfl rfl)
theorem dX3_fewestDrums_208 : decode cX3_fewestDrums 208 = .ok (.iload 7, 2) := dk_21 7 (dk_at dksX3_fewestDrums_8 19 rfl rfl)
theorem dX3_fewestDrums_210 : decode cX3_fewestDrums 210 = .ok (.iconst 1, 1) := dk_4 (dk_at dksX3_fewestDrums_8 21 rfl rfl)
theorem dX3_fewestDrums_211 : decode cX3_fewestDrums 211 = .ok (.isub, 1) := dk_100 (dk_at dksX3_fewestDrums_8 22 rfl rfl)
theorem dX3_fewestDrums_212 : decode cX3_fewestDrums 212 = .ok (.iaload, 1) := dk_46 (dk_at dksX3_fewestDrums_8 23 rfl rfl)
theorem dX3_fewestDrums_213 : decode cX3_fewestDrums 213 = .ok (.if_icmp .le 15, 3) := dk_164 0 15 (dk_at dksX3_fewestDrums_9 0 rfl rfl)
theorem dX3_fewestDrums_216 : decode cX3_fewestDrums 216 = .ok (.iinc 7 1, 3) := dk_132 7 1 (dk_at dksX3_fewestDrums_9 3 rfl rfl)
theorem dX3_fewestDrums_219 : decode cX3_fewestDrums 219 = .ok (.aload_n 0, 1) := dk_42 (dk_at dksX3_fewestDrums_9 6 rfl rfl)
theorem dX3_fewestDrums_220 : decode cX3_fewestDrums 220 = .ok (.getfield 38, 3) := dk_180 0 38 (dk_at dksX3_fewestDrums_9 7 rfl rfl)
theorem dX3_fewestDrums_223 : decode cX3_fewestDrums 223 = .ok (.iload 5, 2) := dk_21 5 (dk_at dksX3_fewestDrums_9 10 rfl rfl)
theorem dX3_fewestDrums_225 : decode cX3_fewestDrums 225 = .ok (.iaload, 1) := dk_46 (dk_at dksX3_fewestDrums_9 12 rfl rfl)
theorem dX3_fewestDrums_226 : decode cX3_fewestDrums 226 = .ok (.istore 8, 2) := dk_54 8 (dk_at dksX3_fewestDrums_9 13 rfl rfl)
theorem dX3_fewestDrums_228 : decode cX3_fewestDrums 228 = .ok (.iload 7, 2) := dk_21 7 (dk_at dksX3_fewestDrums_9 15 rfl rfl)
theorem dX3_fewestDrums_230 : decode cX3_fewestDrums 230 = .ok (.iload_n 3, 1) := dk_29 (dk_at dksX3_fewestDrums_9 17 rfl rfl)
theorem dX3_fewestDrums_231 : decode cX3_fewestDrums 231 = .ok (.if_icmp .gt 21, 3) := dk_163 0 21 (dk_at dksX3_fewestDrums_9 18 rfl rfl)
theorem dX3_fewestDrums_234 : decode cX3_fewestDrums 234 = .ok (.iload 8, 2) := dk_21 8 (dk_at dksX3_fewestDrums_9 21 rfl rfl)
theorem dX3_fewestDrums_236 : decode cX3_fewestDrums 236 = .ok (.aload_n 0, 1) := dk_42 (dk_at dksX3_fewestDrums_9 23 rfl rfl)
theorem dX3_fewestDrums_237 : decode cX3_fewestDrums 237 = .ok (.getfield 41, 3) := dk_180 0 41 (dk_at dksX3_fewestDrums_10 0 rfl rfl)
theorem dX3_fewestDrums_240 : decode cX3_fewestDrums 240 = .ok (.iload 7, 2) := dk_21 7 (dk_at dksX3_fewestDrums_10 3 rfl rfl)
theorem dX3_fewestDrums_242 : decode cX3_fewestDrums 242 = .ok (.iconst 1, 1) := dk_4 (dk_at dksX3_fewestDrums_10 5 rfl rfl)
theorem dX3_fewestDrums_243 : decode cX3_fewestDrums 243 = .ok (.isub, 1) := dk_100 (dk_at dksX3_fewestDrums_10 6 rfl rfl)
theorem dX3_fewestDrums_244 : decode cX3_fewestDrums 244 = .ok (.iaload, 1) := dk_46 (dk_at dksX3_fewestDrums_10 7 rfl rfl)
theorem dX3_fewestDrums_245 : decode cX3_fewestDrums 245 = .ok (.if_icmp .gt 7, 3) := dk_163 0 7 (dk_at dksX3_fewestDrums_10 8 rfl rfl)
theorem dX3_fewestDrums_248 : decode cX3_fewestDrums 248 = .ok (.iconst 1, 1) := dk_4 (dk_at dksX3_fewestDrums_10 11 rfl rfl)
theorem dX3_fewestDrums_249 : decode cX3_fewestDrums 249 = .ok (.goto 4, 3) := dk_167 0 4 (dk_at dksX3_fewestDrums_10 12 rfl rfl)
theorem dX3_fewestDrums_252 : decode cX3_fewestDrums 252 = .ok (.iconst 0, 1) := dk_3 (dk_at dksX3_fewestDrums_10 15 rfl rfl)
theorem dX3_fewestDrums_253 : decode cX3_fewestDrums 253 = .ok (.istore 9, 2) := dk_54 9 (dk_at dksX3_fewestDrums_10 16 rfl rfl)
theorem dX3_fewestDrums_255 : decode cX3_fewestDrums 255 = .ok (.iload 9, 2) := dk_21 9 (dk_at dksX3_fewestDrums_10 18 rfl rfl)
theorem dX3_fewestDrums_257 : decode cX3_fewestDrums 257 = .ok (.ifCond .eq 57, 3) := dk_153 0 57 (dk_at dksX3_fewestDrums_10 20 rfl rfl)
theorem dX3_fewestDrums_260 : decode cX3_fewestDrums 260 = .ok (.iload 7, 2) := dk_21 7 (dk_at dksX3_fewestDrums_11 0 rfl rfl)
theorem dX3_fewestDrums_262 : decode cX3_fewestDrums 262 = .ok (.aload_n 0, 1) := dk_42 (dk_at dksX3_fewestDrums_11 2 rfl rfl)
theorem dX3_fewestDrums_263 : decode cX3_fewestDrums 263 = .ok (.getfield 44, 3) := dk_180 0 44 (dk_at dksX3_fewestDrums_11 3 rfl rfl)
theorem dX3_fewestDrums_266 : decode cX3_fewestDrums 266 = .ok (.iload 4, 2) := dk_21 4 (dk_at dksX3_fewestDrums_11 6 rfl rfl)
theorem dX3_fewestDrums_268 : decode cX3_fewestDrums 268 = .ok (.iaload, 1) := dk_46 (dk_at dksX3_fewestDrums_11 8 rfl rfl)
theorem dX3_fewestDrums_269 : decode cX3_fewestDrums 269 = .ok (.if_icmp .lt 27, 3) := dk_161 0 27 (dk_at dksX3_fewestDrums_11 9 rfl rfl)
theorem dX3_fewestDrums_272 : decode cX3_fewestDrums 272 = .ok (.iload 7, 2) := dk_21 7 (dk_at dksX3_fewestDrums_11 12 rfl rfl)
theorem dX3_fewestDrums_274 : decode cX3_fewestDrums 274 = .ok (.aload_n 0, 1) := dk_42 (dk_at dksX3_fewestDrums_11 14 rfl rfl)
theorem dX3_fewestDrums_275 : decode cX3_fewestDrums 275 = .ok (.getfield 44, 3) := dk_180 0 44 (dk_at dksX3_fewestDrums_11 15 rfl rfl)
theorem dX3_fewestDrums_278 : decode cX3_fewestDrums 278 = .ok (.iload 4, 2) := dk_21 4 (dk_at dksX3_fewestDrums_11 18 rfl rfl)
theorem dX3_fewestDrums_280 : decode cX3_fewestDrums 280 = .ok (.iaload, 1) := dk_46 (dk_at dksX3_fewestDrums_11 20 rfl rfl)
theorem dX3_fewestDrums_281 : decode cX3_fewestDrums 281 = .ok (.if_icmp .ne 33, 3) := dk_160 0 33 (dk_at dksX3_fewestDrums_11 21 rfl rfl)
theorem dX3_fewestDrums_284 : decode cX3_fewestDrums 284 = .ok (.iload 8, 2) := dk_21 8 (dk_at dksX3_fewestDrums_12 0 rfl rfl)
theorem dX3_fewestDrums_286 : decode cX3_fewestDrums 286 = .ok (.aload_n 0, 1) := dk_42 (dk_at dksX3_fewestDrums_12 2 rfl rfl)
theorem dX3_fewestDrums_287 : decode cX3_fewestDrums 287 = .ok (.getfield 47, 3) := dk_180 0 47 (dk_at dksX3_fewestDrums_12 3 rfl rfl)
theorem dX3_fewestDrums_290 : decode cX3_fewestDrums 290 = .ok (.iload 4, 2) := dk_21 4 (dk_at dksX3_fewestDrums_12 6 rfl rfl)
theorem dX3_fewestDrums_292 : decode cX3_fewestDrums 292 = .ok (.iaload, 1) := dk_46 (dk_at dksX3_fewestDrums_12 8 rfl rfl)
theorem dX3_fewestDrums_293 : decode cX3_fewestDrums 293 = .ok (.if_icmp .ge 21, 3) := dk_162 0 21 (dk_at dksX3_fewestDrums_12 9 rfl rfl)
theorem dX3_fewestDrums_296 : decode cX3_fewestDrums 296 = .ok (.aload_n 0, 1) := dk_42 (dk_at dksX3_fewestDrums_12 12 rfl rfl)
theorem dX3_fewestDrums_297 : decode cX3_fewestDrums 297 = .ok (.getfield 44, 3) := dk_180 0 44 (dk_at dksX3_fewestDrums_12 13 rfl rfl)
theorem dX3_fewestDrums_300 : decode cX3_fewestDrums 300 = .ok (.iload 4, 2) := dk_21 4 (dk_at dksX3_fewestDrums_12 16 rfl rfl)
theorem dX3_fewestDrums_302 : decode cX3_fewestDrums 302 = .ok (.iload 7, 2) := dk_21 7 (dk_at dksX3_fewestDrums_12 18 rfl rfl)
theorem dX3_fewestDrums_304 : decode cX3_fewestDrums 304 = .ok (.iastore, 1) := dk_79 (dk_at dksX3_fewestDrums_12 20 rfl rfl)
theorem dX3_fewestDrums_305 : decode cX3_fewestDrums 305 = .ok (.aload_n 0, 1) := dk_42 (dk_at dksX3_fewestDrums_12 21 rfl rfl)
theorem dX3_fewestDrums_306 : decode cX3_fewestDrums 306 = .ok (.getfield 47, 3) := dk_180 0 47 (dk_at dksX3_fewestDrums_13 0 rfl rfl)
theorem dX3_fewestDrums_309 : decode cX3_fewestDrums 309 = .ok (.iload 4, 2) := dk_21 4 (dk_at dksX3_fewestDrums_13 3 rfl rfl)
theorem dX3_fewestDrums_311 : decode cX3_fewestDrums 311 = .ok (.iload 8, 2) := dk_21 8 (dk_at dksX3_fewestDrums_13 5 rfl rfl)
theorem dX3_fewestDrums_313 : decode cX3_fewestDrums 313 = .ok (.iastore, 1) := dk_79 (dk_at dksX3_fewestDrums_13 7 rfl rfl)
theorem dX3_fewestDrums_314 : decode cX3_fewestDrums 314 = .ok (.iinc 5 1, 3) := dk_132 5 1 (dk_at dksX3_fewestDrums_13 8 rfl rfl)
theorem dX3_fewestDrums_317 : decode cX3_fewestDrums 317 = .ok (.goto (-177), 3) := dk_167 255 79 (dk_at dksX3_fewestDrums_13 11 rfl rfl)
theorem dX3_fewestDrums_320 : decode cX3_fewestDrums 320 = .ok (.iinc 4 1, 3) := dk_132 4 1 (dk_at dksX3_fewestDrums_13 14 rfl rfl)
theorem dX3_fewestDrums_323 : decode cX3_fewestDrums 323 = .ok (.goto (-203), 3) := dk_167 255 53 (dk_at dksX3_fewestDrums_13 17 rfl rfl)
theorem dX3_fewestDrums_326 : decode cX3_fewestDrums 326 = .ok (.aload_n 0, 1) := dk_42 (dk_at dksX3_fewestDrums_13 20 rfl rfl)
theorem dX3_fewestDrums_327 : decode cX3_fewestDrums 327 = .ok (.getfield 44, 3) := dk_180 0 44 (dk_at dksX3_fewestDrums_13 21 rfl rfl)
theorem dX3_fewestDrums_330 : decode cX3_fewestDrums 330 = .ok (.iconst 1, 1) := dk_4 (dk_at dksX3_fewestDrums_14 0 rfl rfl)
theorem dX3_fewestDrums_331 : decode cX3_fewestDrums 331 = .ok (.iload_n 2, 1) := dk_28 (dk_at dksX3_fewestDrums_14 1 rfl rfl)
theorem dX3_fewestDrums_332 : decode cX3_fewestDrums 332 = .ok (.ishl, 1) := dk_120 (dk_at dksX3_fewestDrums_14 2 rfl rfl)
theorem dX3_fewestDrums_333 : decode cX3_fewestDrums 333 = .ok (.iconst 1, 1) := dk_4 (dk_at dksX3_fewestDrums_14 3 rfl rfl)
theorem dX3_fewestDrums_334 : decode cX3_fewestDrums 334 = .ok (.isub, 1) := dk_100 (dk_at dksX3_fewestDrums_14 4 rfl rfl)
theorem dX3_fewestDrums_335 : decode cX3_fewestDrums 335 = .ok (.iaload, 1) := dk_46 (dk_at dksX3_fewestDrums_14 5 rfl rfl)
theorem dX3_fewestDrums_336 : decode cX3_fewestDrums 336 = .ok (.istore 4, 2) := dk_54 4 (dk_at dksX3_fewestDrums_14 6 rfl rfl)
theorem dX3_fewestDrums_338 : decode cX3_fewestDrums 338 = .ok (.iload 4, 2) := dk_21 4 (dk_at dksX3_fewestDrums_14 8 rfl rfl)
theorem dX3_fewestDrums_340 : decode cX3_fewestDrums 340 = .ok (.iload_n 3, 1) := dk_29 (dk_at dksX3_fewestDrums_14 10 rfl rfl)
theorem dX3_fewestDrums_341 : decode cX3_fewestDrums 341 = .ok (.if_icmp .le 11, 3) := dk_164 0 11 (dk_at dksX3_fewestDrums_14 11 rfl rfl)
theorem dX3_fewestDrums_344 : decode cX3_fewestDrums 344 = .ok (.aload_n 0, 1) := dk_42 (dk_at dksX3_fewestDrums_14 14 rfl rfl)
theorem dX3_fewestDrums_345 : decode cX3_fewestDrums 345 = .ok (.iconst 2, 1) := dk_5 (dk_at dksX3_fewestDrums_14 15 rfl rfl)
theorem dX3_fewestDrums_346 : decode cX3_fewestDrums 346 = .ok (.invokevirtual 175, 3) := dk_182 0 175 (dk_at dksX3_fewestDrums_14 16 rfl rfl)
theorem dX3_fewestDrums_349 : decode cX3_fewestDrums 349 = .ok (.goto 5, 3) := dk_167 0 5 (dk_at dksX3_fewestDrums_14 19 rfl rfl)
theorem dX3_fewestDrums_352 : decode cX3_fewestDrums 352 = .ok (.iload 4, 2) := dk_21 4 (dk_at dksX3_fewestDrums_14 22 rfl rfl)
theorem dX3_fewestDrums_354 : decode cX3_fewestDrums 354 = .ok (.ireturn, 1) := dk_172 (dk_at dksX3_fewestDrums_15 0 rfl rfl)
def dkwX3_findsRests_4 : List UInt8 := [132, 3, 1, 167, 255, 167, 28, 172]
abbrev dktX3_findsRests_4 : List UInt8 := dkwX3_findsRests_4 ++ []
def dkwX3_findsRests_3 : List UInt8 := [132, 4, 255, 167, 255, 214, 42, 180, 0, 41, 21, 4, 42, 29, 4, 182, 0, 196, 79, 132, 2, 1]
abbrev dktX3_findsRests_3 : List UInt8 := dkwX3_findsRests_3 ++ dktX3_findsRests_4
def dkwX3_findsRests_2 : List UInt8 := [182, 0, 196, 162, 0, 25, 42, 180, 0, 41, 21, 4, 42, 180, 0, 41, 21, 4, 4, 100, 46, 79]
abbrev dktX3_findsRests_2 : List UInt8 := dkwX3_findsRests_2 ++ dktX3_findsRests_3
def dkwX3_findsRests_1 : List UInt8 := [160, 0, 67, 28, 54, 4, 21, 4, 158, 0, 43, 42, 180, 0, 41, 21, 4, 4, 100, 46, 42, 29, 4]
abbrev dktX3_findsRests_1 : List UInt8 := dkwX3_findsRests_1 ++ dktX3_findsRests_2
def dkwX3_findsRests_0 : List UInt8 := [3, 61, 3, 62, 29, 42, 180, 0, 7, 17, 1, 98, 46, 162, 0, 83, 42, 29, 3, 182, 0, 196, 27]
abbrev dktX3_findsRests_0 : List UInt8 := dkwX3_findsRests_0 ++ dktX3_findsRests_1
theorem dksX3_findsRests_0 : cX3_findsRests.data.toList.drop 0 = dktX3_findsRests_0 := by decide +kernel
theorem dksX3_findsRests_1 : cX3_findsRests.data.toList.drop 23 = dktX3_findsRests_1 := dk_seg dksX3_findsRests_0 23 rfl rfl
theorem dksX3_findsRests_2 : cX3_findsRests.data.toList.drop 46 = dktX3_findsRests_2 := dk_seg dksX3_findsRests_1 23 rfl rfl
theorem dksX3_findsRests_3 : cX3_findsRests.data.toList.drop 68 = dktX3_findsRests_3 := dk_seg dksX3_findsRests_2 22 rfl rfl
theorem dksX3_findsRests_4 : cX3_findsRests.data.toList.drop 90 = dktX3_findsRests_4 := dk_seg dksX3_findsRests_3 22 rfl rfl
theorem dX3_findsRests_0 : decode cX3_findsRests 0 = .ok (.iconst 0, 1) := dk_3 (dk_at dksX3_findsRests_0 0 rfl rfl)
theorem dX3_findsRests_1 : decode cX3_findsRests 1 = .ok (.istore_n 2, 1) := dk_61 (dk_at dksX3_findsRests_0 1 rfl rfl)
theorem dX3_findsRests_2 : decode cX3_findsRests 2 = .ok (.iconst 0, 1) := dk_3 (dk_at dksX3_findsRests_0 2 rfl rfl)
theorem dX3_findsRests_3 : decode cX3_findsRests 3 = .ok (.istore_n 3, 1) := dk_62 (dk_at dksX3_findsRests_0 3 rfl rfl)
theorem dX3_findsRests_4 : decode cX3_findsRests 4 = .ok (.iload_n 3, 1) := dk_29 (dk_at dksX3_findsRests_0 4 rfl rfl)
theorem dX3_findsRests_5 : decode cX3_findsRests 5 = .ok (.aload_n 0, 1) := dk_42 (dk_at dksX3_findsRests_0 5 rfl rfl)
theorem dX3_findsRests_6 : decode cX3_findsRests 6 = .ok (.getfield 7, 3) := dk_180 0 7 (dk_at dksX3_findsRests_0 6 rfl rfl)
theorem dX3_findsRests_9 : decode cX3_findsRests 9 = .ok (.sipush 354, 3) := dk_17 1 98 (dk_at dksX3_findsRests_0 9 rfl rfl)
theorem dX3_findsRests_12 : decode cX3_findsRests 12 = .ok (.iaload, 1) := dk_46 (dk_at dksX3_findsRests_0 12 rfl rfl)
theorem dX3_findsRests_13 : decode cX3_findsRests 13 = .ok (.if_icmp .ge 83, 3) := dk_162 0 83 (dk_at dksX3_findsRests_0 13 rfl rfl)
theorem dX3_findsRests_16 : decode cX3_findsRests 16 = .ok (.aload_n 0, 1) := dk_42 (dk_at dksX3_findsRests_0 16 rfl rfl)
theorem dX3_findsRests_17 : decode cX3_findsRests 17 = .ok (.iload_n 3, 1) := dk_29 (dk_at dksX3_findsRests_0 17 rfl rfl)
theorem dX3_findsRests_18 : decode cX3_findsRests 18 = .ok (.iconst 0, 1) := dk_3 (dk_at dksX3_findsRests_0 18 rfl rfl)
theorem dX3_findsRests_19 : decode cX3_findsRests 19 = .ok (.invokevirtual 196, 3) := dk_182 0 196 (dk_at dksX3_findsRests_0 19 rfl rfl)
theorem dX3_findsRests_22 : decode cX3_findsRests 22 = .ok (.iload_n 1, 1) := dk_27 (dk_at dksX3_findsRests_0 22 rfl rfl)
theorem dX3_findsRests_23 : decode cX3_findsRests 23 = .ok (.if_icmp .ne 67, 3) := dk_160 0 67 (dk_at dksX3_findsRests_1 0 rfl rfl)
theorem dX3_findsRests_26 : decode cX3_findsRests 26 = .ok (.iload_n 2, 1) := dk_28 (dk_at dksX3_findsRests_1 3 rfl rfl)
theorem dX3_findsRests_27 : decode cX3_findsRests 27 = .ok (.istore 4, 2) := dk_54 4 (dk_at dksX3_findsRests_1 4 rfl rfl)
theorem dX3_findsRests_29 : decode cX3_findsRests 29 = .ok (.iload 4, 2) := dk_21 4 (dk_at dksX3_findsRests_1 6 rfl rfl)
theorem dX3_findsRests_31 : decode cX3_findsRests 31 = .ok (.ifCond .le 43, 3) := dk_158 0 43 (dk_at dksX3_findsRests_1 8 rfl rfl)
theorem dX3_findsRests_34 : decode cX3_findsRests 34 = .ok (.aload_n 0, 1) := dk_42 (dk_at dksX3_findsRests_1 11 rfl rfl)
theorem dX3_findsRests_35 : decode cX3_findsRests 35 = .ok (.getfield 41, 3) := dk_180 0 41 (dk_at dksX3_findsRests_1 12 rfl rfl)
theorem dX3_findsRests_38 : decode cX3_findsRests 38 = .ok (.iload 4, 2) := dk_21 4 (dk_at dksX3_findsRests_1 15 rfl rfl)
theorem dX3_findsRests_40 : decode cX3_findsRests 40 = .ok (.iconst 1, 1) := dk_4 (dk_at dksX3_findsRests_1 17 rfl rfl)
theorem dX3_findsRests_41 : decode cX3_findsRests 41 = .ok (.isub, 1) := dk_100 (dk_at dksX3_findsRests_1 18 rfl rfl)
theorem dX3_findsRests_42 : decode cX3_findsRests 42 = .ok (.iaload, 1) := dk_46 (dk_at dksX3_findsRests_1 19 rfl rfl)
theorem dX3_findsRests_43 : decode cX3_findsRests 43 = .ok (.aload_n 0, 1) := dk_42 (dk_at dksX3_findsRests_1 20 rfl rfl)
theorem dX3_findsRests_44 : decode cX3_findsRests 44 = .ok (.iload_n 3, 1) := dk_29 (dk_at dksX3_findsRests_1 21 rfl rfl)
theorem dX3_findsRests_45 : decode cX3_findsRests 45 = .ok (.iconst 1, 1) := dk_4 (dk_at dksX3_findsRests_1 22 rfl rfl)
theorem dX3_findsRests_46 : decode cX3_findsRests 46 = .ok (.invokevirtual 196, 3) := dk_182 0 196 (dk_at dksX3_findsRests_2 0 rfl rfl)
theorem dX3_findsRests_49 : decode cX3_findsRests 49 = .ok (.if_icmp .ge 25, 3) := dk_162 0 25 (dk_at dksX3_findsRests_2 3 rfl rfl)
theorem dX3_findsRests_52 : decode cX3_findsRests 52 = .ok (.aload_n 0, 1) := dk_42 (dk_at dksX3_findsRests_2 6 rfl rfl)
theorem dX3_findsRests_53 : decode cX3_findsRests 53 = .ok (.getfield 41, 3) := dk_180 0 41 (dk_at dksX3_findsRests_2 7 rfl rfl)
theorem dX3_findsRests_56 : decode cX3_findsRests 56 = .ok (.iload 4, 2) := dk_21 4 (dk_at dksX3_findsRests_2 10 rfl rfl)
theorem dX3_findsRests_58 : decode cX3_findsRests 58 = .ok (.aload_n 0, 1) := dk_42 (dk_at dksX3_findsRests_2 12 rfl rfl)
theorem dX3_findsRests_59 : decode cX3_findsRests 59 = .ok (.getfield 41, 3) := dk_180 0 41 (dk_at dksX3_findsRests_2 13 rfl rfl)
theorem dX3_findsRests_62 : decode cX3_findsRests 62 = .ok (.iload 4, 2) := dk_21 4 (dk_at dksX3_findsRests_2 16 rfl rfl)
theorem dX3_findsRests_64 : decode cX3_findsRests 64 = .ok (.iconst 1, 1) := dk_4 (dk_at dksX3_findsRests_2 18 rfl rfl)
theorem dX3_findsRests_65 : decode cX3_findsRests 65 = .ok (.isub, 1) := dk_100 (dk_at dksX3_findsRests_2 19 rfl rfl)
theorem dX3_findsRests_66 : decode cX3_findsRests 66 = .ok (.iaload, 1) := dk_46 (dk_at dksX3_findsRests_2 20 rfl rfl)
theorem dX3_findsRests_67 : decode cX3_findsRests 67 = .ok (.iastore, 1) := dk_79 (dk_at dksX3_findsRests_2 21 rfl rfl)
theorem dX3_findsRests_68 : decode cX3_findsRests 68 = .ok (.iinc 4 (-1), 3) := dk_132 4 255 (dk_at dksX3_findsRests_3 0 rfl rfl)
theorem dX3_findsRests_71 : decode cX3_findsRests 71 = .ok (.goto (-42), 3) := dk_167 255 214 (dk_at dksX3_findsRests_3 3 rfl rfl)
theorem dX3_findsRests_74 : decode cX3_findsRests 74 = .ok (.aload_n 0, 1) := dk_42 (dk_at dksX3_findsRests_3 6 rfl rfl)
theorem dX3_findsRests_75 : decode cX3_findsRests 75 = .ok (.getfield 41, 3) := dk_180 0 41 (dk_at dksX3_findsRests_3 7 rfl rfl)
theorem dX3_findsRests_78 : decode cX3_findsRests 78 = .ok (.iload 4, 2) := dk_21 4 (dk_at dksX3_findsRests_3 10 rfl rfl)
theorem dX3_findsRests_80 : decode cX3_findsRests 80 = .ok (.aload_n 0, 1) := dk_42 (dk_at dksX3_findsRests_3 12 rfl rfl)
theorem dX3_findsRests_81 : decode cX3_findsRests 81 = .ok (.iload_n 3, 1) := dk_29 (dk_at dksX3_findsRests_3 13 rfl rfl)
theorem dX3_findsRests_82 : decode cX3_findsRests 82 = .ok (.iconst 1, 1) := dk_4 (dk_at dksX3_findsRests_3 14 rfl rfl)
theorem dX3_findsRests_83 : decode cX3_findsRests 83 = .ok (.invokevirtual 196, 3) := dk_182 0 196 (dk_at dksX3_findsRests_3 15 rfl rfl)
theorem dX3_findsRests_86 : decode cX3_findsRests 86 = .ok (.iastore, 1) := dk_79 (dk_at dksX3_findsRests_3 18 rfl rfl)
theorem dX3_findsRests_87 : decode cX3_findsRests 87 = .ok (.iinc 2 1, 3) := dk_132 2 1 (dk_at dksX3_findsRests_3 19 rfl rfl)
theorem dX3_findsRests_90 : decode cX3_findsRests 90 = .ok (.iinc 3 1, 3) := dk_132 3 1 (dk_at dksX3_findsRests_4 0 rfl rfl)
theorem dX3_findsRests_93 : decode cX3_findsRests 93 = .ok (.goto (-89), 3) := dk_167 255 167 (dk_at dksX3_findsRests_4 3 rfl rfl)
theorem dX3_findsRests_96 : decode cX3_findsRests 96 = .ok (.iload_n 2, 1) := dk_28 (dk_at dksX3_findsRests_4 6 rfl rfl)
theorem dX3_findsRests_97 : decode cX3_findsRests 97 = .ok (.ireturn, 1) := dk_172 (dk_at dksX3_findsRests_4 7 rfl rfl)
def dkwX3_meanLength_3 : List UInt8 := [3, 181, 0, 66, 42, 180, 0, 66, 158, 0, 7, 14, 167, 0, 8, 28, 135, 27, 135, 111, 175]
abbrev dktX3_meanLength_3 : List UInt8 := dkwX3_meanLength_3 ++ []
def dkwX3_meanLength_2 : List UInt8 := [182, 0, 199, 167, 0, 4, 3, 96, 61, 132, 3, 1, 167, 255, 204, 42, 27, 154, 0, 7, 4, 167, 0, 4]
abbrev dktX3_meanLength_2 : List UInt8 := dkwX3_meanLength_2 ++ dktX3_meanLength_3
def dkwX3_meanLength_1 : List UInt8 := [153, 0, 7, 4, 167, 0, 4, 3, 96, 60, 28, 42, 29, 6, 182, 0, 105, 153, 0, 11, 42, 29]
abbrev dktX3_meanLength_1 : List UInt8 := dkwX3_meanLength_1 ++ dktX3_meanLength_2
def dkwX3_meanLength_0 : List UInt8 := [3, 60, 3, 61, 3, 62, 29, 42, 180, 0, 7, 16, 101, 46, 162, 0, 47, 27, 42, 29, 6, 182, 0, 105]
abbrev dktX3_meanLength_0 : List UInt8 := dkwX3_meanLength_0 ++ dktX3_meanLength_1
theorem dksX3_meanLength_0 : cX3_meanLength.data.toList.drop 0 = dktX3_meanLength_0 := by decide +kernel
theorem dksX3_meanLength_1 : cX3_meanLength.data.toList.drop 24 = dktX3_meanLength_1 := dk_seg dksX3_meanLength_0 24 rfl rfl
theorem dksX3_meanLength_2 : cX3_meanLength.data.toList.drop 46 = dktX3_meanLength_2 := dk_seg dksX3_meanLength_1 22 rfl rfl
theorem dksX3_meanLength_3 : cX3_meanLength.data.toList.drop 70 = dktX3_meanLength_3 := dk_seg dksX3_meanLength_2 24 rfl rfl
theorem dX3_meanLength_0 : decode cX3_meanLength 0 = .ok (.iconst 0, 1) := dk_3 (dk_at dksX3_meanLength_0 0 rfl rfl)
theorem dX3_meanLength_1 : decode cX3_meanLength 1 = .ok (.istore_n 1, 1) := dk_60 (dk_at dksX3_meanLength_0 1 rfl rfl)
theorem dX3_meanLength_2 : decode cX3_meanLength 2 = .ok (.iconst 0, 1) := dk_3 (dk_at dksX3_meanLength_0 2 rfl rfl)
theorem dX3_meanLength_3 : decode cX3_meanLength 3 = .ok (.istore_n 2, 1) := dk_61 (dk_at dksX3_meanLength_0 3 rfl rfl)
theorem dX3_meanLength_4 : decode cX3_meanLength 4 = .ok (.iconst 0, 1) := dk_3 (dk_at dksX3_meanLength_0 4 rfl rfl)
theorem dX3_meanLength_5 : decode cX3_meanLength 5 = .ok (.istore_n 3, 1) := dk_62 (dk_at dksX3_meanLength_0 5 rfl rfl)
theorem dX3_meanLength_6 : decode cX3_meanLength 6 = .ok (.iload_n 3, 1) := dk_29 (dk_at dksX3_meanLength_0 6 rfl rfl)
theorem dX3_meanLength_7 : decode cX3_meanLength 7 = .ok (.aload_n 0, 1) := dk_42 (dk_at dksX3_meanLength_0 7 rfl rfl)
theorem dX3_meanLength_8 : decode cX3_meanLength 8 = .ok (.getfield 7, 3) := dk_180 0 7 (dk_at dksX3_meanLength_0 8 rfl rfl)
theorem dX3_meanLength_11 : decode cX3_meanLength 11 = .ok (.bipush 101, 2) := dk_16 101 (dk_at dksX3_meanLength_0 11 rfl rfl)
theorem dX3_meanLength_13 : decode cX3_meanLength 13 = .ok (.iaload, 1) := dk_46 (dk_at dksX3_meanLength_0 13 rfl rfl)
theorem dX3_meanLength_14 : decode cX3_meanLength 14 = .ok (.if_icmp .ge 47, 3) := dk_162 0 47 (dk_at dksX3_meanLength_0 14 rfl rfl)
theorem dX3_meanLength_17 : decode cX3_meanLength 17 = .ok (.iload_n 1, 1) := dk_27 (dk_at dksX3_meanLength_0 17 rfl rfl)
theorem dX3_meanLength_18 : decode cX3_meanLength 18 = .ok (.aload_n 0, 1) := dk_42 (dk_at dksX3_meanLength_0 18 rfl rfl)
theorem dX3_meanLength_19 : decode cX3_meanLength 19 = .ok (.iload_n 3, 1) := dk_29 (dk_at dksX3_meanLength_0 19 rfl rfl)
theorem dX3_meanLength_20 : decode cX3_meanLength 20 = .ok (.iconst 3, 1) := dk_6 (dk_at dksX3_meanLength_0 20 rfl rfl)
theorem dX3_meanLength_21 : decode cX3_meanLength 21 = .ok (.invokevirtual 105, 3) := dk_182 0 105 (dk_at dksX3_meanLength_0 21 rfl rfl)
theorem dX3_meanLength_24 : decode cX3_meanLength 24 = .ok (.ifCond .eq 7, 3) := dk_153 0 7 (dk_at dksX3_meanLength_1 0 rfl rfl)
theorem dX3_meanLength_27 : decode cX3_meanLength 27 = .ok (.iconst 1, 1) := dk_4 (dk_at dksX3_meanLength_1 3 rfl rfl)
theorem dX3_meanLength_28 : decode cX3_meanLength 28 = .ok (.goto 4, 3) := dk_167 0 4 (dk_at dksX3_meanLength_1 4 rfl rfl)
theorem dX3_meanLength_31 : decode cX3_meanLength 31 = .ok (.iconst 0, 1) := dk_3 (dk_at dksX3_meanLength_1 7 rfl rfl)
theorem dX3_meanLength_32 : decode cX3_meanLength 32 = .ok (.iadd, 1) := dk_96 (dk_at dksX3_meanLength_1 8 rfl rfl)
theorem dX3_meanLength_33 : decode cX3_meanLength 33 = .ok (.istore_n 1, 1) := dk_60 (dk_at dksX3_meanLength_1 9 rfl rfl)
theorem dX3_meanLength_34 : decode cX3_meanLength 34 = .ok (.iload_n 2, 1) := dk_28 (dk_at dksX3_meanLength_1 10 rfl rfl)
theorem dX3_meanLength_35 : decode cX3_meanLength 35 = .ok (.aload_n 0, 1) := dk_42 (dk_at dksX3_meanLength_1 11 rfl rfl)
theorem dX3_meanLength_36 : decode cX3_meanLength 36 = .ok (.iload_n 3, 1) := dk_29 (dk_at dksX3_meanLength_1 12 rfl rfl)
theorem dX3_meanLength_37 : decode cX3_meanLength 37 = .ok (.iconst 3, 1) := dk_6 (dk_at dksX3_meanLength_1 13 rfl rfl)
theorem dX3_meanLength_38 : decode cX3_meanLength 38 = .ok (.invokevirtual 105, 3) := dk_182 0 105 (dk_at dksX3_meanLength_1 14 rfl rfl)
theorem dX3_meanLength_41 : decode cX3_meanLength 41 = .ok (.ifCond .eq 11, 3) := dk_153 0 11 (dk_at dksX3_meanLength_1 17 rfl rfl)
theorem dX3_meanLength_44 : decode cX3_meanLength 44 = .ok (.aload_n 0, 1) := dk_42 (dk_at dksX3_meanLength_1 20 rfl rfl)
theorem dX3_meanLength_45 : decode cX3_meanLength 45 = .ok (.iload_n 3, 1) := dk_29 (dk_at dksX3_meanLength_1 21 rfl rfl)
theorem dX3_meanLength_46 : decode cX3_meanLength 46 = .ok (.invokevirtual 199, 3) := dk_182 0 199 (dk_at dksX3_meanLength_2 0 rfl rfl)
theorem dX3_meanLength_49 : decode cX3_meanLength 49 = .ok (.goto 4, 3) := dk_167 0 4 (dk_at dksX3_meanLength_2 3 rfl rfl)
theorem dX3_meanLength_52 : decode cX3_meanLength 52 = .ok (.iconst 0, 1) := dk_3 (dk_at dksX3_meanLength_2 6 rfl rfl)
theorem dX3_meanLength_53 : decode cX3_meanLength 53 = .ok (.iadd, 1) := dk_96 (dk_at dksX3_meanLength_2 7 rfl rfl)
theorem dX3_meanLength_54 : decode cX3_meanLength 54 = .ok (.istore_n 2, 1) := dk_61 (dk_at dksX3_meanLength_2 8 rfl rfl)
theorem dX3_meanLength_55 : decode cX3_meanLength 55 = .ok (.iinc 3 1, 3) := dk_132 3 1 (dk_at dksX3_meanLength_2 9 rfl rfl)
theorem dX3_meanLength_58 : decode cX3_meanLength 58 = .ok (.goto (-52), 3) := dk_167 255 204 (dk_at dksX3_meanLength_2 12 rfl rfl)
theorem dX3_meanLength_61 : decode cX3_meanLength 61 = .ok (.aload_n 0, 1) := dk_42 (dk_at dksX3_meanLength_2 15 rfl rfl)
theorem dX3_meanLength_62 : decode cX3_meanLength 62 = .ok (.iload_n 1, 1) := dk_27 (dk_at dksX3_meanLength_2 16 rfl rfl)
theorem dX3_meanLength_63 : decode cX3_meanLength 63 = .ok (.ifCond .ne 7, 3) := dk_154 0 7 (dk_at dksX3_meanLength_2 17 rfl rfl)
theorem dX3_meanLength_66 : decode cX3_meanLength 66 = .ok (.iconst 1, 1) := dk_4 (dk_at dksX3_meanLength_2 20 rfl rfl)
theorem dX3_meanLength_67 : decode cX3_meanLength 67 = .ok (.goto 4, 3) := dk_167 0 4 (dk_at dksX3_meanLength_2 21 rfl rfl)
theorem dX3_meanLength_70 : decode cX3_meanLength 70 = .ok (.iconst 0, 1) := dk_3 (dk_at dksX3_meanLength_3 0 rfl rfl)
theorem dX3_meanLength_71 : decode cX3_meanLength 71 = .ok (.putfield 66, 3) := dk_181 0 66 (dk_at dksX3_meanLength_3 1 rfl rfl)
theorem dX3_meanLength_74 : decode cX3_meanLength 74 = .ok (.aload_n 0, 1) := dk_42 (dk_at dksX3_meanLength_3 4 rfl rfl)
theorem dX3_meanLength_75 : decode cX3_meanLength 75 = .ok (.getfield 66, 3) := dk_180 0 66 (dk_at dksX3_meanLength_3 5 rfl rfl)
theorem dX3_meanLength_78 : decode cX3_meanLength 78 = .ok (.ifCond .le 7, 3) := dk_158 0 7 (dk_at dksX3_meanLength_3 8 rfl rfl)
theorem dX3_meanLength_81 : decode cX3_meanLength 81 = .ok (.dconst 0, 1) := dk_14 (dk_at dksX3_meanLength_3 11 rfl rfl)
theorem dX3_meanLength_82 : decode cX3_meanLength 82 = .ok (.goto 8, 3) := dk_167 0 8 (dk_at dksX3_meanLength_3 12 rfl rfl)
theorem dX3_meanLength_85 : decode cX3_meanLength 85 = .ok (.iload_n 2, 1) := dk_28 (dk_at dksX3_meanLength_3 15 rfl rfl)
theorem dX3_meanLength_86 : decode cX3_meanLength 86 = .ok (.i2d, 1) := dk_135 (dk_at dksX3_meanLength_3 16 rfl rfl)
theorem dX3_meanLength_87 : decode cX3_meanLength 87 = .ok (.iload_n 1, 1) := dk_27 (dk_at dksX3_meanLength_3 17 rfl rfl)
theorem dX3_meanLength_88 : decode cX3_meanLength 88 = .ok (.i2d, 1) := dk_135 (dk_at dksX3_meanLength_3 18 rfl rfl)
theorem dX3_meanLength_89 : decode cX3_meanLength 89 = .ok (.ddiv, 1) := dk_111 (dk_at dksX3_meanLength_3 19 rfl rfl)
theorem dX3_meanLength_90 : decode cX3_meanLength 90 = .ok (.dreturn, 1) := dk_175 (dk_at dksX3_meanLength_3 20 rfl rfl)
def dkwX3_isConsistent_5 : List UInt8 := [4, 167, 0, 4, 3, 172]
abbrev dktX3_isConsistent_5 : List UInt8 := dkwX3_isConsistent_5 ++ []
def dkwX3_isConsistent_4 : List UInt8 := [182, 0, 202, 42, 182, 0, 205, 96, 42, 180, 0, 7, 5, 46, 96, 42, 5, 2, 182, 0, 202, 160, 0, 7]
abbrev dktX3_isConsistent_4 : List UInt8 := dkwX3_isConsistent_4 ++ dktX3_isConsistent_5
def dkwX3_isConsistent_3 : List UInt8 := [182, 0, 130, 159, 0, 5, 3, 172, 132, 2, 1, 167, 255, 206, 132, 1, 1, 167, 255, 177, 42, 4, 2]
abbrev dktX3_isConsistent_3 : List UInt8 := dkwX3_isConsistent_3 ++ dktX3_isConsistent_4
def dkwX3_isConsistent_2 : List UInt8 := [182, 0, 105, 42, 27, 16, 14, 28, 96, 182, 0, 105, 182, 0, 139, 42, 42, 27, 3, 182, 0, 105]
abbrev dktX3_isConsistent_2 : List UInt8 := dkwX3_isConsistent_2 ++ dktX3_isConsistent_3
def dkwX3_isConsistent_1 : List UInt8 := [154, 0, 5, 3, 172, 3, 61, 28, 42, 27, 7, 182, 0, 105, 162, 0, 46, 42, 42, 27, 16, 7, 28, 96]
abbrev dktX3_isConsistent_1 : List UInt8 := dkwX3_isConsistent_1 ++ dktX3_isConsistent_2
def dkwX3_isConsistent_0 : List UInt8 := [42, 3, 181, 0, 66, 3, 60, 27, 42, 180, 0, 7, 16, 101, 46, 162, 0, 74, 42, 27, 182, 0, 218]
abbrev dktX3_isConsistent_0 : List UInt8 := dkwX3_isConsistent_0 ++ dktX3_isConsistent_1
theorem dksX3_isConsistent_0 : cX3_isConsistent.data.toList.drop 0 = dktX3_isConsistent_0 := by decide +kernel
theorem dksX3_isConsistent_1 : cX3_isConsistent.data.toList.drop 23 = dktX3_isConsistent_1 := dk_seg dksX3_isConsistent_0 23 rfl rfl
theorem dksX3_isConsistent_2 : cX3_isConsistent.data.toList.drop 47 = dktX3_isConsistent_2 := dk_seg dksX3_isConsistent_1 24 rfl rfl
theorem dksX3_isConsistent_3 : cX3_isConsistent.data.toList.drop 69 = dktX3_isConsistent_3 := dk_seg dksX3_isConsistent_2 22 rfl rfl
theorem dksX3_isConsistent_4 : cX3_isConsistent.data.toList.drop 92 = dktX3_isConsistent_4 := dk_seg dksX3_isConsistent_3 23 rfl rfl
theorem dksX3_isConsistent_5 : cX3_isConsistent.data.toList.drop 116 = dktX3_isConsistent_5 := dk_seg dksX3_isConsistent_4 24 rfl rfl
theorem dX3_isConsistent_0 : decode cX3_isConsistent 0 = .ok (.aload_n 0, 1) := dk_42 (dk_at dksX3_isConsistent_0 0 rfl rfl)
theorem dX3_isConsistent_1 : decode cX3_isConsistent 1 = .ok (.iconst 0, 1) := dk_3 (dk_at dksX3_isConsistent_0 1 rfl rfl)
theorem dX3_isConsistent_2 : decode cX3_isConsistent 2 = .ok (.putfield 66, 3) := dk_181 0 66 (dk_at dksX3_isConsistent_0 2 rfl rfl)
theorem dX3_isConsistent_5 : decode cX3_isConsistent 5 = .ok (.iconst 0, 1) := dk_3 (dk_at dksX3_isConsistent_0 5 rfl rfl)
theorem dX3_isConsistent_6 : decode cX3_isConsistent 6 = .ok (.istore_n 1, 1) := dk_60 (dk_at dksX3_isConsistent_0 6 rfl rfl)
theorem dX3_isConsistent_7 : decode cX3_isConsistent 7 = .ok (.iload_n 1, 1) := dk_27 (dk_at dksX3_isConsistent_0 7 rfl rfl)
theorem dX3_isConsistent_8 : decode cX3_isConsistent 8 = .ok (.aload_n 0, 1) := dk_42 (dk_at dksX3_isConsistent_0 8 rfl rfl)
theorem dX3_isConsistent_9 : decode cX3_isConsistent 9 = .ok (.getfield 7, 3) := dk_180 0 7 (dk_at dksX3_isConsistent_0 9 rfl rfl)
theorem dX3_isConsistent_12 : decode cX3_isConsistent 12 = .ok (.bipush 101, 2) := dk_16 101 (dk_at dksX3_isConsistent_0 12 rfl rfl)
theorem dX3_isConsistent_14 : decode cX3_isConsistent 14 = .ok (.iaload, 1) := dk_46 (dk_at dksX3_isConsistent_0 14 rfl rfl)
theorem dX3_isConsistent_15 : decode cX3_isConsistent 15 = .ok (.if_icmp .ge 74, 3) := dk_162 0 74 (dk_at dksX3_isConsistent_0 15 rfl rfl)
theorem dX3_isConsistent_18 : decode cX3_isConsistent 18 = .ok (.aload_n 0, 1) := dk_42 (dk_at dksX3_isConsistent_0 18 rfl rfl)
theorem dX3_isConsistent_19 : decode cX3_isConsistent 19 = .ok (.iload_n 1, 1) := dk_27 (dk_at dksX3_isConsistent_0 19 rfl rfl)
theorem dX3_isConsistent_20 : decode cX3_isConsistent 20 = .ok (.invokevirtual 218, 3) := dk_182 0 218 (dk_at dksX3_isConsistent_0 20 rfl rfl)
theorem dX3_isConsistent_23 : decode cX3_isConsistent 23 = .ok (.ifCond .ne 5, 3) := dk_154 0 5 (dk_at dksX3_isConsistent_1 0 rfl rfl)
theorem dX3_isConsistent_26 : decode cX3_isConsistent 26 = .ok (.iconst 0, 1) := dk_3 (dk_at dksX3_isConsistent_1 3 rfl rfl)
theorem dX3_isConsistent_27 : decode cX3_isConsistent 27 = .ok (.ireturn, 1) := dk_172 (dk_at dksX3_isConsistent_1 4 rfl rfl)
theorem dX3_isConsistent_28 : decode cX3_isConsistent 28 = .ok (.iconst 0, 1) := dk_3 (dk_at dksX3_isConsistent_1 5 rfl rfl)
theorem dX3_isConsistent_29 : decode cX3_isConsistent 29 = .ok (.istore_n 2, 1) := dk_61 (dk_at dksX3_isConsistent_1 6 rfl rfl)
theorem dX3_isConsistent_30 : decode cX3_isConsistent 30 = .ok (.iload_n 2, 1) := dk_28 (dk_at dksX3_isConsistent_1 7 rfl rfl)
theorem dX3_isConsistent_31 : decode cX3_isConsistent 31 = .ok (.aload_n 0, 1) := dk_42 (dk_at dksX3_isConsistent_1 8 rfl rfl)
theorem dX3_isConsistent_32 : decode cX3_isConsistent 32 = .ok (.iload_n 1, 1) := dk_27 (dk_at dksX3_isConsistent_1 9 rfl rfl)
theorem dX3_isConsistent_33 : decode cX3_isConsistent 33 = .ok (.iconst 4, 1) := dk_7 (dk_at dksX3_isConsistent_1 10 rfl rfl)
theorem dX3_isConsistent_34 : decode cX3_isConsistent 34 = .ok (.invokevirtual 105, 3) := dk_182 0 105 (dk_at dksX3_isConsistent_1 11 rfl rfl)
theorem dX3_isConsistent_37 : decode cX3_isConsistent 37 = .ok (.if_icmp .ge 46, 3) := dk_162 0 46 (dk_at dksX3_isConsistent_1 14 rfl rfl)
theorem dX3_isConsistent_40 : decode cX3_isConsistent 40 = .ok (.aload_n 0, 1) := dk_42 (dk_at dksX3_isConsistent_1 17 rfl rfl)
theorem dX3_isConsistent_41 : decode cX3_isConsistent 41 = .ok (.aload_n 0, 1) := dk_42 (dk_at dksX3_isConsistent_1 18 rfl rfl)
theorem dX3_isConsistent_42 : decode cX3_isConsistent 42 = .ok (.iload_n 1, 1) := dk_27 (dk_at dksX3_isConsistent_1 19 rfl rfl)
theorem dX3_isConsistent_43 : decode cX3_isConsistent 43 = .ok (.bipush 7, 2) := dk_16 7 (dk_at dksX3_isConsistent_1 20 rfl rfl)
theorem dX3_isConsistent_45 : decode cX3_isConsistent 45 = .ok (.iload_n 2, 1) := dk_28 (dk_at dksX3_isConsistent_1 22 rfl rfl)
theorem dX3_isConsistent_46 : decode cX3_isConsistent 46 = .ok (.iadd, 1) := dk_96 (dk_at dksX3_isConsistent_1 23 rfl rfl)
theorem dX3_isConsistent_47 : decode cX3_isConsistent 47 = .ok (.invokevirtual 105, 3) := dk_182 0 105 (dk_at dksX3_isConsistent_2 0 rfl rfl)
theorem dX3_isConsistent_50 : decode cX3_isConsistent 50 = .ok (.aload_n 0, 1) := dk_42 (dk_at dksX3_isConsistent_2 3 rfl rfl)
theorem dX3_isConsistent_51 : decode cX3_isConsistent 51 = .ok (.iload_n 1, 1) := dk_27 (dk_at dksX3_isConsistent_2 4 rfl rfl)
theorem dX3_isConsistent_52 : decode cX3_isConsistent 52 = .ok (.bipush 14, 2) := dk_16 14 (dk_at dksX3_isConsistent_2 5 rfl rfl)
theorem dX3_isConsistent_54 : decode cX3_isConsistent 54 = .ok (.iload_n 2, 1) := dk_28 (dk_at dksX3_isConsistent_2 7 rfl rfl)
theorem dX3_isConsistent_55 : decode cX3_isConsistent 55 = .ok (.iadd, 1) := dk_96 (dk_at dksX3_isConsistent_2 8 rfl rfl)
theorem dX3_isConsistent_56 : decode cX3_isConsistent 56 = .ok (.invokevirtual 105, 3) := dk_182 0 105 (dk_at dksX3_isConsistent_2 9 rfl rfl)
theorem dX3_isConsistent_59 : decode cX3_isConsistent 59 = .ok (.invokevirtual 139, 3) := dk_182 0 139 (dk_at dksX3_isConsistent_2 12 rfl rfl)
theorem dX3_isConsistent_62 : decode cX3_isConsistent 62 = .ok (.aload_n 0, 1) := dk_42 (dk_at dksX3_isConsistent_2 15 rfl rfl)
theorem dX3_isConsistent_63 : decode cX3_isConsistent 63 = .ok (.aload_n 0, 1) := dk_42 (dk_at dksX3_isConsistent_2 16 rfl rfl)
theorem dX3_isConsistent_64 : decode cX3_isConsistent 64 = .ok (.iload_n 1, 1) := dk_27 (dk_at dksX3_isConsistent_2 17 rfl rfl)
theorem dX3_isConsistent_65 : decode cX3_isConsistent 65 = .ok (.iconst 0, 1) := dk_3 (dk_at dksX3_isConsistent_2 18 rfl rfl)
theorem dX3_isConsistent_66 : decode cX3_isConsistent 66 = .ok (.invokevirtual 105, 3) := dk_182 0 105 (dk_at dksX3_isConsistent_2 19 rfl rfl)
theorem dX3_isConsistent_69 : decode cX3_isConsistent 69 = .ok (.invokevirtual 130, 3) := dk_182 0 130 (dk_at dksX3_isConsistent_3 0 rfl rfl)
theorem dX3_isConsistent_72 : decode cX3_isConsistent 72 = .ok (.if_icmp .eq 5, 3) := dk_159 0 5 (dk_at dksX3_isConsistent_3 3 rfl rfl)
theorem dX3_isConsistent_75 : decode cX3_isConsistent 75 = .ok (.iconst 0, 1) := dk_3 (dk_at dksX3_isConsistent_3 6 rfl rfl)
theorem dX3_isConsistent_76 : decode cX3_isConsistent 76 = .ok (.ireturn, 1) := dk_172 (dk_at dksX3_isConsistent_3 7 rfl rfl)
theorem dX3_isConsistent_77 : decode cX3_isConsistent 77 = .ok (.iinc 2 1, 3) := dk_132 2 1 (dk_at dksX3_isConsistent_3 8 rfl rfl)
theorem dX3_isConsistent_80 : decode cX3_isConsistent 80 = .ok (.goto (-50), 3) := dk_167 255 206 (dk_at dksX3_isConsistent_3 11 rfl rfl)
theorem dX3_isConsistent_83 : decode cX3_isConsistent 83 = .ok (.iinc 1 1, 3) := dk_132 1 1 (dk_at dksX3_isConsistent_3 14 rfl rfl)
theorem dX3_isConsistent_86 : decode cX3_isConsistent 86 = .ok (.goto (-79), 3) := dk_167 255 177 (dk_at dksX3_isConsistent_3 17 rfl rfl)
theorem dX3_isConsistent_89 : decode cX3_isConsistent 89 = .ok (.aload_n 0, 1) := dk_42 (dk_at dksX3_isConsistent_3 20 rfl rfl)
theorem dX3_isConsistent_90 : decode cX3_isConsistent 90 = .ok (.iconst 1, 1) := dk_4 (dk_at dksX3_isConsistent_3 21 rfl rfl)
theorem dX3_isConsistent_91 : decode cX3_isConsistent 91 = .ok (.iconst (-1), 1) := dk_2 (dk_at dksX3_isConsistent_3 22 rfl rfl)
theorem dX3_isConsistent_92 : decode cX3_isConsistent 92 = .ok (.invokevirtual 202, 3) := dk_182 0 202 (dk_at dksX3_isConsistent_4 0 rfl rfl)
theorem dX3_isConsistent_95 : decode cX3_isConsistent 95 = .ok (.aload_n 0, 1) := dk_42 (dk_at dksX3_isConsistent_4 3 rfl rfl)
theorem dX3_isConsistent_96 : decode cX3_isConsistent 96 = .ok (.invokevirtual 205, 3) := dk_182 0 205 (dk_at dksX3_isConsistent_4 4 rfl rfl)
theorem dX3_isConsistent_99 : decode cX3_isConsistent 99 = .ok (.iadd, 1) := dk_96 (dk_at dksX3_isConsistent_4 7 rfl rfl)
theorem dX3_isConsistent_100 : decode cX3_isConsistent 100 = .ok (.aload_n 0, 1) := dk_42 (dk_at dksX3_isConsistent_4 8 rfl rfl)
theorem dX3_isConsistent_101 : decode cX3_isConsistent 101 = .ok (.getfield 7, 3) := dk_180 0 7 (dk_at dksX3_isConsistent_4 9 rfl rfl)
theorem dX3_isConsistent_104 : decode cX3_isConsistent 104 = .ok (.iconst 2, 1) := dk_5 (dk_at dksX3_isConsistent_4 12 rfl rfl)
theorem dX3_isConsistent_105 : decode cX3_isConsistent 105 = .ok (.iaload, 1) := dk_46 (dk_at dksX3_isConsistent_4 13 rfl rfl)
theorem dX3_isConsistent_106 : decode cX3_isConsistent 106 = .ok (.iadd, 1) := dk_96 (dk_at dksX3_isConsistent_4 14 rfl rfl)
theorem dX3_isConsistent_107 : decode cX3_isConsistent 107 = .ok (.aload_n 0, 1) := dk_42 (dk_at dksX3_isConsistent_4 15 rfl rfl)
theorem dX3_isConsistent_108 : decode cX3_isConsistent 108 = .ok (.iconst 2, 1) := dk_5 (dk_at dksX3_isConsistent_4 16 rfl rfl)
theorem dX3_isConsistent_109 : decode cX3_isConsistent 109 = .ok (.iconst (-1), 1) := dk_2 (dk_at dksX3_isConsistent_4 17 rfl rfl)
theorem dX3_isConsistent_110 : decode cX3_isConsistent 110 = .ok (.invokevirtual 202, 3) := dk_182 0 202 (dk_at dksX3_isConsistent_4 18 rfl rfl)
theorem dX3_isConsistent_113 : decode cX3_isConsistent 113 = .ok (.if_icmp .ne 7, 3) := dk_160 0 7 (dk_at dksX3_isConsistent_4 21 rfl rfl)
theorem dX3_isConsistent_116 : decode cX3_isConsistent 116 = .ok (.iconst 1, 1) := dk_4 (dk_at dksX3_isConsistent_5 0 rfl rfl)
theorem dX3_isConsistent_117 : decode cX3_isConsistent 117 = .ok (.goto 4, 3) := dk_167 0 4 (dk_at dksX3_isConsistent_5 1 rfl rfl)
theorem dX3_isConsistent_120 : decode cX3_isConsistent 120 = .ok (.iconst 0, 1) := dk_3 (dk_at dksX3_isConsistent_5 4 rfl rfl)
theorem dX3_isConsistent_121 : decode cX3_isConsistent 121 = .ok (.ireturn, 1) := dk_172 (dk_at dksX3_isConsistent_5 5 rfl rfl)
def dkwX3_leadsOn_3 : List UInt8 := [182, 0, 105, 160, 0, 7, 4, 167, 0, 4, 3, 172]
abbrev dktX3_leadsOn_3 : List UInt8 := dkwX3_leadsOn_3 ++ []
def dkwX3_leadsOn_2 : List UInt8 := [28, 182, 0, 161, 61, 132, 3, 1, 167, 255, 209, 42, 27, 6, 182, 0, 105, 153, 0, 13, 28, 42, 27, 5]
abbrev dktX3_leadsOn_2 : List UInt8 := dkwX3_leadsOn_2 ++ dktX3_leadsOn_3
def dkwX3_leadsOn_1 : List UInt8 := [29, 96, 182, 0, 105, 28, 182, 0, 157, 154, 0, 5, 3, 172, 42, 42, 27, 16, 7, 29, 96, 182, 0, 105]
abbrev dktX3_leadsOn_1 : List UInt8 := dkwX3_leadsOn_1 ++ dktX3_leadsOn_2
def dkwX3_leadsOn_0 : List UInt8 := [42, 27, 4, 182, 0, 105, 61, 3, 62, 29, 42, 27, 7, 182, 0, 105, 162, 0, 43, 42, 42, 27, 16, 7]
abbrev dktX3_leadsOn_0 : List UInt8 := dkwX3_leadsOn_0 ++ dktX3_leadsOn_1
theorem dksX3_leadsOn_0 : cX3_leadsOn.data.toList.drop 0 = dktX3_leadsOn_0 := by decide +kernel
theorem dksX3_leadsOn_1 : cX3_leadsOn.data.toList.drop 24 = dktX3_leadsOn_1 := dk_seg dksX3_leadsOn_0 24 rfl rfl
theorem dksX3_leadsOn_2 : cX3_leadsOn.data.toList.drop 48 = dktX3_leadsOn_2 := dk_seg dksX3_leadsOn_1 24 rfl rfl
theorem dksX3_leadsOn_3 : cX3_leadsOn.data.toList.drop 72 = dktX3_leadsOn_3 := dk_seg dksX3_leadsOn_2 24 rfl rfl
theorem dX3_leadsOn_0 : decode cX3_leadsOn 0 = .ok (.aload_n 0, 1) := dk_42 (dk_at dksX3_leadsOn_0 0 rfl rfl)
theorem dX3_leadsOn_1 : decode cX3_leadsOn 1 = .ok (.iload_n 1, 1) := dk_27 (dk_at dksX3_leadsOn_0 1 rfl rfl)
theorem dX3_leadsOn_2 : decode cX3_leadsOn 2 = .ok (.iconst 1, 1) := dk_4 (dk_at dksX3_leadsOn_0 2 rfl rfl)
theorem dX3_leadsOn_3 : decode cX3_leadsOn 3 = .ok (.invokevirtual 105, 3) := dk_182 0 105 (dk_at dksX3_leadsOn_0 3 rfl rfl)
theorem dX3_leadsOn_6 : decode cX3_leadsOn 6 = .ok (.istore_n 2, 1) := dk_61 (dk_at dksX3_leadsOn_0 6 rfl rfl)
theorem dX3_leadsOn_7 : decode cX3_leadsOn 7 = .ok (.iconst 0, 1) := dk_3 (dk_at dksX3_leadsOn_0 7 rfl rfl)
theorem dX3_leadsOn_8 : decode cX3_leadsOn 8 = .ok (.istore_n 3, 1) := dk_62 (dk_at dksX3_leadsOn_0 8 rfl rfl)
theorem dX3_leadsOn_9 : decode cX3_leadsOn 9 = .ok (.iload_n 3, 1) := dk_29 (dk_at dksX3_leadsOn_0 9 rfl rfl)
theorem dX3_leadsOn_10 : decode cX3_leadsOn 10 = .ok (.aload_n 0, 1) := dk_42 (dk_at dksX3_leadsOn_0 10 rfl rfl)
theorem dX3_leadsOn_11 : decode cX3_leadsOn 11 = .ok (.iload_n 1, 1) := dk_27 (dk_at dksX3_leadsOn_0 11 rfl rfl)
theorem dX3_leadsOn_12 : decode cX3_leadsOn 12 = .ok (.iconst 4, 1) := dk_7 (dk_at dksX3_leadsOn_0 12 rfl rfl)
theorem dX3_leadsOn_13 : decode cX3_leadsOn 13 = .ok (.invokevirtual 105, 3) := dk_182 0 105 (dk_at dksX3_leadsOn_0 13 rfl rfl)
theorem dX3_leadsOn_16 : decode cX3_leadsOn 16 = .ok (.if_icmp .ge 43, 3) := dk_162 0 43 (dk_at dksX3_leadsOn_0 16 rfl rfl)
theorem dX3_leadsOn_19 : decode cX3_leadsOn 19 = .ok (.aload_n 0, 1) := dk_42 (dk_at dksX3_leadsOn_0 19 rfl rfl)
theorem dX3_leadsOn_20 : decode cX3_leadsOn 20 = .ok (.aload_n 0, 1) := dk_42 (dk_at dksX3_leadsOn_0 20 rfl rfl)
theorem dX3_leadsOn_21 : decode cX3_leadsOn 21 = .ok (.iload_n 1, 1) := dk_27 (dk_at dksX3_leadsOn_0 21 rfl rfl)
theorem dX3_leadsOn_22 : decode cX3_leadsOn 22 = .ok (.bipush 7, 2) := dk_16 7 (dk_at dksX3_leadsOn_0 22 rfl rfl)
theorem dX3_leadsOn_24 : decode cX3_leadsOn 24 = .ok (.iload_n 3, 1) := dk_29 (dk_at dksX3_leadsOn_1 0 rfl rfl)
theorem dX3_leadsOn_25 : decode cX3_leadsOn 25 = .ok (.iadd, 1) := dk_96 (dk_at dksX3_leadsOn_1 1 rfl rfl)
theorem dX3_leadsOn_26 : decode cX3_leadsOn 26 = .ok (.invokevirtual 105, 3) := dk_182 0 105 (dk_at dksX3_leadsOn_1 2 rfl rfl)
theorem dX3_leadsOn_29 : decode cX3_leadsOn 29 = .ok (.iload_n 2, 1) := dk_28 (dk_at dksX3_leadsOn_1 5 rfl rfl)
theorem dX3_leadsOn_30 : decode cX3_leadsOn 30 = .ok (.invokevirtual 157, 3) := dk_182 0 157 (dk_at dksX3_leadsOn_1 6 rfl rfl)
theorem dX3_leadsOn_33 : decode cX3_leadsOn 33 = .ok (.ifCond .ne 5, 3) := dk_154 0 5 (dk_at dksX3_leadsOn_1 9 rfl rfl)
theorem dX3_leadsOn_36 : decode cX3_leadsOn 36 = .ok (.iconst 0, 1) := dk_3 (dk_at dksX3_leadsOn_1 12 rfl rfl)
theorem dX3_leadsOn_37 : decode cX3_leadsOn 37 = .ok (.ireturn, 1) := dk_172 (dk_at dksX3_leadsOn_1 13 rfl rfl)
theorem dX3_leadsOn_38 : decode cX3_leadsOn 38 = .ok (.aload_n 0, 1) := dk_42 (dk_at dksX3_leadsOn_1 14 rfl rfl)
theorem dX3_leadsOn_39 : decode cX3_leadsOn 39 = .ok (.aload_n 0, 1) := dk_42 (dk_at dksX3_leadsOn_1 15 rfl rfl)
theorem dX3_leadsOn_40 : decode cX3_leadsOn 40 = .ok (.iload_n 1, 1) := dk_27 (dk_at dksX3_leadsOn_1 16 rfl rfl)
theorem dX3_leadsOn_41 : decode cX3_leadsOn 41 = .ok (.bipush 7, 2) := dk_16 7 (dk_at dksX3_leadsOn_1 17 rfl rfl)
theorem dX3_leadsOn_43 : decode cX3_leadsOn 43 = .ok (.iload_n 3, 1) := dk_29 (dk_at dksX3_leadsOn_1 19 rfl rfl)
theorem dX3_leadsOn_44 : decode cX3_leadsOn 44 = .ok (.iadd, 1) := dk_96 (dk_at dksX3_leadsOn_1 20 rfl rfl)
theorem dX3_leadsOn_45 : decode cX3_leadsOn 45 = .ok (.invokevirtual 105, 3) := dk_182 0 105 (dk_at dksX3_leadsOn_1 21 rfl rfl)
theorem dX3_leadsOn_48 : decode cX3_leadsOn 48 = .ok (.iload_n 2, 1) := dk_28 (dk_at dksX3_leadsOn_2 0 rfl rfl)
theorem dX3_leadsOn_49 : decode cX3_leadsOn 49 = .ok (.invokevirtual 161, 3) := dk_182 0 161 (dk_at dksX3_leadsOn_2 1 rfl rfl)
theorem dX3_leadsOn_52 : decode cX3_leadsOn 52 = .ok (.istore_n 2, 1) := dk_61 (dk_at dksX3_leadsOn_2 4 rfl rfl)
theorem dX3_leadsOn_53 : decode cX3_leadsOn 53 = .ok (.iinc 3 1, 3) := dk_132 3 1 (dk_at dksX3_leadsOn_2 5 rfl rfl)
theorem dX3_leadsOn_56 : decode cX3_leadsOn 56 = .ok (.goto (-47), 3) := dk_167 255 209 (dk_at dksX3_leadsOn_2 8 rfl rfl)
theorem dX3_leadsOn_59 : decode cX3_leadsOn 59 = .ok (.aload_n 0, 1) := dk_42 (dk_at dksX3_leadsOn_2 11 rfl rfl)
theorem dX3_leadsOn_60 : decode cX3_leadsOn 60 = .ok (.iload_n 1, 1) := dk_27 (dk_at dksX3_leadsOn_2 12 rfl rfl)
theorem dX3_leadsOn_61 : decode cX3_leadsOn 61 = .ok (.iconst 3, 1) := dk_6 (dk_at dksX3_leadsOn_2 13 rfl rfl)
theorem dX3_leadsOn_62 : decode cX3_leadsOn 62 = .ok (.invokevirtual 105, 3) := dk_182 0 105 (dk_at dksX3_leadsOn_2 14 rfl rfl)
theorem dX3_leadsOn_65 : decode cX3_leadsOn 65 = .ok (.ifCond .eq 13, 3) := dk_153 0 13 (dk_at dksX3_leadsOn_2 17 rfl rfl)
theorem dX3_leadsOn_68 : decode cX3_leadsOn 68 = .ok (.iload_n 2, 1) := dk_28 (dk_at dksX3_leadsOn_2 20 rfl rfl)
theorem dX3_leadsOn_69 : decode cX3_leadsOn 69 = .ok (.aload_n 0, 1) := dk_42 (dk_at dksX3_leadsOn_2 21 rfl rfl)
theorem dX3_leadsOn_70 : decode cX3_leadsOn 70 = .ok (.iload_n 1, 1) := dk_27 (dk_at dksX3_leadsOn_2 22 rfl rfl)
theorem dX3_leadsOn_71 : decode cX3_leadsOn 71 = .ok (.iconst 2, 1) := dk_5 (dk_at dksX3_leadsOn_2 23 rfl rfl)
theorem dX3_leadsOn_72 : decode cX3_leadsOn 72 = .ok (.invokevirtual 105, 3) := dk_182 0 105 (dk_at dksX3_leadsOn_3 0 rfl rfl)
theorem dX3_leadsOn_75 : decode cX3_leadsOn 75 = .ok (.if_icmp .ne 7, 3) := dk_160 0 7 (dk_at dksX3_leadsOn_3 3 rfl rfl)
theorem dX3_leadsOn_78 : decode cX3_leadsOn 78 = .ok (.iconst 1, 1) := dk_4 (dk_at dksX3_leadsOn_3 6 rfl rfl)
theorem dX3_leadsOn_79 : decode cX3_leadsOn 79 = .ok (.goto 4, 3) := dk_167 0 4 (dk_at dksX3_leadsOn_3 7 rfl rfl)
theorem dX3_leadsOn_82 : decode cX3_leadsOn 82 = .ok (.iconst 0, 1) := dk_3 (dk_at dksX3_leadsOn_3 10 rfl rfl)
theorem dX3_leadsOn_83 : decode cX3_leadsOn 83 = .ok (.ireturn, 1) := dk_172 (dk_at dksX3_leadsOn_3 11 rfl rfl)
def dkwX3_append_7 : List UInt8 := [3, 167, 0, 7, 42, 180, 0, 209, 172]
abbrev dktX3_append_7 : List UInt8 := dkwX3_append_7 ++ []
def dkwX3_append_6 : List UInt8 := [79, 42, 89, 180, 0, 209, 4, 96, 181, 0, 209, 132, 3, 248, 167, 255, 207, 42, 180, 0, 66, 158, 0, 7]
abbrev dktX3_append_6 : List UInt8 := dkwX3_append_6 ++ dktX3_append_7
def dkwX3_append_5 : List UInt8 := [27, 29, 124, 17, 0, 255, 126, 54, 4, 21, 4, 153, 0, 24, 42, 180, 0, 50, 42, 180, 0, 209, 21, 4]
abbrev dktX3_append_5 : List UInt8 := dkwX3_append_5 ++ dktX3_append_6
def dkwX3_append_4 : List UInt8 := [167, 0, 7, 42, 180, 0, 66, 181, 0, 66, 16, 24, 62, 29, 155, 0, 51, 42, 180, 0, 66, 154, 0, 44]
abbrev dktX3_append_4 : List UInt8 := dkwX3_append_4 ++ dktX3_append_5
def dkwX3_append_3 : List UInt8 := [167, 255, 198, 42, 42, 180, 0, 66, 154, 0, 18, 42, 180, 0, 209, 28, 96, 16, 60, 164, 0, 7, 5]
abbrev dktX3_append_3 : List UInt8 := dkwX3_append_3 ++ dktX3_append_4
def dkwX3_append_2 : List UInt8 := [180, 0, 66, 181, 0, 66, 28, 21, 4, 153, 0, 7, 4, 167, 0, 4, 3, 96, 61, 132, 3, 248]
abbrev dktX3_append_2 : List UInt8 := dkwX3_append_2 ++ dktX3_append_3
def dkwX3_append_1 : List UInt8 := [21, 4, 153, 0, 19, 21, 4, 16, 32, 16, 126, 184, 0, 90, 154, 0, 7, 4, 167, 0, 7, 42]
abbrev dktX3_append_1 : List UInt8 := dkwX3_append_1 ++ dktX3_append_2
def dkwX3_append_0 : List UInt8 := [42, 3, 181, 0, 66, 3, 61, 16, 24, 62, 29, 155, 0, 60, 27, 29, 124, 17, 0, 255, 126, 54, 4, 42]
abbrev dktX3_append_0 : List UInt8 := dkwX3_append_0 ++ dktX3_append_1
theorem dksX3_append_0 : cX3_append.data.toList.drop 0 = dktX3_append_0 := by decide +kernel
theorem dksX3_append_1 : cX3_append.data.toList.drop 24 = dktX3_append_1 := dk_seg dksX3_append_0 24 rfl rfl
theorem dksX3_append_2 : cX3_append.data.toList.drop 46 = dktX3_append_2 := dk_seg dksX3_append_1 22 rfl rfl
theorem dksX3_append_3 : cX3_append.data.toList.drop 68 = dktX3_append_3 := dk_seg dksX3_append_2 22 rfl rfl
theorem dksX3_append_4 : cX3_append.data.toList.drop 91 = dktX3_append_4 := dk_seg dksX3_append_3 23 rfl rfl
theorem dksX3_append_5 : cX3_append.data.toList.drop 115 = dktX3_append_5 := dk_seg dksX3_append_4 24 rfl rfl
theorem dksX3_append_6 : cX3_append.data.toList.drop 139 = dktX3_append_6 := dk_seg dksX3_append_5 24 rfl rfl
theorem dksX3_append_7 : cX3_append.data.toList.drop 163 = dktX3_append_7 := dk_seg dksX3_append_6 24 rfl rfl
theorem dX3_append_0 : decode cX3_append 0 = .ok (.aload_n 0, 1) := dk_42 (dk_at dksX3_append_0 0 rfl rfl)
theorem dX3_append_1 : decode cX3_append 1 = .ok (.iconst 0, 1) := dk_3 (dk_at dksX3_append_0 1 rfl rfl)
theorem dX3_append_2 : decode cX3_append 2 = .ok (.putfield 66, 3) := dk_181 0 66 (dk_at dksX3_append_0 2 rfl rfl)
theorem dX3_append_5 : decode cX3_append 5 = .ok (.iconst 0, 1) := dk_3 (dk_at dksX3_append_0 5 rfl rfl)
theorem dX3_append_6 : decode cX3_append 6 = .ok (.istore_n 2, 1) := dk_61 (dk_at dksX3_append_0 6 rfl rfl)
theorem dX3_append_7 : decode cX3_append 7 = .ok (.bipush 24, 2) := dk_16 24 (dk_at dksX3_append_0 7 rfl rfl)
theorem dX3_append_9 : decode cX3_append 9 = .ok (.istore_n 3, 1) := dk_62 (dk_at dksX3_append_0 9 rfl rfl)
theorem dX3_append_10 : decode cX3_append 10 = .ok (.iload_n 3, 1) := dk_29 (dk_at dksX3_append_0 10 rfl rfl)
theorem dX3_append_11 : decode cX3_append 11 = .ok (.ifCond .lt 60, 3) := dk_155 0 60 (dk_at dksX3_append_0 11 rfl rfl)
theorem dX3_append_14 : decode cX3_append 14 = .ok (.iload_n 1, 1) := dk_27 (dk_at dksX3_append_0 14 rfl rfl)
theorem dX3_append_15 : decode cX3_append 15 = .ok (.iload_n 3, 1) := dk_29 (dk_at dksX3_append_0 15 rfl rfl)
theorem dX3_append_16 : decode cX3_append 16 = .ok (.iushr, 1) := dk_124 (dk_at dksX3_append_0 16 rfl rfl)
theorem dX3_append_17 : decode cX3_append 17 = .ok (.sipush 255, 3) := dk_17 0 255 (dk_at dksX3_append_0 17 rfl rfl)
theorem dX3_append_20 : decode cX3_append 20 = .ok (.iand, 1) := dk_126 (dk_at dksX3_append_0 20 rfl rfl)
theorem dX3_append_21 : decode cX3_append 21 = .ok (.istore 4, 2) := dk_54 4 (dk_at dksX3_append_0 21 rfl rfl)
theorem dX3_append_23 : decode cX3_append 23 = .ok (.aload_n 0, 1) := dk_42 (dk_at dksX3_append_0 23 rfl rfl)
theorem dX3_append_24 : decode cX3_append 24 = .ok (.iload 4, 2) := dk_21 4 (dk_at dksX3_append_1 0 rfl rfl)
theorem dX3_append_26 : decode cX3_append 26 = .ok (.ifCond .eq 19, 3) := dk_153 0 19 (dk_at dksX3_append_1 2 rfl rfl)
theorem dX3_append_29 : decode cX3_append 29 = .ok (.iload 4, 2) := dk_21 4 (dk_at dksX3_append_1 5 rfl rfl)
theorem dX3_append_31 : decode cX3_append 31 = .ok (.bipush 32, 2) := dk_16 32 (dk_at dksX3_append_1 7 rfl rfl)
theorem dX3_append_33 : decode cX3_append 33 = .ok (.bipush 126, 2) := dk_16 126 (dk_at dksX3_append_1 9 rfl rfl)
theorem dX3_append_35 : decode cX3_append 35 = .ok (.invokestatic 90, 3) := dk_184 0 90 (dk_at dksX3_append_1 11 rfl rfl)
theorem dX3_append_38 : decode cX3_append 38 = .ok (.ifCond .ne 7, 3) := dk_154 0 7 (dk_at dksX3_append_1 14 rfl rfl)
theorem dX3_append_41 : decode cX3_append 41 = .ok (.iconst 1, 1) := dk_4 (dk_at dksX3_append_1 17 rfl rfl)
theorem dX3_append_42 : decode cX3_append 42 = .ok (.goto 7, 3) := dk_167 0 7 (dk_at dksX3_append_1 18 rfl rfl)
theorem dX3_append_45 : decode cX3_append 45 = .ok (.aload_n 0, 1) := dk_42 (dk_at dksX3_append_1 21 rfl rfl)
theorem dX3_append_46 : decode cX3_append 46 = .ok (.getfield 66, 3) := dk_180 0 66 (dk_at dksX3_append_2 0 rfl rfl)
theorem dX3_append_49 : decode cX3_append 49 = .ok (.putfield 66, 3) := dk_181 0 66 (dk_at dksX3_append_2 3 rfl rfl)
theorem dX3_append_52 : decode cX3_append 52 = .ok (.iload_n 2, 1) := dk_28 (dk_at dksX3_append_2 6 rfl rfl)
theorem dX3_append_53 : decode cX3_append 53 = .ok (.iload 4, 2) := dk_21 4 (dk_at dksX3_append_2 7 rfl rfl)
theorem dX3_append_55 : decode cX3_append 55 = .ok (.ifCond .eq 7, 3) := dk_153 0 7 (dk_at dksX3_append_2 9 rfl rfl)
theorem dX3_append_58 : decode cX3_append 58 = .ok (.iconst 1, 1) := dk_4 (dk_at dksX3_append_2 12 rfl rfl)
theorem dX3_append_59 : decode cX3_append 59 = .ok (.goto 4, 3) := dk_167 0 4 (dk_at dksX3_append_2 13 rfl rfl)
theorem dX3_append_62 : decode cX3_append 62 = .ok (.iconst 0, 1) := dk_3 (dk_at dksX3_append_2 16 rfl rfl)
theorem dX3_append_63 : decode cX3_append 63 = .ok (.iadd, 1) := dk_96 (dk_at dksX3_append_2 17 rfl rfl)
theorem dX3_append_64 : decode cX3_append 64 = .ok (.istore_n 2, 1) := dk_61 (dk_at dksX3_append_2 18 rfl rfl)
theorem dX3_append_65 : decode cX3_append 65 = .ok (.iinc 3 (-8), 3) := dk_132 3 248 (dk_at dksX3_append_2 19 rfl rfl)
theorem dX3_append_68 : decode cX3_append 68 = .ok (.goto (-58), 3) := dk_167 255 198 (dk_at dksX3_append_3 0 rfl rfl)
theorem dX3_append_71 : decode cX3_append 71 = .ok (.aload_n 0, 1) := dk_42 (dk_at dksX3_append_3 3 rfl rfl)
theorem dX3_append_72 : decode cX3_append 72 = .ok (.aload_n 0, 1) := dk_42 (dk_at dksX3_append_3 4 rfl rfl)
theorem dX3_append_73 : decode cX3_append 73 = .ok (.getfield 66, 3) := dk_180 0 66 (dk_at dksX3_append_3 5 rfl rfl)
theorem dX3_append_76 : decode cX3_append 76 = .ok (.ifCond .ne 18, 3) := dk_154 0 18 (dk_at dksX3_append_3 8 rfl rfl)
theorem dX3_append_79 : decode cX3_append 79 = .ok (.aload_n 0, 1) := dk_42 (dk_at dksX3_append_3 11 rfl rfl)
theorem dX3_append_80 : decode cX3_append 80 = .ok (.getfield 209, 3) := dk_180 0 209 (dk_at dksX3_append_3 12 rfl rfl)
theorem dX3_append_83 : decode cX3_append 83 = .ok (.iload_n 2, 1) := dk_28 (dk_at dksX3_append_3 15 rfl rfl)
theorem dX3_append_84 : decode cX3_append 84 = .ok (.iadd, 1) := dk_96 (dk_at dksX3_append_3 16 rfl rfl)
theorem dX3_append_85 : decode cX3_append 85 = .ok (.bipush 60, 2) := dk_16 60 (dk_at dksX3_append_3 17 rfl rfl)
theorem dX3_append_87 : decode cX3_append 87 = .ok (.if_icmp .le 7, 3) := dk_164 0 7 (dk_at dksX3_append_3 19 rfl rfl)
theorem dX3_append_90 : decode cX3_append 90 = .ok (.iconst 2, 1) := dk_5 (dk_at dksX3_append_3 22 rfl rfl)
theorem dX3_append_91 : decode cX3_append 91 = .ok (.goto 7, 3) := dk_167 0 7 (dk_at dksX3_append_4 0 rfl rfl)
theorem dX3_append_94 : decode cX3_append 94 = .ok (.aload_n 0, 1) := dk_42 (dk_at dksX3_append_4 3 rfl rfl)
theorem dX3_append_95 : decode cX3_append 95 = .ok (.getfield 66, 3) := dk_180 0 66 (dk_at dksX3_append_4 4 rfl rfl)
theorem dX3_append_98 : decode cX3_append 98 = .ok (.putfield 66, 3) := dk_181 0 66 (dk_at dksX3_append_4 7 rfl rfl)
theorem dX3_append_101 : decode cX3_append 101 = .ok (.bipush 24, 2) := dk_16 24 (dk_at dksX3_append_4 10 rfl rfl)
theorem dX3_append_103 : decode cX3_append 103 = .ok (.istore_n 3, 1) := dk_62 (dk_at dksX3_append_4 12 rfl rfl)
theorem dX3_append_104 : decode cX3_append 104 = .ok (.iload_n 3, 1) := dk_29 (dk_at dksX3_append_4 13 rfl rfl)
theorem dX3_append_105 : decode cX3_append 105 = .ok (.ifCond .lt 51, 3) := dk_155 0 51 (dk_at dksX3_append_4 14 rfl rfl)
theorem dX3_append_108 : decode cX3_append 108 = .ok (.aload_n 0, 1) := dk_42 (dk_at dksX3_append_4 17 rfl rfl)
theorem dX3_append_109 : decode cX3_append 109 = .ok (.getfield 66, 3) := dk_180 0 66 (dk_at dksX3_append_4 18 rfl rfl)
theorem dX3_append_112 : decode cX3_append 112 = .ok (.ifCond .ne 44, 3) := dk_154 0 44 (dk_at dksX3_append_4 21 rfl rfl)
theorem dX3_append_115 : decode cX3_append 115 = .ok (.iload_n 1, 1) := dk_27 (dk_at dksX3_append_5 0 rfl rfl)
theorem dX3_append_116 : decode cX3_append 116 = .ok (.iload_n 3, 1) := dk_29 (dk_at dksX3_append_5 1 rfl rfl)
theorem dX3_append_117 : decode cX3_append 117 = .ok (.iushr, 1) := dk_124 (dk_at dksX3_append_5 2 rfl rfl)
theorem dX3_append_118 : decode cX3_append 118 = .ok (.sipush 255, 3) := dk_17 0 255 (dk_at dksX3_append_5 3 rfl rfl)
theorem dX3_append_121 : decode cX3_append 121 = .ok (.iand, 1) := dk_126 (dk_at dksX3_append_5 6 rfl rfl)
theorem dX3_append_122 : decode cX3_append 122 = .ok (.istore 4, 2) := dk_54 4 (dk_at dksX3_append_5 7 rfl rfl)
theorem dX3_append_124 : decode cX3_append 124 = .ok (.iload 4, 2) := dk_21 4 (dk_at dksX3_append_5 9 rfl rfl)
theorem dX3_append_126 : decode cX3_append 126 = .ok (.ifCond .eq 24, 3) := dk_153 0 24 (dk_at dksX3_append_5 11 rfl rfl)
theorem dX3_append_129 : decode cX3_append 129 = .ok (.aload_n 0, 1) := dk_42 (dk_at dksX3_append_5 14 rfl rfl)
theorem dX3_append_130 : decode cX3_append 130 = .ok (.getfield 50, 3) := dk_180 0 50 (dk_at dksX3_append_5 15 rfl rfl)
theorem dX3_append_133 : decode cX3_append 133 = .ok (.aload_n 0, 1) := dk_42 (dk_at dksX3_append_5 18 rfl rfl)
theorem dX3_append_134 : decode cX3_append 134 = .ok (.getfield 209, 3) := dk_180 0 209 (dk_at dksX3_append_5 19 rfl rfl)
theorem dX3_append_137 : decode cX3_append 137 = .ok (.iload 4, 2) := dk_21 4 (dk_at dksX3_append_5 22 rfl rfl)
theorem dX3_append_139 : decode cX3_append 139 = .ok (.iastore, 1) := dk_79 (dk_at dksX3_append_6 0 rfl rfl)
theorem dX3_append_140 : decode cX3_append 140 = .ok (.aload_n 0, 1) := dk_42 (dk_at dksX3_append_6 1 rfl rfl)
theorem dX3_append_141 : decode cX3_append 141 = .ok (.dup, 1) := dk_89 (dk_at dksX3_append_6 2 rfl rfl)
theorem dX3_append_142 : decode cX3_append 142 = .ok (.getfield 209, 3) := dk_180 0 209 (dk_at dksX3_append_6 3 rfl rfl)
theorem dX3_append_145 : decode cX3_append 145 = .ok (.iconst 1, 1) := dk_4 (dk_at dksX3_append_6 6 rfl rfl)
theorem dX3_append_146 : decode cX3_append 146 = .ok (.iadd, 1) := dk_96 (dk_at dksX3_append_6 7 rfl rfl)
theorem dX3_append_147 : decode cX3_append 147 = .ok (.putfield 209, 3) := dk_181 0 209 (dk_at dksX3_append_6 8 rfl rfl)
theorem dX3_append_150 : decode cX3_append 150 = .ok (.iinc 3 (-8), 3) := dk_132 3 248 (dk_at dksX3_append_6 11 rfl rfl)
theorem dX3_append_153 : decode cX3_append 153 = .ok (.goto (-49), 3) := dk_167 255 207 (dk_at dksX3_append_6 14 rfl rfl)
theorem dX3_append_156 : decode cX3_append 156 = .ok (.aload_n 0, 1) := dk_42 (dk_at dksX3_append_6 17 rfl rfl)
theorem dX3_append_157 : decode cX3_append 157 = .ok (.getfield 66, 3) := dk_180 0 66 (dk_at dksX3_append_6 18 rfl rfl)
theorem dX3_append_160 : decode cX3_append 160 = .ok (.ifCond .le 7, 3) := dk_158 0 7 (dk_at dksX3_append_6 21 rfl rfl)
theorem dX3_append_163 : decode cX3_append 163 = .ok (.iconst 0, 1) := dk_3 (dk_at dksX3_append_7 0 rfl rfl)
theorem dX3_append_164 : decode cX3_append 164 = .ok (.goto 7, 3) := dk_167 0 7 (dk_at dksX3_append_7 1 rfl rfl)
theorem dX3_append_167 : decode cX3_append 167 = .ok (.aload_n 0, 1) := dk_42 (dk_at dksX3_append_7 4 rfl rfl)
theorem dX3_append_168 : decode cX3_append 168 = .ok (.getfield 209, 3) := dk_180 0 209 (dk_at dksX3_append_7 5 rfl rfl)
theorem dX3_append_171 : decode cX3_append 171 = .ok (.ireturn, 1) := dk_172 (dk_at dksX3_append_7 8 rfl rfl)
def dkwX3_typeNamed_1 : List UInt8 := [180, 0, 209, 182, 0, 246, 172]
abbrev dktX3_typeNamed_1 : List UInt8 := dkwX3_typeNamed_1 ++ []
def dkwX3_typeNamed_0 : List UInt8 := [42, 3, 181, 0, 66, 42, 180, 0, 209, 6, 164, 0, 7, 2, 167, 0, 16, 42, 42, 180, 0, 50, 3, 42]
abbrev dktX3_typeNamed_0 : List UInt8 := dkwX3_typeNamed_0 ++ dktX3_typeNamed_1
theorem dksX3_typeNamed_0 : cX3_typeNamed.data.toList.drop 0 = dktX3_typeNamed_0 := by decide +kernel
theorem dksX3_typeNamed_1 : cX3_typeNamed.data.toList.drop 24 = dktX3_typeNamed_1 := dk_seg dksX3_typeNamed_0 24 rfl rfl
theorem dX3_typeNamed_0 : decode cX3_typeNamed 0 = .ok (.aload_n 0, 1) := dk_42 (dk_at dksX3_typeNamed_0 0 rfl rfl)
theorem dX3_typeNamed_1 : decode cX3_typeNamed 1 = .ok (.iconst 0, 1) := dk_3 (dk_at dksX3_typeNamed_0 1 rfl rfl)
theorem dX3_typeNamed_2 : decode cX3_typeNamed 2 = .ok (.putfield 66, 3) := dk_181 0 66 (dk_at dksX3_typeNamed_0 2 rfl rfl)
theorem dX3_typeNamed_5 : decode cX3_typeNamed 5 = .ok (.aload_n 0, 1) := dk_42 (dk_at dksX3_typeNamed_0 5 rfl rfl)
theorem dX3_typeNamed_6 : decode cX3_typeNamed 6 = .ok (.getfield 209, 3) := dk_180 0 209 (dk_at dksX3_typeNamed_0 6 rfl rfl)
theorem dX3_typeNamed_9 : decode cX3_typeNamed 9 = .ok (.iconst 3, 1) := dk_6 (dk_at dksX3_typeNamed_0 9 rfl rfl)
theorem dX3_typeNamed_10 : decode cX3_typeNamed 10 = .ok (.if_icmp .le 7, 3) := dk_164 0 7 (dk_at dksX3_typeNamed_0 10 rfl rfl)
theorem dX3_typeNamed_13 : decode cX3_typeNamed 13 = .ok (.iconst (-1), 1) := dk_2 (dk_at dksX3_typeNamed_0 13 rfl rfl)
theorem dX3_typeNamed_14 : decode cX3_typeNamed 14 = .ok (.goto 16, 3) := dk_167 0 16 (dk_at dksX3_typeNamed_0 14 rfl rfl)
theorem dX3_typeNamed_17 : decode cX3_typeNamed 17 = .ok (.aload_n 0, 1) := dk_42 (dk_at dksX3_typeNamed_0 17 rfl rfl)
theorem dX3_typeNamed_18 : decode cX3_typeNamed 18 = .ok (.aload_n 0, 1) := dk_42 (dk_at dksX3_typeNamed_0 18 rfl rfl)
theorem dX3_typeNamed_19 : decode cX3_typeNamed 19 = .ok (.getfield 50, 3) := dk_180 0 50 (dk_at dksX3_typeNamed_0 19 rfl rfl)
theorem dX3_typeNamed_22 : decode cX3_typeNamed 22 = .ok (.iconst 0, 1) := dk_3 (dk_at dksX3_typeNamed_0 22 rfl rfl)
theorem dX3_typeNamed_23 : decode cX3_typeNamed 23 = .ok (.aload_n 0, 1) := dk_42 (dk_at dksX3_typeNamed_0 23 rfl rfl)
theorem dX3_typeNamed_24 : decode cX3_typeNamed 24 = .ok (.getfield 209, 3) := dk_180 0 209 (dk_at dksX3_typeNamed_1 0 rfl rfl)
theorem dX3_typeNamed_27 : decode cX3_typeNamed 27 = .ok (.invokevirtual 246, 3) := dk_182 0 246 (dk_at dksX3_typeNamed_1 3 rfl rfl)
theorem dX3_typeNamed_30 : decode cX3_typeNamed 30 = .ok (.ireturn, 1) := dk_172 (dk_at dksX3_typeNamed_1 6 rfl rfl)
def dkwX3_named_4 : List UInt8 := [21, 4, 172, 132, 4, 1, 167, 255, 158, 2, 172]
abbrev dktX3_named_4 : List UInt8 := dkwX3_named_4 ++ []
def dkwX3_named_3 : List UInt8 := [96, 46, 160, 0, 7, 4, 167, 0, 4, 3, 54, 5, 132, 6, 1, 167, 255, 211, 21, 5, 153, 0, 6]
abbrev dktX3_named_3 : List UInt8 := dkwX3_named_3 ++ dktX3_named_4
def dkwX3_named_2 : List UInt8 := [21, 5, 153, 0, 40, 42, 180, 0, 7, 7, 16, 6, 21, 4, 104, 96, 21, 6, 96, 46, 43, 28, 21, 6]
abbrev dktX3_named_2 : List UInt8 := dkwX3_named_2 ++ dktX3_named_3
def dkwX3_named_1 : List UInt8 := [96, 6, 96, 46, 29, 160, 0, 7, 4, 167, 0, 4, 3, 54, 5, 3, 54, 6, 21, 6, 29, 162, 0, 45]
abbrev dktX3_named_1 : List UInt8 := dkwX3_named_1 ++ dktX3_named_2
def dkwX3_named_0 : List UInt8 := [3, 54, 4, 21, 4, 42, 180, 0, 7, 6, 46, 162, 0, 93, 42, 180, 0, 7, 7, 16, 6, 21, 4, 104]
abbrev dktX3_named_0 : List UInt8 := dkwX3_named_0 ++ dktX3_named_1
theorem dksX3_named_0 : cX3_named.data.toList.drop 0 = dktX3_named_0 := by decide +kernel
theorem dksX3_named_1 : cX3_named.data.toList.drop 24 = dktX3_named_1 := dk_seg dksX3_named_0 24 rfl rfl
theorem dksX3_named_2 : cX3_named.data.toList.drop 48 = dktX3_named_2 := dk_seg dksX3_named_1 24 rfl rfl
theorem dksX3_named_3 : cX3_named.data.toList.drop 72 = dktX3_named_3 := dk_seg dksX3_named_2 24 rfl rfl
theorem dksX3_named_4 : cX3_named.data.toList.drop 95 = dktX3_named_4 := dk_seg dksX3_named_3 23 rfl rfl
theorem dX3_named_0 : decode cX3_named 0 = .ok (.iconst 0, 1) := dk_3 (dk_at dksX3_named_0 0 rfl rfl)
theorem dX3_named_1 : decode cX3_named 1 = .ok (.istore 4, 2) := dk_54 4 (dk_at dksX3_named_0 1 rfl rfl)
theorem dX3_named_3 : decode cX3_named 3 = .ok (.iload 4, 2) := dk_21 4 (dk_at dksX3_named_0 3 rfl rfl)
theorem dX3_named_5 : decode cX3_named 5 = .ok (.aload_n 0, 1) := dk_42 (dk_at dksX3_named_0 5 rfl rfl)
theorem dX3_named_6 : decode cX3_named 6 = .ok (.getfield 7, 3) := dk_180 0 7 (dk_at dksX3_named_0 6 rfl rfl)
theorem dX3_named_9 : decode cX3_named 9 = .ok (.iconst 3, 1) := dk_6 (dk_at dksX3_named_0 9 rfl rfl)
theorem dX3_named_10 : decode cX3_named 10 = .ok (.iaload, 1) := dk_46 (dk_at dksX3_named_0 10 rfl rfl)
theorem dX3_named_11 : decode cX3_named 11 = .ok (.if_icmp .ge 93, 3) := dk_162 0 93 (dk_at dksX3_named_0 11 rfl rfl)
theorem dX3_named_14 : decode cX3_named 14 = .ok (.aload_n 0, 1) := dk_42 (dk_at dksX3_named_0 14 rfl rfl)
theorem dX3_named_15 : decode cX3_named 15 = .ok (.getfield 7, 3) := dk_180 0 7 (dk_at dksX3_named_0 15 rfl rfl)
theorem dX3_named_18 : decode cX3_named 18 = .ok (.iconst 4, 1) := dk_7 (dk_at dksX3_named_0 18 rfl rfl)
theorem dX3_named_19 : decode cX3_named 19 = .ok (.bipush 6, 2) := dk_16 6 (dk_at dksX3_named_0 19 rfl rfl)
theorem dX3_named_21 : decode cX3_named 21 = .ok (.iload 4, 2) := dk_21 4 (dk_at dksX3_named_0 21 rfl rfl)
theorem dX3_named_23 : decode cX3_named 23 = .ok (.imul, 1) := dk_104 (dk_at dksX3_named_0 23 rfl rfl)
theorem dX3_named_24 : decode cX3_named 24 = .ok (.iadd, 1) := dk_96 (dk_at dksX3_named_1 0 rfl rfl)
theorem dX3_named_25 : decode cX3_named 25 = .ok (.iconst 3, 1) := dk_6 (dk_at dksX3_named_1 1 rfl rfl)
theorem dX3_named_26 : decode cX3_named 26 = .ok (.iadd, 1) := dk_96 (dk_at dksX3_named_1 2 rfl rfl)
theorem dX3_named_27 : decode cX3_named 27 = .ok (.iaload, 1) := dk_46 (dk_at dksX3_named_1 3 rfl rfl)
theorem dX3_named_28 : decode cX3_named 28 = .ok (.iload_n 3, 1) := dk_29 (dk_at dksX3_named_1 4 rfl rfl)
theorem dX3_named_29 : decode cX3_named 29 = .ok (.if_icmp .ne 7, 3) := dk_160 0 7 (dk_at dksX3_named_1 5 rfl rfl)
theorem dX3_named_32 : decode cX3_named 32 = .ok (.iconst 1, 1) := dk_4 (dk_at dksX3_named_1 8 rfl rfl)
theorem dX3_named_33 : decode cX3_named 33 = .ok (.goto 4, 3) := dk_167 0 4 (dk_at dksX3_named_1 9 rfl rfl)
theorem dX3_named_36 : decode cX3_named 36 = .ok (.iconst 0, 1) := dk_3 (dk_at dksX3_named_1 12 rfl rfl)
theorem dX3_named_37 : decode cX3_named 37 = .ok (.istore 5, 2) := dk_54 5 (dk_at dksX3_named_1 13 rfl rfl)
theorem dX3_named_39 : decode cX3_named 39 = .ok (.iconst 0, 1) := dk_3 (dk_at dksX3_named_1 15 rfl rfl)
theorem dX3_named_40 : decode cX3_named 40 = .ok (.istore 6, 2) := dk_54 6 (dk_at dksX3_named_1 16 rfl rfl)
theorem dX3_named_42 : decode cX3_named 42 = .ok (.iload 6, 2) := dk_21 6 (dk_at dksX3_named_1 18 rfl rfl)
theorem dX3_named_44 : decode cX3_named 44 = .ok (.iload_n 3, 1) := dk_29 (dk_at dksX3_named_1 20 rfl rfl)
theorem dX3_named_45 : decode cX3_named 45 = .ok (.if_icmp .ge 45, 3) := dk_162 0 45 (dk_at dksX3_named_1 21 rfl rfl)
theorem dX3_named_48 : decode cX3_named 48 = .ok (.iload 5, 2) := dk_21 5 (dk_at dksX3_named_2 0 rfl rfl)
theorem dX3_named_50 : decode cX3_named 50 = .ok (.ifCond .eq 40, 3) := dk_153 0 40 (dk_at dksX3_named_2 2 rfl rfl)
theorem dX3_named_53 : decode cX3_named 53 = .ok (.aload_n 0, 1) := dk_42 (dk_at dksX3_named_2 5 rfl rfl)
theorem dX3_named_54 : decode cX3_named 54 = .ok (.getfield 7, 3) := dk_180 0 7 (dk_at dksX3_named_2 6 rfl rfl)
theorem dX3_named_57 : decode cX3_named 57 = .ok (.iconst 4, 1) := dk_7 (dk_at dksX3_named_2 9 rfl rfl)
theorem dX3_named_58 : decode cX3_named 58 = .ok (.bipush 6, 2) := dk_16 6 (dk_at dksX3_named_2 10 rfl rfl)
theorem dX3_named_60 : decode cX3_named 60 = .ok (.iload 4, 2) := dk_21 4 (dk_at dksX3_named_2 12 rfl rfl)
theorem dX3_named_62 : decode cX3_named 62 = .ok (.imul, 1) := dk_104 (dk_at dksX3_named_2 14 rfl rfl)
theorem dX3_named_63 : decode cX3_named 63 = .ok (.iadd, 1) := dk_96 (dk_at dksX3_named_2 15 rfl rfl)
theorem dX3_named_64 : decode cX3_named 64 = .ok (.iload 6, 2) := dk_21 6 (dk_at dksX3_named_2 16 rfl rfl)
theorem dX3_named_66 : decode cX3_named 66 = .ok (.iadd, 1) := dk_96 (dk_at dksX3_named_2 18 rfl rfl)
theorem dX3_named_67 : decode cX3_named 67 = .ok (.iaload, 1) := dk_46 (dk_at dksX3_named_2 19 rfl rfl)
theorem dX3_named_68 : decode cX3_named 68 = .ok (.aload_n 1, 1) := dk_43 (dk_at dksX3_named_2 20 rfl rfl)
theorem dX3_named_69 : decode cX3_named 69 = .ok (.iload_n 2, 1) := dk_28 (dk_at dksX3_named_2 21 rfl rfl)
theorem dX3_named_70 : decode cX3_named 70 = .ok (.iload 6, 2) := dk_21 6 (dk_at dksX3_named_2 22 rfl rfl)
theorem dX3_named_72 : decode cX3_named 72 = .ok (.iadd, 1) := dk_96 (dk_at dksX3_named_3 0 rfl rfl)
theorem dX3_named_73 : decode cX3_named 73 = .ok (.iaload, 1) := dk_46 (dk_at dksX3_named_3 1 rfl rfl)
theorem dX3_named_74 : decode cX3_named 74 = .ok (.if_icmp .ne 7, 3) := dk_160 0 7 (dk_at dksX3_named_3 2 rfl rfl)
theorem dX3_named_77 : decode cX3_named 77 = .ok (.iconst 1, 1) := dk_4 (dk_at dksX3_named_3 5 rfl rfl)
theorem dX3_named_78 : decode cX3_named 78 = .ok (.goto 4, 3) := dk_167 0 4 (dk_at dksX3_named_3 6 rfl rfl)
theorem dX3_named_81 : decode cX3_named 81 = .ok (.iconst 0, 1) := dk_3 (dk_at dksX3_named_3 9 rfl rfl)
theorem dX3_named_82 : decode cX3_named 82 = .ok (.istore 5, 2) := dk_54 5 (dk_at dksX3_named_3 10 rfl rfl)
theorem dX3_named_84 : decode cX3_named 84 = .ok (.iinc 6 1, 3) := dk_132 6 1 (dk_at dksX3_named_3 12 rfl rfl)
theorem dX3_named_87 : decode cX3_named 87 = .ok (.goto (-45), 3) := dk_167 255 211 (dk_at dksX3_named_3 15 rfl rfl)
theorem dX3_named_90 : decode cX3_named 90 = .ok (.iload 5, 2) := dk_21 5 (dk_at dksX3_named_3 18 rfl rfl)
theorem dX3_named_92 : decode cX3_named 92 = .ok (.ifCond .eq 6, 3) := dk_153 0 6 (dk_at dksX3_named_3 20 rfl rfl)
theorem dX3_named_95 : decode cX3_named 95 = .ok (.iload 4, 2) := dk_21 4 (dk_at dksX3_named_4 0 rfl rfl)
theorem dX3_named_97 : decode cX3_named 97 = .ok (.ireturn, 1) := dk_172 (dk_at dksX3_named_4 2 rfl rfl)
theorem dX3_named_98 : decode cX3_named 98 = .ok (.iinc 4 1, 3) := dk_132 4 1 (dk_at dksX3_named_4 3 rfl rfl)
theorem dX3_named_101 : decode cX3_named 101 = .ok (.goto (-98), 3) := dk_167 255 158 (dk_at dksX3_named_4 6 rfl rfl)
theorem dX3_named_104 : decode cX3_named 104 = .ok (.iconst (-1), 1) := dk_2 (dk_at dksX3_named_4 9 rfl rfl)
theorem dX3_named_105 : decode cX3_named 105 = .ok (.ireturn, 1) := dk_172 (dk_at dksX3_named_4 10 rfl rfl)
def dkwX3_read_6 : List UInt8 := [180, 0, 230, 172]
abbrev dktX3_read_6 : List UInt8 := dkwX3_read_6 ++ []
def dkwX3_read_5 : List UInt8 := [180, 0, 7, 3, 184, 0, 72, 42, 5, 182, 0, 175, 172, 42, 42, 180, 0, 16, 182, 0, 80, 42]
abbrev dktX3_read_5 : List UInt8 := dkwX3_read_5 ++ dktX3_read_6
def dkwX3_read_4 : List UInt8 := [181, 0, 76, 28, 42, 180, 0, 230, 162, 0, 27, 42, 28, 181, 0, 57, 42, 180, 0, 16, 3, 42]
abbrev dktX3_read_4 : List UInt8 := dkwX3_read_4 ++ dktX3_read_5
def dkwX3_read_3 : List UInt8 := [162, 0, 20, 42, 16, 10, 28, 104, 182, 1, 11, 153, 0, 9, 132, 2, 1, 167, 255, 234, 42, 3]
abbrev dktX3_read_3 : List UInt8 := dkwX3_read_3 ++ dktX3_read_4
def dkwX3_read_2 : List UInt8 := [180, 0, 7, 3, 42, 180, 0, 16, 3, 184, 0, 72, 42, 4, 181, 0, 76, 3, 61, 28, 42, 180, 0, 230]
abbrev dktX3_read_2 : List UInt8 := dkwX3_read_2 ++ dktX3_read_3
def dkwX3_read_1 : List UInt8 := [180, 0, 221, 181, 0, 53, 42, 3, 181, 0, 209, 27, 154, 0, 9, 42, 4, 182, 0, 175, 172, 42]
abbrev dktX3_read_1 : List UInt8 := dkwX3_read_1 ++ dktX3_read_2
def dkwX3_read_0 : List UInt8 := [42, 182, 1, 8, 60, 42, 3, 181, 0, 66, 42, 27, 153, 0, 10, 42, 180, 0, 53, 167, 0, 7, 42]
abbrev dktX3_read_0 : List UInt8 := dkwX3_read_0 ++ dktX3_read_1
theorem dksX3_read_0 : cX3_read.data.toList.drop 0 = dktX3_read_0 := by decide +kernel
theorem dksX3_read_1 : cX3_read.data.toList.drop 23 = dktX3_read_1 := dk_seg dksX3_read_0 23 rfl rfl
theorem dksX3_read_2 : cX3_read.data.toList.drop 45 = dktX3_read_2 := dk_seg dksX3_read_1 22 rfl rfl
theorem dksX3_read_3 : cX3_read.data.toList.drop 69 = dktX3_read_3 := dk_seg dksX3_read_2 24 rfl rfl
theorem dksX3_read_4 : cX3_read.data.toList.drop 91 = dktX3_read_4 := dk_seg dksX3_read_3 22 rfl rfl
theorem dksX3_read_5 : cX3_read.data.toList.drop 113 = dktX3_read_5 := dk_seg dksX3_read_4 22 rfl rfl
theorem dksX3_read_6 : cX3_read.data.toList.drop 135 = dktX3_read_6 := dk_seg dksX3_read_5 22 rfl rfl
theorem dX3_read_0 : decode cX3_read 0 = .ok (.aload_n 0, 1) := dk_42 (dk_at dksX3_read_0 0 rfl rfl)
theorem dX3_read_1 : decode cX3_read 1 = .ok (.invokevirtual 264, 3) := dk_182 1 8 (dk_at dksX3_read_0 1 rfl rfl)
theorem dX3_read_4 : decode cX3_read 4 = .ok (.istore_n 1, 1) := dk_60 (dk_at dksX3_read_0 4 rfl rfl)
theorem dX3_read_5 : decode cX3_read 5 = .ok (.aload_n 0, 1) := dk_42 (dk_at dksX3_read_0 5 rfl rfl)
theorem dX3_read_6 : decode cX3_read 6 = .ok (.iconst 0, 1) := dk_3 (dk_at dksX3_read_0 6 rfl rfl)
theorem dX3_read_7 : decode cX3_read 7 = .ok (.putfield 66, 3) := dk_181 0 66 (dk_at dksX3_read_0 7 rfl rfl)
theorem dX3_read_10 : decode cX3_read 10 = .ok (.aload_n 0, 1) := dk_42 (dk_at dksX3_read_0 10 rfl rfl)
theorem dX3_read_11 : decode cX3_read 11 = .ok (.iload_n 1, 1) := dk_27 (dk_at dksX3_read_0 11 rfl rfl)
theorem dX3_read_12 : decode cX3_read 12 = .ok (.ifCond .eq 10, 3) := dk_153 0 10 (dk_at dksX3_read_0 12 rfl rfl)
theorem dX3_read_15 : decode cX3_read 15 = .ok (.aload_n 0, 1) := dk_42 (dk_at dksX3_read_0 15 rfl rfl)
theorem dX3_read_16 : decode cX3_read 16 = .ok (.getfield 53, 3) := dk_180 0 53 (dk_at dksX3_read_0 16 rfl rfl)
theorem dX3_read_19 : decode cX3_read 19 = .ok (.goto 7, 3) := dk_167 0 7 (dk_at dksX3_read_0 19 rfl rfl)
theorem dX3_read_22 : decode cX3_read 22 = .ok (.aload_n 0, 1) := dk_42 (dk_at dksX3_read_0 22 rfl rfl)
theorem dX3_read_23 : decode cX3_read 23 = .ok (.getfield 221, 3) := dk_180 0 221 (dk_at dksX3_read_1 0 rfl rfl)
theorem dX3_read_26 : decode cX3_read 26 = .ok (.putfield 53, 3) := dk_181 0 53 (dk_at dksX3_read_1 3 rfl rfl)
theorem dX3_read_29 : decode cX3_read 29 = .ok (.aload_n 0, 1) := dk_42 (dk_at dksX3_read_1 6 rfl rfl)
theorem dX3_read_30 : decode cX3_read 30 = .ok (.iconst 0, 1) := dk_3 (dk_at dksX3_read_1 7 rfl rfl)
theorem dX3_read_31 : decode cX3_read 31 = .ok (.putfield 209, 3) := dk_181 0 209 (dk_at dksX3_read_1 8 rfl rfl)
theorem dX3_read_34 : decode cX3_read 34 = .ok (.iload_n 1, 1) := dk_27 (dk_at dksX3_read_1 11 rfl rfl)
theorem dX3_read_35 : decode cX3_read 35 = .ok (.ifCond .ne 9, 3) := dk_154 0 9 (dk_at dksX3_read_1 12 rfl rfl)
theorem dX3_read_38 : decode cX3_read 38 = .ok (.aload_n 0, 1) := dk_42 (dk_at dksX3_read_1 15 rfl rfl)
theorem dX3_read_39 : decode cX3_read 39 = .ok (.iconst 1, 1) := dk_4 (dk_at dksX3_read_1 16 rfl rfl)
theorem dX3_read_40 : decode cX3_read 40 = .ok (.invokevirtual 175, 3) := dk_182 0 175 (dk_at dksX3_read_1 17 rfl rfl)
theorem dX3_read_43 : decode cX3_read 43 = .ok (.ireturn, 1) := dk_172 (dk_at dksX3_read_1 20 rfl rfl)
theorem dX3_read_44 : decode cX3_read 44 = .ok (.aload_n 0, 1) := dk_42 (dk_at dksX3_read_1 21 rfl rfl)
theorem dX3_read_45 : decode cX3_read 45 = .ok (.getfield 7, 3) := dk_180 0 7 (dk_at dksX3_read_2 0 rfl rfl)
theorem dX3_read_48 : decode cX3_read 48 = .ok (.iconst 0, 1) := dk_3 (dk_at dksX3_read_2 3 rfl rfl)
theorem dX3_read_49 : decode cX3_read 49 = .ok (.aload_n 0, 1) := dk_42 (dk_at dksX3_read_2 4 rfl rfl)
theorem dX3_read_50 : decode cX3_read 50 = .ok (.getfield 16, 3) := dk_180 0 16 (dk_at dksX3_read_2 5 rfl rfl)
theorem dX3_read_53 : decode cX3_read 53 = .ok (.iconst 0, 1) := dk_3 (dk_at dksX3_read_2 8 rfl rfl)
theorem dX3_read_54 : decode cX3_read 54 = .ok (.invokestatic 72, 3) := dk_184 0 72 (dk_at dksX3_read_2 9 rfl rfl)
theorem dX3_read_57 : decode cX3_read 57 = .ok (.aload_n 0, 1) := dk_42 (dk_at dksX3_read_2 12 rfl rfl)
theorem dX3_read_58 : decode cX3_read 58 = .ok (.iconst 1, 1) := dk_4 (dk_at dksX3_read_2 13 rfl rfl)
theorem dX3_read_59 : decode cX3_read 59 = .ok (.putfield 76, 3) := dk_181 0 76 (dk_at dksX3_read_2 14 rfl rfl)
theorem dX3_read_62 : decode cX3_read 62 = .ok (.iconst 0, 1) := dk_3 (dk_at dksX3_read_2 17 rfl rfl)
theorem dX3_read_63 : decode cX3_read 63 = .ok (.istore_n 2, 1) := dk_61 (dk_at dksX3_read_2 18 rfl rfl)
theorem dX3_read_64 : decode cX3_read 64 = .ok (.iload_n 2, 1) := dk_28 (dk_at dksX3_read_2 19 rfl rfl)
theorem dX3_read_65 : decode cX3_read 65 = .ok (.aload_n 0, 1) := dk_42 (dk_at dksX3_read_2 20 rfl rfl)
theorem dX3_read_66 : decode cX3_read 66 = .ok (.getfield 230, 3) := dk_180 0 230 (dk_at dksX3_read_2 21 rfl rfl)
theorem dX3_read_69 : decode cX3_read 69 = .ok (.if_icmp .ge 20, 3) := dk_162 0 20 (dk_at dksX3_read_3 0 rfl rfl)
theorem dX3_read_72 : decode cX3_read 72 = .ok (.aload_n 0, 1) := dk_42 (dk_at dksX3_read_3 3 rfl rfl)
theorem dX3_read_73 : decode cX3_read 73 = .ok (.bipush 10, 2) := dk_16 10 (dk_at dksX3_read_3 4 rfl rfl)
theorem dX3_read_75 : decode cX3_read 75 = .ok (.iload_n 2, 1) := dk_28 (dk_at dksX3_read_3 6 rfl rfl)
theorem dX3_read_76 : decode cX3_read 76 = .ok (.imul, 1) := dk_104 (dk_at dksX3_read_3 7 rfl rfl)
theorem dX3_read_77 : decode cX3_read 77 = .ok (.invokevirtual 267, 3) := dk_182 1 11 (dk_at dksX3_read_3 8 rfl rfl)
theorem dX3_read_80 : decode cX3_read 80 = .ok (.ifCond .eq 9, 3) := dk_153 0 9 (dk_at dksX3_read_3 11 rfl rfl)
theorem dX3_read_83 : decode cX3_read 83 = .ok (.iinc 2 1, 3) := dk_132 2 1 (dk_at dksX3_read_3 14 rfl rfl)
theorem dX3_read_86 : decode cX3_read 86 = .ok (.goto (-22), 3) := dk_167 255 234 (dk_at dksX3_read_3 17 rfl rfl)
theorem dX3_read_89 : decode cX3_read 89 = .ok (.aload_n 0, 1) := dk_42 (dk_at dksX3_read_3 20 rfl rfl)
theorem dX3_read_90 : decode cX3_read 90 = .ok (.iconst 0, 1) := dk_3 (dk_at dksX3_read_3 21 rfl rfl)
theorem dX3_read_91 : decode cX3_read 91 = .ok (.putfield 76, 3) := dk_181 0 76 (dk_at dksX3_read_4 0 rfl rfl)
theorem dX3_read_94 : decode cX3_read 94 = .ok (.iload_n 2, 1) := dk_28 (dk_at dksX3_read_4 3 rfl rfl)
theorem dX3_read_95 : decode cX3_read 95 = .ok (.aload_n 0, 1) := dk_42 (dk_at dksX3_read_4 4 rfl rfl)
theorem dX3_read_96 : decode cX3_read 96 = .ok (.getfield 230, 3) := dk_180 0 230 (dk_at dksX3_read_4 5 rfl rfl)
theorem dX3_read_99 : decode cX3_read 99 = .ok (.if_icmp .ge 27, 3) := dk_162 0 27 (dk_at dksX3_read_4 8 rfl rfl)
theorem dX3_read_102 : decode cX3_read 102 = .ok (.aload_n 0, 1) := dk_42 (dk_at dksX3_read_4 11 rfl rfl)
theorem dX3_read_103 : decode cX3_read 103 = .ok (.iload_n 2, 1) := dk_28 (dk_at dksX3_read_4 12 rfl rfl)
theorem dX3_read_104 : decode cX3_read 104 = .ok (.putfield 57, 3) := dk_181 0 57 (dk_at dksX3_read_4 13 rfl rfl)
theorem dX3_read_107 : decode cX3_read 107 = .ok (.aload_n 0, 1) := dk_42 (dk_at dksX3_read_4 16 rfl rfl)
theorem dX3_read_108 : decode cX3_read 108 = .ok (.getfield 16, 3) := dk_180 0 16 (dk_at dksX3_read_4 17 rfl rfl)
theorem dX3_read_111 : decode cX3_read 111 = .ok (.iconst 0, 1) := dk_3 (dk_at dksX3_read_4 20 rfl rfl)
theorem dX3_read_112 : decode cX3_read 112 = .ok (.aload_n 0, 1) := dk_42 (dk_at dksX3_read_4 21 rfl rfl)
theorem dX3_read_113 : decode cX3_read 113 = .ok (.getfield 7, 3) := dk_180 0 7 (dk_at dksX3_read_5 0 rfl rfl)
theorem dX3_read_116 : decode cX3_read 116 = .ok (.iconst 0, 1) := dk_3 (dk_at dksX3_read_5 3 rfl rfl)
theorem dX3_read_117 : decode cX3_read 117 = .ok (.invokestatic 72, 3) := dk_184 0 72 (dk_at dksX3_read_5 4 rfl rfl)
theorem dX3_read_120 : decode cX3_read 120 = .ok (.aload_n 0, 1) := dk_42 (dk_at dksX3_read_5 7 rfl rfl)
theorem dX3_read_121 : decode cX3_read 121 = .ok (.iconst 2, 1) := dk_5 (dk_at dksX3_read_5 8 rfl rfl)
theorem dX3_read_122 : decode cX3_read 122 = .ok (.invokevirtual 175, 3) := dk_182 0 175 (dk_at dksX3_read_5 9 rfl rfl)
theorem dX3_read_125 : decode cX3_read 125 = .ok (.ireturn, 1) := dk_172 (dk_at dksX3_read_5 12 rfl rfl)
theorem dX3_read_126 : decode cX3_read 126 = .ok (.aload_n 0, 1) := dk_42 (dk_at dksX3_read_5 13 rfl rfl)
theorem dX3_read_127 : decode cX3_read 127 = .ok (.aload_n 0, 1) := dk_42 (dk_at dksX3_read_5 14 rfl rfl)
theorem dX3_read_128 : decode cX3_read 128 = .ok (.getfield 16, 3) := dk_180 0 16 (dk_at dksX3_read_5 15 rfl rfl)
theorem dX3_read_131 : decode cX3_read 131 = .ok (.invokevirtual 80, 3) := dk_182 0 80 (dk_at dksX3_read_5 18 rfl rfl)
theorem dX3_read_134 : decode cX3_read 134 = .ok (.aload_n 0, 1) := dk_42 (dk_at dksX3_read_5 21 rfl rfl)
theorem dX3_read_135 : decode cX3_read 135 = .ok (.getfield 230, 3) := dk_180 0 230 (dk_at dksX3_read_6 0 rfl rfl)
theorem dX3_read_138 : decode cX3_read 138 = .ok (.ireturn, 1) := dk_172 (dk_at dksX3_read_6 3 rfl rfl)
def dkwX3_isText_1 : List UInt8 := [182, 0, 233, 154, 255, 241, 42, 180, 0, 221, 42, 180, 0, 209, 160, 0, 7, 4, 167, 0, 4, 3, 172]
abbrev dktX3_isText_1 : List UInt8 := dkwX3_isText_1 ++ []
def dkwX3_isText_0 : List UInt8 := [42, 3, 181, 0, 221, 42, 3, 181, 0, 230, 42, 182, 0, 242, 154, 0, 5, 3, 172, 42, 16, 59]
abbrev dktX3_isText_0 : List UInt8 := dkwX3_isText_0 ++ dktX3_isText_1
theorem dksX3_isText_0 : cX3_isText.data.toList.drop 0 = dktX3_isText_0 := by decide +kernel
theorem dksX3_isText_1 : cX3_isText.data.toList.drop 22 = dktX3_isText_1 := dk_seg dksX3_isText_0 22 rfl rfl
theorem dX3_isText_0 : decode cX3_isText 0 = .ok (.aload_n 0, 1) := dk_42 (dk_at dksX3_isText_0 0 rfl rfl)
theorem dX3_isText_1 : decode cX3_isText 1 = .ok (.iconst 0, 1) := dk_3 (dk_at dksX3_isText_0 1 rfl rfl)
theorem dX3_isText_2 : decode cX3_isText 2 = .ok (.putfield 221, 3) := dk_181 0 221 (dk_at dksX3_isText_0 2 rfl rfl)
theorem dX3_isText_5 : decode cX3_isText 5 = .ok (.aload_n 0, 1) := dk_42 (dk_at dksX3_isText_0 5 rfl rfl)
theorem dX3_isText_6 : decode cX3_isText 6 = .ok (.iconst 0, 1) := dk_3 (dk_at dksX3_isText_0 6 rfl rfl)
theorem dX3_isText_7 : decode cX3_isText 7 = .ok (.putfield 230, 3) := dk_181 0 230 (dk_at dksX3_isText_0 7 rfl rfl)
theorem dX3_isText_10 : decode cX3_isText 10 = .ok (.aload_n 0, 1) := dk_42 (dk_at dksX3_isText_0 10 rfl rfl)
theorem dX3_isText_11 : decode cX3_isText 11 = .ok (.invokevirtual 242, 3) := dk_182 0 242 (dk_at dksX3_isText_0 11 rfl rfl)
theorem dX3_isText_14 : decode cX3_isText 14 = .ok (.ifCond .ne 5, 3) := dk_154 0 5 (dk_at dksX3_isText_0 14 rfl rfl)
theorem dX3_isText_17 : decode cX3_isText 17 = .ok (.iconst 0, 1) := dk_3 (dk_at dksX3_isText_0 17 rfl rfl)
theorem dX3_isText_18 : decode cX3_isText 18 = .ok (.ireturn, 1) := dk_172 (dk_at dksX3_isText_0 18 rfl rfl)
theorem dX3_isText_19 : decode cX3_isText 19 = .ok (.aload_n 0, 1) := dk_42 (dk_at dksX3_isText_0 19 rfl rfl)
theorem dX3_isText_20 : decode cX3_isText 20 = .ok (.bipush 59, 2) := dk_16 59 (dk_at dksX3_isText_0 20 rfl rfl)
theorem dX3_isText_22 : decode cX3_isText 22 = .ok (.invokevirtual 233, 3) := dk_182 0 233 (dk_at dksX3_isText_1 0 rfl rfl)
theorem dX3_isText_25 : decode cX3_isText 25 = .ok (.ifCond .ne (-15), 3) := dk_154 255 241 (dk_at dksX3_isText_1 3 rfl rfl)
theorem dX3_isText_28 : decode cX3_isText 28 = .ok (.aload_n 0, 1) := dk_42 (dk_at dksX3_isText_1 6 rfl rfl)
theorem dX3_isText_29 : decode cX3_isText 29 = .ok (.getfield 221, 3) := dk_180 0 221 (dk_at dksX3_isText_1 7 rfl rfl)
theorem dX3_isText_32 : decode cX3_isText 32 = .ok (.aload_n 0, 1) := dk_42 (dk_at dksX3_isText_1 10 rfl rfl)
theorem dX3_isText_33 : decode cX3_isText 33 = .ok (.getfield 209, 3) := dk_180 0 209 (dk_at dksX3_isText_1 11 rfl rfl)
theorem dX3_isText_36 : decode cX3_isText 36 = .ok (.if_icmp .ne 7, 3) := dk_160 0 7 (dk_at dksX3_isText_1 14 rfl rfl)
theorem dX3_isText_39 : decode cX3_isText 39 = .ok (.iconst 1, 1) := dk_4 (dk_at dksX3_isText_1 17 rfl rfl)
theorem dX3_isText_40 : decode cX3_isText 40 = .ok (.goto 4, 3) := dk_167 0 4 (dk_at dksX3_isText_1 18 rfl rfl)
theorem dX3_isText_43 : decode cX3_isText 43 = .ok (.iconst 0, 1) := dk_3 (dk_at dksX3_isText_1 21 rfl rfl)
theorem dX3_isText_44 : decode cX3_isText 44 = .ok (.ireturn, 1) := dk_172 (dk_at dksX3_isText_1 22 rfl rfl)
def dkwX3_item_13 : List UInt8 := [153, 0, 17, 42, 27, 8, 96, 182, 0, 239, 153, 0, 7, 4, 167, 0, 4, 3, 172]
abbrev dktX3_item_13 : List UInt8 := dkwX3_item_13 ++ []
def dkwX3_item_12 : List UInt8 := [172, 42, 16, 100, 182, 0, 233, 153, 0, 34, 42, 27, 182, 0, 236, 153, 0, 26, 42, 16, 61, 182, 0, 233]
abbrev dktX3_item_12 : List UInt8 := dkwX3_item_12 ++ dktX3_item_13
def dkwX3_item_11 : List UInt8 := [16, 45, 182, 0, 233, 153, 0, 18, 42, 27, 16, 6, 96, 182, 0, 227, 153, 0, 7, 4, 167, 0, 4, 3]
abbrev dktX3_item_11 : List UInt8 := dkwX3_item_11 ++ dktX3_item_12
def dkwX3_item_10 : List UInt8 := [153, 0, 46, 42, 16, 58, 182, 0, 233, 153, 0, 37, 42, 27, 8, 96, 182, 0, 227, 153, 0, 27, 42]
abbrev dktX3_item_10 : List UInt8 := dkwX3_item_10 ++ dktX3_item_11
def dkwX3_item_9 : List UInt8 := [153, 0, 7, 4, 167, 0, 4, 3, 172, 42, 16, 99, 182, 0, 233, 153, 0, 56, 42, 27, 182, 0, 236]
abbrev dktX3_item_9 : List UInt8 := dkwX3_item_9 ++ dktX3_item_10
def dkwX3_item_8 : List UInt8 := [182, 0, 239, 153, 0, 27, 42, 16, 44, 182, 0, 233, 153, 0, 18, 42, 27, 16, 9, 96, 182, 0, 227]
abbrev dktX3_item_8 : List UInt8 := dkwX3_item_8 ++ dktX3_item_9
def dkwX3_item_7 : List UInt8 := [27, 16, 7, 96, 182, 0, 239, 153, 0, 47, 42, 16, 44, 182, 0, 233, 153, 0, 38, 42, 27, 16, 8, 96]
abbrev dktX3_item_7 : List UInt8 := dkwX3_item_7 ++ dktX3_item_8
def dkwX3_item_6 : List UInt8 := [153, 0, 78, 42, 27, 16, 6, 96, 182, 0, 227, 153, 0, 67, 42, 16, 58, 182, 0, 233, 153, 0, 58, 42]
abbrev dktX3_item_6 : List UInt8 := dkwX3_item_6 ++ dktX3_item_7
def dkwX3_item_5 : List UInt8 := [182, 0, 233, 153, 0, 99, 42, 27, 8, 96, 182, 0, 227, 153, 0, 87, 42, 16, 45, 182, 0, 233]
abbrev dktX3_item_5 : List UInt8 := dkwX3_item_5 ++ dktX3_item_6
def dkwX3_item_4 : List UInt8 := [153, 0, 18, 42, 27, 16, 6, 96, 182, 0, 239, 153, 0, 7, 4, 167, 0, 4, 3, 172, 42, 16, 116]
abbrev dktX3_item_4 : List UInt8 := dkwX3_item_4 ++ dktX3_item_5
def dkwX3_item_3 : List UInt8 := [182, 0, 233, 153, 0, 37, 42, 27, 8, 96, 182, 0, 227, 153, 0, 27, 42, 16, 44, 182, 0, 233]
abbrev dktX3_item_3 : List UInt8 := dkwX3_item_3 ++ dktX3_item_4
def dkwX3_item_2 : List UInt8 := [181, 0, 230, 42, 16, 107, 182, 0, 233, 153, 0, 56, 42, 27, 182, 0, 236, 153, 0, 46, 42, 16, 58]
abbrev dktX3_item_2 : List UInt8 := dkwX3_item_2 ++ dktX3_item_3
def dkwX3_item_1 : List UInt8 := [79, 132, 2, 1, 167, 255, 238, 42, 180, 0, 60, 27, 42, 182, 0, 224, 79, 42, 89, 180, 0, 230, 4, 96]
abbrev dktX3_item_1 : List UInt8 := dkwX3_item_1 ++ dktX3_item_2
def dkwX3_item_0 : List UInt8 := [16, 10, 42, 180, 0, 230, 104, 60, 3, 61, 28, 16, 10, 162, 0, 18, 42, 180, 0, 60, 27, 28, 96, 3]
abbrev dktX3_item_0 : List UInt8 := dkwX3_item_0 ++ dktX3_item_1
theorem dksX3_item_0 : cX3_item.data.toList.drop 0 = dktX3_item_0 := by decide +kernel
theorem dksX3_item_1 : cX3_item.data.toList.drop 24 = dktX3_item_1 := dk_seg dksX3_item_0 24 rfl rfl
theorem dksX3_item_2 : cX3_item.data.toList.drop 48 = dktX3_item_2 := dk_seg dksX3_item_1 24 rfl rfl
theorem dksX3_item_3 : cX3_item.data.toList.drop 71 = dktX3_item_3 := dk_seg dksX3_item_2 23 rfl rfl
theorem dksX3_item_4 : cX3_item.data.toList.drop 93 = dktX3_item_4 := dk_seg dksX3_item_3 22 rfl rfl
theorem dksX3_item_5 : cX3_item.data.toList.drop 116 = dktX3_item_5 := dk_seg dksX3_item_4 23 rfl rfl
theorem dksX3_item_6 : cX3_item.data.toList.drop 138 = dktX3_item_6 := dk_seg dksX3_item_5 22 rfl rfl
theorem dksX3_item_7 : cX3_item.data.toList.drop 162 = dktX3_item_7 := dk_seg dksX3_item_6 24 rfl rfl
theorem dksX3_item_8 : cX3_item.data.toList.drop 186 = dktX3_item_8 := dk_seg dksX3_item_7 24 rfl rfl
theorem dksX3_item_9 : cX3_item.data.toList.drop 209 = dktX3_item_9 := dk_seg dksX3_item_8 23 rfl rfl
theorem dksX3_item_10 : cX3_item.data.toList.drop 232 = dktX3_item_10 := dk_seg dksX3_item_9 23 rfl rfl
theorem dksX3_item_11 : cX3_item.data.toList.drop 255 = dktX3_item_11 := dk_seg dksX3_item_10 23 rfl rfl
theorem dksX3_item_12 : cX3_item.data.toList.drop 279 = dktX3_item_12 := dk_seg dksX3_item_11 24 rfl rfl
theorem dksX3_item_13 : cX3_item.data.toList.drop 303 = dktX3_item_13 := dk_seg dksX3_item_12 24 rfl rfl
theorem dX3_item_0 : decode cX3_item 0 = .ok (.bipush 10, 2) := dk_16 10 (dk_at dksX3_item_0 0 rfl rfl)
theorem dX3_item_2 : decode cX3_item 2 = .ok (.aload_n 0, 1) := dk_42 (dk_at dksX3_item_0 2 rfl rfl)
theorem dX3_item_3 : decode cX3_item 3 = .ok (.getfield 230, 3) := dk_180 0 230 (dk_at dksX3_item_0 3 rfl rfl)
theorem dX3_item_6 : decode cX3_item 6 = .ok (.imul, 1) := dk_104 (dk_at dksX3_item_0 6 rfl rfl)
theorem dX3_item_7 : decode cX3_item 7 = .ok (.istore_n 1, 1) := dk_60 (dk_at dksX3_item_0 7 rfl rfl)
theorem dX3_item_8 : decode cX3_item 8 = .ok (.iconst 0, 1) := dk_3 (dk_at dksX3_item_0 8 rfl rfl)
theorem dX3_item_9 : decode cX3_item 9 = .ok (.istore_n 2, 1) := dk_61 (dk_at dksX3_item_0 9 rfl rfl)
theorem dX3_item_10 : decode cX3_item 10 = .ok (.iload_n 2, 1) := dk_28 (dk_at dksX3_item_0 10 rfl rfl)
theorem dX3_item_11 : decode cX3_item 11 = .ok (.bipush 10, 2) := dk_16 10 (dk_at dksX3_item_0 11 rfl rfl)
theorem dX3_item_13 : decode cX3_item 13 = .ok (.if_icmp .ge 18, 3) := dk_162 0 18 (dk_at dksX3_item_0 13 rfl rfl)
theorem dX3_item_16 : decode cX3_item 16 = .ok (.aload_n 0, 1) := dk_42 (dk_at dksX3_item_0 16 rfl rfl)
theorem dX3_item_17 : decode cX3_item 17 = .ok (.getfield 60, 3) := dk_180 0 60 (dk_at dksX3_item_0 17 rfl rfl)
theorem dX3_item_20 : decode cX3_item 20 = .ok (.iload_n 1, 1) := dk_27 (dk_at dksX3_item_0 20 rfl rfl)
theorem dX3_item_21 : decode cX3_item 21 = .ok (.iload_n 2, 1) := dk_28 (dk_at dksX3_item_0 21 rfl rfl)
theorem dX3_item_22 : decode cX3_item 22 = .ok (.iadd, 1) := dk_96 (dk_at dksX3_item_0 22 rfl rfl)
theorem dX3_item_23 : decode cX3_item 23 = .ok (.iconst 0, 1) := dk_3 (dk_at dksX3_item_0 23 rfl rfl)
theorem dX3_item_24 : decode cX3_item 24 = .ok (.iastore, 1) := dk_79 (dk_at dksX3_item_1 0 rfl rfl)
theorem dX3_item_25 : decode cX3_item 25 = .ok (.iinc 2 1, 3) := dk_132 2 1 (dk_at dksX3_item_1 1 rfl rfl)
theorem dX3_item_28 : decode cX3_item 28 = .ok (.goto (-18), 3) := dk_167 255 238 (dk_at dksX3_item_1 4 rfl rfl)
theorem dX3_item_31 : decode cX3_item 31 = .ok (.aload_n 0, 1) := dk_42 (dk_at dksX3_item_1 7 rfl rfl)
theorem dX3_item_32 : decode cX3_item 32 = .ok (.getfield 60, 3) := dk_180 0 60 (dk_at dksX3_item_1 8 rfl rfl)
theorem dX3_item_35 : decode cX3_item 35 = .ok (.iload_n 1, 1) := dk_27 (dk_at dksX3_item_1 11 rfl rfl)
theorem dX3_item_36 : decode cX3_item 36 = .ok (.aload_n 0, 1) := dk_42 (dk_at dksX3_item_1 12 rfl rfl)
theorem dX3_item_37 : decode cX3_item 37 = .ok (.invokevirtual 224, 3) := dk_182 0 224 (dk_at dksX3_item_1 13 rfl rfl)
theorem dX3_item_40 : decode cX3_item 40 = .ok (.iastore, 1) := dk_79 (dk_at dksX3_item_1 16 rfl rfl)
theorem dX3_item_41 : decode cX3_item 41 = .ok (.aload_n 0, 1) := dk_42 (dk_at dksX3_item_1 17 rfl rfl)
theorem dX3_item_42 : decode cX3_item 42 = .ok (.dup, 1) := dk_89 (dk_at dksX3_item_1 18 rfl rfl)
theorem dX3_item_43 : decode cX3_item 43 = .ok (.getfield 230, 3) := dk_180 0 230 (dk_at dksX3_item_1 19 rfl rfl)
theorem dX3_item_46 : decode cX3_item 46 = .ok (.iconst 1, 1) := dk_4 (dk_at dksX3_item_1 22 rfl rfl)
theorem dX3_item_47 : decode cX3_item 47 = .ok (.iadd, 1) := dk_96 (dk_at dksX3_item_1 23 rfl rfl)
theorem dX3_item_48 : decode cX3_item 48 = .ok (.putfield 230, 3) := dk_181 0 230 (dk_at dksX3_item_2 0 rfl rfl)
theorem dX3_item_51 : decode cX3_item 51 = .ok (.aload_n 0, 1) := dk_42 (dk_at dksX3_item_2 3 rfl rfl)
theorem dX3_item_52 : decode cX3_item 52 = .ok (.bipush 107, 2) := dk_16 107 (dk_at dksX3_item_2 4 rfl rfl)
theorem dX3_item_54 : decode cX3_item 54 = .ok (.invokevirtual 233, 3) := dk_182 0 233 (dk_at dksX3_item_2 6 rfl rfl)
theorem dX3_item_57 : decode cX3_item 57 = .ok (.ifCond .eq 56, 3) := dk_153 0 56 (dk_at dksX3_item_2 9 rfl rfl)
theorem dX3_item_60 : decode cX3_item 60 = .ok (.aload_n 0, 1) := dk_42 (dk_at dksX3_item_2 12 rfl rfl)
theorem dX3_item_61 : decode cX3_item 61 = .ok (.iload_n 1, 1) := dk_27 (dk_at dksX3_item_2 13 rfl rfl)
theorem dX3_item_62 : decode cX3_item 62 = .ok (.invokevirtual 236, 3) := dk_182 0 236 (dk_at dksX3_item_2 14 rfl rfl)
theorem dX3_item_65 : decode cX3_item 65 = .ok (.ifCond .eq 46, 3) := dk_153 0 46 (dk_at dksX3_item_2 17 rfl rfl)
theorem dX3_item_68 : decode cX3_item 68 = .ok (.aload_n 0, 1) := dk_42 (dk_at dksX3_item_2 20 rfl rfl)
theorem dX3_item_69 : decode cX3_item 69 = .ok (.bipush 58, 2) := dk_16 58 (dk_at dksX3_item_2 21 rfl rfl)
theorem dX3_item_71 : decode cX3_item 71 = .ok (.invokevirtual 233, 3) := dk_182 0 233 (dk_at dksX3_item_3 0 rfl rfl)
theorem dX3_item_74 : decode cX3_item 74 = .ok (.ifCond .eq 37, 3) := dk_153 0 37 (dk_at dksX3_item_3 3 rfl rfl)
theorem dX3_item_77 : decode cX3_item 77 = .ok (.aload_n 0, 1) := dk_42 (dk_at dksX3_item_3 6 rfl rfl)
theorem dX3_item_78 : decode cX3_item 78 = .ok (.iload_n 1, 1) := dk_27 (dk_at dksX3_item_3 7 rfl rfl)
theorem dX3_item_79 : decode cX3_item 79 = .ok (.iconst 5, 1) := dk_8 (dk_at dksX3_item_3 8 rfl rfl)
theorem dX3_item_80 : decode cX3_item 80 = .ok (.iadd, 1) := dk_96 (dk_at dksX3_item_3 9 rfl rfl)
theorem dX3_item_81 : decode cX3_item 81 = .ok (.invokevirtual 227, 3) := dk_182 0 227 (dk_at dksX3_item_3 10 rfl rfl)
theorem dX3_item_84 : decode cX3_item 84 = .ok (.ifCond .eq 27, 3) := dk_153 0 27 (dk_at dksX3_item_3 13 rfl rfl)
theorem dX3_item_87 : decode cX3_item 87 = .ok (.aload_n 0, 1) := dk_42 (dk_at dksX3_item_3 16 rfl rfl)
theorem dX3_item_88 : decode cX3_item 88 = .ok (.bipush 44, 2) := dk_16 44 (dk_at dksX3_item_3 17 rfl rfl)
theorem dX3_item_90 : decode cX3_item 90 = .ok (.invokevirtual 233, 3) := dk_182 0 233 (dk_at dksX3_item_3 19 rfl rfl)
theorem dX3_item_93 : decode cX3_item 93 = .ok (.ifCond .eq 18, 3) := dk_153 0 18 (dk_at dksX3_item_4 0 rfl rfl)
theorem dX3_item_96 : decode cX3_item 96 = .ok (.aload_n 0, 1) := dk_42 (dk_at dksX3_item_4 3 rfl rfl)
theorem dX3_item_97 : decode cX3_item 97 = .ok (.iload_n 1, 1) := dk_27 (dk_at dksX3_item_4 4 rfl rfl)
theorem dX3_item_98 : decode cX3_item 98 = .ok (.bipush 6, 2) := dk_16 6 (dk_at dksX3_item_4 5 rfl rfl)
theorem dX3_item_100 : decode cX3_item 100 = .ok (.iadd, 1) := dk_96 (dk_at dksX3_item_4 7 rfl rfl)
theorem dX3_item_101 : decode cX3_item 101 = .ok (.invokevirtual 239, 3) := dk_182 0 239 (dk_at dksX3_item_4 8 rfl rfl)
theorem dX3_item_104 : decode cX3_item 104 = .ok (.ifCond .eq 7, 3) := dk_153 0 7 (dk_at dksX3_item_4 11 rfl rfl)
theorem dX3_item_107 : decode cX3_item 107 = .ok (.iconst 1, 1) := dk_4 (dk_at dksX3_item_4 14 rfl rfl)
theorem dX3_item_108 : decode cX3_item 108 = .ok (.goto 4, 3) := dk_167 0 4 (dk_at dksX3_item_4 15 rfl rfl)
theorem dX3_item_111 : decode cX3_item 111 = .ok (.iconst 0, 1) := dk_3 (dk_at dksX3_item_4 18 rfl rfl)
theorem dX3_item_112 : decode cX3_item 112 = .ok (.ireturn, 1) := dk_172 (dk_at dksX3_item_4 19 rfl rfl)
theorem dX3_item_113 : decode cX3_item 113 = .ok (.aload_n 0, 1) := dk_42 (dk_at dksX3_item_4 20 rfl rfl)
theorem dX3_item_114 : decode cX3_item 114 = .ok (.bipush 116, 2) := dk_16 116 (dk_at dksX3_item_4 21 rfl rfl)
theorem dX3_item_116 : decode cX3_item 116 = .ok (.invokevirtual 233, 3) := dk_182 0 233 (dk_at dksX3_item_5 0 rfl rfl)
theorem dX3_item_119 : decode cX3_item 119 = .ok (.ifCond .eq 99, 3) := dk_153 0 99 (dk_at dksX3_item_5 3 rfl rfl)
theorem dX3_item_122 : decode cX3_item 122 = .ok (.aload_n 0, 1) := dk_42 (dk_at dksX3_item_5 6 rfl rfl)
theorem dX3_item_123 : decode cX3_item 123 = .ok (.iload_n 1, 1) := dk_27 (dk_at dksX3_item_5 7 rfl rfl)
theorem dX3_item_124 : decode cX3_item 124 = .ok (.iconst 5, 1) := dk_8 (dk_at dksX3_item_5 8 rfl rfl)
theorem dX3_item_125 : decode cX3_item 125 = .ok (.iadd, 1) := dk_96 (dk_at dksX3_item_5 9 rfl rfl)
theorem dX3_item_126 : decode cX3_item 126 = .ok (.invokevirtual 227, 3) := dk_182 0 227 (dk_at dksX3_item_5 10 rfl rfl)
theorem dX3_item_129 : decode cX3_item 129 = .ok (.ifCond .eq 87, 3) := dk_153 0 87 (dk_at dksX3_item_5 13 rfl rfl)
theorem dX3_item_132 : decode cX3_item 132 = .ok (.aload_n 0, 1) := dk_42 (dk_at dksX3_item_5 16 rfl rfl)
theorem dX3_item_133 : decode cX3_item 133 = .ok (.bipush 45, 2) := dk_16 45 (dk_at dksX3_item_5 17 rfl rfl)
theorem dX3_item_135 : decode cX3_item 135 = .ok (.invokevirtual 233, 3) := dk_182 0 233 (dk_at dksX3_item_5 19 rfl rfl)
theorem dX3_item_138 : decode cX3_item 138 = .ok (.ifCond .eq 78, 3) := dk_153 0 78 (dk_at dksX3_item_6 0 rfl rfl)
theorem dX3_item_141 : decode cX3_item 141 = .ok (.aload_n 0, 1) := dk_42 (dk_at dksX3_item_6 3 rfl rfl)
theorem dX3_item_142 : decode cX3_item 142 = .ok (.iload_n 1, 1) := dk_27 (dk_at dksX3_item_6 4 rfl rfl)
theorem dX3_item_143 : decode cX3_item 143 = .ok (.bipush 6, 2) := dk_16 6 (dk_at dksX3_item_6 5 rfl rfl)
theorem dX3_item_145 : decode cX3_item 145 = .ok (.iadd, 1) := dk_96 (dk_at dksX3_item_6 7 rfl rfl)
theorem dX3_item_146 : decode cX3_item 146 = .ok (.invokevirtual 227, 3) := dk_182 0 227 (dk_at dksX3_item_6 8 rfl rfl)
theorem dX3_item_149 : decode cX3_item 149 = .ok (.ifCond .eq 67, 3) := dk_153 0 67 (dk_at dksX3_item_6 11 rfl rfl)
theorem dX3_item_152 : decode cX3_item 152 = .ok (.aload_n 0, 1) := dk_42 (dk_at dksX3_item_6 14 rfl rfl)
theorem dX3_item_153 : decode cX3_item 153 = .ok (.bipush 58, 2) := dk_16 58 (dk_at dksX3_item_6 15 rfl rfl)
theorem dX3_item_155 : decode cX3_item 155 = .ok (.invokevirtual 233, 3) := dk_182 0 233 (dk_at dksX3_item_6 17 rfl rfl)
theorem dX3_item_158 : decode cX3_item 158 = .ok (.ifCond .eq 58, 3) := dk_153 0 58 (dk_at dksX3_item_6 20 rfl rfl)
theorem dX3_item_161 : decode cX3_item 161 = .ok (.aload_n 0, 1) := dk_42 (dk_at dksX3_item_6 23 rfl rfl)
theorem dX3_item_162 : decode cX3_item 162 = .ok (.iload_n 1, 1) := dk_27 (dk_at dksX3_item_7 0 rfl rfl)
theorem dX3_item_163 : decode cX3_item 163 = .ok (.bipush 7, 2) := dk_16 7 (dk_at dksX3_item_7 1 rfl rfl)
theorem dX3_item_165 : decode cX3_item 165 = .ok (.iadd, 1) := dk_96 (dk_at dksX3_item_7 3 rfl rfl)
theorem dX3_item_166 : decode cX3_item 166 = .ok (.invokevirtual 239, 3) := dk_182 0 239 (dk_at dksX3_item_7 4 rfl rfl)
theorem dX3_item_169 : decode cX3_item 169 = .ok (.ifCond .eq 47, 3) := dk_153 0 47 (dk_at dksX3_item_7 7 rfl rfl)
theorem dX3_item_172 : decode cX3_item 172 = .ok (.aload_n 0, 1) := dk_42 (dk_at dksX3_item_7 10 rfl rfl)
theorem dX3_item_173 : decode cX3_item 173 = .ok (.bipush 44, 2) := dk_16 44 (dk_at dksX3_item_7 11 rfl rfl)
theorem dX3_item_175 : decode cX3_item 175 = .ok (.invokevirtual 233, 3) := dk_182 0 233 (dk_at dksX3_item_7 13 rfl rfl)
theorem dX3_item_178 : decode cX3_item 178 = .ok (.ifCond .eq 38, 3) := dk_153 0 38 (dk_at dksX3_item_7 16 rfl rfl)
theorem dX3_item_181 : decode cX3_item 181 = .ok (.aload_n 0, 1) := dk_42 (dk_at dksX3_item_7 19 rfl rfl)
theorem dX3_item_182 : decode cX3_item 182 = .ok (.iload_n 1, 1) := dk_27 (dk_at dksX3_item_7 20 rfl rfl)
theorem dX3_item_183 : decode cX3_item 183 = .ok (.bipush 8, 2) := dk_16 8 (dk_at dksX3_item_7 21 rfl rfl)
theorem dX3_item_185 : decode cX3_item 185 = .ok (.iadd, 1) := dk_96 (dk_at dksX3_item_7 23 rfl rfl)
theorem dX3_item_186 : decode cX3_item 186 = .ok (.invokevirtual 239, 3) := dk_182 0 239 (dk_at dksX3_item_8 0 rfl rfl)
theorem dX3_item_189 : decode cX3_item 189 = .ok (.ifCond .eq 27, 3) := dk_153 0 27 (dk_at dksX3_item_8 3 rfl rfl)
theorem dX3_item_192 : decode cX3_item 192 = .ok (.aload_n 0, 1) := dk_42 (dk_at dksX3_item_8 6 rfl rfl)
theorem dX3_item_193 : decode cX3_item 193 = .ok (.bipush 44, 2) := dk_16 44 (dk_at dksX3_item_8 7 rfl rfl)
theorem dX3_item_195 : decode cX3_item 195 = .ok (.invokevirtual 233, 3) := dk_182 0 233 (dk_at dksX3_item_8 9 rfl rfl)
theorem dX3_item_198 : decode cX3_item 198 = .ok (.ifCond .eq 18, 3) := dk_153 0 18 (dk_at dksX3_item_8 12 rfl rfl)
theorem dX3_item_201 : decode cX3_item 201 = .ok (.aload_n 0, 1) := dk_42 (dk_at dksX3_item_8 15 rfl rfl)
theorem dX3_item_202 : decode cX3_item 202 = .ok (.iload_n 1, 1) := dk_27 (dk_at dksX3_item_8 16 rfl rfl)
theorem dX3_item_203 : decode cX3_item 203 = .ok (.bipush 9, 2) := dk_16 9 (dk_at dksX3_item_8 17 rfl rfl)
theorem dX3_item_205 : decode cX3_item 205 = .ok (.iadd, 1) := dk_96 (dk_at dksX3_item_8 19 rfl rfl)
theorem dX3_item_206 : decode cX3_item 206 = .ok (.invokevirtual 227, 3) := dk_182 0 227 (dk_at dksX3_item_8 20 rfl rfl)
theorem dX3_item_209 : decode cX3_item 209 = .ok (.ifCond .eq 7, 3) := dk_153 0 7 (dk_at dksX3_item_9 0 rfl rfl)
theorem dX3_item_212 : decode cX3_item 212 = .ok (.iconst 1, 1) := dk_4 (dk_at dksX3_item_9 3 rfl rfl)
theorem dX3_item_213 : decode cX3_item 213 = .ok (.goto 4, 3) := dk_167 0 4 (dk_at dksX3_item_9 4 rfl rfl)
theorem dX3_item_216 : decode cX3_item 216 = .ok (.iconst 0, 1) := dk_3 (dk_at dksX3_item_9 7 rfl rfl)
theorem dX3_item_217 : decode cX3_item 217 = .ok (.ireturn, 1) := dk_172 (dk_at dksX3_item_9 8 rfl rfl)
theorem dX3_item_218 : decode cX3_item 218 = .ok (.aload_n 0, 1) := dk_42 (dk_at dksX3_item_9 9 rfl rfl)
theorem dX3_item_219 : decode cX3_item 219 = .ok (.bipush 99, 2) := dk_16 99 (dk_at dksX3_item_9 10 rfl rfl)
theorem dX3_item_221 : decode cX3_item 221 = .ok (.invokevirtual 233, 3) := dk_182 0 233 (dk_at dksX3_item_9 12 rfl rfl)
theorem dX3_item_224 : decode cX3_item 224 = .ok (.ifCond .eq 56, 3) := dk_153 0 56 (dk_at dksX3_item_9 15 rfl rfl)
theorem dX3_item_227 : decode cX3_item 227 = .ok (.aload_n 0, 1) := dk_42 (dk_at dksX3_item_9 18 rfl rfl)
theorem dX3_item_228 : decode cX3_item 228 = .ok (.iload_n 1, 1) := dk_27 (dk_at dksX3_item_9 19 rfl rfl)
theorem dX3_item_229 : decode cX3_item 229 = .ok (.invokevirtual 236, 3) := dk_182 0 236 (dk_at dksX3_item_9 20 rfl rfl)
theorem dX3_item_232 : decode cX3_item 232 = .ok (.ifCond .eq 46, 3) := dk_153 0 46 (dk_at dksX3_item_10 0 rfl rfl)
theorem dX3_item_235 : decode cX3_item 235 = .ok (.aload_n 0, 1) := dk_42 (dk_at dksX3_item_10 3 rfl rfl)
theorem dX3_item_236 : decode cX3_item 236 = .ok (.bipush 58, 2) := dk_16 58 (dk_at dksX3_item_10 4 rfl rfl)
theorem dX3_item_238 : decode cX3_item 238 = .ok (.invokevirtual 233, 3) := dk_182 0 233 (dk_at dksX3_item_10 6 rfl rfl)
theorem dX3_item_241 : decode cX3_item 241 = .ok (.ifCond .eq 37, 3) := dk_153 0 37 (dk_at dksX3_item_10 9 rfl rfl)
theorem dX3_item_244 : decode cX3_item 244 = .ok (.aload_n 0, 1) := dk_42 (dk_at dksX3_item_10 12 rfl rfl)
theorem dX3_item_245 : decode cX3_item 245 = .ok (.iload_n 1, 1) := dk_27 (dk_at dksX3_item_10 13 rfl rfl)
theorem dX3_item_246 : decode cX3_item 246 = .ok (.iconst 5, 1) := dk_8 (dk_at dksX3_item_10 14 rfl rfl)
theorem dX3_item_247 : decode cX3_item 247 = .ok (.iadd, 1) := dk_96 (dk_at dksX3_item_10 15 rfl rfl)
theorem dX3_item_248 : decode cX3_item 248 = .ok (.invokevirtual 227, 3) := dk_182 0 227 (dk_at dksX3_item_10 16 rfl rfl)
theorem dX3_item_251 : decode cX3_item 251 = .ok (.ifCond .eq 27, 3) := dk_153 0 27 (dk_at dksX3_item_10 19 rfl rfl)
theorem dX3_item_254 : decode cX3_item 254 = .ok (.aload_n 0, 1) := dk_42 (dk_at dksX3_item_10 22 rfl rfl)
theorem dX3_item_255 : decode cX3_item 255 = .ok (.bipush 45, 2) := dk_16 45 (dk_at dksX3_item_11 0 rfl rfl)
theorem dX3_item_257 : decode cX3_item 257 = .ok (.invokevirtual 233, 3) := dk_182 0 233 (dk_at dksX3_item_11 2 rfl rfl)
theorem dX3_item_260 : decode cX3_item 260 = .ok (.ifCond .eq 18, 3) := dk_153 0 18 (dk_at dksX3_item_11 5 rfl rfl)
theorem dX3_item_263 : decode cX3_item 263 = .ok (.aload_n 0, 1) := dk_42 (dk_at dksX3_item_11 8 rfl rfl)
theorem dX3_item_264 : decode cX3_item 264 = .ok (.iload_n 1, 1) := dk_27 (dk_at dksX3_item_11 9 rfl rfl)
theorem dX3_item_265 : decode cX3_item 265 = .ok (.bipush 6, 2) := dk_16 6 (dk_at dksX3_item_11 10 rfl rfl)
theorem dX3_item_267 : decode cX3_item 267 = .ok (.iadd, 1) := dk_96 (dk_at dksX3_item_11 12 rfl rfl)
theorem dX3_item_268 : decode cX3_item 268 = .ok (.invokevirtual 227, 3) := dk_182 0 227 (dk_at dksX3_item_11 13 rfl rfl)
theorem dX3_item_271 : decode cX3_item 271 = .ok (.ifCond .eq 7, 3) := dk_153 0 7 (dk_at dksX3_item_11 16 rfl rfl)
theorem dX3_item_274 : decode cX3_item 274 = .ok (.iconst 1, 1) := dk_4 (dk_at dksX3_item_11 19 rfl rfl)
theorem dX3_item_275 : decode cX3_item 275 = .ok (.goto 4, 3) := dk_167 0 4 (dk_at dksX3_item_11 20 rfl rfl)
theorem dX3_item_278 : decode cX3_item 278 = .ok (.iconst 0, 1) := dk_3 (dk_at dksX3_item_11 23 rfl rfl)
theorem dX3_item_279 : decode cX3_item 279 = .ok (.ireturn, 1) := dk_172 (dk_at dksX3_item_12 0 rfl rfl)
theorem dX3_item_280 : decode cX3_item 280 = .ok (.aload_n 0, 1) := dk_42 (dk_at dksX3_item_12 1 rfl rfl)
theorem dX3_item_281 : decode cX3_item 281 = .ok (.bipush 100, 2) := dk_16 100 (dk_at dksX3_item_12 2 rfl rfl)
theorem dX3_item_283 : decode cX3_item 283 = .ok (.invokevirtual 233, 3) := dk_182 0 233 (dk_at dksX3_item_12 4 rfl rfl)
theorem dX3_item_286 : decode cX3_item 286 = .ok (.ifCond .eq 34, 3) := dk_153 0 34 (dk_at dksX3_item_12 7 rfl rfl)
theorem dX3_item_289 : decode cX3_item 289 = .ok (.aload_n 0, 1) := dk_42 (dk_at dksX3_item_12 10 rfl rfl)
theorem dX3_item_290 : decode cX3_item 290 = .ok (.iload_n 1, 1) := dk_27 (dk_at dksX3_item_12 11 rfl rfl)
theorem dX3_item_291 : decode cX3_item 291 = .ok (.invokevirtual 236, 3) := dk_182 0 236 (dk_at dksX3_item_12 12 rfl rfl)
theorem dX3_item_294 : decode cX3_item 294 = .ok (.ifCond .eq 26, 3) := dk_153 0 26 (dk_at dksX3_item_12 15 rfl rfl)
theorem dX3_item_297 : decode cX3_item 297 = .ok (.aload_n 0, 1) := dk_42 (dk_at dksX3_item_12 18 rfl rfl)
theorem dX3_item_298 : decode cX3_item 298 = .ok (.bipush 61, 2) := dk_16 61 (dk_at dksX3_item_12 19 rfl rfl)
theorem dX3_item_300 : decode cX3_item 300 = .ok (.invokevirtual 233, 3) := dk_182 0 233 (dk_at dksX3_item_12 21 rfl rfl)
theorem dX3_item_303 : decode cX3_item 303 = .ok (.ifCond .eq 17, 3) := dk_153 0 17 (dk_at dksX3_item_13 0 rfl rfl)
theorem dX3_item_306 : decode cX3_item 306 = .ok (.aload_n 0, 1) := dk_42 (dk_at dksX3_item_13 3 rfl rfl)
theorem dX3_item_307 : decode cX3_item 307 = .ok (.iload_n 1, 1) := dk_27 (dk_at dksX3_item_13 4 rfl rfl)
theorem dX3_item_308 : decode cX3_item 308 = .ok (.iconst 5, 1) := dk_8 (dk_at dksX3_item_13 5 rfl rfl)
theorem dX3_item_309 : decode cX3_item 309 = .ok (.iadd, 1) := dk_96 (dk_at dksX3_item_13 6 rfl rfl)
theorem dX3_item_310 : decode cX3_item 310 = .ok (.invokevirtual 239, 3) := dk_182 0 239 (dk_at dksX3_item_13 7 rfl rfl)
theorem dX3_item_313 : decode cX3_item 313 = .ok (.ifCond .eq 7, 3) := dk_153 0 7 (dk_at dksX3_item_13 10 rfl rfl)
theorem dX3_item_316 : decode cX3_item 316 = .ok (.iconst 1, 1) := dk_4 (dk_at dksX3_item_13 13 rfl rfl)
theorem dX3_item_317 : decode cX3_item 317 = .ok (.goto 4, 3) := dk_167 0 4 (dk_at dksX3_item_13 14 rfl rfl)
theorem dX3_item_320 : decode cX3_item 320 = .ok (.iconst 0, 1) := dk_3 (dk_at dksX3_item_13 17 rfl rfl)
theorem dX3_item_321 : decode cX3_item 321 = .ok (.ireturn, 1) := dk_172 (dk_at dksX3_item_13 18 rfl rfl)
def dkwX3_here_1 : List UInt8 := [172]
abbrev dktX3_here_1 : List UInt8 := dkwX3_here_1 ++ []
def dkwX3_here_0 : List UInt8 := [42, 180, 0, 221, 42, 180, 0, 209, 162, 0, 15, 42, 180, 0, 50, 42, 180, 0, 221, 46, 167, 0, 4, 2]
abbrev dktX3_here_0 : List UInt8 := dkwX3_here_0 ++ dktX3_here_1
theorem dksX3_here_0 : cX3_here.data.toList.drop 0 = dktX3_here_0 := by decide +kernel
theorem dksX3_here_1 : cX3_here.data.toList.drop 24 = dktX3_here_1 := dk_seg dksX3_here_0 24 rfl rfl
theorem dX3_here_0 : decode cX3_here 0 = .ok (.aload_n 0, 1) := dk_42 (dk_at dksX3_here_0 0 rfl rfl)
theorem dX3_here_1 : decode cX3_here 1 = .ok (.getfield 221, 3) := dk_180 0 221 (dk_at dksX3_here_0 1 rfl rfl)
theorem dX3_here_4 : decode cX3_here 4 = .ok (.aload_n 0, 1) := dk_42 (dk_at dksX3_here_0 4 rfl rfl)
theorem dX3_here_5 : decode cX3_here 5 = .ok (.getfield 209, 3) := dk_180 0 209 (dk_at dksX3_here_0 5 rfl rfl)
theorem dX3_here_8 : decode cX3_here 8 = .ok (.if_icmp .ge 15, 3) := dk_162 0 15 (dk_at dksX3_here_0 8 rfl rfl)
theorem dX3_here_11 : decode cX3_here 11 = .ok (.aload_n 0, 1) := dk_42 (dk_at dksX3_here_0 11 rfl rfl)
theorem dX3_here_12 : decode cX3_here 12 = .ok (.getfield 50, 3) := dk_180 0 50 (dk_at dksX3_here_0 12 rfl rfl)
theorem dX3_here_15 : decode cX3_here 15 = .ok (.aload_n 0, 1) := dk_42 (dk_at dksX3_here_0 15 rfl rfl)
theorem dX3_here_16 : decode cX3_here 16 = .ok (.getfield 221, 3) := dk_180 0 221 (dk_at dksX3_here_0 16 rfl rfl)
theorem dX3_here_19 : decode cX3_here 19 = .ok (.iaload, 1) := dk_46 (dk_at dksX3_here_0 19 rfl rfl)
theorem dX3_here_20 : decode cX3_here 20 = .ok (.goto 4, 3) := dk_167 0 4 (dk_at dksX3_here_0 20 rfl rfl)
theorem dX3_here_23 : decode cX3_here 23 = .ok (.iconst (-1), 1) := dk_2 (dk_at dksX3_here_0 23 rfl rfl)
theorem dX3_here_24 : decode cX3_here 24 = .ok (.ireturn, 1) := dk_172 (dk_at dksX3_here_1 0 rfl rfl)
def dkwX3_skips_1 : List UInt8 := [167, 0, 4, 3, 96, 181, 0, 221, 28, 172]
abbrev dktX3_skips_1 : List UInt8 := dkwX3_skips_1 ++ []
def dkwX3_skips_0 : List UInt8 := [42, 182, 0, 224, 27, 160, 0, 7, 4, 167, 0, 4, 3, 61, 42, 89, 180, 0, 221, 28, 153, 0, 7, 4]
abbrev dktX3_skips_0 : List UInt8 := dkwX3_skips_0 ++ dktX3_skips_1
theorem dksX3_skips_0 : cX3_skips.data.toList.drop 0 = dktX3_skips_0 := by decide +kernel
theorem dksX3_skips_1 : cX3_skips.data.toList.drop 24 = dktX3_skips_1 := dk_seg dksX3_skips_0 24 rfl rfl
theorem dX3_skips_0 : decode cX3_skips 0 = .ok (.aload_n 0, 1) := dk_42 (dk_at dksX3_skips_0 0 rfl rfl)
theorem dX3_skips_1 : decode cX3_skips 1 = .ok (.invokevirtual 224, 3) := dk_182 0 224 (dk_at dksX3_skips_0 1 rfl rfl)
theorem dX3_skips_4 : decode cX3_skips 4 = .ok (.iload_n 1, 1) := dk_27 (dk_at dksX3_skips_0 4 rfl rfl)
theorem dX3_skips_5 : decode cX3_skips 5 = .ok (.if_icmp .ne 7, 3) := dk_160 0 7 (dk_at dksX3_skips_0 5 rfl rfl)
theorem dX3_skips_8 : decode cX3_skips 8 = .ok (.iconst 1, 1) := dk_4 (dk_at dksX3_skips_0 8 rfl rfl)
theorem dX3_skips_9 : decode cX3_skips 9 = .ok (.goto 4, 3) := dk_167 0 4 (dk_at dksX3_skips_0 9 rfl rfl)
theorem dX3_skips_12 : decode cX3_skips 12 = .ok (.iconst 0, 1) := dk_3 (dk_at dksX3_skips_0 12 rfl rfl)
theorem dX3_skips_13 : decode cX3_skips 13 = .ok (.istore_n 2, 1) := dk_61 (dk_at dksX3_skips_0 13 rfl rfl)
theorem dX3_skips_14 : decode cX3_skips 14 = .ok (.aload_n 0, 1) := dk_42 (dk_at dksX3_skips_0 14 rfl rfl)
theorem dX3_skips_15 : decode cX3_skips 15 = .ok (.dup, 1) := dk_89 (dk_at dksX3_skips_0 15 rfl rfl)
theorem dX3_skips_16 : decode cX3_skips 16 = .ok (.getfield 221, 3) := dk_180 0 221 (dk_at dksX3_skips_0 16 rfl rfl)
theorem dX3_skips_19 : decode cX3_skips 19 = .ok (.iload_n 2, 1) := dk_28 (dk_at dksX3_skips_0 19 rfl rfl)
theorem dX3_skips_20 : decode cX3_skips 20 = .ok (.ifCond .eq 7, 3) := dk_153 0 7 (dk_at dksX3_skips_0 20 rfl rfl)
theorem dX3_skips_23 : decode cX3_skips 23 = .ok (.iconst 1, 1) := dk_4 (dk_at dksX3_skips_0 23 rfl rfl)
theorem dX3_skips_24 : decode cX3_skips 24 = .ok (.goto 4, 3) := dk_167 0 4 (dk_at dksX3_skips_1 0 rfl rfl)
theorem dX3_skips_27 : decode cX3_skips 27 = .ok (.iconst 0, 1) := dk_3 (dk_at dksX3_skips_1 3 rfl rfl)
theorem dX3_skips_28 : decode cX3_skips 28 = .ok (.iadd, 1) := dk_96 (dk_at dksX3_skips_1 4 rfl rfl)
theorem dX3_skips_29 : decode cX3_skips 29 = .ok (.putfield 221, 3) := dk_181 0 221 (dk_at dksX3_skips_1 5 rfl rfl)
theorem dX3_skips_32 : decode cX3_skips 32 = .ok (.iload_n 2, 1) := dk_28 (dk_at dksX3_skips_1 8 rfl rfl)
theorem dX3_skips_33 : decode cX3_skips 33 = .ok (.ireturn, 1) := dk_172 (dk_at dksX3_skips_1 9 rfl rfl)
def dkwX3_name_3 : List UInt8 := [172]
abbrev dktX3_name_3 : List UInt8 := dkwX3_name_3 ++ []
def dkwX3_name_2 : List UInt8 := [181, 0, 221, 167, 255, 210, 42, 180, 0, 60, 27, 7, 96, 28, 79, 28, 158, 0, 7, 4, 167, 0, 4, 3]
abbrev dktX3_name_2 : List UInt8 := dkwX3_name_2 ++ dktX3_name_3
def dkwX3_name_1 : List UInt8 := [180, 0, 60, 27, 4, 96, 28, 96, 42, 182, 0, 224, 79, 132, 2, 1, 42, 89, 180, 0, 221, 4, 96]
abbrev dktX3_name_1 : List UInt8 := dkwX3_name_1 ++ dktX3_name_2
def dkwX3_name_0 : List UInt8 := [3, 61, 28, 6, 162, 0, 47, 42, 182, 0, 224, 16, 97, 16, 122, 184, 0, 90, 153, 0, 33, 42]
abbrev dktX3_name_0 : List UInt8 := dkwX3_name_0 ++ dktX3_name_1
theorem dksX3_name_0 : cX3_name.data.toList.drop 0 = dktX3_name_0 := by decide +kernel
theorem dksX3_name_1 : cX3_name.data.toList.drop 22 = dktX3_name_1 := dk_seg dksX3_name_0 22 rfl rfl
theorem dksX3_name_2 : cX3_name.data.toList.drop 45 = dktX3_name_2 := dk_seg dksX3_name_1 23 rfl rfl
theorem dksX3_name_3 : cX3_name.data.toList.drop 69 = dktX3_name_3 := dk_seg dksX3_name_2 24 rfl rfl
theorem dX3_name_0 : decode cX3_name 0 = .ok (.iconst 0, 1) := dk_3 (dk_at dksX3_name_0 0 rfl rfl)
theorem dX3_name_1 : decode cX3_name 1 = .ok (.istore_n 2, 1) := dk_61 (dk_at dksX3_name_0 1 rfl rfl)
theorem dX3_name_2 : decode cX3_name 2 = .ok (.iload_n 2, 1) := dk_28 (dk_at dksX3_name_0 2 rfl rfl)
theorem dX3_name_3 : decode cX3_name 3 = .ok (.iconst 3, 1) := dk_6 (dk_at dksX3_name_0 3 rfl rfl)
theorem dX3_name_4 : decode cX3_name 4 = .ok (.if_icmp .ge 47, 3) := dk_162 0 47 (dk_at dksX3_name_0 4 rfl rfl)
theorem dX3_name_7 : decode cX3_name 7 = .ok (.aload_n 0, 1) := dk_42 (dk_at dksX3_name_0 7 rfl rfl)
theorem dX3_name_8 : decode cX3_name 8 = .ok (.invokevirtual 224, 3) := dk_182 0 224 (dk_at dksX3_name_0 8 rfl rfl)
theorem dX3_name_11 : decode cX3_name 11 = .ok (.bipush 97, 2) := dk_16 97 (dk_at dksX3_name_0 11 rfl rfl)
theorem dX3_name_13 : decode cX3_name 13 = .ok (.bipush 122, 2) := dk_16 122 (dk_at dksX3_name_0 13 rfl rfl)
theorem dX3_name_15 : decode cX3_name 15 = .ok (.invokestatic 90, 3) := dk_184 0 90 (dk_at dksX3_name_0 15 rfl rfl)
theorem dX3_name_18 : decode cX3_name 18 = .ok (.ifCond .eq 33, 3) := dk_153 0 33 (dk_at dksX3_name_0 18 rfl rfl)
theorem dX3_name_21 : decode cX3_name 21 = .ok (.aload_n 0, 1) := dk_42 (dk_at dksX3_name_0 21 rfl rfl)
theorem dX3_name_22 : decode cX3_name 22 = .ok (.getfield 60, 3) := dk_180 0 60 (dk_at dksX3_name_1 0 rfl rfl)
theorem dX3_name_25 : decode cX3_name 25 = .ok (.iload_n 1, 1) := dk_27 (dk_at dksX3_name_1 3 rfl rfl)
theorem dX3_name_26 : decode cX3_name 26 = .ok (.iconst 1, 1) := dk_4 (dk_at dksX3_name_1 4 rfl rfl)
theorem dX3_name_27 : decode cX3_name 27 = .ok (.iadd, 1) := dk_96 (dk_at dksX3_name_1 5 rfl rfl)
theorem dX3_name_28 : decode cX3_name 28 = .ok (.iload_n 2, 1) := dk_28 (dk_at dksX3_name_1 6 rfl rfl)
theorem dX3_name_29 : decode cX3_name 29 = .ok (.iadd, 1) := dk_96 (dk_at dksX3_name_1 7 rfl rfl)
theorem dX3_name_30 : decode cX3_name 30 = .ok (.aload_n 0, 1) := dk_42 (dk_at dksX3_name_1 8 rfl rfl)
theorem dX3_name_31 : decode cX3_name 31 = .ok (.invokevirtual 224, 3) := dk_182 0 224 (dk_at dksX3_name_1 9 rfl rfl)
theorem dX3_name_34 : decode cX3_name 34 = .ok (.iastore, 1) := dk_79 (dk_at dksX3_name_1 12 rfl rfl)
theorem dX3_name_35 : decode cX3_name 35 = .ok (.iinc 2 1, 3) := dk_132 2 1 (dk_at dksX3_name_1 13 rfl rfl)
theorem dX3_name_38 : decode cX3_name 38 = .ok (.aload_n 0, 1) := dk_42 (dk_at dksX3_name_1 16 rfl rfl)
theorem dX3_name_39 : decode cX3_name 39 = .ok (.dup, 1) := dk_89 (dk_at dksX3_name_1 17 rfl rfl)
theorem dX3_name_40 : decode cX3_name 40 = .ok (.getfield 221, 3) := dk_180 0 221 (dk_at dksX3_name_1 18 rfl rfl)
theorem dX3_name_43 : decode cX3_name 43 = .ok (.iconst 1, 1) := dk_4 (dk_at dksX3_name_1 21 rfl rfl)
theorem dX3_name_44 : decode cX3_name 44 = .ok (.iadd, 1) := dk_96 (dk_at dksX3_name_1 22 rfl rfl)
theorem dX3_name_45 : decode cX3_name 45 = .ok (.putfield 221, 3) := dk_181 0 221 (dk_at dksX3_name_2 0 rfl rfl)
theorem dX3_name_48 : decode cX3_name 48 = .ok (.goto (-46), 3) := dk_167 255 210 (dk_at dksX3_name_2 3 rfl rfl)
theorem dX3_name_51 : decode cX3_name 51 = .ok (.aload_n 0, 1) := dk_42 (dk_at dksX3_name_2 6 rfl rfl)
theorem dX3_name_52 : decode cX3_name 52 = .ok (.getfield 60, 3) := dk_180 0 60 (dk_at dksX3_name_2 7 rfl rfl)
theorem dX3_name_55 : decode cX3_name 55 = .ok (.iload_n 1, 1) := dk_27 (dk_at dksX3_name_2 10 rfl rfl)
theorem dX3_name_56 : decode cX3_name 56 = .ok (.iconst 4, 1) := dk_7 (dk_at dksX3_name_2 11 rfl rfl)
theorem dX3_name_57 : decode cX3_name 57 = .ok (.iadd, 1) := dk_96 (dk_at dksX3_name_2 12 rfl rfl)
theorem dX3_name_58 : decode cX3_name 58 = .ok (.iload_n 2, 1) := dk_28 (dk_at dksX3_name_2 13 rfl rfl)
theorem dX3_name_59 : decode cX3_name 59 = .ok (.iastore, 1) := dk_79 (dk_at dksX3_name_2 14 rfl rfl)
theorem dX3_name_60 : decode cX3_name 60 = .ok (.iload_n 2, 1) := dk_28 (dk_at dksX3_name_2 15 rfl rfl)
theorem dX3_name_61 : decode cX3_name 61 = .ok (.ifCond .le 7, 3) := dk_158 0 7 (dk_at dksX3_name_2 16 rfl rfl)
theorem dX3_name_64 : decode cX3_name 64 = .ok (.iconst 1, 1) := dk_4 (dk_at dksX3_name_2 19 rfl rfl)
theorem dX3_name_65 : decode cX3_name 65 = .ok (.goto 4, 3) := dk_167 0 4 (dk_at dksX3_name_2 20 rfl rfl)
theorem dX3_name_68 : decode cX3_name 68 = .ok (.iconst 0, 1) := dk_3 (dk_at dksX3_name_2 23 rfl rfl)
theorem dX3_name_69 : decode cX3_name 69 = .ok (.ireturn, 1) := dk_172 (dk_at dksX3_name_3 0 rfl rfl)
def dkwX3_digit_1 : List UInt8 := [182, 0, 224, 16, 48, 100, 79, 42, 89, 180, 0, 221, 4, 96, 181, 0, 221, 4, 172]
abbrev dktX3_digit_1 : List UInt8 := dkwX3_digit_1 ++ []
def dkwX3_digit_0 : List UInt8 := [42, 182, 0, 224, 16, 48, 16, 57, 184, 0, 90, 154, 0, 5, 3, 172, 42, 180, 0, 60, 27, 42]
abbrev dktX3_digit_0 : List UInt8 := dkwX3_digit_0 ++ dktX3_digit_1
theorem dksX3_digit_0 : cX3_digit.data.toList.drop 0 = dktX3_digit_0 := by decide +kernel
theorem dksX3_digit_1 : cX3_digit.data.toList.drop 22 = dktX3_digit_1 := dk_seg dksX3_digit_0 22 rfl rfl
theorem dX3_digit_0 : decode cX3_digit 0 = .ok (.aload_n 0, 1) := dk_42 (dk_at dksX3_digit_0 0 rfl rfl)
theorem dX3_digit_1 : decode cX3_digit 1 = .ok (.invokevirtual 224, 3) := dk_182 0 224 (dk_at dksX3_digit_0 1 rfl rfl)
theorem dX3_digit_4 : decode cX3_digit 4 = .ok (.bipush 48, 2) := dk_16 48 (dk_at dksX3_digit_0 4 rfl rfl)
theorem dX3_digit_6 : decode cX3_digit 6 = .ok (.bipush 57, 2) := dk_16 57 (dk_at dksX3_digit_0 6 rfl rfl)
theorem dX3_digit_8 : decode cX3_digit 8 = .ok (.invokestatic 90, 3) := dk_184 0 90 (dk_at dksX3_digit_0 8 rfl rfl)
theorem dX3_digit_11 : decode cX3_digit 11 = .ok (.ifCond .ne 5, 3) := dk_154 0 5 (dk_at dksX3_digit_0 11 rfl rfl)
theorem dX3_digit_14 : decode cX3_digit 14 = .ok (.iconst 0, 1) := dk_3 (dk_at dksX3_digit_0 14 rfl rfl)
theorem dX3_digit_15 : decode cX3_digit 15 = .ok (.ireturn, 1) := dk_172 (dk_at dksX3_digit_0 15 rfl rfl)
theorem dX3_digit_16 : decode cX3_digit 16 = .ok (.aload_n 0, 1) := dk_42 (dk_at dksX3_digit_0 16 rfl rfl)
theorem dX3_digit_17 : decode cX3_digit 17 = .ok (.getfield 60, 3) := dk_180 0 60 (dk_at dksX3_digit_0 17 rfl rfl)
theorem dX3_digit_20 : decode cX3_digit 20 = .ok (.iload_n 1, 1) := dk_27 (dk_at dksX3_digit_0 20 rfl rfl)
theorem dX3_digit_21 : decode cX3_digit 21 = .ok (.aload_n 0, 1) := dk_42 (dk_at dksX3_digit_0 21 rfl rfl)
theorem dX3_digit_22 : decode cX3_digit 22 = .ok (.invokevirtual 224, 3) := dk_182 0 224 (dk_at dksX3_digit_1 0 rfl rfl)
theorem dX3_digit_25 : decode cX3_digit 25 = .ok (.bipush 48, 2) := dk_16 48 (dk_at dksX3_digit_1 3 rfl rfl)
theorem dX3_digit_27 : decode cX3_digit 27 = .ok (.isub, 1) := dk_100 (dk_at dksX3_digit_1 5 rfl rfl)
theorem dX3_digit_28 : decode cX3_digit 28 = .ok (.iastore, 1) := dk_79 (dk_at dksX3_digit_1 6 rfl rfl)
theorem dX3_digit_29 : decode cX3_digit 29 = .ok (.aload_n 0, 1) := dk_42 (dk_at dksX3_digit_1 7 rfl rfl)
theorem dX3_digit_30 : decode cX3_digit 30 = .ok (.dup, 1) := dk_89 (dk_at dksX3_digit_1 8 rfl rfl)
theorem dX3_digit_31 : decode cX3_digit 31 = .ok (.getfield 221, 3) := dk_180 0 221 (dk_at dksX3_digit_1 9 rfl rfl)
theorem dX3_digit_34 : decode cX3_digit 34 = .ok (.iconst 1, 1) := dk_4 (dk_at dksX3_digit_1 12 rfl rfl)
theorem dX3_digit_35 : decode cX3_digit 35 = .ok (.iadd, 1) := dk_96 (dk_at dksX3_digit_1 13 rfl rfl)
theorem dX3_digit_36 : decode cX3_digit 36 = .ok (.putfield 221, 3) := dk_181 0 221 (dk_at dksX3_digit_1 14 rfl rfl)
theorem dX3_digit_39 : decode cX3_digit 39 = .ok (.iconst 1, 1) := dk_4 (dk_at dksX3_digit_1 17 rfl rfl)
theorem dX3_digit_40 : decode cX3_digit 40 = .ok (.ireturn, 1) := dk_172 (dk_at dksX3_digit_1 18 rfl rfl)
def dkwX3_number_3 : List UInt8 := [181, 0, 221, 132, 2, 1, 167, 255, 192, 4, 172]
abbrev dktX3_number_3 : List UInt8 := dkwX3_number_3 ++ []
def dkwX3_number_2 : List UInt8 := [42, 180, 0, 60, 27, 46, 104, 42, 182, 0, 224, 96, 16, 48, 100, 79, 42, 89, 180, 0, 221, 4, 96]
abbrev dktX3_number_2 : List UInt8 := dkwX3_number_2 ++ dktX3_number_3
def dkwX3_number_1 : List UInt8 := [158, 0, 56, 42, 182, 0, 224, 16, 48, 16, 57, 184, 0, 90, 153, 0, 42, 42, 180, 0, 60, 27, 16, 10]
abbrev dktX3_number_1 : List UInt8 := dkwX3_number_1 ++ dktX3_number_2
def dkwX3_number_0 : List UInt8 := [42, 27, 182, 0, 227, 154, 0, 5, 3, 172, 4, 61, 28, 6, 162, 0, 65, 42, 180, 0, 60, 27, 46]
abbrev dktX3_number_0 : List UInt8 := dkwX3_number_0 ++ dktX3_number_1
theorem dksX3_number_0 : cX3_number.data.toList.drop 0 = dktX3_number_0 := by decide +kernel
theorem dksX3_number_1 : cX3_number.data.toList.drop 23 = dktX3_number_1 := dk_seg dksX3_number_0 23 rfl rfl
theorem dksX3_number_2 : cX3_number.data.toList.drop 47 = dktX3_number_2 := dk_seg dksX3_number_1 24 rfl rfl
theorem dksX3_number_3 : cX3_number.data.toList.drop 70 = dktX3_number_3 := dk_seg dksX3_number_2 23 rfl rfl
theorem dX3_number_0 : decode cX3_number 0 = .ok (.aload_n 0, 1) := dk_42 (dk_at dksX3_number_0 0 rfl rfl)
theorem dX3_number_1 : decode cX3_number 1 = .ok (.iload_n 1, 1) := dk_27 (dk_at dksX3_number_0 1 rfl rfl)
theorem dX3_number_2 : decode cX3_number 2 = .ok (.invokevirtual 227, 3) := dk_182 0 227 (dk_at dksX3_number_0 2 rfl rfl)
theorem dX3_number_5 : decode cX3_number 5 = .ok (.ifCond .ne 5, 3) := dk_154 0 5 (dk_at dksX3_number_0 5 rfl rfl)
theorem dX3_number_8 : decode cX3_number 8 = .ok (.iconst 0, 1) := dk_3 (dk_at dksX3_number_0 8 rfl rfl)
theorem dX3_number_9 : decode cX3_number 9 = .ok (.ireturn, 1) := dk_172 (dk_at dksX3_number_0 9 rfl rfl)
theorem dX3_number_10 : decode cX3_number 10 = .ok (.iconst 1, 1) := dk_4 (dk_at dksX3_number_0 10 rfl rfl)
theorem dX3_number_11 : decode cX3_number 11 = .ok (.istore_n 2, 1) := dk_61 (dk_at dksX3_number_0 11 rfl rfl)
theorem dX3_number_12 : decode cX3_number 12 = .ok (.iload_n 2, 1) := dk_28 (dk_at dksX3_number_0 12 rfl rfl)
theorem dX3_number_13 : decode cX3_number 13 = .ok (.iconst 3, 1) := dk_6 (dk_at dksX3_number_0 13 rfl rfl)
theorem dX3_number_14 : decode cX3_number 14 = .ok (.if_icmp .ge 65, 3) := dk_162 0 65 (dk_at dksX3_number_0 14 rfl rfl)
theorem dX3_number_17 : decode cX3_number 17 = .ok (.aload_n 0, 1) := dk_42 (dk_at dksX3_number_0 17 rfl rfl)
theorem dX3_number_18 : decode cX3_number 18 = .ok (.getfield 60, 3) := dk_180 0 60 (dk_at dksX3_number_0 18 rfl rfl)
theorem dX3_number_21 : decode cX3_number 21 = .ok (.iload_n 1, 1) := dk_27 (dk_at dksX3_number_0 21 rfl rfl)
theorem dX3_number_22 : decode cX3_number 22 = .ok (.iaload, 1) := dk_46 (dk_at dksX3_number_0 22 rfl rfl)
theorem dX3_number_23 : decode cX3_number 23 = .ok (.ifCond .le 56, 3) := dk_158 0 56 (dk_at dksX3_number_1 0 rfl rfl)
theorem dX3_number_26 : decode cX3_number 26 = .ok (.aload_n 0, 1) := dk_42 (dk_at dksX3_number_1 3 rfl rfl)
theorem dX3_number_27 : decode cX3_number 27 = .ok (.invokevirtual 224, 3) := dk_182 0 224 (dk_at dksX3_number_1 4 rfl rfl)
theorem dX3_number_30 : decode cX3_number 30 = .ok (.bipush 48, 2) := dk_16 48 (dk_at dksX3_number_1 7 rfl rfl)
theorem dX3_number_32 : decode cX3_number 32 = .ok (.bipush 57, 2) := dk_16 57 (dk_at dksX3_number_1 9 rfl rfl)
theorem dX3_number_34 : decode cX3_number 34 = .ok (.invokestatic 90, 3) := dk_184 0 90 (dk_at dksX3_number_1 11 rfl rfl)
theorem dX3_number_37 : decode cX3_number 37 = .ok (.ifCond .eq 42, 3) := dk_153 0 42 (dk_at dksX3_number_1 14 rfl rfl)
theorem dX3_number_40 : decode cX3_number 40 = .ok (.aload_n 0, 1) := dk_42 (dk_at dksX3_number_1 17 rfl rfl)
theorem dX3_number_41 : decode cX3_number 41 = .ok (.getfield 60, 3) := dk_180 0 60 (dk_at dksX3_number_1 18 rfl rfl)
theorem dX3_number_44 : decode cX3_number 44 = .ok (.iload_n 1, 1) := dk_27 (dk_at dksX3_number_1 21 rfl rfl)
theorem dX3_number_45 : decode cX3_number 45 = .ok (.bipush 10, 2) := dk_16 10 (dk_at dksX3_number_1 22 rfl rfl)
theorem dX3_number_47 : decode cX3_number 47 = .ok (.aload_n 0, 1) := dk_42 (dk_at dksX3_number_2 0 rfl rfl)
theorem dX3_number_48 : decode cX3_number 48 = .ok (.getfield 60, 3) := dk_180 0 60 (dk_at dksX3_number_2 1 rfl rfl)
theorem dX3_number_51 : decode cX3_number 51 = .ok (.iload_n 1, 1) := dk_27 (dk_at dksX3_number_2 4 rfl rfl)
theorem dX3_number_52 : decode cX3_number 52 = .ok (.iaload, 1) := dk_46 (dk_at dksX3_number_2 5 rfl rfl)
theorem dX3_number_53 : decode cX3_number 53 = .ok (.imul, 1) := dk_104 (dk_at dksX3_number_2 6 rfl rfl)
theorem dX3_number_54 : decode cX3_number 54 = .ok (.aload_n 0, 1) := dk_42 (dk_at dksX3_number_2 7 rfl rfl)
theorem dX3_number_55 : decode cX3_number 55 = .ok (.invokevirtual 224, 3) := dk_182 0 224 (dk_at dksX3_number_2 8 rfl rfl)
theorem dX3_number_58 : decode cX3_number 58 = .ok (.iadd, 1) := dk_96 (dk_at dksX3_number_2 11 rfl rfl)
theorem dX3_number_59 : decode cX3_number 59 = .ok (.bipush 48, 2) := dk_16 48 (dk_at dksX3_number_2 12 rfl rfl)
theorem dX3_number_61 : decode cX3_number 61 = .ok (.isub, 1) := dk_100 (dk_at dksX3_number_2 14 rfl rfl)
theorem dX3_number_62 : decode cX3_number 62 = .ok (.iastore, 1) := dk_79 (dk_at dksX3_number_2 15 rfl rfl)
theorem dX3_number_63 : decode cX3_number 63 = .ok (.aload_n 0, 1) := dk_42 (dk_at dksX3_number_2 16 rfl rfl)
theorem dX3_number_64 : decode cX3_number 64 = .ok (.dup, 1) := dk_89 (dk_at dksX3_number_2 17 rfl rfl)
theorem dX3_number_65 : decode cX3_number 65 = .ok (.getfield 221, 3) := dk_180 0 221 (dk_at dksX3_number_2 18 rfl rfl)
theorem dX3_number_68 : decode cX3_number 68 = .ok (.iconst 1, 1) := dk_4 (dk_at dksX3_number_2 21 rfl rfl)
theorem dX3_number_69 : decode cX3_number 69 = .ok (.iadd, 1) := dk_96 (dk_at dksX3_number_2 22 rfl rfl)
theorem dX3_number_70 : decode cX3_number 70 = .ok (.putfield 221, 3) := dk_181 0 221 (dk_at dksX3_number_3 0 rfl rfl)
theorem dX3_number_73 : decode cX3_number 73 = .ok (.iinc 2 1, 3) := dk_132 2 1 (dk_at dksX3_number_3 3 rfl rfl)
theorem dX3_number_76 : decode cX3_number 76 = .ok (.goto (-64), 3) := dk_167 255 192 (dk_at dksX3_number_3 6 rfl rfl)
theorem dX3_number_79 : decode cX3_number 79 = .ok (.iconst 1, 1) := dk_4 (dk_at dksX3_number_3 9 rfl rfl)
theorem dX3_number_80 : decode cX3_number 80 = .ok (.ireturn, 1) := dk_172 (dk_at dksX3_number_3 10 rfl rfl)
def dkwX3_carriesOut_8 : List UInt8 := [167, 0, 4, 3, 172]
abbrev dktX3_carriesOut_8 : List UInt8 := dkwX3_carriesOut_8 ++ []
def dkwX3_carriesOut_7 : List UInt8 := [180, 0, 60, 27, 8, 96, 46, 182, 1, 5, 87, 28, 155, 0, 14, 42, 180, 0, 66, 154, 0, 7, 4]
abbrev dktX3_carriesOut_7 : List UInt8 := dkwX3_carriesOut_7 ++ dktX3_carriesOut_8
def dkwX3_carriesOut_6 : List UInt8 := [42, 180, 0, 60, 27, 16, 6, 96, 46, 182, 1, 1, 87, 167, 0, 21, 28, 155, 0, 17, 42, 28, 42]
abbrev dktX3_carriesOut_6 : List UInt8 := dkwX3_carriesOut_6 ++ dktX3_carriesOut_7
def dkwX3_carriesOut_5 : List UInt8 := [155, 0, 40, 42, 180, 0, 60, 27, 46, 16, 99, 160, 0, 29, 42, 28, 42, 180, 0, 60, 27, 8, 96, 46]
abbrev dktX3_carriesOut_5 : List UInt8 := dkwX3_carriesOut_5 ++ dktX3_carriesOut_6
def dkwX3_carriesOut_4 : List UInt8 := [172, 42, 42, 180, 0, 60, 27, 4, 96, 42, 180, 0, 60, 27, 7, 96, 46, 182, 0, 246, 61, 28]
abbrev dktX3_carriesOut_4 : List UInt8 := dkwX3_carriesOut_4 ++ dktX3_carriesOut_5
def dkwX3_carriesOut_3 : List UInt8 := [180, 0, 60, 27, 16, 9, 96, 46, 182, 0, 253, 87, 42, 180, 0, 66, 154, 0, 7, 4, 167, 0, 4, 3]
abbrev dktX3_carriesOut_3 : List UInt8 := dkwX3_carriesOut_3 ++ dktX3_carriesOut_4
def dkwX3_carriesOut_2 : List UInt8 := [16, 6, 96, 46, 42, 180, 0, 60, 27, 16, 7, 96, 46, 42, 180, 0, 60, 27, 16, 8, 96, 46, 42]
abbrev dktX3_carriesOut_2 : List UInt8 := dkwX3_carriesOut_2 ++ dktX3_carriesOut_3
def dkwX3_carriesOut_1 : List UInt8 := [180, 0, 60, 27, 46, 16, 116, 160, 0, 65, 42, 42, 180, 0, 60, 27, 8, 96, 46, 42, 180, 0, 60, 27]
abbrev dktX3_carriesOut_1 : List UInt8 := dkwX3_carriesOut_1 ++ dktX3_carriesOut_2
def dkwX3_carriesOut_0 : List UInt8 := [42, 3, 181, 0, 66, 42, 180, 0, 60, 27, 46, 16, 107, 160, 0, 9, 42, 27, 182, 0, 250, 172, 42]
abbrev dktX3_carriesOut_0 : List UInt8 := dkwX3_carriesOut_0 ++ dktX3_carriesOut_1
theorem dksX3_carriesOut_0 : cX3_carriesOut.data.toList.drop 0 = dktX3_carriesOut_0 := by decide +kernel
theorem dksX3_carriesOut_1 : cX3_carriesOut.data.toList.drop 23 = dktX3_carriesOut_1 := dk_seg dksX3_carriesOut_0 23 rfl rfl
theorem dksX3_carriesOut_2 : cX3_carriesOut.data.toList.drop 47 = dktX3_carriesOut_2 := dk_seg dksX3_carriesOut_1 24 rfl rfl
theorem dksX3_carriesOut_3 : cX3_carriesOut.data.toList.drop 70 = dktX3_carriesOut_3 := dk_seg dksX3_carriesOut_2 23 rfl rfl
theorem dksX3_carriesOut_4 : cX3_carriesOut.data.toList.drop 94 = dktX3_carriesOut_4 := dk_seg dksX3_carriesOut_3 24 rfl rfl
theorem dksX3_carriesOut_5 : cX3_carriesOut.data.toList.drop 116 = dktX3_carriesOut_5 := dk_seg dksX3_carriesOut_4 22 rfl rfl
theorem dksX3_carriesOut_6 : cX3_carriesOut.data.toList.drop 140 = dktX3_carriesOut_6 := dk_seg dksX3_carriesOut_5 24 rfl rfl
theorem dksX3_carriesOut_7 : cX3_carriesOut.data.toList.drop 163 = dktX3_carriesOut_7 := dk_seg dksX3_carriesOut_6 23 rfl rfl
theorem dksX3_carriesOut_8 : cX3_carriesOut.data.toList.drop 186 = dktX3_carriesOut_8 := dk_seg dksX3_carriesOut_7 23 rfl rfl
theorem dX3_carriesOut_0 : decode cX3_carriesOut 0 = .ok (.aload_n 0, 1) := dk_42 (dk_at dksX3_carriesOut_0 0 rfl rfl)
theorem dX3_carriesOut_1 : decode cX3_carriesOut 1 = .ok (.iconst 0, 1) := dk_3 (dk_at dksX3_carriesOut_0 1 rfl rfl)
theorem dX3_carriesOut_2 : decode cX3_carriesOut 2 = .ok (.putfield 66, 3) := dk_181 0 66 (dk_at dksX3_carriesOut_0 2 rfl rfl)
theorem dX3_carriesOut_5 : decode cX3_carriesOut 5 = .ok (.aload_n 0, 1) := dk_42 (dk_at dksX3_carriesOut_0 5 rfl rfl)
theorem dX3_carriesOut_6 : decode cX3_carriesOut 6 = .ok (.getfield 60, 3) := dk_180 0 60 (dk_at dksX3_carriesOut_0 6 rfl rfl)
theorem dX3_carriesOut_9 : decode cX3_carriesOut 9 = .ok (.iload_n 1, 1) := dk_27 (dk_at dksX3_carriesOut_0 9 rfl rfl)
theorem dX3_carriesOut_10 : decode cX3_carriesOut 10 = .ok (.iaload, 1) := dk_46 (dk_at dksX3_carriesOut_0 10 rfl rfl)
theorem dX3_carriesOut_11 : decode cX3_carriesOut 11 = .ok (.bipush 107, 2) := dk_16 107 (dk_at dksX3_carriesOut_0 11 rfl rfl)
theorem dX3_carriesOut_13 : decode cX3_carriesOut 13 = .ok (.if_icmp .ne 9, 3) := dk_160 0 9 (dk_at dksX3_carriesOut_0 13 rfl rfl)
theorem dX3_carriesOut_16 : decode cX3_carriesOut 16 = .ok (.aload_n 0, 1) := dk_42 (dk_at dksX3_carriesOut_0 16 rfl rfl)
theorem dX3_carriesOut_17 : decode cX3_carriesOut 17 = .ok (.iload_n 1, 1) := dk_27 (dk_at dksX3_carriesOut_0 17 rfl rfl)
theorem dX3_carriesOut_18 : decode cX3_carriesOut 18 = .ok (.invokevirtual 250, 3) := dk_182 0 250 (dk_at dksX3_carriesOut_0 18 rfl rfl)
theorem dX3_carriesOut_21 : decode cX3_carriesOut 21 = .ok (.ireturn, 1) := dk_172 (dk_at dksX3_carriesOut_0 21 rfl rfl)
theorem dX3_carriesOut_22 : decode cX3_carriesOut 22 = .ok (.aload_n 0, 1) := dk_42 (dk_at dksX3_carriesOut_0 22 rfl rfl)
theorem dX3_carriesOut_23 : decode cX3_carriesOut 23 = .ok (.getfield 60, 3) := dk_180 0 60 (dk_at dksX3_carriesOut_1 0 rfl rfl)
theorem dX3_carriesOut_26 : decode cX3_carriesOut 26 = .ok (.iload_n 1, 1) := dk_27 (dk_at dksX3_carriesOut_1 3 rfl rfl)
theorem dX3_carriesOut_27 : decode cX3_carriesOut 27 = .ok (.iaload, 1) := dk_46 (dk_at dksX3_carriesOut_1 4 rfl rfl)
theorem dX3_carriesOut_28 : decode cX3_carriesOut 28 = .ok (.bipush 116, 2) := dk_16 116 (dk_at dksX3_carriesOut_1 5 rfl rfl)
theorem dX3_carriesOut_30 : decode cX3_carriesOut 30 = .ok (.if_icmp .ne 65, 3) := dk_160 0 65 (dk_at dksX3_carriesOut_1 7 rfl rfl)
theorem dX3_carriesOut_33 : decode cX3_carriesOut 33 = .ok (.aload_n 0, 1) := dk_42 (dk_at dksX3_carriesOut_1 10 rfl rfl)
theorem dX3_carriesOut_34 : decode cX3_carriesOut 34 = .ok (.aload_n 0, 1) := dk_42 (dk_at dksX3_carriesOut_1 11 rfl rfl)
theorem dX3_carriesOut_35 : decode cX3_carriesOut 35 = .ok (.getfield 60, 3) := dk_180 0 60 (dk_at dksX3_carriesOut_1 12 rfl rfl)
theorem dX3_carriesOut_38 : decode cX3_carriesOut 38 = .ok (.iload_n 1, 1) := dk_27 (dk_at dksX3_carriesOut_1 15 rfl rfl)
theorem dX3_carriesOut_39 : decode cX3_carriesOut 39 = .ok (.iconst 5, 1) := dk_8 (dk_at dksX3_carriesOut_1 16 rfl rfl)
theorem dX3_carriesOut_40 : decode cX3_carriesOut 40 = .ok (.iadd, 1) := dk_96 (dk_at dksX3_carriesOut_1 17 rfl rfl)
theorem dX3_carriesOut_41 : decode cX3_carriesOut 41 = .ok (.iaload, 1) := dk_46 (dk_at dksX3_carriesOut_1 18 rfl rfl)
theorem dX3_carriesOut_42 : decode cX3_carriesOut 42 = .ok (.aload_n 0, 1) := dk_42 (dk_at dksX3_carriesOut_1 19 rfl rfl)
theorem dX3_carriesOut_43 : decode cX3_carriesOut 43 = .ok (.getfield 60, 3) := dk_180 0 60 (dk_at dksX3_carriesOut_1 20 rfl rfl)
theorem dX3_carriesOut_46 : decode cX3_carriesOut 46 = .ok (.iload_n 1, 1) := dk_27 (dk_at dksX3_carriesOut_1 23 rfl rfl)
theorem dX3_carriesOut_47 : decode cX3_carriesOut 47 = .ok (.bipush 6, 2) := dk_16 6 (dk_at dksX3_carriesOut_2 0 rfl rfl)
theorem dX3_carriesOut_49 : decode cX3_carriesOut 49 = .ok (.iadd, 1) := dk_96 (dk_at dksX3_carriesOut_2 2 rfl rfl)
theorem dX3_carriesOut_50 : decode cX3_carriesOut 50 = .ok (.iaload, 1) := dk_46 (dk_at dksX3_carriesOut_2 3 rfl rfl)
theorem dX3_carriesOut_51 : decode cX3_carriesOut 51 = .ok (.aload_n 0, 1) := dk_42 (dk_at dksX3_carriesOut_2 4 rfl rfl)
theorem dX3_carriesOut_52 : decode cX3_carriesOut 52 = .ok (.getfield 60, 3) := dk_180 0 60 (dk_at dksX3_carriesOut_2 5 rfl rfl)
theorem dX3_carriesOut_55 : decode cX3_carriesOut 55 = .ok (.iload_n 1, 1) := dk_27 (dk_at dksX3_carriesOut_2 8 rfl rfl)
theorem dX3_carriesOut_56 : decode cX3_carriesOut 56 = .ok (.bipush 7, 2) := dk_16 7 (dk_at dksX3_carriesOut_2 9 rfl rfl)
theorem dX3_carriesOut_58 : decode cX3_carriesOut 58 = .ok (.iadd, 1) := dk_96 (dk_at dksX3_carriesOut_2 11 rfl rfl)
theorem dX3_carriesOut_59 : decode cX3_carriesOut 59 = .ok (.iaload, 1) := dk_46 (dk_at dksX3_carriesOut_2 12 rfl rfl)
theorem dX3_carriesOut_60 : decode cX3_carriesOut 60 = .ok (.aload_n 0, 1) := dk_42 (dk_at dksX3_carriesOut_2 13 rfl rfl)
theorem dX3_carriesOut_61 : decode cX3_carriesOut 61 = .ok (.getfield 60, 3) := dk_180 0 60 (dk_at dksX3_carriesOut_2 14 rfl rfl)
theorem dX3_carriesOut_64 : decode cX3_carriesOut 64 = .ok (.iload_n 1, 1) := dk_27 (dk_at dksX3_carriesOut_2 17 rfl rfl)
theorem dX3_carriesOut_65 : decode cX3_carriesOut 65 = .ok (.bipush 8, 2) := dk_16 8 (dk_at dksX3_carriesOut_2 18 rfl rfl)
theorem dX3_carriesOut_67 : decode cX3_carriesOut 67 = .ok (.iadd, 1) := dk_96 (dk_at dksX3_carriesOut_2 20 rfl rfl)
theorem dX3_carriesOut_68 : decode cX3_carriesOut 68 = .ok (.iaload, 1) := dk_46 (dk_at dksX3_carriesOut_2 21 rfl rfl)
theorem dX3_carriesOut_69 : decode cX3_carriesOut 69 = .ok (.aload_n 0, 1) := dk_42 (dk_at dksX3_carriesOut_2 22 rfl rfl)
theorem dX3_carriesOut_70 : decode cX3_carriesOut 70 = .ok (.getfield 60, 3) := dk_180 0 60 (dk_at dksX3_carriesOut_3 0 rfl rfl)
theorem dX3_carriesOut_73 : decode cX3_carriesOut 73 = .ok (.iload_n 1, 1) := dk_27 (dk_at dksX3_carriesOut_3 3 rfl rfl)
theorem dX3_carriesOut_74 : decode cX3_carriesOut 74 = .ok (.bipush 9, 2) := dk_16 9 (dk_at dksX3_carriesOut_3 4 rfl rfl)
theorem dX3_carriesOut_76 : decode cX3_carriesOut 76 = .ok (.iadd, 1) := dk_96 (dk_at dksX3_carriesOut_3 6 rfl rfl)
theorem dX3_carriesOut_77 : decode cX3_carriesOut 77 = .ok (.iaload, 1) := dk_46 (dk_at dksX3_carriesOut_3 7 rfl rfl)
theorem dX3_carriesOut_78 : decode cX3_carriesOut 78 = .ok (.invokevirtual 253, 3) := dk_182 0 253 (dk_at dksX3_carriesOut_3 8 rfl rfl)
theorem dX3_carriesOut_81 : decode cX3_carriesOut 81 = .ok (.pop, 1) := dk_87 (dk_at dksX3_carriesOut_3 11 rfl rfl)
theorem dX3_carriesOut_82 : decode cX3_carriesOut 82 = .ok (.aload_n 0, 1) := dk_42 (dk_at dksX3_carriesOut_3 12 rfl rfl)
theorem dX3_carriesOut_83 : decode cX3_carriesOut 83 = .ok (.getfield 66, 3) := dk_180 0 66 (dk_at dksX3_carriesOut_3 13 rfl rfl)
theorem dX3_carriesOut_86 : decode cX3_carriesOut 86 = .ok (.ifCond .ne 7, 3) := dk_154 0 7 (dk_at dksX3_carriesOut_3 16 rfl rfl)
theorem dX3_carriesOut_89 : decode cX3_carriesOut 89 = .ok (.iconst 1, 1) := dk_4 (dk_at dksX3_carriesOut_3 19 rfl rfl)
theorem dX3_carriesOut_90 : decode cX3_carriesOut 90 = .ok (.goto 4, 3) := dk_167 0 4 (dk_at dksX3_carriesOut_3 20 rfl rfl)
theorem dX3_carriesOut_93 : decode cX3_carriesOut 93 = .ok (.iconst 0, 1) := dk_3 (dk_at dksX3_carriesOut_3 23 rfl rfl)
theorem dX3_carriesOut_94 : decode cX3_carriesOut 94 = .ok (.ireturn, 1) := dk_172 (dk_at dksX3_carriesOut_4 0 rfl rfl)
theorem dX3_carriesOut_95 : decode cX3_carriesOut 95 = .ok (.aload_n 0, 1) := dk_42 (dk_at dksX3_carriesOut_4 1 rfl rfl)
theorem dX3_carriesOut_96 : decode cX3_carriesOut 96 = .ok (.aload_n 0, 1) := dk_42 (dk_at dksX3_carriesOut_4 2 rfl rfl)
theorem dX3_carriesOut_97 : decode cX3_carriesOut 97 = .ok (.getfield 60, 3) := dk_180 0 60 (dk_at dksX3_carriesOut_4 3 rfl rfl)
theorem dX3_carriesOut_100 : decode cX3_carriesOut 100 = .ok (.iload_n 1, 1) := dk_27 (dk_at dksX3_carriesOut_4 6 rfl rfl)
theorem dX3_carriesOut_101 : decode cX3_carriesOut 101 = .ok (.iconst 1, 1) := dk_4 (dk_at dksX3_carriesOut_4 7 rfl rfl)
theorem dX3_carriesOut_102 : decode cX3_carriesOut 102 = .ok (.iadd, 1) := dk_96 (dk_at dksX3_carriesOut_4 8 rfl rfl)
theorem dX3_carriesOut_103 : decode cX3_carriesOut 103 = .ok (.aload_n 0, 1) := dk_42 (dk_at dksX3_carriesOut_4 9 rfl rfl)
theorem dX3_carriesOut_104 : decode cX3_carriesOut 104 = .ok (.getfield 60, 3) := dk_180 0 60 (dk_at dksX3_carriesOut_4 10 rfl rfl)
theorem dX3_carriesOut_107 : decode cX3_carriesOut 107 = .ok (.iload_n 1, 1) := dk_27 (dk_at dksX3_carriesOut_4 13 rfl rfl)
theorem dX3_carriesOut_108 : decode cX3_carriesOut 108 = .ok (.iconst 4, 1) := dk_7 (dk_at dksX3_carriesOut_4 14 rfl rfl)
theorem dX3_carriesOut_109 : decode cX3_carriesOut 109 = .ok (.iadd, 1) := dk_96 (dk_at dksX3_carriesOut_4 15 rfl rfl)
theorem dX3_carriesOut_110 : decode cX3_carriesOut 110 = .ok (.iaload, 1) := dk_46 (dk_at dksX3_carriesOut_4 16 rfl rfl)
theorem dX3_carriesOut_111 : decode cX3_carriesOut 111 = .ok (.invokevirtual 246, 3) := dk_182 0 246 (dk_at dksX3_carriesOut_4 17 rfl rfl)
theorem dX3_carriesOut_114 : decode cX3_carriesOut 114 = .ok (.istore_n 2, 1) := dk_61 (dk_at dksX3_carriesOut_4 20 rfl rfl)
theorem dX3_carriesOut_115 : decode cX3_carriesOut 115 = .ok (.iload_n 2, 1) := dk_28 (dk_at dksX3_carriesOut_4 21 rfl rfl)
theorem dX3_carriesOut_116 : decode cX3_carriesOut 116 = .ok (.ifCond .lt 40, 3) := dk_155 0 40 (dk_at dksX3_carriesOut_5 0 rfl rfl)
theorem dX3_carriesOut_119 : decode cX3_carriesOut 119 = .ok (.aload_n 0, 1) := dk_42 (dk_at dksX3_carriesOut_5 3 rfl rfl)
theorem dX3_carriesOut_120 : decode cX3_carriesOut 120 = .ok (.getfield 60, 3) := dk_180 0 60 (dk_at dksX3_carriesOut_5 4 rfl rfl)
theorem dX3_carriesOut_123 : decode cX3_carriesOut 123 = .ok (.iload_n 1, 1) := dk_27 (dk_at dksX3_carriesOut_5 7 rfl rfl)
theorem dX3_carriesOut_124 : decode cX3_carriesOut 124 = .ok (.iaload, 1) := dk_46 (dk_at dksX3_carriesOut_5 8 rfl rfl)
theorem dX3_carriesOut_125 : decode cX3_carriesOut 125 = .ok (.bipush 99, 2) := dk_16 99 (dk_at dksX3_carriesOut_5 9 rfl rfl)
theorem dX3_carriesOut_127 : decode cX3_carriesOut 127 = .ok (.if_icmp .ne 29, 3) := dk_160 0 29 (dk_at dksX3_carriesOut_5 11 rfl rfl)
theorem dX3_carriesOut_130 : decode cX3_carriesOut 130 = .ok (.aload_n 0, 1) := dk_42 (dk_at dksX3_carriesOut_5 14 rfl rfl)
theorem dX3_carriesOut_131 : decode cX3_carriesOut 131 = .ok (.iload_n 2, 1) := dk_28 (dk_at dksX3_carriesOut_5 15 rfl rfl)
theorem dX3_carriesOut_132 : decode cX3_carriesOut 132 = .ok (.aload_n 0, 1) := dk_42 (dk_at dksX3_carriesOut_5 16 rfl rfl)
theorem dX3_carriesOut_133 : decode cX3_carriesOut 133 = .ok (.getfield 60, 3) := dk_180 0 60 (dk_at dksX3_carriesOut_5 17 rfl rfl)
theorem dX3_carriesOut_136 : decode cX3_carriesOut 136 = .ok (.iload_n 1, 1) := dk_27 (dk_at dksX3_carriesOut_5 20 rfl rfl)
theorem dX3_carriesOut_137 : decode cX3_carriesOut 137 = .ok (.iconst 5, 1) := dk_8 (dk_at dksX3_carriesOut_5 21 rfl rfl)
theorem dX3_carriesOut_138 : decode cX3_carriesOut 138 = .ok (.iadd, 1) := dk_96 (dk_at dksX3_carriesOut_5 22 rfl rfl)
theorem dX3_carriesOut_139 : decode cX3_carriesOut 139 = .ok (.iaload, 1) := dk_46 (dk_at dksX3_carriesOut_5 23 rfl rfl)
theorem dX3_carriesOut_140 : decode cX3_carriesOut 140 = .ok (.aload_n 0, 1) := dk_42 (dk_at dksX3_carriesOut_6 0 rfl rfl)
theorem dX3_carriesOut_141 : decode cX3_carriesOut 141 = .ok (.getfield 60, 3) := dk_180 0 60 (dk_at dksX3_carriesOut_6 1 rfl rfl)
theorem dX3_carriesOut_144 : decode cX3_carriesOut 144 = .ok (.iload_n 1, 1) := dk_27 (dk_at dksX3_carriesOut_6 4 rfl rfl)
theorem dX3_carriesOut_145 : decode cX3_carriesOut 145 = .ok (.bipush 6, 2) := dk_16 6 (dk_at dksX3_carriesOut_6 5 rfl rfl)
theorem dX3_carriesOut_147 : decode cX3_carriesOut 147 = .ok (.iadd, 1) := dk_96 (dk_at dksX3_carriesOut_6 7 rfl rfl)
theorem dX3_carriesOut_148 : decode cX3_carriesOut 148 = .ok (.iaload, 1) := dk_46 (dk_at dksX3_carriesOut_6 8 rfl rfl)
theorem dX3_carriesOut_149 : decode cX3_carriesOut 149 = .ok (.invokevirtual 257, 3) := dk_182 1 1 (dk_at dksX3_carriesOut_6 9 rfl rfl)
theorem dX3_carriesOut_152 : decode cX3_carriesOut 152 = .ok (.pop, 1) := dk_87 (dk_at dksX3_carriesOut_6 12 rfl rfl)
theorem dX3_carriesOut_153 : decode cX3_carriesOut 153 = .ok (.goto 21, 3) := dk_167 0 21 (dk_at dksX3_carriesOut_6 13 rfl rfl)
theorem dX3_carriesOut_156 : decode cX3_carriesOut 156 = .ok (.iload_n 2, 1) := dk_28 (dk_at dksX3_carriesOut_6 16 rfl rfl)
theorem dX3_carriesOut_157 : decode cX3_carriesOut 157 = .ok (.ifCond .lt 17, 3) := dk_155 0 17 (dk_at dksX3_carriesOut_6 17 rfl rfl)
theorem dX3_carriesOut_160 : decode cX3_carriesOut 160 = .ok (.aload_n 0, 1) := dk_42 (dk_at dksX3_carriesOut_6 20 rfl rfl)
theorem dX3_carriesOut_161 : decode cX3_carriesOut 161 = .ok (.iload_n 2, 1) := dk_28 (dk_at dksX3_carriesOut_6 21 rfl rfl)
theorem dX3_carriesOut_162 : decode cX3_carriesOut 162 = .ok (.aload_n 0, 1) := dk_42 (dk_at dksX3_carriesOut_6 22 rfl rfl)
theorem dX3_carriesOut_163 : decode cX3_carriesOut 163 = .ok (.getfield 60, 3) := dk_180 0 60 (dk_at dksX3_carriesOut_7 0 rfl rfl)
theorem dX3_carriesOut_166 : decode cX3_carriesOut 166 = .ok (.iload_n 1, 1) := dk_27 (dk_at dksX3_carriesOut_7 3 rfl rfl)
theorem dX3_carriesOut_167 : decode cX3_carriesOut 167 = .ok (.iconst 5, 1) := dk_8 (dk_at dksX3_carriesOut_7 4 rfl rfl)
theorem dX3_carriesOut_168 : decode cX3_carriesOut 168 = .ok (.iadd, 1) := dk_96 (dk_at dksX3_carriesOut_7 5 rfl rfl)
theorem dX3_carriesOut_169 : decode cX3_carriesOut 169 = .ok (.iaload, 1) := dk_46 (dk_at dksX3_carriesOut_7 6 rfl rfl)
theorem dX3_carriesOut_170 : decode cX3_carriesOut 170 = .ok (.invokevirtual 261, 3) := dk_182 1 5 (dk_at dksX3_carriesOut_7 7 rfl rfl)
theorem dX3_carriesOut_173 : decode cX3_carriesOut 173 = .ok (.pop, 1) := dk_87 (dk_at dksX3_carriesOut_7 10 rfl rfl)
theorem dX3_carriesOut_174 : decode cX3_carriesOut 174 = .ok (.iload_n 2, 1) := dk_28 (dk_at dksX3_carriesOut_7 11 rfl rfl)
theorem dX3_carriesOut_175 : decode cX3_carriesOut 175 = .ok (.ifCond .lt 14, 3) := dk_155 0 14 (dk_at dksX3_carriesOut_7 12 rfl rfl)
theorem dX3_carriesOut_178 : decode cX3_carriesOut 178 = .ok (.aload_n 0, 1) := dk_42 (dk_at dksX3_carriesOut_7 15 rfl rfl)
theorem dX3_carriesOut_179 : decode cX3_carriesOut 179 = .ok (.getfield 66, 3) := dk_180 0 66 (dk_at dksX3_carriesOut_7 16 rfl rfl)
theorem dX3_carriesOut_182 : decode cX3_carriesOut 182 = .ok (.ifCond .ne 7, 3) := dk_154 0 7 (dk_at dksX3_carriesOut_7 19 rfl rfl)
theorem dX3_carriesOut_185 : decode cX3_carriesOut 185 = .ok (.iconst 1, 1) := dk_4 (dk_at dksX3_carriesOut_7 22 rfl rfl)
theorem dX3_carriesOut_186 : decode cX3_carriesOut 186 = .ok (.goto 4, 3) := dk_167 0 4 (dk_at dksX3_carriesOut_8 0 rfl rfl)
theorem dX3_carriesOut_189 : decode cX3_carriesOut 189 = .ok (.iconst 0, 1) := dk_3 (dk_at dksX3_carriesOut_8 3 rfl rfl)
theorem dX3_carriesOut_190 : decode cX3_carriesOut 190 = .ok (.ireturn, 1) := dk_172 (dk_at dksX3_carriesOut_8 4 rfl rfl)
def dkwX3_addsType_6 : List UInt8 := [96, 46, 79, 42, 180, 0, 7, 6, 92, 46, 4, 96, 79, 4, 172]
abbrev dktX3_addsType_6 : List UInt8 := dkwX3_addsType_6 ++ []
def dkwX3_addsType_5 : List UInt8 := [96, 42, 180, 0, 60, 27, 8, 96, 46, 79, 42, 180, 0, 7, 28, 8, 96, 42, 180, 0, 60, 27, 16, 6]
abbrev dktX3_addsType_5 : List UInt8 := dkwX3_addsType_5 ++ dktX3_addsType_6
def dkwX3_addsType_4 : List UInt8 := [96, 42, 180, 0, 60, 27, 4, 96, 29, 96, 46, 79, 132, 3, 1, 167, 255, 230, 42, 180, 0, 7, 28, 7]
abbrev dktX3_addsType_4 : List UInt8 := dkwX3_addsType_4 ++ dktX3_addsType_5
def dkwX3_addsType_3 : List UInt8 := [16, 6, 42, 180, 0, 7, 6, 46, 104, 96, 61, 3, 62, 29, 7, 162, 0, 27, 42, 180, 0, 7, 28, 29]
abbrev dktX3_addsType_3 : List UInt8 := dkwX3_addsType_3 ++ dktX3_addsType_4
def dkwX3_addsType_2 : List UInt8 := [153, 0, 21, 42, 180, 0, 60, 27, 16, 6, 96, 46, 4, 16, 99, 184, 0, 90, 154, 0, 5, 3, 172, 7]
abbrev dktX3_addsType_2 : List UInt8 := dkwX3_addsType_2 ++ dktX3_addsType_3
def dkwX3_addsType_1 : List UInt8 := [180, 0, 7, 6, 46, 16, 6, 159, 0, 37, 42, 180, 0, 60, 27, 8, 96, 46, 3, 5, 184, 0, 90]
abbrev dktX3_addsType_1 : List UInt8 := dkwX3_addsType_1 ++ dktX3_addsType_2
def dkwX3_addsType_0 : List UInt8 := [42, 42, 180, 0, 60, 27, 4, 96, 42, 180, 0, 60, 27, 7, 96, 46, 182, 0, 246, 156, 0, 48, 42]
abbrev dktX3_addsType_0 : List UInt8 := dkwX3_addsType_0 ++ dktX3_addsType_1
theorem dksX3_addsType_0 : cX3_addsType.data.toList.drop 0 = dktX3_addsType_0 := by decide +kernel
theorem dksX3_addsType_1 : cX3_addsType.data.toList.drop 23 = dktX3_addsType_1 := dk_seg dksX3_addsType_0 23 rfl rfl
theorem dksX3_addsType_2 : cX3_addsType.data.toList.drop 46 = dktX3_addsType_2 := dk_seg dksX3_addsType_1 23 rfl rfl
theorem dksX3_addsType_3 : cX3_addsType.data.toList.drop 70 = dktX3_addsType_3 := dk_seg dksX3_addsType_2 24 rfl rfl
theorem dksX3_addsType_4 : cX3_addsType.data.toList.drop 94 = dktX3_addsType_4 := dk_seg dksX3_addsType_3 24 rfl rfl
theorem dksX3_addsType_5 : cX3_addsType.data.toList.drop 118 = dktX3_addsType_5 := dk_seg dksX3_addsType_4 24 rfl rfl
theorem dksX3_addsType_6 : cX3_addsType.data.toList.drop 142 = dktX3_addsType_6 := dk_seg dksX3_addsType_5 24 rfl rfl
theorem dX3_addsType_0 : decode cX3_addsType 0 = .ok (.aload_n 0, 1) := dk_42 (dk_at dksX3_addsType_0 0 rfl rfl)
theorem dX3_addsType_1 : decode cX3_addsType 1 = .ok (.aload_n 0, 1) := dk_42 (dk_at dksX3_addsType_0 1 rfl rfl)
theorem dX3_addsType_2 : decode cX3_addsType 2 = .ok (.getfield 60, 3) := dk_180 0 60 (dk_at dksX3_addsType_0 2 rfl rfl)
theorem dX3_addsType_5 : decode cX3_addsType 5 = .ok (.iload_n 1, 1) := dk_27 (dk_at dksX3_addsType_0 5 rfl rfl)
theorem dX3_addsType_6 : decode cX3_addsType 6 = .ok (.iconst 1, 1) := dk_4 (dk_at dksX3_addsType_0 6 rfl rfl)
theorem dX3_addsType_7 : decode cX3_addsType 7 = .ok (.iadd, 1) := dk_96 (dk_at dksX3_addsType_0 7 rfl rfl)
theorem dX3_addsType_8 : decode cX3_addsType 8 = .ok (.aload_n 0, 1) := dk_42 (dk_at dksX3_addsType_0 8 rfl rfl)
theorem dX3_addsType_9 : decode cX3_addsType 9 = .ok (.getfield 60, 3) := dk_180 0 60 (dk_at dksX3_addsType_0 9 rfl rfl)
theorem dX3_addsType_12 : decode cX3_addsType 12 = .ok (.iload_n 1, 1) := dk_27 (dk_at dksX3_addsType_0 12 rfl rfl)
theorem dX3_addsType_13 : decode cX3_addsType 13 = .ok (.iconst 4, 1) := dk_7 (dk_at dksX3_addsType_0 13 rfl rfl)
theorem dX3_addsType_14 : decode cX3_addsType 14 = .ok (.iadd, 1) := dk_96 (dk_at dksX3_addsType_0 14 rfl rfl)
theorem dX3_addsType_15 : decode cX3_addsType 15 = .ok (.iaload, 1) := dk_46 (dk_at dksX3_addsType_0 15 rfl rfl)
theorem dX3_addsType_16 : decode cX3_addsType 16 = .ok (.invokevirtual 246, 3) := dk_182 0 246 (dk_at dksX3_addsType_0 16 rfl rfl)
theorem dX3_addsType_19 : decode cX3_addsType 19 = .ok (.ifCond .ge 48, 3) := dk_156 0 48 (dk_at dksX3_addsType_0 19 rfl rfl)
theorem dX3_addsType_22 : decode cX3_addsType 22 = .ok (.aload_n 0, 1) := dk_42 (dk_at dksX3_addsType_0 22 rfl rfl)
theorem dX3_addsType_23 : decode cX3_addsType 23 = .ok (.getfield 7, 3) := dk_180 0 7 (dk_at dksX3_addsType_1 0 rfl rfl)
theorem dX3_addsType_26 : decode cX3_addsType 26 = .ok (.iconst 3, 1) := dk_6 (dk_at dksX3_addsType_1 3 rfl rfl)
theorem dX3_addsType_27 : decode cX3_addsType 27 = .ok (.iaload, 1) := dk_46 (dk_at dksX3_addsType_1 4 rfl rfl)
theorem dX3_addsType_28 : decode cX3_addsType 28 = .ok (.bipush 6, 2) := dk_16 6 (dk_at dksX3_addsType_1 5 rfl rfl)
theorem dX3_addsType_30 : decode cX3_addsType 30 = .ok (.if_icmp .eq 37, 3) := dk_159 0 37 (dk_at dksX3_addsType_1 7 rfl rfl)
theorem dX3_addsType_33 : decode cX3_addsType 33 = .ok (.aload_n 0, 1) := dk_42 (dk_at dksX3_addsType_1 10 rfl rfl)
theorem dX3_addsType_34 : decode cX3_addsType 34 = .ok (.getfield 60, 3) := dk_180 0 60 (dk_at dksX3_addsType_1 11 rfl rfl)
theorem dX3_addsType_37 : decode cX3_addsType 37 = .ok (.iload_n 1, 1) := dk_27 (dk_at dksX3_addsType_1 14 rfl rfl)
theorem dX3_addsType_38 : decode cX3_addsType 38 = .ok (.iconst 5, 1) := dk_8 (dk_at dksX3_addsType_1 15 rfl rfl)
theorem dX3_addsType_39 : decode cX3_addsType 39 = .ok (.iadd, 1) := dk_96 (dk_at dksX3_addsType_1 16 rfl rfl)
theorem dX3_addsType_40 : decode cX3_addsType 40 = .ok (.iaload, 1) := dk_46 (dk_at dksX3_addsType_1 17 rfl rfl)
theorem dX3_addsType_41 : decode cX3_addsType 41 = .ok (.iconst 0, 1) := dk_3 (dk_at dksX3_addsType_1 18 rfl rfl)
theorem dX3_addsType_42 : decode cX3_addsType 42 = .ok (.iconst 2, 1) := dk_5 (dk_at dksX3_addsType_1 19 rfl rfl)
theorem dX3_addsType_43 : decode cX3_addsType 43 = .ok (.invokestatic 90, 3) := dk_184 0 90 (dk_at dksX3_addsType_1 20 rfl rfl)
theorem dX3_addsType_46 : decode cX3_addsType 46 = .ok (.ifCond .eq 21, 3) := dk_153 0 21 (dk_at dksX3_addsType_2 0 rfl rfl)
theorem dX3_addsType_49 : decode cX3_addsType 49 = .ok (.aload_n 0, 1) := dk_42 (dk_at dksX3_addsType_2 3 rfl rfl)
theorem dX3_addsType_50 : decode cX3_addsType 50 = .ok (.getfield 60, 3) := dk_180 0 60 (dk_at dksX3_addsType_2 4 rfl rfl)
theorem dX3_addsType_53 : decode cX3_addsType 53 = .ok (.iload_n 1, 1) := dk_27 (dk_at dksX3_addsType_2 7 rfl rfl)
theorem dX3_addsType_54 : decode cX3_addsType 54 = .ok (.bipush 6, 2) := dk_16 6 (dk_at dksX3_addsType_2 8 rfl rfl)
theorem dX3_addsType_56 : decode cX3_addsType 56 = .ok (.iadd, 1) := dk_96 (dk_at dksX3_addsType_2 10 rfl rfl)
theorem dX3_addsType_57 : decode cX3_addsType 57 = .ok (.iaload, 1) := dk_46 (dk_at dksX3_addsType_2 11 rfl rfl)
theorem dX3_addsType_58 : decode cX3_addsType 58 = .ok (.iconst 1, 1) := dk_4 (dk_at dksX3_addsType_2 12 rfl rfl)
theorem dX3_addsType_59 : decode cX3_addsType 59 = .ok (.bipush 99, 2) := dk_16 99 (dk_at dksX3_addsType_2 13 rfl rfl)
theorem dX3_addsType_61 : decode cX3_addsType 61 = .ok (.invokestatic 90, 3) := dk_184 0 90 (dk_at dksX3_addsType_2 15 rfl rfl)
theorem dX3_addsType_64 : decode cX3_addsType 64 = .ok (.ifCond .ne 5, 3) := dk_154 0 5 (dk_at dksX3_addsType_2 18 rfl rfl)
theorem dX3_addsType_67 : decode cX3_addsType 67 = .ok (.iconst 0, 1) := dk_3 (dk_at dksX3_addsType_2 21 rfl rfl)
theorem dX3_addsType_68 : decode cX3_addsType 68 = .ok (.ireturn, 1) := dk_172 (dk_at dksX3_addsType_2 22 rfl rfl)
theorem dX3_addsType_69 : decode cX3_addsType 69 = .ok (.iconst 4, 1) := dk_7 (dk_at dksX3_addsType_2 23 rfl rfl)
theorem dX3_addsType_70 : decode cX3_addsType 70 = .ok (.bipush 6, 2) := dk_16 6 (dk_at dksX3_addsType_3 0 rfl rfl)
theorem dX3_addsType_72 : decode cX3_addsType 72 = .ok (.aload_n 0, 1) := dk_42 (dk_at dksX3_addsType_3 2 rfl rfl)
theorem dX3_addsType_73 : decode cX3_addsType 73 = .ok (.getfield 7, 3) := dk_180 0 7 (dk_at dksX3_addsType_3 3 rfl rfl)
theorem dX3_addsType_76 : decode cX3_addsType 76 = .ok (.iconst 3, 1) := dk_6 (dk_at dksX3_addsType_3 6 rfl rfl)
theorem dX3_addsType_77 : decode cX3_addsType 77 = .ok (.iaload, 1) := dk_46 (dk_at dksX3_addsType_3 7 rfl rfl)
theorem dX3_addsType_78 : decode cX3_addsType 78 = .ok (.imul, 1) := dk_104 (dk_at dksX3_addsType_3 8 rfl rfl)
theorem dX3_addsType_79 : decode cX3_addsType 79 = .ok (.iadd, 1) := dk_96 (dk_at dksX3_addsType_3 9 rfl rfl)
theorem dX3_addsType_80 : decode cX3_addsType 80 = .ok (.istore_n 2, 1) := dk_61 (dk_at dksX3_addsType_3 10 rfl rfl)
theorem dX3_addsType_81 : decode cX3_addsType 81 = .ok (.iconst 0, 1) := dk_3 (dk_at dksX3_addsType_3 11 rfl rfl)
theorem dX3_addsType_82 : decode cX3_addsType 82 = .ok (.istore_n 3, 1) := dk_62 (dk_at dksX3_addsType_3 12 rfl rfl)
theorem dX3_addsType_83 : decode cX3_addsType 83 = .ok (.iload_n 3, 1) := dk_29 (dk_at dksX3_addsType_3 13 rfl rfl)
theorem dX3_addsType_84 : decode cX3_addsType 84 = .ok (.iconst 4, 1) := dk_7 (dk_at dksX3_addsType_3 14 rfl rfl)
theorem dX3_addsType_85 : decode cX3_addsType 85 = .ok (.if_icmp .ge 27, 3) := dk_162 0 27 (dk_at dksX3_addsType_3 15 rfl rfl)
theorem dX3_addsType_88 : decode cX3_addsType 88 = .ok (.aload_n 0, 1) := dk_42 (dk_at dksX3_addsType_3 18 rfl rfl)
theorem dX3_addsType_89 : decode cX3_addsType 89 = .ok (.getfield 7, 3) := dk_180 0 7 (dk_at dksX3_addsType_3 19 rfl rfl)
theorem dX3_addsType_92 : decode cX3_addsType 92 = .ok (.iload_n 2, 1) := dk_28 (dk_at dksX3_addsType_3 22 rfl rfl)
theorem dX3_addsType_93 : decode cX3_addsType 93 = .ok (.iload_n 3, 1) := dk_29 (dk_at dksX3_addsType_3 23 rfl rfl)
theorem dX3_addsType_94 : decode cX3_addsType 94 = .ok (.iadd, 1) := dk_96 (dk_at dksX3_addsType_4 0 rfl rfl)
theorem dX3_addsType_95 : decode cX3_addsType 95 = .ok (.aload_n 0, 1) := dk_42 (dk_at dksX3_addsType_4 1 rfl rfl)
theorem dX3_addsType_96 : decode cX3_addsType 96 = .ok (.getfield 60, 3) := dk_180 0 60 (dk_at dksX3_addsType_4 2 rfl rfl)
theorem dX3_addsType_99 : decode cX3_addsType 99 = .ok (.iload_n 1, 1) := dk_27 (dk_at dksX3_addsType_4 5 rfl rfl)
theorem dX3_addsType_100 : decode cX3_addsType 100 = .ok (.iconst 1, 1) := dk_4 (dk_at dksX3_addsType_4 6 rfl rfl)
theorem dX3_addsType_101 : decode cX3_addsType 101 = .ok (.iadd, 1) := dk_96 (dk_at dksX3_addsType_4 7 rfl rfl)
theorem dX3_addsType_102 : decode cX3_addsType 102 = .ok (.iload_n 3, 1) := dk_29 (dk_at dksX3_addsType_4 8 rfl rfl)
theorem dX3_addsType_103 : decode cX3_addsType 103 = .ok (.iadd, 1) := dk_96 (dk_at dksX3_addsType_4 9 rfl rfl)
theorem dX3_addsType_104 : decode cX3_addsType 104 = .ok (.iaload, 1) := dk_46 (dk_at dksX3_addsType_4 10 rfl rfl)
theorem dX3_addsType_105 : decode cX3_addsType 105 = .ok (.iastore, 1) := dk_79 (dk_at dksX3_addsType_4 11 rfl rfl)
theorem dX3_addsType_106 : decode cX3_addsType 106 = .ok (.iinc 3 1, 3) := dk_132 3 1 (dk_at dksX3_addsType_4 12 rfl rfl)
theorem dX3_addsType_109 : decode cX3_addsType 109 = .ok (.goto (-26), 3) := dk_167 255 230 (dk_at dksX3_addsType_4 15 rfl rfl)
theorem dX3_addsType_112 : decode cX3_addsType 112 = .ok (.aload_n 0, 1) := dk_42 (dk_at dksX3_addsType_4 18 rfl rfl)
theorem dX3_addsType_113 : decode cX3_addsType 113 = .ok (.getfield 7, 3) := dk_180 0 7 (dk_at dksX3_addsType_4 19 rfl rfl)
theorem dX3_addsType_116 : decode cX3_addsType 116 = .ok (.iload_n 2, 1) := dk_28 (dk_at dksX3_addsType_4 22 rfl rfl)
theorem dX3_addsType_117 : decode cX3_addsType 117 = .ok (.iconst 4, 1) := dk_7 (dk_at dksX3_addsType_4 23 rfl rfl)
theorem dX3_addsType_118 : decode cX3_addsType 118 = .ok (.iadd, 1) := dk_96 (dk_at dksX3_addsType_5 0 rfl rfl)
theorem dX3_addsType_119 : decode cX3_addsType 119 = .ok (.aload_n 0, 1) := dk_42 (dk_at dksX3_addsType_5 1 rfl rfl)
theorem dX3_addsType_120 : decode cX3_addsType 120 = .ok (.getfield 60, 3) := dk_180 0 60 (dk_at dksX3_addsType_5 2 rfl rfl)
theorem dX3_addsType_123 : decode cX3_addsType 123 = .ok (.iload_n 1, 1) := dk_27 (dk_at dksX3_addsType_5 5 rfl rfl)
theorem dX3_addsType_124 : decode cX3_addsType 124 = .ok (.iconst 5, 1) := dk_8 (dk_at dksX3_addsType_5 6 rfl rfl)
theorem dX3_addsType_125 : decode cX3_addsType 125 = .ok (.iadd, 1) := dk_96 (dk_at dksX3_addsType_5 7 rfl rfl)
theorem dX3_addsType_126 : decode cX3_addsType 126 = .ok (.iaload, 1) := dk_46 (dk_at dksX3_addsType_5 8 rfl rfl)
theorem dX3_addsType_127 : decode cX3_addsType 127 = .ok (.iastore, 1) := dk_79 (dk_at dksX3_addsType_5 9 rfl rfl)
theorem dX3_addsType_128 : decode cX3_addsType 128 = .ok (.aload_n 0, 1) := dk_42 (dk_at dksX3_addsType_5 10 rfl rfl)
theorem dX3_addsType_129 : decode cX3_addsType 129 = .ok (.getfield 7, 3) := dk_180 0 7 (dk_at dksX3_addsType_5 11 rfl rfl)
theorem dX3_addsType_132 : decode cX3_addsType 132 = .ok (.iload_n 2, 1) := dk_28 (dk_at dksX3_addsType_5 14 rfl rfl)
theorem dX3_addsType_133 : decode cX3_addsType 133 = .ok (.iconst 5, 1) := dk_8 (dk_at dksX3_addsType_5 15 rfl rfl)
theorem dX3_addsType_134 : decode cX3_addsType 134 = .ok (.iadd, 1) := dk_96 (dk_at dksX3_addsType_5 16 rfl rfl)
theorem dX3_addsType_135 : decode cX3_addsType 135 = .ok (.aload_n 0, 1) := dk_42 (dk_at dksX3_addsType_5 17 rfl rfl)
theorem dX3_addsType_136 : decode cX3_addsType 136 = .ok (.getfield 60, 3) := dk_180 0 60 (dk_at dksX3_addsType_5 18 rfl rfl)
theorem dX3_addsType_139 : decode cX3_addsType 139 = .ok (.iload_n 1, 1) := dk_27 (dk_at dksX3_addsType_5 21 rfl rfl)
theorem dX3_addsType_140 : decode cX3_addsType 140 = .ok (.bipush 6, 2) := dk_16 6 (dk_at dksX3_addsType_5 22 rfl rfl)
theorem dX3_addsType_142 : decode cX3_addsType 142 = .ok (.iadd, 1) := dk_96 (dk_at dksX3_addsType_6 0 rfl rfl)
theorem dX3_addsType_143 : decode cX3_addsType 143 = .ok (.iaload, 1) := dk_46 (dk_at dksX3_addsType_6 1 rfl rfl)
theorem dX3_addsType_144 : decode cX3_addsType 144 = .ok (.iastore, 1) := dk_79 (dk_at dksX3_addsType_6 2 rfl rfl)
theorem dX3_addsType_145 : decode cX3_addsType 145 = .ok (.aload_n 0, 1) := dk_42 (dk_at dksX3_addsType_6 3 rfl rfl)
theorem dX3_addsType_146 : decode cX3_addsType 146 = .ok (.getfield 7, 3) := dk_180 0 7 (dk_at dksX3_addsType_6 4 rfl rfl)
theorem dX3_addsType_149 : decode cX3_addsType 149 = .ok (.iconst 3, 1) := dk_6 (dk_at dksX3_addsType_6 7 rfl rfl)
theorem dX3_addsType_150 : decode cX3_addsType 150 = .ok (.dup2, 1) := dk_92 (dk_at dksX3_addsType_6 8 rfl rfl)
theorem dX3_addsType_151 : decode cX3_addsType 151 = .ok (.iaload, 1) := dk_46 (dk_at dksX3_addsType_6 9 rfl rfl)
theorem dX3_addsType_152 : decode cX3_addsType 152 = .ok (.iconst 1, 1) := dk_4 (dk_at dksX3_addsType_6 10 rfl rfl)
theorem dX3_addsType_153 : decode cX3_addsType 153 = .ok (.iadd, 1) := dk_96 (dk_at dksX3_addsType_6 11 rfl rfl)
theorem dX3_addsType_154 : decode cX3_addsType 154 = .ok (.iastore, 1) := dk_79 (dk_at dksX3_addsType_6 12 rfl rfl)
theorem dX3_addsType_155 : decode cX3_addsType 155 = .ok (.iconst 1, 1) := dk_4 (dk_at dksX3_addsType_6 13 rfl rfl)
theorem dX3_addsType_156 : decode cX3_addsType 156 = .ok (.ireturn, 1) := dk_172 (dk_at dksX3_addsType_6 14 rfl rfl)
def dkwX3_errorPosition_1 : List UInt8 := [167, 0, 7, 42, 180, 0, 53, 172]
abbrev dktX3_errorPosition_1 : List UInt8 := dkwX3_errorPosition_1 ++ []
def dkwX3_errorPosition_0 : List UInt8 := [42, 42, 180, 0, 53, 156, 0, 7, 4, 167, 0, 4, 3, 181, 0, 66, 42, 180, 0, 66, 158, 0, 7, 3]
abbrev dktX3_errorPosition_0 : List UInt8 := dkwX3_errorPosition_0 ++ dktX3_errorPosition_1
theorem dksX3_errorPosition_0 : cX3_errorPosition.data.toList.drop 0 = dktX3_errorPosition_0 := by decide +kernel
theorem dksX3_errorPosition_1 : cX3_errorPosition.data.toList.drop 24 = dktX3_errorPosition_1 := dk_seg dksX3_errorPosition_0 24 rfl rfl
theorem dX3_errorPosition_0 : decode cX3_errorPosition 0 = .ok (.aload_n 0, 1) := dk_42 (dk_at dksX3_errorPosition_0 0 rfl rfl)
theorem dX3_errorPosition_1 : decode cX3_errorPosition 1 = .ok (.aload_n 0, 1) := dk_42 (dk_at dksX3_errorPosition_0 1 rfl rfl)
theorem dX3_errorPosition_2 : decode cX3_errorPosition 2 = .ok (.getfield 53, 3) := dk_180 0 53 (dk_at dksX3_errorPosition_0 2 rfl rfl)
theorem dX3_errorPosition_5 : decode cX3_errorPosition 5 = .ok (.ifCond .ge 7, 3) := dk_156 0 7 (dk_at dksX3_errorPosition_0 5 rfl rfl)
theorem dX3_errorPosition_8 : decode cX3_errorPosition 8 = .ok (.iconst 1, 1) := dk_4 (dk_at dksX3_errorPosition_0 8 rfl rfl)
theorem dX3_errorPosition_9 : decode cX3_errorPosition 9 = .ok (.goto 4, 3) := dk_167 0 4 (dk_at dksX3_errorPosition_0 9 rfl rfl)
theorem dX3_errorPosition_12 : decode cX3_errorPosition 12 = .ok (.iconst 0, 1) := dk_3 (dk_at dksX3_errorPosition_0 12 rfl rfl)
theorem dX3_errorPosition_13 : decode cX3_errorPosition 13 = .ok (.putfield 66, 3) := dk_181 0 66 (dk_at dksX3_errorPosition_0 13 rfl rfl)
theorem dX3_errorPosition_16 : decode cX3_errorPosition 16 = .ok (.aload_n 0, 1) := dk_42 (dk_at dksX3_errorPosition_0 16 rfl rfl)
theorem dX3_errorPosition_17 : decode cX3_errorPosition 17 = .ok (.getfield 66, 3) := dk_180 0 66 (dk_at dksX3_errorPosition_0 17 rfl rfl)
theorem dX3_errorPosition_20 : decode cX3_errorPosition 20 = .ok (.ifCond .le 7, 3) := dk_158 0 7 (dk_at dksX3_errorPosition_0 20 rfl rfl)
theorem dX3_errorPosition_23 : decode cX3_errorPosition 23 = .ok (.iconst 0, 1) := dk_3 (dk_at dksX3_errorPosition_0 23 rfl rfl)
theorem dX3_errorPosition_24 : decode cX3_errorPosition 24 = .ok (.goto 7, 3) := dk_167 0 7 (dk_at dksX3_errorPosition_1 0 rfl rfl)
theorem dX3_errorPosition_27 : decode cX3_errorPosition 27 = .ok (.aload_n 0, 1) := dk_42 (dk_at dksX3_errorPosition_1 3 rfl rfl)
theorem dX3_errorPosition_28 : decode cX3_errorPosition 28 = .ok (.getfield 53, 3) := dk_180 0 53 (dk_at dksX3_errorPosition_1 4 rfl rfl)
theorem dX3_errorPosition_31 : decode cX3_errorPosition 31 = .ok (.ireturn, 1) := dk_172 (dk_at dksX3_errorPosition_1 7 rfl rfl)
def dkwX3_refusedItem_1 : List UInt8 := [167, 0, 7, 42, 180, 0, 57, 172]
abbrev dktX3_refusedItem_1 : List UInt8 := dkwX3_refusedItem_1 ++ []
def dkwX3_refusedItem_0 : List UInt8 := [42, 42, 180, 0, 57, 156, 0, 7, 4, 167, 0, 4, 3, 181, 0, 66, 42, 180, 0, 66, 158, 0, 7, 3]
abbrev dktX3_refusedItem_0 : List UInt8 := dkwX3_refusedItem_0 ++ dktX3_refusedItem_1
theorem dksX3_refusedItem_0 : cX3_refusedItem.data.toList.drop 0 = dktX3_refusedItem_0 := by decide +kernel
theorem dksX3_refusedItem_1 : cX3_refusedItem.data.toList.drop 24 = dktX3_refusedItem_1 := dk_seg dksX3_refusedItem_0 24 rfl rfl
theorem dX3_refusedItem_0 : decode cX3_refusedItem 0 = .ok (.aload_n 0, 1) := dk_42 (dk_at dksX3_refusedItem_0 0 rfl rfl)
theorem dX3_refusedItem_1 : decode cX3_refusedItem 1 = .ok (.aload_n 0, 1) := dk_42 (dk_at dksX3_refusedItem_0 1 rfl rfl)
theorem dX3_refusedItem_2 : decode cX3_refusedItem 2 = .ok (.getfield 57, 3) := dk_180 0 57 (dk_at dksX3_refusedItem_0 2 rfl rfl)
theorem dX3_refusedItem_5 : decode cX3_refusedItem 5 = .ok (.ifCond .ge 7, 3) := dk_156 0 7 (dk_at dksX3_refusedItem_0 5 rfl rfl)
theorem dX3_refusedItem_8 : decode cX3_refusedItem 8 = .ok (.iconst 1, 1) := dk_4 (dk_at dksX3_refusedItem_0 8 rfl rfl)
theorem dX3_refusedItem_9 : decode cX3_refusedItem 9 = .ok (.goto 4, 3) := dk_167 0 4 (dk_at dksX3_refusedItem_0 9 rfl rfl)
theorem dX3_refusedItem_12 : decode cX3_refusedItem 12 = .ok (.iconst 0, 1) := dk_3 (dk_at dksX3_refusedItem_0 12 rfl rfl)
theorem dX3_refusedItem_13 : decode cX3_refusedItem 13 = .ok (.putfield 66, 3) := dk_181 0 66 (dk_at dksX3_refusedItem_0 13 rfl rfl)
theorem dX3_refusedItem_16 : decode cX3_refusedItem 16 = .ok (.aload_n 0, 1) := dk_42 (dk_at dksX3_refusedItem_0 16 rfl rfl)
theorem dX3_refusedItem_17 : decode cX3_refusedItem 17 = .ok (.getfield 66, 3) := dk_180 0 66 (dk_at dksX3_refusedItem_0 17 rfl rfl)
theorem dX3_refusedItem_20 : decode cX3_refusedItem 20 = .ok (.ifCond .le 7, 3) := dk_158 0 7 (dk_at dksX3_refusedItem_0 20 rfl rfl)
theorem dX3_refusedItem_23 : decode cX3_refusedItem 23 = .ok (.iconst 0, 1) := dk_3 (dk_at dksX3_refusedItem_0 23 rfl rfl)
theorem dX3_refusedItem_24 : decode cX3_refusedItem 24 = .ok (.goto 7, 3) := dk_167 0 7 (dk_at dksX3_refusedItem_1 0 rfl rfl)
theorem dX3_refusedItem_27 : decode cX3_refusedItem 27 = .ok (.aload_n 0, 1) := dk_42 (dk_at dksX3_refusedItem_1 3 rfl rfl)
theorem dX3_refusedItem_28 : decode cX3_refusedItem 28 = .ok (.getfield 57, 3) := dk_180 0 57 (dk_at dksX3_refusedItem_1 4 rfl rfl)
theorem dX3_refusedItem_31 : decode cX3_refusedItem 31 = .ok (.ireturn, 1) := dk_172 (dk_at dksX3_refusedItem_1 7 rfl rfl)
