set_option maxRecDepth 100000
theorem dJ0_init_0 : decode cJ0_init 0 = .ok (.aload_n 0, 1) := by decide +kernel
theorem dJ0_init_1 : decode cJ0_init 1 = .ok (.invokespecial 1, 3) := by decide +kernel
theorem dJ0_init_4 : decode cJ0_init 4 = .ok (.return_, 1) := by decide +kernel
def dkwJ1_init_0 : List UInt8 := [42, 183, 0, 1, 42, 3, 181, 0, 7, 177]
abbrev dktJ1_init_0 : List UInt8 := dkwJ1_init_0 ++ []
theorem dksJ1_init_0 : cJ1_init.data.toList.drop 0 = dktJ1_init_0 := by decide +kernel
theorem dJ1_init_0 : decode cJ1_init 0 = .ok (.aload_n 0, 1) := dk_42 (dk_at dksJ1_init_0 0 rfl rfl)
theorem dJ1_init_1 : decode cJ1_init 1 = .ok (.invokespecial 1, 3) := dk_183 0 1 (dk_at dksJ1_init_0 1 rfl rfl)
theorem dJ1_init_4 : decode cJ1_init 4 = .ok (.aload_n 0, 1) := dk_42 (dk_at dksJ1_init_0 4 rfl rfl)
theorem dJ1_init_5 : decode cJ1_init 5 = .ok (.iconst 0, 1) := dk_3 (dk_at dksJ1_init_0 5 rfl rfl)
theorem dJ1_init_6 : decode cJ1_init 6 = .ok (.putfield 7, 3) := dk_181 0 7 (dk_at dksJ1_init_0 6 rfl rfl)
theorem dJ1_init_9 : decode cJ1_init 9 = .ok (.return_, 1) := dk_177 (dk_at dksJ1_init_0 9 rfl rfl)
theorem dJ3_init_0 : decode cJ3_init 0 = .ok (.aload_n 0, 1) := by decide +kernel
theorem dJ3_init_1 : decode cJ3_init 1 = .ok (.invokespecial 1, 3) := by decide +kernel
theorem dJ3_init_4 : decode cJ3_init 4 = .ok (.return_, 1) := by decide +kernel
def dkwJ10_init_3_2 : List UInt8 := [44, 181, 0, 7, 29, 154, 0, 8, 42, 1, 181, 0, 24, 177]
abbrev dktJ10_init_3_2 : List UInt8 := dkwJ10_init_3_2 ++ []
def dkwJ10_init_3_1 : List UInt8 := [21, 4, 153, 0, 11, 42, 182, 0, 27, 87, 167, 0, 8, 42, 1, 181, 0, 17, 42, 43, 181, 0, 31, 42]
abbrev dktJ10_init_3_1 : List UInt8 := dkwJ10_init_3_1 ++ dktJ10_init_3_2
def dkwJ10_init_3_0 : List UInt8 := [42, 183, 0, 1, 42, 42, 181, 0, 7, 42, 178, 0, 13, 181, 0, 17, 42, 178, 0, 20, 181, 0, 24]
abbrev dktJ10_init_3_0 : List UInt8 := dkwJ10_init_3_0 ++ dktJ10_init_3_1
theorem dksJ10_init_3_0 : cJ10_init_3.data.toList.drop 0 = dktJ10_init_3_0 := by decide +kernel
theorem dksJ10_init_3_1 : cJ10_init_3.data.toList.drop 23 = dktJ10_init_3_1 := dk_seg dksJ10_init_3_0 23 rfl rfl
theorem dksJ10_init_3_2 : cJ10_init_3.data.toList.drop 47 = dktJ10_init_3_2 := dk_seg dksJ10_init_3_1 24 rfl rfl
theorem dJ10_init_3_0 : decode cJ10_init_3 0 = .ok (.aload_n 0, 1) := dk_42 (dk_at dksJ10_init_3_0 0 rfl rfl)
theorem dJ10_init_3_1 : decode cJ10_init_3 1 = .ok (.invokespecial 1, 3) := dk_183 0 1 (dk_at dksJ10_init_3_0 1 rfl rfl)
theorem dJ10_init_3_4 : decode cJ10_init_3 4 = .ok (.aload_n 0, 1) := dk_42 (dk_at dksJ10_init_3_0 4 rfl rfl)
theorem dJ10_init_3_5 : decode cJ10_init_3 5 = .ok (.aload_n 0, 1) := dk_42 (dk_at dksJ10_init_3_0 5 rfl rfl)
theorem dJ10_init_3_6 : decode cJ10_init_3 6 = .ok (.putfield 7, 3) := dk_181 0 7 (dk_at dksJ10_init_3_0 6 rfl rfl)
theorem dJ10_init_3_9 : decode cJ10_init_3 9 = .ok (.aload_n 0, 1) := dk_42 (dk_at dksJ10_init_3_0 9 rfl rfl)
theorem dJ10_init_3_10 : decode cJ10_init_3 10 = .ok (.getstatic 13, 3) := dk_178 0 13 (dk_at dksJ10_init_3_0 10 rfl rfl)
theorem dJ10_init_3_13 : decode cJ10_init_3 13 = .ok (.putfield 17, 3) := dk_181 0 17 (dk_at dksJ10_init_3_0 13 rfl rfl)
theorem dJ10_init_3_16 : decode cJ10_init_3 16 = .ok (.aload_n 0, 1) := dk_42 (dk_at dksJ10_init_3_0 16 rfl rfl)
theorem dJ10_init_3_17 : decode cJ10_init_3 17 = .ok (.getstatic 20, 3) := dk_178 0 20 (dk_at dksJ10_init_3_0 17 rfl rfl)
theorem dJ10_init_3_20 : decode cJ10_init_3 20 = .ok (.putfield 24, 3) := dk_181 0 24 (dk_at dksJ10_init_3_0 20 rfl rfl)
theorem dJ10_init_3_23 : decode cJ10_init_3 23 = .ok (.iload 4, 2) := dk_21 4 (dk_at dksJ10_init_3_1 0 rfl rfl)
theorem dJ10_init_3_25 : decode cJ10_init_3 25 = .ok (.ifCond .eq 11, 3) := dk_153 0 11 (dk_at dksJ10_init_3_1 2 rfl rfl)
theorem dJ10_init_3_28 : decode cJ10_init_3 28 = .ok (.aload_n 0, 1) := dk_42 (dk_at dksJ10_init_3_1 5 rfl rfl)
theorem dJ10_init_3_29 : decode cJ10_init_3 29 = .ok (.invokevirtual 27, 3) := dk_182 0 27 (dk_at dksJ10_init_3_1 6 rfl rfl)
theorem dJ10_init_3_32 : decode cJ10_init_3 32 = .ok (.pop, 1) := dk_87 (dk_at dksJ10_init_3_1 9 rfl rfl)
theorem dJ10_init_3_33 : decode cJ10_init_3 33 = .ok (.goto 8, 3) := dk_167 0 8 (dk_at dksJ10_init_3_1 10 rfl rfl)
theorem dJ10_init_3_36 : decode cJ10_init_3 36 = .ok (.aload_n 0, 1) := dk_42 (dk_at dksJ10_init_3_1 13 rfl rfl)
theorem dJ10_init_3_37 : decode cJ10_init_3 37 = .ok (.aconst_null, 1) := dk_1 (dk_at dksJ10_init_3_1 14 rfl rfl)
theorem dJ10_init_3_38 : decode cJ10_init_3 38 = .ok (.putfield 17, 3) := dk_181 0 17 (dk_at dksJ10_init_3_1 15 rfl rfl)
theorem dJ10_init_3_41 : decode cJ10_init_3 41 = .ok (.aload_n 0, 1) := dk_42 (dk_at dksJ10_init_3_1 18 rfl rfl)
theorem dJ10_init_3_42 : decode cJ10_init_3 42 = .ok (.aload_n 1, 1) := dk_43 (dk_at dksJ10_init_3_1 19 rfl rfl)
theorem dJ10_init_3_43 : decode cJ10_init_3 43 = .ok (.putfield 31, 3) := dk_181 0 31 (dk_at dksJ10_init_3_1 20 rfl rfl)
theorem dJ10_init_3_46 : decode cJ10_init_3 46 = .ok (.aload_n 0, 1) := dk_42 (dk_at dksJ10_init_3_1 23 rfl rfl)
theorem dJ10_init_3_47 : decode cJ10_init_3 47 = .ok (.aload_n 2, 1) := dk_44 (dk_at dksJ10_init_3_2 0 rfl rfl)
theorem dJ10_init_3_48 : decode cJ10_init_3 48 = .ok (.putfield 7, 3) := dk_181 0 7 (dk_at dksJ10_init_3_2 1 rfl rfl)
theorem dJ10_init_3_51 : decode cJ10_init_3 51 = .ok (.iload_n 3, 1) := dk_29 (dk_at dksJ10_init_3_2 4 rfl rfl)
theorem dJ10_init_3_52 : decode cJ10_init_3 52 = .ok (.ifCond .ne 8, 3) := dk_154 0 8 (dk_at dksJ10_init_3_2 5 rfl rfl)
theorem dJ10_init_3_55 : decode cJ10_init_3 55 = .ok (.aload_n 0, 1) := dk_42 (dk_at dksJ10_init_3_2 8 rfl rfl)
theorem dJ10_init_3_56 : decode cJ10_init_3 56 = .ok (.aconst_null, 1) := dk_1 (dk_at dksJ10_init_3_2 9 rfl rfl)
theorem dJ10_init_3_57 : decode cJ10_init_3 57 = .ok (.putfield 24, 3) := dk_181 0 24 (dk_at dksJ10_init_3_2 10 rfl rfl)
theorem dJ10_init_3_60 : decode cJ10_init_3 60 = .ok (.return_, 1) := dk_177 (dk_at dksJ10_init_3_2 13 rfl rfl)
def dkwJ11_init_3_0 : List UInt8 := [42, 43, 44, 29, 21, 4, 183, 0, 16, 177]
abbrev dktJ11_init_3_0 : List UInt8 := dkwJ11_init_3_0 ++ []
theorem dksJ11_init_3_0 : cJ11_init_3.data.toList.drop 0 = dktJ11_init_3_0 := by decide +kernel
theorem dJ11_init_3_0 : decode cJ11_init_3 0 = .ok (.aload_n 0, 1) := dk_42 (dk_at dksJ11_init_3_0 0 rfl rfl)
theorem dJ11_init_3_1 : decode cJ11_init_3 1 = .ok (.aload_n 1, 1) := dk_43 (dk_at dksJ11_init_3_0 1 rfl rfl)
theorem dJ11_init_3_2 : decode cJ11_init_3 2 = .ok (.aload_n 2, 1) := dk_44 (dk_at dksJ11_init_3_0 2 rfl rfl)
theorem dJ11_init_3_3 : decode cJ11_init_3 3 = .ok (.iload_n 3, 1) := dk_29 (dk_at dksJ11_init_3_0 3 rfl rfl)
theorem dJ11_init_3_4 : decode cJ11_init_3 4 = .ok (.iload 4, 2) := dk_21 4 (dk_at dksJ11_init_3_0 4 rfl rfl)
theorem dJ11_init_3_6 : decode cJ11_init_3 6 = .ok (.invokespecial 16, 3) := dk_183 0 16 (dk_at dksJ11_init_3_0 6 rfl rfl)
theorem dJ11_init_3_9 : decode cJ11_init_3 9 = .ok (.return_, 1) := dk_177 (dk_at dksJ11_init_3_0 9 rfl rfl)
def dkwJ14_init_1 : List UInt8 := [181, 0, 22, 177]
abbrev dktJ14_init_1 : List UInt8 := dkwJ14_init_1 ++ []
def dkwJ14_init_0 : List UInt8 := [42, 43, 181, 0, 1, 42, 183, 0, 7, 42, 2, 181, 0, 13, 42, 42, 180, 0, 1, 180, 0, 17]
abbrev dktJ14_init_0 : List UInt8 := dkwJ14_init_0 ++ dktJ14_init_1
theorem dksJ14_init_0 : cJ14_init.data.toList.drop 0 = dktJ14_init_0 := by decide +kernel
theorem dksJ14_init_1 : cJ14_init.data.toList.drop 22 = dktJ14_init_1 := dk_seg dksJ14_init_0 22 rfl rfl
theorem dJ14_init_0 : decode cJ14_init 0 = .ok (.aload_n 0, 1) := dk_42 (dk_at dksJ14_init_0 0 rfl rfl)
theorem dJ14_init_1 : decode cJ14_init 1 = .ok (.aload_n 1, 1) := dk_43 (dk_at dksJ14_init_0 1 rfl rfl)
theorem dJ14_init_2 : decode cJ14_init 2 = .ok (.putfield 1, 3) := dk_181 0 1 (dk_at dksJ14_init_0 2 rfl rfl)
theorem dJ14_init_5 : decode cJ14_init 5 = .ok (.aload_n 0, 1) := dk_42 (dk_at dksJ14_init_0 5 rfl rfl)
theorem dJ14_init_6 : decode cJ14_init 6 = .ok (.invokespecial 7, 3) := dk_183 0 7 (dk_at dksJ14_init_0 6 rfl rfl)
theorem dJ14_init_9 : decode cJ14_init 9 = .ok (.aload_n 0, 1) := dk_42 (dk_at dksJ14_init_0 9 rfl rfl)
theorem dJ14_init_10 : decode cJ14_init 10 = .ok (.iconst (-1), 1) := dk_2 (dk_at dksJ14_init_0 10 rfl rfl)
theorem dJ14_init_11 : decode cJ14_init 11 = .ok (.putfield 13, 3) := dk_181 0 13 (dk_at dksJ14_init_0 11 rfl rfl)
theorem dJ14_init_14 : decode cJ14_init 14 = .ok (.aload_n 0, 1) := dk_42 (dk_at dksJ14_init_0 14 rfl rfl)
theorem dJ14_init_15 : decode cJ14_init 15 = .ok (.aload_n 0, 1) := dk_42 (dk_at dksJ14_init_0 15 rfl rfl)
theorem dJ14_init_16 : decode cJ14_init 16 = .ok (.getfield 1, 3) := dk_180 0 1 (dk_at dksJ14_init_0 16 rfl rfl)
theorem dJ14_init_19 : decode cJ14_init 19 = .ok (.getfield 17, 3) := dk_180 0 17 (dk_at dksJ14_init_0 19 rfl rfl)
theorem dJ14_init_22 : decode cJ14_init 22 = .ok (.putfield 22, 3) := dk_181 0 22 (dk_at dksJ14_init_1 0 rfl rfl)
theorem dJ14_init_25 : decode cJ14_init 25 = .ok (.return_, 1) := dk_177 (dk_at dksJ14_init_1 3 rfl rfl)
def dkwJ14_hasNext_0 : List UInt8 := [42, 180, 0, 25, 42, 180, 0, 1, 180, 0, 28, 159, 0, 7, 4, 167, 0, 4, 3, 172]
abbrev dktJ14_hasNext_0 : List UInt8 := dkwJ14_hasNext_0 ++ []
theorem dksJ14_hasNext_0 : cJ14_hasNext.data.toList.drop 0 = dktJ14_hasNext_0 := by decide +kernel
theorem dJ14_hasNext_0 : decode cJ14_hasNext 0 = .ok (.aload_n 0, 1) := dk_42 (dk_at dksJ14_hasNext_0 0 rfl rfl)
theorem dJ14_hasNext_1 : decode cJ14_hasNext 1 = .ok (.getfield 25, 3) := dk_180 0 25 (dk_at dksJ14_hasNext_0 1 rfl rfl)
theorem dJ14_hasNext_4 : decode cJ14_hasNext 4 = .ok (.aload_n 0, 1) := dk_42 (dk_at dksJ14_hasNext_0 4 rfl rfl)
theorem dJ14_hasNext_5 : decode cJ14_hasNext 5 = .ok (.getfield 1, 3) := dk_180 0 1 (dk_at dksJ14_hasNext_0 5 rfl rfl)
theorem dJ14_hasNext_8 : decode cJ14_hasNext 8 = .ok (.getfield 28, 3) := dk_180 0 28 (dk_at dksJ14_hasNext_0 8 rfl rfl)
theorem dJ14_hasNext_11 : decode cJ14_hasNext 11 = .ok (.if_icmp .eq 7, 3) := dk_159 0 7 (dk_at dksJ14_hasNext_0 11 rfl rfl)
theorem dJ14_hasNext_14 : decode cJ14_hasNext 14 = .ok (.iconst 1, 1) := dk_4 (dk_at dksJ14_hasNext_0 14 rfl rfl)
theorem dJ14_hasNext_15 : decode cJ14_hasNext 15 = .ok (.goto 4, 3) := dk_167 0 4 (dk_at dksJ14_hasNext_0 15 rfl rfl)
theorem dJ14_hasNext_18 : decode cJ14_hasNext 18 = .ok (.iconst 0, 1) := dk_3 (dk_at dksJ14_hasNext_0 18 rfl rfl)
theorem dJ14_hasNext_19 : decode cJ14_hasNext 19 = .ok (.ireturn, 1) := dk_172 (dk_at dksJ14_hasNext_0 19 rfl rfl)
def dkwJ14_next_2 : List UInt8 := [183, 0, 43, 191, 42, 27, 4, 96, 181, 0, 25, 44, 42, 27, 90, 181, 0, 13, 50, 176]
abbrev dktJ14_next_2 : List UInt8 := dkwJ14_next_2 ++ []
def dkwJ14_next_1 : List UInt8 := [183, 0, 36, 191, 42, 180, 0, 1, 180, 0, 37, 77, 27, 44, 190, 161, 0, 11, 187, 0, 41, 89]
abbrev dktJ14_next_1 : List UInt8 := dkwJ14_next_1 ++ dktJ14_next_2
def dkwJ14_next_0 : List UInt8 := [42, 182, 0, 31, 42, 180, 0, 25, 60, 27, 42, 180, 0, 1, 180, 0, 28, 161, 0, 11, 187, 0, 34, 89]
abbrev dktJ14_next_0 : List UInt8 := dkwJ14_next_0 ++ dktJ14_next_1
theorem dksJ14_next_0 : cJ14_next.data.toList.drop 0 = dktJ14_next_0 := by decide +kernel
theorem dksJ14_next_1 : cJ14_next.data.toList.drop 24 = dktJ14_next_1 := dk_seg dksJ14_next_0 24 rfl rfl
theorem dksJ14_next_2 : cJ14_next.data.toList.drop 46 = dktJ14_next_2 := dk_seg dksJ14_next_1 22 rfl rfl
theorem dJ14_next_0 : decode cJ14_next 0 = .ok (.aload_n 0, 1) := dk_42 (dk_at dksJ14_next_0 0 rfl rfl)
theorem dJ14_next_1 : decode cJ14_next 1 = .ok (.invokevirtual 31, 3) := dk_182 0 31 (dk_at dksJ14_next_0 1 rfl rfl)
theorem dJ14_next_4 : decode cJ14_next 4 = .ok (.aload_n 0, 1) := dk_42 (dk_at dksJ14_next_0 4 rfl rfl)
theorem dJ14_next_5 : decode cJ14_next 5 = .ok (.getfield 25, 3) := dk_180 0 25 (dk_at dksJ14_next_0 5 rfl rfl)
theorem dJ14_next_8 : decode cJ14_next 8 = .ok (.istore_n 1, 1) := dk_60 (dk_at dksJ14_next_0 8 rfl rfl)
theorem dJ14_next_9 : decode cJ14_next 9 = .ok (.iload_n 1, 1) := dk_27 (dk_at dksJ14_next_0 9 rfl rfl)
theorem dJ14_next_10 : decode cJ14_next 10 = .ok (.aload_n 0, 1) := dk_42 (dk_at dksJ14_next_0 10 rfl rfl)
theorem dJ14_next_11 : decode cJ14_next 11 = .ok (.getfield 1, 3) := dk_180 0 1 (dk_at dksJ14_next_0 11 rfl rfl)
theorem dJ14_next_14 : decode cJ14_next 14 = .ok (.getfield 28, 3) := dk_180 0 28 (dk_at dksJ14_next_0 14 rfl rfl)
theorem dJ14_next_17 : decode cJ14_next 17 = .ok (.if_icmp .lt 11, 3) := dk_161 0 11 (dk_at dksJ14_next_0 17 rfl rfl)
theorem dJ14_next_20 : decode cJ14_next 20 = .ok (.new 34, 3) := dk_187 0 34 (dk_at dksJ14_next_0 20 rfl rfl)
theorem dJ14_next_23 : decode cJ14_next 23 = .ok (.dup, 1) := dk_89 (dk_at dksJ14_next_0 23 rfl rfl)
theorem dJ14_next_24 : decode cJ14_next 24 = .ok (.invokespecial 36, 3) := dk_183 0 36 (dk_at dksJ14_next_1 0 rfl rfl)
theorem dJ14_next_27 : decode cJ14_next 27 = .ok (.athrow, 1) := dk_191 (dk_at dksJ14_next_1 3 rfl rfl)
theorem dJ14_next_28 : decode cJ14_next 28 = .ok (.aload_n 0, 1) := dk_42 (dk_at dksJ14_next_1 4 rfl rfl)
theorem dJ14_next_29 : decode cJ14_next 29 = .ok (.getfield 1, 3) := dk_180 0 1 (dk_at dksJ14_next_1 5 rfl rfl)
theorem dJ14_next_32 : decode cJ14_next 32 = .ok (.getfield 37, 3) := dk_180 0 37 (dk_at dksJ14_next_1 8 rfl rfl)
theorem dJ14_next_35 : decode cJ14_next 35 = .ok (.astore_n 2, 1) := dk_77 (dk_at dksJ14_next_1 11 rfl rfl)
theorem dJ14_next_36 : decode cJ14_next 36 = .ok (.iload_n 1, 1) := dk_27 (dk_at dksJ14_next_1 12 rfl rfl)
theorem dJ14_next_37 : decode cJ14_next 37 = .ok (.aload_n 2, 1) := dk_44 (dk_at dksJ14_next_1 13 rfl rfl)
theorem dJ14_next_38 : decode cJ14_next 38 = .ok (.arraylength, 1) := dk_190 (dk_at dksJ14_next_1 14 rfl rfl)
theorem dJ14_next_39 : decode cJ14_next 39 = .ok (.if_icmp .lt 11, 3) := dk_161 0 11 (dk_at dksJ14_next_1 15 rfl rfl)
theorem dJ14_next_42 : decode cJ14_next 42 = .ok (.new 41, 3) := dk_187 0 41 (dk_at dksJ14_next_1 18 rfl rfl)
theorem dJ14_next_45 : decode cJ14_next 45 = .ok (.dup, 1) := dk_89 (dk_at dksJ14_next_1 21 rfl rfl)
theorem dJ14_next_46 : decode cJ14_next 46 = .ok (.invokespecial 43, 3) := dk_183 0 43 (dk_at dksJ14_next_2 0 rfl rfl)
theorem dJ14_next_49 : decode cJ14_next 49 = .ok (.athrow, 1) := dk_191 (dk_at dksJ14_next_2 3 rfl rfl)
theorem dJ14_next_50 : decode cJ14_next 50 = .ok (.aload_n 0, 1) := dk_42 (dk_at dksJ14_next_2 4 rfl rfl)
theorem dJ14_next_51 : decode cJ14_next 51 = .ok (.iload_n 1, 1) := dk_27 (dk_at dksJ14_next_2 5 rfl rfl)
theorem dJ14_next_52 : decode cJ14_next 52 = .ok (.iconst 1, 1) := dk_4 (dk_at dksJ14_next_2 6 rfl rfl)
theorem dJ14_next_53 : decode cJ14_next 53 = .ok (.iadd, 1) := dk_96 (dk_at dksJ14_next_2 7 rfl rfl)
theorem dJ14_next_54 : decode cJ14_next 54 = .ok (.putfield 25, 3) := dk_181 0 25 (dk_at dksJ14_next_2 8 rfl rfl)
theorem dJ14_next_57 : decode cJ14_next 57 = .ok (.aload_n 2, 1) := dk_44 (dk_at dksJ14_next_2 11 rfl rfl)
theorem dJ14_next_58 : decode cJ14_next 58 = .ok (.aload_n 0, 1) := dk_42 (dk_at dksJ14_next_2 12 rfl rfl)
theorem dJ14_next_59 : decode cJ14_next 59 = .ok (.iload_n 1, 1) := dk_27 (dk_at dksJ14_next_2 13 rfl rfl)
theorem dJ14_next_60 : decode cJ14_next 60 = .ok (.dup_x1, 1) := dk_90 (dk_at dksJ14_next_2 14 rfl rfl)
theorem dJ14_next_61 : decode cJ14_next 61 = .ok (.putfield 13, 3) := dk_181 0 13 (dk_at dksJ14_next_2 15 rfl rfl)
theorem dJ14_next_64 : decode cJ14_next 64 = .ok (.aaload, 1) := dk_50 (dk_at dksJ14_next_2 18 rfl rfl)
theorem dJ14_next_65 : decode cJ14_next 65 = .ok (.areturn, 1) := dk_176 (dk_at dksJ14_next_2 19 rfl rfl)
def dkwJ14_checkForComodification_0 : List UInt8 := [42, 180, 0, 1, 180, 0, 17, 42, 180, 0, 22, 159, 0, 11, 187, 0, 41, 89, 183, 0, 43, 191, 177]
abbrev dktJ14_checkForComodification_0 : List UInt8 := dkwJ14_checkForComodification_0 ++ []
theorem dksJ14_checkForComodification_0 : cJ14_checkForComodification.data.toList.drop 0 = dktJ14_checkForComodification_0 := by decide +kernel
theorem dJ14_checkForComodification_0 : decode cJ14_checkForComodification 0 = .ok (.aload_n 0, 1) := dk_42 (dk_at dksJ14_checkForComodification_0 0 rfl rfl)
theorem dJ14_checkForComodification_1 : decode cJ14_checkForComodification 1 = .ok (.getfield 1, 3) := dk_180 0 1 (dk_at dksJ14_checkForComodification_0 1 rfl rfl)
theorem dJ14_checkForComodification_4 : decode cJ14_checkForComodification 4 = .ok (.getfield 17, 3) := dk_180 0 17 (dk_at dksJ14_checkForComodification_0 4 rfl rfl)
theorem dJ14_checkForComodification_7 : decode cJ14_checkForComodification 7 = .ok (.aload_n 0, 1) := dk_42 (dk_at dksJ14_checkForComodification_0 7 rfl rfl)
theorem dJ14_checkForComodification_8 : decode cJ14_checkForComodification 8 = .ok (.getfield 22, 3) := dk_180 0 22 (dk_at dksJ14_checkForComodification_0 8 rfl rfl)
theorem dJ14_checkForComodification_11 : decode cJ14_checkForComodification 11 = .ok (.if_icmp .eq 11, 3) := dk_159 0 11 (dk_at dksJ14_checkForComodification_0 11 rfl rfl)
theorem dJ14_checkForComodification_14 : decode cJ14_checkForComodification 14 = .ok (.new 41, 3) := dk_187 0 41 (dk_at dksJ14_checkForComodification_0 14 rfl rfl)
theorem dJ14_checkForComodification_17 : decode cJ14_checkForComodification 17 = .ok (.dup, 1) := dk_89 (dk_at dksJ14_checkForComodification_0 17 rfl rfl)
theorem dJ14_checkForComodification_18 : decode cJ14_checkForComodification 18 = .ok (.invokespecial 43, 3) := dk_183 0 43 (dk_at dksJ14_checkForComodification_0 18 rfl rfl)
theorem dJ14_checkForComodification_21 : decode cJ14_checkForComodification 21 = .ok (.athrow, 1) := dk_191 (dk_at dksJ14_checkForComodification_0 21 rfl rfl)
theorem dJ14_checkForComodification_22 : decode cJ14_checkForComodification 22 = .ok (.return_, 1) := dk_177 (dk_at dksJ14_checkForComodification_0 22 rfl rfl)
def dkwJ16_checkIndex_0 : List UInt8 := [26, 27, 1, 184, 0, 105, 172]
abbrev dktJ16_checkIndex_0 : List UInt8 := dkwJ16_checkIndex_0 ++ []
theorem dksJ16_checkIndex_0 : cJ16_checkIndex.data.toList.drop 0 = dktJ16_checkIndex_0 := by decide +kernel
theorem dJ16_checkIndex_0 : decode cJ16_checkIndex 0 = .ok (.iload_n 0, 1) := dk_26 (dk_at dksJ16_checkIndex_0 0 rfl rfl)
theorem dJ16_checkIndex_1 : decode cJ16_checkIndex 1 = .ok (.iload_n 1, 1) := dk_27 (dk_at dksJ16_checkIndex_0 1 rfl rfl)
theorem dJ16_checkIndex_2 : decode cJ16_checkIndex 2 = .ok (.aconst_null, 1) := dk_1 (dk_at dksJ16_checkIndex_0 2 rfl rfl)
theorem dJ16_checkIndex_3 : decode cJ16_checkIndex 3 = .ok (.invokestatic 105, 3) := dk_184 0 105 (dk_at dksJ16_checkIndex_0 3 rfl rfl)
theorem dJ16_checkIndex_6 : decode cJ16_checkIndex 6 = .ok (.ireturn, 1) := dk_172 (dk_at dksJ16_checkIndex_0 6 rfl rfl)
def dkwJ17_checkIndex_0 : List UInt8 := [26, 155, 0, 8, 26, 27, 161, 0, 10, 44, 26, 27, 184, 0, 95, 191, 26, 172]
abbrev dktJ17_checkIndex_0 : List UInt8 := dkwJ17_checkIndex_0 ++ []
theorem dksJ17_checkIndex_0 : cJ17_checkIndex.data.toList.drop 0 = dktJ17_checkIndex_0 := by decide +kernel
theorem dJ17_checkIndex_0 : decode cJ17_checkIndex 0 = .ok (.iload_n 0, 1) := dk_26 (dk_at dksJ17_checkIndex_0 0 rfl rfl)
theorem dJ17_checkIndex_1 : decode cJ17_checkIndex 1 = .ok (.ifCond .lt 8, 3) := dk_155 0 8 (dk_at dksJ17_checkIndex_0 1 rfl rfl)
theorem dJ17_checkIndex_4 : decode cJ17_checkIndex 4 = .ok (.iload_n 0, 1) := dk_26 (dk_at dksJ17_checkIndex_0 4 rfl rfl)
theorem dJ17_checkIndex_5 : decode cJ17_checkIndex 5 = .ok (.iload_n 1, 1) := dk_27 (dk_at dksJ17_checkIndex_0 5 rfl rfl)
theorem dJ17_checkIndex_6 : decode cJ17_checkIndex 6 = .ok (.if_icmp .lt 10, 3) := dk_161 0 10 (dk_at dksJ17_checkIndex_0 6 rfl rfl)
theorem dJ17_checkIndex_9 : decode cJ17_checkIndex 9 = .ok (.aload_n 2, 1) := dk_44 (dk_at dksJ17_checkIndex_0 9 rfl rfl)
theorem dJ17_checkIndex_10 : decode cJ17_checkIndex 10 = .ok (.iload_n 0, 1) := dk_26 (dk_at dksJ17_checkIndex_0 10 rfl rfl)
theorem dJ17_checkIndex_11 : decode cJ17_checkIndex 11 = .ok (.iload_n 1, 1) := dk_27 (dk_at dksJ17_checkIndex_0 11 rfl rfl)
theorem dJ17_checkIndex_12 : decode cJ17_checkIndex 12 = .ok (.invokestatic 95, 3) := dk_184 0 95 (dk_at dksJ17_checkIndex_0 12 rfl rfl)
theorem dJ17_checkIndex_15 : decode cJ17_checkIndex 15 = .ok (.athrow, 1) := dk_191 (dk_at dksJ17_checkIndex_0 15 rfl rfl)
theorem dJ17_checkIndex_16 : decode cJ17_checkIndex 16 = .ok (.iload_n 0, 1) := dk_26 (dk_at dksJ17_checkIndex_0 16 rfl rfl)
theorem dJ17_checkIndex_17 : decode cJ17_checkIndex 17 = .ok (.ireturn, 1) := dk_172 (dk_at dksJ17_checkIndex_0 17 rfl rfl)
def dkwJ17_checkFromToIndex_0 : List UInt8 := [26, 155, 0, 13, 26, 27, 163, 0, 8, 27, 28, 164, 0, 11, 45, 26, 27, 28, 184, 0, 99, 191, 26, 172]
abbrev dktJ17_checkFromToIndex_0 : List UInt8 := dkwJ17_checkFromToIndex_0 ++ []
theorem dksJ17_checkFromToIndex_0 : cJ17_checkFromToIndex.data.toList.drop 0 = dktJ17_checkFromToIndex_0 := by decide +kernel
theorem dJ17_checkFromToIndex_0 : decode cJ17_checkFromToIndex 0 = .ok (.iload_n 0, 1) := dk_26 (dk_at dksJ17_checkFromToIndex_0 0 rfl rfl)
theorem dJ17_checkFromToIndex_1 : decode cJ17_checkFromToIndex 1 = .ok (.ifCond .lt 13, 3) := dk_155 0 13 (dk_at dksJ17_checkFromToIndex_0 1 rfl rfl)
theorem dJ17_checkFromToIndex_4 : decode cJ17_checkFromToIndex 4 = .ok (.iload_n 0, 1) := dk_26 (dk_at dksJ17_checkFromToIndex_0 4 rfl rfl)
theorem dJ17_checkFromToIndex_5 : decode cJ17_checkFromToIndex 5 = .ok (.iload_n 1, 1) := dk_27 (dk_at dksJ17_checkFromToIndex_0 5 rfl rfl)
theorem dJ17_checkFromToIndex_6 : decode cJ17_checkFromToIndex 6 = .ok (.if_icmp .gt 8, 3) := dk_163 0 8 (dk_at dksJ17_checkFromToIndex_0 6 rfl rfl)
theorem dJ17_checkFromToIndex_9 : decode cJ17_checkFromToIndex 9 = .ok (.iload_n 1, 1) := dk_27 (dk_at dksJ17_checkFromToIndex_0 9 rfl rfl)
theorem dJ17_checkFromToIndex_10 : decode cJ17_checkFromToIndex 10 = .ok (.iload_n 2, 1) := dk_28 (dk_at dksJ17_checkFromToIndex_0 10 rfl rfl)
theorem dJ17_checkFromToIndex_11 : decode cJ17_checkFromToIndex 11 = .ok (.if_icmp .le 11, 3) := dk_164 0 11 (dk_at dksJ17_checkFromToIndex_0 11 rfl rfl)
theorem dJ17_checkFromToIndex_14 : decode cJ17_checkFromToIndex 14 = .ok (.aload_n 3, 1) := dk_45 (dk_at dksJ17_checkFromToIndex_0 14 rfl rfl)
theorem dJ17_checkFromToIndex_15 : decode cJ17_checkFromToIndex 15 = .ok (.iload_n 0, 1) := dk_26 (dk_at dksJ17_checkFromToIndex_0 15 rfl rfl)
theorem dJ17_checkFromToIndex_16 : decode cJ17_checkFromToIndex 16 = .ok (.iload_n 1, 1) := dk_27 (dk_at dksJ17_checkFromToIndex_0 16 rfl rfl)
theorem dJ17_checkFromToIndex_17 : decode cJ17_checkFromToIndex 17 = .ok (.iload_n 2, 1) := dk_28 (dk_at dksJ17_checkFromToIndex_0 17 rfl rfl)
theorem dJ17_checkFromToIndex_18 : decode cJ17_checkFromToIndex 18 = .ok (.invokestatic 99, 3) := dk_184 0 99 (dk_at dksJ17_checkFromToIndex_0 18 rfl rfl)
theorem dJ17_checkFromToIndex_21 : decode cJ17_checkFromToIndex 21 = .ok (.athrow, 1) := dk_191 (dk_at dksJ17_checkFromToIndex_0 21 rfl rfl)
theorem dJ17_checkFromToIndex_22 : decode cJ17_checkFromToIndex 22 = .ok (.iload_n 0, 1) := dk_26 (dk_at dksJ17_checkFromToIndex_0 22 rfl rfl)
theorem dJ17_checkFromToIndex_23 : decode cJ17_checkFromToIndex 23 = .ok (.ireturn, 1) := dk_172 (dk_at dksJ17_checkFromToIndex_0 23 rfl rfl)
theorem dJ18_init_0 : decode cJ18_init 0 = .ok (.aload_n 0, 1) := by decide +kernel
theorem dJ18_init_1 : decode cJ18_init 1 = .ok (.invokespecial 1, 3) := by decide +kernel
theorem dJ18_init_4 : decode cJ18_init 4 = .ok (.return_, 1) := by decide +kernel
def dkwJ19_hashCode_0 : List UInt8 := [42, 180, 0, 205, 184, 0, 208, 172]
abbrev dktJ19_hashCode_0 : List UInt8 := dkwJ19_hashCode_0 ++ []
theorem dksJ19_hashCode_0 : cJ19_hashCode.data.toList.drop 0 = dktJ19_hashCode_0 := by decide +kernel
theorem dJ19_hashCode_0 : decode cJ19_hashCode 0 = .ok (.aload_n 0, 1) := dk_42 (dk_at dksJ19_hashCode_0 0 rfl rfl)
theorem dJ19_hashCode_1 : decode cJ19_hashCode 1 = .ok (.getfield 205, 3) := dk_180 0 205 (dk_at dksJ19_hashCode_0 1 rfl rfl)
theorem dJ19_hashCode_4 : decode cJ19_hashCode 4 = .ok (.invokestatic 208, 3) := dk_184 0 208 (dk_at dksJ19_hashCode_0 4 rfl rfl)
theorem dJ19_hashCode_7 : decode cJ19_hashCode 7 = .ok (.ireturn, 1) := dk_172 (dk_at dksJ19_hashCode_0 7 rfl rfl)
def dkwJ19_equals_1 : List UInt8 := [167, 0, 4, 3, 172, 3, 172]
abbrev dktJ19_equals_1 : List UInt8 := dkwJ19_equals_1 ++ []
def dkwJ19_equals_0 : List UInt8 := [43, 193, 0, 1, 153, 0, 23, 42, 180, 0, 205, 43, 192, 0, 1, 182, 0, 211, 160, 0, 7, 4]
abbrev dktJ19_equals_0 : List UInt8 := dkwJ19_equals_0 ++ dktJ19_equals_1
theorem dksJ19_equals_0 : cJ19_equals.data.toList.drop 0 = dktJ19_equals_0 := by decide +kernel
theorem dksJ19_equals_1 : cJ19_equals.data.toList.drop 22 = dktJ19_equals_1 := dk_seg dksJ19_equals_0 22 rfl rfl
theorem dJ19_equals_0 : decode cJ19_equals 0 = .ok (.aload_n 1, 1) := dk_43 (dk_at dksJ19_equals_0 0 rfl rfl)
theorem dJ19_equals_1 : decode cJ19_equals 1 = .ok (.instanceof 1, 3) := dk_193 0 1 (dk_at dksJ19_equals_0 1 rfl rfl)
theorem dJ19_equals_4 : decode cJ19_equals 4 = .ok (.ifCond .eq 23, 3) := dk_153 0 23 (dk_at dksJ19_equals_0 4 rfl rfl)
theorem dJ19_equals_7 : decode cJ19_equals 7 = .ok (.aload_n 0, 1) := dk_42 (dk_at dksJ19_equals_0 7 rfl rfl)
theorem dJ19_equals_8 : decode cJ19_equals 8 = .ok (.getfield 205, 3) := dk_180 0 205 (dk_at dksJ19_equals_0 8 rfl rfl)
theorem dJ19_equals_11 : decode cJ19_equals 11 = .ok (.aload_n 1, 1) := dk_43 (dk_at dksJ19_equals_0 11 rfl rfl)
theorem dJ19_equals_12 : decode cJ19_equals 12 = .ok (.checkcast 1, 3) := dk_192 0 1 (dk_at dksJ19_equals_0 12 rfl rfl)
theorem dJ19_equals_15 : decode cJ19_equals 15 = .ok (.invokevirtual 211, 3) := dk_182 0 211 (dk_at dksJ19_equals_0 15 rfl rfl)
theorem dJ19_equals_18 : decode cJ19_equals 18 = .ok (.if_icmp .ne 7, 3) := dk_160 0 7 (dk_at dksJ19_equals_0 18 rfl rfl)
theorem dJ19_equals_21 : decode cJ19_equals 21 = .ok (.iconst 1, 1) := dk_4 (dk_at dksJ19_equals_0 21 rfl rfl)
theorem dJ19_equals_22 : decode cJ19_equals 22 = .ok (.goto 4, 3) := dk_167 0 4 (dk_at dksJ19_equals_1 0 rfl rfl)
theorem dJ19_equals_25 : decode cJ19_equals 25 = .ok (.iconst 0, 1) := dk_3 (dk_at dksJ19_equals_1 3 rfl rfl)
theorem dJ19_equals_26 : decode cJ19_equals 26 = .ok (.ireturn, 1) := dk_172 (dk_at dksJ19_equals_1 4 rfl rfl)
theorem dJ19_equals_27 : decode cJ19_equals 27 = .ok (.iconst 0, 1) := dk_3 (dk_at dksJ19_equals_1 5 rfl rfl)
theorem dJ19_equals_28 : decode cJ19_equals 28 = .ok (.ireturn, 1) := dk_172 (dk_at dksJ19_equals_1 6 rfl rfl)
theorem dJ19_intValue_0 : decode cJ19_intValue 0 = .ok (.aload_n 0, 1) := by decide +kernel
theorem dJ19_intValue_1 : decode cJ19_intValue 1 = .ok (.getfield 205, 3) := by decide +kernel
theorem dJ19_intValue_4 : decode cJ19_intValue 4 = .ok (.ireturn, 1) := by decide +kernel
def dkwJ19_valueOf_1 : List UInt8 := [187, 0, 1, 89, 26, 183, 0, 199, 176]
abbrev dktJ19_valueOf_1 : List UInt8 := dkwJ19_valueOf_1 ++ []
def dkwJ19_valueOf_0 : List UInt8 := [26, 16, 128, 161, 0, 20, 26, 178, 0, 191, 163, 0, 13, 178, 0, 195, 26, 17, 0, 128, 96, 50, 176]
abbrev dktJ19_valueOf_0 : List UInt8 := dkwJ19_valueOf_0 ++ dktJ19_valueOf_1
theorem dksJ19_valueOf_0 : cJ19_valueOf.data.toList.drop 0 = dktJ19_valueOf_0 := by decide +kernel
theorem dksJ19_valueOf_1 : cJ19_valueOf.data.toList.drop 23 = dktJ19_valueOf_1 := dk_seg dksJ19_valueOf_0 23 rfl rfl
theorem dJ19_valueOf_0 : decode cJ19_valueOf 0 = .ok (.iload_n 0, 1) := dk_26 (dk_at dksJ19_valueOf_0 0 rfl rfl)
theorem dJ19_valueOf_1 : decode cJ19_valueOf 1 = .ok (.bipush (-128), 2) := dk_16 128 (dk_at dksJ19_valueOf_0 1 rfl rfl)
theorem dJ19_valueOf_3 : decode cJ19_valueOf 3 = .ok (.if_icmp .lt 20, 3) := dk_161 0 20 (dk_at dksJ19_valueOf_0 3 rfl rfl)
theorem dJ19_valueOf_6 : decode cJ19_valueOf 6 = .ok (.iload_n 0, 1) := dk_26 (dk_at dksJ19_valueOf_0 6 rfl rfl)
theorem dJ19_valueOf_7 : decode cJ19_valueOf 7 = .ok (.getstatic 191, 3) := dk_178 0 191 (dk_at dksJ19_valueOf_0 7 rfl rfl)
theorem dJ19_valueOf_10 : decode cJ19_valueOf 10 = .ok (.if_icmp .gt 13, 3) := dk_163 0 13 (dk_at dksJ19_valueOf_0 10 rfl rfl)
theorem dJ19_valueOf_13 : decode cJ19_valueOf 13 = .ok (.getstatic 195, 3) := dk_178 0 195 (dk_at dksJ19_valueOf_0 13 rfl rfl)
theorem dJ19_valueOf_16 : decode cJ19_valueOf 16 = .ok (.iload_n 0, 1) := dk_26 (dk_at dksJ19_valueOf_0 16 rfl rfl)
theorem dJ19_valueOf_17 : decode cJ19_valueOf 17 = .ok (.sipush 128, 3) := dk_17 0 128 (dk_at dksJ19_valueOf_0 17 rfl rfl)
theorem dJ19_valueOf_20 : decode cJ19_valueOf 20 = .ok (.iadd, 1) := dk_96 (dk_at dksJ19_valueOf_0 20 rfl rfl)
theorem dJ19_valueOf_21 : decode cJ19_valueOf 21 = .ok (.aaload, 1) := dk_50 (dk_at dksJ19_valueOf_0 21 rfl rfl)
theorem dJ19_valueOf_22 : decode cJ19_valueOf 22 = .ok (.areturn, 1) := dk_176 (dk_at dksJ19_valueOf_0 22 rfl rfl)
theorem dJ19_valueOf_23 : decode cJ19_valueOf 23 = .ok (.new 1, 3) := dk_187 0 1 (dk_at dksJ19_valueOf_1 0 rfl rfl)
theorem dJ19_valueOf_26 : decode cJ19_valueOf 26 = .ok (.dup, 1) := dk_89 (dk_at dksJ19_valueOf_1 3 rfl rfl)
theorem dJ19_valueOf_27 : decode cJ19_valueOf 27 = .ok (.iload_n 0, 1) := dk_26 (dk_at dksJ19_valueOf_1 4 rfl rfl)
theorem dJ19_valueOf_28 : decode cJ19_valueOf 28 = .ok (.invokespecial 199, 3) := dk_183 0 199 (dk_at dksJ19_valueOf_1 5 rfl rfl)
theorem dJ19_valueOf_31 : decode cJ19_valueOf 31 = .ok (.areturn, 1) := dk_176 (dk_at dksJ19_valueOf_1 8 rfl rfl)
def dkwJ19_init_0 : List UInt8 := [42, 183, 0, 202, 42, 27, 181, 0, 205, 177]
abbrev dktJ19_init_0 : List UInt8 := dkwJ19_init_0 ++ []
theorem dksJ19_init_0 : cJ19_init.data.toList.drop 0 = dktJ19_init_0 := by decide +kernel
theorem dJ19_init_0 : decode cJ19_init 0 = .ok (.aload_n 0, 1) := dk_42 (dk_at dksJ19_init_0 0 rfl rfl)
theorem dJ19_init_1 : decode cJ19_init 1 = .ok (.invokespecial 202, 3) := dk_183 0 202 (dk_at dksJ19_init_0 1 rfl rfl)
theorem dJ19_init_4 : decode cJ19_init 4 = .ok (.aload_n 0, 1) := dk_42 (dk_at dksJ19_init_0 4 rfl rfl)
theorem dJ19_init_5 : decode cJ19_init 5 = .ok (.iload_n 1, 1) := dk_27 (dk_at dksJ19_init_0 5 rfl rfl)
theorem dJ19_init_6 : decode cJ19_init 6 = .ok (.putfield 205, 3) := dk_181 0 205 (dk_at dksJ19_init_0 6 rfl rfl)
theorem dJ19_init_9 : decode cJ19_init 9 = .ok (.return_, 1) := dk_177 (dk_at dksJ19_init_0 9 rfl rfl)
def dkwJ2_init_0 : List UInt8 := [42, 183, 0, 1, 42, 178, 0, 39, 181, 0, 9, 177]
abbrev dktJ2_init_0 : List UInt8 := dkwJ2_init_0 ++ []
theorem dksJ2_init_0 : cJ2_init.data.toList.drop 0 = dktJ2_init_0 := by decide +kernel
theorem dJ2_init_0 : decode cJ2_init 0 = .ok (.aload_n 0, 1) := dk_42 (dk_at dksJ2_init_0 0 rfl rfl)
theorem dJ2_init_1 : decode cJ2_init 1 = .ok (.invokespecial 1, 3) := dk_183 0 1 (dk_at dksJ2_init_0 1 rfl rfl)
theorem dJ2_init_4 : decode cJ2_init 4 = .ok (.aload_n 0, 1) := dk_42 (dk_at dksJ2_init_0 4 rfl rfl)
theorem dJ2_init_5 : decode cJ2_init 5 = .ok (.getstatic 39, 3) := dk_178 0 39 (dk_at dksJ2_init_0 5 rfl rfl)
theorem dJ2_init_8 : decode cJ2_init 8 = .ok (.putfield 9, 3) := dk_181 0 9 (dk_at dksJ2_init_0 8 rfl rfl)
theorem dJ2_init_11 : decode cJ2_init 11 = .ok (.return_, 1) := dk_177 (dk_at dksJ2_init_0 11 rfl rfl)
theorem dJ2_size_0 : decode cJ2_size 0 = .ok (.aload_n 0, 1) := by decide +kernel
theorem dJ2_size_1 : decode cJ2_size 1 = .ok (.getfield 48, 3) := by decide +kernel
theorem dJ2_size_4 : decode cJ2_size 4 = .ok (.ireturn, 1) := by decide +kernel
def dkwJ2_iterator_0 : List UInt8 := [187, 1, 11, 89, 42, 183, 1, 13, 176]
abbrev dktJ2_iterator_0 : List UInt8 := dkwJ2_iterator_0 ++ []
theorem dksJ2_iterator_0 : cJ2_iterator.data.toList.drop 0 = dktJ2_iterator_0 := by decide +kernel
theorem dJ2_iterator_0 : decode cJ2_iterator 0 = .ok (.new 267, 3) := dk_187 1 11 (dk_at dksJ2_iterator_0 0 rfl rfl)
theorem dJ2_iterator_3 : decode cJ2_iterator 3 = .ok (.dup, 1) := dk_89 (dk_at dksJ2_iterator_0 3 rfl rfl)
theorem dJ2_iterator_4 : decode cJ2_iterator 4 = .ok (.aload_n 0, 1) := dk_42 (dk_at dksJ2_iterator_0 4 rfl rfl)
theorem dJ2_iterator_5 : decode cJ2_iterator 5 = .ok (.invokespecial 269, 3) := dk_183 1 13 (dk_at dksJ2_iterator_0 5 rfl rfl)
theorem dJ2_iterator_8 : decode cJ2_iterator 8 = .ok (.areturn, 1) := dk_176 (dk_at dksJ2_iterator_0 8 rfl rfl)
def dkwJ2_get_0 : List UInt8 := [27, 42, 180, 0, 48, 184, 0, 118, 87, 42, 27, 182, 0, 123, 176]
abbrev dktJ2_get_0 : List UInt8 := dkwJ2_get_0 ++ []
theorem dksJ2_get_0 : cJ2_get.data.toList.drop 0 = dktJ2_get_0 := by decide +kernel
theorem dJ2_get_0 : decode cJ2_get 0 = .ok (.iload_n 1, 1) := dk_27 (dk_at dksJ2_get_0 0 rfl rfl)
theorem dJ2_get_1 : decode cJ2_get 1 = .ok (.aload_n 0, 1) := dk_42 (dk_at dksJ2_get_0 1 rfl rfl)
theorem dJ2_get_2 : decode cJ2_get 2 = .ok (.getfield 48, 3) := dk_180 0 48 (dk_at dksJ2_get_0 2 rfl rfl)
theorem dJ2_get_5 : decode cJ2_get 5 = .ok (.invokestatic 118, 3) := dk_184 0 118 (dk_at dksJ2_get_0 5 rfl rfl)
theorem dJ2_get_8 : decode cJ2_get 8 = .ok (.pop, 1) := dk_87 (dk_at dksJ2_get_0 8 rfl rfl)
theorem dJ2_get_9 : decode cJ2_get 9 = .ok (.aload_n 0, 1) := dk_42 (dk_at dksJ2_get_0 9 rfl rfl)
theorem dJ2_get_10 : decode cJ2_get 10 = .ok (.iload_n 1, 1) := dk_27 (dk_at dksJ2_get_0 10 rfl rfl)
theorem dJ2_get_11 : decode cJ2_get 11 = .ok (.invokevirtual 123, 3) := dk_182 0 123 (dk_at dksJ2_get_0 11 rfl rfl)
theorem dJ2_get_14 : decode cJ2_get 14 = .ok (.areturn, 1) := dk_176 (dk_at dksJ2_get_0 14 rfl rfl)
def dkwJ2_elementData_0 : List UInt8 := [42, 180, 0, 9, 27, 50, 176]
abbrev dktJ2_elementData_0 : List UInt8 := dkwJ2_elementData_0 ++ []
theorem dksJ2_elementData_0 : cJ2_elementData.data.toList.drop 0 = dktJ2_elementData_0 := by decide +kernel
theorem dJ2_elementData_0 : decode cJ2_elementData 0 = .ok (.aload_n 0, 1) := dk_42 (dk_at dksJ2_elementData_0 0 rfl rfl)
theorem dJ2_elementData_1 : decode cJ2_elementData 1 = .ok (.getfield 9, 3) := dk_180 0 9 (dk_at dksJ2_elementData_0 1 rfl rfl)
theorem dJ2_elementData_4 : decode cJ2_elementData 4 = .ok (.iload_n 1, 1) := dk_27 (dk_at dksJ2_elementData_0 4 rfl rfl)
theorem dJ2_elementData_5 : decode cJ2_elementData 5 = .ok (.aaload, 1) := dk_50 (dk_at dksJ2_elementData_0 5 rfl rfl)
theorem dJ2_elementData_6 : decode cJ2_elementData 6 = .ok (.areturn, 1) := dk_176 (dk_at dksJ2_elementData_0 6 rfl rfl)
def dkwJ2_isEmpty_0 : List UInt8 := [42, 180, 0, 48, 154, 0, 7, 4, 167, 0, 4, 3, 172]
abbrev dktJ2_isEmpty_0 : List UInt8 := dkwJ2_isEmpty_0 ++ []
theorem dksJ2_isEmpty_0 : cJ2_isEmpty.data.toList.drop 0 = dktJ2_isEmpty_0 := by decide +kernel
theorem dJ2_isEmpty_0 : decode cJ2_isEmpty 0 = .ok (.aload_n 0, 1) := dk_42 (dk_at dksJ2_isEmpty_0 0 rfl rfl)
theorem dJ2_isEmpty_1 : decode cJ2_isEmpty 1 = .ok (.getfield 48, 3) := dk_180 0 48 (dk_at dksJ2_isEmpty_0 1 rfl rfl)
theorem dJ2_isEmpty_4 : decode cJ2_isEmpty 4 = .ok (.ifCond .ne 7, 3) := dk_154 0 7 (dk_at dksJ2_isEmpty_0 4 rfl rfl)
theorem dJ2_isEmpty_7 : decode cJ2_isEmpty 7 = .ok (.iconst 1, 1) := dk_4 (dk_at dksJ2_isEmpty_0 7 rfl rfl)
theorem dJ2_isEmpty_8 : decode cJ2_isEmpty 8 = .ok (.goto 4, 3) := dk_167 0 4 (dk_at dksJ2_isEmpty_0 8 rfl rfl)
theorem dJ2_isEmpty_11 : decode cJ2_isEmpty 11 = .ok (.iconst 0, 1) := dk_3 (dk_at dksJ2_isEmpty_0 11 rfl rfl)
theorem dJ2_isEmpty_12 : decode cJ2_isEmpty 12 = .ok (.ireturn, 1) := dk_172 (dk_at dksJ2_isEmpty_0 12 rfl rfl)
def dkwJ2_add_1 : List UInt8 := [172]
abbrev dktJ2_add_1 : List UInt8 := dkwJ2_add_1 ++ []
def dkwJ2_add_0 : List UInt8 := [42, 89, 180, 0, 63, 4, 96, 181, 0, 63, 42, 43, 42, 180, 0, 9, 42, 180, 0, 48, 182, 0, 131, 4]
abbrev dktJ2_add_0 : List UInt8 := dkwJ2_add_0 ++ dktJ2_add_1
theorem dksJ2_add_0 : cJ2_add.data.toList.drop 0 = dktJ2_add_0 := by decide +kernel
theorem dksJ2_add_1 : cJ2_add.data.toList.drop 24 = dktJ2_add_1 := dk_seg dksJ2_add_0 24 rfl rfl
theorem dJ2_add_0 : decode cJ2_add 0 = .ok (.aload_n 0, 1) := dk_42 (dk_at dksJ2_add_0 0 rfl rfl)
theorem dJ2_add_1 : decode cJ2_add 1 = .ok (.dup, 1) := dk_89 (dk_at dksJ2_add_0 1 rfl rfl)
theorem dJ2_add_2 : decode cJ2_add 2 = .ok (.getfield 63, 3) := dk_180 0 63 (dk_at dksJ2_add_0 2 rfl rfl)
theorem dJ2_add_5 : decode cJ2_add 5 = .ok (.iconst 1, 1) := dk_4 (dk_at dksJ2_add_0 5 rfl rfl)
theorem dJ2_add_6 : decode cJ2_add 6 = .ok (.iadd, 1) := dk_96 (dk_at dksJ2_add_0 6 rfl rfl)
theorem dJ2_add_7 : decode cJ2_add 7 = .ok (.putfield 63, 3) := dk_181 0 63 (dk_at dksJ2_add_0 7 rfl rfl)
theorem dJ2_add_10 : decode cJ2_add 10 = .ok (.aload_n 0, 1) := dk_42 (dk_at dksJ2_add_0 10 rfl rfl)
theorem dJ2_add_11 : decode cJ2_add 11 = .ok (.aload_n 1, 1) := dk_43 (dk_at dksJ2_add_0 11 rfl rfl)
theorem dJ2_add_12 : decode cJ2_add 12 = .ok (.aload_n 0, 1) := dk_42 (dk_at dksJ2_add_0 12 rfl rfl)
theorem dJ2_add_13 : decode cJ2_add 13 = .ok (.getfield 9, 3) := dk_180 0 9 (dk_at dksJ2_add_0 13 rfl rfl)
theorem dJ2_add_16 : decode cJ2_add 16 = .ok (.aload_n 0, 1) := dk_42 (dk_at dksJ2_add_0 16 rfl rfl)
theorem dJ2_add_17 : decode cJ2_add 17 = .ok (.getfield 48, 3) := dk_180 0 48 (dk_at dksJ2_add_0 17 rfl rfl)
theorem dJ2_add_20 : decode cJ2_add 20 = .ok (.invokevirtual 131, 3) := dk_182 0 131 (dk_at dksJ2_add_0 20 rfl rfl)
theorem dJ2_add_23 : decode cJ2_add 23 = .ok (.iconst 1, 1) := dk_4 (dk_at dksJ2_add_0 23 rfl rfl)
theorem dJ2_add_24 : decode cJ2_add 24 = .ok (.ireturn, 1) := dk_172 (dk_at dksJ2_add_1 0 rfl rfl)
def dkwJ2_add_2_0 : List UInt8 := [29, 44, 190, 160, 0, 8, 42, 182, 0, 129, 77, 44, 29, 43, 83, 42, 29, 4, 96, 181, 0, 48, 177]
abbrev dktJ2_add_2_0 : List UInt8 := dkwJ2_add_2_0 ++ []
theorem dksJ2_add_2_0 : cJ2_add_2.data.toList.drop 0 = dktJ2_add_2_0 := by decide +kernel
theorem dJ2_add_2_0 : decode cJ2_add_2 0 = .ok (.iload_n 3, 1) := dk_29 (dk_at dksJ2_add_2_0 0 rfl rfl)
theorem dJ2_add_2_1 : decode cJ2_add_2 1 = .ok (.aload_n 2, 1) := dk_44 (dk_at dksJ2_add_2_0 1 rfl rfl)
theorem dJ2_add_2_2 : decode cJ2_add_2 2 = .ok (.arraylength, 1) := dk_190 (dk_at dksJ2_add_2_0 2 rfl rfl)
theorem dJ2_add_2_3 : decode cJ2_add_2 3 = .ok (.if_icmp .ne 8, 3) := dk_160 0 8 (dk_at dksJ2_add_2_0 3 rfl rfl)
theorem dJ2_add_2_6 : decode cJ2_add_2 6 = .ok (.aload_n 0, 1) := dk_42 (dk_at dksJ2_add_2_0 6 rfl rfl)
theorem dJ2_add_2_7 : decode cJ2_add_2 7 = .ok (.invokevirtual 129, 3) := dk_182 0 129 (dk_at dksJ2_add_2_0 7 rfl rfl)
theorem dJ2_add_2_10 : decode cJ2_add_2 10 = .ok (.astore_n 2, 1) := dk_77 (dk_at dksJ2_add_2_0 10 rfl rfl)
theorem dJ2_add_2_11 : decode cJ2_add_2 11 = .ok (.aload_n 2, 1) := dk_44 (dk_at dksJ2_add_2_0 11 rfl rfl)
theorem dJ2_add_2_12 : decode cJ2_add_2 12 = .ok (.iload_n 3, 1) := dk_29 (dk_at dksJ2_add_2_0 12 rfl rfl)
theorem dJ2_add_2_13 : decode cJ2_add_2 13 = .ok (.aload_n 1, 1) := dk_43 (dk_at dksJ2_add_2_0 13 rfl rfl)
theorem dJ2_add_2_14 : decode cJ2_add_2 14 = .ok (.aastore, 1) := dk_83 (dk_at dksJ2_add_2_0 14 rfl rfl)
theorem dJ2_add_2_15 : decode cJ2_add_2 15 = .ok (.aload_n 0, 1) := dk_42 (dk_at dksJ2_add_2_0 15 rfl rfl)
theorem dJ2_add_2_16 : decode cJ2_add_2 16 = .ok (.iload_n 3, 1) := dk_29 (dk_at dksJ2_add_2_0 16 rfl rfl)
theorem dJ2_add_2_17 : decode cJ2_add_2 17 = .ok (.iconst 1, 1) := dk_4 (dk_at dksJ2_add_2_0 17 rfl rfl)
theorem dJ2_add_2_18 : decode cJ2_add_2 18 = .ok (.iadd, 1) := dk_96 (dk_at dksJ2_add_2_0 18 rfl rfl)
theorem dJ2_add_2_19 : decode cJ2_add_2 19 = .ok (.putfield 48, 3) := dk_181 0 48 (dk_at dksJ2_add_2_0 19 rfl rfl)
theorem dJ2_add_2_22 : decode cJ2_add_2 22 = .ok (.return_, 1) := dk_177 (dk_at dksJ2_add_2_0 22 rfl rfl)
def dkwJ2_grow_0 : List UInt8 := [42, 42, 180, 0, 48, 4, 96, 182, 0, 69, 176]
abbrev dktJ2_grow_0 : List UInt8 := dkwJ2_grow_0 ++ []
theorem dksJ2_grow_0 : cJ2_grow.data.toList.drop 0 = dktJ2_grow_0 := by decide +kernel
theorem dJ2_grow_0 : decode cJ2_grow 0 = .ok (.aload_n 0, 1) := dk_42 (dk_at dksJ2_grow_0 0 rfl rfl)
theorem dJ2_grow_1 : decode cJ2_grow 1 = .ok (.aload_n 0, 1) := dk_42 (dk_at dksJ2_grow_0 1 rfl rfl)
theorem dJ2_grow_2 : decode cJ2_grow 2 = .ok (.getfield 48, 3) := dk_180 0 48 (dk_at dksJ2_grow_0 2 rfl rfl)
theorem dJ2_grow_5 : decode cJ2_grow 5 = .ok (.iconst 1, 1) := dk_4 (dk_at dksJ2_grow_0 5 rfl rfl)
theorem dJ2_grow_6 : decode cJ2_grow 6 = .ok (.iadd, 1) := dk_96 (dk_at dksJ2_grow_0 6 rfl rfl)
theorem dJ2_grow_7 : decode cJ2_grow 7 = .ok (.invokevirtual 69, 3) := dk_182 0 69 (dk_at dksJ2_grow_0 7 rfl rfl)
theorem dJ2_grow_10 : decode cJ2_grow 10 = .ok (.areturn, 1) := dk_176 (dk_at dksJ2_grow_0 10 rfl rfl)
def dkwJ2_grow_2_2 : List UInt8 := [27, 184, 0, 79, 189, 0, 7, 90, 181, 0, 9, 176]
abbrev dktJ2_grow_2_2 : List UInt8 := dkwJ2_grow_2_2 ++ []
def dkwJ2_grow_2_1 : List UInt8 := [28, 4, 122, 184, 0, 73, 62, 42, 42, 180, 0, 9, 29, 184, 0, 66, 90, 181, 0, 9, 176, 42, 16, 10]
abbrev dktJ2_grow_2_1 : List UInt8 := dkwJ2_grow_2_1 ++ dktJ2_grow_2_2
def dkwJ2_grow_2_0 : List UInt8 := [42, 180, 0, 9, 190, 61, 28, 157, 0, 13, 42, 180, 0, 9, 178, 0, 39, 165, 0, 28, 28, 27, 28, 100]
abbrev dktJ2_grow_2_0 : List UInt8 := dkwJ2_grow_2_0 ++ dktJ2_grow_2_1
theorem dksJ2_grow_2_0 : cJ2_grow_2.data.toList.drop 0 = dktJ2_grow_2_0 := by decide +kernel
theorem dksJ2_grow_2_1 : cJ2_grow_2.data.toList.drop 24 = dktJ2_grow_2_1 := dk_seg dksJ2_grow_2_0 24 rfl rfl
theorem dksJ2_grow_2_2 : cJ2_grow_2.data.toList.drop 48 = dktJ2_grow_2_2 := dk_seg dksJ2_grow_2_1 24 rfl rfl
theorem dJ2_grow_2_0 : decode cJ2_grow_2 0 = .ok (.aload_n 0, 1) := dk_42 (dk_at dksJ2_grow_2_0 0 rfl rfl)
theorem dJ2_grow_2_1 : decode cJ2_grow_2 1 = .ok (.getfield 9, 3) := dk_180 0 9 (dk_at dksJ2_grow_2_0 1 rfl rfl)
theorem dJ2_grow_2_4 : decode cJ2_grow_2 4 = .ok (.arraylength, 1) := dk_190 (dk_at dksJ2_grow_2_0 4 rfl rfl)
theorem dJ2_grow_2_5 : decode cJ2_grow_2 5 = .ok (.istore_n 2, 1) := dk_61 (dk_at dksJ2_grow_2_0 5 rfl rfl)
theorem dJ2_grow_2_6 : decode cJ2_grow_2 6 = .ok (.iload_n 2, 1) := dk_28 (dk_at dksJ2_grow_2_0 6 rfl rfl)
theorem dJ2_grow_2_7 : decode cJ2_grow_2 7 = .ok (.ifCond .gt 13, 3) := dk_157 0 13 (dk_at dksJ2_grow_2_0 7 rfl rfl)
theorem dJ2_grow_2_10 : decode cJ2_grow_2 10 = .ok (.aload_n 0, 1) := dk_42 (dk_at dksJ2_grow_2_0 10 rfl rfl)
theorem dJ2_grow_2_11 : decode cJ2_grow_2 11 = .ok (.getfield 9, 3) := dk_180 0 9 (dk_at dksJ2_grow_2_0 11 rfl rfl)
theorem dJ2_grow_2_14 : decode cJ2_grow_2 14 = .ok (.getstatic 39, 3) := dk_178 0 39 (dk_at dksJ2_grow_2_0 14 rfl rfl)
theorem dJ2_grow_2_17 : decode cJ2_grow_2 17 = .ok (.if_acmp .eq 28, 3) := dk_165 0 28 (dk_at dksJ2_grow_2_0 17 rfl rfl)
theorem dJ2_grow_2_20 : decode cJ2_grow_2 20 = .ok (.iload_n 2, 1) := dk_28 (dk_at dksJ2_grow_2_0 20 rfl rfl)
theorem dJ2_grow_2_21 : decode cJ2_grow_2 21 = .ok (.iload_n 1, 1) := dk_27 (dk_at dksJ2_grow_2_0 21 rfl rfl)
theorem dJ2_grow_2_22 : decode cJ2_grow_2 22 = .ok (.iload_n 2, 1) := dk_28 (dk_at dksJ2_grow_2_0 22 rfl rfl)
theorem dJ2_grow_2_23 : decode cJ2_grow_2 23 = .ok (.isub, 1) := dk_100 (dk_at dksJ2_grow_2_0 23 rfl rfl)
theorem dJ2_grow_2_24 : decode cJ2_grow_2 24 = .ok (.iload_n 2, 1) := dk_28 (dk_at dksJ2_grow_2_1 0 rfl rfl)
theorem dJ2_grow_2_25 : decode cJ2_grow_2 25 = .ok (.iconst 1, 1) := dk_4 (dk_at dksJ2_grow_2_1 1 rfl rfl)
theorem dJ2_grow_2_26 : decode cJ2_grow_2 26 = .ok (.ishr, 1) := dk_122 (dk_at dksJ2_grow_2_1 2 rfl rfl)
theorem dJ2_grow_2_27 : decode cJ2_grow_2 27 = .ok (.invokestatic 73, 3) := dk_184 0 73 (dk_at dksJ2_grow_2_1 3 rfl rfl)
theorem dJ2_grow_2_30 : decode cJ2_grow_2 30 = .ok (.istore_n 3, 1) := dk_62 (dk_at dksJ2_grow_2_1 6 rfl rfl)
theorem dJ2_grow_2_31 : decode cJ2_grow_2 31 = .ok (.aload_n 0, 1) := dk_42 (dk_at dksJ2_grow_2_1 7 rfl rfl)
theorem dJ2_grow_2_32 : decode cJ2_grow_2 32 = .ok (.aload_n 0, 1) := dk_42 (dk_at dksJ2_grow_2_1 8 rfl rfl)
theorem dJ2_grow_2_33 : decode cJ2_grow_2 33 = .ok (.getfield 9, 3) := dk_180 0 9 (dk_at dksJ2_grow_2_1 9 rfl rfl)
theorem dJ2_grow_2_36 : decode cJ2_grow_2 36 = .ok (.iload_n 3, 1) := dk_29 (dk_at dksJ2_grow_2_1 12 rfl rfl)
theorem dJ2_grow_2_37 : decode cJ2_grow_2 37 = .ok (.invokestatic 66, 3) := dk_184 0 66 (dk_at dksJ2_grow_2_1 13 rfl rfl)
theorem dJ2_grow_2_40 : decode cJ2_grow_2 40 = .ok (.dup_x1, 1) := dk_90 (dk_at dksJ2_grow_2_1 16 rfl rfl)
theorem dJ2_grow_2_41 : decode cJ2_grow_2 41 = .ok (.putfield 9, 3) := dk_181 0 9 (dk_at dksJ2_grow_2_1 17 rfl rfl)
theorem dJ2_grow_2_44 : decode cJ2_grow_2 44 = .ok (.areturn, 1) := dk_176 (dk_at dksJ2_grow_2_1 20 rfl rfl)
theorem dJ2_grow_2_45 : decode cJ2_grow_2 45 = .ok (.aload_n 0, 1) := dk_42 (dk_at dksJ2_grow_2_1 21 rfl rfl)
theorem dJ2_grow_2_46 : decode cJ2_grow_2 46 = .ok (.bipush 10, 2) := dk_16 10 (dk_at dksJ2_grow_2_1 22 rfl rfl)
theorem dJ2_grow_2_48 : decode cJ2_grow_2 48 = .ok (.iload_n 1, 1) := dk_27 (dk_at dksJ2_grow_2_2 0 rfl rfl)
theorem dJ2_grow_2_49 : decode cJ2_grow_2 49 = .ok (.invokestatic 79, 3) := dk_184 0 79 (dk_at dksJ2_grow_2_2 1 rfl rfl)
theorem dJ2_grow_2_52 : decode cJ2_grow_2 52 = .ok (.anewarray 7, 3) := dk_189 0 7 (dk_at dksJ2_grow_2_2 4 rfl rfl)
theorem dJ2_grow_2_55 : decode cJ2_grow_2 55 = .ok (.dup_x1, 1) := dk_90 (dk_at dksJ2_grow_2_2 7 rfl rfl)
theorem dJ2_grow_2_56 : decode cJ2_grow_2 56 = .ok (.putfield 9, 3) := dk_181 0 9 (dk_at dksJ2_grow_2_2 8 rfl rfl)
theorem dJ2_grow_2_59 : decode cJ2_grow_2 59 = .ok (.areturn, 1) := dk_176 (dk_at dksJ2_grow_2_2 11 rfl rfl)
def dkwJ2_addAll_3 : List UInt8 := [181, 0, 48, 4, 172]
abbrev dktJ2_addAll_3 : List UInt8 := dkwJ2_addAll_3 ++ []
def dkwJ2_addAll_2 : List UInt8 := [21, 5, 29, 96, 182, 0, 69, 58, 4, 44, 3, 25, 4, 21, 5, 29, 184, 0, 112, 42, 21, 5, 29, 96]
abbrev dktJ2_addAll_2 : List UInt8 := dkwJ2_addAll_2 ++ dktJ2_addAll_3
def dkwJ2_addAll_1 : List UInt8 := [3, 172, 29, 42, 180, 0, 9, 89, 58, 4, 190, 42, 180, 0, 48, 89, 54, 5, 100, 164, 0, 13, 42]
abbrev dktJ2_addAll_1 : List UInt8 := dkwJ2_addAll_1 ++ dktJ2_addAll_2
def dkwJ2_addAll_0 : List UInt8 := [43, 185, 0, 42, 1, 0, 77, 42, 89, 180, 0, 63, 4, 96, 181, 0, 63, 44, 190, 62, 29, 154, 0, 5]
abbrev dktJ2_addAll_0 : List UInt8 := dkwJ2_addAll_0 ++ dktJ2_addAll_1
theorem dksJ2_addAll_0 : cJ2_addAll.data.toList.drop 0 = dktJ2_addAll_0 := by decide +kernel
theorem dksJ2_addAll_1 : cJ2_addAll.data.toList.drop 24 = dktJ2_addAll_1 := dk_seg dksJ2_addAll_0 24 rfl rfl
theorem dksJ2_addAll_2 : cJ2_addAll.data.toList.drop 47 = dktJ2_addAll_2 := dk_seg dksJ2_addAll_1 23 rfl rfl
theorem dksJ2_addAll_3 : cJ2_addAll.data.toList.drop 71 = dktJ2_addAll_3 := dk_seg dksJ2_addAll_2 24 rfl rfl
theorem dJ2_addAll_0 : decode cJ2_addAll 0 = .ok (.aload_n 1, 1) := dk_43 (dk_at dksJ2_addAll_0 0 rfl rfl)
theorem dJ2_addAll_1 : decode cJ2_addAll 1 = .ok (.invokeinterface 42 1, 5) := by decide +kernel
theorem dJ2_addAll_6 : decode cJ2_addAll 6 = .ok (.astore_n 2, 1) := dk_77 (dk_at dksJ2_addAll_0 6 rfl rfl)
theorem dJ2_addAll_7 : decode cJ2_addAll 7 = .ok (.aload_n 0, 1) := dk_42 (dk_at dksJ2_addAll_0 7 rfl rfl)
theorem dJ2_addAll_8 : decode cJ2_addAll 8 = .ok (.dup, 1) := dk_89 (dk_at dksJ2_addAll_0 8 rfl rfl)
theorem dJ2_addAll_9 : decode cJ2_addAll 9 = .ok (.getfield 63, 3) := dk_180 0 63 (dk_at dksJ2_addAll_0 9 rfl rfl)
theorem dJ2_addAll_12 : decode cJ2_addAll 12 = .ok (.iconst 1, 1) := dk_4 (dk_at dksJ2_addAll_0 12 rfl rfl)
theorem dJ2_addAll_13 : decode cJ2_addAll 13 = .ok (.iadd, 1) := dk_96 (dk_at dksJ2_addAll_0 13 rfl rfl)
theorem dJ2_addAll_14 : decode cJ2_addAll 14 = .ok (.putfield 63, 3) := dk_181 0 63 (dk_at dksJ2_addAll_0 14 rfl rfl)
theorem dJ2_addAll_17 : decode cJ2_addAll 17 = .ok (.aload_n 2, 1) := dk_44 (dk_at dksJ2_addAll_0 17 rfl rfl)
theorem dJ2_addAll_18 : decode cJ2_addAll 18 = .ok (.arraylength, 1) := dk_190 (dk_at dksJ2_addAll_0 18 rfl rfl)
theorem dJ2_addAll_19 : decode cJ2_addAll 19 = .ok (.istore_n 3, 1) := dk_62 (dk_at dksJ2_addAll_0 19 rfl rfl)
theorem dJ2_addAll_20 : decode cJ2_addAll 20 = .ok (.iload_n 3, 1) := dk_29 (dk_at dksJ2_addAll_0 20 rfl rfl)
theorem dJ2_addAll_21 : decode cJ2_addAll 21 = .ok (.ifCond .ne 5, 3) := dk_154 0 5 (dk_at dksJ2_addAll_0 21 rfl rfl)
theorem dJ2_addAll_24 : decode cJ2_addAll 24 = .ok (.iconst 0, 1) := dk_3 (dk_at dksJ2_addAll_1 0 rfl rfl)
theorem dJ2_addAll_25 : decode cJ2_addAll 25 = .ok (.ireturn, 1) := dk_172 (dk_at dksJ2_addAll_1 1 rfl rfl)
theorem dJ2_addAll_26 : decode cJ2_addAll 26 = .ok (.iload_n 3, 1) := dk_29 (dk_at dksJ2_addAll_1 2 rfl rfl)
theorem dJ2_addAll_27 : decode cJ2_addAll 27 = .ok (.aload_n 0, 1) := dk_42 (dk_at dksJ2_addAll_1 3 rfl rfl)
theorem dJ2_addAll_28 : decode cJ2_addAll 28 = .ok (.getfield 9, 3) := dk_180 0 9 (dk_at dksJ2_addAll_1 4 rfl rfl)
theorem dJ2_addAll_31 : decode cJ2_addAll 31 = .ok (.dup, 1) := dk_89 (dk_at dksJ2_addAll_1 7 rfl rfl)
theorem dJ2_addAll_32 : decode cJ2_addAll 32 = .ok (.astore 4, 2) := dk_58 4 (dk_at dksJ2_addAll_1 8 rfl rfl)
theorem dJ2_addAll_34 : decode cJ2_addAll 34 = .ok (.arraylength, 1) := dk_190 (dk_at dksJ2_addAll_1 10 rfl rfl)
theorem dJ2_addAll_35 : decode cJ2_addAll 35 = .ok (.aload_n 0, 1) := dk_42 (dk_at dksJ2_addAll_1 11 rfl rfl)
theorem dJ2_addAll_36 : decode cJ2_addAll 36 = .ok (.getfield 48, 3) := dk_180 0 48 (dk_at dksJ2_addAll_1 12 rfl rfl)
theorem dJ2_addAll_39 : decode cJ2_addAll 39 = .ok (.dup, 1) := dk_89 (dk_at dksJ2_addAll_1 15 rfl rfl)
theorem dJ2_addAll_40 : decode cJ2_addAll 40 = .ok (.istore 5, 2) := dk_54 5 (dk_at dksJ2_addAll_1 16 rfl rfl)
theorem dJ2_addAll_42 : decode cJ2_addAll 42 = .ok (.isub, 1) := dk_100 (dk_at dksJ2_addAll_1 18 rfl rfl)
theorem dJ2_addAll_43 : decode cJ2_addAll 43 = .ok (.if_icmp .le 13, 3) := dk_164 0 13 (dk_at dksJ2_addAll_1 19 rfl rfl)
theorem dJ2_addAll_46 : decode cJ2_addAll 46 = .ok (.aload_n 0, 1) := dk_42 (dk_at dksJ2_addAll_1 22 rfl rfl)
theorem dJ2_addAll_47 : decode cJ2_addAll 47 = .ok (.iload 5, 2) := dk_21 5 (dk_at dksJ2_addAll_2 0 rfl rfl)
theorem dJ2_addAll_49 : decode cJ2_addAll 49 = .ok (.iload_n 3, 1) := dk_29 (dk_at dksJ2_addAll_2 2 rfl rfl)
theorem dJ2_addAll_50 : decode cJ2_addAll 50 = .ok (.iadd, 1) := dk_96 (dk_at dksJ2_addAll_2 3 rfl rfl)
theorem dJ2_addAll_51 : decode cJ2_addAll 51 = .ok (.invokevirtual 69, 3) := dk_182 0 69 (dk_at dksJ2_addAll_2 4 rfl rfl)
theorem dJ2_addAll_54 : decode cJ2_addAll 54 = .ok (.astore 4, 2) := dk_58 4 (dk_at dksJ2_addAll_2 7 rfl rfl)
theorem dJ2_addAll_56 : decode cJ2_addAll 56 = .ok (.aload_n 2, 1) := dk_44 (dk_at dksJ2_addAll_2 9 rfl rfl)
theorem dJ2_addAll_57 : decode cJ2_addAll 57 = .ok (.iconst 0, 1) := dk_3 (dk_at dksJ2_addAll_2 10 rfl rfl)
theorem dJ2_addAll_58 : decode cJ2_addAll 58 = .ok (.aload 4, 2) := dk_25 4 (dk_at dksJ2_addAll_2 11 rfl rfl)
theorem dJ2_addAll_60 : decode cJ2_addAll 60 = .ok (.iload 5, 2) := dk_21 5 (dk_at dksJ2_addAll_2 13 rfl rfl)
theorem dJ2_addAll_62 : decode cJ2_addAll 62 = .ok (.iload_n 3, 1) := dk_29 (dk_at dksJ2_addAll_2 15 rfl rfl)
theorem dJ2_addAll_63 : decode cJ2_addAll 63 = .ok (.invokestatic 112, 3) := dk_184 0 112 (dk_at dksJ2_addAll_2 16 rfl rfl)
theorem dJ2_addAll_66 : decode cJ2_addAll 66 = .ok (.aload_n 0, 1) := dk_42 (dk_at dksJ2_addAll_2 19 rfl rfl)
theorem dJ2_addAll_67 : decode cJ2_addAll 67 = .ok (.iload 5, 2) := dk_21 5 (dk_at dksJ2_addAll_2 20 rfl rfl)
theorem dJ2_addAll_69 : decode cJ2_addAll 69 = .ok (.iload_n 3, 1) := dk_29 (dk_at dksJ2_addAll_2 22 rfl rfl)
theorem dJ2_addAll_70 : decode cJ2_addAll 70 = .ok (.iadd, 1) := dk_96 (dk_at dksJ2_addAll_2 23 rfl rfl)
theorem dJ2_addAll_71 : decode cJ2_addAll 71 = .ok (.putfield 48, 3) := dk_181 0 48 (dk_at dksJ2_addAll_3 0 rfl rfl)
theorem dJ2_addAll_74 : decode cJ2_addAll 74 = .ok (.iconst 1, 1) := dk_4 (dk_at dksJ2_addAll_3 3 rfl rfl)
theorem dJ2_addAll_75 : decode cJ2_addAll 75 = .ok (.ireturn, 1) := dk_172 (dk_at dksJ2_addAll_3 4 rfl rfl)
def dkwJ2_toArray_0 : List UInt8 := [42, 180, 0, 9, 42, 180, 0, 48, 184, 0, 66, 176]
abbrev dktJ2_toArray_0 : List UInt8 := dkwJ2_toArray_0 ++ []
theorem dksJ2_toArray_0 : cJ2_toArray.data.toList.drop 0 = dktJ2_toArray_0 := by decide +kernel
theorem dJ2_toArray_0 : decode cJ2_toArray 0 = .ok (.aload_n 0, 1) := dk_42 (dk_at dksJ2_toArray_0 0 rfl rfl)
theorem dJ2_toArray_1 : decode cJ2_toArray 1 = .ok (.getfield 9, 3) := dk_180 0 9 (dk_at dksJ2_toArray_0 1 rfl rfl)
theorem dJ2_toArray_4 : decode cJ2_toArray 4 = .ok (.aload_n 0, 1) := dk_42 (dk_at dksJ2_toArray_0 4 rfl rfl)
theorem dJ2_toArray_5 : decode cJ2_toArray 5 = .ok (.getfield 48, 3) := dk_180 0 48 (dk_at dksJ2_toArray_0 5 rfl rfl)
theorem dJ2_toArray_8 : decode cJ2_toArray 8 = .ok (.invokestatic 66, 3) := dk_184 0 66 (dk_at dksJ2_toArray_0 8 rfl rfl)
theorem dJ2_toArray_11 : decode cJ2_toArray 11 = .ok (.areturn, 1) := dk_176 (dk_at dksJ2_toArray_0 11 rfl rfl)
def dkwJ2_remove_1 : List UInt8 := [45, 176]
abbrev dktJ2_remove_1 : List UInt8 := dkwJ2_remove_1 ++ []
def dkwJ2_remove_0 : List UInt8 := [27, 42, 180, 0, 48, 184, 0, 118, 87, 42, 180, 0, 9, 77, 44, 27, 50, 78, 42, 44, 27, 182, 0, 144]
abbrev dktJ2_remove_0 : List UInt8 := dkwJ2_remove_0 ++ dktJ2_remove_1
theorem dksJ2_remove_0 : cJ2_remove.data.toList.drop 0 = dktJ2_remove_0 := by decide +kernel
theorem dksJ2_remove_1 : cJ2_remove.data.toList.drop 24 = dktJ2_remove_1 := dk_seg dksJ2_remove_0 24 rfl rfl
theorem dJ2_remove_0 : decode cJ2_remove 0 = .ok (.iload_n 1, 1) := dk_27 (dk_at dksJ2_remove_0 0 rfl rfl)
theorem dJ2_remove_1 : decode cJ2_remove 1 = .ok (.aload_n 0, 1) := dk_42 (dk_at dksJ2_remove_0 1 rfl rfl)
theorem dJ2_remove_2 : decode cJ2_remove 2 = .ok (.getfield 48, 3) := dk_180 0 48 (dk_at dksJ2_remove_0 2 rfl rfl)
theorem dJ2_remove_5 : decode cJ2_remove 5 = .ok (.invokestatic 118, 3) := dk_184 0 118 (dk_at dksJ2_remove_0 5 rfl rfl)
theorem dJ2_remove_8 : decode cJ2_remove 8 = .ok (.pop, 1) := dk_87 (dk_at dksJ2_remove_0 8 rfl rfl)
theorem dJ2_remove_9 : decode cJ2_remove 9 = .ok (.aload_n 0, 1) := dk_42 (dk_at dksJ2_remove_0 9 rfl rfl)
theorem dJ2_remove_10 : decode cJ2_remove 10 = .ok (.getfield 9, 3) := dk_180 0 9 (dk_at dksJ2_remove_0 10 rfl rfl)
theorem dJ2_remove_13 : decode cJ2_remove 13 = .ok (.astore_n 2, 1) := dk_77 (dk_at dksJ2_remove_0 13 rfl rfl)
theorem dJ2_remove_14 : decode cJ2_remove 14 = .ok (.aload_n 2, 1) := dk_44 (dk_at dksJ2_remove_0 14 rfl rfl)
theorem dJ2_remove_15 : decode cJ2_remove 15 = .ok (.iload_n 1, 1) := dk_27 (dk_at dksJ2_remove_0 15 rfl rfl)
theorem dJ2_remove_16 : decode cJ2_remove 16 = .ok (.aaload, 1) := dk_50 (dk_at dksJ2_remove_0 16 rfl rfl)
theorem dJ2_remove_17 : decode cJ2_remove 17 = .ok (.astore_n 3, 1) := dk_78 (dk_at dksJ2_remove_0 17 rfl rfl)
theorem dJ2_remove_18 : decode cJ2_remove 18 = .ok (.aload_n 0, 1) := dk_42 (dk_at dksJ2_remove_0 18 rfl rfl)
theorem dJ2_remove_19 : decode cJ2_remove 19 = .ok (.aload_n 2, 1) := dk_44 (dk_at dksJ2_remove_0 19 rfl rfl)
theorem dJ2_remove_20 : decode cJ2_remove 20 = .ok (.iload_n 1, 1) := dk_27 (dk_at dksJ2_remove_0 20 rfl rfl)
theorem dJ2_remove_21 : decode cJ2_remove 21 = .ok (.invokevirtual 144, 3) := dk_182 0 144 (dk_at dksJ2_remove_0 21 rfl rfl)
theorem dJ2_remove_24 : decode cJ2_remove 24 = .ok (.aload_n 3, 1) := dk_45 (dk_at dksJ2_remove_1 0 rfl rfl)
theorem dJ2_remove_25 : decode cJ2_remove 25 = .ok (.areturn, 1) := dk_176 (dk_at dksJ2_remove_1 1 rfl rfl)
def dkwJ2_fastRemove_1 : List UInt8 := [4, 96, 43, 28, 29, 28, 100, 184, 0, 112, 43, 42, 29, 90, 181, 0, 48, 1, 83, 177]
abbrev dktJ2_fastRemove_1 : List UInt8 := dkwJ2_fastRemove_1 ++ []
def dkwJ2_fastRemove_0 : List UInt8 := [42, 89, 180, 0, 63, 4, 96, 181, 0, 63, 42, 180, 0, 48, 4, 100, 89, 62, 28, 164, 0, 15, 43, 28]
abbrev dktJ2_fastRemove_0 : List UInt8 := dkwJ2_fastRemove_0 ++ dktJ2_fastRemove_1
theorem dksJ2_fastRemove_0 : cJ2_fastRemove.data.toList.drop 0 = dktJ2_fastRemove_0 := by decide +kernel
theorem dksJ2_fastRemove_1 : cJ2_fastRemove.data.toList.drop 24 = dktJ2_fastRemove_1 := dk_seg dksJ2_fastRemove_0 24 rfl rfl
theorem dJ2_fastRemove_0 : decode cJ2_fastRemove 0 = .ok (.aload_n 0, 1) := dk_42 (dk_at dksJ2_fastRemove_0 0 rfl rfl)
theorem dJ2_fastRemove_1 : decode cJ2_fastRemove 1 = .ok (.dup, 1) := dk_89 (dk_at dksJ2_fastRemove_0 1 rfl rfl)
theorem dJ2_fastRemove_2 : decode cJ2_fastRemove 2 = .ok (.getfield 63, 3) := dk_180 0 63 (dk_at dksJ2_fastRemove_0 2 rfl rfl)
theorem dJ2_fastRemove_5 : decode cJ2_fastRemove 5 = .ok (.iconst 1, 1) := dk_4 (dk_at dksJ2_fastRemove_0 5 rfl rfl)
theorem dJ2_fastRemove_6 : decode cJ2_fastRemove 6 = .ok (.iadd, 1) := dk_96 (dk_at dksJ2_fastRemove_0 6 rfl rfl)
theorem dJ2_fastRemove_7 : decode cJ2_fastRemove 7 = .ok (.putfield 63, 3) := dk_181 0 63 (dk_at dksJ2_fastRemove_0 7 rfl rfl)
theorem dJ2_fastRemove_10 : decode cJ2_fastRemove 10 = .ok (.aload_n 0, 1) := dk_42 (dk_at dksJ2_fastRemove_0 10 rfl rfl)
theorem dJ2_fastRemove_11 : decode cJ2_fastRemove 11 = .ok (.getfield 48, 3) := dk_180 0 48 (dk_at dksJ2_fastRemove_0 11 rfl rfl)
theorem dJ2_fastRemove_14 : decode cJ2_fastRemove 14 = .ok (.iconst 1, 1) := dk_4 (dk_at dksJ2_fastRemove_0 14 rfl rfl)
theorem dJ2_fastRemove_15 : decode cJ2_fastRemove 15 = .ok (.isub, 1) := dk_100 (dk_at dksJ2_fastRemove_0 15 rfl rfl)
theorem dJ2_fastRemove_16 : decode cJ2_fastRemove 16 = .ok (.dup, 1) := dk_89 (dk_at dksJ2_fastRemove_0 16 rfl rfl)
theorem dJ2_fastRemove_17 : decode cJ2_fastRemove 17 = .ok (.istore_n 3, 1) := dk_62 (dk_at dksJ2_fastRemove_0 17 rfl rfl)
theorem dJ2_fastRemove_18 : decode cJ2_fastRemove 18 = .ok (.iload_n 2, 1) := dk_28 (dk_at dksJ2_fastRemove_0 18 rfl rfl)
theorem dJ2_fastRemove_19 : decode cJ2_fastRemove 19 = .ok (.if_icmp .le 15, 3) := dk_164 0 15 (dk_at dksJ2_fastRemove_0 19 rfl rfl)
theorem dJ2_fastRemove_22 : decode cJ2_fastRemove 22 = .ok (.aload_n 1, 1) := dk_43 (dk_at dksJ2_fastRemove_0 22 rfl rfl)
theorem dJ2_fastRemove_23 : decode cJ2_fastRemove 23 = .ok (.iload_n 2, 1) := dk_28 (dk_at dksJ2_fastRemove_0 23 rfl rfl)
theorem dJ2_fastRemove_24 : decode cJ2_fastRemove 24 = .ok (.iconst 1, 1) := dk_4 (dk_at dksJ2_fastRemove_1 0 rfl rfl)
theorem dJ2_fastRemove_25 : decode cJ2_fastRemove 25 = .ok (.iadd, 1) := dk_96 (dk_at dksJ2_fastRemove_1 1 rfl rfl)
theorem dJ2_fastRemove_26 : decode cJ2_fastRemove 26 = .ok (.aload_n 1, 1) := dk_43 (dk_at dksJ2_fastRemove_1 2 rfl rfl)
theorem dJ2_fastRemove_27 : decode cJ2_fastRemove 27 = .ok (.iload_n 2, 1) := dk_28 (dk_at dksJ2_fastRemove_1 3 rfl rfl)
theorem dJ2_fastRemove_28 : decode cJ2_fastRemove 28 = .ok (.iload_n 3, 1) := dk_29 (dk_at dksJ2_fastRemove_1 4 rfl rfl)
theorem dJ2_fastRemove_29 : decode cJ2_fastRemove 29 = .ok (.iload_n 2, 1) := dk_28 (dk_at dksJ2_fastRemove_1 5 rfl rfl)
theorem dJ2_fastRemove_30 : decode cJ2_fastRemove 30 = .ok (.isub, 1) := dk_100 (dk_at dksJ2_fastRemove_1 6 rfl rfl)
theorem dJ2_fastRemove_31 : decode cJ2_fastRemove 31 = .ok (.invokestatic 112, 3) := dk_184 0 112 (dk_at dksJ2_fastRemove_1 7 rfl rfl)
theorem dJ2_fastRemove_34 : decode cJ2_fastRemove 34 = .ok (.aload_n 1, 1) := dk_43 (dk_at dksJ2_fastRemove_1 10 rfl rfl)
theorem dJ2_fastRemove_35 : decode cJ2_fastRemove 35 = .ok (.aload_n 0, 1) := dk_42 (dk_at dksJ2_fastRemove_1 11 rfl rfl)
theorem dJ2_fastRemove_36 : decode cJ2_fastRemove 36 = .ok (.iload_n 3, 1) := dk_29 (dk_at dksJ2_fastRemove_1 12 rfl rfl)
theorem dJ2_fastRemove_37 : decode cJ2_fastRemove 37 = .ok (.dup_x1, 1) := dk_90 (dk_at dksJ2_fastRemove_1 13 rfl rfl)
theorem dJ2_fastRemove_38 : decode cJ2_fastRemove 38 = .ok (.putfield 48, 3) := dk_181 0 48 (dk_at dksJ2_fastRemove_1 14 rfl rfl)
theorem dJ2_fastRemove_41 : decode cJ2_fastRemove 41 = .ok (.aconst_null, 1) := dk_1 (dk_at dksJ2_fastRemove_1 17 rfl rfl)
theorem dJ2_fastRemove_42 : decode cJ2_fastRemove 42 = .ok (.aastore, 1) := dk_83 (dk_at dksJ2_fastRemove_1 18 rfl rfl)
theorem dJ2_fastRemove_43 : decode cJ2_fastRemove 43 = .ok (.return_, 1) := dk_177 (dk_at dksJ2_fastRemove_1 19 rfl rfl)
def dkwJ2_set_0 : List UInt8 := [27, 42, 180, 0, 48, 184, 0, 118, 87, 42, 27, 182, 0, 123, 78, 42, 180, 0, 9, 27, 44, 83, 45, 176]
abbrev dktJ2_set_0 : List UInt8 := dkwJ2_set_0 ++ []
theorem dksJ2_set_0 : cJ2_set.data.toList.drop 0 = dktJ2_set_0 := by decide +kernel
theorem dJ2_set_0 : decode cJ2_set 0 = .ok (.iload_n 1, 1) := dk_27 (dk_at dksJ2_set_0 0 rfl rfl)
theorem dJ2_set_1 : decode cJ2_set 1 = .ok (.aload_n 0, 1) := dk_42 (dk_at dksJ2_set_0 1 rfl rfl)
theorem dJ2_set_2 : decode cJ2_set 2 = .ok (.getfield 48, 3) := dk_180 0 48 (dk_at dksJ2_set_0 2 rfl rfl)
theorem dJ2_set_5 : decode cJ2_set 5 = .ok (.invokestatic 118, 3) := dk_184 0 118 (dk_at dksJ2_set_0 5 rfl rfl)
theorem dJ2_set_8 : decode cJ2_set 8 = .ok (.pop, 1) := dk_87 (dk_at dksJ2_set_0 8 rfl rfl)
theorem dJ2_set_9 : decode cJ2_set 9 = .ok (.aload_n 0, 1) := dk_42 (dk_at dksJ2_set_0 9 rfl rfl)
theorem dJ2_set_10 : decode cJ2_set 10 = .ok (.iload_n 1, 1) := dk_27 (dk_at dksJ2_set_0 10 rfl rfl)
theorem dJ2_set_11 : decode cJ2_set 11 = .ok (.invokevirtual 123, 3) := dk_182 0 123 (dk_at dksJ2_set_0 11 rfl rfl)
theorem dJ2_set_14 : decode cJ2_set 14 = .ok (.astore_n 3, 1) := dk_78 (dk_at dksJ2_set_0 14 rfl rfl)
theorem dJ2_set_15 : decode cJ2_set 15 = .ok (.aload_n 0, 1) := dk_42 (dk_at dksJ2_set_0 15 rfl rfl)
theorem dJ2_set_16 : decode cJ2_set 16 = .ok (.getfield 9, 3) := dk_180 0 9 (dk_at dksJ2_set_0 16 rfl rfl)
theorem dJ2_set_19 : decode cJ2_set 19 = .ok (.iload_n 1, 1) := dk_27 (dk_at dksJ2_set_0 19 rfl rfl)
theorem dJ2_set_20 : decode cJ2_set 20 = .ok (.aload_n 2, 1) := dk_44 (dk_at dksJ2_set_0 20 rfl rfl)
theorem dJ2_set_21 : decode cJ2_set 21 = .ok (.aastore, 1) := dk_83 (dk_at dksJ2_set_0 21 rfl rfl)
theorem dJ2_set_22 : decode cJ2_set 22 = .ok (.aload_n 3, 1) := dk_45 (dk_at dksJ2_set_0 22 rfl rfl)
theorem dJ2_set_23 : decode cJ2_set 23 = .ok (.areturn, 1) := dk_176 (dk_at dksJ2_set_0 23 rfl rfl)
def dkwJ2_clear_1 : List UInt8 := [181, 0, 48, 62, 29, 28, 162, 0, 13, 43, 29, 1, 83, 132, 3, 1, 167, 255, 244, 177]
abbrev dktJ2_clear_1 : List UInt8 := dkwJ2_clear_1 ++ []
def dkwJ2_clear_0 : List UInt8 := [42, 89, 180, 0, 63, 4, 96, 181, 0, 63, 42, 180, 0, 9, 76, 42, 180, 0, 48, 61, 42, 3, 90]
abbrev dktJ2_clear_0 : List UInt8 := dkwJ2_clear_0 ++ dktJ2_clear_1
theorem dksJ2_clear_0 : cJ2_clear.data.toList.drop 0 = dktJ2_clear_0 := by decide +kernel
theorem dksJ2_clear_1 : cJ2_clear.data.toList.drop 23 = dktJ2_clear_1 := dk_seg dksJ2_clear_0 23 rfl rfl
theorem dJ2_clear_0 : decode cJ2_clear 0 = .ok (.aload_n 0, 1) := dk_42 (dk_at dksJ2_clear_0 0 rfl rfl)
theorem dJ2_clear_1 : decode cJ2_clear 1 = .ok (.dup, 1) := dk_89 (dk_at dksJ2_clear_0 1 rfl rfl)
theorem dJ2_clear_2 : decode cJ2_clear 2 = .ok (.getfield 63, 3) := dk_180 0 63 (dk_at dksJ2_clear_0 2 rfl rfl)
theorem dJ2_clear_5 : decode cJ2_clear 5 = .ok (.iconst 1, 1) := dk_4 (dk_at dksJ2_clear_0 5 rfl rfl)
theorem dJ2_clear_6 : decode cJ2_clear 6 = .ok (.iadd, 1) := dk_96 (dk_at dksJ2_clear_0 6 rfl rfl)
theorem dJ2_clear_7 : decode cJ2_clear 7 = .ok (.putfield 63, 3) := dk_181 0 63 (dk_at dksJ2_clear_0 7 rfl rfl)
theorem dJ2_clear_10 : decode cJ2_clear 10 = .ok (.aload_n 0, 1) := dk_42 (dk_at dksJ2_clear_0 10 rfl rfl)
theorem dJ2_clear_11 : decode cJ2_clear 11 = .ok (.getfield 9, 3) := dk_180 0 9 (dk_at dksJ2_clear_0 11 rfl rfl)
theorem dJ2_clear_14 : decode cJ2_clear 14 = .ok (.astore_n 1, 1) := dk_76 (dk_at dksJ2_clear_0 14 rfl rfl)
theorem dJ2_clear_15 : decode cJ2_clear 15 = .ok (.aload_n 0, 1) := dk_42 (dk_at dksJ2_clear_0 15 rfl rfl)
theorem dJ2_clear_16 : decode cJ2_clear 16 = .ok (.getfield 48, 3) := dk_180 0 48 (dk_at dksJ2_clear_0 16 rfl rfl)
theorem dJ2_clear_19 : decode cJ2_clear 19 = .ok (.istore_n 2, 1) := dk_61 (dk_at dksJ2_clear_0 19 rfl rfl)
theorem dJ2_clear_20 : decode cJ2_clear 20 = .ok (.aload_n 0, 1) := dk_42 (dk_at dksJ2_clear_0 20 rfl rfl)
theorem dJ2_clear_21 : decode cJ2_clear 21 = .ok (.iconst 0, 1) := dk_3 (dk_at dksJ2_clear_0 21 rfl rfl)
theorem dJ2_clear_22 : decode cJ2_clear 22 = .ok (.dup_x1, 1) := dk_90 (dk_at dksJ2_clear_0 22 rfl rfl)
theorem dJ2_clear_23 : decode cJ2_clear 23 = .ok (.putfield 48, 3) := dk_181 0 48 (dk_at dksJ2_clear_1 0 rfl rfl)
theorem dJ2_clear_26 : decode cJ2_clear 26 = .ok (.istore_n 3, 1) := dk_62 (dk_at dksJ2_clear_1 3 rfl rfl)
theorem dJ2_clear_27 : decode cJ2_clear 27 = .ok (.iload_n 3, 1) := dk_29 (dk_at dksJ2_clear_1 4 rfl rfl)
theorem dJ2_clear_28 : decode cJ2_clear 28 = .ok (.iload_n 2, 1) := dk_28 (dk_at dksJ2_clear_1 5 rfl rfl)
theorem dJ2_clear_29 : decode cJ2_clear 29 = .ok (.if_icmp .ge 13, 3) := dk_162 0 13 (dk_at dksJ2_clear_1 6 rfl rfl)
theorem dJ2_clear_32 : decode cJ2_clear 32 = .ok (.aload_n 1, 1) := dk_43 (dk_at dksJ2_clear_1 9 rfl rfl)
theorem dJ2_clear_33 : decode cJ2_clear 33 = .ok (.iload_n 3, 1) := dk_29 (dk_at dksJ2_clear_1 10 rfl rfl)
theorem dJ2_clear_34 : decode cJ2_clear 34 = .ok (.aconst_null, 1) := dk_1 (dk_at dksJ2_clear_1 11 rfl rfl)
theorem dJ2_clear_35 : decode cJ2_clear 35 = .ok (.aastore, 1) := dk_83 (dk_at dksJ2_clear_1 12 rfl rfl)
theorem dJ2_clear_36 : decode cJ2_clear 36 = .ok (.iinc 3 1, 3) := dk_132 3 1 (dk_at dksJ2_clear_1 13 rfl rfl)
theorem dJ2_clear_39 : decode cJ2_clear 39 = .ok (.goto (-12), 3) := dk_167 255 244 (dk_at dksJ2_clear_1 16 rfl rfl)
theorem dJ2_clear_42 : decode cJ2_clear 42 = .ok (.return_, 1) := dk_177 (dk_at dksJ2_clear_1 19 rfl rfl)
def dkwJ2_add_3_2 : List UInt8 := [29, 27, 100, 184, 0, 112, 25, 4, 27, 44, 83, 42, 29, 4, 96, 181, 0, 48, 177]
abbrev dktJ2_add_3_2 : List UInt8 := dkwJ2_add_3_2 ++ []
def dkwJ2_add_3_1 : List UInt8 := [180, 0, 9, 89, 58, 4, 190, 160, 0, 9, 42, 182, 0, 129, 58, 4, 25, 4, 27, 25, 4, 27, 4, 96]
abbrev dktJ2_add_3_1 : List UInt8 := dkwJ2_add_3_1 ++ dktJ2_add_3_2
def dkwJ2_add_3_0 : List UInt8 := [42, 27, 182, 0, 135, 42, 89, 180, 0, 63, 4, 96, 181, 0, 63, 42, 180, 0, 48, 89, 62, 42]
abbrev dktJ2_add_3_0 : List UInt8 := dkwJ2_add_3_0 ++ dktJ2_add_3_1
theorem dksJ2_add_3_0 : cJ2_add_3.data.toList.drop 0 = dktJ2_add_3_0 := by decide +kernel
theorem dksJ2_add_3_1 : cJ2_add_3.data.toList.drop 22 = dktJ2_add_3_1 := dk_seg dksJ2_add_3_0 22 rfl rfl
theorem dksJ2_add_3_2 : cJ2_add_3.data.toList.drop 46 = dktJ2_add_3_2 := dk_seg dksJ2_add_3_1 24 rfl rfl
theorem dJ2_add_3_0 : decode cJ2_add_3 0 = .ok (.aload_n 0, 1) := dk_42 (dk_at dksJ2_add_3_0 0 rfl rfl)
theorem dJ2_add_3_1 : decode cJ2_add_3 1 = .ok (.iload_n 1, 1) := dk_27 (dk_at dksJ2_add_3_0 1 rfl rfl)
theorem dJ2_add_3_2 : decode cJ2_add_3 2 = .ok (.invokevirtual 135, 3) := dk_182 0 135 (dk_at dksJ2_add_3_0 2 rfl rfl)
theorem dJ2_add_3_5 : decode cJ2_add_3 5 = .ok (.aload_n 0, 1) := dk_42 (dk_at dksJ2_add_3_0 5 rfl rfl)
theorem dJ2_add_3_6 : decode cJ2_add_3 6 = .ok (.dup, 1) := dk_89 (dk_at dksJ2_add_3_0 6 rfl rfl)
theorem dJ2_add_3_7 : decode cJ2_add_3 7 = .ok (.getfield 63, 3) := dk_180 0 63 (dk_at dksJ2_add_3_0 7 rfl rfl)
theorem dJ2_add_3_10 : decode cJ2_add_3 10 = .ok (.iconst 1, 1) := dk_4 (dk_at dksJ2_add_3_0 10 rfl rfl)
theorem dJ2_add_3_11 : decode cJ2_add_3 11 = .ok (.iadd, 1) := dk_96 (dk_at dksJ2_add_3_0 11 rfl rfl)
theorem dJ2_add_3_12 : decode cJ2_add_3 12 = .ok (.putfield 63, 3) := dk_181 0 63 (dk_at dksJ2_add_3_0 12 rfl rfl)
theorem dJ2_add_3_15 : decode cJ2_add_3 15 = .ok (.aload_n 0, 1) := dk_42 (dk_at dksJ2_add_3_0 15 rfl rfl)
theorem dJ2_add_3_16 : decode cJ2_add_3 16 = .ok (.getfield 48, 3) := dk_180 0 48 (dk_at dksJ2_add_3_0 16 rfl rfl)
theorem dJ2_add_3_19 : decode cJ2_add_3 19 = .ok (.dup, 1) := dk_89 (dk_at dksJ2_add_3_0 19 rfl rfl)
theorem dJ2_add_3_20 : decode cJ2_add_3 20 = .ok (.istore_n 3, 1) := dk_62 (dk_at dksJ2_add_3_0 20 rfl rfl)
theorem dJ2_add_3_21 : decode cJ2_add_3 21 = .ok (.aload_n 0, 1) := dk_42 (dk_at dksJ2_add_3_0 21 rfl rfl)
theorem dJ2_add_3_22 : decode cJ2_add_3 22 = .ok (.getfield 9, 3) := dk_180 0 9 (dk_at dksJ2_add_3_1 0 rfl rfl)
theorem dJ2_add_3_25 : decode cJ2_add_3 25 = .ok (.dup, 1) := dk_89 (dk_at dksJ2_add_3_1 3 rfl rfl)
theorem dJ2_add_3_26 : decode cJ2_add_3 26 = .ok (.astore 4, 2) := dk_58 4 (dk_at dksJ2_add_3_1 4 rfl rfl)
theorem dJ2_add_3_28 : decode cJ2_add_3 28 = .ok (.arraylength, 1) := dk_190 (dk_at dksJ2_add_3_1 6 rfl rfl)
theorem dJ2_add_3_29 : decode cJ2_add_3 29 = .ok (.if_icmp .ne 9, 3) := dk_160 0 9 (dk_at dksJ2_add_3_1 7 rfl rfl)
theorem dJ2_add_3_32 : decode cJ2_add_3 32 = .ok (.aload_n 0, 1) := dk_42 (dk_at dksJ2_add_3_1 10 rfl rfl)
theorem dJ2_add_3_33 : decode cJ2_add_3 33 = .ok (.invokevirtual 129, 3) := dk_182 0 129 (dk_at dksJ2_add_3_1 11 rfl rfl)
theorem dJ2_add_3_36 : decode cJ2_add_3 36 = .ok (.astore 4, 2) := dk_58 4 (dk_at dksJ2_add_3_1 14 rfl rfl)
theorem dJ2_add_3_38 : decode cJ2_add_3 38 = .ok (.aload 4, 2) := dk_25 4 (dk_at dksJ2_add_3_1 16 rfl rfl)
theorem dJ2_add_3_40 : decode cJ2_add_3 40 = .ok (.iload_n 1, 1) := dk_27 (dk_at dksJ2_add_3_1 18 rfl rfl)
theorem dJ2_add_3_41 : decode cJ2_add_3 41 = .ok (.aload 4, 2) := dk_25 4 (dk_at dksJ2_add_3_1 19 rfl rfl)
theorem dJ2_add_3_43 : decode cJ2_add_3 43 = .ok (.iload_n 1, 1) := dk_27 (dk_at dksJ2_add_3_1 21 rfl rfl)
theorem dJ2_add_3_44 : decode cJ2_add_3 44 = .ok (.iconst 1, 1) := dk_4 (dk_at dksJ2_add_3_1 22 rfl rfl)
theorem dJ2_add_3_45 : decode cJ2_add_3 45 = .ok (.iadd, 1) := dk_96 (dk_at dksJ2_add_3_1 23 rfl rfl)
theorem dJ2_add_3_46 : decode cJ2_add_3 46 = .ok (.iload_n 3, 1) := dk_29 (dk_at dksJ2_add_3_2 0 rfl rfl)
theorem dJ2_add_3_47 : decode cJ2_add_3 47 = .ok (.iload_n 1, 1) := dk_27 (dk_at dksJ2_add_3_2 1 rfl rfl)
theorem dJ2_add_3_48 : decode cJ2_add_3 48 = .ok (.isub, 1) := dk_100 (dk_at dksJ2_add_3_2 2 rfl rfl)
theorem dJ2_add_3_49 : decode cJ2_add_3 49 = .ok (.invokestatic 112, 3) := dk_184 0 112 (dk_at dksJ2_add_3_2 3 rfl rfl)
theorem dJ2_add_3_52 : decode cJ2_add_3 52 = .ok (.aload 4, 2) := dk_25 4 (dk_at dksJ2_add_3_2 6 rfl rfl)
theorem dJ2_add_3_54 : decode cJ2_add_3 54 = .ok (.iload_n 1, 1) := dk_27 (dk_at dksJ2_add_3_2 8 rfl rfl)
theorem dJ2_add_3_55 : decode cJ2_add_3 55 = .ok (.aload_n 2, 1) := dk_44 (dk_at dksJ2_add_3_2 9 rfl rfl)
theorem dJ2_add_3_56 : decode cJ2_add_3 56 = .ok (.aastore, 1) := dk_83 (dk_at dksJ2_add_3_2 10 rfl rfl)
theorem dJ2_add_3_57 : decode cJ2_add_3 57 = .ok (.aload_n 0, 1) := dk_42 (dk_at dksJ2_add_3_2 11 rfl rfl)
theorem dJ2_add_3_58 : decode cJ2_add_3 58 = .ok (.iload_n 3, 1) := dk_29 (dk_at dksJ2_add_3_2 12 rfl rfl)
theorem dJ2_add_3_59 : decode cJ2_add_3 59 = .ok (.iconst 1, 1) := dk_4 (dk_at dksJ2_add_3_2 13 rfl rfl)
theorem dJ2_add_3_60 : decode cJ2_add_3 60 = .ok (.iadd, 1) := dk_96 (dk_at dksJ2_add_3_2 14 rfl rfl)
theorem dJ2_add_3_61 : decode cJ2_add_3 61 = .ok (.putfield 48, 3) := dk_181 0 48 (dk_at dksJ2_add_3_2 15 rfl rfl)
theorem dJ2_add_3_64 : decode cJ2_add_3 64 = .ok (.return_, 1) := dk_177 (dk_at dksJ2_add_3_2 18 rfl rfl)
def dkwJ2_rangeCheckForAdd_1 : List UInt8 := [191, 177]
abbrev dktJ2_rangeCheckForAdd_1 : List UInt8 := dkwJ2_rangeCheckForAdd_1 ++ []
def dkwJ2_rangeCheckForAdd_0 : List UInt8 := [27, 42, 180, 0, 48, 163, 0, 7, 27, 156, 0, 16, 187, 0, 187, 89, 42, 27, 182, 0, 198, 183, 0, 193]
abbrev dktJ2_rangeCheckForAdd_0 : List UInt8 := dkwJ2_rangeCheckForAdd_0 ++ dktJ2_rangeCheckForAdd_1
theorem dksJ2_rangeCheckForAdd_0 : cJ2_rangeCheckForAdd.data.toList.drop 0 = dktJ2_rangeCheckForAdd_0 := by decide +kernel
theorem dksJ2_rangeCheckForAdd_1 : cJ2_rangeCheckForAdd.data.toList.drop 24 = dktJ2_rangeCheckForAdd_1 := dk_seg dksJ2_rangeCheckForAdd_0 24 rfl rfl
theorem dJ2_rangeCheckForAdd_0 : decode cJ2_rangeCheckForAdd 0 = .ok (.iload_n 1, 1) := dk_27 (dk_at dksJ2_rangeCheckForAdd_0 0 rfl rfl)
theorem dJ2_rangeCheckForAdd_1 : decode cJ2_rangeCheckForAdd 1 = .ok (.aload_n 0, 1) := dk_42 (dk_at dksJ2_rangeCheckForAdd_0 1 rfl rfl)
theorem dJ2_rangeCheckForAdd_2 : decode cJ2_rangeCheckForAdd 2 = .ok (.getfield 48, 3) := dk_180 0 48 (dk_at dksJ2_rangeCheckForAdd_0 2 rfl rfl)
theorem dJ2_rangeCheckForAdd_5 : decode cJ2_rangeCheckForAdd 5 = .ok (.if_icmp .gt 7, 3) := dk_163 0 7 (dk_at dksJ2_rangeCheckForAdd_0 5 rfl rfl)
theorem dJ2_rangeCheckForAdd_8 : decode cJ2_rangeCheckForAdd 8 = .ok (.iload_n 1, 1) := dk_27 (dk_at dksJ2_rangeCheckForAdd_0 8 rfl rfl)
theorem dJ2_rangeCheckForAdd_9 : decode cJ2_rangeCheckForAdd 9 = .ok (.ifCond .ge 16, 3) := dk_156 0 16 (dk_at dksJ2_rangeCheckForAdd_0 9 rfl rfl)
theorem dJ2_rangeCheckForAdd_12 : decode cJ2_rangeCheckForAdd 12 = .ok (.new 187, 3) := dk_187 0 187 (dk_at dksJ2_rangeCheckForAdd_0 12 rfl rfl)
theorem dJ2_rangeCheckForAdd_15 : decode cJ2_rangeCheckForAdd 15 = .ok (.dup, 1) := dk_89 (dk_at dksJ2_rangeCheckForAdd_0 15 rfl rfl)
theorem dJ2_rangeCheckForAdd_16 : decode cJ2_rangeCheckForAdd 16 = .ok (.aload_n 0, 1) := dk_42 (dk_at dksJ2_rangeCheckForAdd_0 16 rfl rfl)
theorem dJ2_rangeCheckForAdd_17 : decode cJ2_rangeCheckForAdd 17 = .ok (.iload_n 1, 1) := dk_27 (dk_at dksJ2_rangeCheckForAdd_0 17 rfl rfl)
theorem dJ2_rangeCheckForAdd_18 : decode cJ2_rangeCheckForAdd 18 = .ok (.invokevirtual 198, 3) := dk_182 0 198 (dk_at dksJ2_rangeCheckForAdd_0 18 rfl rfl)
theorem dJ2_rangeCheckForAdd_21 : decode cJ2_rangeCheckForAdd 21 = .ok (.invokespecial 193, 3) := dk_183 0 193 (dk_at dksJ2_rangeCheckForAdd_0 21 rfl rfl)
theorem dJ2_rangeCheckForAdd_24 : decode cJ2_rangeCheckForAdd 24 = .ok (.athrow, 1) := dk_191 (dk_at dksJ2_rangeCheckForAdd_1 0 rfl rfl)
theorem dJ2_rangeCheckForAdd_25 : decode cJ2_rangeCheckForAdd 25 = .ok (.return_, 1) := dk_177 (dk_at dksJ2_rangeCheckForAdd_1 1 rfl rfl)
def dkwJ20_hashCode_2 : List UInt8 := [3, 167, 0, 22, 42, 3, 51, 17, 0, 255, 126, 167, 0, 12, 42, 3, 42, 190, 3, 7, 184, 0, 84, 172]
abbrev dktJ20_hashCode_2 : List UInt8 := dkwJ20_hashCode_2 ++ []
def dkwJ20_hashCode_1 : List UInt8 := [171, 0, 0, 0, 0, 40, 0, 0, 0, 2, 0, 0, 0, 0, 0, 0, 0, 26, 0, 0, 0, 1, 0, 0, 0, 30]
abbrev dktJ20_hashCode_1 : List UInt8 := dkwJ20_hashCode_1 ++ dktJ20_hashCode_2
def dkwJ20_hashCode_0 : List UInt8 := [42, 190]
abbrev dktJ20_hashCode_0 : List UInt8 := dkwJ20_hashCode_0 ++ dktJ20_hashCode_1
theorem dksJ20_hashCode_0 : cJ20_hashCode.data.toList.drop 0 = dktJ20_hashCode_0 := by decide +kernel
theorem dksJ20_hashCode_1 : cJ20_hashCode.data.toList.drop 2 = dktJ20_hashCode_1 := dk_seg dksJ20_hashCode_0 2 rfl rfl
theorem dksJ20_hashCode_2 : cJ20_hashCode.data.toList.drop 28 = dktJ20_hashCode_2 := dk_seg dksJ20_hashCode_1 26 rfl rfl
theorem dJ20_hashCode_0 : decode cJ20_hashCode 0 = .ok (.aload_n 0, 1) := dk_42 (dk_at dksJ20_hashCode_0 0 rfl rfl)
theorem dJ20_hashCode_1 : decode cJ20_hashCode 1 = .ok (.arraylength, 1) := dk_190 (dk_at dksJ20_hashCode_0 1 rfl rfl)
theorem dJ20_hashCode_2 : decode cJ20_hashCode 2 = .ok (.lookupswitch 40 #[(0, 26), (1, 30)], 26) := by decide +kernel
theorem dJ20_hashCode_28 : decode cJ20_hashCode 28 = .ok (.iconst 0, 1) := dk_3 (dk_at dksJ20_hashCode_2 0 rfl rfl)
theorem dJ20_hashCode_29 : decode cJ20_hashCode 29 = .ok (.goto 22, 3) := dk_167 0 22 (dk_at dksJ20_hashCode_2 1 rfl rfl)
theorem dJ20_hashCode_32 : decode cJ20_hashCode 32 = .ok (.aload_n 0, 1) := dk_42 (dk_at dksJ20_hashCode_2 4 rfl rfl)
theorem dJ20_hashCode_33 : decode cJ20_hashCode 33 = .ok (.iconst 0, 1) := dk_3 (dk_at dksJ20_hashCode_2 5 rfl rfl)
theorem dJ20_hashCode_34 : decode cJ20_hashCode 34 = .ok (.baload, 1) := dk_51 (dk_at dksJ20_hashCode_2 6 rfl rfl)
theorem dJ20_hashCode_35 : decode cJ20_hashCode 35 = .ok (.sipush 255, 3) := dk_17 0 255 (dk_at dksJ20_hashCode_2 7 rfl rfl)
theorem dJ20_hashCode_38 : decode cJ20_hashCode 38 = .ok (.iand, 1) := dk_126 (dk_at dksJ20_hashCode_2 10 rfl rfl)
theorem dJ20_hashCode_39 : decode cJ20_hashCode 39 = .ok (.goto 12, 3) := dk_167 0 12 (dk_at dksJ20_hashCode_2 11 rfl rfl)
theorem dJ20_hashCode_42 : decode cJ20_hashCode 42 = .ok (.aload_n 0, 1) := dk_42 (dk_at dksJ20_hashCode_2 14 rfl rfl)
theorem dJ20_hashCode_43 : decode cJ20_hashCode 43 = .ok (.iconst 0, 1) := dk_3 (dk_at dksJ20_hashCode_2 15 rfl rfl)
theorem dJ20_hashCode_44 : decode cJ20_hashCode 44 = .ok (.aload_n 0, 1) := dk_42 (dk_at dksJ20_hashCode_2 16 rfl rfl)
theorem dJ20_hashCode_45 : decode cJ20_hashCode 45 = .ok (.arraylength, 1) := dk_190 (dk_at dksJ20_hashCode_2 17 rfl rfl)
theorem dJ20_hashCode_46 : decode cJ20_hashCode 46 = .ok (.iconst 0, 1) := dk_3 (dk_at dksJ20_hashCode_2 18 rfl rfl)
theorem dJ20_hashCode_47 : decode cJ20_hashCode 47 = .ok (.iconst 4, 1) := dk_7 (dk_at dksJ20_hashCode_2 19 rfl rfl)
theorem dJ20_hashCode_48 : decode cJ20_hashCode 48 = .ok (.invokestatic 84, 3) := dk_184 0 84 (dk_at dksJ20_hashCode_2 20 rfl rfl)
theorem dJ20_hashCode_51 : decode cJ20_hashCode 51 = .ok (.ireturn, 1) := dk_172 (dk_at dksJ20_hashCode_2 23 rfl rfl)
def dkwJ20_equals_1 : List UInt8 := [3, 172, 132, 2, 1, 167, 255, 236, 4, 172, 3, 172]
abbrev dktJ20_equals_1 : List UInt8 := dkwJ20_equals_1 ++ []
def dkwJ20_equals_0 : List UInt8 := [42, 190, 43, 190, 160, 0, 30, 3, 61, 28, 42, 190, 162, 0, 20, 42, 28, 51, 43, 28, 51, 159, 0, 5]
abbrev dktJ20_equals_0 : List UInt8 := dkwJ20_equals_0 ++ dktJ20_equals_1
theorem dksJ20_equals_0 : cJ20_equals.data.toList.drop 0 = dktJ20_equals_0 := by decide +kernel
theorem dksJ20_equals_1 : cJ20_equals.data.toList.drop 24 = dktJ20_equals_1 := dk_seg dksJ20_equals_0 24 rfl rfl
theorem dJ20_equals_0 : decode cJ20_equals 0 = .ok (.aload_n 0, 1) := dk_42 (dk_at dksJ20_equals_0 0 rfl rfl)
theorem dJ20_equals_1 : decode cJ20_equals 1 = .ok (.arraylength, 1) := dk_190 (dk_at dksJ20_equals_0 1 rfl rfl)
theorem dJ20_equals_2 : decode cJ20_equals 2 = .ok (.aload_n 1, 1) := dk_43 (dk_at dksJ20_equals_0 2 rfl rfl)
theorem dJ20_equals_3 : decode cJ20_equals 3 = .ok (.arraylength, 1) := dk_190 (dk_at dksJ20_equals_0 3 rfl rfl)
theorem dJ20_equals_4 : decode cJ20_equals 4 = .ok (.if_icmp .ne 30, 3) := dk_160 0 30 (dk_at dksJ20_equals_0 4 rfl rfl)
theorem dJ20_equals_7 : decode cJ20_equals 7 = .ok (.iconst 0, 1) := dk_3 (dk_at dksJ20_equals_0 7 rfl rfl)
theorem dJ20_equals_8 : decode cJ20_equals 8 = .ok (.istore_n 2, 1) := dk_61 (dk_at dksJ20_equals_0 8 rfl rfl)
theorem dJ20_equals_9 : decode cJ20_equals 9 = .ok (.iload_n 2, 1) := dk_28 (dk_at dksJ20_equals_0 9 rfl rfl)
theorem dJ20_equals_10 : decode cJ20_equals 10 = .ok (.aload_n 0, 1) := dk_42 (dk_at dksJ20_equals_0 10 rfl rfl)
theorem dJ20_equals_11 : decode cJ20_equals 11 = .ok (.arraylength, 1) := dk_190 (dk_at dksJ20_equals_0 11 rfl rfl)
theorem dJ20_equals_12 : decode cJ20_equals 12 = .ok (.if_icmp .ge 20, 3) := dk_162 0 20 (dk_at dksJ20_equals_0 12 rfl rfl)
theorem dJ20_equals_15 : decode cJ20_equals 15 = .ok (.aload_n 0, 1) := dk_42 (dk_at dksJ20_equals_0 15 rfl rfl)
theorem dJ20_equals_16 : decode cJ20_equals 16 = .ok (.iload_n 2, 1) := dk_28 (dk_at dksJ20_equals_0 16 rfl rfl)
theorem dJ20_equals_17 : decode cJ20_equals 17 = .ok (.baload, 1) := dk_51 (dk_at dksJ20_equals_0 17 rfl rfl)
theorem dJ20_equals_18 : decode cJ20_equals 18 = .ok (.aload_n 1, 1) := dk_43 (dk_at dksJ20_equals_0 18 rfl rfl)
theorem dJ20_equals_19 : decode cJ20_equals 19 = .ok (.iload_n 2, 1) := dk_28 (dk_at dksJ20_equals_0 19 rfl rfl)
theorem dJ20_equals_20 : decode cJ20_equals 20 = .ok (.baload, 1) := dk_51 (dk_at dksJ20_equals_0 20 rfl rfl)
theorem dJ20_equals_21 : decode cJ20_equals 21 = .ok (.if_icmp .eq 5, 3) := dk_159 0 5 (dk_at dksJ20_equals_0 21 rfl rfl)
theorem dJ20_equals_24 : decode cJ20_equals 24 = .ok (.iconst 0, 1) := dk_3 (dk_at dksJ20_equals_1 0 rfl rfl)
theorem dJ20_equals_25 : decode cJ20_equals 25 = .ok (.ireturn, 1) := dk_172 (dk_at dksJ20_equals_1 1 rfl rfl)
theorem dJ20_equals_26 : decode cJ20_equals 26 = .ok (.iinc 2 1, 3) := dk_132 2 1 (dk_at dksJ20_equals_1 2 rfl rfl)
theorem dJ20_equals_29 : decode cJ20_equals 29 = .ok (.goto (-20), 3) := dk_167 255 236 (dk_at dksJ20_equals_1 5 rfl rfl)
theorem dJ20_equals_32 : decode cJ20_equals 32 = .ok (.iconst 1, 1) := dk_4 (dk_at dksJ20_equals_1 8 rfl rfl)
theorem dJ20_equals_33 : decode cJ20_equals 33 = .ok (.ireturn, 1) := dk_172 (dk_at dksJ20_equals_1 9 rfl rfl)
theorem dJ20_equals_34 : decode cJ20_equals 34 = .ok (.iconst 0, 1) := dk_3 (dk_at dksJ20_equals_1 10 rfl rfl)
theorem dJ20_equals_35 : decode cJ20_equals 35 = .ok (.ireturn, 1) := dk_172 (dk_at dksJ20_equals_1 11 rfl rfl)
def dkwJ20_charAt_0 : List UInt8 := [27, 42, 190, 184, 0, 9, 42, 27, 51, 17, 0, 255, 126, 146, 172]
abbrev dktJ20_charAt_0 : List UInt8 := dkwJ20_charAt_0 ++ []
theorem dksJ20_charAt_0 : cJ20_charAt.data.toList.drop 0 = dktJ20_charAt_0 := by decide +kernel
theorem dJ20_charAt_0 : decode cJ20_charAt 0 = .ok (.iload_n 1, 1) := dk_27 (dk_at dksJ20_charAt_0 0 rfl rfl)
theorem dJ20_charAt_1 : decode cJ20_charAt 1 = .ok (.aload_n 0, 1) := dk_42 (dk_at dksJ20_charAt_0 1 rfl rfl)
theorem dJ20_charAt_2 : decode cJ20_charAt 2 = .ok (.arraylength, 1) := dk_190 (dk_at dksJ20_charAt_0 2 rfl rfl)
theorem dJ20_charAt_3 : decode cJ20_charAt 3 = .ok (.invokestatic 9, 3) := dk_184 0 9 (dk_at dksJ20_charAt_0 3 rfl rfl)
theorem dJ20_charAt_6 : decode cJ20_charAt 6 = .ok (.aload_n 0, 1) := dk_42 (dk_at dksJ20_charAt_0 6 rfl rfl)
theorem dJ20_charAt_7 : decode cJ20_charAt 7 = .ok (.iload_n 1, 1) := dk_27 (dk_at dksJ20_charAt_0 7 rfl rfl)
theorem dJ20_charAt_8 : decode cJ20_charAt 8 = .ok (.baload, 1) := dk_51 (dk_at dksJ20_charAt_0 8 rfl rfl)
theorem dJ20_charAt_9 : decode cJ20_charAt 9 = .ok (.sipush 255, 3) := dk_17 0 255 (dk_at dksJ20_charAt_0 9 rfl rfl)
theorem dJ20_charAt_12 : decode cJ20_charAt 12 = .ok (.iand, 1) := dk_126 (dk_at dksJ20_charAt_0 12 rfl rfl)
theorem dJ20_charAt_13 : decode cJ20_charAt 13 = .ok (.i2c, 1) := dk_146 (dk_at dksJ20_charAt_0 13 rfl rfl)
theorem dJ20_charAt_14 : decode cJ20_charAt 14 = .ok (.ireturn, 1) := dk_172 (dk_at dksJ20_charAt_0 14 rfl rfl)
def dkwJ20_canEncode_0 : List UInt8 := [26, 17, 0, 255, 163, 0, 7, 4, 167, 0, 4, 3, 172]
abbrev dktJ20_canEncode_0 : List UInt8 := dkwJ20_canEncode_0 ++ []
theorem dksJ20_canEncode_0 : cJ20_canEncode.data.toList.drop 0 = dktJ20_canEncode_0 := by decide +kernel
theorem dJ20_canEncode_0 : decode cJ20_canEncode 0 = .ok (.iload_n 0, 1) := dk_26 (dk_at dksJ20_canEncode_0 0 rfl rfl)
theorem dJ20_canEncode_1 : decode cJ20_canEncode 1 = .ok (.sipush 255, 3) := dk_17 0 255 (dk_at dksJ20_canEncode_0 1 rfl rfl)
theorem dJ20_canEncode_4 : decode cJ20_canEncode 4 = .ok (.if_icmp .gt 7, 3) := dk_163 0 7 (dk_at dksJ20_canEncode_0 4 rfl rfl)
theorem dJ20_canEncode_7 : decode cJ20_canEncode 7 = .ok (.iconst 1, 1) := dk_4 (dk_at dksJ20_canEncode_0 7 rfl rfl)
theorem dJ20_canEncode_8 : decode cJ20_canEncode 8 = .ok (.goto 4, 3) := dk_167 0 4 (dk_at dksJ20_canEncode_0 8 rfl rfl)
theorem dJ20_canEncode_11 : decode cJ20_canEncode 11 = .ok (.iconst 0, 1) := dk_3 (dk_at dksJ20_canEncode_0 11 rfl rfl)
theorem dJ20_canEncode_12 : decode cJ20_canEncode 12 = .ok (.ireturn, 1) := dk_172 (dk_at dksJ20_canEncode_0 12 rfl rfl)
def dkwJ20_newString_0 : List UInt8 := [28, 154, 0, 6, 18, 151, 176, 187, 0, 1, 89, 42, 27, 27, 28, 96, 184, 0, 232, 3, 183, 0, 112, 176]
abbrev dktJ20_newString_0 : List UInt8 := dkwJ20_newString_0 ++ []
theorem dksJ20_newString_0 : cJ20_newString.data.toList.drop 0 = dktJ20_newString_0 := by decide +kernel
theorem dJ20_newString_0 : decode cJ20_newString 0 = .ok (.iload_n 2, 1) := dk_28 (dk_at dksJ20_newString_0 0 rfl rfl)
theorem dJ20_newString_1 : decode cJ20_newString 1 = .ok (.ifCond .ne 6, 3) := dk_154 0 6 (dk_at dksJ20_newString_0 1 rfl rfl)
theorem dJ20_newString_4 : decode cJ20_newString 4 = .ok (.ldc 151, 2) := dk_18 151 (dk_at dksJ20_newString_0 4 rfl rfl)
theorem dJ20_newString_6 : decode cJ20_newString 6 = .ok (.areturn, 1) := dk_176 (dk_at dksJ20_newString_0 6 rfl rfl)
theorem dJ20_newString_7 : decode cJ20_newString 7 = .ok (.new 1, 3) := dk_187 0 1 (dk_at dksJ20_newString_0 7 rfl rfl)
theorem dJ20_newString_10 : decode cJ20_newString 10 = .ok (.dup, 1) := dk_89 (dk_at dksJ20_newString_0 10 rfl rfl)
theorem dJ20_newString_11 : decode cJ20_newString 11 = .ok (.aload_n 0, 1) := dk_42 (dk_at dksJ20_newString_0 11 rfl rfl)
theorem dJ20_newString_12 : decode cJ20_newString 12 = .ok (.iload_n 1, 1) := dk_27 (dk_at dksJ20_newString_0 12 rfl rfl)
theorem dJ20_newString_13 : decode cJ20_newString 13 = .ok (.iload_n 1, 1) := dk_27 (dk_at dksJ20_newString_0 13 rfl rfl)
theorem dJ20_newString_14 : decode cJ20_newString 14 = .ok (.iload_n 2, 1) := dk_28 (dk_at dksJ20_newString_0 14 rfl rfl)
theorem dJ20_newString_15 : decode cJ20_newString 15 = .ok (.iadd, 1) := dk_96 (dk_at dksJ20_newString_0 15 rfl rfl)
theorem dJ20_newString_16 : decode cJ20_newString 16 = .ok (.invokestatic 232, 3) := dk_184 0 232 (dk_at dksJ20_newString_0 16 rfl rfl)
theorem dJ20_newString_19 : decode cJ20_newString 19 = .ok (.iconst 0, 1) := dk_3 (dk_at dksJ20_newString_0 19 rfl rfl)
theorem dJ20_newString_20 : decode cJ20_newString 20 = .ok (.invokespecial 112, 3) := dk_183 0 112 (dk_at dksJ20_newString_0 20 rfl rfl)
theorem dJ20_newString_23 : decode cJ20_newString 23 = .ok (.areturn, 1) := dk_176 (dk_at dksJ20_newString_0 23 rfl rfl)
theorem dJ20_length_0 : decode cJ20_length 0 = .ok (.aload_n 0, 1) := by decide +kernel
theorem dJ20_length_1 : decode cJ20_length 1 = .ok (.arraylength, 1) := by decide +kernel
theorem dJ20_length_2 : decode cJ20_length 2 = .ok (.ireturn, 1) := by decide +kernel
def dkwJ21_newLength_1 : List UInt8 := [184, 0, 201, 172]
abbrev dktJ21_newLength_1 : List UInt8 := dkwJ21_newLength_1 ++ []
def dkwJ21_newLength_0 : List UInt8 := [26, 27, 28, 184, 0, 194, 96, 62, 3, 29, 162, 0, 11, 29, 18, 200, 163, 0, 5, 29, 172, 26, 27]
abbrev dktJ21_newLength_0 : List UInt8 := dkwJ21_newLength_0 ++ dktJ21_newLength_1
theorem dksJ21_newLength_0 : cJ21_newLength.data.toList.drop 0 = dktJ21_newLength_0 := by decide +kernel
theorem dksJ21_newLength_1 : cJ21_newLength.data.toList.drop 23 = dktJ21_newLength_1 := dk_seg dksJ21_newLength_0 23 rfl rfl
theorem dJ21_newLength_0 : decode cJ21_newLength 0 = .ok (.iload_n 0, 1) := dk_26 (dk_at dksJ21_newLength_0 0 rfl rfl)
theorem dJ21_newLength_1 : decode cJ21_newLength 1 = .ok (.iload_n 1, 1) := dk_27 (dk_at dksJ21_newLength_0 1 rfl rfl)
theorem dJ21_newLength_2 : decode cJ21_newLength 2 = .ok (.iload_n 2, 1) := dk_28 (dk_at dksJ21_newLength_0 2 rfl rfl)
theorem dJ21_newLength_3 : decode cJ21_newLength 3 = .ok (.invokestatic 194, 3) := dk_184 0 194 (dk_at dksJ21_newLength_0 3 rfl rfl)
theorem dJ21_newLength_6 : decode cJ21_newLength 6 = .ok (.iadd, 1) := dk_96 (dk_at dksJ21_newLength_0 6 rfl rfl)
theorem dJ21_newLength_7 : decode cJ21_newLength 7 = .ok (.istore_n 3, 1) := dk_62 (dk_at dksJ21_newLength_0 7 rfl rfl)
theorem dJ21_newLength_8 : decode cJ21_newLength 8 = .ok (.iconst 0, 1) := dk_3 (dk_at dksJ21_newLength_0 8 rfl rfl)
theorem dJ21_newLength_9 : decode cJ21_newLength 9 = .ok (.iload_n 3, 1) := dk_29 (dk_at dksJ21_newLength_0 9 rfl rfl)
theorem dJ21_newLength_10 : decode cJ21_newLength 10 = .ok (.if_icmp .ge 11, 3) := dk_162 0 11 (dk_at dksJ21_newLength_0 10 rfl rfl)
theorem dJ21_newLength_13 : decode cJ21_newLength 13 = .ok (.iload_n 3, 1) := dk_29 (dk_at dksJ21_newLength_0 13 rfl rfl)
theorem dJ21_newLength_14 : decode cJ21_newLength 14 = .ok (.ldc 200, 2) := dk_18 200 (dk_at dksJ21_newLength_0 14 rfl rfl)
theorem dJ21_newLength_16 : decode cJ21_newLength 16 = .ok (.if_icmp .gt 5, 3) := dk_163 0 5 (dk_at dksJ21_newLength_0 16 rfl rfl)
theorem dJ21_newLength_19 : decode cJ21_newLength 19 = .ok (.iload_n 3, 1) := dk_29 (dk_at dksJ21_newLength_0 19 rfl rfl)
theorem dJ21_newLength_20 : decode cJ21_newLength 20 = .ok (.ireturn, 1) := dk_172 (dk_at dksJ21_newLength_0 20 rfl rfl)
theorem dJ21_newLength_21 : decode cJ21_newLength 21 = .ok (.iload_n 0, 1) := dk_26 (dk_at dksJ21_newLength_0 21 rfl rfl)
theorem dJ21_newLength_22 : decode cJ21_newLength 22 = .ok (.iload_n 1, 1) := dk_27 (dk_at dksJ21_newLength_0 22 rfl rfl)
theorem dJ21_newLength_23 : decode cJ21_newLength 23 = .ok (.invokestatic 201, 3) := dk_184 0 201 (dk_at dksJ21_newLength_1 0 rfl rfl)
theorem dJ21_newLength_26 : decode cJ21_newLength 26 = .ok (.ireturn, 1) := dk_172 (dk_at dksJ21_newLength_1 3 rfl rfl)
def dkwJ21_hashCode_2_1 : List UInt8 := [59, 132, 5, 1, 167, 255, 236, 26, 172]
abbrev dktJ21_hashCode_2_1 : List UInt8 := dkwJ21_hashCode_2_1 ++ []
def dkwJ21_hashCode_2_0 : List UInt8 := [28, 29, 96, 54, 4, 28, 54, 5, 21, 5, 21, 4, 162, 0, 19, 16, 31, 26, 104, 43, 21, 5, 51, 96]
abbrev dktJ21_hashCode_2_0 : List UInt8 := dkwJ21_hashCode_2_0 ++ dktJ21_hashCode_2_1
theorem dksJ21_hashCode_2_0 : cJ21_hashCode_2.data.toList.drop 0 = dktJ21_hashCode_2_0 := by decide +kernel
theorem dksJ21_hashCode_2_1 : cJ21_hashCode_2.data.toList.drop 24 = dktJ21_hashCode_2_1 := dk_seg dksJ21_hashCode_2_0 24 rfl rfl
theorem dJ21_hashCode_2_0 : decode cJ21_hashCode_2 0 = .ok (.iload_n 2, 1) := dk_28 (dk_at dksJ21_hashCode_2_0 0 rfl rfl)
theorem dJ21_hashCode_2_1 : decode cJ21_hashCode_2 1 = .ok (.iload_n 3, 1) := dk_29 (dk_at dksJ21_hashCode_2_0 1 rfl rfl)
theorem dJ21_hashCode_2_2 : decode cJ21_hashCode_2 2 = .ok (.iadd, 1) := dk_96 (dk_at dksJ21_hashCode_2_0 2 rfl rfl)
theorem dJ21_hashCode_2_3 : decode cJ21_hashCode_2 3 = .ok (.istore 4, 2) := dk_54 4 (dk_at dksJ21_hashCode_2_0 3 rfl rfl)
theorem dJ21_hashCode_2_5 : decode cJ21_hashCode_2 5 = .ok (.iload_n 2, 1) := dk_28 (dk_at dksJ21_hashCode_2_0 5 rfl rfl)
theorem dJ21_hashCode_2_6 : decode cJ21_hashCode_2 6 = .ok (.istore 5, 2) := dk_54 5 (dk_at dksJ21_hashCode_2_0 6 rfl rfl)
theorem dJ21_hashCode_2_8 : decode cJ21_hashCode_2 8 = .ok (.iload 5, 2) := dk_21 5 (dk_at dksJ21_hashCode_2_0 8 rfl rfl)
theorem dJ21_hashCode_2_10 : decode cJ21_hashCode_2 10 = .ok (.iload 4, 2) := dk_21 4 (dk_at dksJ21_hashCode_2_0 10 rfl rfl)
theorem dJ21_hashCode_2_12 : decode cJ21_hashCode_2 12 = .ok (.if_icmp .ge 19, 3) := dk_162 0 19 (dk_at dksJ21_hashCode_2_0 12 rfl rfl)
theorem dJ21_hashCode_2_15 : decode cJ21_hashCode_2 15 = .ok (.bipush 31, 2) := dk_16 31 (dk_at dksJ21_hashCode_2_0 15 rfl rfl)
theorem dJ21_hashCode_2_17 : decode cJ21_hashCode_2 17 = .ok (.iload_n 0, 1) := dk_26 (dk_at dksJ21_hashCode_2_0 17 rfl rfl)
theorem dJ21_hashCode_2_18 : decode cJ21_hashCode_2 18 = .ok (.imul, 1) := dk_104 (dk_at dksJ21_hashCode_2_0 18 rfl rfl)
theorem dJ21_hashCode_2_19 : decode cJ21_hashCode_2 19 = .ok (.aload_n 1, 1) := dk_43 (dk_at dksJ21_hashCode_2_0 19 rfl rfl)
theorem dJ21_hashCode_2_20 : decode cJ21_hashCode_2 20 = .ok (.iload 5, 2) := dk_21 5 (dk_at dksJ21_hashCode_2_0 20 rfl rfl)
theorem dJ21_hashCode_2_22 : decode cJ21_hashCode_2 22 = .ok (.baload, 1) := dk_51 (dk_at dksJ21_hashCode_2_0 22 rfl rfl)
theorem dJ21_hashCode_2_23 : decode cJ21_hashCode_2 23 = .ok (.iadd, 1) := dk_96 (dk_at dksJ21_hashCode_2_0 23 rfl rfl)
theorem dJ21_hashCode_2_24 : decode cJ21_hashCode_2 24 = .ok (.istore_n 0, 1) := dk_59 (dk_at dksJ21_hashCode_2_1 0 rfl rfl)
theorem dJ21_hashCode_2_25 : decode cJ21_hashCode_2 25 = .ok (.iinc 5 1, 3) := dk_132 5 1 (dk_at dksJ21_hashCode_2_1 1 rfl rfl)
theorem dJ21_hashCode_2_28 : decode cJ21_hashCode_2 28 = .ok (.goto (-20), 3) := dk_167 255 236 (dk_at dksJ21_hashCode_2_1 4 rfl rfl)
theorem dJ21_hashCode_2_31 : decode cJ21_hashCode_2 31 = .ok (.iload_n 0, 1) := dk_26 (dk_at dksJ21_hashCode_2_1 7 rfl rfl)
theorem dJ21_hashCode_2_32 : decode cJ21_hashCode_2 32 = .ok (.ireturn, 1) := dk_172 (dk_at dksJ21_hashCode_2_1 8 rfl rfl)
def dkwJ21_vectorizedHashCode_6 : List UInt8 := [183, 0, 91, 18, 92, 182, 0, 94, 21, 4, 182, 0, 98, 182, 0, 101, 183, 0, 105, 191, 172]
abbrev dktJ21_vectorizedHashCode_6 : List UInt8 := dkwJ21_vectorizedHashCode_6 ++ []
def dkwJ21_vectorizedHashCode_5 : List UInt8 := [167, 0, 44, 29, 42, 192, 0, 82, 27, 28, 184, 0, 84, 167, 0, 31, 187, 0, 87, 89, 187, 0, 89, 89]
abbrev dktJ21_vectorizedHashCode_5 : List UInt8 := dkwJ21_vectorizedHashCode_5 ++ dktJ21_vectorizedHashCode_6
def dkwJ21_vectorizedHashCode_4 : List UInt8 := [29, 42, 192, 0, 60, 27, 28, 184, 0, 75, 167, 0, 57, 29, 42, 192, 0, 77, 27, 28, 184, 0, 79]
abbrev dktJ21_vectorizedHashCode_4 : List UInt8 := dkwJ21_vectorizedHashCode_4 ++ dktJ21_vectorizedHashCode_5
def dkwJ21_vectorizedHashCode_3 : List UInt8 := [192, 0, 60, 27, 28, 184, 0, 66, 167, 0, 83, 29, 42, 192, 0, 69, 27, 28, 184, 0, 71, 167, 0, 70]
abbrev dktJ21_vectorizedHashCode_3 : List UInt8 := dkwJ21_vectorizedHashCode_3 ++ dktJ21_vectorizedHashCode_4
def dkwJ21_vectorizedHashCode_2 : List UInt8 := [29, 42, 192, 0, 60, 27, 28, 184, 0, 62, 167, 0, 103, 42, 193, 0, 60, 153, 0, 16, 29, 42]
abbrev dktJ21_vectorizedHashCode_2 : List UInt8 := dkwJ21_vectorizedHashCode_2 ++ dktJ21_vectorizedHashCode_3
def dkwJ21_vectorizedHashCode_1 : List UInt8 := [170, 0, 0, 0, 0, 127, 0, 0, 0, 4, 0, 0, 0, 10, 0, 0, 0, 42, 0, 0, 0, 55, 0, 0, 0, 127, 0, 0, 0, 127, 0, 0, 0, 88, 0, 0, 0, 101, 0, 0, 0, 114]
abbrev dktJ21_vectorizedHashCode_1 : List UInt8 := dkwJ21_vectorizedHashCode_1 ++ dktJ21_vectorizedHashCode_2
def dkwJ21_vectorizedHashCode_0 : List UInt8 := [21, 4]
abbrev dktJ21_vectorizedHashCode_0 : List UInt8 := dkwJ21_vectorizedHashCode_0 ++ dktJ21_vectorizedHashCode_1
theorem dksJ21_vectorizedHashCode_0 : cJ21_vectorizedHashCode.data.toList.drop 0 = dktJ21_vectorizedHashCode_0 := by decide +kernel
theorem dksJ21_vectorizedHashCode_1 : cJ21_vectorizedHashCode.data.toList.drop 2 = dktJ21_vectorizedHashCode_1 := dk_seg dksJ21_vectorizedHashCode_0 2 rfl rfl
theorem dksJ21_vectorizedHashCode_2 : cJ21_vectorizedHashCode.data.toList.drop 44 = dktJ21_vectorizedHashCode_2 := dk_seg dksJ21_vectorizedHashCode_1 42 rfl rfl
theorem dksJ21_vectorizedHashCode_3 : cJ21_vectorizedHashCode.data.toList.drop 66 = dktJ21_vectorizedHashCode_3 := dk_seg dksJ21_vectorizedHashCode_2 22 rfl rfl
theorem dksJ21_vectorizedHashCode_4 : cJ21_vectorizedHashCode.data.toList.drop 90 = dktJ21_vectorizedHashCode_4 := dk_seg dksJ21_vectorizedHashCode_3 24 rfl rfl
theorem dksJ21_vectorizedHashCode_5 : cJ21_vectorizedHashCode.data.toList.drop 113 = dktJ21_vectorizedHashCode_5 := dk_seg dksJ21_vectorizedHashCode_4 23 rfl rfl
theorem dksJ21_vectorizedHashCode_6 : cJ21_vectorizedHashCode.data.toList.drop 137 = dktJ21_vectorizedHashCode_6 := dk_seg dksJ21_vectorizedHashCode_5 24 rfl rfl
theorem dJ21_vectorizedHashCode_0 : decode cJ21_vectorizedHashCode 0 = .ok (.iload 4, 2) := dk_21 4 (dk_at dksJ21_vectorizedHashCode_0 0 rfl rfl)
theorem dJ21_vectorizedHashCode_2 : decode cJ21_vectorizedHashCode 2 = .ok (.tableswitch 127 4 10 #[42, 55, 127, 127, 88, 101, 114], 42) := by decide +kernel
theorem dJ21_vectorizedHashCode_44 : decode cJ21_vectorizedHashCode 44 = .ok (.iload_n 3, 1) := dk_29 (dk_at dksJ21_vectorizedHashCode_2 0 rfl rfl)
theorem dJ21_vectorizedHashCode_45 : decode cJ21_vectorizedHashCode 45 = .ok (.aload_n 0, 1) := dk_42 (dk_at dksJ21_vectorizedHashCode_2 1 rfl rfl)
theorem dJ21_vectorizedHashCode_46 : decode cJ21_vectorizedHashCode 46 = .ok (.checkcast 60, 3) := dk_192 0 60 (dk_at dksJ21_vectorizedHashCode_2 2 rfl rfl)
theorem dJ21_vectorizedHashCode_49 : decode cJ21_vectorizedHashCode 49 = .ok (.iload_n 1, 1) := dk_27 (dk_at dksJ21_vectorizedHashCode_2 5 rfl rfl)
theorem dJ21_vectorizedHashCode_50 : decode cJ21_vectorizedHashCode 50 = .ok (.iload_n 2, 1) := dk_28 (dk_at dksJ21_vectorizedHashCode_2 6 rfl rfl)
theorem dJ21_vectorizedHashCode_51 : decode cJ21_vectorizedHashCode 51 = .ok (.invokestatic 62, 3) := dk_184 0 62 (dk_at dksJ21_vectorizedHashCode_2 7 rfl rfl)
theorem dJ21_vectorizedHashCode_54 : decode cJ21_vectorizedHashCode 54 = .ok (.goto 103, 3) := dk_167 0 103 (dk_at dksJ21_vectorizedHashCode_2 10 rfl rfl)
theorem dJ21_vectorizedHashCode_57 : decode cJ21_vectorizedHashCode 57 = .ok (.aload_n 0, 1) := dk_42 (dk_at dksJ21_vectorizedHashCode_2 13 rfl rfl)
theorem dJ21_vectorizedHashCode_58 : decode cJ21_vectorizedHashCode 58 = .ok (.instanceof 60, 3) := dk_193 0 60 (dk_at dksJ21_vectorizedHashCode_2 14 rfl rfl)
theorem dJ21_vectorizedHashCode_61 : decode cJ21_vectorizedHashCode 61 = .ok (.ifCond .eq 16, 3) := dk_153 0 16 (dk_at dksJ21_vectorizedHashCode_2 17 rfl rfl)
theorem dJ21_vectorizedHashCode_64 : decode cJ21_vectorizedHashCode 64 = .ok (.iload_n 3, 1) := dk_29 (dk_at dksJ21_vectorizedHashCode_2 20 rfl rfl)
theorem dJ21_vectorizedHashCode_65 : decode cJ21_vectorizedHashCode 65 = .ok (.aload_n 0, 1) := dk_42 (dk_at dksJ21_vectorizedHashCode_2 21 rfl rfl)
theorem dJ21_vectorizedHashCode_66 : decode cJ21_vectorizedHashCode 66 = .ok (.checkcast 60, 3) := dk_192 0 60 (dk_at dksJ21_vectorizedHashCode_3 0 rfl rfl)
theorem dJ21_vectorizedHashCode_69 : decode cJ21_vectorizedHashCode 69 = .ok (.iload_n 1, 1) := dk_27 (dk_at dksJ21_vectorizedHashCode_3 3 rfl rfl)
theorem dJ21_vectorizedHashCode_70 : decode cJ21_vectorizedHashCode 70 = .ok (.iload_n 2, 1) := dk_28 (dk_at dksJ21_vectorizedHashCode_3 4 rfl rfl)
theorem dJ21_vectorizedHashCode_71 : decode cJ21_vectorizedHashCode 71 = .ok (.invokestatic 66, 3) := dk_184 0 66 (dk_at dksJ21_vectorizedHashCode_3 5 rfl rfl)
theorem dJ21_vectorizedHashCode_74 : decode cJ21_vectorizedHashCode 74 = .ok (.goto 83, 3) := dk_167 0 83 (dk_at dksJ21_vectorizedHashCode_3 8 rfl rfl)
theorem dJ21_vectorizedHashCode_77 : decode cJ21_vectorizedHashCode 77 = .ok (.iload_n 3, 1) := dk_29 (dk_at dksJ21_vectorizedHashCode_3 11 rfl rfl)
theorem dJ21_vectorizedHashCode_78 : decode cJ21_vectorizedHashCode 78 = .ok (.aload_n 0, 1) := dk_42 (dk_at dksJ21_vectorizedHashCode_3 12 rfl rfl)
theorem dJ21_vectorizedHashCode_79 : decode cJ21_vectorizedHashCode 79 = .ok (.checkcast 69, 3) := dk_192 0 69 (dk_at dksJ21_vectorizedHashCode_3 13 rfl rfl)
theorem dJ21_vectorizedHashCode_82 : decode cJ21_vectorizedHashCode 82 = .ok (.iload_n 1, 1) := dk_27 (dk_at dksJ21_vectorizedHashCode_3 16 rfl rfl)
theorem dJ21_vectorizedHashCode_83 : decode cJ21_vectorizedHashCode 83 = .ok (.iload_n 2, 1) := dk_28 (dk_at dksJ21_vectorizedHashCode_3 17 rfl rfl)
theorem dJ21_vectorizedHashCode_84 : decode cJ21_vectorizedHashCode 84 = .ok (.invokestatic 71, 3) := dk_184 0 71 (dk_at dksJ21_vectorizedHashCode_3 18 rfl rfl)
theorem dJ21_vectorizedHashCode_87 : decode cJ21_vectorizedHashCode 87 = .ok (.goto 70, 3) := dk_167 0 70 (dk_at dksJ21_vectorizedHashCode_3 21 rfl rfl)
theorem dJ21_vectorizedHashCode_90 : decode cJ21_vectorizedHashCode 90 = .ok (.iload_n 3, 1) := dk_29 (dk_at dksJ21_vectorizedHashCode_4 0 rfl rfl)
theorem dJ21_vectorizedHashCode_91 : decode cJ21_vectorizedHashCode 91 = .ok (.aload_n 0, 1) := dk_42 (dk_at dksJ21_vectorizedHashCode_4 1 rfl rfl)
theorem dJ21_vectorizedHashCode_92 : decode cJ21_vectorizedHashCode 92 = .ok (.checkcast 60, 3) := dk_192 0 60 (dk_at dksJ21_vectorizedHashCode_4 2 rfl rfl)
theorem dJ21_vectorizedHashCode_95 : decode cJ21_vectorizedHashCode 95 = .ok (.iload_n 1, 1) := dk_27 (dk_at dksJ21_vectorizedHashCode_4 5 rfl rfl)
theorem dJ21_vectorizedHashCode_96 : decode cJ21_vectorizedHashCode 96 = .ok (.iload_n 2, 1) := dk_28 (dk_at dksJ21_vectorizedHashCode_4 6 rfl rfl)
theorem dJ21_vectorizedHashCode_97 : decode cJ21_vectorizedHashCode 97 = .ok (.invokestatic 75, 3) := dk_184 0 75 (dk_at dksJ21_vectorizedHashCode_4 7 rfl rfl)
theorem dJ21_vectorizedHashCode_100 : decode cJ21_vectorizedHashCode 100 = .ok (.goto 57, 3) := dk_167 0 57 (dk_at dksJ21_vectorizedHashCode_4 10 rfl rfl)
theorem dJ21_vectorizedHashCode_103 : decode cJ21_vectorizedHashCode 103 = .ok (.iload_n 3, 1) := dk_29 (dk_at dksJ21_vectorizedHashCode_4 13 rfl rfl)
theorem dJ21_vectorizedHashCode_104 : decode cJ21_vectorizedHashCode 104 = .ok (.aload_n 0, 1) := dk_42 (dk_at dksJ21_vectorizedHashCode_4 14 rfl rfl)
theorem dJ21_vectorizedHashCode_105 : decode cJ21_vectorizedHashCode 105 = .ok (.checkcast 77, 3) := dk_192 0 77 (dk_at dksJ21_vectorizedHashCode_4 15 rfl rfl)
theorem dJ21_vectorizedHashCode_108 : decode cJ21_vectorizedHashCode 108 = .ok (.iload_n 1, 1) := dk_27 (dk_at dksJ21_vectorizedHashCode_4 18 rfl rfl)
theorem dJ21_vectorizedHashCode_109 : decode cJ21_vectorizedHashCode 109 = .ok (.iload_n 2, 1) := dk_28 (dk_at dksJ21_vectorizedHashCode_4 19 rfl rfl)
theorem dJ21_vectorizedHashCode_110 : decode cJ21_vectorizedHashCode 110 = .ok (.invokestatic 79, 3) := dk_184 0 79 (dk_at dksJ21_vectorizedHashCode_4 20 rfl rfl)
theorem dJ21_vectorizedHashCode_113 : decode cJ21_vectorizedHashCode 113 = .ok (.goto 44, 3) := dk_167 0 44 (dk_at dksJ21_vectorizedHashCode_5 0 rfl rfl)
theorem dJ21_vectorizedHashCode_116 : decode cJ21_vectorizedHashCode 116 = .ok (.iload_n 3, 1) := dk_29 (dk_at dksJ21_vectorizedHashCode_5 3 rfl rfl)
theorem dJ21_vectorizedHashCode_117 : decode cJ21_vectorizedHashCode 117 = .ok (.aload_n 0, 1) := dk_42 (dk_at dksJ21_vectorizedHashCode_5 4 rfl rfl)
theorem dJ21_vectorizedHashCode_118 : decode cJ21_vectorizedHashCode 118 = .ok (.checkcast 82, 3) := dk_192 0 82 (dk_at dksJ21_vectorizedHashCode_5 5 rfl rfl)
theorem dJ21_vectorizedHashCode_121 : decode cJ21_vectorizedHashCode 121 = .ok (.iload_n 1, 1) := dk_27 (dk_at dksJ21_vectorizedHashCode_5 8 rfl rfl)
theorem dJ21_vectorizedHashCode_122 : decode cJ21_vectorizedHashCode 122 = .ok (.iload_n 2, 1) := dk_28 (dk_at dksJ21_vectorizedHashCode_5 9 rfl rfl)
theorem dJ21_vectorizedHashCode_123 : decode cJ21_vectorizedHashCode 123 = .ok (.invokestatic 84, 3) := dk_184 0 84 (dk_at dksJ21_vectorizedHashCode_5 10 rfl rfl)
theorem dJ21_vectorizedHashCode_126 : decode cJ21_vectorizedHashCode 126 = .ok (.goto 31, 3) := dk_167 0 31 (dk_at dksJ21_vectorizedHashCode_5 13 rfl rfl)
theorem dJ21_vectorizedHashCode_129 : decode cJ21_vectorizedHashCode 129 = .ok (.new 87, 3) := dk_187 0 87 (dk_at dksJ21_vectorizedHashCode_5 16 rfl rfl)
theorem dJ21_vectorizedHashCode_132 : decode cJ21_vectorizedHashCode 132 = .ok (.dup, 1) := dk_89 (dk_at dksJ21_vectorizedHashCode_5 19 rfl rfl)
theorem dJ21_vectorizedHashCode_133 : decode cJ21_vectorizedHashCode 133 = .ok (.new 89, 3) := dk_187 0 89 (dk_at dksJ21_vectorizedHashCode_5 20 rfl rfl)
theorem dJ21_vectorizedHashCode_136 : decode cJ21_vectorizedHashCode 136 = .ok (.dup, 1) := dk_89 (dk_at dksJ21_vectorizedHashCode_5 23 rfl rfl)
theorem dJ21_vectorizedHashCode_137 : decode cJ21_vectorizedHashCode 137 = .ok (.invokespecial 91, 3) := dk_183 0 91 (dk_at dksJ21_vectorizedHashCode_6 0 rfl rfl)
theorem dJ21_vectorizedHashCode_140 : decode cJ21_vectorizedHashCode 140 = .ok (.ldc 92, 2) := dk_18 92 (dk_at dksJ21_vectorizedHashCode_6 3 rfl rfl)
theorem dJ21_vectorizedHashCode_142 : decode cJ21_vectorizedHashCode 142 = .ok (.invokevirtual 94, 3) := dk_182 0 94 (dk_at dksJ21_vectorizedHashCode_6 5 rfl rfl)
theorem dJ21_vectorizedHashCode_145 : decode cJ21_vectorizedHashCode 145 = .ok (.iload 4, 2) := dk_21 4 (dk_at dksJ21_vectorizedHashCode_6 8 rfl rfl)
theorem dJ21_vectorizedHashCode_147 : decode cJ21_vectorizedHashCode 147 = .ok (.invokevirtual 98, 3) := dk_182 0 98 (dk_at dksJ21_vectorizedHashCode_6 10 rfl rfl)
theorem dJ21_vectorizedHashCode_150 : decode cJ21_vectorizedHashCode 150 = .ok (.invokevirtual 101, 3) := dk_182 0 101 (dk_at dksJ21_vectorizedHashCode_6 13 rfl rfl)
theorem dJ21_vectorizedHashCode_153 : decode cJ21_vectorizedHashCode 153 = .ok (.invokespecial 105, 3) := dk_183 0 105 (dk_at dksJ21_vectorizedHashCode_6 16 rfl rfl)
theorem dJ21_vectorizedHashCode_156 : decode cJ21_vectorizedHashCode 156 = .ok (.athrow, 1) := dk_191 (dk_at dksJ21_vectorizedHashCode_6 19 rfl rfl)
theorem dJ21_vectorizedHashCode_157 : decode cJ21_vectorizedHashCode 157 = .ok (.ireturn, 1) := dk_172 (dk_at dksJ21_vectorizedHashCode_6 20 rfl rfl)
def dkwJ21_signedHashCode_1 : List UInt8 := [17, 0, 255, 126, 96, 59, 132, 5, 1, 167, 255, 232, 26, 172]
abbrev dktJ21_signedHashCode_1 : List UInt8 := dkwJ21_signedHashCode_1 ++ []
def dkwJ21_signedHashCode_0 : List UInt8 := [28, 29, 96, 54, 4, 28, 54, 5, 21, 5, 21, 4, 162, 0, 23, 16, 31, 26, 104, 43, 21, 5, 51]
abbrev dktJ21_signedHashCode_0 : List UInt8 := dkwJ21_signedHashCode_0 ++ dktJ21_signedHashCode_1
theorem dksJ21_signedHashCode_0 : cJ21_signedHashCode.data.toList.drop 0 = dktJ21_signedHashCode_0 := by decide +kernel
theorem dksJ21_signedHashCode_1 : cJ21_signedHashCode.data.toList.drop 23 = dktJ21_signedHashCode_1 := dk_seg dksJ21_signedHashCode_0 23 rfl rfl
theorem dJ21_signedHashCode_0 : decode cJ21_signedHashCode 0 = .ok (.iload_n 2, 1) := dk_28 (dk_at dksJ21_signedHashCode_0 0 rfl rfl)
theorem dJ21_signedHashCode_1 : decode cJ21_signedHashCode 1 = .ok (.iload_n 3, 1) := dk_29 (dk_at dksJ21_signedHashCode_0 1 rfl rfl)
theorem dJ21_signedHashCode_2 : decode cJ21_signedHashCode 2 = .ok (.iadd, 1) := dk_96 (dk_at dksJ21_signedHashCode_0 2 rfl rfl)
theorem dJ21_signedHashCode_3 : decode cJ21_signedHashCode 3 = .ok (.istore 4, 2) := dk_54 4 (dk_at dksJ21_signedHashCode_0 3 rfl rfl)
theorem dJ21_signedHashCode_5 : decode cJ21_signedHashCode 5 = .ok (.iload_n 2, 1) := dk_28 (dk_at dksJ21_signedHashCode_0 5 rfl rfl)
theorem dJ21_signedHashCode_6 : decode cJ21_signedHashCode 6 = .ok (.istore 5, 2) := dk_54 5 (dk_at dksJ21_signedHashCode_0 6 rfl rfl)
theorem dJ21_signedHashCode_8 : decode cJ21_signedHashCode 8 = .ok (.iload 5, 2) := dk_21 5 (dk_at dksJ21_signedHashCode_0 8 rfl rfl)
theorem dJ21_signedHashCode_10 : decode cJ21_signedHashCode 10 = .ok (.iload 4, 2) := dk_21 4 (dk_at dksJ21_signedHashCode_0 10 rfl rfl)
theorem dJ21_signedHashCode_12 : decode cJ21_signedHashCode 12 = .ok (.if_icmp .ge 23, 3) := dk_162 0 23 (dk_at dksJ21_signedHashCode_0 12 rfl rfl)
theorem dJ21_signedHashCode_15 : decode cJ21_signedHashCode 15 = .ok (.bipush 31, 2) := dk_16 31 (dk_at dksJ21_signedHashCode_0 15 rfl rfl)
theorem dJ21_signedHashCode_17 : decode cJ21_signedHashCode 17 = .ok (.iload_n 0, 1) := dk_26 (dk_at dksJ21_signedHashCode_0 17 rfl rfl)
theorem dJ21_signedHashCode_18 : decode cJ21_signedHashCode 18 = .ok (.imul, 1) := dk_104 (dk_at dksJ21_signedHashCode_0 18 rfl rfl)
theorem dJ21_signedHashCode_19 : decode cJ21_signedHashCode 19 = .ok (.aload_n 1, 1) := dk_43 (dk_at dksJ21_signedHashCode_0 19 rfl rfl)
theorem dJ21_signedHashCode_20 : decode cJ21_signedHashCode 20 = .ok (.iload 5, 2) := dk_21 5 (dk_at dksJ21_signedHashCode_0 20 rfl rfl)
theorem dJ21_signedHashCode_22 : decode cJ21_signedHashCode 22 = .ok (.baload, 1) := dk_51 (dk_at dksJ21_signedHashCode_0 22 rfl rfl)
theorem dJ21_signedHashCode_23 : decode cJ21_signedHashCode 23 = .ok (.sipush 255, 3) := dk_17 0 255 (dk_at dksJ21_signedHashCode_1 0 rfl rfl)
theorem dJ21_signedHashCode_26 : decode cJ21_signedHashCode 26 = .ok (.iand, 1) := dk_126 (dk_at dksJ21_signedHashCode_1 3 rfl rfl)
theorem dJ21_signedHashCode_27 : decode cJ21_signedHashCode 27 = .ok (.iadd, 1) := dk_96 (dk_at dksJ21_signedHashCode_1 4 rfl rfl)
theorem dJ21_signedHashCode_28 : decode cJ21_signedHashCode 28 = .ok (.istore_n 0, 1) := dk_59 (dk_at dksJ21_signedHashCode_1 5 rfl rfl)
theorem dJ21_signedHashCode_29 : decode cJ21_signedHashCode 29 = .ok (.iinc 5 1, 3) := dk_132 5 1 (dk_at dksJ21_signedHashCode_1 6 rfl rfl)
theorem dJ21_signedHashCode_32 : decode cJ21_signedHashCode 32 = .ok (.goto (-24), 3) := dk_167 255 232 (dk_at dksJ21_signedHashCode_1 9 rfl rfl)
theorem dJ21_signedHashCode_35 : decode cJ21_signedHashCode 35 = .ok (.iload_n 0, 1) := dk_26 (dk_at dksJ21_signedHashCode_1 12 rfl rfl)
theorem dJ21_signedHashCode_36 : decode cJ21_signedHashCode 36 = .ok (.ireturn, 1) := dk_172 (dk_at dksJ21_signedHashCode_1 13 rfl rfl)
def dkwJ22_max_0 : List UInt8 := [26, 27, 161, 0, 7, 26, 167, 0, 4, 27, 172]
abbrev dktJ22_max_0 : List UInt8 := dkwJ22_max_0 ++ []
theorem dksJ22_max_0 : cJ22_max.data.toList.drop 0 = dktJ22_max_0 := by decide +kernel
theorem dJ22_max_0 : decode cJ22_max 0 = .ok (.iload_n 0, 1) := dk_26 (dk_at dksJ22_max_0 0 rfl rfl)
theorem dJ22_max_1 : decode cJ22_max 1 = .ok (.iload_n 1, 1) := dk_27 (dk_at dksJ22_max_0 1 rfl rfl)
theorem dJ22_max_2 : decode cJ22_max 2 = .ok (.if_icmp .lt 7, 3) := dk_161 0 7 (dk_at dksJ22_max_0 2 rfl rfl)
theorem dJ22_max_5 : decode cJ22_max 5 = .ok (.iload_n 0, 1) := dk_26 (dk_at dksJ22_max_0 5 rfl rfl)
theorem dJ22_max_6 : decode cJ22_max 6 = .ok (.goto 4, 3) := dk_167 0 4 (dk_at dksJ22_max_0 6 rfl rfl)
theorem dJ22_max_9 : decode cJ22_max 9 = .ok (.iload_n 1, 1) := dk_27 (dk_at dksJ22_max_0 9 rfl rfl)
theorem dJ22_max_10 : decode cJ22_max 10 = .ok (.ireturn, 1) := dk_172 (dk_at dksJ22_max_0 10 rfl rfl)
def dkwJ22_min_0 : List UInt8 := [26, 27, 163, 0, 7, 26, 167, 0, 4, 27, 172]
abbrev dktJ22_min_0 : List UInt8 := dkwJ22_min_0 ++ []
theorem dksJ22_min_0 : cJ22_min.data.toList.drop 0 = dktJ22_min_0 := by decide +kernel
theorem dJ22_min_0 : decode cJ22_min 0 = .ok (.iload_n 0, 1) := dk_26 (dk_at dksJ22_min_0 0 rfl rfl)
theorem dJ22_min_1 : decode cJ22_min 1 = .ok (.iload_n 1, 1) := dk_27 (dk_at dksJ22_min_0 1 rfl rfl)
theorem dJ22_min_2 : decode cJ22_min 2 = .ok (.if_icmp .gt 7, 3) := dk_163 0 7 (dk_at dksJ22_min_0 2 rfl rfl)
theorem dJ22_min_5 : decode cJ22_min 5 = .ok (.iload_n 0, 1) := dk_26 (dk_at dksJ22_min_0 5 rfl rfl)
theorem dJ22_min_6 : decode cJ22_min 6 = .ok (.goto 4, 3) := dk_167 0 4 (dk_at dksJ22_min_0 6 rfl rfl)
theorem dJ22_min_9 : decode cJ22_min 9 = .ok (.iload_n 1, 1) := dk_27 (dk_at dksJ22_min_0 9 rfl rfl)
theorem dJ22_min_10 : decode cJ22_min 10 = .ok (.ireturn, 1) := dk_172 (dk_at dksJ22_min_0 10 rfl rfl)
def dkwJ23_copyOfRange_1 : List UInt8 := [176]
abbrev dktJ23_copyOfRange_1 : List UInt8 := dkwJ23_copyOfRange_1 ++ []
def dkwJ23_copyOfRange_0 : List UInt8 := [27, 154, 0, 9, 28, 42, 190, 159, 0, 10, 42, 27, 28, 184, 1, 83, 176, 42, 182, 1, 54, 192, 1, 55]
abbrev dktJ23_copyOfRange_0 : List UInt8 := dkwJ23_copyOfRange_0 ++ dktJ23_copyOfRange_1
theorem dksJ23_copyOfRange_0 : cJ23_copyOfRange.data.toList.drop 0 = dktJ23_copyOfRange_0 := by decide +kernel
theorem dksJ23_copyOfRange_1 : cJ23_copyOfRange.data.toList.drop 24 = dktJ23_copyOfRange_1 := dk_seg dksJ23_copyOfRange_0 24 rfl rfl
theorem dJ23_copyOfRange_0 : decode cJ23_copyOfRange 0 = .ok (.iload_n 1, 1) := dk_27 (dk_at dksJ23_copyOfRange_0 0 rfl rfl)
theorem dJ23_copyOfRange_1 : decode cJ23_copyOfRange 1 = .ok (.ifCond .ne 9, 3) := dk_154 0 9 (dk_at dksJ23_copyOfRange_0 1 rfl rfl)
theorem dJ23_copyOfRange_4 : decode cJ23_copyOfRange 4 = .ok (.iload_n 2, 1) := dk_28 (dk_at dksJ23_copyOfRange_0 4 rfl rfl)
theorem dJ23_copyOfRange_5 : decode cJ23_copyOfRange 5 = .ok (.aload_n 0, 1) := dk_42 (dk_at dksJ23_copyOfRange_0 5 rfl rfl)
theorem dJ23_copyOfRange_6 : decode cJ23_copyOfRange 6 = .ok (.arraylength, 1) := dk_190 (dk_at dksJ23_copyOfRange_0 6 rfl rfl)
theorem dJ23_copyOfRange_7 : decode cJ23_copyOfRange 7 = .ok (.if_icmp .eq 10, 3) := dk_159 0 10 (dk_at dksJ23_copyOfRange_0 7 rfl rfl)
theorem dJ23_copyOfRange_10 : decode cJ23_copyOfRange 10 = .ok (.aload_n 0, 1) := dk_42 (dk_at dksJ23_copyOfRange_0 10 rfl rfl)
theorem dJ23_copyOfRange_11 : decode cJ23_copyOfRange 11 = .ok (.iload_n 1, 1) := dk_27 (dk_at dksJ23_copyOfRange_0 11 rfl rfl)
theorem dJ23_copyOfRange_12 : decode cJ23_copyOfRange 12 = .ok (.iload_n 2, 1) := dk_28 (dk_at dksJ23_copyOfRange_0 12 rfl rfl)
theorem dJ23_copyOfRange_13 : decode cJ23_copyOfRange 13 = .ok (.invokestatic 339, 3) := dk_184 1 83 (dk_at dksJ23_copyOfRange_0 13 rfl rfl)
theorem dJ23_copyOfRange_16 : decode cJ23_copyOfRange 16 = .ok (.areturn, 1) := dk_176 (dk_at dksJ23_copyOfRange_0 16 rfl rfl)
theorem dJ23_copyOfRange_17 : decode cJ23_copyOfRange 17 = .ok (.aload_n 0, 1) := dk_42 (dk_at dksJ23_copyOfRange_0 17 rfl rfl)
theorem dJ23_copyOfRange_18 : decode cJ23_copyOfRange 18 = .ok (.invokevirtual 310, 3) := dk_182 1 54 (dk_at dksJ23_copyOfRange_0 18 rfl rfl)
theorem dJ23_copyOfRange_21 : decode cJ23_copyOfRange 21 = .ok (.checkcast 311, 3) := dk_192 1 55 (dk_at dksJ23_copyOfRange_0 21 rfl rfl)
theorem dJ23_copyOfRange_24 : decode cJ23_copyOfRange 24 = .ok (.areturn, 1) := dk_176 (dk_at dksJ23_copyOfRange_1 0 rfl rfl)
def dkwJ23_copyOfRangeByte_1 : List UInt8 := [184, 1, 48, 184, 0, 150, 25, 4, 176]
abbrev dktJ23_copyOfRangeByte_1 : List UInt8 := dkwJ23_copyOfRangeByte_1 ++ []
def dkwJ23_copyOfRangeByte_0 : List UInt8 := [27, 28, 184, 1, 87, 28, 27, 100, 62, 29, 188, 8, 58, 4, 42, 27, 25, 4, 3, 42, 190, 27, 100, 29]
abbrev dktJ23_copyOfRangeByte_0 : List UInt8 := dkwJ23_copyOfRangeByte_0 ++ dktJ23_copyOfRangeByte_1
theorem dksJ23_copyOfRangeByte_0 : cJ23_copyOfRangeByte.data.toList.drop 0 = dktJ23_copyOfRangeByte_0 := by decide +kernel
theorem dksJ23_copyOfRangeByte_1 : cJ23_copyOfRangeByte.data.toList.drop 24 = dktJ23_copyOfRangeByte_1 := dk_seg dksJ23_copyOfRangeByte_0 24 rfl rfl
theorem dJ23_copyOfRangeByte_0 : decode cJ23_copyOfRangeByte 0 = .ok (.iload_n 1, 1) := dk_27 (dk_at dksJ23_copyOfRangeByte_0 0 rfl rfl)
theorem dJ23_copyOfRangeByte_1 : decode cJ23_copyOfRangeByte 1 = .ok (.iload_n 2, 1) := dk_28 (dk_at dksJ23_copyOfRangeByte_0 1 rfl rfl)
theorem dJ23_copyOfRangeByte_2 : decode cJ23_copyOfRangeByte 2 = .ok (.invokestatic 343, 3) := dk_184 1 87 (dk_at dksJ23_copyOfRangeByte_0 2 rfl rfl)
theorem dJ23_copyOfRangeByte_5 : decode cJ23_copyOfRangeByte 5 = .ok (.iload_n 2, 1) := dk_28 (dk_at dksJ23_copyOfRangeByte_0 5 rfl rfl)
theorem dJ23_copyOfRangeByte_6 : decode cJ23_copyOfRangeByte 6 = .ok (.iload_n 1, 1) := dk_27 (dk_at dksJ23_copyOfRangeByte_0 6 rfl rfl)
theorem dJ23_copyOfRangeByte_7 : decode cJ23_copyOfRangeByte 7 = .ok (.isub, 1) := dk_100 (dk_at dksJ23_copyOfRangeByte_0 7 rfl rfl)
theorem dJ23_copyOfRangeByte_8 : decode cJ23_copyOfRangeByte 8 = .ok (.istore_n 3, 1) := dk_62 (dk_at dksJ23_copyOfRangeByte_0 8 rfl rfl)
theorem dJ23_copyOfRangeByte_9 : decode cJ23_copyOfRangeByte 9 = .ok (.iload_n 3, 1) := dk_29 (dk_at dksJ23_copyOfRangeByte_0 9 rfl rfl)
theorem dJ23_copyOfRangeByte_10 : decode cJ23_copyOfRangeByte 10 = .ok (.newarray .byte, 2) := dk_188_8 (dk_at dksJ23_copyOfRangeByte_0 10 rfl rfl)
theorem dJ23_copyOfRangeByte_12 : decode cJ23_copyOfRangeByte 12 = .ok (.astore 4, 2) := dk_58 4 (dk_at dksJ23_copyOfRangeByte_0 12 rfl rfl)
theorem dJ23_copyOfRangeByte_14 : decode cJ23_copyOfRangeByte 14 = .ok (.aload_n 0, 1) := dk_42 (dk_at dksJ23_copyOfRangeByte_0 14 rfl rfl)
theorem dJ23_copyOfRangeByte_15 : decode cJ23_copyOfRangeByte 15 = .ok (.iload_n 1, 1) := dk_27 (dk_at dksJ23_copyOfRangeByte_0 15 rfl rfl)
theorem dJ23_copyOfRangeByte_16 : decode cJ23_copyOfRangeByte 16 = .ok (.aload 4, 2) := dk_25 4 (dk_at dksJ23_copyOfRangeByte_0 16 rfl rfl)
theorem dJ23_copyOfRangeByte_18 : decode cJ23_copyOfRangeByte 18 = .ok (.iconst 0, 1) := dk_3 (dk_at dksJ23_copyOfRangeByte_0 18 rfl rfl)
theorem dJ23_copyOfRangeByte_19 : decode cJ23_copyOfRangeByte 19 = .ok (.aload_n 0, 1) := dk_42 (dk_at dksJ23_copyOfRangeByte_0 19 rfl rfl)
theorem dJ23_copyOfRangeByte_20 : decode cJ23_copyOfRangeByte 20 = .ok (.arraylength, 1) := dk_190 (dk_at dksJ23_copyOfRangeByte_0 20 rfl rfl)
theorem dJ23_copyOfRangeByte_21 : decode cJ23_copyOfRangeByte 21 = .ok (.iload_n 1, 1) := dk_27 (dk_at dksJ23_copyOfRangeByte_0 21 rfl rfl)
theorem dJ23_copyOfRangeByte_22 : decode cJ23_copyOfRangeByte 22 = .ok (.isub, 1) := dk_100 (dk_at dksJ23_copyOfRangeByte_0 22 rfl rfl)
theorem dJ23_copyOfRangeByte_23 : decode cJ23_copyOfRangeByte 23 = .ok (.iload_n 3, 1) := dk_29 (dk_at dksJ23_copyOfRangeByte_0 23 rfl rfl)
theorem dJ23_copyOfRangeByte_24 : decode cJ23_copyOfRangeByte 24 = .ok (.invokestatic 304, 3) := dk_184 1 48 (dk_at dksJ23_copyOfRangeByte_1 0 rfl rfl)
theorem dJ23_copyOfRangeByte_27 : decode cJ23_copyOfRangeByte 27 = .ok (.invokestatic 150, 3) := dk_184 0 150 (dk_at dksJ23_copyOfRangeByte_1 3 rfl rfl)
theorem dJ23_copyOfRangeByte_30 : decode cJ23_copyOfRangeByte 30 = .ok (.aload 4, 2) := dk_25 4 (dk_at dksJ23_copyOfRangeByte_1 6 rfl rfl)
theorem dJ23_copyOfRangeByte_32 : decode cJ23_copyOfRangeByte 32 = .ok (.areturn, 1) := dk_176 (dk_at dksJ23_copyOfRangeByte_1 8 rfl rfl)
def dkwJ23_checkLength_1 : List UInt8 := [182, 0, 50, 27, 182, 0, 54, 182, 0, 61, 183, 0, 65, 191, 177]
abbrev dktJ23_checkLength_1 : List UInt8 := dkwJ23_checkLength_1 ++ []
def dkwJ23_checkLength_0 : List UInt8 := [27, 26, 162, 0, 35, 187, 0, 43, 89, 187, 0, 45, 89, 183, 0, 47, 26, 182, 0, 54, 19, 1, 81]
abbrev dktJ23_checkLength_0 : List UInt8 := dkwJ23_checkLength_0 ++ dktJ23_checkLength_1
theorem dksJ23_checkLength_0 : cJ23_checkLength.data.toList.drop 0 = dktJ23_checkLength_0 := by decide +kernel
theorem dksJ23_checkLength_1 : cJ23_checkLength.data.toList.drop 23 = dktJ23_checkLength_1 := dk_seg dksJ23_checkLength_0 23 rfl rfl
theorem dJ23_checkLength_0 : decode cJ23_checkLength 0 = .ok (.iload_n 1, 1) := dk_27 (dk_at dksJ23_checkLength_0 0 rfl rfl)
theorem dJ23_checkLength_1 : decode cJ23_checkLength 1 = .ok (.iload_n 0, 1) := dk_26 (dk_at dksJ23_checkLength_0 1 rfl rfl)
theorem dJ23_checkLength_2 : decode cJ23_checkLength 2 = .ok (.if_icmp .ge 35, 3) := dk_162 0 35 (dk_at dksJ23_checkLength_0 2 rfl rfl)
theorem dJ23_checkLength_5 : decode cJ23_checkLength 5 = .ok (.new 43, 3) := dk_187 0 43 (dk_at dksJ23_checkLength_0 5 rfl rfl)
theorem dJ23_checkLength_8 : decode cJ23_checkLength 8 = .ok (.dup, 1) := dk_89 (dk_at dksJ23_checkLength_0 8 rfl rfl)
theorem dJ23_checkLength_9 : decode cJ23_checkLength 9 = .ok (.new 45, 3) := dk_187 0 45 (dk_at dksJ23_checkLength_0 9 rfl rfl)
theorem dJ23_checkLength_12 : decode cJ23_checkLength 12 = .ok (.dup, 1) := dk_89 (dk_at dksJ23_checkLength_0 12 rfl rfl)
theorem dJ23_checkLength_13 : decode cJ23_checkLength 13 = .ok (.invokespecial 47, 3) := dk_183 0 47 (dk_at dksJ23_checkLength_0 13 rfl rfl)
theorem dJ23_checkLength_16 : decode cJ23_checkLength 16 = .ok (.iload_n 0, 1) := dk_26 (dk_at dksJ23_checkLength_0 16 rfl rfl)
theorem dJ23_checkLength_17 : decode cJ23_checkLength 17 = .ok (.invokevirtual 54, 3) := dk_182 0 54 (dk_at dksJ23_checkLength_0 17 rfl rfl)
theorem dJ23_checkLength_20 : decode cJ23_checkLength 20 = .ok (.ldc_w 337, 3) := dk_19 1 81 (dk_at dksJ23_checkLength_0 20 rfl rfl)
theorem dJ23_checkLength_23 : decode cJ23_checkLength 23 = .ok (.invokevirtual 50, 3) := dk_182 0 50 (dk_at dksJ23_checkLength_1 0 rfl rfl)
theorem dJ23_checkLength_26 : decode cJ23_checkLength 26 = .ok (.iload_n 1, 1) := dk_27 (dk_at dksJ23_checkLength_1 3 rfl rfl)
theorem dJ23_checkLength_27 : decode cJ23_checkLength 27 = .ok (.invokevirtual 54, 3) := dk_182 0 54 (dk_at dksJ23_checkLength_1 4 rfl rfl)
theorem dJ23_checkLength_30 : decode cJ23_checkLength 30 = .ok (.invokevirtual 61, 3) := dk_182 0 61 (dk_at dksJ23_checkLength_1 7 rfl rfl)
theorem dJ23_checkLength_33 : decode cJ23_checkLength 33 = .ok (.invokespecial 65, 3) := dk_183 0 65 (dk_at dksJ23_checkLength_1 10 rfl rfl)
theorem dJ23_checkLength_36 : decode cJ23_checkLength 36 = .ok (.athrow, 1) := dk_191 (dk_at dksJ23_checkLength_1 13 rfl rfl)
theorem dJ23_checkLength_37 : decode cJ23_checkLength 37 = .ok (.return_, 1) := dk_177 (dk_at dksJ23_checkLength_1 14 rfl rfl)
def dkwJ23_copyOf_1 : List UInt8 := [27, 184, 1, 48, 184, 0, 150, 44, 176]
abbrev dktJ23_copyOf_1 : List UInt8 := dkwJ23_copyOf_1 ++ []
def dkwJ23_copyOf_0 : List UInt8 := [27, 42, 190, 160, 0, 11, 42, 182, 1, 54, 192, 1, 55, 176, 27, 188, 8, 77, 42, 3, 44, 3, 42, 190]
abbrev dktJ23_copyOf_0 : List UInt8 := dkwJ23_copyOf_0 ++ dktJ23_copyOf_1
theorem dksJ23_copyOf_0 : cJ23_copyOf.data.toList.drop 0 = dktJ23_copyOf_0 := by decide +kernel
theorem dksJ23_copyOf_1 : cJ23_copyOf.data.toList.drop 24 = dktJ23_copyOf_1 := dk_seg dksJ23_copyOf_0 24 rfl rfl
theorem dJ23_copyOf_0 : decode cJ23_copyOf 0 = .ok (.iload_n 1, 1) := dk_27 (dk_at dksJ23_copyOf_0 0 rfl rfl)
theorem dJ23_copyOf_1 : decode cJ23_copyOf 1 = .ok (.aload_n 0, 1) := dk_42 (dk_at dksJ23_copyOf_0 1 rfl rfl)
theorem dJ23_copyOf_2 : decode cJ23_copyOf 2 = .ok (.arraylength, 1) := dk_190 (dk_at dksJ23_copyOf_0 2 rfl rfl)
theorem dJ23_copyOf_3 : decode cJ23_copyOf 3 = .ok (.if_icmp .ne 11, 3) := dk_160 0 11 (dk_at dksJ23_copyOf_0 3 rfl rfl)
theorem dJ23_copyOf_6 : decode cJ23_copyOf 6 = .ok (.aload_n 0, 1) := dk_42 (dk_at dksJ23_copyOf_0 6 rfl rfl)
theorem dJ23_copyOf_7 : decode cJ23_copyOf 7 = .ok (.invokevirtual 310, 3) := dk_182 1 54 (dk_at dksJ23_copyOf_0 7 rfl rfl)
theorem dJ23_copyOf_10 : decode cJ23_copyOf 10 = .ok (.checkcast 311, 3) := dk_192 1 55 (dk_at dksJ23_copyOf_0 10 rfl rfl)
theorem dJ23_copyOf_13 : decode cJ23_copyOf 13 = .ok (.areturn, 1) := dk_176 (dk_at dksJ23_copyOf_0 13 rfl rfl)
theorem dJ23_copyOf_14 : decode cJ23_copyOf 14 = .ok (.iload_n 1, 1) := dk_27 (dk_at dksJ23_copyOf_0 14 rfl rfl)
theorem dJ23_copyOf_15 : decode cJ23_copyOf 15 = .ok (.newarray .byte, 2) := dk_188_8 (dk_at dksJ23_copyOf_0 15 rfl rfl)
theorem dJ23_copyOf_17 : decode cJ23_copyOf 17 = .ok (.astore_n 2, 1) := dk_77 (dk_at dksJ23_copyOf_0 17 rfl rfl)
theorem dJ23_copyOf_18 : decode cJ23_copyOf 18 = .ok (.aload_n 0, 1) := dk_42 (dk_at dksJ23_copyOf_0 18 rfl rfl)
theorem dJ23_copyOf_19 : decode cJ23_copyOf 19 = .ok (.iconst 0, 1) := dk_3 (dk_at dksJ23_copyOf_0 19 rfl rfl)
theorem dJ23_copyOf_20 : decode cJ23_copyOf 20 = .ok (.aload_n 2, 1) := dk_44 (dk_at dksJ23_copyOf_0 20 rfl rfl)
theorem dJ23_copyOf_21 : decode cJ23_copyOf 21 = .ok (.iconst 0, 1) := dk_3 (dk_at dksJ23_copyOf_0 21 rfl rfl)
theorem dJ23_copyOf_22 : decode cJ23_copyOf 22 = .ok (.aload_n 0, 1) := dk_42 (dk_at dksJ23_copyOf_0 22 rfl rfl)
theorem dJ23_copyOf_23 : decode cJ23_copyOf 23 = .ok (.arraylength, 1) := dk_190 (dk_at dksJ23_copyOf_0 23 rfl rfl)
theorem dJ23_copyOf_24 : decode cJ23_copyOf 24 = .ok (.iload_n 1, 1) := dk_27 (dk_at dksJ23_copyOf_1 0 rfl rfl)
theorem dJ23_copyOf_25 : decode cJ23_copyOf 25 = .ok (.invokestatic 304, 3) := dk_184 1 48 (dk_at dksJ23_copyOf_1 1 rfl rfl)
theorem dJ23_copyOf_28 : decode cJ23_copyOf 28 = .ok (.invokestatic 150, 3) := dk_184 0 150 (dk_at dksJ23_copyOf_1 4 rfl rfl)
theorem dJ23_copyOf_31 : decode cJ23_copyOf 31 = .ok (.aload_n 2, 1) := dk_44 (dk_at dksJ23_copyOf_1 7 rfl rfl)
theorem dJ23_copyOf_32 : decode cJ23_copyOf 32 = .ok (.areturn, 1) := dk_176 (dk_at dksJ23_copyOf_1 8 rfl rfl)
def dkwJ23_copyOf_2_0 : List UInt8 := [42, 27, 42, 182, 0, 86, 184, 1, 44, 176]
abbrev dktJ23_copyOf_2_0 : List UInt8 := dkwJ23_copyOf_2_0 ++ []
theorem dksJ23_copyOf_2_0 : cJ23_copyOf_2.data.toList.drop 0 = dktJ23_copyOf_2_0 := by decide +kernel
theorem dJ23_copyOf_2_0 : decode cJ23_copyOf_2 0 = .ok (.aload_n 0, 1) := dk_42 (dk_at dksJ23_copyOf_2_0 0 rfl rfl)
theorem dJ23_copyOf_2_1 : decode cJ23_copyOf_2 1 = .ok (.iload_n 1, 1) := dk_27 (dk_at dksJ23_copyOf_2_0 1 rfl rfl)
theorem dJ23_copyOf_2_2 : decode cJ23_copyOf_2 2 = .ok (.aload_n 0, 1) := dk_42 (dk_at dksJ23_copyOf_2_0 2 rfl rfl)
theorem dJ23_copyOf_2_3 : decode cJ23_copyOf_2 3 = .ok (.invokevirtual 86, 3) := dk_182 0 86 (dk_at dksJ23_copyOf_2_0 3 rfl rfl)
theorem dJ23_copyOf_2_6 : decode cJ23_copyOf_2 6 = .ok (.invokestatic 300, 3) := dk_184 1 44 (dk_at dksJ23_copyOf_2_0 6 rfl rfl)
theorem dJ23_copyOf_2_9 : decode cJ23_copyOf_2 9 = .ok (.areturn, 1) := dk_176 (dk_at dksJ23_copyOf_2_0 9 rfl rfl)
def dkwJ23_copyOf_3_1 : List UInt8 := [78, 42, 3, 45, 3, 42, 190, 27, 184, 1, 48, 184, 0, 150, 45, 176]
abbrev dktJ23_copyOf_3_1 : List UInt8 := dkwJ23_copyOf_3_1 ++ []
def dkwJ23_copyOf_3_0 : List UInt8 := [44, 18, 110, 166, 0, 10, 27, 189, 0, 2, 167, 0, 14, 44, 182, 0, 90, 27, 184, 0, 95, 192, 0, 110]
abbrev dktJ23_copyOf_3_0 : List UInt8 := dkwJ23_copyOf_3_0 ++ dktJ23_copyOf_3_1
theorem dksJ23_copyOf_3_0 : cJ23_copyOf_3.data.toList.drop 0 = dktJ23_copyOf_3_0 := by decide +kernel
theorem dksJ23_copyOf_3_1 : cJ23_copyOf_3.data.toList.drop 24 = dktJ23_copyOf_3_1 := dk_seg dksJ23_copyOf_3_0 24 rfl rfl
theorem dJ23_copyOf_3_0 : decode cJ23_copyOf_3 0 = .ok (.aload_n 2, 1) := dk_44 (dk_at dksJ23_copyOf_3_0 0 rfl rfl)
theorem dJ23_copyOf_3_1 : decode cJ23_copyOf_3 1 = .ok (.ldc 110, 2) := dk_18 110 (dk_at dksJ23_copyOf_3_0 1 rfl rfl)
theorem dJ23_copyOf_3_3 : decode cJ23_copyOf_3 3 = .ok (.if_acmp .ne 10, 3) := dk_166 0 10 (dk_at dksJ23_copyOf_3_0 3 rfl rfl)
theorem dJ23_copyOf_3_6 : decode cJ23_copyOf_3 6 = .ok (.iload_n 1, 1) := dk_27 (dk_at dksJ23_copyOf_3_0 6 rfl rfl)
theorem dJ23_copyOf_3_7 : decode cJ23_copyOf_3 7 = .ok (.anewarray 2, 3) := dk_189 0 2 (dk_at dksJ23_copyOf_3_0 7 rfl rfl)
theorem dJ23_copyOf_3_10 : decode cJ23_copyOf_3 10 = .ok (.goto 14, 3) := dk_167 0 14 (dk_at dksJ23_copyOf_3_0 10 rfl rfl)
theorem dJ23_copyOf_3_13 : decode cJ23_copyOf_3 13 = .ok (.aload_n 2, 1) := dk_44 (dk_at dksJ23_copyOf_3_0 13 rfl rfl)
theorem dJ23_copyOf_3_14 : decode cJ23_copyOf_3 14 = .ok (.invokevirtual 90, 3) := dk_182 0 90 (dk_at dksJ23_copyOf_3_0 14 rfl rfl)
theorem dJ23_copyOf_3_17 : decode cJ23_copyOf_3 17 = .ok (.iload_n 1, 1) := dk_27 (dk_at dksJ23_copyOf_3_0 17 rfl rfl)
theorem dJ23_copyOf_3_18 : decode cJ23_copyOf_3 18 = .ok (.invokestatic 95, 3) := dk_184 0 95 (dk_at dksJ23_copyOf_3_0 18 rfl rfl)
theorem dJ23_copyOf_3_21 : decode cJ23_copyOf_3 21 = .ok (.checkcast 110, 3) := dk_192 0 110 (dk_at dksJ23_copyOf_3_0 21 rfl rfl)
theorem dJ23_copyOf_3_24 : decode cJ23_copyOf_3 24 = .ok (.astore_n 3, 1) := dk_78 (dk_at dksJ23_copyOf_3_1 0 rfl rfl)
theorem dJ23_copyOf_3_25 : decode cJ23_copyOf_3 25 = .ok (.aload_n 0, 1) := dk_42 (dk_at dksJ23_copyOf_3_1 1 rfl rfl)
theorem dJ23_copyOf_3_26 : decode cJ23_copyOf_3 26 = .ok (.iconst 0, 1) := dk_3 (dk_at dksJ23_copyOf_3_1 2 rfl rfl)
theorem dJ23_copyOf_3_27 : decode cJ23_copyOf_3 27 = .ok (.aload_n 3, 1) := dk_45 (dk_at dksJ23_copyOf_3_1 3 rfl rfl)
theorem dJ23_copyOf_3_28 : decode cJ23_copyOf_3 28 = .ok (.iconst 0, 1) := dk_3 (dk_at dksJ23_copyOf_3_1 4 rfl rfl)
theorem dJ23_copyOf_3_29 : decode cJ23_copyOf_3 29 = .ok (.aload_n 0, 1) := dk_42 (dk_at dksJ23_copyOf_3_1 5 rfl rfl)
theorem dJ23_copyOf_3_30 : decode cJ23_copyOf_3 30 = .ok (.arraylength, 1) := dk_190 (dk_at dksJ23_copyOf_3_1 6 rfl rfl)
theorem dJ23_copyOf_3_31 : decode cJ23_copyOf_3 31 = .ok (.iload_n 1, 1) := dk_27 (dk_at dksJ23_copyOf_3_1 7 rfl rfl)
theorem dJ23_copyOf_3_32 : decode cJ23_copyOf_3 32 = .ok (.invokestatic 304, 3) := dk_184 1 48 (dk_at dksJ23_copyOf_3_1 8 rfl rfl)
theorem dJ23_copyOf_3_35 : decode cJ23_copyOf_3 35 = .ok (.invokestatic 150, 3) := dk_184 0 150 (dk_at dksJ23_copyOf_3_1 11 rfl rfl)
theorem dJ23_copyOf_3_38 : decode cJ23_copyOf_3 38 = .ok (.aload_n 3, 1) := dk_45 (dk_at dksJ23_copyOf_3_1 14 rfl rfl)
theorem dJ23_copyOf_3_39 : decode cJ23_copyOf_3 39 = .ok (.areturn, 1) := dk_176 (dk_at dksJ23_copyOf_3_1 15 rfl rfl)
def dkwJ24_init_1 : List UInt8 := [181, 0, 20, 177]
abbrev dktJ24_init_1 : List UInt8 := dkwJ24_init_1 ++ []
def dkwJ24_init_0 : List UInt8 := [42, 183, 0, 1, 42, 27, 181, 0, 7, 42, 44, 181, 0, 13, 42, 45, 181, 0, 17, 42, 25, 4]
abbrev dktJ24_init_0 : List UInt8 := dkwJ24_init_0 ++ dktJ24_init_1
theorem dksJ24_init_0 : cJ24_init.data.toList.drop 0 = dktJ24_init_0 := by decide +kernel
theorem dksJ24_init_1 : cJ24_init.data.toList.drop 22 = dktJ24_init_1 := dk_seg dksJ24_init_0 22 rfl rfl
theorem dJ24_init_0 : decode cJ24_init 0 = .ok (.aload_n 0, 1) := dk_42 (dk_at dksJ24_init_0 0 rfl rfl)
theorem dJ24_init_1 : decode cJ24_init 1 = .ok (.invokespecial 1, 3) := dk_183 0 1 (dk_at dksJ24_init_0 1 rfl rfl)
theorem dJ24_init_4 : decode cJ24_init 4 = .ok (.aload_n 0, 1) := dk_42 (dk_at dksJ24_init_0 4 rfl rfl)
theorem dJ24_init_5 : decode cJ24_init 5 = .ok (.iload_n 1, 1) := dk_27 (dk_at dksJ24_init_0 5 rfl rfl)
theorem dJ24_init_6 : decode cJ24_init 6 = .ok (.putfield 7, 3) := dk_181 0 7 (dk_at dksJ24_init_0 6 rfl rfl)
theorem dJ24_init_9 : decode cJ24_init 9 = .ok (.aload_n 0, 1) := dk_42 (dk_at dksJ24_init_0 9 rfl rfl)
theorem dJ24_init_10 : decode cJ24_init 10 = .ok (.aload_n 2, 1) := dk_44 (dk_at dksJ24_init_0 10 rfl rfl)
theorem dJ24_init_11 : decode cJ24_init 11 = .ok (.putfield 13, 3) := dk_181 0 13 (dk_at dksJ24_init_0 11 rfl rfl)
theorem dJ24_init_14 : decode cJ24_init 14 = .ok (.aload_n 0, 1) := dk_42 (dk_at dksJ24_init_0 14 rfl rfl)
theorem dJ24_init_15 : decode cJ24_init 15 = .ok (.aload_n 3, 1) := dk_45 (dk_at dksJ24_init_0 15 rfl rfl)
theorem dJ24_init_16 : decode cJ24_init 16 = .ok (.putfield 17, 3) := dk_181 0 17 (dk_at dksJ24_init_0 16 rfl rfl)
theorem dJ24_init_19 : decode cJ24_init 19 = .ok (.aload_n 0, 1) := dk_42 (dk_at dksJ24_init_0 19 rfl rfl)
theorem dJ24_init_20 : decode cJ24_init 20 = .ok (.aload 4, 2) := dk_25 4 (dk_at dksJ24_init_0 20 rfl rfl)
theorem dJ24_init_22 : decode cJ24_init 22 = .ok (.putfield 20, 3) := dk_181 0 20 (dk_at dksJ24_init_1 0 rfl rfl)
theorem dJ24_init_25 : decode cJ24_init 25 = .ok (.return_, 1) := dk_177 (dk_at dksJ24_init_1 3 rfl rfl)
def dkwJ4_init_0 : List UInt8 := [42, 183, 0, 43, 42, 18, 92, 181, 0, 81, 177]
abbrev dktJ4_init_0 : List UInt8 := dkwJ4_init_0 ++ []
theorem dksJ4_init_0 : cJ4_init.data.toList.drop 0 = dktJ4_init_0 := by decide +kernel
theorem dJ4_init_0 : decode cJ4_init 0 = .ok (.aload_n 0, 1) := dk_42 (dk_at dksJ4_init_0 0 rfl rfl)
theorem dJ4_init_1 : decode cJ4_init 1 = .ok (.invokespecial 43, 3) := dk_183 0 43 (dk_at dksJ4_init_0 1 rfl rfl)
theorem dJ4_init_4 : decode cJ4_init 4 = .ok (.aload_n 0, 1) := dk_42 (dk_at dksJ4_init_0 4 rfl rfl)
theorem dJ4_init_5 : decode cJ4_init 5 = .ok (.ldc 92, 2) := dk_18 92 (dk_at dksJ4_init_0 5 rfl rfl)
theorem dJ4_init_7 : decode cJ4_init 7 = .ok (.putfield 81, 3) := dk_181 0 81 (dk_at dksJ4_init_0 7 rfl rfl)
theorem dJ4_init_10 : decode cJ4_init 10 = .ok (.return_, 1) := dk_177 (dk_at dksJ4_init_0 10 rfl rfl)
def dkwJ4_get_0 : List UInt8 := [42, 43, 182, 0, 158, 89, 77, 199, 0, 7, 1, 167, 0, 7, 44, 180, 0, 162, 176]
abbrev dktJ4_get_0 : List UInt8 := dkwJ4_get_0 ++ []
theorem dksJ4_get_0 : cJ4_get.data.toList.drop 0 = dktJ4_get_0 := by decide +kernel
theorem dJ4_get_0 : decode cJ4_get 0 = .ok (.aload_n 0, 1) := dk_42 (dk_at dksJ4_get_0 0 rfl rfl)
theorem dJ4_get_1 : decode cJ4_get 1 = .ok (.aload_n 1, 1) := dk_43 (dk_at dksJ4_get_0 1 rfl rfl)
theorem dJ4_get_2 : decode cJ4_get 2 = .ok (.invokevirtual 158, 3) := dk_182 0 158 (dk_at dksJ4_get_0 2 rfl rfl)
theorem dJ4_get_5 : decode cJ4_get 5 = .ok (.dup, 1) := dk_89 (dk_at dksJ4_get_0 5 rfl rfl)
theorem dJ4_get_6 : decode cJ4_get 6 = .ok (.astore_n 2, 1) := dk_77 (dk_at dksJ4_get_0 6 rfl rfl)
theorem dJ4_get_7 : decode cJ4_get 7 = .ok (.ifnonnull 7, 3) := dk_199 0 7 (dk_at dksJ4_get_0 7 rfl rfl)
theorem dJ4_get_10 : decode cJ4_get 10 = .ok (.aconst_null, 1) := dk_1 (dk_at dksJ4_get_0 10 rfl rfl)
theorem dJ4_get_11 : decode cJ4_get 11 = .ok (.goto 7, 3) := dk_167 0 7 (dk_at dksJ4_get_0 11 rfl rfl)
theorem dJ4_get_14 : decode cJ4_get 14 = .ok (.aload_n 2, 1) := dk_44 (dk_at dksJ4_get_0 14 rfl rfl)
theorem dJ4_get_15 : decode cJ4_get 15 = .ok (.getfield 162, 3) := dk_180 0 162 (dk_at dksJ4_get_0 15 rfl rfl)
theorem dJ4_get_18 : decode cJ4_get 18 = .ok (.areturn, 1) := dk_176 (dk_at dksJ4_get_0 18 rfl rfl)
def dkwJ4_getNode_6 : List UInt8 := [89, 58, 4, 199, 255, 210, 1, 176]
abbrev dktJ4_getNode_6 : List UInt8 := dkwJ4_getNode_6 ++ []
def dkwJ4_getNode_5 : List UInt8 := [165, 0, 16, 43, 198, 0, 15, 43, 25, 7, 182, 0, 173, 153, 0, 6, 25, 4, 176, 25, 4, 180, 0, 177]
abbrev dktJ4_getNode_5 : List UInt8 := dkwJ4_getNode_5 ++ dktJ4_getNode_6
def dkwJ4_getNode_4 : List UInt8 := [43, 182, 0, 182, 176, 25, 4, 180, 0, 168, 21, 6, 160, 0, 31, 25, 4, 180, 0, 170, 89, 58, 7, 43]
abbrev dktJ4_getNode_4 : List UInt8 := dkwJ4_getNode_4 ++ dktJ4_getNode_5
def dkwJ4_getNode_3 : List UInt8 := [176, 45, 180, 0, 177, 89, 58, 4, 198, 0, 70, 45, 193, 0, 180, 153, 0, 14, 45, 192, 0, 180, 21, 6]
abbrev dktJ4_getNode_3 : List UInt8 := dkwJ4_getNode_3 ++ dktJ4_getNode_4
def dkwJ4_getNode_2 : List UInt8 := [180, 0, 170, 89, 58, 7, 43, 165, 0, 16, 43, 198, 0, 14, 43, 25, 7, 182, 0, 173, 153, 0, 5, 45]
abbrev dktJ4_getNode_2 : List UInt8 := dkwJ4_getNode_2 ++ dktJ4_getNode_3
def dkwJ4_getNode_1 : List UInt8 := [184, 0, 149, 89, 54, 6, 126, 50, 89, 78, 198, 0, 115, 45, 180, 0, 168, 21, 6, 160, 0, 29, 45]
abbrev dktJ4_getNode_1 : List UInt8 := dkwJ4_getNode_1 ++ dktJ4_getNode_2
def dkwJ4_getNode_0 : List UInt8 := [42, 180, 0, 105, 89, 77, 198, 0, 142, 44, 190, 89, 54, 5, 158, 0, 134, 44, 21, 5, 4, 100, 43]
abbrev dktJ4_getNode_0 : List UInt8 := dkwJ4_getNode_0 ++ dktJ4_getNode_1
theorem dksJ4_getNode_0 : cJ4_getNode.data.toList.drop 0 = dktJ4_getNode_0 := by decide +kernel
theorem dksJ4_getNode_1 : cJ4_getNode.data.toList.drop 23 = dktJ4_getNode_1 := dk_seg dksJ4_getNode_0 23 rfl rfl
theorem dksJ4_getNode_2 : cJ4_getNode.data.toList.drop 46 = dktJ4_getNode_2 := dk_seg dksJ4_getNode_1 23 rfl rfl
theorem dksJ4_getNode_3 : cJ4_getNode.data.toList.drop 70 = dktJ4_getNode_3 := dk_seg dksJ4_getNode_2 24 rfl rfl
theorem dksJ4_getNode_4 : cJ4_getNode.data.toList.drop 94 = dktJ4_getNode_4 := dk_seg dksJ4_getNode_3 24 rfl rfl
theorem dksJ4_getNode_5 : cJ4_getNode.data.toList.drop 118 = dktJ4_getNode_5 := dk_seg dksJ4_getNode_4 24 rfl rfl
theorem dksJ4_getNode_6 : cJ4_getNode.data.toList.drop 142 = dktJ4_getNode_6 := dk_seg dksJ4_getNode_5 24 rfl rfl
theorem dJ4_getNode_0 : decode cJ4_getNode 0 = .ok (.aload_n 0, 1) := dk_42 (dk_at dksJ4_getNode_0 0 rfl rfl)
theorem dJ4_getNode_1 : decode cJ4_getNode 1 = .ok (.getfield 105, 3) := dk_180 0 105 (dk_at dksJ4_getNode_0 1 rfl rfl)
theorem dJ4_getNode_4 : decode cJ4_getNode 4 = .ok (.dup, 1) := dk_89 (dk_at dksJ4_getNode_0 4 rfl rfl)
theorem dJ4_getNode_5 : decode cJ4_getNode 5 = .ok (.astore_n 2, 1) := dk_77 (dk_at dksJ4_getNode_0 5 rfl rfl)
theorem dJ4_getNode_6 : decode cJ4_getNode 6 = .ok (.ifnull 142, 3) := dk_198 0 142 (dk_at dksJ4_getNode_0 6 rfl rfl)
theorem dJ4_getNode_9 : decode cJ4_getNode 9 = .ok (.aload_n 2, 1) := dk_44 (dk_at dksJ4_getNode_0 9 rfl rfl)
theorem dJ4_getNode_10 : decode cJ4_getNode 10 = .ok (.arraylength, 1) := dk_190 (dk_at dksJ4_getNode_0 10 rfl rfl)
theorem dJ4_getNode_11 : decode cJ4_getNode 11 = .ok (.dup, 1) := dk_89 (dk_at dksJ4_getNode_0 11 rfl rfl)
theorem dJ4_getNode_12 : decode cJ4_getNode 12 = .ok (.istore 5, 2) := dk_54 5 (dk_at dksJ4_getNode_0 12 rfl rfl)
theorem dJ4_getNode_14 : decode cJ4_getNode 14 = .ok (.ifCond .le 134, 3) := dk_158 0 134 (dk_at dksJ4_getNode_0 14 rfl rfl)
theorem dJ4_getNode_17 : decode cJ4_getNode 17 = .ok (.aload_n 2, 1) := dk_44 (dk_at dksJ4_getNode_0 17 rfl rfl)
theorem dJ4_getNode_18 : decode cJ4_getNode 18 = .ok (.iload 5, 2) := dk_21 5 (dk_at dksJ4_getNode_0 18 rfl rfl)
theorem dJ4_getNode_20 : decode cJ4_getNode 20 = .ok (.iconst 1, 1) := dk_4 (dk_at dksJ4_getNode_0 20 rfl rfl)
theorem dJ4_getNode_21 : decode cJ4_getNode 21 = .ok (.isub, 1) := dk_100 (dk_at dksJ4_getNode_0 21 rfl rfl)
theorem dJ4_getNode_22 : decode cJ4_getNode 22 = .ok (.aload_n 1, 1) := dk_43 (dk_at dksJ4_getNode_0 22 rfl rfl)
theorem dJ4_getNode_23 : decode cJ4_getNode 23 = .ok (.invokestatic 149, 3) := dk_184 0 149 (dk_at dksJ4_getNode_1 0 rfl rfl)
theorem dJ4_getNode_26 : decode cJ4_getNode 26 = .ok (.dup, 1) := dk_89 (dk_at dksJ4_getNode_1 3 rfl rfl)
theorem dJ4_getNode_27 : decode cJ4_getNode 27 = .ok (.istore 6, 2) := dk_54 6 (dk_at dksJ4_getNode_1 4 rfl rfl)
theorem dJ4_getNode_29 : decode cJ4_getNode 29 = .ok (.iand, 1) := dk_126 (dk_at dksJ4_getNode_1 6 rfl rfl)
theorem dJ4_getNode_30 : decode cJ4_getNode 30 = .ok (.aaload, 1) := dk_50 (dk_at dksJ4_getNode_1 7 rfl rfl)
theorem dJ4_getNode_31 : decode cJ4_getNode 31 = .ok (.dup, 1) := dk_89 (dk_at dksJ4_getNode_1 8 rfl rfl)
theorem dJ4_getNode_32 : decode cJ4_getNode 32 = .ok (.astore_n 3, 1) := dk_78 (dk_at dksJ4_getNode_1 9 rfl rfl)
theorem dJ4_getNode_33 : decode cJ4_getNode 33 = .ok (.ifnull 115, 3) := dk_198 0 115 (dk_at dksJ4_getNode_1 10 rfl rfl)
theorem dJ4_getNode_36 : decode cJ4_getNode 36 = .ok (.aload_n 3, 1) := dk_45 (dk_at dksJ4_getNode_1 13 rfl rfl)
theorem dJ4_getNode_37 : decode cJ4_getNode 37 = .ok (.getfield 168, 3) := dk_180 0 168 (dk_at dksJ4_getNode_1 14 rfl rfl)
theorem dJ4_getNode_40 : decode cJ4_getNode 40 = .ok (.iload 6, 2) := dk_21 6 (dk_at dksJ4_getNode_1 17 rfl rfl)
theorem dJ4_getNode_42 : decode cJ4_getNode 42 = .ok (.if_icmp .ne 29, 3) := dk_160 0 29 (dk_at dksJ4_getNode_1 19 rfl rfl)
theorem dJ4_getNode_45 : decode cJ4_getNode 45 = .ok (.aload_n 3, 1) := dk_45 (dk_at dksJ4_getNode_1 22 rfl rfl)
theorem dJ4_getNode_46 : decode cJ4_getNode 46 = .ok (.getfield 170, 3) := dk_180 0 170 (dk_at dksJ4_getNode_2 0 rfl rfl)
theorem dJ4_getNode_49 : decode cJ4_getNode 49 = .ok (.dup, 1) := dk_89 (dk_at dksJ4_getNode_2 3 rfl rfl)
theorem dJ4_getNode_50 : decode cJ4_getNode 50 = .ok (.astore 7, 2) := dk_58 7 (dk_at dksJ4_getNode_2 4 rfl rfl)
theorem dJ4_getNode_52 : decode cJ4_getNode 52 = .ok (.aload_n 1, 1) := dk_43 (dk_at dksJ4_getNode_2 6 rfl rfl)
theorem dJ4_getNode_53 : decode cJ4_getNode 53 = .ok (.if_acmp .eq 16, 3) := dk_165 0 16 (dk_at dksJ4_getNode_2 7 rfl rfl)
theorem dJ4_getNode_56 : decode cJ4_getNode 56 = .ok (.aload_n 1, 1) := dk_43 (dk_at dksJ4_getNode_2 10 rfl rfl)
theorem dJ4_getNode_57 : decode cJ4_getNode 57 = .ok (.ifnull 14, 3) := dk_198 0 14 (dk_at dksJ4_getNode_2 11 rfl rfl)
theorem dJ4_getNode_60 : decode cJ4_getNode 60 = .ok (.aload_n 1, 1) := dk_43 (dk_at dksJ4_getNode_2 14 rfl rfl)
theorem dJ4_getNode_61 : decode cJ4_getNode 61 = .ok (.aload 7, 2) := dk_25 7 (dk_at dksJ4_getNode_2 15 rfl rfl)
theorem dJ4_getNode_63 : decode cJ4_getNode 63 = .ok (.invokevirtual 173, 3) := dk_182 0 173 (dk_at dksJ4_getNode_2 17 rfl rfl)
theorem dJ4_getNode_66 : decode cJ4_getNode 66 = .ok (.ifCond .eq 5, 3) := dk_153 0 5 (dk_at dksJ4_getNode_2 20 rfl rfl)
theorem dJ4_getNode_69 : decode cJ4_getNode 69 = .ok (.aload_n 3, 1) := dk_45 (dk_at dksJ4_getNode_2 23 rfl rfl)
theorem dJ4_getNode_70 : decode cJ4_getNode 70 = .ok (.areturn, 1) := dk_176 (dk_at dksJ4_getNode_3 0 rfl rfl)
theorem dJ4_getNode_71 : decode cJ4_getNode 71 = .ok (.aload_n 3, 1) := dk_45 (dk_at dksJ4_getNode_3 1 rfl rfl)
theorem dJ4_getNode_72 : decode cJ4_getNode 72 = .ok (.getfield 177, 3) := dk_180 0 177 (dk_at dksJ4_getNode_3 2 rfl rfl)
theorem dJ4_getNode_75 : decode cJ4_getNode 75 = .ok (.dup, 1) := dk_89 (dk_at dksJ4_getNode_3 5 rfl rfl)
theorem dJ4_getNode_76 : decode cJ4_getNode 76 = .ok (.astore 4, 2) := dk_58 4 (dk_at dksJ4_getNode_3 6 rfl rfl)
theorem dJ4_getNode_78 : decode cJ4_getNode 78 = .ok (.ifnull 70, 3) := dk_198 0 70 (dk_at dksJ4_getNode_3 8 rfl rfl)
theorem dJ4_getNode_81 : decode cJ4_getNode 81 = .ok (.aload_n 3, 1) := dk_45 (dk_at dksJ4_getNode_3 11 rfl rfl)
theorem dJ4_getNode_82 : decode cJ4_getNode 82 = .ok (.instanceof 180, 3) := dk_193 0 180 (dk_at dksJ4_getNode_3 12 rfl rfl)
theorem dJ4_getNode_85 : decode cJ4_getNode 85 = .ok (.ifCond .eq 14, 3) := dk_153 0 14 (dk_at dksJ4_getNode_3 15 rfl rfl)
theorem dJ4_getNode_88 : decode cJ4_getNode 88 = .ok (.aload_n 3, 1) := dk_45 (dk_at dksJ4_getNode_3 18 rfl rfl)
theorem dJ4_getNode_89 : decode cJ4_getNode 89 = .ok (.checkcast 180, 3) := dk_192 0 180 (dk_at dksJ4_getNode_3 19 rfl rfl)
theorem dJ4_getNode_92 : decode cJ4_getNode 92 = .ok (.iload 6, 2) := dk_21 6 (dk_at dksJ4_getNode_3 22 rfl rfl)
theorem dJ4_getNode_94 : decode cJ4_getNode 94 = .ok (.aload_n 1, 1) := dk_43 (dk_at dksJ4_getNode_4 0 rfl rfl)
theorem dJ4_getNode_95 : decode cJ4_getNode 95 = .ok (.invokevirtual 182, 3) := dk_182 0 182 (dk_at dksJ4_getNode_4 1 rfl rfl)
theorem dJ4_getNode_98 : decode cJ4_getNode 98 = .ok (.areturn, 1) := dk_176 (dk_at dksJ4_getNode_4 4 rfl rfl)
theorem dJ4_getNode_99 : decode cJ4_getNode 99 = .ok (.aload 4, 2) := dk_25 4 (dk_at dksJ4_getNode_4 5 rfl rfl)
theorem dJ4_getNode_101 : decode cJ4_getNode 101 = .ok (.getfield 168, 3) := dk_180 0 168 (dk_at dksJ4_getNode_4 7 rfl rfl)
theorem dJ4_getNode_104 : decode cJ4_getNode 104 = .ok (.iload 6, 2) := dk_21 6 (dk_at dksJ4_getNode_4 10 rfl rfl)
theorem dJ4_getNode_106 : decode cJ4_getNode 106 = .ok (.if_icmp .ne 31, 3) := dk_160 0 31 (dk_at dksJ4_getNode_4 12 rfl rfl)
theorem dJ4_getNode_109 : decode cJ4_getNode 109 = .ok (.aload 4, 2) := dk_25 4 (dk_at dksJ4_getNode_4 15 rfl rfl)
theorem dJ4_getNode_111 : decode cJ4_getNode 111 = .ok (.getfield 170, 3) := dk_180 0 170 (dk_at dksJ4_getNode_4 17 rfl rfl)
theorem dJ4_getNode_114 : decode cJ4_getNode 114 = .ok (.dup, 1) := dk_89 (dk_at dksJ4_getNode_4 20 rfl rfl)
theorem dJ4_getNode_115 : decode cJ4_getNode 115 = .ok (.astore 7, 2) := dk_58 7 (dk_at dksJ4_getNode_4 21 rfl rfl)
theorem dJ4_getNode_117 : decode cJ4_getNode 117 = .ok (.aload_n 1, 1) := dk_43 (dk_at dksJ4_getNode_4 23 rfl rfl)
theorem dJ4_getNode_118 : decode cJ4_getNode 118 = .ok (.if_acmp .eq 16, 3) := dk_165 0 16 (dk_at dksJ4_getNode_5 0 rfl rfl)
theorem dJ4_getNode_121 : decode cJ4_getNode 121 = .ok (.aload_n 1, 1) := dk_43 (dk_at dksJ4_getNode_5 3 rfl rfl)
theorem dJ4_getNode_122 : decode cJ4_getNode 122 = .ok (.ifnull 15, 3) := dk_198 0 15 (dk_at dksJ4_getNode_5 4 rfl rfl)
theorem dJ4_getNode_125 : decode cJ4_getNode 125 = .ok (.aload_n 1, 1) := dk_43 (dk_at dksJ4_getNode_5 7 rfl rfl)
theorem dJ4_getNode_126 : decode cJ4_getNode 126 = .ok (.aload 7, 2) := dk_25 7 (dk_at dksJ4_getNode_5 8 rfl rfl)
theorem dJ4_getNode_128 : decode cJ4_getNode 128 = .ok (.invokevirtual 173, 3) := dk_182 0 173 (dk_at dksJ4_getNode_5 10 rfl rfl)
theorem dJ4_getNode_131 : decode cJ4_getNode 131 = .ok (.ifCond .eq 6, 3) := dk_153 0 6 (dk_at dksJ4_getNode_5 13 rfl rfl)
theorem dJ4_getNode_134 : decode cJ4_getNode 134 = .ok (.aload 4, 2) := dk_25 4 (dk_at dksJ4_getNode_5 16 rfl rfl)
theorem dJ4_getNode_136 : decode cJ4_getNode 136 = .ok (.areturn, 1) := dk_176 (dk_at dksJ4_getNode_5 18 rfl rfl)
theorem dJ4_getNode_137 : decode cJ4_getNode 137 = .ok (.aload 4, 2) := dk_25 4 (dk_at dksJ4_getNode_5 19 rfl rfl)
theorem dJ4_getNode_139 : decode cJ4_getNode 139 = .ok (.getfield 177, 3) := dk_180 0 177 (dk_at dksJ4_getNode_5 21 rfl rfl)
theorem dJ4_getNode_142 : decode cJ4_getNode 142 = .ok (.dup, 1) := dk_89 (dk_at dksJ4_getNode_6 0 rfl rfl)
theorem dJ4_getNode_143 : decode cJ4_getNode 143 = .ok (.astore 4, 2) := dk_58 4 (dk_at dksJ4_getNode_6 1 rfl rfl)
theorem dJ4_getNode_145 : decode cJ4_getNode 145 = .ok (.ifnonnull (-46), 3) := dk_199 255 210 (dk_at dksJ4_getNode_6 3 rfl rfl)
theorem dJ4_getNode_148 : decode cJ4_getNode 148 = .ok (.aconst_null, 1) := dk_1 (dk_at dksJ4_getNode_6 6 rfl rfl)
theorem dJ4_getNode_149 : decode cJ4_getNode 149 = .ok (.areturn, 1) := dk_176 (dk_at dksJ4_getNode_6 7 rfl rfl)
def dkwJ4_hash_0 : List UInt8 := [42, 199, 0, 7, 3, 167, 0, 14, 42, 182, 0, 1, 89, 60, 27, 16, 16, 124, 130, 172]
abbrev dktJ4_hash_0 : List UInt8 := dkwJ4_hash_0 ++ []
theorem dksJ4_hash_0 : cJ4_hash.data.toList.drop 0 = dktJ4_hash_0 := by decide +kernel
theorem dJ4_hash_0 : decode cJ4_hash 0 = .ok (.aload_n 0, 1) := dk_42 (dk_at dksJ4_hash_0 0 rfl rfl)
theorem dJ4_hash_1 : decode cJ4_hash 1 = .ok (.ifnonnull 7, 3) := dk_199 0 7 (dk_at dksJ4_hash_0 1 rfl rfl)
theorem dJ4_hash_4 : decode cJ4_hash 4 = .ok (.iconst 0, 1) := dk_3 (dk_at dksJ4_hash_0 4 rfl rfl)
theorem dJ4_hash_5 : decode cJ4_hash 5 = .ok (.goto 14, 3) := dk_167 0 14 (dk_at dksJ4_hash_0 5 rfl rfl)
theorem dJ4_hash_8 : decode cJ4_hash 8 = .ok (.aload_n 0, 1) := dk_42 (dk_at dksJ4_hash_0 8 rfl rfl)
theorem dJ4_hash_9 : decode cJ4_hash 9 = .ok (.invokevirtual 1, 3) := dk_182 0 1 (dk_at dksJ4_hash_0 9 rfl rfl)
theorem dJ4_hash_12 : decode cJ4_hash 12 = .ok (.dup, 1) := dk_89 (dk_at dksJ4_hash_0 12 rfl rfl)
theorem dJ4_hash_13 : decode cJ4_hash 13 = .ok (.istore_n 1, 1) := dk_60 (dk_at dksJ4_hash_0 13 rfl rfl)
theorem dJ4_hash_14 : decode cJ4_hash 14 = .ok (.iload_n 1, 1) := dk_27 (dk_at dksJ4_hash_0 14 rfl rfl)
theorem dJ4_hash_15 : decode cJ4_hash 15 = .ok (.bipush 16, 2) := dk_16 16 (dk_at dksJ4_hash_0 15 rfl rfl)
theorem dJ4_hash_17 : decode cJ4_hash 17 = .ok (.iushr, 1) := dk_124 (dk_at dksJ4_hash_0 17 rfl rfl)
theorem dJ4_hash_18 : decode cJ4_hash 18 = .ok (.ixor, 1) := dk_130 (dk_at dksJ4_hash_0 18 rfl rfl)
theorem dJ4_hash_19 : decode cJ4_hash 19 = .ok (.ireturn, 1) := dk_172 (dk_at dksJ4_hash_0 19 rfl rfl)
def dkwJ4_put_0 : List UInt8 := [42, 43, 184, 0, 149, 43, 44, 3, 4, 182, 0, 152, 176]
abbrev dktJ4_put_0 : List UInt8 := dkwJ4_put_0 ++ []
theorem dksJ4_put_0 : cJ4_put.data.toList.drop 0 = dktJ4_put_0 := by decide +kernel
theorem dJ4_put_0 : decode cJ4_put 0 = .ok (.aload_n 0, 1) := dk_42 (dk_at dksJ4_put_0 0 rfl rfl)
theorem dJ4_put_1 : decode cJ4_put 1 = .ok (.aload_n 1, 1) := dk_43 (dk_at dksJ4_put_0 1 rfl rfl)
theorem dJ4_put_2 : decode cJ4_put 2 = .ok (.invokestatic 149, 3) := dk_184 0 149 (dk_at dksJ4_put_0 2 rfl rfl)
theorem dJ4_put_5 : decode cJ4_put 5 = .ok (.aload_n 1, 1) := dk_43 (dk_at dksJ4_put_0 5 rfl rfl)
theorem dJ4_put_6 : decode cJ4_put 6 = .ok (.aload_n 2, 1) := dk_44 (dk_at dksJ4_put_0 6 rfl rfl)
theorem dJ4_put_7 : decode cJ4_put 7 = .ok (.iconst 0, 1) := dk_3 (dk_at dksJ4_put_0 7 rfl rfl)
theorem dJ4_put_8 : decode cJ4_put 8 = .ok (.iconst 1, 1) := dk_4 (dk_at dksJ4_put_0 8 rfl rfl)
theorem dJ4_put_9 : decode cJ4_put 9 = .ok (.invokevirtual 152, 3) := dk_182 0 152 (dk_at dksJ4_put_0 9 rfl rfl)
theorem dJ4_put_12 : decode cJ4_put 12 = .ok (.areturn, 1) := dk_176 (dk_at dksJ4_put_0 12 rfl rfl)
def dkwJ4_putVal_12 : List UInt8 := [181, 0, 156, 42, 180, 0, 88, 164, 0, 8, 42, 182, 0, 117, 87, 42, 21, 5, 182, 0, 205, 1, 176]
abbrev dktJ4_putVal_12 : List UInt8 := dkwJ4_putVal_12 ++ []
def dkwJ4_putVal_11 : List UInt8 := [182, 0, 198, 25, 12, 176, 42, 89, 180, 0, 202, 4, 96, 181, 0, 202, 42, 89, 180, 0, 156, 4, 96, 90]
abbrev dktJ4_putVal_11 : List UInt8 := dkwJ4_putVal_11 ++ dktJ4_putVal_12
def dkwJ4_putVal_10 : List UInt8 := [180, 0, 162, 58, 12, 21, 4, 153, 0, 8, 25, 12, 199, 0, 9, 25, 10, 45, 181, 0, 162, 42, 25, 10]
abbrev dktJ4_putVal_10 : List UInt8 := dkwJ4_putVal_10 ++ dktJ4_putVal_11
def dkwJ4_putVal_9 : List UInt8 := [153, 0, 6, 167, 0, 13, 25, 10, 58, 7, 132, 12, 1, 167, 255, 171, 25, 10, 198, 0, 35, 25, 10]
abbrev dktJ4_putVal_9 : List UInt8 := dkwJ4_putVal_9 ++ dktJ4_putVal_10
def dkwJ4_putVal_8 : List UInt8 := [25, 10, 180, 0, 170, 89, 58, 11, 44, 165, 0, 29, 44, 198, 0, 15, 44, 25, 11, 182, 0, 173]
abbrev dktJ4_putVal_8 : List UInt8 := dkwJ4_putVal_8 ++ dktJ4_putVal_9
def dkwJ4_putVal_7 : List UInt8 := [16, 7, 161, 0, 60, 42, 25, 6, 27, 182, 0, 194, 167, 0, 50, 25, 10, 180, 0, 168, 27, 160, 0, 31]
abbrev dktJ4_putVal_7 : List UInt8 := dkwJ4_putVal_7 ++ dktJ4_putVal_8
def dkwJ4_putVal_6 : List UInt8 := [180, 0, 177, 89, 58, 10, 199, 0, 33, 25, 7, 42, 27, 44, 45, 1, 182, 0, 186, 181, 0, 177, 21, 12]
abbrev dktJ4_putVal_6 : List UInt8 := dkwJ4_putVal_6 ++ dktJ4_putVal_7
def dkwJ4_putVal_5 : List UInt8 := [192, 0, 180, 42, 25, 6, 27, 44, 45, 182, 0, 190, 58, 10, 167, 0, 94, 3, 54, 12, 25, 7]
abbrev dktJ4_putVal_5 : List UInt8 := dkwJ4_putVal_5 ++ dktJ4_putVal_6
def dkwJ4_putVal_4 : List UInt8 := [182, 0, 173, 153, 0, 10, 25, 7, 58, 10, 167, 0, 121, 25, 7, 193, 0, 180, 153, 0, 22, 25, 7]
abbrev dktJ4_putVal_4 : List UInt8 := dkwJ4_putVal_4 ++ dktJ4_putVal_5
def dkwJ4_putVal_3 : List UInt8 := [160, 0, 35, 25, 7, 180, 0, 170, 89, 58, 11, 44, 165, 0, 16, 44, 198, 0, 19, 44, 25, 11]
abbrev dktJ4_putVal_3 : List UInt8 := dkwJ4_putVal_3 ++ dktJ4_putVal_4
def dkwJ4_putVal_2 : List UInt8 := [25, 6, 21, 9, 42, 27, 44, 45, 1, 182, 0, 186, 83, 167, 0, 199, 25, 7, 180, 0, 168, 27]
abbrev dktJ4_putVal_2 : List UInt8 := dkwJ4_putVal_2 ++ dktJ4_putVal_3
def dkwJ4_putVal_1 : List UInt8 := [58, 6, 190, 54, 8, 25, 6, 21, 8, 4, 100, 27, 126, 89, 54, 9, 50, 89, 58, 7, 199, 0, 19]
abbrev dktJ4_putVal_1 : List UInt8 := dkwJ4_putVal_1 ++ dktJ4_putVal_2
def dkwJ4_putVal_0 : List UInt8 := [42, 180, 0, 105, 89, 58, 6, 198, 0, 12, 25, 6, 190, 89, 54, 8, 154, 0, 13, 42, 182, 0, 117, 89]
abbrev dktJ4_putVal_0 : List UInt8 := dkwJ4_putVal_0 ++ dktJ4_putVal_1
theorem dksJ4_putVal_0 : cJ4_putVal.data.toList.drop 0 = dktJ4_putVal_0 := by decide +kernel
theorem dksJ4_putVal_1 : cJ4_putVal.data.toList.drop 24 = dktJ4_putVal_1 := dk_seg dksJ4_putVal_0 24 rfl rfl
theorem dksJ4_putVal_2 : cJ4_putVal.data.toList.drop 47 = dktJ4_putVal_2 := dk_seg dksJ4_putVal_1 23 rfl rfl
theorem dksJ4_putVal_3 : cJ4_putVal.data.toList.drop 69 = dktJ4_putVal_3 := dk_seg dksJ4_putVal_2 22 rfl rfl
theorem dksJ4_putVal_4 : cJ4_putVal.data.toList.drop 91 = dktJ4_putVal_4 := dk_seg dksJ4_putVal_3 22 rfl rfl
theorem dksJ4_putVal_5 : cJ4_putVal.data.toList.drop 114 = dktJ4_putVal_5 := dk_seg dksJ4_putVal_4 23 rfl rfl
theorem dksJ4_putVal_6 : cJ4_putVal.data.toList.drop 136 = dktJ4_putVal_6 := dk_seg dksJ4_putVal_5 22 rfl rfl
theorem dksJ4_putVal_7 : cJ4_putVal.data.toList.drop 160 = dktJ4_putVal_7 := dk_seg dksJ4_putVal_6 24 rfl rfl
theorem dksJ4_putVal_8 : cJ4_putVal.data.toList.drop 184 = dktJ4_putVal_8 := dk_seg dksJ4_putVal_7 24 rfl rfl
theorem dksJ4_putVal_9 : cJ4_putVal.data.toList.drop 206 = dktJ4_putVal_9 := dk_seg dksJ4_putVal_8 22 rfl rfl
theorem dksJ4_putVal_10 : cJ4_putVal.data.toList.drop 229 = dktJ4_putVal_10 := dk_seg dksJ4_putVal_9 23 rfl rfl
theorem dksJ4_putVal_11 : cJ4_putVal.data.toList.drop 253 = dktJ4_putVal_11 := dk_seg dksJ4_putVal_10 24 rfl rfl
theorem dksJ4_putVal_12 : cJ4_putVal.data.toList.drop 277 = dktJ4_putVal_12 := dk_seg dksJ4_putVal_11 24 rfl rfl
theorem dJ4_putVal_0 : decode cJ4_putVal 0 = .ok (.aload_n 0, 1) := dk_42 (dk_at dksJ4_putVal_0 0 rfl rfl)
theorem dJ4_putVal_1 : decode cJ4_putVal 1 = .ok (.getfield 105, 3) := dk_180 0 105 (dk_at dksJ4_putVal_0 1 rfl rfl)
theorem dJ4_putVal_4 : decode cJ4_putVal 4 = .ok (.dup, 1) := dk_89 (dk_at dksJ4_putVal_0 4 rfl rfl)
theorem dJ4_putVal_5 : decode cJ4_putVal 5 = .ok (.astore 6, 2) := dk_58 6 (dk_at dksJ4_putVal_0 5 rfl rfl)
theorem dJ4_putVal_7 : decode cJ4_putVal 7 = .ok (.ifnull 12, 3) := dk_198 0 12 (dk_at dksJ4_putVal_0 7 rfl rfl)
theorem dJ4_putVal_10 : decode cJ4_putVal 10 = .ok (.aload 6, 2) := dk_25 6 (dk_at dksJ4_putVal_0 10 rfl rfl)
theorem dJ4_putVal_12 : decode cJ4_putVal 12 = .ok (.arraylength, 1) := dk_190 (dk_at dksJ4_putVal_0 12 rfl rfl)
theorem dJ4_putVal_13 : decode cJ4_putVal 13 = .ok (.dup, 1) := dk_89 (dk_at dksJ4_putVal_0 13 rfl rfl)
theorem dJ4_putVal_14 : decode cJ4_putVal 14 = .ok (.istore 8, 2) := dk_54 8 (dk_at dksJ4_putVal_0 14 rfl rfl)
theorem dJ4_putVal_16 : decode cJ4_putVal 16 = .ok (.ifCond .ne 13, 3) := dk_154 0 13 (dk_at dksJ4_putVal_0 16 rfl rfl)
theorem dJ4_putVal_19 : decode cJ4_putVal 19 = .ok (.aload_n 0, 1) := dk_42 (dk_at dksJ4_putVal_0 19 rfl rfl)
theorem dJ4_putVal_20 : decode cJ4_putVal 20 = .ok (.invokevirtual 117, 3) := dk_182 0 117 (dk_at dksJ4_putVal_0 20 rfl rfl)
theorem dJ4_putVal_23 : decode cJ4_putVal 23 = .ok (.dup, 1) := dk_89 (dk_at dksJ4_putVal_0 23 rfl rfl)
theorem dJ4_putVal_24 : decode cJ4_putVal 24 = .ok (.astore 6, 2) := dk_58 6 (dk_at dksJ4_putVal_1 0 rfl rfl)
theorem dJ4_putVal_26 : decode cJ4_putVal 26 = .ok (.arraylength, 1) := dk_190 (dk_at dksJ4_putVal_1 2 rfl rfl)
theorem dJ4_putVal_27 : decode cJ4_putVal 27 = .ok (.istore 8, 2) := dk_54 8 (dk_at dksJ4_putVal_1 3 rfl rfl)
theorem dJ4_putVal_29 : decode cJ4_putVal 29 = .ok (.aload 6, 2) := dk_25 6 (dk_at dksJ4_putVal_1 5 rfl rfl)
theorem dJ4_putVal_31 : decode cJ4_putVal 31 = .ok (.iload 8, 2) := dk_21 8 (dk_at dksJ4_putVal_1 7 rfl rfl)
theorem dJ4_putVal_33 : decode cJ4_putVal 33 = .ok (.iconst 1, 1) := dk_4 (dk_at dksJ4_putVal_1 9 rfl rfl)
theorem dJ4_putVal_34 : decode cJ4_putVal 34 = .ok (.isub, 1) := dk_100 (dk_at dksJ4_putVal_1 10 rfl rfl)
theorem dJ4_putVal_35 : decode cJ4_putVal 35 = .ok (.iload_n 1, 1) := dk_27 (dk_at dksJ4_putVal_1 11 rfl rfl)
theorem dJ4_putVal_36 : decode cJ4_putVal 36 = .ok (.iand, 1) := dk_126 (dk_at dksJ4_putVal_1 12 rfl rfl)
theorem dJ4_putVal_37 : decode cJ4_putVal 37 = .ok (.dup, 1) := dk_89 (dk_at dksJ4_putVal_1 13 rfl rfl)
theorem dJ4_putVal_38 : decode cJ4_putVal 38 = .ok (.istore 9, 2) := dk_54 9 (dk_at dksJ4_putVal_1 14 rfl rfl)
theorem dJ4_putVal_40 : decode cJ4_putVal 40 = .ok (.aaload, 1) := dk_50 (dk_at dksJ4_putVal_1 16 rfl rfl)
theorem dJ4_putVal_41 : decode cJ4_putVal 41 = .ok (.dup, 1) := dk_89 (dk_at dksJ4_putVal_1 17 rfl rfl)
theorem dJ4_putVal_42 : decode cJ4_putVal 42 = .ok (.astore 7, 2) := dk_58 7 (dk_at dksJ4_putVal_1 18 rfl rfl)
theorem dJ4_putVal_44 : decode cJ4_putVal 44 = .ok (.ifnonnull 19, 3) := dk_199 0 19 (dk_at dksJ4_putVal_1 20 rfl rfl)
theorem dJ4_putVal_47 : decode cJ4_putVal 47 = .ok (.aload 6, 2) := dk_25 6 (dk_at dksJ4_putVal_2 0 rfl rfl)
theorem dJ4_putVal_49 : decode cJ4_putVal 49 = .ok (.iload 9, 2) := dk_21 9 (dk_at dksJ4_putVal_2 2 rfl rfl)
theorem dJ4_putVal_51 : decode cJ4_putVal 51 = .ok (.aload_n 0, 1) := dk_42 (dk_at dksJ4_putVal_2 4 rfl rfl)
theorem dJ4_putVal_52 : decode cJ4_putVal 52 = .ok (.iload_n 1, 1) := dk_27 (dk_at dksJ4_putVal_2 5 rfl rfl)
theorem dJ4_putVal_53 : decode cJ4_putVal 53 = .ok (.aload_n 2, 1) := dk_44 (dk_at dksJ4_putVal_2 6 rfl rfl)
theorem dJ4_putVal_54 : decode cJ4_putVal 54 = .ok (.aload_n 3, 1) := dk_45 (dk_at dksJ4_putVal_2 7 rfl rfl)
theorem dJ4_putVal_55 : decode cJ4_putVal 55 = .ok (.aconst_null, 1) := dk_1 (dk_at dksJ4_putVal_2 8 rfl rfl)
theorem dJ4_putVal_56 : decode cJ4_putVal 56 = .ok (.invokevirtual 186, 3) := dk_182 0 186 (dk_at dksJ4_putVal_2 9 rfl rfl)
theorem dJ4_putVal_59 : decode cJ4_putVal 59 = .ok (.aastore, 1) := dk_83 (dk_at dksJ4_putVal_2 12 rfl rfl)
theorem dJ4_putVal_60 : decode cJ4_putVal 60 = .ok (.goto 199, 3) := dk_167 0 199 (dk_at dksJ4_putVal_2 13 rfl rfl)
theorem dJ4_putVal_63 : decode cJ4_putVal 63 = .ok (.aload 7, 2) := dk_25 7 (dk_at dksJ4_putVal_2 16 rfl rfl)
theorem dJ4_putVal_65 : decode cJ4_putVal 65 = .ok (.getfield 168, 3) := dk_180 0 168 (dk_at dksJ4_putVal_2 18 rfl rfl)
theorem dJ4_putVal_68 : decode cJ4_putVal 68 = .ok (.iload_n 1, 1) := dk_27 (dk_at dksJ4_putVal_2 21 rfl rfl)
theorem dJ4_putVal_69 : decode cJ4_putVal 69 = .ok (.if_icmp .ne 35, 3) := dk_160 0 35 (dk_at dksJ4_putVal_3 0 rfl rfl)
theorem dJ4_putVal_72 : decode cJ4_putVal 72 = .ok (.aload 7, 2) := dk_25 7 (dk_at dksJ4_putVal_3 3 rfl rfl)
theorem dJ4_putVal_74 : decode cJ4_putVal 74 = .ok (.getfield 170, 3) := dk_180 0 170 (dk_at dksJ4_putVal_3 5 rfl rfl)
theorem dJ4_putVal_77 : decode cJ4_putVal 77 = .ok (.dup, 1) := dk_89 (dk_at dksJ4_putVal_3 8 rfl rfl)
theorem dJ4_putVal_78 : decode cJ4_putVal 78 = .ok (.astore 11, 2) := dk_58 11 (dk_at dksJ4_putVal_3 9 rfl rfl)
theorem dJ4_putVal_80 : decode cJ4_putVal 80 = .ok (.aload_n 2, 1) := dk_44 (dk_at dksJ4_putVal_3 11 rfl rfl)
theorem dJ4_putVal_81 : decode cJ4_putVal 81 = .ok (.if_acmp .eq 16, 3) := dk_165 0 16 (dk_at dksJ4_putVal_3 12 rfl rfl)
theorem dJ4_putVal_84 : decode cJ4_putVal 84 = .ok (.aload_n 2, 1) := dk_44 (dk_at dksJ4_putVal_3 15 rfl rfl)
theorem dJ4_putVal_85 : decode cJ4_putVal 85 = .ok (.ifnull 19, 3) := dk_198 0 19 (dk_at dksJ4_putVal_3 16 rfl rfl)
theorem dJ4_putVal_88 : decode cJ4_putVal 88 = .ok (.aload_n 2, 1) := dk_44 (dk_at dksJ4_putVal_3 19 rfl rfl)
theorem dJ4_putVal_89 : decode cJ4_putVal 89 = .ok (.aload 11, 2) := dk_25 11 (dk_at dksJ4_putVal_3 20 rfl rfl)
theorem dJ4_putVal_91 : decode cJ4_putVal 91 = .ok (.invokevirtual 173, 3) := dk_182 0 173 (dk_at dksJ4_putVal_4 0 rfl rfl)
theorem dJ4_putVal_94 : decode cJ4_putVal 94 = .ok (.ifCond .eq 10, 3) := dk_153 0 10 (dk_at dksJ4_putVal_4 3 rfl rfl)
theorem dJ4_putVal_97 : decode cJ4_putVal 97 = .ok (.aload 7, 2) := dk_25 7 (dk_at dksJ4_putVal_4 6 rfl rfl)
theorem dJ4_putVal_99 : decode cJ4_putVal 99 = .ok (.astore 10, 2) := dk_58 10 (dk_at dksJ4_putVal_4 8 rfl rfl)
theorem dJ4_putVal_101 : decode cJ4_putVal 101 = .ok (.goto 121, 3) := dk_167 0 121 (dk_at dksJ4_putVal_4 10 rfl rfl)
theorem dJ4_putVal_104 : decode cJ4_putVal 104 = .ok (.aload 7, 2) := dk_25 7 (dk_at dksJ4_putVal_4 13 rfl rfl)
theorem dJ4_putVal_106 : decode cJ4_putVal 106 = .ok (.instanceof 180, 3) := dk_193 0 180 (dk_at dksJ4_putVal_4 15 rfl rfl)
theorem dJ4_putVal_109 : decode cJ4_putVal 109 = .ok (.ifCond .eq 22, 3) := dk_153 0 22 (dk_at dksJ4_putVal_4 18 rfl rfl)
theorem dJ4_putVal_112 : decode cJ4_putVal 112 = .ok (.aload 7, 2) := dk_25 7 (dk_at dksJ4_putVal_4 21 rfl rfl)
theorem dJ4_putVal_114 : decode cJ4_putVal 114 = .ok (.checkcast 180, 3) := dk_192 0 180 (dk_at dksJ4_putVal_5 0 rfl rfl)
theorem dJ4_putVal_117 : decode cJ4_putVal 117 = .ok (.aload_n 0, 1) := dk_42 (dk_at dksJ4_putVal_5 3 rfl rfl)
theorem dJ4_putVal_118 : decode cJ4_putVal 118 = .ok (.aload 6, 2) := dk_25 6 (dk_at dksJ4_putVal_5 4 rfl rfl)
theorem dJ4_putVal_120 : decode cJ4_putVal 120 = .ok (.iload_n 1, 1) := dk_27 (dk_at dksJ4_putVal_5 6 rfl rfl)
theorem dJ4_putVal_121 : decode cJ4_putVal 121 = .ok (.aload_n 2, 1) := dk_44 (dk_at dksJ4_putVal_5 7 rfl rfl)
theorem dJ4_putVal_122 : decode cJ4_putVal 122 = .ok (.aload_n 3, 1) := dk_45 (dk_at dksJ4_putVal_5 8 rfl rfl)
theorem dJ4_putVal_123 : decode cJ4_putVal 123 = .ok (.invokevirtual 190, 3) := dk_182 0 190 (dk_at dksJ4_putVal_5 9 rfl rfl)
theorem dJ4_putVal_126 : decode cJ4_putVal 126 = .ok (.astore 10, 2) := dk_58 10 (dk_at dksJ4_putVal_5 12 rfl rfl)
theorem dJ4_putVal_128 : decode cJ4_putVal 128 = .ok (.goto 94, 3) := dk_167 0 94 (dk_at dksJ4_putVal_5 14 rfl rfl)
theorem dJ4_putVal_131 : decode cJ4_putVal 131 = .ok (.iconst 0, 1) := dk_3 (dk_at dksJ4_putVal_5 17 rfl rfl)
theorem dJ4_putVal_132 : decode cJ4_putVal 132 = .ok (.istore 12, 2) := dk_54 12 (dk_at dksJ4_putVal_5 18 rfl rfl)
theorem dJ4_putVal_134 : decode cJ4_putVal 134 = .ok (.aload 7, 2) := dk_25 7 (dk_at dksJ4_putVal_5 20 rfl rfl)
theorem dJ4_putVal_136 : decode cJ4_putVal 136 = .ok (.getfield 177, 3) := dk_180 0 177 (dk_at dksJ4_putVal_6 0 rfl rfl)
theorem dJ4_putVal_139 : decode cJ4_putVal 139 = .ok (.dup, 1) := dk_89 (dk_at dksJ4_putVal_6 3 rfl rfl)
theorem dJ4_putVal_140 : decode cJ4_putVal 140 = .ok (.astore 10, 2) := dk_58 10 (dk_at dksJ4_putVal_6 4 rfl rfl)
theorem dJ4_putVal_142 : decode cJ4_putVal 142 = .ok (.ifnonnull 33, 3) := dk_199 0 33 (dk_at dksJ4_putVal_6 6 rfl rfl)
theorem dJ4_putVal_145 : decode cJ4_putVal 145 = .ok (.aload 7, 2) := dk_25 7 (dk_at dksJ4_putVal_6 9 rfl rfl)
theorem dJ4_putVal_147 : decode cJ4_putVal 147 = .ok (.aload_n 0, 1) := dk_42 (dk_at dksJ4_putVal_6 11 rfl rfl)
theorem dJ4_putVal_148 : decode cJ4_putVal 148 = .ok (.iload_n 1, 1) := dk_27 (dk_at dksJ4_putVal_6 12 rfl rfl)
theorem dJ4_putVal_149 : decode cJ4_putVal 149 = .ok (.aload_n 2, 1) := dk_44 (dk_at dksJ4_putVal_6 13 rfl rfl)
theorem dJ4_putVal_150 : decode cJ4_putVal 150 = .ok (.aload_n 3, 1) := dk_45 (dk_at dksJ4_putVal_6 14 rfl rfl)
theorem dJ4_putVal_151 : decode cJ4_putVal 151 = .ok (.aconst_null, 1) := dk_1 (dk_at dksJ4_putVal_6 15 rfl rfl)
theorem dJ4_putVal_152 : decode cJ4_putVal 152 = .ok (.invokevirtual 186, 3) := dk_182 0 186 (dk_at dksJ4_putVal_6 16 rfl rfl)
theorem dJ4_putVal_155 : decode cJ4_putVal 155 = .ok (.putfield 177, 3) := dk_181 0 177 (dk_at dksJ4_putVal_6 19 rfl rfl)
theorem dJ4_putVal_158 : decode cJ4_putVal 158 = .ok (.iload 12, 2) := dk_21 12 (dk_at dksJ4_putVal_6 22 rfl rfl)
theorem dJ4_putVal_160 : decode cJ4_putVal 160 = .ok (.bipush 7, 2) := dk_16 7 (dk_at dksJ4_putVal_7 0 rfl rfl)
theorem dJ4_putVal_162 : decode cJ4_putVal 162 = .ok (.if_icmp .lt 60, 3) := dk_161 0 60 (dk_at dksJ4_putVal_7 2 rfl rfl)
theorem dJ4_putVal_165 : decode cJ4_putVal 165 = .ok (.aload_n 0, 1) := dk_42 (dk_at dksJ4_putVal_7 5 rfl rfl)
theorem dJ4_putVal_166 : decode cJ4_putVal 166 = .ok (.aload 6, 2) := dk_25 6 (dk_at dksJ4_putVal_7 6 rfl rfl)
theorem dJ4_putVal_168 : decode cJ4_putVal 168 = .ok (.iload_n 1, 1) := dk_27 (dk_at dksJ4_putVal_7 8 rfl rfl)
theorem dJ4_putVal_169 : decode cJ4_putVal 169 = .ok (.invokevirtual 194, 3) := dk_182 0 194 (dk_at dksJ4_putVal_7 9 rfl rfl)
theorem dJ4_putVal_172 : decode cJ4_putVal 172 = .ok (.goto 50, 3) := dk_167 0 50 (dk_at dksJ4_putVal_7 12 rfl rfl)
theorem dJ4_putVal_175 : decode cJ4_putVal 175 = .ok (.aload 10, 2) := dk_25 10 (dk_at dksJ4_putVal_7 15 rfl rfl)
theorem dJ4_putVal_177 : decode cJ4_putVal 177 = .ok (.getfield 168, 3) := dk_180 0 168 (dk_at dksJ4_putVal_7 17 rfl rfl)
theorem dJ4_putVal_180 : decode cJ4_putVal 180 = .ok (.iload_n 1, 1) := dk_27 (dk_at dksJ4_putVal_7 20 rfl rfl)
theorem dJ4_putVal_181 : decode cJ4_putVal 181 = .ok (.if_icmp .ne 31, 3) := dk_160 0 31 (dk_at dksJ4_putVal_7 21 rfl rfl)
theorem dJ4_putVal_184 : decode cJ4_putVal 184 = .ok (.aload 10, 2) := dk_25 10 (dk_at dksJ4_putVal_8 0 rfl rfl)
theorem dJ4_putVal_186 : decode cJ4_putVal 186 = .ok (.getfield 170, 3) := dk_180 0 170 (dk_at dksJ4_putVal_8 2 rfl rfl)
theorem dJ4_putVal_189 : decode cJ4_putVal 189 = .ok (.dup, 1) := dk_89 (dk_at dksJ4_putVal_8 5 rfl rfl)
theorem dJ4_putVal_190 : decode cJ4_putVal 190 = .ok (.astore 11, 2) := dk_58 11 (dk_at dksJ4_putVal_8 6 rfl rfl)
theorem dJ4_putVal_192 : decode cJ4_putVal 192 = .ok (.aload_n 2, 1) := dk_44 (dk_at dksJ4_putVal_8 8 rfl rfl)
theorem dJ4_putVal_193 : decode cJ4_putVal 193 = .ok (.if_acmp .eq 29, 3) := dk_165 0 29 (dk_at dksJ4_putVal_8 9 rfl rfl)
theorem dJ4_putVal_196 : decode cJ4_putVal 196 = .ok (.aload_n 2, 1) := dk_44 (dk_at dksJ4_putVal_8 12 rfl rfl)
theorem dJ4_putVal_197 : decode cJ4_putVal 197 = .ok (.ifnull 15, 3) := dk_198 0 15 (dk_at dksJ4_putVal_8 13 rfl rfl)
theorem dJ4_putVal_200 : decode cJ4_putVal 200 = .ok (.aload_n 2, 1) := dk_44 (dk_at dksJ4_putVal_8 16 rfl rfl)
theorem dJ4_putVal_201 : decode cJ4_putVal 201 = .ok (.aload 11, 2) := dk_25 11 (dk_at dksJ4_putVal_8 17 rfl rfl)
theorem dJ4_putVal_203 : decode cJ4_putVal 203 = .ok (.invokevirtual 173, 3) := dk_182 0 173 (dk_at dksJ4_putVal_8 19 rfl rfl)
theorem dJ4_putVal_206 : decode cJ4_putVal 206 = .ok (.ifCond .eq 6, 3) := dk_153 0 6 (dk_at dksJ4_putVal_9 0 rfl rfl)
theorem dJ4_putVal_209 : decode cJ4_putVal 209 = .ok (.goto 13, 3) := dk_167 0 13 (dk_at dksJ4_putVal_9 3 rfl rfl)
theorem dJ4_putVal_212 : decode cJ4_putVal 212 = .ok (.aload 10, 2) := dk_25 10 (dk_at dksJ4_putVal_9 6 rfl rfl)
theorem dJ4_putVal_214 : decode cJ4_putVal 214 = .ok (.astore 7, 2) := dk_58 7 (dk_at dksJ4_putVal_9 8 rfl rfl)
theorem dJ4_putVal_216 : decode cJ4_putVal 216 = .ok (.iinc 12 1, 3) := dk_132 12 1 (dk_at dksJ4_putVal_9 10 rfl rfl)
theorem dJ4_putVal_219 : decode cJ4_putVal 219 = .ok (.goto (-85), 3) := dk_167 255 171 (dk_at dksJ4_putVal_9 13 rfl rfl)
theorem dJ4_putVal_222 : decode cJ4_putVal 222 = .ok (.aload 10, 2) := dk_25 10 (dk_at dksJ4_putVal_9 16 rfl rfl)
theorem dJ4_putVal_224 : decode cJ4_putVal 224 = .ok (.ifnull 35, 3) := dk_198 0 35 (dk_at dksJ4_putVal_9 18 rfl rfl)
theorem dJ4_putVal_227 : decode cJ4_putVal 227 = .ok (.aload 10, 2) := dk_25 10 (dk_at dksJ4_putVal_9 21 rfl rfl)
theorem dJ4_putVal_229 : decode cJ4_putVal 229 = .ok (.getfield 162, 3) := dk_180 0 162 (dk_at dksJ4_putVal_10 0 rfl rfl)
theorem dJ4_putVal_232 : decode cJ4_putVal 232 = .ok (.astore 12, 2) := dk_58 12 (dk_at dksJ4_putVal_10 3 rfl rfl)
theorem dJ4_putVal_234 : decode cJ4_putVal 234 = .ok (.iload 4, 2) := dk_21 4 (dk_at dksJ4_putVal_10 5 rfl rfl)
theorem dJ4_putVal_236 : decode cJ4_putVal 236 = .ok (.ifCond .eq 8, 3) := dk_153 0 8 (dk_at dksJ4_putVal_10 7 rfl rfl)
theorem dJ4_putVal_239 : decode cJ4_putVal 239 = .ok (.aload 12, 2) := dk_25 12 (dk_at dksJ4_putVal_10 10 rfl rfl)
theorem dJ4_putVal_241 : decode cJ4_putVal 241 = .ok (.ifnonnull 9, 3) := dk_199 0 9 (dk_at dksJ4_putVal_10 12 rfl rfl)
theorem dJ4_putVal_244 : decode cJ4_putVal 244 = .ok (.aload 10, 2) := dk_25 10 (dk_at dksJ4_putVal_10 15 rfl rfl)
theorem dJ4_putVal_246 : decode cJ4_putVal 246 = .ok (.aload_n 3, 1) := dk_45 (dk_at dksJ4_putVal_10 17 rfl rfl)
theorem dJ4_putVal_247 : decode cJ4_putVal 247 = .ok (.putfield 162, 3) := dk_181 0 162 (dk_at dksJ4_putVal_10 18 rfl rfl)
theorem dJ4_putVal_250 : decode cJ4_putVal 250 = .ok (.aload_n 0, 1) := dk_42 (dk_at dksJ4_putVal_10 21 rfl rfl)
theorem dJ4_putVal_251 : decode cJ4_putVal 251 = .ok (.aload 10, 2) := dk_25 10 (dk_at dksJ4_putVal_10 22 rfl rfl)
theorem dJ4_putVal_253 : decode cJ4_putVal 253 = .ok (.invokevirtual 198, 3) := dk_182 0 198 (dk_at dksJ4_putVal_11 0 rfl rfl)
theorem dJ4_putVal_256 : decode cJ4_putVal 256 = .ok (.aload 12, 2) := dk_25 12 (dk_at dksJ4_putVal_11 3 rfl rfl)
theorem dJ4_putVal_258 : decode cJ4_putVal 258 = .ok (.areturn, 1) := dk_176 (dk_at dksJ4_putVal_11 5 rfl rfl)
theorem dJ4_putVal_259 : decode cJ4_putVal 259 = .ok (.aload_n 0, 1) := dk_42 (dk_at dksJ4_putVal_11 6 rfl rfl)
theorem dJ4_putVal_260 : decode cJ4_putVal 260 = .ok (.dup, 1) := dk_89 (dk_at dksJ4_putVal_11 7 rfl rfl)
theorem dJ4_putVal_261 : decode cJ4_putVal 261 = .ok (.getfield 202, 3) := dk_180 0 202 (dk_at dksJ4_putVal_11 8 rfl rfl)
theorem dJ4_putVal_264 : decode cJ4_putVal 264 = .ok (.iconst 1, 1) := dk_4 (dk_at dksJ4_putVal_11 11 rfl rfl)
theorem dJ4_putVal_265 : decode cJ4_putVal 265 = .ok (.iadd, 1) := dk_96 (dk_at dksJ4_putVal_11 12 rfl rfl)
theorem dJ4_putVal_266 : decode cJ4_putVal 266 = .ok (.putfield 202, 3) := dk_181 0 202 (dk_at dksJ4_putVal_11 13 rfl rfl)
theorem dJ4_putVal_269 : decode cJ4_putVal 269 = .ok (.aload_n 0, 1) := dk_42 (dk_at dksJ4_putVal_11 16 rfl rfl)
theorem dJ4_putVal_270 : decode cJ4_putVal 270 = .ok (.dup, 1) := dk_89 (dk_at dksJ4_putVal_11 17 rfl rfl)
theorem dJ4_putVal_271 : decode cJ4_putVal 271 = .ok (.getfield 156, 3) := dk_180 0 156 (dk_at dksJ4_putVal_11 18 rfl rfl)
theorem dJ4_putVal_274 : decode cJ4_putVal 274 = .ok (.iconst 1, 1) := dk_4 (dk_at dksJ4_putVal_11 21 rfl rfl)
theorem dJ4_putVal_275 : decode cJ4_putVal 275 = .ok (.iadd, 1) := dk_96 (dk_at dksJ4_putVal_11 22 rfl rfl)
theorem dJ4_putVal_276 : decode cJ4_putVal 276 = .ok (.dup_x1, 1) := dk_90 (dk_at dksJ4_putVal_11 23 rfl rfl)
theorem dJ4_putVal_277 : decode cJ4_putVal 277 = .ok (.putfield 156, 3) := dk_181 0 156 (dk_at dksJ4_putVal_12 0 rfl rfl)
theorem dJ4_putVal_280 : decode cJ4_putVal 280 = .ok (.aload_n 0, 1) := dk_42 (dk_at dksJ4_putVal_12 3 rfl rfl)
theorem dJ4_putVal_281 : decode cJ4_putVal 281 = .ok (.getfield 88, 3) := dk_180 0 88 (dk_at dksJ4_putVal_12 4 rfl rfl)
theorem dJ4_putVal_284 : decode cJ4_putVal 284 = .ok (.if_icmp .le 8, 3) := dk_164 0 8 (dk_at dksJ4_putVal_12 7 rfl rfl)
theorem dJ4_putVal_287 : decode cJ4_putVal 287 = .ok (.aload_n 0, 1) := dk_42 (dk_at dksJ4_putVal_12 10 rfl rfl)
theorem dJ4_putVal_288 : decode cJ4_putVal 288 = .ok (.invokevirtual 117, 3) := dk_182 0 117 (dk_at dksJ4_putVal_12 11 rfl rfl)
theorem dJ4_putVal_291 : decode cJ4_putVal 291 = .ok (.pop, 1) := dk_87 (dk_at dksJ4_putVal_12 14 rfl rfl)
theorem dJ4_putVal_292 : decode cJ4_putVal 292 = .ok (.aload_n 0, 1) := dk_42 (dk_at dksJ4_putVal_12 15 rfl rfl)
theorem dJ4_putVal_293 : decode cJ4_putVal 293 = .ok (.iload 5, 2) := dk_21 5 (dk_at dksJ4_putVal_12 16 rfl rfl)
theorem dJ4_putVal_295 : decode cJ4_putVal 295 = .ok (.invokevirtual 205, 3) := dk_182 0 205 (dk_at dksJ4_putVal_12 18 rfl rfl)
theorem dJ4_putVal_298 : decode cJ4_putVal 298 = .ok (.aconst_null, 1) := dk_1 (dk_at dksJ4_putVal_12 21 rfl rfl)
theorem dJ4_putVal_299 : decode cJ4_putVal 299 = .ok (.areturn, 1) := dk_176 (dk_at dksJ4_putVal_12 22 rfl rfl)
def dkwJ4_resize_15 : List UInt8 := [25, 6, 176]
abbrev dktJ4_resize_15 : List UInt8 := dkwJ4_resize_15 ++ []
def dkwJ4_resize_14 : List UInt8 := [198, 0, 18, 25, 12, 1, 181, 0, 177, 25, 6, 21, 7, 28, 96, 25, 11, 83, 132, 7, 1, 167, 255, 57]
abbrev dktJ4_resize_14 : List UInt8 := dkwJ4_resize_14 ++ dktJ4_resize_15
def dkwJ4_resize_13 : List UInt8 := [199, 255, 185, 25, 10, 198, 0, 16, 25, 10, 1, 181, 0, 177, 25, 6, 21, 7, 25, 9, 83, 25, 12]
abbrev dktJ4_resize_13 : List UInt8 := dkwJ4_resize_13 ++ dktJ4_resize_14
def dkwJ4_resize_12 : List UInt8 := [25, 8, 58, 11, 167, 0, 10, 25, 12, 25, 8, 181, 0, 177, 25, 8, 58, 12, 25, 13, 89, 58, 8]
abbrev dktJ4_resize_12 : List UInt8 := dkwJ4_resize_12 ++ dktJ4_resize_13
def dkwJ4_resize_11 : List UInt8 := [58, 9, 167, 0, 10, 25, 10, 25, 8, 181, 0, 177, 25, 8, 58, 10, 167, 0, 26, 25, 12, 199, 0, 10]
abbrev dktJ4_resize_11 : List UInt8 := dkwJ4_resize_11 ++ dktJ4_resize_12
def dkwJ4_resize_10 : List UInt8 := [25, 8, 180, 0, 177, 58, 13, 25, 8, 180, 0, 168, 28, 126, 154, 0, 29, 25, 10, 199, 0, 10, 25, 8]
abbrev dktJ4_resize_10 : List UInt8 := dkwJ4_resize_10 ++ dktJ4_resize_11
def dkwJ4_resize_9 : List UInt8 := [42, 25, 6, 21, 7, 28, 182, 0, 211, 167, 0, 127, 1, 58, 9, 1, 58, 10, 1, 58, 11, 1, 58, 12]
abbrev dktJ4_resize_9 : List UInt8 := dkwJ4_resize_9 ++ dktJ4_resize_10
def dkwJ4_resize_8 : List UInt8 := [21, 4, 4, 100, 126, 25, 8, 83, 167, 0, 152, 25, 8, 193, 0, 180, 153, 0, 20, 25, 8, 192, 0, 180]
abbrev dktJ4_resize_8 : List UInt8 := dkwJ4_resize_8 ++ dktJ4_resize_9
def dkwJ4_resize_7 : List UInt8 := [198, 0, 183, 43, 21, 7, 1, 83, 25, 8, 180, 0, 177, 199, 0, 21, 25, 6, 25, 8, 180, 0, 168]
abbrev dktJ4_resize_7 : List UInt8 := dkwJ4_resize_7 ++ dktJ4_resize_8
def dkwJ4_resize_6 : List UInt8 := [181, 0, 105, 43, 198, 0, 208, 3, 54, 7, 21, 7, 28, 162, 0, 199, 43, 21, 7, 50, 89, 58, 8]
abbrev dktJ4_resize_6 : List UInt8 := dkwJ4_resize_6 ++ dktJ4_resize_7
def dkwJ4_resize_5 : List UInt8 := [167, 0, 5, 18, 209, 54, 5, 42, 21, 5, 181, 0, 88, 21, 4, 189, 0, 163, 58, 6, 42, 25, 6]
abbrev dktJ4_resize_5 : List UInt8 := dkwJ4_resize_5 ++ dktJ4_resize_6
def dkwJ4_resize_4 : List UInt8 := [180, 0, 81, 106, 56, 6, 21, 4, 18, 42, 162, 0, 17, 23, 6, 18, 210, 150, 156, 0, 9, 23, 6, 139]
abbrev dktJ4_resize_4 : List UInt8 := dkwJ4_resize_4 ++ dktJ4_resize_5
def dkwJ4_resize_3 : List UInt8 := [54, 4, 167, 0, 11, 16, 16, 54, 4, 16, 12, 54, 5, 21, 5, 154, 0, 38, 21, 4, 134, 42]
abbrev dktJ4_resize_3 : List UInt8 := dkwJ4_resize_3 ++ dktJ4_resize_4
def dkwJ4_resize_2 : List UInt8 := [18, 42, 162, 0, 35, 28, 16, 16, 161, 0, 29, 29, 4, 120, 54, 5, 167, 0, 21, 29, 158, 0, 9, 29]
abbrev dktJ4_resize_2 : List UInt8 := dkwJ4_resize_2 ++ dktJ4_resize_3
def dkwJ4_resize_1 : List UInt8 := [28, 158, 0, 42, 28, 18, 42, 161, 0, 11, 42, 18, 209, 181, 0, 88, 43, 176, 28, 4, 120, 89, 54, 4]
abbrev dktJ4_resize_1 : List UInt8 := dkwJ4_resize_1 ++ dktJ4_resize_2
def dkwJ4_resize_0 : List UInt8 := [42, 180, 0, 105, 76, 43, 199, 0, 7, 3, 167, 0, 5, 43, 190, 61, 42, 180, 0, 88, 62, 3, 54, 5]
abbrev dktJ4_resize_0 : List UInt8 := dkwJ4_resize_0 ++ dktJ4_resize_1
theorem dksJ4_resize_0 : cJ4_resize.data.toList.drop 0 = dktJ4_resize_0 := by decide +kernel
theorem dksJ4_resize_1 : cJ4_resize.data.toList.drop 24 = dktJ4_resize_1 := dk_seg dksJ4_resize_0 24 rfl rfl
theorem dksJ4_resize_2 : cJ4_resize.data.toList.drop 48 = dktJ4_resize_2 := dk_seg dksJ4_resize_1 24 rfl rfl
theorem dksJ4_resize_3 : cJ4_resize.data.toList.drop 72 = dktJ4_resize_3 := dk_seg dksJ4_resize_2 24 rfl rfl
theorem dksJ4_resize_4 : cJ4_resize.data.toList.drop 94 = dktJ4_resize_4 := dk_seg dksJ4_resize_3 22 rfl rfl
theorem dksJ4_resize_5 : cJ4_resize.data.toList.drop 118 = dktJ4_resize_5 := dk_seg dksJ4_resize_4 24 rfl rfl
theorem dksJ4_resize_6 : cJ4_resize.data.toList.drop 141 = dktJ4_resize_6 := dk_seg dksJ4_resize_5 23 rfl rfl
theorem dksJ4_resize_7 : cJ4_resize.data.toList.drop 164 = dktJ4_resize_7 := dk_seg dksJ4_resize_6 23 rfl rfl
theorem dksJ4_resize_8 : cJ4_resize.data.toList.drop 187 = dktJ4_resize_8 := dk_seg dksJ4_resize_7 23 rfl rfl
theorem dksJ4_resize_9 : cJ4_resize.data.toList.drop 211 = dktJ4_resize_9 := dk_seg dksJ4_resize_8 24 rfl rfl
theorem dksJ4_resize_10 : cJ4_resize.data.toList.drop 235 = dktJ4_resize_10 := dk_seg dksJ4_resize_9 24 rfl rfl
theorem dksJ4_resize_11 : cJ4_resize.data.toList.drop 259 = dktJ4_resize_11 := dk_seg dksJ4_resize_10 24 rfl rfl
theorem dksJ4_resize_12 : cJ4_resize.data.toList.drop 283 = dktJ4_resize_12 := dk_seg dksJ4_resize_11 24 rfl rfl
theorem dksJ4_resize_13 : cJ4_resize.data.toList.drop 306 = dktJ4_resize_13 := dk_seg dksJ4_resize_12 23 rfl rfl
theorem dksJ4_resize_14 : cJ4_resize.data.toList.drop 329 = dktJ4_resize_14 := dk_seg dksJ4_resize_13 23 rfl rfl
theorem dksJ4_resize_15 : cJ4_resize.data.toList.drop 353 = dktJ4_resize_15 := dk_seg dksJ4_resize_14 24 rfl rfl
theorem dJ4_resize_0 : decode cJ4_resize 0 = .ok (.aload_n 0, 1) := dk_42 (dk_at dksJ4_resize_0 0 rfl rfl)
theorem dJ4_resize_1 : decode cJ4_resize 1 = .ok (.getfield 105, 3) := dk_180 0 105 (dk_at dksJ4_resize_0 1 rfl rfl)
theorem dJ4_resize_4 : decode cJ4_resize 4 = .ok (.astore_n 1, 1) := dk_76 (dk_at dksJ4_resize_0 4 rfl rfl)
theorem dJ4_resize_5 : decode cJ4_resize 5 = .ok (.aload_n 1, 1) := dk_43 (dk_at dksJ4_resize_0 5 rfl rfl)
theorem dJ4_resize_6 : decode cJ4_resize 6 = .ok (.ifnonnull 7, 3) := dk_199 0 7 (dk_at dksJ4_resize_0 6 rfl rfl)
theorem dJ4_resize_9 : decode cJ4_resize 9 = .ok (.iconst 0, 1) := dk_3 (dk_at dksJ4_resize_0 9 rfl rfl)
theorem dJ4_resize_10 : decode cJ4_resize 10 = .ok (.goto 5, 3) := dk_167 0 5 (dk_at dksJ4_resize_0 10 rfl rfl)
theorem dJ4_resize_13 : decode cJ4_resize 13 = .ok (.aload_n 1, 1) := dk_43 (dk_at dksJ4_resize_0 13 rfl rfl)
theorem dJ4_resize_14 : decode cJ4_resize 14 = .ok (.arraylength, 1) := dk_190 (dk_at dksJ4_resize_0 14 rfl rfl)
theorem dJ4_resize_15 : decode cJ4_resize 15 = .ok (.istore_n 2, 1) := dk_61 (dk_at dksJ4_resize_0 15 rfl rfl)
theorem dJ4_resize_16 : decode cJ4_resize 16 = .ok (.aload_n 0, 1) := dk_42 (dk_at dksJ4_resize_0 16 rfl rfl)
theorem dJ4_resize_17 : decode cJ4_resize 17 = .ok (.getfield 88, 3) := dk_180 0 88 (dk_at dksJ4_resize_0 17 rfl rfl)
theorem dJ4_resize_20 : decode cJ4_resize 20 = .ok (.istore_n 3, 1) := dk_62 (dk_at dksJ4_resize_0 20 rfl rfl)
theorem dJ4_resize_21 : decode cJ4_resize 21 = .ok (.iconst 0, 1) := dk_3 (dk_at dksJ4_resize_0 21 rfl rfl)
theorem dJ4_resize_22 : decode cJ4_resize 22 = .ok (.istore 5, 2) := dk_54 5 (dk_at dksJ4_resize_0 22 rfl rfl)
theorem dJ4_resize_24 : decode cJ4_resize 24 = .ok (.iload_n 2, 1) := dk_28 (dk_at dksJ4_resize_1 0 rfl rfl)
theorem dJ4_resize_25 : decode cJ4_resize 25 = .ok (.ifCond .le 42, 3) := dk_158 0 42 (dk_at dksJ4_resize_1 1 rfl rfl)
theorem dJ4_resize_28 : decode cJ4_resize 28 = .ok (.iload_n 2, 1) := dk_28 (dk_at dksJ4_resize_1 4 rfl rfl)
theorem dJ4_resize_29 : decode cJ4_resize 29 = .ok (.ldc 42, 2) := dk_18 42 (dk_at dksJ4_resize_1 5 rfl rfl)
theorem dJ4_resize_31 : decode cJ4_resize 31 = .ok (.if_icmp .lt 11, 3) := dk_161 0 11 (dk_at dksJ4_resize_1 7 rfl rfl)
theorem dJ4_resize_34 : decode cJ4_resize 34 = .ok (.aload_n 0, 1) := dk_42 (dk_at dksJ4_resize_1 10 rfl rfl)
theorem dJ4_resize_35 : decode cJ4_resize 35 = .ok (.ldc 209, 2) := dk_18 209 (dk_at dksJ4_resize_1 11 rfl rfl)
theorem dJ4_resize_37 : decode cJ4_resize 37 = .ok (.putfield 88, 3) := dk_181 0 88 (dk_at dksJ4_resize_1 13 rfl rfl)
theorem dJ4_resize_40 : decode cJ4_resize 40 = .ok (.aload_n 1, 1) := dk_43 (dk_at dksJ4_resize_1 16 rfl rfl)
theorem dJ4_resize_41 : decode cJ4_resize 41 = .ok (.areturn, 1) := dk_176 (dk_at dksJ4_resize_1 17 rfl rfl)
theorem dJ4_resize_42 : decode cJ4_resize 42 = .ok (.iload_n 2, 1) := dk_28 (dk_at dksJ4_resize_1 18 rfl rfl)
theorem dJ4_resize_43 : decode cJ4_resize 43 = .ok (.iconst 1, 1) := dk_4 (dk_at dksJ4_resize_1 19 rfl rfl)
theorem dJ4_resize_44 : decode cJ4_resize 44 = .ok (.ishl, 1) := dk_120 (dk_at dksJ4_resize_1 20 rfl rfl)
theorem dJ4_resize_45 : decode cJ4_resize 45 = .ok (.dup, 1) := dk_89 (dk_at dksJ4_resize_1 21 rfl rfl)
theorem dJ4_resize_46 : decode cJ4_resize 46 = .ok (.istore 4, 2) := dk_54 4 (dk_at dksJ4_resize_1 22 rfl rfl)
theorem dJ4_resize_48 : decode cJ4_resize 48 = .ok (.ldc 42, 2) := dk_18 42 (dk_at dksJ4_resize_2 0 rfl rfl)
theorem dJ4_resize_50 : decode cJ4_resize 50 = .ok (.if_icmp .ge 35, 3) := dk_162 0 35 (dk_at dksJ4_resize_2 2 rfl rfl)
theorem dJ4_resize_53 : decode cJ4_resize 53 = .ok (.iload_n 2, 1) := dk_28 (dk_at dksJ4_resize_2 5 rfl rfl)
theorem dJ4_resize_54 : decode cJ4_resize 54 = .ok (.bipush 16, 2) := dk_16 16 (dk_at dksJ4_resize_2 6 rfl rfl)
theorem dJ4_resize_56 : decode cJ4_resize 56 = .ok (.if_icmp .lt 29, 3) := dk_161 0 29 (dk_at dksJ4_resize_2 8 rfl rfl)
theorem dJ4_resize_59 : decode cJ4_resize 59 = .ok (.iload_n 3, 1) := dk_29 (dk_at dksJ4_resize_2 11 rfl rfl)
theorem dJ4_resize_60 : decode cJ4_resize 60 = .ok (.iconst 1, 1) := dk_4 (dk_at dksJ4_resize_2 12 rfl rfl)
theorem dJ4_resize_61 : decode cJ4_resize 61 = .ok (.ishl, 1) := dk_120 (dk_at dksJ4_resize_2 13 rfl rfl)
theorem dJ4_resize_62 : decode cJ4_resize 62 = .ok (.istore 5, 2) := dk_54 5 (dk_at dksJ4_resize_2 14 rfl rfl)
theorem dJ4_resize_64 : decode cJ4_resize 64 = .ok (.goto 21, 3) := dk_167 0 21 (dk_at dksJ4_resize_2 16 rfl rfl)
theorem dJ4_resize_67 : decode cJ4_resize 67 = .ok (.iload_n 3, 1) := dk_29 (dk_at dksJ4_resize_2 19 rfl rfl)
theorem dJ4_resize_68 : decode cJ4_resize 68 = .ok (.ifCond .le 9, 3) := dk_158 0 9 (dk_at dksJ4_resize_2 20 rfl rfl)
theorem dJ4_resize_71 : decode cJ4_resize 71 = .ok (.iload_n 3, 1) := dk_29 (dk_at dksJ4_resize_2 23 rfl rfl)
theorem dJ4_resize_72 : decode cJ4_resize 72 = .ok (.istore 4, 2) := dk_54 4 (dk_at dksJ4_resize_3 0 rfl rfl)
theorem dJ4_resize_74 : decode cJ4_resize 74 = .ok (.goto 11, 3) := dk_167 0 11 (dk_at dksJ4_resize_3 2 rfl rfl)
theorem dJ4_resize_77 : decode cJ4_resize 77 = .ok (.bipush 16, 2) := dk_16 16 (dk_at dksJ4_resize_3 5 rfl rfl)
theorem dJ4_resize_79 : decode cJ4_resize 79 = .ok (.istore 4, 2) := dk_54 4 (dk_at dksJ4_resize_3 7 rfl rfl)
theorem dJ4_resize_81 : decode cJ4_resize 81 = .ok (.bipush 12, 2) := dk_16 12 (dk_at dksJ4_resize_3 9 rfl rfl)
theorem dJ4_resize_83 : decode cJ4_resize 83 = .ok (.istore 5, 2) := dk_54 5 (dk_at dksJ4_resize_3 11 rfl rfl)
theorem dJ4_resize_85 : decode cJ4_resize 85 = .ok (.iload 5, 2) := dk_21 5 (dk_at dksJ4_resize_3 13 rfl rfl)
theorem dJ4_resize_87 : decode cJ4_resize 87 = .ok (.ifCond .ne 38, 3) := dk_154 0 38 (dk_at dksJ4_resize_3 15 rfl rfl)
theorem dJ4_resize_90 : decode cJ4_resize 90 = .ok (.iload 4, 2) := dk_21 4 (dk_at dksJ4_resize_3 18 rfl rfl)
theorem dJ4_resize_92 : decode cJ4_resize 92 = .ok (.i2f, 1) := dk_134 (dk_at dksJ4_resize_3 20 rfl rfl)
theorem dJ4_resize_93 : decode cJ4_resize 93 = .ok (.aload_n 0, 1) := dk_42 (dk_at dksJ4_resize_3 21 rfl rfl)
theorem dJ4_resize_94 : decode cJ4_resize 94 = .ok (.getfield 81, 3) := dk_180 0 81 (dk_at dksJ4_resize_4 0 rfl rfl)
theorem dJ4_resize_97 : decode cJ4_resize 97 = .ok (.fmul, 1) := dk_106 (dk_at dksJ4_resize_4 3 rfl rfl)
theorem dJ4_resize_98 : decode cJ4_resize 98 = .ok (.fstore 6, 2) := dk_56 6 (dk_at dksJ4_resize_4 4 rfl rfl)
theorem dJ4_resize_100 : decode cJ4_resize 100 = .ok (.iload 4, 2) := dk_21 4 (dk_at dksJ4_resize_4 6 rfl rfl)
theorem dJ4_resize_102 : decode cJ4_resize 102 = .ok (.ldc 42, 2) := dk_18 42 (dk_at dksJ4_resize_4 8 rfl rfl)
theorem dJ4_resize_104 : decode cJ4_resize 104 = .ok (.if_icmp .ge 17, 3) := dk_162 0 17 (dk_at dksJ4_resize_4 10 rfl rfl)
theorem dJ4_resize_107 : decode cJ4_resize 107 = .ok (.fload 6, 2) := dk_23 6 (dk_at dksJ4_resize_4 13 rfl rfl)
theorem dJ4_resize_109 : decode cJ4_resize 109 = .ok (.ldc 210, 2) := dk_18 210 (dk_at dksJ4_resize_4 15 rfl rfl)
theorem dJ4_resize_111 : decode cJ4_resize 111 = .ok (.fcmp .g, 1) := dk_150 (dk_at dksJ4_resize_4 17 rfl rfl)
theorem dJ4_resize_112 : decode cJ4_resize 112 = .ok (.ifCond .ge 9, 3) := dk_156 0 9 (dk_at dksJ4_resize_4 18 rfl rfl)
theorem dJ4_resize_115 : decode cJ4_resize 115 = .ok (.fload 6, 2) := dk_23 6 (dk_at dksJ4_resize_4 21 rfl rfl)
theorem dJ4_resize_117 : decode cJ4_resize 117 = .ok (.f2i, 1) := dk_139 (dk_at dksJ4_resize_4 23 rfl rfl)
theorem dJ4_resize_118 : decode cJ4_resize 118 = .ok (.goto 5, 3) := dk_167 0 5 (dk_at dksJ4_resize_5 0 rfl rfl)
theorem dJ4_resize_121 : decode cJ4_resize 121 = .ok (.ldc 209, 2) := dk_18 209 (dk_at dksJ4_resize_5 3 rfl rfl)
theorem dJ4_resize_123 : decode cJ4_resize 123 = .ok (.istore 5, 2) := dk_54 5 (dk_at dksJ4_resize_5 5 rfl rfl)
theorem dJ4_resize_125 : decode cJ4_resize 125 = .ok (.aload_n 0, 1) := dk_42 (dk_at dksJ4_resize_5 7 rfl rfl)
theorem dJ4_resize_126 : decode cJ4_resize 126 = .ok (.iload 5, 2) := dk_21 5 (dk_at dksJ4_resize_5 8 rfl rfl)
theorem dJ4_resize_128 : decode cJ4_resize 128 = .ok (.putfield 88, 3) := dk_181 0 88 (dk_at dksJ4_resize_5 10 rfl rfl)
theorem dJ4_resize_131 : decode cJ4_resize 131 = .ok (.iload 4, 2) := dk_21 4 (dk_at dksJ4_resize_5 13 rfl rfl)
theorem dJ4_resize_133 : decode cJ4_resize 133 = .ok (.anewarray 163, 3) := dk_189 0 163 (dk_at dksJ4_resize_5 15 rfl rfl)
theorem dJ4_resize_136 : decode cJ4_resize 136 = .ok (.astore 6, 2) := dk_58 6 (dk_at dksJ4_resize_5 18 rfl rfl)
theorem dJ4_resize_138 : decode cJ4_resize 138 = .ok (.aload_n 0, 1) := dk_42 (dk_at dksJ4_resize_5 20 rfl rfl)
theorem dJ4_resize_139 : decode cJ4_resize 139 = .ok (.aload 6, 2) := dk_25 6 (dk_at dksJ4_resize_5 21 rfl rfl)
theorem dJ4_resize_141 : decode cJ4_resize 141 = .ok (.putfield 105, 3) := dk_181 0 105 (dk_at dksJ4_resize_6 0 rfl rfl)
theorem dJ4_resize_144 : decode cJ4_resize 144 = .ok (.aload_n 1, 1) := dk_43 (dk_at dksJ4_resize_6 3 rfl rfl)
theorem dJ4_resize_145 : decode cJ4_resize 145 = .ok (.ifnull 208, 3) := dk_198 0 208 (dk_at dksJ4_resize_6 4 rfl rfl)
theorem dJ4_resize_148 : decode cJ4_resize 148 = .ok (.iconst 0, 1) := dk_3 (dk_at dksJ4_resize_6 7 rfl rfl)
theorem dJ4_resize_149 : decode cJ4_resize 149 = .ok (.istore 7, 2) := dk_54 7 (dk_at dksJ4_resize_6 8 rfl rfl)
theorem dJ4_resize_151 : decode cJ4_resize 151 = .ok (.iload 7, 2) := dk_21 7 (dk_at dksJ4_resize_6 10 rfl rfl)
theorem dJ4_resize_153 : decode cJ4_resize 153 = .ok (.iload_n 2, 1) := dk_28 (dk_at dksJ4_resize_6 12 rfl rfl)
theorem dJ4_resize_154 : decode cJ4_resize 154 = .ok (.if_icmp .ge 199, 3) := dk_162 0 199 (dk_at dksJ4_resize_6 13 rfl rfl)
theorem dJ4_resize_157 : decode cJ4_resize 157 = .ok (.aload_n 1, 1) := dk_43 (dk_at dksJ4_resize_6 16 rfl rfl)
theorem dJ4_resize_158 : decode cJ4_resize 158 = .ok (.iload 7, 2) := dk_21 7 (dk_at dksJ4_resize_6 17 rfl rfl)
theorem dJ4_resize_160 : decode cJ4_resize 160 = .ok (.aaload, 1) := dk_50 (dk_at dksJ4_resize_6 19 rfl rfl)
theorem dJ4_resize_161 : decode cJ4_resize 161 = .ok (.dup, 1) := dk_89 (dk_at dksJ4_resize_6 20 rfl rfl)
theorem dJ4_resize_162 : decode cJ4_resize 162 = .ok (.astore 8, 2) := dk_58 8 (dk_at dksJ4_resize_6 21 rfl rfl)
theorem dJ4_resize_164 : decode cJ4_resize 164 = .ok (.ifnull 183, 3) := dk_198 0 183 (dk_at dksJ4_resize_7 0 rfl rfl)
theorem dJ4_resize_167 : decode cJ4_resize 167 = .ok (.aload_n 1, 1) := dk_43 (dk_at dksJ4_resize_7 3 rfl rfl)
theorem dJ4_resize_168 : decode cJ4_resize 168 = .ok (.iload 7, 2) := dk_21 7 (dk_at dksJ4_resize_7 4 rfl rfl)
theorem dJ4_resize_170 : decode cJ4_resize 170 = .ok (.aconst_null, 1) := dk_1 (dk_at dksJ4_resize_7 6 rfl rfl)
theorem dJ4_resize_171 : decode cJ4_resize 171 = .ok (.aastore, 1) := dk_83 (dk_at dksJ4_resize_7 7 rfl rfl)
theorem dJ4_resize_172 : decode cJ4_resize 172 = .ok (.aload 8, 2) := dk_25 8 (dk_at dksJ4_resize_7 8 rfl rfl)
theorem dJ4_resize_174 : decode cJ4_resize 174 = .ok (.getfield 177, 3) := dk_180 0 177 (dk_at dksJ4_resize_7 10 rfl rfl)
theorem dJ4_resize_177 : decode cJ4_resize 177 = .ok (.ifnonnull 21, 3) := dk_199 0 21 (dk_at dksJ4_resize_7 13 rfl rfl)
theorem dJ4_resize_180 : decode cJ4_resize 180 = .ok (.aload 6, 2) := dk_25 6 (dk_at dksJ4_resize_7 16 rfl rfl)
theorem dJ4_resize_182 : decode cJ4_resize 182 = .ok (.aload 8, 2) := dk_25 8 (dk_at dksJ4_resize_7 18 rfl rfl)
theorem dJ4_resize_184 : decode cJ4_resize 184 = .ok (.getfield 168, 3) := dk_180 0 168 (dk_at dksJ4_resize_7 20 rfl rfl)
theorem dJ4_resize_187 : decode cJ4_resize 187 = .ok (.iload 4, 2) := dk_21 4 (dk_at dksJ4_resize_8 0 rfl rfl)
theorem dJ4_resize_189 : decode cJ4_resize 189 = .ok (.iconst 1, 1) := dk_4 (dk_at dksJ4_resize_8 2 rfl rfl)
theorem dJ4_resize_190 : decode cJ4_resize 190 = .ok (.isub, 1) := dk_100 (dk_at dksJ4_resize_8 3 rfl rfl)
theorem dJ4_resize_191 : decode cJ4_resize 191 = .ok (.iand, 1) := dk_126 (dk_at dksJ4_resize_8 4 rfl rfl)
theorem dJ4_resize_192 : decode cJ4_resize 192 = .ok (.aload 8, 2) := dk_25 8 (dk_at dksJ4_resize_8 5 rfl rfl)
theorem dJ4_resize_194 : decode cJ4_resize 194 = .ok (.aastore, 1) := dk_83 (dk_at dksJ4_resize_8 7 rfl rfl)
theorem dJ4_resize_195 : decode cJ4_resize 195 = .ok (.goto 152, 3) := dk_167 0 152 (dk_at dksJ4_resize_8 8 rfl rfl)
theorem dJ4_resize_198 : decode cJ4_resize 198 = .ok (.aload 8, 2) := dk_25 8 (dk_at dksJ4_resize_8 11 rfl rfl)
theorem dJ4_resize_200 : decode cJ4_resize 200 = .ok (.instanceof 180, 3) := dk_193 0 180 (dk_at dksJ4_resize_8 13 rfl rfl)
theorem dJ4_resize_203 : decode cJ4_resize 203 = .ok (.ifCond .eq 20, 3) := dk_153 0 20 (dk_at dksJ4_resize_8 16 rfl rfl)
theorem dJ4_resize_206 : decode cJ4_resize 206 = .ok (.aload 8, 2) := dk_25 8 (dk_at dksJ4_resize_8 19 rfl rfl)
theorem dJ4_resize_208 : decode cJ4_resize 208 = .ok (.checkcast 180, 3) := dk_192 0 180 (dk_at dksJ4_resize_8 21 rfl rfl)
theorem dJ4_resize_211 : decode cJ4_resize 211 = .ok (.aload_n 0, 1) := dk_42 (dk_at dksJ4_resize_9 0 rfl rfl)
theorem dJ4_resize_212 : decode cJ4_resize 212 = .ok (.aload 6, 2) := dk_25 6 (dk_at dksJ4_resize_9 1 rfl rfl)
theorem dJ4_resize_214 : decode cJ4_resize 214 = .ok (.iload 7, 2) := dk_21 7 (dk_at dksJ4_resize_9 3 rfl rfl)
theorem dJ4_resize_216 : decode cJ4_resize 216 = .ok (.iload_n 2, 1) := dk_28 (dk_at dksJ4_resize_9 5 rfl rfl)
theorem dJ4_resize_217 : decode cJ4_resize 217 = .ok (.invokevirtual 211, 3) := dk_182 0 211 (dk_at dksJ4_resize_9 6 rfl rfl)
theorem dJ4_resize_220 : decode cJ4_resize 220 = .ok (.goto 127, 3) := dk_167 0 127 (dk_at dksJ4_resize_9 9 rfl rfl)
theorem dJ4_resize_223 : decode cJ4_resize 223 = .ok (.aconst_null, 1) := dk_1 (dk_at dksJ4_resize_9 12 rfl rfl)
theorem dJ4_resize_224 : decode cJ4_resize 224 = .ok (.astore 9, 2) := dk_58 9 (dk_at dksJ4_resize_9 13 rfl rfl)
theorem dJ4_resize_226 : decode cJ4_resize 226 = .ok (.aconst_null, 1) := dk_1 (dk_at dksJ4_resize_9 15 rfl rfl)
theorem dJ4_resize_227 : decode cJ4_resize 227 = .ok (.astore 10, 2) := dk_58 10 (dk_at dksJ4_resize_9 16 rfl rfl)
theorem dJ4_resize_229 : decode cJ4_resize 229 = .ok (.aconst_null, 1) := dk_1 (dk_at dksJ4_resize_9 18 rfl rfl)
theorem dJ4_resize_230 : decode cJ4_resize 230 = .ok (.astore 11, 2) := dk_58 11 (dk_at dksJ4_resize_9 19 rfl rfl)
theorem dJ4_resize_232 : decode cJ4_resize 232 = .ok (.aconst_null, 1) := dk_1 (dk_at dksJ4_resize_9 21 rfl rfl)
theorem dJ4_resize_233 : decode cJ4_resize 233 = .ok (.astore 12, 2) := dk_58 12 (dk_at dksJ4_resize_9 22 rfl rfl)
theorem dJ4_resize_235 : decode cJ4_resize 235 = .ok (.aload 8, 2) := dk_25 8 (dk_at dksJ4_resize_10 0 rfl rfl)
theorem dJ4_resize_237 : decode cJ4_resize 237 = .ok (.getfield 177, 3) := dk_180 0 177 (dk_at dksJ4_resize_10 2 rfl rfl)
theorem dJ4_resize_240 : decode cJ4_resize 240 = .ok (.astore 13, 2) := dk_58 13 (dk_at dksJ4_resize_10 5 rfl rfl)
theorem dJ4_resize_242 : decode cJ4_resize 242 = .ok (.aload 8, 2) := dk_25 8 (dk_at dksJ4_resize_10 7 rfl rfl)
theorem dJ4_resize_244 : decode cJ4_resize 244 = .ok (.getfield 168, 3) := dk_180 0 168 (dk_at dksJ4_resize_10 9 rfl rfl)
theorem dJ4_resize_247 : decode cJ4_resize 247 = .ok (.iload_n 2, 1) := dk_28 (dk_at dksJ4_resize_10 12 rfl rfl)
theorem dJ4_resize_248 : decode cJ4_resize 248 = .ok (.iand, 1) := dk_126 (dk_at dksJ4_resize_10 13 rfl rfl)
theorem dJ4_resize_249 : decode cJ4_resize 249 = .ok (.ifCond .ne 29, 3) := dk_154 0 29 (dk_at dksJ4_resize_10 14 rfl rfl)
theorem dJ4_resize_252 : decode cJ4_resize 252 = .ok (.aload 10, 2) := dk_25 10 (dk_at dksJ4_resize_10 17 rfl rfl)
theorem dJ4_resize_254 : decode cJ4_resize 254 = .ok (.ifnonnull 10, 3) := dk_199 0 10 (dk_at dksJ4_resize_10 19 rfl rfl)
theorem dJ4_resize_257 : decode cJ4_resize 257 = .ok (.aload 8, 2) := dk_25 8 (dk_at dksJ4_resize_10 22 rfl rfl)
theorem dJ4_resize_259 : decode cJ4_resize 259 = .ok (.astore 9, 2) := dk_58 9 (dk_at dksJ4_resize_11 0 rfl rfl)
theorem dJ4_resize_261 : decode cJ4_resize 261 = .ok (.goto 10, 3) := dk_167 0 10 (dk_at dksJ4_resize_11 2 rfl rfl)
theorem dJ4_resize_264 : decode cJ4_resize 264 = .ok (.aload 10, 2) := dk_25 10 (dk_at dksJ4_resize_11 5 rfl rfl)
theorem dJ4_resize_266 : decode cJ4_resize 266 = .ok (.aload 8, 2) := dk_25 8 (dk_at dksJ4_resize_11 7 rfl rfl)
theorem dJ4_resize_268 : decode cJ4_resize 268 = .ok (.putfield 177, 3) := dk_181 0 177 (dk_at dksJ4_resize_11 9 rfl rfl)
theorem dJ4_resize_271 : decode cJ4_resize 271 = .ok (.aload 8, 2) := dk_25 8 (dk_at dksJ4_resize_11 12 rfl rfl)
theorem dJ4_resize_273 : decode cJ4_resize 273 = .ok (.astore 10, 2) := dk_58 10 (dk_at dksJ4_resize_11 14 rfl rfl)
theorem dJ4_resize_275 : decode cJ4_resize 275 = .ok (.goto 26, 3) := dk_167 0 26 (dk_at dksJ4_resize_11 16 rfl rfl)
theorem dJ4_resize_278 : decode cJ4_resize 278 = .ok (.aload 12, 2) := dk_25 12 (dk_at dksJ4_resize_11 19 rfl rfl)
theorem dJ4_resize_280 : decode cJ4_resize 280 = .ok (.ifnonnull 10, 3) := dk_199 0 10 (dk_at dksJ4_resize_11 21 rfl rfl)
theorem dJ4_resize_283 : decode cJ4_resize 283 = .ok (.aload 8, 2) := dk_25 8 (dk_at dksJ4_resize_12 0 rfl rfl)
theorem dJ4_resize_285 : decode cJ4_resize 285 = .ok (.astore 11, 2) := dk_58 11 (dk_at dksJ4_resize_12 2 rfl rfl)
theorem dJ4_resize_287 : decode cJ4_resize 287 = .ok (.goto 10, 3) := dk_167 0 10 (dk_at dksJ4_resize_12 4 rfl rfl)
theorem dJ4_resize_290 : decode cJ4_resize 290 = .ok (.aload 12, 2) := dk_25 12 (dk_at dksJ4_resize_12 7 rfl rfl)
theorem dJ4_resize_292 : decode cJ4_resize 292 = .ok (.aload 8, 2) := dk_25 8 (dk_at dksJ4_resize_12 9 rfl rfl)
theorem dJ4_resize_294 : decode cJ4_resize 294 = .ok (.putfield 177, 3) := dk_181 0 177 (dk_at dksJ4_resize_12 11 rfl rfl)
theorem dJ4_resize_297 : decode cJ4_resize 297 = .ok (.aload 8, 2) := dk_25 8 (dk_at dksJ4_resize_12 14 rfl rfl)
theorem dJ4_resize_299 : decode cJ4_resize 299 = .ok (.astore 12, 2) := dk_58 12 (dk_at dksJ4_resize_12 16 rfl rfl)
theorem dJ4_resize_301 : decode cJ4_resize 301 = .ok (.aload 13, 2) := dk_25 13 (dk_at dksJ4_resize_12 18 rfl rfl)
theorem dJ4_resize_303 : decode cJ4_resize 303 = .ok (.dup, 1) := dk_89 (dk_at dksJ4_resize_12 20 rfl rfl)
theorem dJ4_resize_304 : decode cJ4_resize 304 = .ok (.astore 8, 2) := dk_58 8 (dk_at dksJ4_resize_12 21 rfl rfl)
theorem dJ4_resize_306 : decode cJ4_resize 306 = .ok (.ifnonnull (-71), 3) := dk_199 255 185 (dk_at dksJ4_resize_13 0 rfl rfl)
theorem dJ4_resize_309 : decode cJ4_resize 309 = .ok (.aload 10, 2) := dk_25 10 (dk_at dksJ4_resize_13 3 rfl rfl)
theorem dJ4_resize_311 : decode cJ4_resize 311 = .ok (.ifnull 16, 3) := dk_198 0 16 (dk_at dksJ4_resize_13 5 rfl rfl)
theorem dJ4_resize_314 : decode cJ4_resize 314 = .ok (.aload 10, 2) := dk_25 10 (dk_at dksJ4_resize_13 8 rfl rfl)
theorem dJ4_resize_316 : decode cJ4_resize 316 = .ok (.aconst_null, 1) := dk_1 (dk_at dksJ4_resize_13 10 rfl rfl)
theorem dJ4_resize_317 : decode cJ4_resize 317 = .ok (.putfield 177, 3) := dk_181 0 177 (dk_at dksJ4_resize_13 11 rfl rfl)
theorem dJ4_resize_320 : decode cJ4_resize 320 = .ok (.aload 6, 2) := dk_25 6 (dk_at dksJ4_resize_13 14 rfl rfl)
theorem dJ4_resize_322 : decode cJ4_resize 322 = .ok (.iload 7, 2) := dk_21 7 (dk_at dksJ4_resize_13 16 rfl rfl)
theorem dJ4_resize_324 : decode cJ4_resize 324 = .ok (.aload 9, 2) := dk_25 9 (dk_at dksJ4_resize_13 18 rfl rfl)
theorem dJ4_resize_326 : decode cJ4_resize 326 = .ok (.aastore, 1) := dk_83 (dk_at dksJ4_resize_13 20 rfl rfl)
theorem dJ4_resize_327 : decode cJ4_resize 327 = .ok (.aload 12, 2) := dk_25 12 (dk_at dksJ4_resize_13 21 rfl rfl)
theorem dJ4_resize_329 : decode cJ4_resize 329 = .ok (.ifnull 18, 3) := dk_198 0 18 (dk_at dksJ4_resize_14 0 rfl rfl)
theorem dJ4_resize_332 : decode cJ4_resize 332 = .ok (.aload 12, 2) := dk_25 12 (dk_at dksJ4_resize_14 3 rfl rfl)
theorem dJ4_resize_334 : decode cJ4_resize 334 = .ok (.aconst_null, 1) := dk_1 (dk_at dksJ4_resize_14 5 rfl rfl)
theorem dJ4_resize_335 : decode cJ4_resize 335 = .ok (.putfield 177, 3) := dk_181 0 177 (dk_at dksJ4_resize_14 6 rfl rfl)
theorem dJ4_resize_338 : decode cJ4_resize 338 = .ok (.aload 6, 2) := dk_25 6 (dk_at dksJ4_resize_14 9 rfl rfl)
theorem dJ4_resize_340 : decode cJ4_resize 340 = .ok (.iload 7, 2) := dk_21 7 (dk_at dksJ4_resize_14 11 rfl rfl)
theorem dJ4_resize_342 : decode cJ4_resize 342 = .ok (.iload_n 2, 1) := dk_28 (dk_at dksJ4_resize_14 13 rfl rfl)
theorem dJ4_resize_343 : decode cJ4_resize 343 = .ok (.iadd, 1) := dk_96 (dk_at dksJ4_resize_14 14 rfl rfl)
theorem dJ4_resize_344 : decode cJ4_resize 344 = .ok (.aload 11, 2) := dk_25 11 (dk_at dksJ4_resize_14 15 rfl rfl)
theorem dJ4_resize_346 : decode cJ4_resize 346 = .ok (.aastore, 1) := dk_83 (dk_at dksJ4_resize_14 17 rfl rfl)
theorem dJ4_resize_347 : decode cJ4_resize 347 = .ok (.iinc 7 1, 3) := dk_132 7 1 (dk_at dksJ4_resize_14 18 rfl rfl)
theorem dJ4_resize_350 : decode cJ4_resize 350 = .ok (.goto (-199), 3) := dk_167 255 57 (dk_at dksJ4_resize_14 21 rfl rfl)
theorem dJ4_resize_353 : decode cJ4_resize 353 = .ok (.aload 6, 2) := dk_25 6 (dk_at dksJ4_resize_15 0 rfl rfl)
theorem dJ4_resize_355 : decode cJ4_resize 355 = .ok (.areturn, 1) := dk_176 (dk_at dksJ4_resize_15 2 rfl rfl)
def dkwJ4_newNode_0 : List UInt8 := [187, 0, 163, 89, 27, 44, 45, 25, 4, 183, 1, 119, 176]
abbrev dktJ4_newNode_0 : List UInt8 := dkwJ4_newNode_0 ++ []
theorem dksJ4_newNode_0 : cJ4_newNode.data.toList.drop 0 = dktJ4_newNode_0 := by decide +kernel
theorem dJ4_newNode_0 : decode cJ4_newNode 0 = .ok (.new 163, 3) := dk_187 0 163 (dk_at dksJ4_newNode_0 0 rfl rfl)
theorem dJ4_newNode_3 : decode cJ4_newNode 3 = .ok (.dup, 1) := dk_89 (dk_at dksJ4_newNode_0 3 rfl rfl)
theorem dJ4_newNode_4 : decode cJ4_newNode 4 = .ok (.iload_n 1, 1) := dk_27 (dk_at dksJ4_newNode_0 4 rfl rfl)
theorem dJ4_newNode_5 : decode cJ4_newNode 5 = .ok (.aload_n 2, 1) := dk_44 (dk_at dksJ4_newNode_0 5 rfl rfl)
theorem dJ4_newNode_6 : decode cJ4_newNode 6 = .ok (.aload_n 3, 1) := dk_45 (dk_at dksJ4_newNode_0 6 rfl rfl)
theorem dJ4_newNode_7 : decode cJ4_newNode 7 = .ok (.aload 4, 2) := dk_25 4 (dk_at dksJ4_newNode_0 7 rfl rfl)
theorem dJ4_newNode_9 : decode cJ4_newNode 9 = .ok (.invokespecial 375, 3) := dk_183 1 119 (dk_at dksJ4_newNode_0 9 rfl rfl)
theorem dJ4_newNode_12 : decode cJ4_newNode 12 = .ok (.areturn, 1) := dk_176 (dk_at dksJ4_newNode_0 12 rfl rfl)
theorem dJ4_afterNodeAccess_0 : decode cJ4_afterNodeAccess 0 = .ok (.return_, 1) := by decide +kernel
theorem dJ4_afterNodeInsertion_0 : decode cJ4_afterNodeInsertion 0 = .ok (.return_, 1) := by decide +kernel
def dkwJ5_init_0 : List UInt8 := [42, 183, 0, 42, 42, 16, 17, 189, 0, 47, 181, 0, 3, 177]
abbrev dktJ5_init_0 : List UInt8 := dkwJ5_init_0 ++ []
theorem dksJ5_init_0 : cJ5_init.data.toList.drop 0 = dktJ5_init_0 := by decide +kernel
theorem dJ5_init_0 : decode cJ5_init 0 = .ok (.aload_n 0, 1) := dk_42 (dk_at dksJ5_init_0 0 rfl rfl)
theorem dJ5_init_1 : decode cJ5_init 1 = .ok (.invokespecial 42, 3) := dk_183 0 42 (dk_at dksJ5_init_0 1 rfl rfl)
theorem dJ5_init_4 : decode cJ5_init 4 = .ok (.aload_n 0, 1) := dk_42 (dk_at dksJ5_init_0 4 rfl rfl)
theorem dJ5_init_5 : decode cJ5_init 5 = .ok (.bipush 17, 2) := dk_16 17 (dk_at dksJ5_init_0 5 rfl rfl)
theorem dJ5_init_7 : decode cJ5_init 7 = .ok (.anewarray 47, 3) := dk_189 0 47 (dk_at dksJ5_init_0 7 rfl rfl)
theorem dJ5_init_10 : decode cJ5_init 10 = .ok (.putfield 3, 3) := dk_181 0 3 (dk_at dksJ5_init_0 10 rfl rfl)
theorem dJ5_init_13 : decode cJ5_init 13 = .ok (.return_, 1) := dk_177 (dk_at dksJ5_init_0 13 rfl rfl)
def dkwJ5_clear_1 : List UInt8 := [181, 0, 24, 177]
abbrev dktJ5_clear_1 : List UInt8 := dkwJ5_clear_1 ++ []
def dkwJ5_clear_0 : List UInt8 := [42, 180, 0, 3, 42, 180, 0, 24, 42, 180, 0, 20, 184, 0, 181, 42, 42, 3, 90, 181, 0, 20]
abbrev dktJ5_clear_0 : List UInt8 := dkwJ5_clear_0 ++ dktJ5_clear_1
theorem dksJ5_clear_0 : cJ5_clear.data.toList.drop 0 = dktJ5_clear_0 := by decide +kernel
theorem dksJ5_clear_1 : cJ5_clear.data.toList.drop 22 = dktJ5_clear_1 := dk_seg dksJ5_clear_0 22 rfl rfl
theorem dJ5_clear_0 : decode cJ5_clear 0 = .ok (.aload_n 0, 1) := dk_42 (dk_at dksJ5_clear_0 0 rfl rfl)
theorem dJ5_clear_1 : decode cJ5_clear 1 = .ok (.getfield 3, 3) := dk_180 0 3 (dk_at dksJ5_clear_0 1 rfl rfl)
theorem dJ5_clear_4 : decode cJ5_clear 4 = .ok (.aload_n 0, 1) := dk_42 (dk_at dksJ5_clear_0 4 rfl rfl)
theorem dJ5_clear_5 : decode cJ5_clear 5 = .ok (.getfield 24, 3) := dk_180 0 24 (dk_at dksJ5_clear_0 5 rfl rfl)
theorem dJ5_clear_8 : decode cJ5_clear 8 = .ok (.aload_n 0, 1) := dk_42 (dk_at dksJ5_clear_0 8 rfl rfl)
theorem dJ5_clear_9 : decode cJ5_clear 9 = .ok (.getfield 20, 3) := dk_180 0 20 (dk_at dksJ5_clear_0 9 rfl rfl)
theorem dJ5_clear_12 : decode cJ5_clear 12 = .ok (.invokestatic 181, 3) := dk_184 0 181 (dk_at dksJ5_clear_0 12 rfl rfl)
theorem dJ5_clear_15 : decode cJ5_clear 15 = .ok (.aload_n 0, 1) := dk_42 (dk_at dksJ5_clear_0 15 rfl rfl)
theorem dJ5_clear_16 : decode cJ5_clear 16 = .ok (.aload_n 0, 1) := dk_42 (dk_at dksJ5_clear_0 16 rfl rfl)
theorem dJ5_clear_17 : decode cJ5_clear 17 = .ok (.iconst 0, 1) := dk_3 (dk_at dksJ5_clear_0 17 rfl rfl)
theorem dJ5_clear_18 : decode cJ5_clear 18 = .ok (.dup_x1, 1) := dk_90 (dk_at dksJ5_clear_0 18 rfl rfl)
theorem dJ5_clear_19 : decode cJ5_clear 19 = .ok (.putfield 20, 3) := dk_181 0 20 (dk_at dksJ5_clear_0 19 rfl rfl)
theorem dJ5_clear_22 : decode cJ5_clear 22 = .ok (.putfield 24, 3) := dk_181 0 24 (dk_at dksJ5_clear_1 0 rfl rfl)
theorem dJ5_clear_25 : decode cJ5_clear 25 = .ok (.return_, 1) := dk_177 (dk_at dksJ5_clear_1 3 rfl rfl)
def dkwJ5_circularClear_1 : List UInt8 := [167, 255, 244, 29, 28, 160, 0, 6, 167, 0, 10, 3, 60, 28, 62, 167, 255, 229, 177]
abbrev dktJ5_circularClear_1 : List UInt8 := dkwJ5_circularClear_1 ++ []
def dkwJ5_circularClear_0 : List UInt8 := [27, 28, 163, 0, 7, 28, 167, 0, 5, 42, 190, 62, 27, 29, 162, 0, 13, 42, 27, 1, 83, 132, 1, 1]
abbrev dktJ5_circularClear_0 : List UInt8 := dkwJ5_circularClear_0 ++ dktJ5_circularClear_1
theorem dksJ5_circularClear_0 : cJ5_circularClear.data.toList.drop 0 = dktJ5_circularClear_0 := by decide +kernel
theorem dksJ5_circularClear_1 : cJ5_circularClear.data.toList.drop 24 = dktJ5_circularClear_1 := dk_seg dksJ5_circularClear_0 24 rfl rfl
theorem dJ5_circularClear_0 : decode cJ5_circularClear 0 = .ok (.iload_n 1, 1) := dk_27 (dk_at dksJ5_circularClear_0 0 rfl rfl)
theorem dJ5_circularClear_1 : decode cJ5_circularClear 1 = .ok (.iload_n 2, 1) := dk_28 (dk_at dksJ5_circularClear_0 1 rfl rfl)
theorem dJ5_circularClear_2 : decode cJ5_circularClear 2 = .ok (.if_icmp .gt 7, 3) := dk_163 0 7 (dk_at dksJ5_circularClear_0 2 rfl rfl)
theorem dJ5_circularClear_5 : decode cJ5_circularClear 5 = .ok (.iload_n 2, 1) := dk_28 (dk_at dksJ5_circularClear_0 5 rfl rfl)
theorem dJ5_circularClear_6 : decode cJ5_circularClear 6 = .ok (.goto 5, 3) := dk_167 0 5 (dk_at dksJ5_circularClear_0 6 rfl rfl)
theorem dJ5_circularClear_9 : decode cJ5_circularClear 9 = .ok (.aload_n 0, 1) := dk_42 (dk_at dksJ5_circularClear_0 9 rfl rfl)
theorem dJ5_circularClear_10 : decode cJ5_circularClear 10 = .ok (.arraylength, 1) := dk_190 (dk_at dksJ5_circularClear_0 10 rfl rfl)
theorem dJ5_circularClear_11 : decode cJ5_circularClear 11 = .ok (.istore_n 3, 1) := dk_62 (dk_at dksJ5_circularClear_0 11 rfl rfl)
theorem dJ5_circularClear_12 : decode cJ5_circularClear 12 = .ok (.iload_n 1, 1) := dk_27 (dk_at dksJ5_circularClear_0 12 rfl rfl)
theorem dJ5_circularClear_13 : decode cJ5_circularClear 13 = .ok (.iload_n 3, 1) := dk_29 (dk_at dksJ5_circularClear_0 13 rfl rfl)
theorem dJ5_circularClear_14 : decode cJ5_circularClear 14 = .ok (.if_icmp .ge 13, 3) := dk_162 0 13 (dk_at dksJ5_circularClear_0 14 rfl rfl)
theorem dJ5_circularClear_17 : decode cJ5_circularClear 17 = .ok (.aload_n 0, 1) := dk_42 (dk_at dksJ5_circularClear_0 17 rfl rfl)
theorem dJ5_circularClear_18 : decode cJ5_circularClear 18 = .ok (.iload_n 1, 1) := dk_27 (dk_at dksJ5_circularClear_0 18 rfl rfl)
theorem dJ5_circularClear_19 : decode cJ5_circularClear 19 = .ok (.aconst_null, 1) := dk_1 (dk_at dksJ5_circularClear_0 19 rfl rfl)
theorem dJ5_circularClear_20 : decode cJ5_circularClear 20 = .ok (.aastore, 1) := dk_83 (dk_at dksJ5_circularClear_0 20 rfl rfl)
theorem dJ5_circularClear_21 : decode cJ5_circularClear 21 = .ok (.iinc 1 1, 3) := dk_132 1 1 (dk_at dksJ5_circularClear_0 21 rfl rfl)
theorem dJ5_circularClear_24 : decode cJ5_circularClear 24 = .ok (.goto (-12), 3) := dk_167 255 244 (dk_at dksJ5_circularClear_1 0 rfl rfl)
theorem dJ5_circularClear_27 : decode cJ5_circularClear 27 = .ok (.iload_n 3, 1) := dk_29 (dk_at dksJ5_circularClear_1 3 rfl rfl)
theorem dJ5_circularClear_28 : decode cJ5_circularClear 28 = .ok (.iload_n 2, 1) := dk_28 (dk_at dksJ5_circularClear_1 4 rfl rfl)
theorem dJ5_circularClear_29 : decode cJ5_circularClear 29 = .ok (.if_icmp .ne 6, 3) := dk_160 0 6 (dk_at dksJ5_circularClear_1 5 rfl rfl)
theorem dJ5_circularClear_32 : decode cJ5_circularClear 32 = .ok (.goto 10, 3) := dk_167 0 10 (dk_at dksJ5_circularClear_1 8 rfl rfl)
theorem dJ5_circularClear_35 : decode cJ5_circularClear 35 = .ok (.iconst 0, 1) := dk_3 (dk_at dksJ5_circularClear_1 11 rfl rfl)
theorem dJ5_circularClear_36 : decode cJ5_circularClear 36 = .ok (.istore_n 1, 1) := dk_60 (dk_at dksJ5_circularClear_1 12 rfl rfl)
theorem dJ5_circularClear_37 : decode cJ5_circularClear 37 = .ok (.iload_n 2, 1) := dk_28 (dk_at dksJ5_circularClear_1 13 rfl rfl)
theorem dJ5_circularClear_38 : decode cJ5_circularClear 38 = .ok (.istore_n 3, 1) := dk_62 (dk_at dksJ5_circularClear_1 14 rfl rfl)
theorem dJ5_circularClear_39 : decode cJ5_circularClear 39 = .ok (.goto (-27), 3) := dk_167 255 229 (dk_at dksJ5_circularClear_1 15 rfl rfl)
theorem dJ5_circularClear_42 : decode cJ5_circularClear 42 = .ok (.return_, 1) := dk_177 (dk_at dksJ5_circularClear_1 18 rfl rfl)
def dkwJ5_size_0 : List UInt8 := [42, 180, 0, 20, 42, 180, 0, 24, 42, 180, 0, 3, 190, 184, 0, 127, 172]
abbrev dktJ5_size_0 : List UInt8 := dkwJ5_size_0 ++ []
theorem dksJ5_size_0 : cJ5_size.data.toList.drop 0 = dktJ5_size_0 := by decide +kernel
theorem dJ5_size_0 : decode cJ5_size 0 = .ok (.aload_n 0, 1) := dk_42 (dk_at dksJ5_size_0 0 rfl rfl)
theorem dJ5_size_1 : decode cJ5_size 1 = .ok (.getfield 20, 3) := dk_180 0 20 (dk_at dksJ5_size_0 1 rfl rfl)
theorem dJ5_size_4 : decode cJ5_size 4 = .ok (.aload_n 0, 1) := dk_42 (dk_at dksJ5_size_0 4 rfl rfl)
theorem dJ5_size_5 : decode cJ5_size 5 = .ok (.getfield 24, 3) := dk_180 0 24 (dk_at dksJ5_size_0 5 rfl rfl)
theorem dJ5_size_8 : decode cJ5_size 8 = .ok (.aload_n 0, 1) := dk_42 (dk_at dksJ5_size_0 8 rfl rfl)
theorem dJ5_size_9 : decode cJ5_size 9 = .ok (.getfield 3, 3) := dk_180 0 3 (dk_at dksJ5_size_0 9 rfl rfl)
theorem dJ5_size_12 : decode cJ5_size 12 = .ok (.arraylength, 1) := dk_190 (dk_at dksJ5_size_0 12 rfl rfl)
theorem dJ5_size_13 : decode cJ5_size 13 = .ok (.invokestatic 127, 3) := dk_184 0 127 (dk_at dksJ5_size_0 13 rfl rfl)
theorem dJ5_size_16 : decode cJ5_size 16 = .ok (.ireturn, 1) := dk_172 (dk_at dksJ5_size_0 16 rfl rfl)
def dkwJ5_sub_0 : List UInt8 := [26, 27, 100, 89, 59, 156, 0, 7, 26, 28, 96, 59, 26, 172]
abbrev dktJ5_sub_0 : List UInt8 := dkwJ5_sub_0 ++ []
theorem dksJ5_sub_0 : cJ5_sub.data.toList.drop 0 = dktJ5_sub_0 := by decide +kernel
theorem dJ5_sub_0 : decode cJ5_sub 0 = .ok (.iload_n 0, 1) := dk_26 (dk_at dksJ5_sub_0 0 rfl rfl)
theorem dJ5_sub_1 : decode cJ5_sub 1 = .ok (.iload_n 1, 1) := dk_27 (dk_at dksJ5_sub_0 1 rfl rfl)
theorem dJ5_sub_2 : decode cJ5_sub 2 = .ok (.isub, 1) := dk_100 (dk_at dksJ5_sub_0 2 rfl rfl)
theorem dJ5_sub_3 : decode cJ5_sub 3 = .ok (.dup, 1) := dk_89 (dk_at dksJ5_sub_0 3 rfl rfl)
theorem dJ5_sub_4 : decode cJ5_sub 4 = .ok (.istore_n 0, 1) := dk_59 (dk_at dksJ5_sub_0 4 rfl rfl)
theorem dJ5_sub_5 : decode cJ5_sub 5 = .ok (.ifCond .ge 7, 3) := dk_156 0 7 (dk_at dksJ5_sub_0 5 rfl rfl)
theorem dJ5_sub_8 : decode cJ5_sub 8 = .ok (.iload_n 0, 1) := dk_26 (dk_at dksJ5_sub_0 8 rfl rfl)
theorem dJ5_sub_9 : decode cJ5_sub 9 = .ok (.iload_n 2, 1) := dk_28 (dk_at dksJ5_sub_0 9 rfl rfl)
theorem dJ5_sub_10 : decode cJ5_sub 10 = .ok (.iadd, 1) := dk_96 (dk_at dksJ5_sub_0 10 rfl rfl)
theorem dJ5_sub_11 : decode cJ5_sub 11 = .ok (.istore_n 0, 1) := dk_59 (dk_at dksJ5_sub_0 11 rfl rfl)
theorem dJ5_sub_12 : decode cJ5_sub 12 = .ok (.iload_n 0, 1) := dk_26 (dk_at dksJ5_sub_0 12 rfl rfl)
theorem dJ5_sub_13 : decode cJ5_sub 13 = .ok (.ireturn, 1) := dk_172 (dk_at dksJ5_sub_0 13 rfl rfl)
def dkwJ5_removeFirst_0 : List UInt8 := [42, 182, 0, 93, 76, 43, 199, 0, 11, 187, 0, 97, 89, 183, 0, 99, 191, 43, 176]
abbrev dktJ5_removeFirst_0 : List UInt8 := dkwJ5_removeFirst_0 ++ []
theorem dksJ5_removeFirst_0 : cJ5_removeFirst.data.toList.drop 0 = dktJ5_removeFirst_0 := by decide +kernel
theorem dJ5_removeFirst_0 : decode cJ5_removeFirst 0 = .ok (.aload_n 0, 1) := dk_42 (dk_at dksJ5_removeFirst_0 0 rfl rfl)
theorem dJ5_removeFirst_1 : decode cJ5_removeFirst 1 = .ok (.invokevirtual 93, 3) := dk_182 0 93 (dk_at dksJ5_removeFirst_0 1 rfl rfl)
theorem dJ5_removeFirst_4 : decode cJ5_removeFirst 4 = .ok (.astore_n 1, 1) := dk_76 (dk_at dksJ5_removeFirst_0 4 rfl rfl)
theorem dJ5_removeFirst_5 : decode cJ5_removeFirst 5 = .ok (.aload_n 1, 1) := dk_43 (dk_at dksJ5_removeFirst_0 5 rfl rfl)
theorem dJ5_removeFirst_6 : decode cJ5_removeFirst 6 = .ok (.ifnonnull 11, 3) := dk_199 0 11 (dk_at dksJ5_removeFirst_0 6 rfl rfl)
theorem dJ5_removeFirst_9 : decode cJ5_removeFirst 9 = .ok (.new 97, 3) := dk_187 0 97 (dk_at dksJ5_removeFirst_0 9 rfl rfl)
theorem dJ5_removeFirst_12 : decode cJ5_removeFirst 12 = .ok (.dup, 1) := dk_89 (dk_at dksJ5_removeFirst_0 12 rfl rfl)
theorem dJ5_removeFirst_13 : decode cJ5_removeFirst 13 = .ok (.invokespecial 99, 3) := dk_183 0 99 (dk_at dksJ5_removeFirst_0 13 rfl rfl)
theorem dJ5_removeFirst_16 : decode cJ5_removeFirst 16 = .ok (.athrow, 1) := dk_191 (dk_at dksJ5_removeFirst_0 16 rfl rfl)
theorem dJ5_removeFirst_17 : decode cJ5_removeFirst 17 = .ok (.aload_n 1, 1) := dk_43 (dk_at dksJ5_removeFirst_0 17 rfl rfl)
theorem dJ5_removeFirst_18 : decode cJ5_removeFirst 18 = .ok (.areturn, 1) := dk_176 (dk_at dksJ5_removeFirst_0 18 rfl rfl)
def dkwJ5_pollFirst_1 : List UInt8 := [42, 28, 43, 190, 184, 0, 74, 181, 0, 24, 45, 176]
abbrev dktJ5_pollFirst_1 : List UInt8 := dkwJ5_pollFirst_1 ++ []
def dkwJ5_pollFirst_0 : List UInt8 := [42, 180, 0, 3, 89, 76, 42, 180, 0, 24, 89, 61, 184, 0, 103, 78, 45, 198, 0, 17, 43, 28, 1, 83]
abbrev dktJ5_pollFirst_0 : List UInt8 := dkwJ5_pollFirst_0 ++ dktJ5_pollFirst_1
theorem dksJ5_pollFirst_0 : cJ5_pollFirst.data.toList.drop 0 = dktJ5_pollFirst_0 := by decide +kernel
theorem dksJ5_pollFirst_1 : cJ5_pollFirst.data.toList.drop 24 = dktJ5_pollFirst_1 := dk_seg dksJ5_pollFirst_0 24 rfl rfl
theorem dJ5_pollFirst_0 : decode cJ5_pollFirst 0 = .ok (.aload_n 0, 1) := dk_42 (dk_at dksJ5_pollFirst_0 0 rfl rfl)
theorem dJ5_pollFirst_1 : decode cJ5_pollFirst 1 = .ok (.getfield 3, 3) := dk_180 0 3 (dk_at dksJ5_pollFirst_0 1 rfl rfl)
theorem dJ5_pollFirst_4 : decode cJ5_pollFirst 4 = .ok (.dup, 1) := dk_89 (dk_at dksJ5_pollFirst_0 4 rfl rfl)
theorem dJ5_pollFirst_5 : decode cJ5_pollFirst 5 = .ok (.astore_n 1, 1) := dk_76 (dk_at dksJ5_pollFirst_0 5 rfl rfl)
theorem dJ5_pollFirst_6 : decode cJ5_pollFirst 6 = .ok (.aload_n 0, 1) := dk_42 (dk_at dksJ5_pollFirst_0 6 rfl rfl)
theorem dJ5_pollFirst_7 : decode cJ5_pollFirst 7 = .ok (.getfield 24, 3) := dk_180 0 24 (dk_at dksJ5_pollFirst_0 7 rfl rfl)
theorem dJ5_pollFirst_10 : decode cJ5_pollFirst 10 = .ok (.dup, 1) := dk_89 (dk_at dksJ5_pollFirst_0 10 rfl rfl)
theorem dJ5_pollFirst_11 : decode cJ5_pollFirst 11 = .ok (.istore_n 2, 1) := dk_61 (dk_at dksJ5_pollFirst_0 11 rfl rfl)
theorem dJ5_pollFirst_12 : decode cJ5_pollFirst 12 = .ok (.invokestatic 103, 3) := dk_184 0 103 (dk_at dksJ5_pollFirst_0 12 rfl rfl)
theorem dJ5_pollFirst_15 : decode cJ5_pollFirst 15 = .ok (.astore_n 3, 1) := dk_78 (dk_at dksJ5_pollFirst_0 15 rfl rfl)
theorem dJ5_pollFirst_16 : decode cJ5_pollFirst 16 = .ok (.aload_n 3, 1) := dk_45 (dk_at dksJ5_pollFirst_0 16 rfl rfl)
theorem dJ5_pollFirst_17 : decode cJ5_pollFirst 17 = .ok (.ifnull 17, 3) := dk_198 0 17 (dk_at dksJ5_pollFirst_0 17 rfl rfl)
theorem dJ5_pollFirst_20 : decode cJ5_pollFirst 20 = .ok (.aload_n 1, 1) := dk_43 (dk_at dksJ5_pollFirst_0 20 rfl rfl)
theorem dJ5_pollFirst_21 : decode cJ5_pollFirst 21 = .ok (.iload_n 2, 1) := dk_28 (dk_at dksJ5_pollFirst_0 21 rfl rfl)
theorem dJ5_pollFirst_22 : decode cJ5_pollFirst 22 = .ok (.aconst_null, 1) := dk_1 (dk_at dksJ5_pollFirst_0 22 rfl rfl)
theorem dJ5_pollFirst_23 : decode cJ5_pollFirst 23 = .ok (.aastore, 1) := dk_83 (dk_at dksJ5_pollFirst_0 23 rfl rfl)
theorem dJ5_pollFirst_24 : decode cJ5_pollFirst 24 = .ok (.aload_n 0, 1) := dk_42 (dk_at dksJ5_pollFirst_1 0 rfl rfl)
theorem dJ5_pollFirst_25 : decode cJ5_pollFirst 25 = .ok (.iload_n 2, 1) := dk_28 (dk_at dksJ5_pollFirst_1 1 rfl rfl)
theorem dJ5_pollFirst_26 : decode cJ5_pollFirst 26 = .ok (.aload_n 1, 1) := dk_43 (dk_at dksJ5_pollFirst_1 2 rfl rfl)
theorem dJ5_pollFirst_27 : decode cJ5_pollFirst 27 = .ok (.arraylength, 1) := dk_190 (dk_at dksJ5_pollFirst_1 3 rfl rfl)
theorem dJ5_pollFirst_28 : decode cJ5_pollFirst 28 = .ok (.invokestatic 74, 3) := dk_184 0 74 (dk_at dksJ5_pollFirst_1 4 rfl rfl)
theorem dJ5_pollFirst_31 : decode cJ5_pollFirst 31 = .ok (.putfield 24, 3) := dk_181 0 24 (dk_at dksJ5_pollFirst_1 7 rfl rfl)
theorem dJ5_pollFirst_34 : decode cJ5_pollFirst 34 = .ok (.aload_n 3, 1) := dk_45 (dk_at dksJ5_pollFirst_1 10 rfl rfl)
theorem dJ5_pollFirst_35 : decode cJ5_pollFirst 35 = .ok (.areturn, 1) := dk_176 (dk_at dksJ5_pollFirst_1 11 rfl rfl)
def dkwJ5_elementAt_0 : List UInt8 := [42, 27, 50, 176]
abbrev dktJ5_elementAt_0 : List UInt8 := dkwJ5_elementAt_0 ++ []
theorem dksJ5_elementAt_0 : cJ5_elementAt.data.toList.drop 0 = dktJ5_elementAt_0 := by decide +kernel
theorem dJ5_elementAt_0 : decode cJ5_elementAt 0 = .ok (.aload_n 0, 1) := dk_42 (dk_at dksJ5_elementAt_0 0 rfl rfl)
theorem dJ5_elementAt_1 : decode cJ5_elementAt 1 = .ok (.iload_n 1, 1) := dk_27 (dk_at dksJ5_elementAt_0 1 rfl rfl)
theorem dJ5_elementAt_2 : decode cJ5_elementAt 2 = .ok (.aaload, 1) := dk_50 (dk_at dksJ5_elementAt_0 2 rfl rfl)
theorem dJ5_elementAt_3 : decode cJ5_elementAt 3 = .ok (.areturn, 1) := dk_176 (dk_at dksJ5_elementAt_0 3 rfl rfl)
def dkwJ5_addLast_2 : List UInt8 := [182, 0, 71, 177]
abbrev dktJ5_addLast_2 : List UInt8 := dkwJ5_addLast_2 ++ []
def dkwJ5_addLast_1 : List UInt8 := [42, 180, 0, 24, 42, 42, 180, 0, 20, 44, 190, 184, 0, 74, 90, 181, 0, 20, 160, 0, 8, 42, 4]
abbrev dktJ5_addLast_1 : List UInt8 := dkwJ5_addLast_1 ++ dktJ5_addLast_2
def dkwJ5_addLast_0 : List UInt8 := [43, 199, 0, 11, 187, 0, 65, 89, 183, 0, 67, 191, 42, 180, 0, 3, 77, 44, 42, 180, 0, 20, 43, 83]
abbrev dktJ5_addLast_0 : List UInt8 := dkwJ5_addLast_0 ++ dktJ5_addLast_1
theorem dksJ5_addLast_0 : cJ5_addLast.data.toList.drop 0 = dktJ5_addLast_0 := by decide +kernel
theorem dksJ5_addLast_1 : cJ5_addLast.data.toList.drop 24 = dktJ5_addLast_1 := dk_seg dksJ5_addLast_0 24 rfl rfl
theorem dksJ5_addLast_2 : cJ5_addLast.data.toList.drop 47 = dktJ5_addLast_2 := dk_seg dksJ5_addLast_1 23 rfl rfl
theorem dJ5_addLast_0 : decode cJ5_addLast 0 = .ok (.aload_n 1, 1) := dk_43 (dk_at dksJ5_addLast_0 0 rfl rfl)
theorem dJ5_addLast_1 : decode cJ5_addLast 1 = .ok (.ifnonnull 11, 3) := dk_199 0 11 (dk_at dksJ5_addLast_0 1 rfl rfl)
theorem dJ5_addLast_4 : decode cJ5_addLast 4 = .ok (.new 65, 3) := dk_187 0 65 (dk_at dksJ5_addLast_0 4 rfl rfl)
theorem dJ5_addLast_7 : decode cJ5_addLast 7 = .ok (.dup, 1) := dk_89 (dk_at dksJ5_addLast_0 7 rfl rfl)
theorem dJ5_addLast_8 : decode cJ5_addLast 8 = .ok (.invokespecial 67, 3) := dk_183 0 67 (dk_at dksJ5_addLast_0 8 rfl rfl)
theorem dJ5_addLast_11 : decode cJ5_addLast 11 = .ok (.athrow, 1) := dk_191 (dk_at dksJ5_addLast_0 11 rfl rfl)
theorem dJ5_addLast_12 : decode cJ5_addLast 12 = .ok (.aload_n 0, 1) := dk_42 (dk_at dksJ5_addLast_0 12 rfl rfl)
theorem dJ5_addLast_13 : decode cJ5_addLast 13 = .ok (.getfield 3, 3) := dk_180 0 3 (dk_at dksJ5_addLast_0 13 rfl rfl)
theorem dJ5_addLast_16 : decode cJ5_addLast 16 = .ok (.astore_n 2, 1) := dk_77 (dk_at dksJ5_addLast_0 16 rfl rfl)
theorem dJ5_addLast_17 : decode cJ5_addLast 17 = .ok (.aload_n 2, 1) := dk_44 (dk_at dksJ5_addLast_0 17 rfl rfl)
theorem dJ5_addLast_18 : decode cJ5_addLast 18 = .ok (.aload_n 0, 1) := dk_42 (dk_at dksJ5_addLast_0 18 rfl rfl)
theorem dJ5_addLast_19 : decode cJ5_addLast 19 = .ok (.getfield 20, 3) := dk_180 0 20 (dk_at dksJ5_addLast_0 19 rfl rfl)
theorem dJ5_addLast_22 : decode cJ5_addLast 22 = .ok (.aload_n 1, 1) := dk_43 (dk_at dksJ5_addLast_0 22 rfl rfl)
theorem dJ5_addLast_23 : decode cJ5_addLast 23 = .ok (.aastore, 1) := dk_83 (dk_at dksJ5_addLast_0 23 rfl rfl)
theorem dJ5_addLast_24 : decode cJ5_addLast 24 = .ok (.aload_n 0, 1) := dk_42 (dk_at dksJ5_addLast_1 0 rfl rfl)
theorem dJ5_addLast_25 : decode cJ5_addLast 25 = .ok (.getfield 24, 3) := dk_180 0 24 (dk_at dksJ5_addLast_1 1 rfl rfl)
theorem dJ5_addLast_28 : decode cJ5_addLast 28 = .ok (.aload_n 0, 1) := dk_42 (dk_at dksJ5_addLast_1 4 rfl rfl)
theorem dJ5_addLast_29 : decode cJ5_addLast 29 = .ok (.aload_n 0, 1) := dk_42 (dk_at dksJ5_addLast_1 5 rfl rfl)
theorem dJ5_addLast_30 : decode cJ5_addLast 30 = .ok (.getfield 20, 3) := dk_180 0 20 (dk_at dksJ5_addLast_1 6 rfl rfl)
theorem dJ5_addLast_33 : decode cJ5_addLast 33 = .ok (.aload_n 2, 1) := dk_44 (dk_at dksJ5_addLast_1 9 rfl rfl)
theorem dJ5_addLast_34 : decode cJ5_addLast 34 = .ok (.arraylength, 1) := dk_190 (dk_at dksJ5_addLast_1 10 rfl rfl)
theorem dJ5_addLast_35 : decode cJ5_addLast 35 = .ok (.invokestatic 74, 3) := dk_184 0 74 (dk_at dksJ5_addLast_1 11 rfl rfl)
theorem dJ5_addLast_38 : decode cJ5_addLast 38 = .ok (.dup_x1, 1) := dk_90 (dk_at dksJ5_addLast_1 14 rfl rfl)
theorem dJ5_addLast_39 : decode cJ5_addLast 39 = .ok (.putfield 20, 3) := dk_181 0 20 (dk_at dksJ5_addLast_1 15 rfl rfl)
theorem dJ5_addLast_42 : decode cJ5_addLast 42 = .ok (.if_icmp .ne 8, 3) := dk_160 0 8 (dk_at dksJ5_addLast_1 18 rfl rfl)
theorem dJ5_addLast_45 : decode cJ5_addLast 45 = .ok (.aload_n 0, 1) := dk_42 (dk_at dksJ5_addLast_1 21 rfl rfl)
theorem dJ5_addLast_46 : decode cJ5_addLast 46 = .ok (.iconst 1, 1) := dk_4 (dk_at dksJ5_addLast_1 22 rfl rfl)
theorem dJ5_addLast_47 : decode cJ5_addLast 47 = .ok (.invokevirtual 71, 3) := dk_182 0 71 (dk_at dksJ5_addLast_2 0 rfl rfl)
theorem dJ5_addLast_50 : decode cJ5_addLast 50 = .ok (.return_, 1) := dk_177 (dk_at dksJ5_addLast_2 3 rfl rfl)
def dkwJ5_isEmpty_0 : List UInt8 := [42, 180, 0, 24, 42, 180, 0, 20, 160, 0, 7, 4, 167, 0, 4, 3, 172]
abbrev dktJ5_isEmpty_0 : List UInt8 := dkwJ5_isEmpty_0 ++ []
theorem dksJ5_isEmpty_0 : cJ5_isEmpty.data.toList.drop 0 = dktJ5_isEmpty_0 := by decide +kernel
theorem dJ5_isEmpty_0 : decode cJ5_isEmpty 0 = .ok (.aload_n 0, 1) := dk_42 (dk_at dksJ5_isEmpty_0 0 rfl rfl)
theorem dJ5_isEmpty_1 : decode cJ5_isEmpty 1 = .ok (.getfield 24, 3) := dk_180 0 24 (dk_at dksJ5_isEmpty_0 1 rfl rfl)
theorem dJ5_isEmpty_4 : decode cJ5_isEmpty 4 = .ok (.aload_n 0, 1) := dk_42 (dk_at dksJ5_isEmpty_0 4 rfl rfl)
theorem dJ5_isEmpty_5 : decode cJ5_isEmpty 5 = .ok (.getfield 20, 3) := dk_180 0 20 (dk_at dksJ5_isEmpty_0 5 rfl rfl)
theorem dJ5_isEmpty_8 : decode cJ5_isEmpty 8 = .ok (.if_icmp .ne 7, 3) := dk_160 0 7 (dk_at dksJ5_isEmpty_0 8 rfl rfl)
theorem dJ5_isEmpty_11 : decode cJ5_isEmpty 11 = .ok (.iconst 1, 1) := dk_4 (dk_at dksJ5_isEmpty_0 11 rfl rfl)
theorem dJ5_isEmpty_12 : decode cJ5_isEmpty 12 = .ok (.goto 4, 3) := dk_167 0 4 (dk_at dksJ5_isEmpty_0 12 rfl rfl)
theorem dJ5_isEmpty_15 : decode cJ5_isEmpty 15 = .ok (.iconst 0, 1) := dk_3 (dk_at dksJ5_isEmpty_0 15 rfl rfl)
theorem dJ5_isEmpty_16 : decode cJ5_isEmpty 16 = .ok (.ireturn, 1) := dk_172 (dk_at dksJ5_isEmpty_0 16 rfl rfl)
def dkwJ5_removeLast_0 : List UInt8 := [42, 182, 0, 100, 76, 43, 199, 0, 11, 187, 0, 97, 89, 183, 0, 99, 191, 43, 176]
abbrev dktJ5_removeLast_0 : List UInt8 := dkwJ5_removeLast_0 ++ []
theorem dksJ5_removeLast_0 : cJ5_removeLast.data.toList.drop 0 = dktJ5_removeLast_0 := by decide +kernel
theorem dJ5_removeLast_0 : decode cJ5_removeLast 0 = .ok (.aload_n 0, 1) := dk_42 (dk_at dksJ5_removeLast_0 0 rfl rfl)
theorem dJ5_removeLast_1 : decode cJ5_removeLast 1 = .ok (.invokevirtual 100, 3) := dk_182 0 100 (dk_at dksJ5_removeLast_0 1 rfl rfl)
theorem dJ5_removeLast_4 : decode cJ5_removeLast 4 = .ok (.astore_n 1, 1) := dk_76 (dk_at dksJ5_removeLast_0 4 rfl rfl)
theorem dJ5_removeLast_5 : decode cJ5_removeLast 5 = .ok (.aload_n 1, 1) := dk_43 (dk_at dksJ5_removeLast_0 5 rfl rfl)
theorem dJ5_removeLast_6 : decode cJ5_removeLast 6 = .ok (.ifnonnull 11, 3) := dk_199 0 11 (dk_at dksJ5_removeLast_0 6 rfl rfl)
theorem dJ5_removeLast_9 : decode cJ5_removeLast 9 = .ok (.new 97, 3) := dk_187 0 97 (dk_at dksJ5_removeLast_0 9 rfl rfl)
theorem dJ5_removeLast_12 : decode cJ5_removeLast 12 = .ok (.dup, 1) := dk_89 (dk_at dksJ5_removeLast_0 12 rfl rfl)
theorem dJ5_removeLast_13 : decode cJ5_removeLast 13 = .ok (.invokespecial 99, 3) := dk_183 0 99 (dk_at dksJ5_removeLast_0 13 rfl rfl)
theorem dJ5_removeLast_16 : decode cJ5_removeLast 16 = .ok (.athrow, 1) := dk_191 (dk_at dksJ5_removeLast_0 16 rfl rfl)
theorem dJ5_removeLast_17 : decode cJ5_removeLast 17 = .ok (.aload_n 1, 1) := dk_43 (dk_at dksJ5_removeLast_0 17 rfl rfl)
theorem dJ5_removeLast_18 : decode cJ5_removeLast 18 = .ok (.areturn, 1) := dk_176 (dk_at dksJ5_removeLast_0 18 rfl rfl)
def dkwJ5_pollLast_1 : List UInt8 := [198, 0, 12, 43, 42, 28, 90, 181, 0, 20, 1, 83, 45, 176]
abbrev dktJ5_pollLast_1 : List UInt8 := dkwJ5_pollLast_1 ++ []
def dkwJ5_pollLast_0 : List UInt8 := [42, 180, 0, 3, 89, 76, 42, 180, 0, 20, 43, 190, 184, 0, 68, 89, 61, 184, 0, 103, 78, 45]
abbrev dktJ5_pollLast_0 : List UInt8 := dkwJ5_pollLast_0 ++ dktJ5_pollLast_1
theorem dksJ5_pollLast_0 : cJ5_pollLast.data.toList.drop 0 = dktJ5_pollLast_0 := by decide +kernel
theorem dksJ5_pollLast_1 : cJ5_pollLast.data.toList.drop 22 = dktJ5_pollLast_1 := dk_seg dksJ5_pollLast_0 22 rfl rfl
theorem dJ5_pollLast_0 : decode cJ5_pollLast 0 = .ok (.aload_n 0, 1) := dk_42 (dk_at dksJ5_pollLast_0 0 rfl rfl)
theorem dJ5_pollLast_1 : decode cJ5_pollLast 1 = .ok (.getfield 3, 3) := dk_180 0 3 (dk_at dksJ5_pollLast_0 1 rfl rfl)
theorem dJ5_pollLast_4 : decode cJ5_pollLast 4 = .ok (.dup, 1) := dk_89 (dk_at dksJ5_pollLast_0 4 rfl rfl)
theorem dJ5_pollLast_5 : decode cJ5_pollLast 5 = .ok (.astore_n 1, 1) := dk_76 (dk_at dksJ5_pollLast_0 5 rfl rfl)
theorem dJ5_pollLast_6 : decode cJ5_pollLast 6 = .ok (.aload_n 0, 1) := dk_42 (dk_at dksJ5_pollLast_0 6 rfl rfl)
theorem dJ5_pollLast_7 : decode cJ5_pollLast 7 = .ok (.getfield 20, 3) := dk_180 0 20 (dk_at dksJ5_pollLast_0 7 rfl rfl)
theorem dJ5_pollLast_10 : decode cJ5_pollLast 10 = .ok (.aload_n 1, 1) := dk_43 (dk_at dksJ5_pollLast_0 10 rfl rfl)
theorem dJ5_pollLast_11 : decode cJ5_pollLast 11 = .ok (.arraylength, 1) := dk_190 (dk_at dksJ5_pollLast_0 11 rfl rfl)
theorem dJ5_pollLast_12 : decode cJ5_pollLast 12 = .ok (.invokestatic 68, 3) := dk_184 0 68 (dk_at dksJ5_pollLast_0 12 rfl rfl)
theorem dJ5_pollLast_15 : decode cJ5_pollLast 15 = .ok (.dup, 1) := dk_89 (dk_at dksJ5_pollLast_0 15 rfl rfl)
theorem dJ5_pollLast_16 : decode cJ5_pollLast 16 = .ok (.istore_n 2, 1) := dk_61 (dk_at dksJ5_pollLast_0 16 rfl rfl)
theorem dJ5_pollLast_17 : decode cJ5_pollLast 17 = .ok (.invokestatic 103, 3) := dk_184 0 103 (dk_at dksJ5_pollLast_0 17 rfl rfl)
theorem dJ5_pollLast_20 : decode cJ5_pollLast 20 = .ok (.astore_n 3, 1) := dk_78 (dk_at dksJ5_pollLast_0 20 rfl rfl)
theorem dJ5_pollLast_21 : decode cJ5_pollLast 21 = .ok (.aload_n 3, 1) := dk_45 (dk_at dksJ5_pollLast_0 21 rfl rfl)
theorem dJ5_pollLast_22 : decode cJ5_pollLast 22 = .ok (.ifnull 12, 3) := dk_198 0 12 (dk_at dksJ5_pollLast_1 0 rfl rfl)
theorem dJ5_pollLast_25 : decode cJ5_pollLast 25 = .ok (.aload_n 1, 1) := dk_43 (dk_at dksJ5_pollLast_1 3 rfl rfl)
theorem dJ5_pollLast_26 : decode cJ5_pollLast 26 = .ok (.aload_n 0, 1) := dk_42 (dk_at dksJ5_pollLast_1 4 rfl rfl)
theorem dJ5_pollLast_27 : decode cJ5_pollLast 27 = .ok (.iload_n 2, 1) := dk_28 (dk_at dksJ5_pollLast_1 5 rfl rfl)
theorem dJ5_pollLast_28 : decode cJ5_pollLast 28 = .ok (.dup_x1, 1) := dk_90 (dk_at dksJ5_pollLast_1 6 rfl rfl)
theorem dJ5_pollLast_29 : decode cJ5_pollLast 29 = .ok (.putfield 20, 3) := dk_181 0 20 (dk_at dksJ5_pollLast_1 7 rfl rfl)
theorem dJ5_pollLast_32 : decode cJ5_pollLast 32 = .ok (.aconst_null, 1) := dk_1 (dk_at dksJ5_pollLast_1 10 rfl rfl)
theorem dJ5_pollLast_33 : decode cJ5_pollLast 33 = .ok (.aastore, 1) := dk_83 (dk_at dksJ5_pollLast_1 11 rfl rfl)
theorem dJ5_pollLast_34 : decode cJ5_pollLast 34 = .ok (.aload_n 3, 1) := dk_45 (dk_at dksJ5_pollLast_1 12 rfl rfl)
theorem dJ5_pollLast_35 : decode cJ5_pollLast 35 = .ok (.areturn, 1) := dk_176 (dk_at dksJ5_pollLast_1 13 rfl rfl)
def dkwJ5_dec_0 : List UInt8 := [132, 0, 255, 26, 156, 0, 7, 27, 4, 100, 59, 26, 172]
abbrev dktJ5_dec_0 : List UInt8 := dkwJ5_dec_0 ++ []
theorem dksJ5_dec_0 : cJ5_dec.data.toList.drop 0 = dktJ5_dec_0 := by decide +kernel
theorem dJ5_dec_0 : decode cJ5_dec 0 = .ok (.iinc 0 (-1), 3) := dk_132 0 255 (dk_at dksJ5_dec_0 0 rfl rfl)
theorem dJ5_dec_3 : decode cJ5_dec 3 = .ok (.iload_n 0, 1) := dk_26 (dk_at dksJ5_dec_0 3 rfl rfl)
theorem dJ5_dec_4 : decode cJ5_dec 4 = .ok (.ifCond .ge 7, 3) := dk_156 0 7 (dk_at dksJ5_dec_0 4 rfl rfl)
theorem dJ5_dec_7 : decode cJ5_dec 7 = .ok (.iload_n 1, 1) := dk_27 (dk_at dksJ5_dec_0 7 rfl rfl)
theorem dJ5_dec_8 : decode cJ5_dec 8 = .ok (.iconst 1, 1) := dk_4 (dk_at dksJ5_dec_0 8 rfl rfl)
theorem dJ5_dec_9 : decode cJ5_dec 9 = .ok (.isub, 1) := dk_100 (dk_at dksJ5_dec_0 9 rfl rfl)
theorem dJ5_dec_10 : decode cJ5_dec 10 = .ok (.istore_n 0, 1) := dk_59 (dk_at dksJ5_dec_0 10 rfl rfl)
theorem dJ5_dec_11 : decode cJ5_dec 11 = .ok (.iload_n 0, 1) := dk_26 (dk_at dksJ5_dec_0 11 rfl rfl)
theorem dJ5_dec_12 : decode cJ5_dec 12 = .ok (.ireturn, 1) := dk_172 (dk_at dksJ5_dec_0 12 rfl rfl)
def dkwJ5_inc_0 : List UInt8 := [132, 0, 1, 26, 27, 161, 0, 5, 3, 59, 26, 172]
abbrev dktJ5_inc_0 : List UInt8 := dkwJ5_inc_0 ++ []
theorem dksJ5_inc_0 : cJ5_inc.data.toList.drop 0 = dktJ5_inc_0 := by decide +kernel
theorem dJ5_inc_0 : decode cJ5_inc 0 = .ok (.iinc 0 1, 3) := dk_132 0 1 (dk_at dksJ5_inc_0 0 rfl rfl)
theorem dJ5_inc_3 : decode cJ5_inc 3 = .ok (.iload_n 0, 1) := dk_26 (dk_at dksJ5_inc_0 3 rfl rfl)
theorem dJ5_inc_4 : decode cJ5_inc 4 = .ok (.iload_n 1, 1) := dk_27 (dk_at dksJ5_inc_0 4 rfl rfl)
theorem dJ5_inc_5 : decode cJ5_inc 5 = .ok (.if_icmp .lt 5, 3) := dk_161 0 5 (dk_at dksJ5_inc_0 5 rfl rfl)
theorem dJ5_inc_8 : decode cJ5_inc 8 = .ok (.iconst 0, 1) := dk_3 (dk_at dksJ5_inc_0 8 rfl rfl)
theorem dJ5_inc_9 : decode cJ5_inc 9 = .ok (.istore_n 0, 1) := dk_59 (dk_at dksJ5_inc_0 9 rfl rfl)
theorem dJ5_inc_10 : decode cJ5_inc 10 = .ok (.iload_n 0, 1) := dk_26 (dk_at dksJ5_inc_0 10 rfl rfl)
theorem dJ5_inc_11 : decode cJ5_inc 11 = .ok (.ireturn, 1) := dk_172 (dk_at dksJ5_inc_0 11 rfl rfl)
def dkwJ6_init_1 : List UInt8 := [167, 0, 16, 42, 27, 184, 0, 26, 181, 0, 15, 42, 4, 181, 0, 22, 177]
abbrev dktJ6_init_1 : List UInt8 := dkwJ6_init_1 ++ []
def dkwJ6_init_0 : List UInt8 := [42, 183, 0, 3, 178, 0, 18, 153, 0, 18, 42, 27, 188, 8, 181, 0, 15, 42, 3, 181, 0, 22]
abbrev dktJ6_init_0 : List UInt8 := dkwJ6_init_0 ++ dktJ6_init_1
theorem dksJ6_init_0 : cJ6_init.data.toList.drop 0 = dktJ6_init_0 := by decide +kernel
theorem dksJ6_init_1 : cJ6_init.data.toList.drop 22 = dktJ6_init_1 := dk_seg dksJ6_init_0 22 rfl rfl
theorem dJ6_init_0 : decode cJ6_init 0 = .ok (.aload_n 0, 1) := dk_42 (dk_at dksJ6_init_0 0 rfl rfl)
theorem dJ6_init_1 : decode cJ6_init 1 = .ok (.invokespecial 3, 3) := dk_183 0 3 (dk_at dksJ6_init_0 1 rfl rfl)
theorem dJ6_init_4 : decode cJ6_init 4 = .ok (.getstatic 18, 3) := dk_178 0 18 (dk_at dksJ6_init_0 4 rfl rfl)
theorem dJ6_init_7 : decode cJ6_init 7 = .ok (.ifCond .eq 18, 3) := dk_153 0 18 (dk_at dksJ6_init_0 7 rfl rfl)
theorem dJ6_init_10 : decode cJ6_init 10 = .ok (.aload_n 0, 1) := dk_42 (dk_at dksJ6_init_0 10 rfl rfl)
theorem dJ6_init_11 : decode cJ6_init 11 = .ok (.iload_n 1, 1) := dk_27 (dk_at dksJ6_init_0 11 rfl rfl)
theorem dJ6_init_12 : decode cJ6_init 12 = .ok (.newarray .byte, 2) := dk_188_8 (dk_at dksJ6_init_0 12 rfl rfl)
theorem dJ6_init_14 : decode cJ6_init 14 = .ok (.putfield 15, 3) := dk_181 0 15 (dk_at dksJ6_init_0 14 rfl rfl)
theorem dJ6_init_17 : decode cJ6_init 17 = .ok (.aload_n 0, 1) := dk_42 (dk_at dksJ6_init_0 17 rfl rfl)
theorem dJ6_init_18 : decode cJ6_init 18 = .ok (.iconst 0, 1) := dk_3 (dk_at dksJ6_init_0 18 rfl rfl)
theorem dJ6_init_19 : decode cJ6_init 19 = .ok (.putfield 22, 3) := dk_181 0 22 (dk_at dksJ6_init_0 19 rfl rfl)
theorem dJ6_init_22 : decode cJ6_init 22 = .ok (.goto 16, 3) := dk_167 0 16 (dk_at dksJ6_init_1 0 rfl rfl)
theorem dJ6_init_25 : decode cJ6_init 25 = .ok (.aload_n 0, 1) := dk_42 (dk_at dksJ6_init_1 3 rfl rfl)
theorem dJ6_init_26 : decode cJ6_init 26 = .ok (.iload_n 1, 1) := dk_27 (dk_at dksJ6_init_1 4 rfl rfl)
theorem dJ6_init_27 : decode cJ6_init 27 = .ok (.invokestatic 26, 3) := dk_184 0 26 (dk_at dksJ6_init_1 5 rfl rfl)
theorem dJ6_init_30 : decode cJ6_init 30 = .ok (.putfield 15, 3) := dk_181 0 15 (dk_at dksJ6_init_1 8 rfl rfl)
theorem dJ6_init_33 : decode cJ6_init 33 = .ok (.aload_n 0, 1) := dk_42 (dk_at dksJ6_init_1 11 rfl rfl)
theorem dJ6_init_34 : decode cJ6_init 34 = .ok (.iconst 1, 1) := dk_4 (dk_at dksJ6_init_1 12 rfl rfl)
theorem dJ6_init_35 : decode cJ6_init 35 = .ok (.putfield 22, 3) := dk_181 0 22 (dk_at dksJ6_init_1 13 rfl rfl)
theorem dJ6_init_38 : decode cJ6_init 38 = .ok (.return_, 1) := dk_177 (dk_at dksJ6_init_1 16 rfl rfl)
theorem dJ6_length_0 : decode cJ6_length 0 = .ok (.aload_n 0, 1) := by decide +kernel
theorem dJ6_length_1 : decode cJ6_length 1 = .ok (.getfield 79, 3) := by decide +kernel
theorem dJ6_length_4 : decode cJ6_length 4 = .ok (.ireturn, 1) := by decide +kernel
def dkwJ6_isLatin1_0 : List UInt8 := [178, 0, 18, 153, 0, 14, 42, 180, 0, 22, 154, 0, 7, 4, 167, 0, 4, 3, 172]
abbrev dktJ6_isLatin1_0 : List UInt8 := dkwJ6_isLatin1_0 ++ []
theorem dksJ6_isLatin1_0 : cJ6_isLatin1.data.toList.drop 0 = dktJ6_isLatin1_0 := by decide +kernel
theorem dJ6_isLatin1_0 : decode cJ6_isLatin1 0 = .ok (.getstatic 18, 3) := dk_178 0 18 (dk_at dksJ6_isLatin1_0 0 rfl rfl)
theorem dJ6_isLatin1_3 : decode cJ6_isLatin1 3 = .ok (.ifCond .eq 14, 3) := dk_153 0 14 (dk_at dksJ6_isLatin1_0 3 rfl rfl)
theorem dJ6_isLatin1_6 : decode cJ6_isLatin1 6 = .ok (.aload_n 0, 1) := dk_42 (dk_at dksJ6_isLatin1_0 6 rfl rfl)
theorem dJ6_isLatin1_7 : decode cJ6_isLatin1 7 = .ok (.getfield 22, 3) := dk_180 0 22 (dk_at dksJ6_isLatin1_0 7 rfl rfl)
theorem dJ6_isLatin1_10 : decode cJ6_isLatin1 10 = .ok (.ifCond .ne 7, 3) := dk_154 0 7 (dk_at dksJ6_isLatin1_0 10 rfl rfl)
theorem dJ6_isLatin1_13 : decode cJ6_isLatin1 13 = .ok (.iconst 1, 1) := dk_4 (dk_at dksJ6_isLatin1_0 13 rfl rfl)
theorem dJ6_isLatin1_14 : decode cJ6_isLatin1 14 = .ok (.goto 4, 3) := dk_167 0 4 (dk_at dksJ6_isLatin1_0 14 rfl rfl)
theorem dJ6_isLatin1_17 : decode cJ6_isLatin1 17 = .ok (.iconst 0, 1) := dk_3 (dk_at dksJ6_isLatin1_0 17 rfl rfl)
theorem dJ6_isLatin1_18 : decode cJ6_isLatin1 18 = .ok (.ireturn, 1) := dk_172 (dk_at dksJ6_isLatin1_0 18 rfl rfl)
def dkwJ6_ensureCapacityInternal_1 : List UInt8 := [182, 0, 104, 42, 180, 0, 22, 120, 184, 0, 108, 181, 0, 15, 177]
abbrev dktJ6_ensureCapacityInternal_1 : List UInt8 := dkwJ6_ensureCapacityInternal_1 ++ []
def dkwJ6_ensureCapacityInternal_0 : List UInt8 := [42, 180, 0, 15, 190, 42, 180, 0, 22, 122, 61, 27, 28, 100, 158, 0, 24, 42, 42, 180, 0, 15, 42, 27]
abbrev dktJ6_ensureCapacityInternal_0 : List UInt8 := dkwJ6_ensureCapacityInternal_0 ++ dktJ6_ensureCapacityInternal_1
theorem dksJ6_ensureCapacityInternal_0 : cJ6_ensureCapacityInternal.data.toList.drop 0 = dktJ6_ensureCapacityInternal_0 := by decide +kernel
theorem dksJ6_ensureCapacityInternal_1 : cJ6_ensureCapacityInternal.data.toList.drop 24 = dktJ6_ensureCapacityInternal_1 := dk_seg dksJ6_ensureCapacityInternal_0 24 rfl rfl
theorem dJ6_ensureCapacityInternal_0 : decode cJ6_ensureCapacityInternal 0 = .ok (.aload_n 0, 1) := dk_42 (dk_at dksJ6_ensureCapacityInternal_0 0 rfl rfl)
theorem dJ6_ensureCapacityInternal_1 : decode cJ6_ensureCapacityInternal 1 = .ok (.getfield 15, 3) := dk_180 0 15 (dk_at dksJ6_ensureCapacityInternal_0 1 rfl rfl)
theorem dJ6_ensureCapacityInternal_4 : decode cJ6_ensureCapacityInternal 4 = .ok (.arraylength, 1) := dk_190 (dk_at dksJ6_ensureCapacityInternal_0 4 rfl rfl)
theorem dJ6_ensureCapacityInternal_5 : decode cJ6_ensureCapacityInternal 5 = .ok (.aload_n 0, 1) := dk_42 (dk_at dksJ6_ensureCapacityInternal_0 5 rfl rfl)
theorem dJ6_ensureCapacityInternal_6 : decode cJ6_ensureCapacityInternal 6 = .ok (.getfield 22, 3) := dk_180 0 22 (dk_at dksJ6_ensureCapacityInternal_0 6 rfl rfl)
theorem dJ6_ensureCapacityInternal_9 : decode cJ6_ensureCapacityInternal 9 = .ok (.ishr, 1) := dk_122 (dk_at dksJ6_ensureCapacityInternal_0 9 rfl rfl)
theorem dJ6_ensureCapacityInternal_10 : decode cJ6_ensureCapacityInternal 10 = .ok (.istore_n 2, 1) := dk_61 (dk_at dksJ6_ensureCapacityInternal_0 10 rfl rfl)
theorem dJ6_ensureCapacityInternal_11 : decode cJ6_ensureCapacityInternal 11 = .ok (.iload_n 1, 1) := dk_27 (dk_at dksJ6_ensureCapacityInternal_0 11 rfl rfl)
theorem dJ6_ensureCapacityInternal_12 : decode cJ6_ensureCapacityInternal 12 = .ok (.iload_n 2, 1) := dk_28 (dk_at dksJ6_ensureCapacityInternal_0 12 rfl rfl)
theorem dJ6_ensureCapacityInternal_13 : decode cJ6_ensureCapacityInternal 13 = .ok (.isub, 1) := dk_100 (dk_at dksJ6_ensureCapacityInternal_0 13 rfl rfl)
theorem dJ6_ensureCapacityInternal_14 : decode cJ6_ensureCapacityInternal 14 = .ok (.ifCond .le 24, 3) := dk_158 0 24 (dk_at dksJ6_ensureCapacityInternal_0 14 rfl rfl)
theorem dJ6_ensureCapacityInternal_17 : decode cJ6_ensureCapacityInternal 17 = .ok (.aload_n 0, 1) := dk_42 (dk_at dksJ6_ensureCapacityInternal_0 17 rfl rfl)
theorem dJ6_ensureCapacityInternal_18 : decode cJ6_ensureCapacityInternal 18 = .ok (.aload_n 0, 1) := dk_42 (dk_at dksJ6_ensureCapacityInternal_0 18 rfl rfl)
theorem dJ6_ensureCapacityInternal_19 : decode cJ6_ensureCapacityInternal 19 = .ok (.getfield 15, 3) := dk_180 0 15 (dk_at dksJ6_ensureCapacityInternal_0 19 rfl rfl)
theorem dJ6_ensureCapacityInternal_22 : decode cJ6_ensureCapacityInternal 22 = .ok (.aload_n 0, 1) := dk_42 (dk_at dksJ6_ensureCapacityInternal_0 22 rfl rfl)
theorem dJ6_ensureCapacityInternal_23 : decode cJ6_ensureCapacityInternal 23 = .ok (.iload_n 1, 1) := dk_27 (dk_at dksJ6_ensureCapacityInternal_0 23 rfl rfl)
theorem dJ6_ensureCapacityInternal_24 : decode cJ6_ensureCapacityInternal 24 = .ok (.invokevirtual 104, 3) := dk_182 0 104 (dk_at dksJ6_ensureCapacityInternal_1 0 rfl rfl)
theorem dJ6_ensureCapacityInternal_27 : decode cJ6_ensureCapacityInternal 27 = .ok (.aload_n 0, 1) := dk_42 (dk_at dksJ6_ensureCapacityInternal_1 3 rfl rfl)
theorem dJ6_ensureCapacityInternal_28 : decode cJ6_ensureCapacityInternal 28 = .ok (.getfield 22, 3) := dk_180 0 22 (dk_at dksJ6_ensureCapacityInternal_1 4 rfl rfl)
theorem dJ6_ensureCapacityInternal_31 : decode cJ6_ensureCapacityInternal 31 = .ok (.ishl, 1) := dk_120 (dk_at dksJ6_ensureCapacityInternal_1 7 rfl rfl)
theorem dJ6_ensureCapacityInternal_32 : decode cJ6_ensureCapacityInternal 32 = .ok (.invokestatic 108, 3) := dk_184 0 108 (dk_at dksJ6_ensureCapacityInternal_1 8 rfl rfl)
theorem dJ6_ensureCapacityInternal_35 : decode cJ6_ensureCapacityInternal 35 = .ok (.putfield 15, 3) := dk_181 0 15 (dk_at dksJ6_ensureCapacityInternal_1 11 rfl rfl)
theorem dJ6_ensureCapacityInternal_38 : decode cJ6_ensureCapacityInternal 38 = .ok (.return_, 1) := dk_177 (dk_at dksJ6_ensureCapacityInternal_1 14 rfl rfl)
def dkwJ6_newCapacity_2 : List UInt8 := [183, 0, 124, 191, 21, 5, 42, 180, 0, 22, 122, 172]
abbrev dktJ6_newCapacity_2 : List UInt8 := dkwJ6_newCapacity_2 ++ []
def dkwJ6_newCapacity_1 : List UInt8 := [180, 0, 22, 120, 96, 184, 0, 114, 54, 5, 21, 5, 18, 39, 160, 0, 13, 187, 0, 120, 89, 18, 122]
abbrev dktJ6_newCapacity_1 : List UInt8 := dkwJ6_newCapacity_1 ++ dktJ6_newCapacity_2
def dkwJ6_newCapacity_0 : List UInt8 := [42, 180, 0, 15, 190, 61, 27, 42, 180, 0, 22, 120, 62, 29, 28, 100, 54, 4, 28, 21, 4, 28, 5, 42]
abbrev dktJ6_newCapacity_0 : List UInt8 := dkwJ6_newCapacity_0 ++ dktJ6_newCapacity_1
theorem dksJ6_newCapacity_0 : cJ6_newCapacity.data.toList.drop 0 = dktJ6_newCapacity_0 := by decide +kernel
theorem dksJ6_newCapacity_1 : cJ6_newCapacity.data.toList.drop 24 = dktJ6_newCapacity_1 := dk_seg dksJ6_newCapacity_0 24 rfl rfl
theorem dksJ6_newCapacity_2 : cJ6_newCapacity.data.toList.drop 47 = dktJ6_newCapacity_2 := dk_seg dksJ6_newCapacity_1 23 rfl rfl
theorem dJ6_newCapacity_0 : decode cJ6_newCapacity 0 = .ok (.aload_n 0, 1) := dk_42 (dk_at dksJ6_newCapacity_0 0 rfl rfl)
theorem dJ6_newCapacity_1 : decode cJ6_newCapacity 1 = .ok (.getfield 15, 3) := dk_180 0 15 (dk_at dksJ6_newCapacity_0 1 rfl rfl)
theorem dJ6_newCapacity_4 : decode cJ6_newCapacity 4 = .ok (.arraylength, 1) := dk_190 (dk_at dksJ6_newCapacity_0 4 rfl rfl)
theorem dJ6_newCapacity_5 : decode cJ6_newCapacity 5 = .ok (.istore_n 2, 1) := dk_61 (dk_at dksJ6_newCapacity_0 5 rfl rfl)
theorem dJ6_newCapacity_6 : decode cJ6_newCapacity 6 = .ok (.iload_n 1, 1) := dk_27 (dk_at dksJ6_newCapacity_0 6 rfl rfl)
theorem dJ6_newCapacity_7 : decode cJ6_newCapacity 7 = .ok (.aload_n 0, 1) := dk_42 (dk_at dksJ6_newCapacity_0 7 rfl rfl)
theorem dJ6_newCapacity_8 : decode cJ6_newCapacity 8 = .ok (.getfield 22, 3) := dk_180 0 22 (dk_at dksJ6_newCapacity_0 8 rfl rfl)
theorem dJ6_newCapacity_11 : decode cJ6_newCapacity 11 = .ok (.ishl, 1) := dk_120 (dk_at dksJ6_newCapacity_0 11 rfl rfl)
theorem dJ6_newCapacity_12 : decode cJ6_newCapacity 12 = .ok (.istore_n 3, 1) := dk_62 (dk_at dksJ6_newCapacity_0 12 rfl rfl)
theorem dJ6_newCapacity_13 : decode cJ6_newCapacity 13 = .ok (.iload_n 3, 1) := dk_29 (dk_at dksJ6_newCapacity_0 13 rfl rfl)
theorem dJ6_newCapacity_14 : decode cJ6_newCapacity 14 = .ok (.iload_n 2, 1) := dk_28 (dk_at dksJ6_newCapacity_0 14 rfl rfl)
theorem dJ6_newCapacity_15 : decode cJ6_newCapacity 15 = .ok (.isub, 1) := dk_100 (dk_at dksJ6_newCapacity_0 15 rfl rfl)
theorem dJ6_newCapacity_16 : decode cJ6_newCapacity 16 = .ok (.istore 4, 2) := dk_54 4 (dk_at dksJ6_newCapacity_0 16 rfl rfl)
theorem dJ6_newCapacity_18 : decode cJ6_newCapacity 18 = .ok (.iload_n 2, 1) := dk_28 (dk_at dksJ6_newCapacity_0 18 rfl rfl)
theorem dJ6_newCapacity_19 : decode cJ6_newCapacity 19 = .ok (.iload 4, 2) := dk_21 4 (dk_at dksJ6_newCapacity_0 19 rfl rfl)
theorem dJ6_newCapacity_21 : decode cJ6_newCapacity 21 = .ok (.iload_n 2, 1) := dk_28 (dk_at dksJ6_newCapacity_0 21 rfl rfl)
theorem dJ6_newCapacity_22 : decode cJ6_newCapacity 22 = .ok (.iconst 2, 1) := dk_5 (dk_at dksJ6_newCapacity_0 22 rfl rfl)
theorem dJ6_newCapacity_23 : decode cJ6_newCapacity 23 = .ok (.aload_n 0, 1) := dk_42 (dk_at dksJ6_newCapacity_0 23 rfl rfl)
theorem dJ6_newCapacity_24 : decode cJ6_newCapacity 24 = .ok (.getfield 22, 3) := dk_180 0 22 (dk_at dksJ6_newCapacity_1 0 rfl rfl)
theorem dJ6_newCapacity_27 : decode cJ6_newCapacity 27 = .ok (.ishl, 1) := dk_120 (dk_at dksJ6_newCapacity_1 3 rfl rfl)
theorem dJ6_newCapacity_28 : decode cJ6_newCapacity 28 = .ok (.iadd, 1) := dk_96 (dk_at dksJ6_newCapacity_1 4 rfl rfl)
theorem dJ6_newCapacity_29 : decode cJ6_newCapacity 29 = .ok (.invokestatic 114, 3) := dk_184 0 114 (dk_at dksJ6_newCapacity_1 5 rfl rfl)
theorem dJ6_newCapacity_32 : decode cJ6_newCapacity 32 = .ok (.istore 5, 2) := dk_54 5 (dk_at dksJ6_newCapacity_1 8 rfl rfl)
theorem dJ6_newCapacity_34 : decode cJ6_newCapacity 34 = .ok (.iload 5, 2) := dk_21 5 (dk_at dksJ6_newCapacity_1 10 rfl rfl)
theorem dJ6_newCapacity_36 : decode cJ6_newCapacity 36 = .ok (.ldc 39, 2) := dk_18 39 (dk_at dksJ6_newCapacity_1 12 rfl rfl)
theorem dJ6_newCapacity_38 : decode cJ6_newCapacity 38 = .ok (.if_icmp .ne 13, 3) := dk_160 0 13 (dk_at dksJ6_newCapacity_1 14 rfl rfl)
theorem dJ6_newCapacity_41 : decode cJ6_newCapacity 41 = .ok (.new 120, 3) := dk_187 0 120 (dk_at dksJ6_newCapacity_1 17 rfl rfl)
theorem dJ6_newCapacity_44 : decode cJ6_newCapacity 44 = .ok (.dup, 1) := dk_89 (dk_at dksJ6_newCapacity_1 20 rfl rfl)
theorem dJ6_newCapacity_45 : decode cJ6_newCapacity 45 = .ok (.ldc 122, 2) := dk_18 122 (dk_at dksJ6_newCapacity_1 21 rfl rfl)
theorem dJ6_newCapacity_47 : decode cJ6_newCapacity 47 = .ok (.invokespecial 124, 3) := dk_183 0 124 (dk_at dksJ6_newCapacity_2 0 rfl rfl)
theorem dJ6_newCapacity_50 : decode cJ6_newCapacity 50 = .ok (.athrow, 1) := dk_191 (dk_at dksJ6_newCapacity_2 3 rfl rfl)
theorem dJ6_newCapacity_51 : decode cJ6_newCapacity 51 = .ok (.iload 5, 2) := dk_21 5 (dk_at dksJ6_newCapacity_2 4 rfl rfl)
theorem dJ6_newCapacity_53 : decode cJ6_newCapacity 53 = .ok (.aload_n 0, 1) := dk_42 (dk_at dksJ6_newCapacity_2 6 rfl rfl)
theorem dJ6_newCapacity_54 : decode cJ6_newCapacity 54 = .ok (.getfield 22, 3) := dk_180 0 22 (dk_at dksJ6_newCapacity_2 7 rfl rfl)
theorem dJ6_newCapacity_57 : decode cJ6_newCapacity 57 = .ok (.ishr, 1) := dk_122 (dk_at dksJ6_newCapacity_2 10 rfl rfl)
theorem dJ6_newCapacity_58 : decode cJ6_newCapacity 58 = .ok (.ireturn, 1) := dk_172 (dk_at dksJ6_newCapacity_2 11 rfl rfl)
def dkwJ6_append_3_3 : List UInt8 := [181, 0, 79, 27, 184, 0, 197, 42, 176]
abbrev dktJ6_append_3_3 : List UInt8 := dkwJ6_append_3_3 ++ []
def dkwJ6_append_3_2 : List UInt8 := [182, 0, 83, 153, 0, 7, 42, 182, 0, 195, 42, 180, 0, 15, 42, 89, 180, 0, 79, 90, 4, 96]
abbrev dktJ6_append_3_2 : List UInt8 := dkwJ6_append_3_2 ++ dktJ6_append_3_3
def dkwJ6_append_3_1 : List UInt8 := [42, 180, 0, 15, 42, 89, 180, 0, 79, 90, 4, 96, 181, 0, 79, 27, 145, 84, 167, 0, 33, 42]
abbrev dktJ6_append_3_1 : List UInt8 := dkwJ6_append_3_1 ++ dktJ6_append_3_2
def dkwJ6_append_3_0 : List UInt8 := [42, 42, 180, 0, 79, 4, 96, 182, 0, 100, 42, 182, 0, 83, 153, 0, 31, 27, 184, 0, 191, 153, 0, 24]
abbrev dktJ6_append_3_0 : List UInt8 := dkwJ6_append_3_0 ++ dktJ6_append_3_1
theorem dksJ6_append_3_0 : cJ6_append_3.data.toList.drop 0 = dktJ6_append_3_0 := by decide +kernel
theorem dksJ6_append_3_1 : cJ6_append_3.data.toList.drop 24 = dktJ6_append_3_1 := dk_seg dksJ6_append_3_0 24 rfl rfl
theorem dksJ6_append_3_2 : cJ6_append_3.data.toList.drop 46 = dktJ6_append_3_2 := dk_seg dksJ6_append_3_1 22 rfl rfl
theorem dksJ6_append_3_3 : cJ6_append_3.data.toList.drop 68 = dktJ6_append_3_3 := dk_seg dksJ6_append_3_2 22 rfl rfl
theorem dJ6_append_3_0 : decode cJ6_append_3 0 = .ok (.aload_n 0, 1) := dk_42 (dk_at dksJ6_append_3_0 0 rfl rfl)
theorem dJ6_append_3_1 : decode cJ6_append_3 1 = .ok (.aload_n 0, 1) := dk_42 (dk_at dksJ6_append_3_0 1 rfl rfl)
theorem dJ6_append_3_2 : decode cJ6_append_3 2 = .ok (.getfield 79, 3) := dk_180 0 79 (dk_at dksJ6_append_3_0 2 rfl rfl)
theorem dJ6_append_3_5 : decode cJ6_append_3 5 = .ok (.iconst 1, 1) := dk_4 (dk_at dksJ6_append_3_0 5 rfl rfl)
theorem dJ6_append_3_6 : decode cJ6_append_3 6 = .ok (.iadd, 1) := dk_96 (dk_at dksJ6_append_3_0 6 rfl rfl)
theorem dJ6_append_3_7 : decode cJ6_append_3 7 = .ok (.invokevirtual 100, 3) := dk_182 0 100 (dk_at dksJ6_append_3_0 7 rfl rfl)
theorem dJ6_append_3_10 : decode cJ6_append_3 10 = .ok (.aload_n 0, 1) := dk_42 (dk_at dksJ6_append_3_0 10 rfl rfl)
theorem dJ6_append_3_11 : decode cJ6_append_3 11 = .ok (.invokevirtual 83, 3) := dk_182 0 83 (dk_at dksJ6_append_3_0 11 rfl rfl)
theorem dJ6_append_3_14 : decode cJ6_append_3 14 = .ok (.ifCond .eq 31, 3) := dk_153 0 31 (dk_at dksJ6_append_3_0 14 rfl rfl)
theorem dJ6_append_3_17 : decode cJ6_append_3 17 = .ok (.iload_n 1, 1) := dk_27 (dk_at dksJ6_append_3_0 17 rfl rfl)
theorem dJ6_append_3_18 : decode cJ6_append_3 18 = .ok (.invokestatic 191, 3) := dk_184 0 191 (dk_at dksJ6_append_3_0 18 rfl rfl)
theorem dJ6_append_3_21 : decode cJ6_append_3 21 = .ok (.ifCond .eq 24, 3) := dk_153 0 24 (dk_at dksJ6_append_3_0 21 rfl rfl)
theorem dJ6_append_3_24 : decode cJ6_append_3 24 = .ok (.aload_n 0, 1) := dk_42 (dk_at dksJ6_append_3_1 0 rfl rfl)
theorem dJ6_append_3_25 : decode cJ6_append_3 25 = .ok (.getfield 15, 3) := dk_180 0 15 (dk_at dksJ6_append_3_1 1 rfl rfl)
theorem dJ6_append_3_28 : decode cJ6_append_3 28 = .ok (.aload_n 0, 1) := dk_42 (dk_at dksJ6_append_3_1 4 rfl rfl)
theorem dJ6_append_3_29 : decode cJ6_append_3 29 = .ok (.dup, 1) := dk_89 (dk_at dksJ6_append_3_1 5 rfl rfl)
theorem dJ6_append_3_30 : decode cJ6_append_3 30 = .ok (.getfield 79, 3) := dk_180 0 79 (dk_at dksJ6_append_3_1 6 rfl rfl)
theorem dJ6_append_3_33 : decode cJ6_append_3 33 = .ok (.dup_x1, 1) := dk_90 (dk_at dksJ6_append_3_1 9 rfl rfl)
theorem dJ6_append_3_34 : decode cJ6_append_3 34 = .ok (.iconst 1, 1) := dk_4 (dk_at dksJ6_append_3_1 10 rfl rfl)
theorem dJ6_append_3_35 : decode cJ6_append_3 35 = .ok (.iadd, 1) := dk_96 (dk_at dksJ6_append_3_1 11 rfl rfl)
theorem dJ6_append_3_36 : decode cJ6_append_3 36 = .ok (.putfield 79, 3) := dk_181 0 79 (dk_at dksJ6_append_3_1 12 rfl rfl)
theorem dJ6_append_3_39 : decode cJ6_append_3 39 = .ok (.iload_n 1, 1) := dk_27 (dk_at dksJ6_append_3_1 15 rfl rfl)
theorem dJ6_append_3_40 : decode cJ6_append_3 40 = .ok (.i2b, 1) := dk_145 (dk_at dksJ6_append_3_1 16 rfl rfl)
theorem dJ6_append_3_41 : decode cJ6_append_3 41 = .ok (.bastore, 1) := dk_84 (dk_at dksJ6_append_3_1 17 rfl rfl)
theorem dJ6_append_3_42 : decode cJ6_append_3 42 = .ok (.goto 33, 3) := dk_167 0 33 (dk_at dksJ6_append_3_1 18 rfl rfl)
theorem dJ6_append_3_45 : decode cJ6_append_3 45 = .ok (.aload_n 0, 1) := dk_42 (dk_at dksJ6_append_3_1 21 rfl rfl)
theorem dJ6_append_3_46 : decode cJ6_append_3 46 = .ok (.invokevirtual 83, 3) := dk_182 0 83 (dk_at dksJ6_append_3_2 0 rfl rfl)
theorem dJ6_append_3_49 : decode cJ6_append_3 49 = .ok (.ifCond .eq 7, 3) := dk_153 0 7 (dk_at dksJ6_append_3_2 3 rfl rfl)
theorem dJ6_append_3_52 : decode cJ6_append_3 52 = .ok (.aload_n 0, 1) := dk_42 (dk_at dksJ6_append_3_2 6 rfl rfl)
theorem dJ6_append_3_53 : decode cJ6_append_3 53 = .ok (.invokevirtual 195, 3) := dk_182 0 195 (dk_at dksJ6_append_3_2 7 rfl rfl)
theorem dJ6_append_3_56 : decode cJ6_append_3 56 = .ok (.aload_n 0, 1) := dk_42 (dk_at dksJ6_append_3_2 10 rfl rfl)
theorem dJ6_append_3_57 : decode cJ6_append_3 57 = .ok (.getfield 15, 3) := dk_180 0 15 (dk_at dksJ6_append_3_2 11 rfl rfl)
theorem dJ6_append_3_60 : decode cJ6_append_3 60 = .ok (.aload_n 0, 1) := dk_42 (dk_at dksJ6_append_3_2 14 rfl rfl)
theorem dJ6_append_3_61 : decode cJ6_append_3 61 = .ok (.dup, 1) := dk_89 (dk_at dksJ6_append_3_2 15 rfl rfl)
theorem dJ6_append_3_62 : decode cJ6_append_3 62 = .ok (.getfield 79, 3) := dk_180 0 79 (dk_at dksJ6_append_3_2 16 rfl rfl)
theorem dJ6_append_3_65 : decode cJ6_append_3 65 = .ok (.dup_x1, 1) := dk_90 (dk_at dksJ6_append_3_2 19 rfl rfl)
theorem dJ6_append_3_66 : decode cJ6_append_3 66 = .ok (.iconst 1, 1) := dk_4 (dk_at dksJ6_append_3_2 20 rfl rfl)
theorem dJ6_append_3_67 : decode cJ6_append_3 67 = .ok (.iadd, 1) := dk_96 (dk_at dksJ6_append_3_2 21 rfl rfl)
theorem dJ6_append_3_68 : decode cJ6_append_3 68 = .ok (.putfield 79, 3) := dk_181 0 79 (dk_at dksJ6_append_3_3 0 rfl rfl)
theorem dJ6_append_3_71 : decode cJ6_append_3 71 = .ok (.iload_n 1, 1) := dk_27 (dk_at dksJ6_append_3_3 3 rfl rfl)
theorem dJ6_append_3_72 : decode cJ6_append_3 72 = .ok (.invokestatic 197, 3) := dk_184 0 197 (dk_at dksJ6_append_3_3 4 rfl rfl)
theorem dJ6_append_3_75 : decode cJ6_append_3 75 = .ok (.aload_n 0, 1) := dk_42 (dk_at dksJ6_append_3_3 7 rfl rfl)
theorem dJ6_append_3_76 : decode cJ6_append_3 76 = .ok (.areturn, 1) := dk_176 (dk_at dksJ6_append_3_3 8 rfl rfl)
def dkwJ6_charAt_1 : List UInt8 := [21, 4, 184, 0, 144, 28, 154, 0, 12, 45, 27, 51, 17, 0, 255, 126, 146, 172, 45, 27, 184, 0, 148, 172]
abbrev dktJ6_charAt_1 : List UInt8 := dkwJ6_charAt_1 ++ []
def dkwJ6_charAt_0 : List UInt8 := [42, 180, 0, 22, 61, 42, 180, 0, 15, 78, 42, 180, 0, 79, 45, 190, 28, 122, 184, 0, 138, 54, 4, 27]
abbrev dktJ6_charAt_0 : List UInt8 := dkwJ6_charAt_0 ++ dktJ6_charAt_1
theorem dksJ6_charAt_0 : cJ6_charAt.data.toList.drop 0 = dktJ6_charAt_0 := by decide +kernel
theorem dksJ6_charAt_1 : cJ6_charAt.data.toList.drop 24 = dktJ6_charAt_1 := dk_seg dksJ6_charAt_0 24 rfl rfl
theorem dJ6_charAt_0 : decode cJ6_charAt 0 = .ok (.aload_n 0, 1) := dk_42 (dk_at dksJ6_charAt_0 0 rfl rfl)
theorem dJ6_charAt_1 : decode cJ6_charAt 1 = .ok (.getfield 22, 3) := dk_180 0 22 (dk_at dksJ6_charAt_0 1 rfl rfl)
theorem dJ6_charAt_4 : decode cJ6_charAt 4 = .ok (.istore_n 2, 1) := dk_61 (dk_at dksJ6_charAt_0 4 rfl rfl)
theorem dJ6_charAt_5 : decode cJ6_charAt 5 = .ok (.aload_n 0, 1) := dk_42 (dk_at dksJ6_charAt_0 5 rfl rfl)
theorem dJ6_charAt_6 : decode cJ6_charAt 6 = .ok (.getfield 15, 3) := dk_180 0 15 (dk_at dksJ6_charAt_0 6 rfl rfl)
theorem dJ6_charAt_9 : decode cJ6_charAt 9 = .ok (.astore_n 3, 1) := dk_78 (dk_at dksJ6_charAt_0 9 rfl rfl)
theorem dJ6_charAt_10 : decode cJ6_charAt 10 = .ok (.aload_n 0, 1) := dk_42 (dk_at dksJ6_charAt_0 10 rfl rfl)
theorem dJ6_charAt_11 : decode cJ6_charAt 11 = .ok (.getfield 79, 3) := dk_180 0 79 (dk_at dksJ6_charAt_0 11 rfl rfl)
theorem dJ6_charAt_14 : decode cJ6_charAt 14 = .ok (.aload_n 3, 1) := dk_45 (dk_at dksJ6_charAt_0 14 rfl rfl)
theorem dJ6_charAt_15 : decode cJ6_charAt 15 = .ok (.arraylength, 1) := dk_190 (dk_at dksJ6_charAt_0 15 rfl rfl)
theorem dJ6_charAt_16 : decode cJ6_charAt 16 = .ok (.iload_n 2, 1) := dk_28 (dk_at dksJ6_charAt_0 16 rfl rfl)
theorem dJ6_charAt_17 : decode cJ6_charAt 17 = .ok (.ishr, 1) := dk_122 (dk_at dksJ6_charAt_0 17 rfl rfl)
theorem dJ6_charAt_18 : decode cJ6_charAt 18 = .ok (.invokestatic 138, 3) := dk_184 0 138 (dk_at dksJ6_charAt_0 18 rfl rfl)
theorem dJ6_charAt_21 : decode cJ6_charAt 21 = .ok (.istore 4, 2) := dk_54 4 (dk_at dksJ6_charAt_0 21 rfl rfl)
theorem dJ6_charAt_23 : decode cJ6_charAt 23 = .ok (.iload_n 1, 1) := dk_27 (dk_at dksJ6_charAt_0 23 rfl rfl)
theorem dJ6_charAt_24 : decode cJ6_charAt 24 = .ok (.iload 4, 2) := dk_21 4 (dk_at dksJ6_charAt_1 0 rfl rfl)
theorem dJ6_charAt_26 : decode cJ6_charAt 26 = .ok (.invokestatic 144, 3) := dk_184 0 144 (dk_at dksJ6_charAt_1 2 rfl rfl)
theorem dJ6_charAt_29 : decode cJ6_charAt 29 = .ok (.iload_n 2, 1) := dk_28 (dk_at dksJ6_charAt_1 5 rfl rfl)
theorem dJ6_charAt_30 : decode cJ6_charAt 30 = .ok (.ifCond .ne 12, 3) := dk_154 0 12 (dk_at dksJ6_charAt_1 6 rfl rfl)
theorem dJ6_charAt_33 : decode cJ6_charAt 33 = .ok (.aload_n 3, 1) := dk_45 (dk_at dksJ6_charAt_1 9 rfl rfl)
theorem dJ6_charAt_34 : decode cJ6_charAt 34 = .ok (.iload_n 1, 1) := dk_27 (dk_at dksJ6_charAt_1 10 rfl rfl)
theorem dJ6_charAt_35 : decode cJ6_charAt 35 = .ok (.baload, 1) := dk_51 (dk_at dksJ6_charAt_1 11 rfl rfl)
theorem dJ6_charAt_36 : decode cJ6_charAt 36 = .ok (.sipush 255, 3) := dk_17 0 255 (dk_at dksJ6_charAt_1 12 rfl rfl)
theorem dJ6_charAt_39 : decode cJ6_charAt 39 = .ok (.iand, 1) := dk_126 (dk_at dksJ6_charAt_1 15 rfl rfl)
theorem dJ6_charAt_40 : decode cJ6_charAt 40 = .ok (.i2c, 1) := dk_146 (dk_at dksJ6_charAt_1 16 rfl rfl)
theorem dJ6_charAt_41 : decode cJ6_charAt 41 = .ok (.ireturn, 1) := dk_172 (dk_at dksJ6_charAt_1 17 rfl rfl)
theorem dJ6_charAt_42 : decode cJ6_charAt 42 = .ok (.aload_n 3, 1) := dk_45 (dk_at dksJ6_charAt_1 18 rfl rfl)
theorem dJ6_charAt_43 : decode cJ6_charAt 43 = .ok (.iload_n 1, 1) := dk_27 (dk_at dksJ6_charAt_1 19 rfl rfl)
theorem dJ6_charAt_44 : decode cJ6_charAt 44 = .ok (.invokestatic 148, 3) := dk_184 0 148 (dk_at dksJ6_charAt_1 20 rfl rfl)
theorem dJ6_charAt_47 : decode cJ6_charAt 47 = .ok (.ireturn, 1) := dk_172 (dk_at dksJ6_charAt_1 23 rfl rfl)
def dkwJ6_subSequence_0 : List UInt8 := [42, 27, 28, 182, 1, 44, 176]
abbrev dktJ6_subSequence_0 : List UInt8 := dkwJ6_subSequence_0 ++ []
theorem dksJ6_subSequence_0 : cJ6_subSequence.data.toList.drop 0 = dktJ6_subSequence_0 := by decide +kernel
theorem dJ6_subSequence_0 : decode cJ6_subSequence 0 = .ok (.aload_n 0, 1) := dk_42 (dk_at dksJ6_subSequence_0 0 rfl rfl)
theorem dJ6_subSequence_1 : decode cJ6_subSequence 1 = .ok (.iload_n 1, 1) := dk_27 (dk_at dksJ6_subSequence_0 1 rfl rfl)
theorem dJ6_subSequence_2 : decode cJ6_subSequence 2 = .ok (.iload_n 2, 1) := dk_28 (dk_at dksJ6_subSequence_0 2 rfl rfl)
theorem dJ6_subSequence_3 : decode cJ6_subSequence 3 = .ok (.invokevirtual 300, 3) := dk_182 1 44 (dk_at dksJ6_subSequence_0 3 rfl rfl)
theorem dJ6_subSequence_6 : decode cJ6_subSequence 6 = .ok (.areturn, 1) := dk_176 (dk_at dksJ6_subSequence_0 6 rfl rfl)
def dkwJ6_substring_1 : List UInt8 := [27, 28, 27, 100, 184, 1, 48, 176, 42, 180, 0, 15, 27, 28, 27, 100, 184, 1, 52, 176]
abbrev dktJ6_substring_1 : List UInt8 := dkwJ6_substring_1 ++ []
def dkwJ6_substring_0 : List UInt8 := [27, 28, 42, 180, 0, 79, 178, 0, 179, 184, 0, 161, 87, 42, 182, 0, 83, 153, 0, 15, 42, 180, 0, 15]
abbrev dktJ6_substring_0 : List UInt8 := dkwJ6_substring_0 ++ dktJ6_substring_1
theorem dksJ6_substring_0 : cJ6_substring.data.toList.drop 0 = dktJ6_substring_0 := by decide +kernel
theorem dksJ6_substring_1 : cJ6_substring.data.toList.drop 24 = dktJ6_substring_1 := dk_seg dksJ6_substring_0 24 rfl rfl
theorem dJ6_substring_0 : decode cJ6_substring 0 = .ok (.iload_n 1, 1) := dk_27 (dk_at dksJ6_substring_0 0 rfl rfl)
theorem dJ6_substring_1 : decode cJ6_substring 1 = .ok (.iload_n 2, 1) := dk_28 (dk_at dksJ6_substring_0 1 rfl rfl)
theorem dJ6_substring_2 : decode cJ6_substring 2 = .ok (.aload_n 0, 1) := dk_42 (dk_at dksJ6_substring_0 2 rfl rfl)
theorem dJ6_substring_3 : decode cJ6_substring 3 = .ok (.getfield 79, 3) := dk_180 0 79 (dk_at dksJ6_substring_0 3 rfl rfl)
theorem dJ6_substring_6 : decode cJ6_substring 6 = .ok (.getstatic 179, 3) := dk_178 0 179 (dk_at dksJ6_substring_0 6 rfl rfl)
theorem dJ6_substring_9 : decode cJ6_substring 9 = .ok (.invokestatic 161, 3) := dk_184 0 161 (dk_at dksJ6_substring_0 9 rfl rfl)
theorem dJ6_substring_12 : decode cJ6_substring 12 = .ok (.pop, 1) := dk_87 (dk_at dksJ6_substring_0 12 rfl rfl)
theorem dJ6_substring_13 : decode cJ6_substring 13 = .ok (.aload_n 0, 1) := dk_42 (dk_at dksJ6_substring_0 13 rfl rfl)
theorem dJ6_substring_14 : decode cJ6_substring 14 = .ok (.invokevirtual 83, 3) := dk_182 0 83 (dk_at dksJ6_substring_0 14 rfl rfl)
theorem dJ6_substring_17 : decode cJ6_substring 17 = .ok (.ifCond .eq 15, 3) := dk_153 0 15 (dk_at dksJ6_substring_0 17 rfl rfl)
theorem dJ6_substring_20 : decode cJ6_substring 20 = .ok (.aload_n 0, 1) := dk_42 (dk_at dksJ6_substring_0 20 rfl rfl)
theorem dJ6_substring_21 : decode cJ6_substring 21 = .ok (.getfield 15, 3) := dk_180 0 15 (dk_at dksJ6_substring_0 21 rfl rfl)
theorem dJ6_substring_24 : decode cJ6_substring 24 = .ok (.iload_n 1, 1) := dk_27 (dk_at dksJ6_substring_1 0 rfl rfl)
theorem dJ6_substring_25 : decode cJ6_substring 25 = .ok (.iload_n 2, 1) := dk_28 (dk_at dksJ6_substring_1 1 rfl rfl)
theorem dJ6_substring_26 : decode cJ6_substring 26 = .ok (.iload_n 1, 1) := dk_27 (dk_at dksJ6_substring_1 2 rfl rfl)
theorem dJ6_substring_27 : decode cJ6_substring 27 = .ok (.isub, 1) := dk_100 (dk_at dksJ6_substring_1 3 rfl rfl)
theorem dJ6_substring_28 : decode cJ6_substring 28 = .ok (.invokestatic 304, 3) := dk_184 1 48 (dk_at dksJ6_substring_1 4 rfl rfl)
theorem dJ6_substring_31 : decode cJ6_substring 31 = .ok (.areturn, 1) := dk_176 (dk_at dksJ6_substring_1 7 rfl rfl)
theorem dJ6_substring_32 : decode cJ6_substring 32 = .ok (.aload_n 0, 1) := dk_42 (dk_at dksJ6_substring_1 8 rfl rfl)
theorem dJ6_substring_33 : decode cJ6_substring 33 = .ok (.getfield 15, 3) := dk_180 0 15 (dk_at dksJ6_substring_1 9 rfl rfl)
theorem dJ6_substring_36 : decode cJ6_substring 36 = .ok (.iload_n 1, 1) := dk_27 (dk_at dksJ6_substring_1 12 rfl rfl)
theorem dJ6_substring_37 : decode cJ6_substring 37 = .ok (.iload_n 2, 1) := dk_28 (dk_at dksJ6_substring_1 13 rfl rfl)
theorem dJ6_substring_38 : decode cJ6_substring 38 = .ok (.iload_n 1, 1) := dk_27 (dk_at dksJ6_substring_1 14 rfl rfl)
theorem dJ6_substring_39 : decode cJ6_substring 39 = .ok (.isub, 1) := dk_100 (dk_at dksJ6_substring_1 15 rfl rfl)
theorem dJ6_substring_40 : decode cJ6_substring 40 = .ok (.invokestatic 308, 3) := dk_184 1 52 (dk_at dksJ6_substring_1 16 rfl rfl)
theorem dJ6_substring_43 : decode cJ6_substring 43 = .ok (.areturn, 1) := dk_176 (dk_at dksJ6_substring_1 19 rfl rfl)
theorem dJ6_getValue_0 : decode cJ6_getValue 0 = .ok (.aload_n 0, 1) := by decide +kernel
theorem dJ6_getValue_1 : decode cJ6_getValue 1 = .ok (.getfield 15, 3) := by decide +kernel
theorem dJ6_getValue_4 : decode cJ6_getValue 4 = .ok (.areturn, 1) := by decide +kernel
def dkwJ7_init_0 : List UInt8 := [42, 16, 16, 183, 0, 1, 177]
abbrev dktJ7_init_0 : List UInt8 := dkwJ7_init_0 ++ []
theorem dksJ7_init_0 : cJ7_init.data.toList.drop 0 = dktJ7_init_0 := by decide +kernel
theorem dJ7_init_0 : decode cJ7_init 0 = .ok (.aload_n 0, 1) := dk_42 (dk_at dksJ7_init_0 0 rfl rfl)
theorem dJ7_init_1 : decode cJ7_init 1 = .ok (.bipush 16, 2) := dk_16 16 (dk_at dksJ7_init_0 1 rfl rfl)
theorem dJ7_init_3 : decode cJ7_init 3 = .ok (.invokespecial 1, 3) := dk_183 0 1 (dk_at dksJ7_init_0 3 rfl rfl)
theorem dJ7_init_6 : decode cJ7_init 6 = .ok (.return_, 1) := dk_177 (dk_at dksJ7_init_0 6 rfl rfl)
def dkwJ7_toString_0 : List UInt8 := [187, 0, 18, 89, 42, 183, 0, 137, 176]
abbrev dktJ7_toString_0 : List UInt8 := dkwJ7_toString_0 ++ []
theorem dksJ7_toString_0 : cJ7_toString.data.toList.drop 0 = dktJ7_toString_0 := by decide +kernel
theorem dJ7_toString_0 : decode cJ7_toString 0 = .ok (.new 18, 3) := dk_187 0 18 (dk_at dksJ7_toString_0 0 rfl rfl)
theorem dJ7_toString_3 : decode cJ7_toString 3 = .ok (.dup, 1) := dk_89 (dk_at dksJ7_toString_0 3 rfl rfl)
theorem dJ7_toString_4 : decode cJ7_toString 4 = .ok (.aload_n 0, 1) := dk_42 (dk_at dksJ7_toString_0 4 rfl rfl)
theorem dJ7_toString_5 : decode cJ7_toString 5 = .ok (.invokespecial 137, 3) := dk_183 0 137 (dk_at dksJ7_toString_0 5 rfl rfl)
theorem dJ7_toString_8 : decode cJ7_toString 8 = .ok (.areturn, 1) := dk_176 (dk_at dksJ7_toString_0 8 rfl rfl)
theorem dJ7_length_0 : decode cJ7_length 0 = .ok (.aload_n 0, 1) := by decide +kernel
theorem dJ7_length_1 : decode cJ7_length 1 = .ok (.invokespecial 343, 3) := by decide +kernel
theorem dJ7_length_4 : decode cJ7_length 4 = .ok (.ireturn, 1) := by decide +kernel
def dkwJ7_append_3_0 : List UInt8 := [42, 27, 183, 0, 50, 87, 42, 176]
abbrev dktJ7_append_3_0 : List UInt8 := dkwJ7_append_3_0 ++ []
theorem dksJ7_append_3_0 : cJ7_append_3.data.toList.drop 0 = dktJ7_append_3_0 := by decide +kernel
theorem dJ7_append_3_0 : decode cJ7_append_3 0 = .ok (.aload_n 0, 1) := dk_42 (dk_at dksJ7_append_3_0 0 rfl rfl)
theorem dJ7_append_3_1 : decode cJ7_append_3 1 = .ok (.iload_n 1, 1) := dk_27 (dk_at dksJ7_append_3_0 1 rfl rfl)
theorem dJ7_append_3_2 : decode cJ7_append_3 2 = .ok (.invokespecial 50, 3) := dk_183 0 50 (dk_at dksJ7_append_3_0 2 rfl rfl)
theorem dJ7_append_3_5 : decode cJ7_append_3 5 = .ok (.pop, 1) := dk_87 (dk_at dksJ7_append_3_0 5 rfl rfl)
theorem dJ7_append_3_6 : decode cJ7_append_3 6 = .ok (.aload_n 0, 1) := dk_42 (dk_at dksJ7_append_3_0 6 rfl rfl)
theorem dJ7_append_3_7 : decode cJ7_append_3 7 = .ok (.areturn, 1) := dk_176 (dk_at dksJ7_append_3_0 7 rfl rfl)
def dkwJ7_charAt_0 : List UInt8 := [42, 27, 183, 1, 73, 172]
abbrev dktJ7_charAt_0 : List UInt8 := dkwJ7_charAt_0 ++ []
theorem dksJ7_charAt_0 : cJ7_charAt.data.toList.drop 0 = dktJ7_charAt_0 := by decide +kernel
theorem dJ7_charAt_0 : decode cJ7_charAt 0 = .ok (.aload_n 0, 1) := dk_42 (dk_at dksJ7_charAt_0 0 rfl rfl)
theorem dJ7_charAt_1 : decode cJ7_charAt 1 = .ok (.iload_n 1, 1) := dk_27 (dk_at dksJ7_charAt_0 1 rfl rfl)
theorem dJ7_charAt_2 : decode cJ7_charAt 2 = .ok (.invokespecial 329, 3) := dk_183 1 73 (dk_at dksJ7_charAt_0 2 rfl rfl)
theorem dJ7_charAt_5 : decode cJ7_charAt 5 = .ok (.ireturn, 1) := dk_172 (dk_at dksJ7_charAt_0 5 rfl rfl)
def dkwJ7_subSequence_0 : List UInt8 := [42, 27, 28, 183, 1, 0, 176]
abbrev dktJ7_subSequence_0 : List UInt8 := dkwJ7_subSequence_0 ++ []
theorem dksJ7_subSequence_0 : cJ7_subSequence.data.toList.drop 0 = dktJ7_subSequence_0 := by decide +kernel
theorem dJ7_subSequence_0 : decode cJ7_subSequence 0 = .ok (.aload_n 0, 1) := dk_42 (dk_at dksJ7_subSequence_0 0 rfl rfl)
theorem dJ7_subSequence_1 : decode cJ7_subSequence 1 = .ok (.iload_n 1, 1) := dk_27 (dk_at dksJ7_subSequence_0 1 rfl rfl)
theorem dJ7_subSequence_2 : decode cJ7_subSequence 2 = .ok (.iload_n 2, 1) := dk_28 (dk_at dksJ7_subSequence_0 2 rfl rfl)
theorem dJ7_subSequence_3 : decode cJ7_subSequence 3 = .ok (.invokespecial 256, 3) := dk_183 1 0 (dk_at dksJ7_subSequence_0 3 rfl rfl)
theorem dJ7_subSequence_6 : decode cJ7_subSequence 6 = .ok (.areturn, 1) := dk_176 (dk_at dksJ7_subSequence_0 6 rfl rfl)
def dkwJ7_substring_0 : List UInt8 := [42, 27, 28, 183, 0, 252, 176]
abbrev dktJ7_substring_0 : List UInt8 := dkwJ7_substring_0 ++ []
theorem dksJ7_substring_0 : cJ7_substring.data.toList.drop 0 = dktJ7_substring_0 := by decide +kernel
theorem dJ7_substring_0 : decode cJ7_substring 0 = .ok (.aload_n 0, 1) := dk_42 (dk_at dksJ7_substring_0 0 rfl rfl)
theorem dJ7_substring_1 : decode cJ7_substring 1 = .ok (.iload_n 1, 1) := dk_27 (dk_at dksJ7_substring_0 1 rfl rfl)
theorem dJ7_substring_2 : decode cJ7_substring 2 = .ok (.iload_n 2, 1) := dk_28 (dk_at dksJ7_substring_0 2 rfl rfl)
theorem dJ7_substring_3 : decode cJ7_substring 3 = .ok (.invokespecial 252, 3) := dk_183 0 252 (dk_at dksJ7_substring_0 3 rfl rfl)
theorem dJ7_substring_6 : decode cJ7_substring 6 = .ok (.areturn, 1) := dk_176 (dk_at dksJ7_substring_0 6 rfl rfl)
def dkwJ8_init_0 : List UInt8 := [42, 43, 1, 183, 1, 233, 177]
abbrev dktJ8_init_0 : List UInt8 := dkwJ8_init_0 ++ []
theorem dksJ8_init_0 : cJ8_init.data.toList.drop 0 = dktJ8_init_0 := by decide +kernel
theorem dJ8_init_0 : decode cJ8_init 0 = .ok (.aload_n 0, 1) := dk_42 (dk_at dksJ8_init_0 0 rfl rfl)
theorem dJ8_init_1 : decode cJ8_init 1 = .ok (.aload_n 1, 1) := dk_43 (dk_at dksJ8_init_0 1 rfl rfl)
theorem dJ8_init_2 : decode cJ8_init 2 = .ok (.aconst_null, 1) := dk_1 (dk_at dksJ8_init_0 2 rfl rfl)
theorem dJ8_init_3 : decode cJ8_init 3 = .ok (.invokespecial 489, 3) := dk_183 1 233 (dk_at dksJ8_init_0 3 rfl rfl)
theorem dJ8_init_6 : decode cJ8_init 6 = .ok (.return_, 1) := dk_177 (dk_at dksJ8_init_0 6 rfl rfl)
def dkwJ8_init_2_4 : List UInt8 := [181, 0, 9, 177]
abbrev dktJ8_init_2_4 : List UInt8 := dkwJ8_init_2_4 ++ []
def dkwJ8_init_2_3 : List UInt8 := [184, 0, 47, 181, 0, 15, 177, 42, 4, 181, 0, 15, 42, 45, 3, 21, 4, 4, 120, 184, 0, 54]
abbrev dktJ8_init_2_3 : List UInt8 := dkwJ8_init_2_3 ++ dktJ8_init_2_4
def dkwJ8_init_2_2 : List UInt8 := [180, 4, 24, 153, 0, 28, 42, 45, 3, 21, 4, 184, 4, 27, 181, 0, 9, 42, 42, 180, 0, 9, 21, 4]
abbrev dktJ8_init_2_2 : List UInt8 := dkwJ8_init_2_2 ++ dktJ8_init_2_3
def dkwJ8_init_2_1 : List UInt8 := [181, 0, 15, 42, 45, 3, 21, 4, 184, 0, 54, 181, 0, 9, 167, 0, 59, 178, 0, 38, 153, 0, 35, 43]
abbrev dktJ8_init_2_1 : List UInt8 := dkwJ8_init_2_1 ++ dktJ8_init_2_2
def dkwJ8_init_2_0 : List UInt8 := [42, 183, 0, 1, 43, 182, 2, 40, 78, 43, 182, 2, 37, 54, 4, 43, 182, 4, 23, 153, 0, 22, 42, 3]
abbrev dktJ8_init_2_0 : List UInt8 := dkwJ8_init_2_0 ++ dktJ8_init_2_1
theorem dksJ8_init_2_0 : cJ8_init_2.data.toList.drop 0 = dktJ8_init_2_0 := by decide +kernel
theorem dksJ8_init_2_1 : cJ8_init_2.data.toList.drop 24 = dktJ8_init_2_1 := dk_seg dksJ8_init_2_0 24 rfl rfl
theorem dksJ8_init_2_2 : cJ8_init_2.data.toList.drop 48 = dktJ8_init_2_2 := dk_seg dksJ8_init_2_1 24 rfl rfl
theorem dksJ8_init_2_3 : cJ8_init_2.data.toList.drop 72 = dktJ8_init_2_3 := dk_seg dksJ8_init_2_2 24 rfl rfl
theorem dksJ8_init_2_4 : cJ8_init_2.data.toList.drop 94 = dktJ8_init_2_4 := dk_seg dksJ8_init_2_3 22 rfl rfl
theorem dJ8_init_2_0 : decode cJ8_init_2 0 = .ok (.aload_n 0, 1) := dk_42 (dk_at dksJ8_init_2_0 0 rfl rfl)
theorem dJ8_init_2_1 : decode cJ8_init_2 1 = .ok (.invokespecial 1, 3) := dk_183 0 1 (dk_at dksJ8_init_2_0 1 rfl rfl)
theorem dJ8_init_2_4 : decode cJ8_init_2 4 = .ok (.aload_n 1, 1) := dk_43 (dk_at dksJ8_init_2_0 4 rfl rfl)
theorem dJ8_init_2_5 : decode cJ8_init_2 5 = .ok (.invokevirtual 552, 3) := dk_182 2 40 (dk_at dksJ8_init_2_0 5 rfl rfl)
theorem dJ8_init_2_8 : decode cJ8_init_2 8 = .ok (.astore_n 3, 1) := dk_78 (dk_at dksJ8_init_2_0 8 rfl rfl)
theorem dJ8_init_2_9 : decode cJ8_init_2 9 = .ok (.aload_n 1, 1) := dk_43 (dk_at dksJ8_init_2_0 9 rfl rfl)
theorem dJ8_init_2_10 : decode cJ8_init_2 10 = .ok (.invokevirtual 549, 3) := dk_182 2 37 (dk_at dksJ8_init_2_0 10 rfl rfl)
theorem dJ8_init_2_13 : decode cJ8_init_2 13 = .ok (.istore 4, 2) := dk_54 4 (dk_at dksJ8_init_2_0 13 rfl rfl)
theorem dJ8_init_2_15 : decode cJ8_init_2 15 = .ok (.aload_n 1, 1) := dk_43 (dk_at dksJ8_init_2_0 15 rfl rfl)
theorem dJ8_init_2_16 : decode cJ8_init_2 16 = .ok (.invokevirtual 1047, 3) := dk_182 4 23 (dk_at dksJ8_init_2_0 16 rfl rfl)
theorem dJ8_init_2_19 : decode cJ8_init_2 19 = .ok (.ifCond .eq 22, 3) := dk_153 0 22 (dk_at dksJ8_init_2_0 19 rfl rfl)
theorem dJ8_init_2_22 : decode cJ8_init_2 22 = .ok (.aload_n 0, 1) := dk_42 (dk_at dksJ8_init_2_0 22 rfl rfl)
theorem dJ8_init_2_23 : decode cJ8_init_2 23 = .ok (.iconst 0, 1) := dk_3 (dk_at dksJ8_init_2_0 23 rfl rfl)
theorem dJ8_init_2_24 : decode cJ8_init_2 24 = .ok (.putfield 15, 3) := dk_181 0 15 (dk_at dksJ8_init_2_1 0 rfl rfl)
theorem dJ8_init_2_27 : decode cJ8_init_2 27 = .ok (.aload_n 0, 1) := dk_42 (dk_at dksJ8_init_2_1 3 rfl rfl)
theorem dJ8_init_2_28 : decode cJ8_init_2 28 = .ok (.aload_n 3, 1) := dk_45 (dk_at dksJ8_init_2_1 4 rfl rfl)
theorem dJ8_init_2_29 : decode cJ8_init_2 29 = .ok (.iconst 0, 1) := dk_3 (dk_at dksJ8_init_2_1 5 rfl rfl)
theorem dJ8_init_2_30 : decode cJ8_init_2 30 = .ok (.iload 4, 2) := dk_21 4 (dk_at dksJ8_init_2_1 6 rfl rfl)
theorem dJ8_init_2_32 : decode cJ8_init_2 32 = .ok (.invokestatic 54, 3) := dk_184 0 54 (dk_at dksJ8_init_2_1 8 rfl rfl)
theorem dJ8_init_2_35 : decode cJ8_init_2 35 = .ok (.putfield 9, 3) := dk_181 0 9 (dk_at dksJ8_init_2_1 11 rfl rfl)
theorem dJ8_init_2_38 : decode cJ8_init_2 38 = .ok (.goto 59, 3) := dk_167 0 59 (dk_at dksJ8_init_2_1 14 rfl rfl)
theorem dJ8_init_2_41 : decode cJ8_init_2 41 = .ok (.getstatic 38, 3) := dk_178 0 38 (dk_at dksJ8_init_2_1 17 rfl rfl)
theorem dJ8_init_2_44 : decode cJ8_init_2 44 = .ok (.ifCond .eq 35, 3) := dk_153 0 35 (dk_at dksJ8_init_2_1 20 rfl rfl)
theorem dJ8_init_2_47 : decode cJ8_init_2 47 = .ok (.aload_n 1, 1) := dk_43 (dk_at dksJ8_init_2_1 23 rfl rfl)
theorem dJ8_init_2_48 : decode cJ8_init_2 48 = .ok (.getfield 1048, 3) := dk_180 4 24 (dk_at dksJ8_init_2_2 0 rfl rfl)
theorem dJ8_init_2_51 : decode cJ8_init_2 51 = .ok (.ifCond .eq 28, 3) := dk_153 0 28 (dk_at dksJ8_init_2_2 3 rfl rfl)
theorem dJ8_init_2_54 : decode cJ8_init_2 54 = .ok (.aload_n 0, 1) := dk_42 (dk_at dksJ8_init_2_2 6 rfl rfl)
theorem dJ8_init_2_55 : decode cJ8_init_2 55 = .ok (.aload_n 3, 1) := dk_45 (dk_at dksJ8_init_2_2 7 rfl rfl)
theorem dJ8_init_2_56 : decode cJ8_init_2 56 = .ok (.iconst 0, 1) := dk_3 (dk_at dksJ8_init_2_2 8 rfl rfl)
theorem dJ8_init_2_57 : decode cJ8_init_2 57 = .ok (.iload 4, 2) := dk_21 4 (dk_at dksJ8_init_2_2 9 rfl rfl)
theorem dJ8_init_2_59 : decode cJ8_init_2 59 = .ok (.invokestatic 1051, 3) := dk_184 4 27 (dk_at dksJ8_init_2_2 11 rfl rfl)
theorem dJ8_init_2_62 : decode cJ8_init_2 62 = .ok (.putfield 9, 3) := dk_181 0 9 (dk_at dksJ8_init_2_2 14 rfl rfl)
theorem dJ8_init_2_65 : decode cJ8_init_2 65 = .ok (.aload_n 0, 1) := dk_42 (dk_at dksJ8_init_2_2 17 rfl rfl)
theorem dJ8_init_2_66 : decode cJ8_init_2 66 = .ok (.aload_n 0, 1) := dk_42 (dk_at dksJ8_init_2_2 18 rfl rfl)
theorem dJ8_init_2_67 : decode cJ8_init_2 67 = .ok (.getfield 9, 3) := dk_180 0 9 (dk_at dksJ8_init_2_2 19 rfl rfl)
theorem dJ8_init_2_70 : decode cJ8_init_2 70 = .ok (.iload 4, 2) := dk_21 4 (dk_at dksJ8_init_2_2 22 rfl rfl)
theorem dJ8_init_2_72 : decode cJ8_init_2 72 = .ok (.invokestatic 47, 3) := dk_184 0 47 (dk_at dksJ8_init_2_3 0 rfl rfl)
theorem dJ8_init_2_75 : decode cJ8_init_2 75 = .ok (.putfield 15, 3) := dk_181 0 15 (dk_at dksJ8_init_2_3 3 rfl rfl)
theorem dJ8_init_2_78 : decode cJ8_init_2 78 = .ok (.return_, 1) := dk_177 (dk_at dksJ8_init_2_3 6 rfl rfl)
theorem dJ8_init_2_79 : decode cJ8_init_2 79 = .ok (.aload_n 0, 1) := dk_42 (dk_at dksJ8_init_2_3 7 rfl rfl)
theorem dJ8_init_2_80 : decode cJ8_init_2 80 = .ok (.iconst 1, 1) := dk_4 (dk_at dksJ8_init_2_3 8 rfl rfl)
theorem dJ8_init_2_81 : decode cJ8_init_2 81 = .ok (.putfield 15, 3) := dk_181 0 15 (dk_at dksJ8_init_2_3 9 rfl rfl)
theorem dJ8_init_2_84 : decode cJ8_init_2 84 = .ok (.aload_n 0, 1) := dk_42 (dk_at dksJ8_init_2_3 12 rfl rfl)
theorem dJ8_init_2_85 : decode cJ8_init_2 85 = .ok (.aload_n 3, 1) := dk_45 (dk_at dksJ8_init_2_3 13 rfl rfl)
theorem dJ8_init_2_86 : decode cJ8_init_2 86 = .ok (.iconst 0, 1) := dk_3 (dk_at dksJ8_init_2_3 14 rfl rfl)
theorem dJ8_init_2_87 : decode cJ8_init_2 87 = .ok (.iload 4, 2) := dk_21 4 (dk_at dksJ8_init_2_3 15 rfl rfl)
theorem dJ8_init_2_89 : decode cJ8_init_2 89 = .ok (.iconst 1, 1) := dk_4 (dk_at dksJ8_init_2_3 17 rfl rfl)
theorem dJ8_init_2_90 : decode cJ8_init_2 90 = .ok (.ishl, 1) := dk_120 (dk_at dksJ8_init_2_3 18 rfl rfl)
theorem dJ8_init_2_91 : decode cJ8_init_2 91 = .ok (.invokestatic 54, 3) := dk_184 0 54 (dk_at dksJ8_init_2_3 19 rfl rfl)
theorem dJ8_init_2_94 : decode cJ8_init_2 94 = .ok (.putfield 9, 3) := dk_181 0 9 (dk_at dksJ8_init_2_4 0 rfl rfl)
theorem dJ8_init_2_97 : decode cJ8_init_2 97 = .ok (.return_, 1) := dk_177 (dk_at dksJ8_init_2_4 3 rfl rfl)
def dkwJ8_init_3_0 : List UInt8 := [42, 183, 0, 1, 42, 43, 181, 0, 9, 42, 28, 181, 0, 15, 177]
abbrev dktJ8_init_3_0 : List UInt8 := dkwJ8_init_3_0 ++ []
theorem dksJ8_init_3_0 : cJ8_init_3.data.toList.drop 0 = dktJ8_init_3_0 := by decide +kernel
theorem dJ8_init_3_0 : decode cJ8_init_3 0 = .ok (.aload_n 0, 1) := dk_42 (dk_at dksJ8_init_3_0 0 rfl rfl)
theorem dJ8_init_3_1 : decode cJ8_init_3 1 = .ok (.invokespecial 1, 3) := dk_183 0 1 (dk_at dksJ8_init_3_0 1 rfl rfl)
theorem dJ8_init_3_4 : decode cJ8_init_3 4 = .ok (.aload_n 0, 1) := dk_42 (dk_at dksJ8_init_3_0 4 rfl rfl)
theorem dJ8_init_3_5 : decode cJ8_init_3 5 = .ok (.aload_n 1, 1) := dk_43 (dk_at dksJ8_init_3_0 5 rfl rfl)
theorem dJ8_init_3_6 : decode cJ8_init_3 6 = .ok (.putfield 9, 3) := dk_181 0 9 (dk_at dksJ8_init_3_0 6 rfl rfl)
theorem dJ8_init_3_9 : decode cJ8_init_3 9 = .ok (.aload_n 0, 1) := dk_42 (dk_at dksJ8_init_3_0 9 rfl rfl)
theorem dJ8_init_3_10 : decode cJ8_init_3 10 = .ok (.iload_n 2, 1) := dk_28 (dk_at dksJ8_init_3_0 10 rfl rfl)
theorem dJ8_init_3_11 : decode cJ8_init_3 11 = .ok (.putfield 15, 3) := dk_181 0 15 (dk_at dksJ8_init_3_0 11 rfl rfl)
theorem dJ8_init_3_14 : decode cJ8_init_3 14 = .ok (.return_, 1) := dk_177 (dk_at dksJ8_init_3_0 14 rfl rfl)
def dkwJ8_length_0 : List UInt8 := [42, 180, 0, 9, 190, 42, 182, 1, 79, 122, 172]
abbrev dktJ8_length_0 : List UInt8 := dkwJ8_length_0 ++ []
theorem dksJ8_length_0 : cJ8_length.data.toList.drop 0 = dktJ8_length_0 := by decide +kernel
theorem dJ8_length_0 : decode cJ8_length 0 = .ok (.aload_n 0, 1) := dk_42 (dk_at dksJ8_length_0 0 rfl rfl)
theorem dJ8_length_1 : decode cJ8_length 1 = .ok (.getfield 9, 3) := dk_180 0 9 (dk_at dksJ8_length_0 1 rfl rfl)
theorem dJ8_length_4 : decode cJ8_length 4 = .ok (.arraylength, 1) := dk_190 (dk_at dksJ8_length_0 4 rfl rfl)
theorem dJ8_length_5 : decode cJ8_length 5 = .ok (.aload_n 0, 1) := dk_42 (dk_at dksJ8_length_0 5 rfl rfl)
theorem dJ8_length_6 : decode cJ8_length 6 = .ok (.invokevirtual 335, 3) := dk_182 1 79 (dk_at dksJ8_length_0 6 rfl rfl)
theorem dJ8_length_9 : decode cJ8_length 9 = .ok (.ishr, 1) := dk_122 (dk_at dksJ8_length_0 9 rfl rfl)
theorem dJ8_length_10 : decode cJ8_length 10 = .ok (.ireturn, 1) := dk_172 (dk_at dksJ8_length_0 10 rfl rfl)
def dkwJ8_coder_0 : List UInt8 := [178, 0, 38, 153, 0, 10, 42, 180, 0, 15, 167, 0, 4, 4, 172]
abbrev dktJ8_coder_0 : List UInt8 := dkwJ8_coder_0 ++ []
theorem dksJ8_coder_0 : cJ8_coder.data.toList.drop 0 = dktJ8_coder_0 := by decide +kernel
theorem dJ8_coder_0 : decode cJ8_coder 0 = .ok (.getstatic 38, 3) := dk_178 0 38 (dk_at dksJ8_coder_0 0 rfl rfl)
theorem dJ8_coder_3 : decode cJ8_coder 3 = .ok (.ifCond .eq 10, 3) := dk_153 0 10 (dk_at dksJ8_coder_0 3 rfl rfl)
theorem dJ8_coder_6 : decode cJ8_coder 6 = .ok (.aload_n 0, 1) := dk_42 (dk_at dksJ8_coder_0 6 rfl rfl)
theorem dJ8_coder_7 : decode cJ8_coder 7 = .ok (.getfield 15, 3) := dk_180 0 15 (dk_at dksJ8_coder_0 7 rfl rfl)
theorem dJ8_coder_10 : decode cJ8_coder 10 = .ok (.goto 4, 3) := dk_167 0 4 (dk_at dksJ8_coder_0 10 rfl rfl)
theorem dJ8_coder_13 : decode cJ8_coder 13 = .ok (.iconst 1, 1) := dk_4 (dk_at dksJ8_coder_0 13 rfl rfl)
theorem dJ8_coder_14 : decode cJ8_coder 14 = .ok (.ireturn, 1) := dk_172 (dk_at dksJ8_coder_0 14 rfl rfl)
def dkwJ8_hashCode_2 : List UInt8 := [181, 0, 23, 167, 0, 8, 42, 27, 181, 0, 19, 27, 172]
abbrev dktJ8_hashCode_2 : List UInt8 := dkwJ8_hashCode_2 ++ []
def dkwJ8_hashCode_1 : List UInt8 := [180, 0, 9, 184, 2, 116, 167, 0, 10, 42, 180, 0, 9, 184, 2, 120, 60, 27, 154, 0, 11, 42, 4]
abbrev dktJ8_hashCode_1 : List UInt8 := dkwJ8_hashCode_1 ++ dktJ8_hashCode_2
def dkwJ8_hashCode_0 : List UInt8 := [42, 180, 0, 19, 60, 27, 154, 0, 52, 42, 180, 0, 23, 154, 0, 45, 42, 182, 1, 236, 153, 0, 13, 42]
abbrev dktJ8_hashCode_0 : List UInt8 := dkwJ8_hashCode_0 ++ dktJ8_hashCode_1
theorem dksJ8_hashCode_0 : cJ8_hashCode.data.toList.drop 0 = dktJ8_hashCode_0 := by decide +kernel
theorem dksJ8_hashCode_1 : cJ8_hashCode.data.toList.drop 24 = dktJ8_hashCode_1 := dk_seg dksJ8_hashCode_0 24 rfl rfl
theorem dksJ8_hashCode_2 : cJ8_hashCode.data.toList.drop 47 = dktJ8_hashCode_2 := dk_seg dksJ8_hashCode_1 23 rfl rfl
theorem dJ8_hashCode_0 : decode cJ8_hashCode 0 = .ok (.aload_n 0, 1) := dk_42 (dk_at dksJ8_hashCode_0 0 rfl rfl)
theorem dJ8_hashCode_1 : decode cJ8_hashCode 1 = .ok (.getfield 19, 3) := dk_180 0 19 (dk_at dksJ8_hashCode_0 1 rfl rfl)
theorem dJ8_hashCode_4 : decode cJ8_hashCode 4 = .ok (.istore_n 1, 1) := dk_60 (dk_at dksJ8_hashCode_0 4 rfl rfl)
theorem dJ8_hashCode_5 : decode cJ8_hashCode 5 = .ok (.iload_n 1, 1) := dk_27 (dk_at dksJ8_hashCode_0 5 rfl rfl)
theorem dJ8_hashCode_6 : decode cJ8_hashCode 6 = .ok (.ifCond .ne 52, 3) := dk_154 0 52 (dk_at dksJ8_hashCode_0 6 rfl rfl)
theorem dJ8_hashCode_9 : decode cJ8_hashCode 9 = .ok (.aload_n 0, 1) := dk_42 (dk_at dksJ8_hashCode_0 9 rfl rfl)
theorem dJ8_hashCode_10 : decode cJ8_hashCode 10 = .ok (.getfield 23, 3) := dk_180 0 23 (dk_at dksJ8_hashCode_0 10 rfl rfl)
theorem dJ8_hashCode_13 : decode cJ8_hashCode 13 = .ok (.ifCond .ne 45, 3) := dk_154 0 45 (dk_at dksJ8_hashCode_0 13 rfl rfl)
theorem dJ8_hashCode_16 : decode cJ8_hashCode 16 = .ok (.aload_n 0, 1) := dk_42 (dk_at dksJ8_hashCode_0 16 rfl rfl)
theorem dJ8_hashCode_17 : decode cJ8_hashCode 17 = .ok (.invokevirtual 492, 3) := dk_182 1 236 (dk_at dksJ8_hashCode_0 17 rfl rfl)
theorem dJ8_hashCode_20 : decode cJ8_hashCode 20 = .ok (.ifCond .eq 13, 3) := dk_153 0 13 (dk_at dksJ8_hashCode_0 20 rfl rfl)
theorem dJ8_hashCode_23 : decode cJ8_hashCode 23 = .ok (.aload_n 0, 1) := dk_42 (dk_at dksJ8_hashCode_0 23 rfl rfl)
theorem dJ8_hashCode_24 : decode cJ8_hashCode 24 = .ok (.getfield 9, 3) := dk_180 0 9 (dk_at dksJ8_hashCode_1 0 rfl rfl)
theorem dJ8_hashCode_27 : decode cJ8_hashCode 27 = .ok (.invokestatic 628, 3) := dk_184 2 116 (dk_at dksJ8_hashCode_1 3 rfl rfl)
theorem dJ8_hashCode_30 : decode cJ8_hashCode 30 = .ok (.goto 10, 3) := dk_167 0 10 (dk_at dksJ8_hashCode_1 6 rfl rfl)
theorem dJ8_hashCode_33 : decode cJ8_hashCode 33 = .ok (.aload_n 0, 1) := dk_42 (dk_at dksJ8_hashCode_1 9 rfl rfl)
theorem dJ8_hashCode_34 : decode cJ8_hashCode 34 = .ok (.getfield 9, 3) := dk_180 0 9 (dk_at dksJ8_hashCode_1 10 rfl rfl)
theorem dJ8_hashCode_37 : decode cJ8_hashCode 37 = .ok (.invokestatic 632, 3) := dk_184 2 120 (dk_at dksJ8_hashCode_1 13 rfl rfl)
theorem dJ8_hashCode_40 : decode cJ8_hashCode 40 = .ok (.istore_n 1, 1) := dk_60 (dk_at dksJ8_hashCode_1 16 rfl rfl)
theorem dJ8_hashCode_41 : decode cJ8_hashCode 41 = .ok (.iload_n 1, 1) := dk_27 (dk_at dksJ8_hashCode_1 17 rfl rfl)
theorem dJ8_hashCode_42 : decode cJ8_hashCode 42 = .ok (.ifCond .ne 11, 3) := dk_154 0 11 (dk_at dksJ8_hashCode_1 18 rfl rfl)
theorem dJ8_hashCode_45 : decode cJ8_hashCode 45 = .ok (.aload_n 0, 1) := dk_42 (dk_at dksJ8_hashCode_1 21 rfl rfl)
theorem dJ8_hashCode_46 : decode cJ8_hashCode 46 = .ok (.iconst 1, 1) := dk_4 (dk_at dksJ8_hashCode_1 22 rfl rfl)
theorem dJ8_hashCode_47 : decode cJ8_hashCode 47 = .ok (.putfield 23, 3) := dk_181 0 23 (dk_at dksJ8_hashCode_2 0 rfl rfl)
theorem dJ8_hashCode_50 : decode cJ8_hashCode 50 = .ok (.goto 8, 3) := dk_167 0 8 (dk_at dksJ8_hashCode_2 3 rfl rfl)
theorem dJ8_hashCode_53 : decode cJ8_hashCode 53 = .ok (.aload_n 0, 1) := dk_42 (dk_at dksJ8_hashCode_2 6 rfl rfl)
theorem dJ8_hashCode_54 : decode cJ8_hashCode 54 = .ok (.iload_n 1, 1) := dk_27 (dk_at dksJ8_hashCode_2 7 rfl rfl)
theorem dJ8_hashCode_55 : decode cJ8_hashCode 55 = .ok (.putfield 19, 3) := dk_181 0 19 (dk_at dksJ8_hashCode_2 8 rfl rfl)
theorem dJ8_hashCode_58 : decode cJ8_hashCode 58 = .ok (.iload_n 1, 1) := dk_27 (dk_at dksJ8_hashCode_2 11 rfl rfl)
theorem dJ8_hashCode_59 : decode cJ8_hashCode 59 = .ok (.ireturn, 1) := dk_172 (dk_at dksJ8_hashCode_2 12 rfl rfl)
def dkwJ8_isLatin1_0 : List UInt8 := [178, 0, 38, 153, 0, 14, 42, 180, 0, 15, 154, 0, 7, 4, 167, 0, 4, 3, 172]
abbrev dktJ8_isLatin1_0 : List UInt8 := dkwJ8_isLatin1_0 ++ []
theorem dksJ8_isLatin1_0 : cJ8_isLatin1.data.toList.drop 0 = dktJ8_isLatin1_0 := by decide +kernel
theorem dJ8_isLatin1_0 : decode cJ8_isLatin1 0 = .ok (.getstatic 38, 3) := dk_178 0 38 (dk_at dksJ8_isLatin1_0 0 rfl rfl)
theorem dJ8_isLatin1_3 : decode cJ8_isLatin1 3 = .ok (.ifCond .eq 14, 3) := dk_153 0 14 (dk_at dksJ8_isLatin1_0 3 rfl rfl)
theorem dJ8_isLatin1_6 : decode cJ8_isLatin1 6 = .ok (.aload_n 0, 1) := dk_42 (dk_at dksJ8_isLatin1_0 6 rfl rfl)
theorem dJ8_isLatin1_7 : decode cJ8_isLatin1 7 = .ok (.getfield 15, 3) := dk_180 0 15 (dk_at dksJ8_isLatin1_0 7 rfl rfl)
theorem dJ8_isLatin1_10 : decode cJ8_isLatin1 10 = .ok (.ifCond .ne 7, 3) := dk_154 0 7 (dk_at dksJ8_isLatin1_0 10 rfl rfl)
theorem dJ8_isLatin1_13 : decode cJ8_isLatin1 13 = .ok (.iconst 1, 1) := dk_4 (dk_at dksJ8_isLatin1_0 13 rfl rfl)
theorem dJ8_isLatin1_14 : decode cJ8_isLatin1 14 = .ok (.goto 4, 3) := dk_167 0 4 (dk_at dksJ8_isLatin1_0 14 rfl rfl)
theorem dJ8_isLatin1_17 : decode cJ8_isLatin1 17 = .ok (.iconst 0, 1) := dk_3 (dk_at dksJ8_isLatin1_0 17 rfl rfl)
theorem dJ8_isLatin1_18 : decode cJ8_isLatin1 18 = .ok (.ireturn, 1) := dk_172 (dk_at dksJ8_isLatin1_0 18 rfl rfl)
def dkwJ8_equals_2 : List UInt8 := [184, 2, 29, 153, 0, 7, 4, 167, 0, 4, 3, 172]
abbrev dktJ8_equals_2 : List UInt8 := dkwJ8_equals_2 ++ []
def dkwJ8_equals_1 : List UInt8 := [153, 0, 14, 42, 180, 0, 15, 44, 180, 0, 15, 160, 0, 21, 42, 180, 0, 9, 44, 180, 0, 9]
abbrev dktJ8_equals_1 : List UInt8 := dkwJ8_equals_1 ++ dktJ8_equals_2
def dkwJ8_equals_0 : List UInt8 := [42, 43, 166, 0, 5, 4, 172, 43, 193, 0, 10, 153, 0, 43, 43, 192, 0, 10, 77, 178, 0, 38]
abbrev dktJ8_equals_0 : List UInt8 := dkwJ8_equals_0 ++ dktJ8_equals_1
theorem dksJ8_equals_0 : cJ8_equals.data.toList.drop 0 = dktJ8_equals_0 := by decide +kernel
theorem dksJ8_equals_1 : cJ8_equals.data.toList.drop 22 = dktJ8_equals_1 := dk_seg dksJ8_equals_0 22 rfl rfl
theorem dksJ8_equals_2 : cJ8_equals.data.toList.drop 44 = dktJ8_equals_2 := dk_seg dksJ8_equals_1 22 rfl rfl
theorem dJ8_equals_0 : decode cJ8_equals 0 = .ok (.aload_n 0, 1) := dk_42 (dk_at dksJ8_equals_0 0 rfl rfl)
theorem dJ8_equals_1 : decode cJ8_equals 1 = .ok (.aload_n 1, 1) := dk_43 (dk_at dksJ8_equals_0 1 rfl rfl)
theorem dJ8_equals_2 : decode cJ8_equals 2 = .ok (.if_acmp .ne 5, 3) := dk_166 0 5 (dk_at dksJ8_equals_0 2 rfl rfl)
theorem dJ8_equals_5 : decode cJ8_equals 5 = .ok (.iconst 1, 1) := dk_4 (dk_at dksJ8_equals_0 5 rfl rfl)
theorem dJ8_equals_6 : decode cJ8_equals 6 = .ok (.ireturn, 1) := dk_172 (dk_at dksJ8_equals_0 6 rfl rfl)
theorem dJ8_equals_7 : decode cJ8_equals 7 = .ok (.aload_n 1, 1) := dk_43 (dk_at dksJ8_equals_0 7 rfl rfl)
theorem dJ8_equals_8 : decode cJ8_equals 8 = .ok (.instanceof 10, 3) := dk_193 0 10 (dk_at dksJ8_equals_0 8 rfl rfl)
theorem dJ8_equals_11 : decode cJ8_equals 11 = .ok (.ifCond .eq 43, 3) := dk_153 0 43 (dk_at dksJ8_equals_0 11 rfl rfl)
theorem dJ8_equals_14 : decode cJ8_equals 14 = .ok (.aload_n 1, 1) := dk_43 (dk_at dksJ8_equals_0 14 rfl rfl)
theorem dJ8_equals_15 : decode cJ8_equals 15 = .ok (.checkcast 10, 3) := dk_192 0 10 (dk_at dksJ8_equals_0 15 rfl rfl)
theorem dJ8_equals_18 : decode cJ8_equals 18 = .ok (.astore_n 2, 1) := dk_77 (dk_at dksJ8_equals_0 18 rfl rfl)
theorem dJ8_equals_19 : decode cJ8_equals 19 = .ok (.getstatic 38, 3) := dk_178 0 38 (dk_at dksJ8_equals_0 19 rfl rfl)
theorem dJ8_equals_22 : decode cJ8_equals 22 = .ok (.ifCond .eq 14, 3) := dk_153 0 14 (dk_at dksJ8_equals_1 0 rfl rfl)
theorem dJ8_equals_25 : decode cJ8_equals 25 = .ok (.aload_n 0, 1) := dk_42 (dk_at dksJ8_equals_1 3 rfl rfl)
theorem dJ8_equals_26 : decode cJ8_equals 26 = .ok (.getfield 15, 3) := dk_180 0 15 (dk_at dksJ8_equals_1 4 rfl rfl)
theorem dJ8_equals_29 : decode cJ8_equals 29 = .ok (.aload_n 2, 1) := dk_44 (dk_at dksJ8_equals_1 7 rfl rfl)
theorem dJ8_equals_30 : decode cJ8_equals 30 = .ok (.getfield 15, 3) := dk_180 0 15 (dk_at dksJ8_equals_1 8 rfl rfl)
theorem dJ8_equals_33 : decode cJ8_equals 33 = .ok (.if_icmp .ne 21, 3) := dk_160 0 21 (dk_at dksJ8_equals_1 11 rfl rfl)
theorem dJ8_equals_36 : decode cJ8_equals 36 = .ok (.aload_n 0, 1) := dk_42 (dk_at dksJ8_equals_1 14 rfl rfl)
theorem dJ8_equals_37 : decode cJ8_equals 37 = .ok (.getfield 9, 3) := dk_180 0 9 (dk_at dksJ8_equals_1 15 rfl rfl)
theorem dJ8_equals_40 : decode cJ8_equals 40 = .ok (.aload_n 2, 1) := dk_44 (dk_at dksJ8_equals_1 18 rfl rfl)
theorem dJ8_equals_41 : decode cJ8_equals 41 = .ok (.getfield 9, 3) := dk_180 0 9 (dk_at dksJ8_equals_1 19 rfl rfl)
theorem dJ8_equals_44 : decode cJ8_equals 44 = .ok (.invokestatic 541, 3) := dk_184 2 29 (dk_at dksJ8_equals_2 0 rfl rfl)
theorem dJ8_equals_47 : decode cJ8_equals 47 = .ok (.ifCond .eq 7, 3) := dk_153 0 7 (dk_at dksJ8_equals_2 3 rfl rfl)
theorem dJ8_equals_50 : decode cJ8_equals 50 = .ok (.iconst 1, 1) := dk_4 (dk_at dksJ8_equals_2 6 rfl rfl)
theorem dJ8_equals_51 : decode cJ8_equals 51 = .ok (.goto 4, 3) := dk_167 0 4 (dk_at dksJ8_equals_2 7 rfl rfl)
theorem dJ8_equals_54 : decode cJ8_equals 54 = .ok (.iconst 0, 1) := dk_3 (dk_at dksJ8_equals_2 10 rfl rfl)
theorem dJ8_equals_55 : decode cJ8_equals 55 = .ok (.ireturn, 1) := dk_172 (dk_at dksJ8_equals_2 11 rfl rfl)
def dkwJ8_charAt_1 : List UInt8 := [172]
abbrev dktJ8_charAt_1 : List UInt8 := dkwJ8_charAt_1 ++ []
def dkwJ8_charAt_0 : List UInt8 := [42, 182, 1, 236, 153, 0, 12, 42, 180, 0, 9, 27, 184, 1, 239, 172, 42, 180, 0, 9, 27, 184, 1, 242]
abbrev dktJ8_charAt_0 : List UInt8 := dkwJ8_charAt_0 ++ dktJ8_charAt_1
theorem dksJ8_charAt_0 : cJ8_charAt.data.toList.drop 0 = dktJ8_charAt_0 := by decide +kernel
theorem dksJ8_charAt_1 : cJ8_charAt.data.toList.drop 24 = dktJ8_charAt_1 := dk_seg dksJ8_charAt_0 24 rfl rfl
theorem dJ8_charAt_0 : decode cJ8_charAt 0 = .ok (.aload_n 0, 1) := dk_42 (dk_at dksJ8_charAt_0 0 rfl rfl)
theorem dJ8_charAt_1 : decode cJ8_charAt 1 = .ok (.invokevirtual 492, 3) := dk_182 1 236 (dk_at dksJ8_charAt_0 1 rfl rfl)
theorem dJ8_charAt_4 : decode cJ8_charAt 4 = .ok (.ifCond .eq 12, 3) := dk_153 0 12 (dk_at dksJ8_charAt_0 4 rfl rfl)
theorem dJ8_charAt_7 : decode cJ8_charAt 7 = .ok (.aload_n 0, 1) := dk_42 (dk_at dksJ8_charAt_0 7 rfl rfl)
theorem dJ8_charAt_8 : decode cJ8_charAt 8 = .ok (.getfield 9, 3) := dk_180 0 9 (dk_at dksJ8_charAt_0 8 rfl rfl)
theorem dJ8_charAt_11 : decode cJ8_charAt 11 = .ok (.iload_n 1, 1) := dk_27 (dk_at dksJ8_charAt_0 11 rfl rfl)
theorem dJ8_charAt_12 : decode cJ8_charAt 12 = .ok (.invokestatic 495, 3) := dk_184 1 239 (dk_at dksJ8_charAt_0 12 rfl rfl)
theorem dJ8_charAt_15 : decode cJ8_charAt 15 = .ok (.ireturn, 1) := dk_172 (dk_at dksJ8_charAt_0 15 rfl rfl)
theorem dJ8_charAt_16 : decode cJ8_charAt 16 = .ok (.aload_n 0, 1) := dk_42 (dk_at dksJ8_charAt_0 16 rfl rfl)
theorem dJ8_charAt_17 : decode cJ8_charAt 17 = .ok (.getfield 9, 3) := dk_180 0 9 (dk_at dksJ8_charAt_0 17 rfl rfl)
theorem dJ8_charAt_20 : decode cJ8_charAt 20 = .ok (.iload_n 1, 1) := dk_27 (dk_at dksJ8_charAt_0 20 rfl rfl)
theorem dJ8_charAt_21 : decode cJ8_charAt 21 = .ok (.invokestatic 498, 3) := dk_184 1 242 (dk_at dksJ8_charAt_0 21 rfl rfl)
theorem dJ8_charAt_24 : decode cJ8_charAt 24 = .ok (.ireturn, 1) := dk_172 (dk_at dksJ8_charAt_1 0 rfl rfl)
theorem dJ8_toString_0 : decode cJ8_toString 0 = .ok (.aload_n 0, 1) := by decide +kernel
theorem dJ8_toString_1 : decode cJ8_toString 1 = .ok (.areturn, 1) := by decide +kernel
def dkwJ8_checkIndex_0 : List UInt8 := [26, 27, 178, 4, 29, 184, 4, 35, 87, 177]
abbrev dktJ8_checkIndex_0 : List UInt8 := dkwJ8_checkIndex_0 ++ []
theorem dksJ8_checkIndex_0 : cJ8_checkIndex.data.toList.drop 0 = dktJ8_checkIndex_0 := by decide +kernel
theorem dJ8_checkIndex_0 : decode cJ8_checkIndex 0 = .ok (.iload_n 0, 1) := dk_26 (dk_at dksJ8_checkIndex_0 0 rfl rfl)
theorem dJ8_checkIndex_1 : decode cJ8_checkIndex 1 = .ok (.iload_n 1, 1) := dk_27 (dk_at dksJ8_checkIndex_0 1 rfl rfl)
theorem dJ8_checkIndex_2 : decode cJ8_checkIndex 2 = .ok (.getstatic 1053, 3) := dk_178 4 29 (dk_at dksJ8_checkIndex_0 2 rfl rfl)
theorem dJ8_checkIndex_5 : decode cJ8_checkIndex 5 = .ok (.invokestatic 1059, 3) := dk_184 4 35 (dk_at dksJ8_checkIndex_0 5 rfl rfl)
theorem dJ8_checkIndex_8 : decode cJ8_checkIndex 8 = .ok (.pop, 1) := dk_87 (dk_at dksJ8_checkIndex_0 8 rfl rfl)
theorem dJ8_checkIndex_9 : decode cJ8_checkIndex 9 = .ok (.return_, 1) := dk_177 (dk_at dksJ8_checkIndex_0 9 rfl rfl)
def dkwJ8_checkOffset_0 : List UInt8 := [26, 27, 27, 178, 4, 29, 184, 4, 38, 87, 177]
abbrev dktJ8_checkOffset_0 : List UInt8 := dkwJ8_checkOffset_0 ++ []
theorem dksJ8_checkOffset_0 : cJ8_checkOffset.data.toList.drop 0 = dktJ8_checkOffset_0 := by decide +kernel
theorem dJ8_checkOffset_0 : decode cJ8_checkOffset 0 = .ok (.iload_n 0, 1) := dk_26 (dk_at dksJ8_checkOffset_0 0 rfl rfl)
theorem dJ8_checkOffset_1 : decode cJ8_checkOffset 1 = .ok (.iload_n 1, 1) := dk_27 (dk_at dksJ8_checkOffset_0 1 rfl rfl)
theorem dJ8_checkOffset_2 : decode cJ8_checkOffset 2 = .ok (.iload_n 1, 1) := dk_27 (dk_at dksJ8_checkOffset_0 2 rfl rfl)
theorem dJ8_checkOffset_3 : decode cJ8_checkOffset 3 = .ok (.getstatic 1053, 3) := dk_178 4 29 (dk_at dksJ8_checkOffset_0 3 rfl rfl)
theorem dJ8_checkOffset_6 : decode cJ8_checkOffset 6 = .ok (.invokestatic 1062, 3) := dk_184 4 38 (dk_at dksJ8_checkOffset_0 6 rfl rfl)
theorem dJ8_checkOffset_9 : decode cJ8_checkOffset 9 = .ok (.pop, 1) := dk_87 (dk_at dksJ8_checkOffset_0 9 rfl rfl)
theorem dJ8_checkOffset_10 : decode cJ8_checkOffset 10 = .ok (.return_, 1) := dk_177 (dk_at dksJ8_checkOffset_0 10 rfl rfl)
def dkwJ8_checkBoundsOffCount_0 : List UInt8 := [26, 27, 28, 178, 4, 29, 184, 4, 41, 172]
abbrev dktJ8_checkBoundsOffCount_0 : List UInt8 := dkwJ8_checkBoundsOffCount_0 ++ []
theorem dksJ8_checkBoundsOffCount_0 : cJ8_checkBoundsOffCount.data.toList.drop 0 = dktJ8_checkBoundsOffCount_0 := by decide +kernel
theorem dJ8_checkBoundsOffCount_0 : decode cJ8_checkBoundsOffCount 0 = .ok (.iload_n 0, 1) := dk_26 (dk_at dksJ8_checkBoundsOffCount_0 0 rfl rfl)
theorem dJ8_checkBoundsOffCount_1 : decode cJ8_checkBoundsOffCount 1 = .ok (.iload_n 1, 1) := dk_27 (dk_at dksJ8_checkBoundsOffCount_0 1 rfl rfl)
theorem dJ8_checkBoundsOffCount_2 : decode cJ8_checkBoundsOffCount 2 = .ok (.iload_n 2, 1) := dk_28 (dk_at dksJ8_checkBoundsOffCount_0 2 rfl rfl)
theorem dJ8_checkBoundsOffCount_3 : decode cJ8_checkBoundsOffCount 3 = .ok (.getstatic 1053, 3) := dk_178 4 29 (dk_at dksJ8_checkBoundsOffCount_0 3 rfl rfl)
theorem dJ8_checkBoundsOffCount_6 : decode cJ8_checkBoundsOffCount 6 = .ok (.invokestatic 1065, 3) := dk_184 4 41 (dk_at dksJ8_checkBoundsOffCount_0 6 rfl rfl)
theorem dJ8_checkBoundsOffCount_9 : decode cJ8_checkBoundsOffCount 9 = .ok (.ireturn, 1) := dk_172 (dk_at dksJ8_checkBoundsOffCount_0 9 rfl rfl)
def dkwJ8_checkBoundsBeginEnd_0 : List UInt8 := [26, 27, 28, 178, 4, 29, 184, 4, 38, 87, 177]
abbrev dktJ8_checkBoundsBeginEnd_0 : List UInt8 := dkwJ8_checkBoundsBeginEnd_0 ++ []
theorem dksJ8_checkBoundsBeginEnd_0 : cJ8_checkBoundsBeginEnd.data.toList.drop 0 = dktJ8_checkBoundsBeginEnd_0 := by decide +kernel
theorem dJ8_checkBoundsBeginEnd_0 : decode cJ8_checkBoundsBeginEnd 0 = .ok (.iload_n 0, 1) := dk_26 (dk_at dksJ8_checkBoundsBeginEnd_0 0 rfl rfl)
theorem dJ8_checkBoundsBeginEnd_1 : decode cJ8_checkBoundsBeginEnd 1 = .ok (.iload_n 1, 1) := dk_27 (dk_at dksJ8_checkBoundsBeginEnd_0 1 rfl rfl)
theorem dJ8_checkBoundsBeginEnd_2 : decode cJ8_checkBoundsBeginEnd 2 = .ok (.iload_n 2, 1) := dk_28 (dk_at dksJ8_checkBoundsBeginEnd_0 2 rfl rfl)
theorem dJ8_checkBoundsBeginEnd_3 : decode cJ8_checkBoundsBeginEnd 3 = .ok (.getstatic 1053, 3) := dk_178 4 29 (dk_at dksJ8_checkBoundsBeginEnd_0 3 rfl rfl)
theorem dJ8_checkBoundsBeginEnd_6 : decode cJ8_checkBoundsBeginEnd 6 = .ok (.invokestatic 1062, 3) := dk_184 4 38 (dk_at dksJ8_checkBoundsBeginEnd_0 6 rfl rfl)
theorem dJ8_checkBoundsBeginEnd_9 : decode cJ8_checkBoundsBeginEnd 9 = .ok (.pop, 1) := dk_87 (dk_at dksJ8_checkBoundsBeginEnd_0 9 rfl rfl)
theorem dJ8_checkBoundsBeginEnd_10 : decode cJ8_checkBoundsBeginEnd 10 = .ok (.return_, 1) := dk_177 (dk_at dksJ8_checkBoundsBeginEnd_0 10 rfl rfl)
def dkwJ20_getChar_0 : List UInt8 := [42, 27, 51, 17, 0, 255, 126, 146, 172]
abbrev dktJ20_getChar_0 : List UInt8 := dkwJ20_getChar_0 ++ []
theorem dksJ20_getChar_0 : cJ20_getChar.data.toList.drop 0 = dktJ20_getChar_0 := by decide +kernel
theorem dJ20_getChar_0 : decode cJ20_getChar 0 = .ok (.aload_n 0, 1) := dk_42 (dk_at dksJ20_getChar_0 0 rfl rfl)
theorem dJ20_getChar_1 : decode cJ20_getChar 1 = .ok (.iload_n 1, 1) := dk_27 (dk_at dksJ20_getChar_0 1 rfl rfl)
theorem dJ20_getChar_2 : decode cJ20_getChar 2 = .ok (.baload, 1) := dk_51 (dk_at dksJ20_getChar_0 2 rfl rfl)
theorem dJ20_getChar_3 : decode cJ20_getChar 3 = .ok (.sipush 255, 3) := dk_17 0 255 (dk_at dksJ20_getChar_0 3 rfl rfl)
theorem dJ20_getChar_6 : decode cJ20_getChar 6 = .ok (.iand, 1) := dk_126 (dk_at dksJ20_getChar_0 6 rfl rfl)
theorem dJ20_getChar_7 : decode cJ20_getChar 7 = .ok (.i2c, 1) := dk_146 (dk_at dksJ20_getChar_0 7 rfl rfl)
theorem dJ20_getChar_8 : decode cJ20_getChar 8 = .ok (.ireturn, 1) := dk_172 (dk_at dksJ20_getChar_0 8 rfl rfl)
