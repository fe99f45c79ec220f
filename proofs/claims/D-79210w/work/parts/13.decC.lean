set_option maxRecDepth 100000
def dkwX1_init_1 : List UInt8 := [181, 0, 44, 42, 187, 0, 48, 89, 183, 0, 50, 181, 0, 51, 177]
abbrev dktX1_init_1 : List UInt8 := dkwX1_init_1 ++ []
def dkwX1_init_0 : List UInt8 := [42, 183, 0, 31, 42, 187, 0, 34, 89, 183, 0, 36, 181, 0, 37, 42, 187, 0, 41, 89, 183, 0, 43]
abbrev dktX1_init_0 : List UInt8 := dkwX1_init_0 ++ dktX1_init_1
theorem dksX1_init_0 : cX1_init.data.toList.drop 0 = dktX1_init_0 := by decide +kernel
theorem dksX1_init_1 : cX1_init.data.toList.drop 23 = dktX1_init_1 := dk_seg dksX1_init_0 23 rfl rfl
theorem dX1_init_0 : decode cX1_init 0 = .ok (.aload_n 0, 1) := dk_42 (dk_at dksX1_init_0 0 rfl rfl)
theorem dX1_init_1 : decode cX1_init 1 = .ok (.invokespecial 31, 3) := dk_183 0 31 (dk_at dksX1_init_0 1 rfl rfl)
theorem dX1_init_4 : decode cX1_init 4 = .ok (.aload_n 0, 1) := dk_42 (dk_at dksX1_init_0 4 rfl rfl)
theorem dX1_init_5 : decode cX1_init 5 = .ok (.new 34, 3) := dk_187 0 34 (dk_at dksX1_init_0 5 rfl rfl)
theorem dX1_init_8 : decode cX1_init 8 = .ok (.dup, 1) := dk_89 (dk_at dksX1_init_0 8 rfl rfl)
theorem dX1_init_9 : decode cX1_init 9 = .ok (.invokespecial 36, 3) := dk_183 0 36 (dk_at dksX1_init_0 9 rfl rfl)
theorem dX1_init_12 : decode cX1_init 12 = .ok (.putfield 37, 3) := dk_181 0 37 (dk_at dksX1_init_0 12 rfl rfl)
theorem dX1_init_15 : decode cX1_init 15 = .ok (.aload_n 0, 1) := dk_42 (dk_at dksX1_init_0 15 rfl rfl)
theorem dX1_init_16 : decode cX1_init 16 = .ok (.new 41, 3) := dk_187 0 41 (dk_at dksX1_init_0 16 rfl rfl)
theorem dX1_init_19 : decode cX1_init 19 = .ok (.dup, 1) := dk_89 (dk_at dksX1_init_0 19 rfl rfl)
theorem dX1_init_20 : decode cX1_init 20 = .ok (.invokespecial 43, 3) := dk_183 0 43 (dk_at dksX1_init_0 20 rfl rfl)
theorem dX1_init_23 : decode cX1_init 23 = .ok (.putfield 44, 3) := dk_181 0 44 (dk_at dksX1_init_1 0 rfl rfl)
theorem dX1_init_26 : decode cX1_init 26 = .ok (.aload_n 0, 1) := dk_42 (dk_at dksX1_init_1 3 rfl rfl)
theorem dX1_init_27 : decode cX1_init 27 = .ok (.new 48, 3) := dk_187 0 48 (dk_at dksX1_init_1 4 rfl rfl)
theorem dX1_init_30 : decode cX1_init 30 = .ok (.dup, 1) := dk_89 (dk_at dksX1_init_1 7 rfl rfl)
theorem dX1_init_31 : decode cX1_init 31 = .ok (.invokespecial 50, 3) := dk_183 0 50 (dk_at dksX1_init_1 8 rfl rfl)
theorem dX1_init_34 : decode cX1_init 34 = .ok (.putfield 51, 3) := dk_181 0 51 (dk_at dksX1_init_1 11 rfl rfl)
theorem dX1_init_37 : decode cX1_init 37 = .ok (.return_, 1) := dk_177 (dk_at dksX1_init_1 14 rfl rfl)
def dkwX1_clear_1 : List UInt8 := [180, 0, 44, 182, 0, 74, 27, 172]
abbrev dktX1_clear_1 : List UInt8 := dkwX1_clear_1 ++ []
def dkwX1_clear_0 : List UInt8 := [42, 180, 0, 37, 180, 0, 67, 182, 0, 71, 60, 42, 187, 0, 34, 89, 183, 0, 36, 181, 0, 37, 42]
abbrev dktX1_clear_0 : List UInt8 := dkwX1_clear_0 ++ dktX1_clear_1
theorem dksX1_clear_0 : cX1_clear.data.toList.drop 0 = dktX1_clear_0 := by decide +kernel
theorem dksX1_clear_1 : cX1_clear.data.toList.drop 23 = dktX1_clear_1 := dk_seg dksX1_clear_0 23 rfl rfl
theorem dX1_clear_0 : decode cX1_clear 0 = .ok (.aload_n 0, 1) := dk_42 (dk_at dksX1_clear_0 0 rfl rfl)
theorem dX1_clear_1 : decode cX1_clear 1 = .ok (.getfield 37, 3) := dk_180 0 37 (dk_at dksX1_clear_0 1 rfl rfl)
theorem dX1_clear_4 : decode cX1_clear 4 = .ok (.getfield 67, 3) := dk_180 0 67 (dk_at dksX1_clear_0 4 rfl rfl)
theorem dX1_clear_7 : decode cX1_clear 7 = .ok (.invokevirtual 71, 3) := dk_182 0 71 (dk_at dksX1_clear_0 7 rfl rfl)
theorem dX1_clear_10 : decode cX1_clear 10 = .ok (.istore_n 1, 1) := dk_60 (dk_at dksX1_clear_0 10 rfl rfl)
theorem dX1_clear_11 : decode cX1_clear 11 = .ok (.aload_n 0, 1) := dk_42 (dk_at dksX1_clear_0 11 rfl rfl)
theorem dX1_clear_12 : decode cX1_clear 12 = .ok (.new 34, 3) := dk_187 0 34 (dk_at dksX1_clear_0 12 rfl rfl)
theorem dX1_clear_15 : decode cX1_clear 15 = .ok (.dup, 1) := dk_89 (dk_at dksX1_clear_0 15 rfl rfl)
theorem dX1_clear_16 : decode cX1_clear 16 = .ok (.invokespecial 36, 3) := dk_183 0 36 (dk_at dksX1_clear_0 16 rfl rfl)
theorem dX1_clear_19 : decode cX1_clear 19 = .ok (.putfield 37, 3) := dk_181 0 37 (dk_at dksX1_clear_0 19 rfl rfl)
theorem dX1_clear_22 : decode cX1_clear 22 = .ok (.aload_n 0, 1) := dk_42 (dk_at dksX1_clear_0 22 rfl rfl)
theorem dX1_clear_23 : decode cX1_clear 23 = .ok (.getfield 44, 3) := dk_180 0 44 (dk_at dksX1_clear_1 0 rfl rfl)
theorem dX1_clear_26 : decode cX1_clear 26 = .ok (.invokevirtual 74, 3) := dk_182 0 74 (dk_at dksX1_clear_1 3 rfl rfl)
theorem dX1_clear_29 : decode cX1_clear 29 = .ok (.iload_n 1, 1) := dk_27 (dk_at dksX1_clear_1 6 rfl rfl)
theorem dX1_clear_30 : decode cX1_clear 30 = .ok (.ireturn, 1) := dk_172 (dk_at dksX1_clear_1 7 rfl rfl)
def dkwX1_typeNamed_0 : List UInt8 := [42, 180, 0, 37, 42, 180, 0, 51, 182, 0, 220, 182, 0, 224, 172]
abbrev dktX1_typeNamed_0 : List UInt8 := dkwX1_typeNamed_0 ++ []
theorem dksX1_typeNamed_0 : cX1_typeNamed.data.toList.drop 0 = dktX1_typeNamed_0 := by decide +kernel
theorem dX1_typeNamed_0 : decode cX1_typeNamed 0 = .ok (.aload_n 0, 1) := dk_42 (dk_at dksX1_typeNamed_0 0 rfl rfl)
theorem dX1_typeNamed_1 : decode cX1_typeNamed 1 = .ok (.getfield 37, 3) := dk_180 0 37 (dk_at dksX1_typeNamed_0 1 rfl rfl)
theorem dX1_typeNamed_4 : decode cX1_typeNamed 4 = .ok (.aload_n 0, 1) := dk_42 (dk_at dksX1_typeNamed_0 4 rfl rfl)
theorem dX1_typeNamed_5 : decode cX1_typeNamed 5 = .ok (.getfield 51, 3) := dk_180 0 51 (dk_at dksX1_typeNamed_0 5 rfl rfl)
theorem dX1_typeNamed_8 : decode cX1_typeNamed 8 = .ok (.invokevirtual 220, 3) := dk_182 0 220 (dk_at dksX1_typeNamed_0 8 rfl rfl)
theorem dX1_typeNamed_11 : decode cX1_typeNamed 11 = .ok (.invokevirtual 224, 3) := dk_182 0 224 (dk_at dksX1_typeNamed_0 11 rfl rfl)
theorem dX1_typeNamed_14 : decode cX1_typeNamed 14 = .ok (.ireturn, 1) := dk_172 (dk_at dksX1_typeNamed_0 14 rfl rfl)
def dkwX1_isConsistent_0 : List UInt8 := [42, 180, 0, 37, 182, 1, 71, 172]
abbrev dktX1_isConsistent_0 : List UInt8 := dkwX1_isConsistent_0 ++ []
theorem dksX1_isConsistent_0 : cX1_isConsistent.data.toList.drop 0 = dktX1_isConsistent_0 := by decide +kernel
theorem dX1_isConsistent_0 : decode cX1_isConsistent 0 = .ok (.aload_n 0, 1) := dk_42 (dk_at dksX1_isConsistent_0 0 rfl rfl)
theorem dX1_isConsistent_1 : decode cX1_isConsistent 1 = .ok (.getfield 37, 3) := dk_180 0 37 (dk_at dksX1_isConsistent_0 1 rfl rfl)
theorem dX1_isConsistent_4 : decode cX1_isConsistent 4 = .ok (.invokevirtual 327, 3) := dk_182 1 71 (dk_at dksX1_isConsistent_0 4 rfl rfl)
theorem dX1_isConsistent_7 : decode cX1_isConsistent 7 = .ok (.ireturn, 1) := dk_172 (dk_at dksX1_isConsistent_0 7 rfl rfl)
def dkwX1_checkElement_0 : List UInt8 := [26, 154, 0, 11, 187, 0, 13, 89, 183, 0, 15, 191, 177]
abbrev dktX1_checkElement_0 : List UInt8 := dkwX1_checkElement_0 ++ []
theorem dksX1_checkElement_0 : cX1_checkElement.data.toList.drop 0 = dktX1_checkElement_0 := by decide +kernel
theorem dX1_checkElement_0 : decode cX1_checkElement 0 = .ok (.iload_n 0, 1) := dk_26 (dk_at dksX1_checkElement_0 0 rfl rfl)
theorem dX1_checkElement_1 : decode cX1_checkElement 1 = .ok (.ifCond .ne 11, 3) := dk_154 0 11 (dk_at dksX1_checkElement_0 1 rfl rfl)
theorem dX1_checkElement_4 : decode cX1_checkElement 4 = .ok (.new 13, 3) := dk_187 0 13 (dk_at dksX1_checkElement_0 4 rfl rfl)
theorem dX1_checkElement_7 : decode cX1_checkElement 7 = .ok (.dup, 1) := dk_89 (dk_at dksX1_checkElement_0 7 rfl rfl)
theorem dX1_checkElement_8 : decode cX1_checkElement 8 = .ok (.invokespecial 15, 3) := dk_183 0 15 (dk_at dksX1_checkElement_0 8 rfl rfl)
theorem dX1_checkElement_11 : decode cX1_checkElement 11 = .ok (.athrow, 1) := dk_191 (dk_at dksX1_checkElement_0 11 rfl rfl)
theorem dX1_checkElement_12 : decode cX1_checkElement 12 = .ok (.return_, 1) := dk_177 (dk_at dksX1_checkElement_0 12 rfl rfl)
def dkwX1_snapshot_0 : List UInt8 := [42, 42, 180, 0, 37, 182, 0, 82, 181, 1, 128, 42, 180, 0, 37, 180, 0, 67, 182, 0, 71, 172]
abbrev dktX1_snapshot_0 : List UInt8 := dkwX1_snapshot_0 ++ []
theorem dksX1_snapshot_0 : cX1_snapshot.data.toList.drop 0 = dktX1_snapshot_0 := by decide +kernel
theorem dX1_snapshot_0 : decode cX1_snapshot 0 = .ok (.aload_n 0, 1) := dk_42 (dk_at dksX1_snapshot_0 0 rfl rfl)
theorem dX1_snapshot_1 : decode cX1_snapshot 1 = .ok (.aload_n 0, 1) := dk_42 (dk_at dksX1_snapshot_0 1 rfl rfl)
theorem dX1_snapshot_2 : decode cX1_snapshot 2 = .ok (.getfield 37, 3) := dk_180 0 37 (dk_at dksX1_snapshot_0 2 rfl rfl)
theorem dX1_snapshot_5 : decode cX1_snapshot 5 = .ok (.invokevirtual 82, 3) := dk_182 0 82 (dk_at dksX1_snapshot_0 5 rfl rfl)
theorem dX1_snapshot_8 : decode cX1_snapshot 8 = .ok (.putfield 384, 3) := dk_181 1 128 (dk_at dksX1_snapshot_0 8 rfl rfl)
theorem dX1_snapshot_11 : decode cX1_snapshot 11 = .ok (.aload_n 0, 1) := dk_42 (dk_at dksX1_snapshot_0 11 rfl rfl)
theorem dX1_snapshot_12 : decode cX1_snapshot 12 = .ok (.getfield 37, 3) := dk_180 0 37 (dk_at dksX1_snapshot_0 12 rfl rfl)
theorem dX1_snapshot_15 : decode cX1_snapshot 15 = .ok (.getfield 67, 3) := dk_180 0 67 (dk_at dksX1_snapshot_0 15 rfl rfl)
theorem dX1_snapshot_18 : decode cX1_snapshot 18 = .ok (.invokevirtual 71, 3) := dk_182 0 71 (dk_at dksX1_snapshot_0 18 rfl rfl)
theorem dX1_snapshot_21 : decode cX1_snapshot 21 = .ok (.ireturn, 1) := dk_172 (dk_at dksX1_snapshot_0 21 rfl rfl)
def dkwX1_setSpare_1 : List UInt8 := [180, 0, 37, 180, 0, 90, 61, 42, 180, 0, 37, 27, 181, 0, 90, 28, 172]
abbrev dktX1_setSpare_1 : List UInt8 := dkwX1_setSpare_1 ++ []
def dkwX1_setSpare_0 : List UInt8 := [27, 133, 9, 20, 0, 77, 184, 0, 23, 184, 0, 79, 42, 42, 180, 0, 37, 182, 0, 82, 182, 0, 86, 42]
abbrev dktX1_setSpare_0 : List UInt8 := dkwX1_setSpare_0 ++ dktX1_setSpare_1
theorem dksX1_setSpare_0 : cX1_setSpare.data.toList.drop 0 = dktX1_setSpare_0 := by decide +kernel
theorem dksX1_setSpare_1 : cX1_setSpare.data.toList.drop 24 = dktX1_setSpare_1 := dk_seg dksX1_setSpare_0 24 rfl rfl
theorem dX1_setSpare_0 : decode cX1_setSpare 0 = .ok (.iload_n 1, 1) := dk_27 (dk_at dksX1_setSpare_0 0 rfl rfl)
theorem dX1_setSpare_1 : decode cX1_setSpare 1 = .ok (.i2l, 1) := dk_133 (dk_at dksX1_setSpare_0 1 rfl rfl)
theorem dX1_setSpare_2 : decode cX1_setSpare 2 = .ok (.lconst 0, 1) := dk_9 (dk_at dksX1_setSpare_0 2 rfl rfl)
theorem dX1_setSpare_3 : decode cX1_setSpare 3 = .ok (.ldc2_w 77, 3) := dk_20 0 77 (dk_at dksX1_setSpare_0 3 rfl rfl)
theorem dX1_setSpare_6 : decode cX1_setSpare 6 = .ok (.invokestatic 23, 3) := dk_184 0 23 (dk_at dksX1_setSpare_0 6 rfl rfl)
theorem dX1_setSpare_9 : decode cX1_setSpare 9 = .ok (.invokestatic 79, 3) := dk_184 0 79 (dk_at dksX1_setSpare_0 9 rfl rfl)
theorem dX1_setSpare_12 : decode cX1_setSpare 12 = .ok (.aload_n 0, 1) := dk_42 (dk_at dksX1_setSpare_0 12 rfl rfl)
theorem dX1_setSpare_13 : decode cX1_setSpare 13 = .ok (.aload_n 0, 1) := dk_42 (dk_at dksX1_setSpare_0 13 rfl rfl)
theorem dX1_setSpare_14 : decode cX1_setSpare 14 = .ok (.getfield 37, 3) := dk_180 0 37 (dk_at dksX1_setSpare_0 14 rfl rfl)
theorem dX1_setSpare_17 : decode cX1_setSpare 17 = .ok (.invokevirtual 82, 3) := dk_182 0 82 (dk_at dksX1_setSpare_0 17 rfl rfl)
theorem dX1_setSpare_20 : decode cX1_setSpare 20 = .ok (.invokevirtual 86, 3) := dk_182 0 86 (dk_at dksX1_setSpare_0 20 rfl rfl)
theorem dX1_setSpare_23 : decode cX1_setSpare 23 = .ok (.aload_n 0, 1) := dk_42 (dk_at dksX1_setSpare_0 23 rfl rfl)
theorem dX1_setSpare_24 : decode cX1_setSpare 24 = .ok (.getfield 37, 3) := dk_180 0 37 (dk_at dksX1_setSpare_1 0 rfl rfl)
theorem dX1_setSpare_27 : decode cX1_setSpare 27 = .ok (.getfield 90, 3) := dk_180 0 90 (dk_at dksX1_setSpare_1 3 rfl rfl)
theorem dX1_setSpare_30 : decode cX1_setSpare 30 = .ok (.istore_n 2, 1) := dk_61 (dk_at dksX1_setSpare_1 6 rfl rfl)
theorem dX1_setSpare_31 : decode cX1_setSpare 31 = .ok (.aload_n 0, 1) := dk_42 (dk_at dksX1_setSpare_1 7 rfl rfl)
theorem dX1_setSpare_32 : decode cX1_setSpare 32 = .ok (.getfield 37, 3) := dk_180 0 37 (dk_at dksX1_setSpare_1 8 rfl rfl)
theorem dX1_setSpare_35 : decode cX1_setSpare 35 = .ok (.iload_n 1, 1) := dk_27 (dk_at dksX1_setSpare_1 11 rfl rfl)
theorem dX1_setSpare_36 : decode cX1_setSpare 36 = .ok (.putfield 90, 3) := dk_181 0 90 (dk_at dksX1_setSpare_1 12 rfl rfl)
theorem dX1_setSpare_39 : decode cX1_setSpare 39 = .ok (.iload_n 2, 1) := dk_28 (dk_at dksX1_setSpare_1 15 rfl rfl)
theorem dX1_setSpare_40 : decode cX1_setSpare 40 = .ok (.ireturn, 1) := dk_172 (dk_at dksX1_setSpare_1 16 rfl rfl)
def dkwX1_inRange_0 : List UInt8 := [30, 32, 148, 155, 0, 14, 30, 22, 4, 148, 157, 0, 7, 4, 167, 0, 4, 3, 172]
abbrev dktX1_inRange_0 : List UInt8 := dkwX1_inRange_0 ++ []
theorem dksX1_inRange_0 : cX1_inRange.data.toList.drop 0 = dktX1_inRange_0 := by decide +kernel
theorem dX1_inRange_0 : decode cX1_inRange 0 = .ok (.lload_n 0, 1) := dk_30 (dk_at dksX1_inRange_0 0 rfl rfl)
theorem dX1_inRange_1 : decode cX1_inRange 1 = .ok (.lload_n 2, 1) := dk_32 (dk_at dksX1_inRange_0 1 rfl rfl)
theorem dX1_inRange_2 : decode cX1_inRange 2 = .ok (.lcmp, 1) := dk_148 (dk_at dksX1_inRange_0 2 rfl rfl)
theorem dX1_inRange_3 : decode cX1_inRange 3 = .ok (.ifCond .lt 14, 3) := dk_155 0 14 (dk_at dksX1_inRange_0 3 rfl rfl)
theorem dX1_inRange_6 : decode cX1_inRange 6 = .ok (.lload_n 0, 1) := dk_30 (dk_at dksX1_inRange_0 6 rfl rfl)
theorem dX1_inRange_7 : decode cX1_inRange 7 = .ok (.lload 4, 2) := dk_22 4 (dk_at dksX1_inRange_0 7 rfl rfl)
theorem dX1_inRange_9 : decode cX1_inRange 9 = .ok (.lcmp, 1) := dk_148 (dk_at dksX1_inRange_0 9 rfl rfl)
theorem dX1_inRange_10 : decode cX1_inRange 10 = .ok (.ifCond .gt 7, 3) := dk_157 0 7 (dk_at dksX1_inRange_0 10 rfl rfl)
theorem dX1_inRange_13 : decode cX1_inRange 13 = .ok (.iconst 1, 1) := dk_4 (dk_at dksX1_inRange_0 13 rfl rfl)
theorem dX1_inRange_14 : decode cX1_inRange 14 = .ok (.goto 4, 3) := dk_167 0 4 (dk_at dksX1_inRange_0 14 rfl rfl)
theorem dX1_inRange_17 : decode cX1_inRange 17 = .ok (.iconst 0, 1) := dk_3 (dk_at dksX1_inRange_0 17 rfl rfl)
theorem dX1_inRange_18 : decode cX1_inRange 18 = .ok (.ireturn, 1) := dk_172 (dk_at dksX1_inRange_0 18 rfl rfl)
def dkwX1_checkArgument_0 : List UInt8 := [26, 154, 0, 11, 187, 0, 1, 89, 183, 0, 3, 191, 177]
abbrev dktX1_checkArgument_0 : List UInt8 := dkwX1_checkArgument_0 ++ []
theorem dksX1_checkArgument_0 : cX1_checkArgument.data.toList.drop 0 = dktX1_checkArgument_0 := by decide +kernel
theorem dX1_checkArgument_0 : decode cX1_checkArgument 0 = .ok (.iload_n 0, 1) := dk_26 (dk_at dksX1_checkArgument_0 0 rfl rfl)
theorem dX1_checkArgument_1 : decode cX1_checkArgument 1 = .ok (.ifCond .ne 11, 3) := dk_154 0 11 (dk_at dksX1_checkArgument_0 1 rfl rfl)
theorem dX1_checkArgument_4 : decode cX1_checkArgument 4 = .ok (.new 1, 3) := dk_187 0 1 (dk_at dksX1_checkArgument_0 4 rfl rfl)
theorem dX1_checkArgument_7 : decode cX1_checkArgument 7 = .ok (.dup, 1) := dk_89 (dk_at dksX1_checkArgument_0 7 rfl rfl)
theorem dX1_checkArgument_8 : decode cX1_checkArgument 8 = .ok (.invokespecial 3, 3) := dk_183 0 3 (dk_at dksX1_checkArgument_0 8 rfl rfl)
theorem dX1_checkArgument_11 : decode cX1_checkArgument 11 = .ok (.athrow, 1) := dk_191 (dk_at dksX1_checkArgument_0 11 rfl rfl)
theorem dX1_checkArgument_12 : decode cX1_checkArgument 12 = .ok (.return_, 1) := dk_177 (dk_at dksX1_checkArgument_0 12 rfl rfl)
def dkwX1_keep_1 : List UInt8 := [180, 0, 44, 43, 182, 0, 63, 177]
abbrev dktX1_keep_1 : List UInt8 := dkwX1_keep_1 ++ []
def dkwX1_keep_0 : List UInt8 := [42, 180, 0, 44, 182, 0, 55, 16, 8, 160, 0, 14, 42, 180, 0, 44, 182, 0, 59, 192, 0, 34, 77, 42]
abbrev dktX1_keep_0 : List UInt8 := dkwX1_keep_0 ++ dktX1_keep_1
theorem dksX1_keep_0 : cX1_keep.data.toList.drop 0 = dktX1_keep_0 := by decide +kernel
theorem dksX1_keep_1 : cX1_keep.data.toList.drop 24 = dktX1_keep_1 := dk_seg dksX1_keep_0 24 rfl rfl
theorem dX1_keep_0 : decode cX1_keep 0 = .ok (.aload_n 0, 1) := dk_42 (dk_at dksX1_keep_0 0 rfl rfl)
theorem dX1_keep_1 : decode cX1_keep 1 = .ok (.getfield 44, 3) := dk_180 0 44 (dk_at dksX1_keep_0 1 rfl rfl)
theorem dX1_keep_4 : decode cX1_keep 4 = .ok (.invokevirtual 55, 3) := dk_182 0 55 (dk_at dksX1_keep_0 4 rfl rfl)
theorem dX1_keep_7 : decode cX1_keep 7 = .ok (.bipush 8, 2) := dk_16 8 (dk_at dksX1_keep_0 7 rfl rfl)
theorem dX1_keep_9 : decode cX1_keep 9 = .ok (.if_icmp .ne 14, 3) := dk_160 0 14 (dk_at dksX1_keep_0 9 rfl rfl)
theorem dX1_keep_12 : decode cX1_keep 12 = .ok (.aload_n 0, 1) := dk_42 (dk_at dksX1_keep_0 12 rfl rfl)
theorem dX1_keep_13 : decode cX1_keep 13 = .ok (.getfield 44, 3) := dk_180 0 44 (dk_at dksX1_keep_0 13 rfl rfl)
theorem dX1_keep_16 : decode cX1_keep 16 = .ok (.invokevirtual 59, 3) := dk_182 0 59 (dk_at dksX1_keep_0 16 rfl rfl)
theorem dX1_keep_19 : decode cX1_keep 19 = .ok (.checkcast 34, 3) := dk_192 0 34 (dk_at dksX1_keep_0 19 rfl rfl)
theorem dX1_keep_22 : decode cX1_keep 22 = .ok (.astore_n 2, 1) := dk_77 (dk_at dksX1_keep_0 22 rfl rfl)
theorem dX1_keep_23 : decode cX1_keep 23 = .ok (.aload_n 0, 1) := dk_42 (dk_at dksX1_keep_0 23 rfl rfl)
theorem dX1_keep_24 : decode cX1_keep 24 = .ok (.getfield 44, 3) := dk_180 0 44 (dk_at dksX1_keep_1 0 rfl rfl)
theorem dX1_keep_27 : decode cX1_keep 27 = .ok (.aload_n 1, 1) := dk_43 (dk_at dksX1_keep_1 3 rfl rfl)
theorem dX1_keep_28 : decode cX1_keep 28 = .ok (.invokevirtual 63, 3) := dk_182 0 63 (dk_at dksX1_keep_1 4 rfl rfl)
theorem dX1_keep_31 : decode cX1_keep 31 = .ok (.return_, 1) := dk_177 (dk_at dksX1_keep_1 7 rfl rfl)
def dkwX1_setTail_1 : List UInt8 := [180, 0, 37, 180, 0, 96, 61, 42, 180, 0, 37, 27, 181, 0, 96, 28, 172]
abbrev dktX1_setTail_1 : List UInt8 := dkwX1_setTail_1 ++ []
def dkwX1_setTail_0 : List UInt8 := [27, 133, 9, 20, 0, 94, 184, 0, 23, 184, 0, 79, 42, 42, 180, 0, 37, 182, 0, 82, 182, 0, 86, 42]
abbrev dktX1_setTail_0 : List UInt8 := dkwX1_setTail_0 ++ dktX1_setTail_1
theorem dksX1_setTail_0 : cX1_setTail.data.toList.drop 0 = dktX1_setTail_0 := by decide +kernel
theorem dksX1_setTail_1 : cX1_setTail.data.toList.drop 24 = dktX1_setTail_1 := dk_seg dksX1_setTail_0 24 rfl rfl
theorem dX1_setTail_0 : decode cX1_setTail 0 = .ok (.iload_n 1, 1) := dk_27 (dk_at dksX1_setTail_0 0 rfl rfl)
theorem dX1_setTail_1 : decode cX1_setTail 1 = .ok (.i2l, 1) := dk_133 (dk_at dksX1_setTail_0 1 rfl rfl)
theorem dX1_setTail_2 : decode cX1_setTail 2 = .ok (.lconst 0, 1) := dk_9 (dk_at dksX1_setTail_0 2 rfl rfl)
theorem dX1_setTail_3 : decode cX1_setTail 3 = .ok (.ldc2_w 94, 3) := dk_20 0 94 (dk_at dksX1_setTail_0 3 rfl rfl)
theorem dX1_setTail_6 : decode cX1_setTail 6 = .ok (.invokestatic 23, 3) := dk_184 0 23 (dk_at dksX1_setTail_0 6 rfl rfl)
theorem dX1_setTail_9 : decode cX1_setTail 9 = .ok (.invokestatic 79, 3) := dk_184 0 79 (dk_at dksX1_setTail_0 9 rfl rfl)
theorem dX1_setTail_12 : decode cX1_setTail 12 = .ok (.aload_n 0, 1) := dk_42 (dk_at dksX1_setTail_0 12 rfl rfl)
theorem dX1_setTail_13 : decode cX1_setTail 13 = .ok (.aload_n 0, 1) := dk_42 (dk_at dksX1_setTail_0 13 rfl rfl)
theorem dX1_setTail_14 : decode cX1_setTail 14 = .ok (.getfield 37, 3) := dk_180 0 37 (dk_at dksX1_setTail_0 14 rfl rfl)
theorem dX1_setTail_17 : decode cX1_setTail 17 = .ok (.invokevirtual 82, 3) := dk_182 0 82 (dk_at dksX1_setTail_0 17 rfl rfl)
theorem dX1_setTail_20 : decode cX1_setTail 20 = .ok (.invokevirtual 86, 3) := dk_182 0 86 (dk_at dksX1_setTail_0 20 rfl rfl)
theorem dX1_setTail_23 : decode cX1_setTail 23 = .ok (.aload_n 0, 1) := dk_42 (dk_at dksX1_setTail_0 23 rfl rfl)
theorem dX1_setTail_24 : decode cX1_setTail 24 = .ok (.getfield 37, 3) := dk_180 0 37 (dk_at dksX1_setTail_1 0 rfl rfl)
theorem dX1_setTail_27 : decode cX1_setTail 27 = .ok (.getfield 96, 3) := dk_180 0 96 (dk_at dksX1_setTail_1 3 rfl rfl)
theorem dX1_setTail_30 : decode cX1_setTail 30 = .ok (.istore_n 2, 1) := dk_61 (dk_at dksX1_setTail_1 6 rfl rfl)
theorem dX1_setTail_31 : decode cX1_setTail 31 = .ok (.aload_n 0, 1) := dk_42 (dk_at dksX1_setTail_1 7 rfl rfl)
theorem dX1_setTail_32 : decode cX1_setTail 32 = .ok (.getfield 37, 3) := dk_180 0 37 (dk_at dksX1_setTail_1 8 rfl rfl)
theorem dX1_setTail_35 : decode cX1_setTail 35 = .ok (.iload_n 1, 1) := dk_27 (dk_at dksX1_setTail_1 11 rfl rfl)
theorem dX1_setTail_36 : decode cX1_setTail 36 = .ok (.putfield 96, 3) := dk_181 0 96 (dk_at dksX1_setTail_1 12 rfl rfl)
theorem dX1_setTail_39 : decode cX1_setTail 39 = .ok (.iload_n 2, 1) := dk_28 (dk_at dksX1_setTail_1 15 rfl rfl)
theorem dX1_setTail_40 : decode cX1_setTail 40 = .ok (.ireturn, 1) := dk_172 (dk_at dksX1_setTail_1 16 rfl rfl)
def dkwX1_addTray_1 : List UInt8 := [54, 7, 42, 25, 6, 182, 0, 86, 21, 7, 172]
abbrev dktX1_addTray_1 : List UInt8 := dkwX1_addTray_1 ++ []
def dkwX1_addTray_0 : List UInt8 := [42, 180, 0, 37, 182, 0, 82, 58, 6, 42, 180, 0, 37, 27, 28, 29, 21, 4, 21, 5, 182, 0, 99]
abbrev dktX1_addTray_0 : List UInt8 := dkwX1_addTray_0 ++ dktX1_addTray_1
theorem dksX1_addTray_0 : cX1_addTray.data.toList.drop 0 = dktX1_addTray_0 := by decide +kernel
theorem dksX1_addTray_1 : cX1_addTray.data.toList.drop 23 = dktX1_addTray_1 := dk_seg dksX1_addTray_0 23 rfl rfl
theorem dX1_addTray_0 : decode cX1_addTray 0 = .ok (.aload_n 0, 1) := dk_42 (dk_at dksX1_addTray_0 0 rfl rfl)
theorem dX1_addTray_1 : decode cX1_addTray 1 = .ok (.getfield 37, 3) := dk_180 0 37 (dk_at dksX1_addTray_0 1 rfl rfl)
theorem dX1_addTray_4 : decode cX1_addTray 4 = .ok (.invokevirtual 82, 3) := dk_182 0 82 (dk_at dksX1_addTray_0 4 rfl rfl)
theorem dX1_addTray_7 : decode cX1_addTray 7 = .ok (.astore 6, 2) := dk_58 6 (dk_at dksX1_addTray_0 7 rfl rfl)
theorem dX1_addTray_9 : decode cX1_addTray 9 = .ok (.aload_n 0, 1) := dk_42 (dk_at dksX1_addTray_0 9 rfl rfl)
theorem dX1_addTray_10 : decode cX1_addTray 10 = .ok (.getfield 37, 3) := dk_180 0 37 (dk_at dksX1_addTray_0 10 rfl rfl)
theorem dX1_addTray_13 : decode cX1_addTray 13 = .ok (.iload_n 1, 1) := dk_27 (dk_at dksX1_addTray_0 13 rfl rfl)
theorem dX1_addTray_14 : decode cX1_addTray 14 = .ok (.iload_n 2, 1) := dk_28 (dk_at dksX1_addTray_0 14 rfl rfl)
theorem dX1_addTray_15 : decode cX1_addTray 15 = .ok (.iload_n 3, 1) := dk_29 (dk_at dksX1_addTray_0 15 rfl rfl)
theorem dX1_addTray_16 : decode cX1_addTray 16 = .ok (.iload 4, 2) := dk_21 4 (dk_at dksX1_addTray_0 16 rfl rfl)
theorem dX1_addTray_18 : decode cX1_addTray 18 = .ok (.iload 5, 2) := dk_21 5 (dk_at dksX1_addTray_0 18 rfl rfl)
theorem dX1_addTray_20 : decode cX1_addTray 20 = .ok (.invokevirtual 99, 3) := dk_182 0 99 (dk_at dksX1_addTray_0 20 rfl rfl)
theorem dX1_addTray_23 : decode cX1_addTray 23 = .ok (.istore 7, 2) := dk_54 7 (dk_at dksX1_addTray_1 0 rfl rfl)
theorem dX1_addTray_25 : decode cX1_addTray 25 = .ok (.aload_n 0, 1) := dk_42 (dk_at dksX1_addTray_1 2 rfl rfl)
theorem dX1_addTray_26 : decode cX1_addTray 26 = .ok (.aload 6, 2) := dk_25 6 (dk_at dksX1_addTray_1 3 rfl rfl)
theorem dX1_addTray_28 : decode cX1_addTray 28 = .ok (.invokevirtual 86, 3) := dk_182 0 86 (dk_at dksX1_addTray_1 5 rfl rfl)
theorem dX1_addTray_31 : decode cX1_addTray 31 = .ok (.iload 7, 2) := dk_21 7 (dk_at dksX1_addTray_1 8 rfl rfl)
theorem dX1_addTray_33 : decode cX1_addTray 33 = .ok (.ireturn, 1) := dk_172 (dk_at dksX1_addTray_1 10 rfl rfl)
def dkwX1_checkPlace_0 : List UInt8 := [26, 133, 9, 20, 0, 21, 184, 0, 23, 184, 0, 27, 177]
abbrev dktX1_checkPlace_0 : List UInt8 := dkwX1_checkPlace_0 ++ []
theorem dksX1_checkPlace_0 : cX1_checkPlace.data.toList.drop 0 = dktX1_checkPlace_0 := by decide +kernel
theorem dX1_checkPlace_0 : decode cX1_checkPlace 0 = .ok (.iload_n 0, 1) := dk_26 (dk_at dksX1_checkPlace_0 0 rfl rfl)
theorem dX1_checkPlace_1 : decode cX1_checkPlace 1 = .ok (.i2l, 1) := dk_133 (dk_at dksX1_checkPlace_0 1 rfl rfl)
theorem dX1_checkPlace_2 : decode cX1_checkPlace 2 = .ok (.lconst 0, 1) := dk_9 (dk_at dksX1_checkPlace_0 2 rfl rfl)
theorem dX1_checkPlace_3 : decode cX1_checkPlace 3 = .ok (.ldc2_w 21, 3) := dk_20 0 21 (dk_at dksX1_checkPlace_0 3 rfl rfl)
theorem dX1_checkPlace_6 : decode cX1_checkPlace 6 = .ok (.invokestatic 23, 3) := dk_184 0 23 (dk_at dksX1_checkPlace_0 6 rfl rfl)
theorem dX1_checkPlace_9 : decode cX1_checkPlace 9 = .ok (.invokestatic 27, 3) := dk_184 0 27 (dk_at dksX1_checkPlace_0 9 rfl rfl)
theorem dX1_checkPlace_12 : decode cX1_checkPlace 12 = .ok (.return_, 1) := dk_177 (dk_at dksX1_checkPlace_0 12 rfl rfl)
def dkwX1_checkIndex_0 : List UInt8 := [26, 154, 0, 11, 187, 0, 7, 89, 183, 0, 9, 191, 177]
abbrev dktX1_checkIndex_0 : List UInt8 := dkwX1_checkIndex_0 ++ []
theorem dksX1_checkIndex_0 : cX1_checkIndex.data.toList.drop 0 = dktX1_checkIndex_0 := by decide +kernel
theorem dX1_checkIndex_0 : decode cX1_checkIndex 0 = .ok (.iload_n 0, 1) := dk_26 (dk_at dksX1_checkIndex_0 0 rfl rfl)
theorem dX1_checkIndex_1 : decode cX1_checkIndex 1 = .ok (.ifCond .ne 11, 3) := dk_154 0 11 (dk_at dksX1_checkIndex_0 1 rfl rfl)
theorem dX1_checkIndex_4 : decode cX1_checkIndex 4 = .ok (.new 7, 3) := dk_187 0 7 (dk_at dksX1_checkIndex_0 4 rfl rfl)
theorem dX1_checkIndex_7 : decode cX1_checkIndex 7 = .ok (.dup, 1) := dk_89 (dk_at dksX1_checkIndex_0 7 rfl rfl)
theorem dX1_checkIndex_8 : decode cX1_checkIndex 8 = .ok (.invokespecial 9, 3) := dk_183 0 9 (dk_at dksX1_checkIndex_0 8 rfl rfl)
theorem dX1_checkIndex_11 : decode cX1_checkIndex 11 = .ok (.athrow, 1) := dk_191 (dk_at dksX1_checkIndex_0 11 rfl rfl)
theorem dX1_checkIndex_12 : decode cX1_checkIndex 12 = .ok (.return_, 1) := dk_177 (dk_at dksX1_checkIndex_0 12 rfl rfl)
def dkwX1_checkState_0 : List UInt8 := [26, 154, 0, 11, 187, 0, 10, 89, 183, 0, 12, 191, 177]
abbrev dktX1_checkState_0 : List UInt8 := dkwX1_checkState_0 ++ []
theorem dksX1_checkState_0 : cX1_checkState.data.toList.drop 0 = dktX1_checkState_0 := by decide +kernel
theorem dX1_checkState_0 : decode cX1_checkState 0 = .ok (.iload_n 0, 1) := dk_26 (dk_at dksX1_checkState_0 0 rfl rfl)
theorem dX1_checkState_1 : decode cX1_checkState 1 = .ok (.ifCond .ne 11, 3) := dk_154 0 11 (dk_at dksX1_checkState_0 1 rfl rfl)
theorem dX1_checkState_4 : decode cX1_checkState 4 = .ok (.new 10, 3) := dk_187 0 10 (dk_at dksX1_checkState_0 4 rfl rfl)
theorem dX1_checkState_7 : decode cX1_checkState 7 = .ok (.dup, 1) := dk_89 (dk_at dksX1_checkState_0 7 rfl rfl)
theorem dX1_checkState_8 : decode cX1_checkState 8 = .ok (.invokespecial 12, 3) := dk_183 0 12 (dk_at dksX1_checkState_0 8 rfl rfl)
theorem dX1_checkState_11 : decode cX1_checkState 11 = .ok (.athrow, 1) := dk_191 (dk_at dksX1_checkState_0 11 rfl rfl)
theorem dX1_checkState_12 : decode cX1_checkState 12 = .ok (.return_, 1) := dk_177 (dk_at dksX1_checkState_0 12 rfl rfl)
def dkwX1_dropTray_0 : List UInt8 := [42, 180, 0, 37, 182, 0, 82, 77, 42, 180, 0, 37, 27, 182, 0, 103, 62, 42, 44, 182, 0, 86, 29, 172]
abbrev dktX1_dropTray_0 : List UInt8 := dkwX1_dropTray_0 ++ []
theorem dksX1_dropTray_0 : cX1_dropTray.data.toList.drop 0 = dktX1_dropTray_0 := by decide +kernel
theorem dX1_dropTray_0 : decode cX1_dropTray 0 = .ok (.aload_n 0, 1) := dk_42 (dk_at dksX1_dropTray_0 0 rfl rfl)
theorem dX1_dropTray_1 : decode cX1_dropTray 1 = .ok (.getfield 37, 3) := dk_180 0 37 (dk_at dksX1_dropTray_0 1 rfl rfl)
theorem dX1_dropTray_4 : decode cX1_dropTray 4 = .ok (.invokevirtual 82, 3) := dk_182 0 82 (dk_at dksX1_dropTray_0 4 rfl rfl)
theorem dX1_dropTray_7 : decode cX1_dropTray 7 = .ok (.astore_n 2, 1) := dk_77 (dk_at dksX1_dropTray_0 7 rfl rfl)
theorem dX1_dropTray_8 : decode cX1_dropTray 8 = .ok (.aload_n 0, 1) := dk_42 (dk_at dksX1_dropTray_0 8 rfl rfl)
theorem dX1_dropTray_9 : decode cX1_dropTray 9 = .ok (.getfield 37, 3) := dk_180 0 37 (dk_at dksX1_dropTray_0 9 rfl rfl)
theorem dX1_dropTray_12 : decode cX1_dropTray 12 = .ok (.iload_n 1, 1) := dk_27 (dk_at dksX1_dropTray_0 12 rfl rfl)
theorem dX1_dropTray_13 : decode cX1_dropTray 13 = .ok (.invokevirtual 103, 3) := dk_182 0 103 (dk_at dksX1_dropTray_0 13 rfl rfl)
theorem dX1_dropTray_16 : decode cX1_dropTray 16 = .ok (.istore_n 3, 1) := dk_62 (dk_at dksX1_dropTray_0 16 rfl rfl)
theorem dX1_dropTray_17 : decode cX1_dropTray 17 = .ok (.aload_n 0, 1) := dk_42 (dk_at dksX1_dropTray_0 17 rfl rfl)
theorem dX1_dropTray_18 : decode cX1_dropTray 18 = .ok (.aload_n 2, 1) := dk_44 (dk_at dksX1_dropTray_0 18 rfl rfl)
theorem dX1_dropTray_19 : decode cX1_dropTray 19 = .ok (.invokevirtual 86, 3) := dk_182 0 86 (dk_at dksX1_dropTray_0 19 rfl rfl)
theorem dX1_dropTray_22 : decode cX1_dropTray 22 = .ok (.iload_n 3, 1) := dk_29 (dk_at dksX1_dropTray_0 22 rfl rfl)
theorem dX1_dropTray_23 : decode cX1_dropTray 23 = .ok (.ireturn, 1) := dk_172 (dk_at dksX1_dropTray_0 23 rfl rfl)
def dkwX1_addCable_1 : List UInt8 := [182, 0, 86, 21, 5, 172]
abbrev dktX1_addCable_1 : List UInt8 := dkwX1_addCable_1 ++ []
def dkwX1_addCable_0 : List UInt8 := [42, 180, 0, 37, 182, 0, 82, 58, 4, 42, 180, 0, 37, 27, 28, 29, 182, 0, 107, 54, 5, 42, 25, 4]
abbrev dktX1_addCable_0 : List UInt8 := dkwX1_addCable_0 ++ dktX1_addCable_1
theorem dksX1_addCable_0 : cX1_addCable.data.toList.drop 0 = dktX1_addCable_0 := by decide +kernel
theorem dksX1_addCable_1 : cX1_addCable.data.toList.drop 24 = dktX1_addCable_1 := dk_seg dksX1_addCable_0 24 rfl rfl
theorem dX1_addCable_0 : decode cX1_addCable 0 = .ok (.aload_n 0, 1) := dk_42 (dk_at dksX1_addCable_0 0 rfl rfl)
theorem dX1_addCable_1 : decode cX1_addCable 1 = .ok (.getfield 37, 3) := dk_180 0 37 (dk_at dksX1_addCable_0 1 rfl rfl)
theorem dX1_addCable_4 : decode cX1_addCable 4 = .ok (.invokevirtual 82, 3) := dk_182 0 82 (dk_at dksX1_addCable_0 4 rfl rfl)
theorem dX1_addCable_7 : decode cX1_addCable 7 = .ok (.astore 4, 2) := dk_58 4 (dk_at dksX1_addCable_0 7 rfl rfl)
theorem dX1_addCable_9 : decode cX1_addCable 9 = .ok (.aload_n 0, 1) := dk_42 (dk_at dksX1_addCable_0 9 rfl rfl)
theorem dX1_addCable_10 : decode cX1_addCable 10 = .ok (.getfield 37, 3) := dk_180 0 37 (dk_at dksX1_addCable_0 10 rfl rfl)
theorem dX1_addCable_13 : decode cX1_addCable 13 = .ok (.iload_n 1, 1) := dk_27 (dk_at dksX1_addCable_0 13 rfl rfl)
theorem dX1_addCable_14 : decode cX1_addCable 14 = .ok (.iload_n 2, 1) := dk_28 (dk_at dksX1_addCable_0 14 rfl rfl)
theorem dX1_addCable_15 : decode cX1_addCable 15 = .ok (.iload_n 3, 1) := dk_29 (dk_at dksX1_addCable_0 15 rfl rfl)
theorem dX1_addCable_16 : decode cX1_addCable 16 = .ok (.invokevirtual 107, 3) := dk_182 0 107 (dk_at dksX1_addCable_0 16 rfl rfl)
theorem dX1_addCable_19 : decode cX1_addCable 19 = .ok (.istore 5, 2) := dk_54 5 (dk_at dksX1_addCable_0 19 rfl rfl)
theorem dX1_addCable_21 : decode cX1_addCable 21 = .ok (.aload_n 0, 1) := dk_42 (dk_at dksX1_addCable_0 21 rfl rfl)
theorem dX1_addCable_22 : decode cX1_addCable 22 = .ok (.aload 4, 2) := dk_25 4 (dk_at dksX1_addCable_0 22 rfl rfl)
theorem dX1_addCable_24 : decode cX1_addCable 24 = .ok (.invokevirtual 86, 3) := dk_182 0 86 (dk_at dksX1_addCable_1 0 rfl rfl)
theorem dX1_addCable_27 : decode cX1_addCable 27 = .ok (.iload 5, 2) := dk_21 5 (dk_at dksX1_addCable_1 3 rfl rfl)
theorem dX1_addCable_29 : decode cX1_addCable 29 = .ok (.ireturn, 1) := dk_172 (dk_at dksX1_addCable_1 5 rfl rfl)
def dkwX1_addDrum_1 : List UInt8 := [21, 4, 172]
abbrev dktX1_addDrum_1 : List UInt8 := dkwX1_addDrum_1 ++ []
def dkwX1_addDrum_0 : List UInt8 := [42, 180, 0, 37, 182, 0, 82, 78, 42, 180, 0, 37, 27, 28, 182, 0, 111, 54, 4, 42, 45, 182, 0, 86]
abbrev dktX1_addDrum_0 : List UInt8 := dkwX1_addDrum_0 ++ dktX1_addDrum_1
theorem dksX1_addDrum_0 : cX1_addDrum.data.toList.drop 0 = dktX1_addDrum_0 := by decide +kernel
theorem dksX1_addDrum_1 : cX1_addDrum.data.toList.drop 24 = dktX1_addDrum_1 := dk_seg dksX1_addDrum_0 24 rfl rfl
theorem dX1_addDrum_0 : decode cX1_addDrum 0 = .ok (.aload_n 0, 1) := dk_42 (dk_at dksX1_addDrum_0 0 rfl rfl)
theorem dX1_addDrum_1 : decode cX1_addDrum 1 = .ok (.getfield 37, 3) := dk_180 0 37 (dk_at dksX1_addDrum_0 1 rfl rfl)
theorem dX1_addDrum_4 : decode cX1_addDrum 4 = .ok (.invokevirtual 82, 3) := dk_182 0 82 (dk_at dksX1_addDrum_0 4 rfl rfl)
theorem dX1_addDrum_7 : decode cX1_addDrum 7 = .ok (.astore_n 3, 1) := dk_78 (dk_at dksX1_addDrum_0 7 rfl rfl)
theorem dX1_addDrum_8 : decode cX1_addDrum 8 = .ok (.aload_n 0, 1) := dk_42 (dk_at dksX1_addDrum_0 8 rfl rfl)
theorem dX1_addDrum_9 : decode cX1_addDrum 9 = .ok (.getfield 37, 3) := dk_180 0 37 (dk_at dksX1_addDrum_0 9 rfl rfl)
theorem dX1_addDrum_12 : decode cX1_addDrum 12 = .ok (.iload_n 1, 1) := dk_27 (dk_at dksX1_addDrum_0 12 rfl rfl)
theorem dX1_addDrum_13 : decode cX1_addDrum 13 = .ok (.iload_n 2, 1) := dk_28 (dk_at dksX1_addDrum_0 13 rfl rfl)
theorem dX1_addDrum_14 : decode cX1_addDrum 14 = .ok (.invokevirtual 111, 3) := dk_182 0 111 (dk_at dksX1_addDrum_0 14 rfl rfl)
theorem dX1_addDrum_17 : decode cX1_addDrum 17 = .ok (.istore 4, 2) := dk_54 4 (dk_at dksX1_addDrum_0 17 rfl rfl)
theorem dX1_addDrum_19 : decode cX1_addDrum 19 = .ok (.aload_n 0, 1) := dk_42 (dk_at dksX1_addDrum_0 19 rfl rfl)
theorem dX1_addDrum_20 : decode cX1_addDrum 20 = .ok (.aload_n 3, 1) := dk_45 (dk_at dksX1_addDrum_0 20 rfl rfl)
theorem dX1_addDrum_21 : decode cX1_addDrum 21 = .ok (.invokevirtual 86, 3) := dk_182 0 86 (dk_at dksX1_addDrum_0 21 rfl rfl)
theorem dX1_addDrum_24 : decode cX1_addDrum 24 = .ok (.iload 4, 2) := dk_21 4 (dk_at dksX1_addDrum_1 0 rfl rfl)
theorem dX1_addDrum_26 : decode cX1_addDrum 26 = .ok (.ireturn, 1) := dk_172 (dk_at dksX1_addDrum_1 2 rfl rfl)
def dkwX1_route_0 : List UInt8 := [187, 0, 115, 89, 42, 27, 183, 0, 117, 182, 0, 120, 172]
abbrev dktX1_route_0 : List UInt8 := dkwX1_route_0 ++ []
theorem dksX1_route_0 : cX1_route.data.toList.drop 0 = dktX1_route_0 := by decide +kernel
theorem dX1_route_0 : decode cX1_route 0 = .ok (.new 115, 3) := dk_187 0 115 (dk_at dksX1_route_0 0 rfl rfl)
theorem dX1_route_3 : decode cX1_route 3 = .ok (.dup, 1) := dk_89 (dk_at dksX1_route_0 3 rfl rfl)
theorem dX1_route_4 : decode cX1_route 4 = .ok (.aload_n 0, 1) := dk_42 (dk_at dksX1_route_0 4 rfl rfl)
theorem dX1_route_5 : decode cX1_route 5 = .ok (.iload_n 1, 1) := dk_27 (dk_at dksX1_route_0 5 rfl rfl)
theorem dX1_route_6 : decode cX1_route 6 = .ok (.invokespecial 117, 3) := dk_183 0 117 (dk_at dksX1_route_0 6 rfl rfl)
theorem dX1_route_9 : decode cX1_route 9 = .ok (.invokevirtual 120, 3) := dk_182 0 120 (dk_at dksX1_route_0 9 rfl rfl)
theorem dX1_route_12 : decode cX1_route 12 = .ok (.ireturn, 1) := dk_172 (dk_at dksX1_route_0 12 rfl rfl)
def dkwX1_free_0 : List UInt8 := [42, 180, 0, 37, 182, 0, 82, 77, 42, 180, 0, 37, 27, 182, 0, 123, 62, 42, 44, 182, 0, 86, 29, 172]
abbrev dktX1_free_0 : List UInt8 := dkwX1_free_0 ++ []
theorem dksX1_free_0 : cX1_free.data.toList.drop 0 = dktX1_free_0 := by decide +kernel
theorem dX1_free_0 : decode cX1_free 0 = .ok (.aload_n 0, 1) := dk_42 (dk_at dksX1_free_0 0 rfl rfl)
theorem dX1_free_1 : decode cX1_free 1 = .ok (.getfield 37, 3) := dk_180 0 37 (dk_at dksX1_free_0 1 rfl rfl)
theorem dX1_free_4 : decode cX1_free 4 = .ok (.invokevirtual 82, 3) := dk_182 0 82 (dk_at dksX1_free_0 4 rfl rfl)
theorem dX1_free_7 : decode cX1_free 7 = .ok (.astore_n 2, 1) := dk_77 (dk_at dksX1_free_0 7 rfl rfl)
theorem dX1_free_8 : decode cX1_free 8 = .ok (.aload_n 0, 1) := dk_42 (dk_at dksX1_free_0 8 rfl rfl)
theorem dX1_free_9 : decode cX1_free 9 = .ok (.getfield 37, 3) := dk_180 0 37 (dk_at dksX1_free_0 9 rfl rfl)
theorem dX1_free_12 : decode cX1_free 12 = .ok (.iload_n 1, 1) := dk_27 (dk_at dksX1_free_0 12 rfl rfl)
theorem dX1_free_13 : decode cX1_free 13 = .ok (.invokevirtual 123, 3) := dk_182 0 123 (dk_at dksX1_free_0 13 rfl rfl)
theorem dX1_free_16 : decode cX1_free 16 = .ok (.istore_n 3, 1) := dk_62 (dk_at dksX1_free_0 16 rfl rfl)
theorem dX1_free_17 : decode cX1_free 17 = .ok (.aload_n 0, 1) := dk_42 (dk_at dksX1_free_0 17 rfl rfl)
theorem dX1_free_18 : decode cX1_free 18 = .ok (.aload_n 2, 1) := dk_44 (dk_at dksX1_free_0 18 rfl rfl)
theorem dX1_free_19 : decode cX1_free 19 = .ok (.invokevirtual 86, 3) := dk_182 0 86 (dk_at dksX1_free_0 19 rfl rfl)
theorem dX1_free_22 : decode cX1_free 22 = .ok (.iload_n 3, 1) := dk_29 (dk_at dksX1_free_0 22 rfl rfl)
theorem dX1_free_23 : decode cX1_free 23 = .ok (.ireturn, 1) := dk_172 (dk_at dksX1_free_0 23 rfl rfl)
def dkwX1_cut_0 : List UInt8 := [187, 0, 126, 89, 42, 27, 183, 0, 128, 182, 0, 129, 172]
abbrev dktX1_cut_0 : List UInt8 := dkwX1_cut_0 ++ []
theorem dksX1_cut_0 : cX1_cut.data.toList.drop 0 = dktX1_cut_0 := by decide +kernel
theorem dX1_cut_0 : decode cX1_cut 0 = .ok (.new 126, 3) := dk_187 0 126 (dk_at dksX1_cut_0 0 rfl rfl)
theorem dX1_cut_3 : decode cX1_cut 3 = .ok (.dup, 1) := dk_89 (dk_at dksX1_cut_0 3 rfl rfl)
theorem dX1_cut_4 : decode cX1_cut 4 = .ok (.aload_n 0, 1) := dk_42 (dk_at dksX1_cut_0 4 rfl rfl)
theorem dX1_cut_5 : decode cX1_cut 5 = .ok (.iload_n 1, 1) := dk_27 (dk_at dksX1_cut_0 5 rfl rfl)
theorem dX1_cut_6 : decode cX1_cut 6 = .ok (.invokespecial 128, 3) := dk_183 0 128 (dk_at dksX1_cut_0 6 rfl rfl)
theorem dX1_cut_9 : decode cX1_cut 9 = .ok (.invokevirtual 129, 3) := dk_182 0 129 (dk_at dksX1_cut_0 9 rfl rfl)
theorem dX1_cut_12 : decode cX1_cut 12 = .ok (.ireturn, 1) := dk_172 (dk_at dksX1_cut_0 12 rfl rfl)
def dkwX1_scrap_0 : List UInt8 := [42, 180, 0, 37, 182, 0, 82, 77, 42, 180, 0, 37, 27, 182, 0, 130, 62, 42, 44, 182, 0, 86, 29, 172]
abbrev dktX1_scrap_0 : List UInt8 := dkwX1_scrap_0 ++ []
theorem dksX1_scrap_0 : cX1_scrap.data.toList.drop 0 = dktX1_scrap_0 := by decide +kernel
theorem dX1_scrap_0 : decode cX1_scrap 0 = .ok (.aload_n 0, 1) := dk_42 (dk_at dksX1_scrap_0 0 rfl rfl)
theorem dX1_scrap_1 : decode cX1_scrap 1 = .ok (.getfield 37, 3) := dk_180 0 37 (dk_at dksX1_scrap_0 1 rfl rfl)
theorem dX1_scrap_4 : decode cX1_scrap 4 = .ok (.invokevirtual 82, 3) := dk_182 0 82 (dk_at dksX1_scrap_0 4 rfl rfl)
theorem dX1_scrap_7 : decode cX1_scrap 7 = .ok (.astore_n 2, 1) := dk_77 (dk_at dksX1_scrap_0 7 rfl rfl)
theorem dX1_scrap_8 : decode cX1_scrap 8 = .ok (.aload_n 0, 1) := dk_42 (dk_at dksX1_scrap_0 8 rfl rfl)
theorem dX1_scrap_9 : decode cX1_scrap 9 = .ok (.getfield 37, 3) := dk_180 0 37 (dk_at dksX1_scrap_0 9 rfl rfl)
theorem dX1_scrap_12 : decode cX1_scrap 12 = .ok (.iload_n 1, 1) := dk_27 (dk_at dksX1_scrap_0 12 rfl rfl)
theorem dX1_scrap_13 : decode cX1_scrap 13 = .ok (.invokevirtual 130, 3) := dk_182 0 130 (dk_at dksX1_scrap_0 13 rfl rfl)
theorem dX1_scrap_16 : decode cX1_scrap 16 = .ok (.istore_n 3, 1) := dk_62 (dk_at dksX1_scrap_0 16 rfl rfl)
theorem dX1_scrap_17 : decode cX1_scrap 17 = .ok (.aload_n 0, 1) := dk_42 (dk_at dksX1_scrap_0 17 rfl rfl)
theorem dX1_scrap_18 : decode cX1_scrap 18 = .ok (.aload_n 2, 1) := dk_44 (dk_at dksX1_scrap_0 18 rfl rfl)
theorem dX1_scrap_19 : decode cX1_scrap 19 = .ok (.invokevirtual 86, 3) := dk_182 0 86 (dk_at dksX1_scrap_0 19 rfl rfl)
theorem dX1_scrap_22 : decode cX1_scrap 22 = .ok (.iload_n 3, 1) := dk_29 (dk_at dksX1_scrap_0 22 rfl rfl)
theorem dX1_scrap_23 : decode cX1_scrap 23 = .ok (.ireturn, 1) := dk_172 (dk_at dksX1_scrap_0 23 rfl rfl)
def dkwX1_refusal_1 : List UInt8 := [100, 133, 184, 0, 23, 184, 0, 140, 42, 180, 0, 133, 27, 46, 172]
abbrev dktX1_refusal_1 : List UInt8 := dkwX1_refusal_1 ++ []
def dkwX1_refusal_0 : List UInt8 := [42, 180, 0, 133, 198, 0, 7, 4, 167, 0, 4, 3, 184, 0, 137, 27, 133, 9, 42, 180, 0, 133, 190, 4]
abbrev dktX1_refusal_0 : List UInt8 := dkwX1_refusal_0 ++ dktX1_refusal_1
theorem dksX1_refusal_0 : cX1_refusal.data.toList.drop 0 = dktX1_refusal_0 := by decide +kernel
theorem dksX1_refusal_1 : cX1_refusal.data.toList.drop 24 = dktX1_refusal_1 := dk_seg dksX1_refusal_0 24 rfl rfl
theorem dX1_refusal_0 : decode cX1_refusal 0 = .ok (.aload_n 0, 1) := dk_42 (dk_at dksX1_refusal_0 0 rfl rfl)
theorem dX1_refusal_1 : decode cX1_refusal 1 = .ok (.getfield 133, 3) := dk_180 0 133 (dk_at dksX1_refusal_0 1 rfl rfl)
theorem dX1_refusal_4 : decode cX1_refusal 4 = .ok (.ifnull 7, 3) := dk_198 0 7 (dk_at dksX1_refusal_0 4 rfl rfl)
theorem dX1_refusal_7 : decode cX1_refusal 7 = .ok (.iconst 1, 1) := dk_4 (dk_at dksX1_refusal_0 7 rfl rfl)
theorem dX1_refusal_8 : decode cX1_refusal 8 = .ok (.goto 4, 3) := dk_167 0 4 (dk_at dksX1_refusal_0 8 rfl rfl)
theorem dX1_refusal_11 : decode cX1_refusal 11 = .ok (.iconst 0, 1) := dk_3 (dk_at dksX1_refusal_0 11 rfl rfl)
theorem dX1_refusal_12 : decode cX1_refusal 12 = .ok (.invokestatic 137, 3) := dk_184 0 137 (dk_at dksX1_refusal_0 12 rfl rfl)
theorem dX1_refusal_15 : decode cX1_refusal 15 = .ok (.iload_n 1, 1) := dk_27 (dk_at dksX1_refusal_0 15 rfl rfl)
theorem dX1_refusal_16 : decode cX1_refusal 16 = .ok (.i2l, 1) := dk_133 (dk_at dksX1_refusal_0 16 rfl rfl)
theorem dX1_refusal_17 : decode cX1_refusal 17 = .ok (.lconst 0, 1) := dk_9 (dk_at dksX1_refusal_0 17 rfl rfl)
theorem dX1_refusal_18 : decode cX1_refusal 18 = .ok (.aload_n 0, 1) := dk_42 (dk_at dksX1_refusal_0 18 rfl rfl)
theorem dX1_refusal_19 : decode cX1_refusal 19 = .ok (.getfield 133, 3) := dk_180 0 133 (dk_at dksX1_refusal_0 19 rfl rfl)
theorem dX1_refusal_22 : decode cX1_refusal 22 = .ok (.arraylength, 1) := dk_190 (dk_at dksX1_refusal_0 22 rfl rfl)
theorem dX1_refusal_23 : decode cX1_refusal 23 = .ok (.iconst 1, 1) := dk_4 (dk_at dksX1_refusal_0 23 rfl rfl)
theorem dX1_refusal_24 : decode cX1_refusal 24 = .ok (.isub, 1) := dk_100 (dk_at dksX1_refusal_1 0 rfl rfl)
theorem dX1_refusal_25 : decode cX1_refusal 25 = .ok (.i2l, 1) := dk_133 (dk_at dksX1_refusal_1 1 rfl rfl)
theorem dX1_refusal_26 : decode cX1_refusal 26 = .ok (.invokestatic 23, 3) := dk_184 0 23 (dk_at dksX1_refusal_1 2 rfl rfl)
theorem dX1_refusal_29 : decode cX1_refusal 29 = .ok (.invokestatic 140, 3) := dk_184 0 140 (dk_at dksX1_refusal_1 5 rfl rfl)
theorem dX1_refusal_32 : decode cX1_refusal 32 = .ok (.aload_n 0, 1) := dk_42 (dk_at dksX1_refusal_1 8 rfl rfl)
theorem dX1_refusal_33 : decode cX1_refusal 33 = .ok (.getfield 133, 3) := dk_180 0 133 (dk_at dksX1_refusal_1 9 rfl rfl)
theorem dX1_refusal_36 : decode cX1_refusal 36 = .ok (.iload_n 1, 1) := dk_27 (dk_at dksX1_refusal_1 12 rfl rfl)
theorem dX1_refusal_37 : decode cX1_refusal 37 = .ok (.iaload, 1) := dk_46 (dk_at dksX1_refusal_1 13 rfl rfl)
theorem dX1_refusal_38 : decode cX1_refusal 38 = .ok (.ireturn, 1) := dk_172 (dk_at dksX1_refusal_1 14 rfl rfl)
def dkwX1_planner_6 : List UInt8 := [180, 0, 51, 182, 0, 164, 172, 42, 180, 0, 44, 182, 0, 55, 172, 187, 0, 1, 89, 183, 0, 3, 191]
abbrev dktX1_planner_6 : List UInt8 := dkwX1_planner_6 ++ []
def dkwX1_planner_5 : List UInt8 := [180, 0, 37, 182, 0, 155, 172, 42, 180, 0, 37, 180, 0, 158, 172, 42, 180, 0, 37, 182, 0, 161, 172, 42]
abbrev dktX1_planner_5 : List UInt8 := dkwX1_planner_5 ++ dktX1_planner_6
def dkwX1_planner_4 : List UInt8 := [180, 0, 37, 180, 0, 90, 172, 42, 180, 0, 37, 180, 0, 96, 172, 42, 180, 0, 37, 182, 0, 152, 172, 42]
abbrev dktX1_planner_4 : List UInt8 := dkwX1_planner_4 ++ dktX1_planner_5
def dkwX1_planner_3 : List UInt8 := [180, 0, 37, 180, 0, 67, 182, 0, 71, 172, 42, 180, 0, 37, 180, 0, 149, 182, 0, 71, 172, 42]
abbrev dktX1_planner_3 : List UInt8 := dkwX1_planner_3 ++ dktX1_planner_4
def dkwX1_planner_2 : List UInt8 := [42, 180, 0, 37, 180, 0, 143, 182, 0, 71, 172, 42, 180, 0, 37, 180, 0, 146, 182, 0, 71, 172, 42]
abbrev dktX1_planner_2 : List UInt8 := dkwX1_planner_2 ++ dktX1_planner_3
def dkwX1_planner_1 : List UInt8 := [170, 0, 0, 0, 0, 0, 171, 0, 0, 0, 0, 0, 0, 0, 11, 0, 0, 0, 63, 0, 0, 0, 74, 0, 0, 0, 85, 0, 0, 0, 96, 0, 0, 0, 107, 0, 0, 0, 115, 0, 0, 0, 123, 0, 0, 0, 131, 0, 0, 0, 139, 0, 0, 0, 147, 0, 0, 0, 155, 0, 0, 0, 163]
abbrev dktX1_planner_1 : List UInt8 := dkwX1_planner_1 ++ dktX1_planner_2
def dkwX1_planner_0 : List UInt8 := [27]
abbrev dktX1_planner_0 : List UInt8 := dkwX1_planner_0 ++ dktX1_planner_1
theorem dksX1_planner_0 : cX1_planner.data.toList.drop 0 = dktX1_planner_0 := by decide +kernel
theorem dksX1_planner_1 : cX1_planner.data.toList.drop 1 = dktX1_planner_1 := dk_seg dksX1_planner_0 1 rfl rfl
theorem dksX1_planner_2 : cX1_planner.data.toList.drop 64 = dktX1_planner_2 := dk_seg dksX1_planner_1 63 rfl rfl
theorem dksX1_planner_3 : cX1_planner.data.toList.drop 87 = dktX1_planner_3 := dk_seg dksX1_planner_2 23 rfl rfl
theorem dksX1_planner_4 : cX1_planner.data.toList.drop 109 = dktX1_planner_4 := dk_seg dksX1_planner_3 22 rfl rfl
theorem dksX1_planner_5 : cX1_planner.data.toList.drop 133 = dktX1_planner_5 := dk_seg dksX1_planner_4 24 rfl rfl
theorem dksX1_planner_6 : cX1_planner.data.toList.drop 157 = dktX1_planner_6 := dk_seg dksX1_planner_5 24 rfl rfl
theorem dX1_planner_0 : decode cX1_planner 0 = .ok (.iload_n 1, 1) := dk_27 (dk_at dksX1_planner_0 0 rfl rfl)
theorem dX1_planner_1 : decode cX1_planner 1 = .ok (.tableswitch 171 0 11 #[63, 74, 85, 96, 107, 115, 123, 131, 139, 147, 155, 163], 63) := by decide +kernel
theorem dX1_planner_64 : decode cX1_planner 64 = .ok (.aload_n 0, 1) := dk_42 (dk_at dksX1_planner_2 0 rfl rfl)
theorem dX1_planner_65 : decode cX1_planner 65 = .ok (.getfield 37, 3) := dk_180 0 37 (dk_at dksX1_planner_2 1 rfl rfl)
theorem dX1_planner_68 : decode cX1_planner 68 = .ok (.getfield 143, 3) := dk_180 0 143 (dk_at dksX1_planner_2 4 rfl rfl)
theorem dX1_planner_71 : decode cX1_planner 71 = .ok (.invokevirtual 71, 3) := dk_182 0 71 (dk_at dksX1_planner_2 7 rfl rfl)
theorem dX1_planner_74 : decode cX1_planner 74 = .ok (.ireturn, 1) := dk_172 (dk_at dksX1_planner_2 10 rfl rfl)
theorem dX1_planner_75 : decode cX1_planner 75 = .ok (.aload_n 0, 1) := dk_42 (dk_at dksX1_planner_2 11 rfl rfl)
theorem dX1_planner_76 : decode cX1_planner 76 = .ok (.getfield 37, 3) := dk_180 0 37 (dk_at dksX1_planner_2 12 rfl rfl)
theorem dX1_planner_79 : decode cX1_planner 79 = .ok (.getfield 146, 3) := dk_180 0 146 (dk_at dksX1_planner_2 15 rfl rfl)
theorem dX1_planner_82 : decode cX1_planner 82 = .ok (.invokevirtual 71, 3) := dk_182 0 71 (dk_at dksX1_planner_2 18 rfl rfl)
theorem dX1_planner_85 : decode cX1_planner 85 = .ok (.ireturn, 1) := dk_172 (dk_at dksX1_planner_2 21 rfl rfl)
theorem dX1_planner_86 : decode cX1_planner 86 = .ok (.aload_n 0, 1) := dk_42 (dk_at dksX1_planner_2 22 rfl rfl)
theorem dX1_planner_87 : decode cX1_planner 87 = .ok (.getfield 37, 3) := dk_180 0 37 (dk_at dksX1_planner_3 0 rfl rfl)
theorem dX1_planner_90 : decode cX1_planner 90 = .ok (.getfield 67, 3) := dk_180 0 67 (dk_at dksX1_planner_3 3 rfl rfl)
theorem dX1_planner_93 : decode cX1_planner 93 = .ok (.invokevirtual 71, 3) := dk_182 0 71 (dk_at dksX1_planner_3 6 rfl rfl)
theorem dX1_planner_96 : decode cX1_planner 96 = .ok (.ireturn, 1) := dk_172 (dk_at dksX1_planner_3 9 rfl rfl)
theorem dX1_planner_97 : decode cX1_planner 97 = .ok (.aload_n 0, 1) := dk_42 (dk_at dksX1_planner_3 10 rfl rfl)
theorem dX1_planner_98 : decode cX1_planner 98 = .ok (.getfield 37, 3) := dk_180 0 37 (dk_at dksX1_planner_3 11 rfl rfl)
theorem dX1_planner_101 : decode cX1_planner 101 = .ok (.getfield 149, 3) := dk_180 0 149 (dk_at dksX1_planner_3 14 rfl rfl)
theorem dX1_planner_104 : decode cX1_planner 104 = .ok (.invokevirtual 71, 3) := dk_182 0 71 (dk_at dksX1_planner_3 17 rfl rfl)
theorem dX1_planner_107 : decode cX1_planner 107 = .ok (.ireturn, 1) := dk_172 (dk_at dksX1_planner_3 20 rfl rfl)
theorem dX1_planner_108 : decode cX1_planner 108 = .ok (.aload_n 0, 1) := dk_42 (dk_at dksX1_planner_3 21 rfl rfl)
theorem dX1_planner_109 : decode cX1_planner 109 = .ok (.getfield 37, 3) := dk_180 0 37 (dk_at dksX1_planner_4 0 rfl rfl)
theorem dX1_planner_112 : decode cX1_planner 112 = .ok (.getfield 90, 3) := dk_180 0 90 (dk_at dksX1_planner_4 3 rfl rfl)
theorem dX1_planner_115 : decode cX1_planner 115 = .ok (.ireturn, 1) := dk_172 (dk_at dksX1_planner_4 6 rfl rfl)
theorem dX1_planner_116 : decode cX1_planner 116 = .ok (.aload_n 0, 1) := dk_42 (dk_at dksX1_planner_4 7 rfl rfl)
theorem dX1_planner_117 : decode cX1_planner 117 = .ok (.getfield 37, 3) := dk_180 0 37 (dk_at dksX1_planner_4 8 rfl rfl)
theorem dX1_planner_120 : decode cX1_planner 120 = .ok (.getfield 96, 3) := dk_180 0 96 (dk_at dksX1_planner_4 11 rfl rfl)
theorem dX1_planner_123 : decode cX1_planner 123 = .ok (.ireturn, 1) := dk_172 (dk_at dksX1_planner_4 14 rfl rfl)
theorem dX1_planner_124 : decode cX1_planner 124 = .ok (.aload_n 0, 1) := dk_42 (dk_at dksX1_planner_4 15 rfl rfl)
theorem dX1_planner_125 : decode cX1_planner 125 = .ok (.getfield 37, 3) := dk_180 0 37 (dk_at dksX1_planner_4 16 rfl rfl)
theorem dX1_planner_128 : decode cX1_planner 128 = .ok (.invokevirtual 152, 3) := dk_182 0 152 (dk_at dksX1_planner_4 19 rfl rfl)
theorem dX1_planner_131 : decode cX1_planner 131 = .ok (.ireturn, 1) := dk_172 (dk_at dksX1_planner_4 22 rfl rfl)
theorem dX1_planner_132 : decode cX1_planner 132 = .ok (.aload_n 0, 1) := dk_42 (dk_at dksX1_planner_4 23 rfl rfl)
theorem dX1_planner_133 : decode cX1_planner 133 = .ok (.getfield 37, 3) := dk_180 0 37 (dk_at dksX1_planner_5 0 rfl rfl)
theorem dX1_planner_136 : decode cX1_planner 136 = .ok (.invokevirtual 155, 3) := dk_182 0 155 (dk_at dksX1_planner_5 3 rfl rfl)
theorem dX1_planner_139 : decode cX1_planner 139 = .ok (.ireturn, 1) := dk_172 (dk_at dksX1_planner_5 6 rfl rfl)
theorem dX1_planner_140 : decode cX1_planner 140 = .ok (.aload_n 0, 1) := dk_42 (dk_at dksX1_planner_5 7 rfl rfl)
theorem dX1_planner_141 : decode cX1_planner 141 = .ok (.getfield 37, 3) := dk_180 0 37 (dk_at dksX1_planner_5 8 rfl rfl)
theorem dX1_planner_144 : decode cX1_planner 144 = .ok (.getfield 158, 3) := dk_180 0 158 (dk_at dksX1_planner_5 11 rfl rfl)
theorem dX1_planner_147 : decode cX1_planner 147 = .ok (.ireturn, 1) := dk_172 (dk_at dksX1_planner_5 14 rfl rfl)
theorem dX1_planner_148 : decode cX1_planner 148 = .ok (.aload_n 0, 1) := dk_42 (dk_at dksX1_planner_5 15 rfl rfl)
theorem dX1_planner_149 : decode cX1_planner 149 = .ok (.getfield 37, 3) := dk_180 0 37 (dk_at dksX1_planner_5 16 rfl rfl)
theorem dX1_planner_152 : decode cX1_planner 152 = .ok (.invokevirtual 161, 3) := dk_182 0 161 (dk_at dksX1_planner_5 19 rfl rfl)
theorem dX1_planner_155 : decode cX1_planner 155 = .ok (.ireturn, 1) := dk_172 (dk_at dksX1_planner_5 22 rfl rfl)
theorem dX1_planner_156 : decode cX1_planner 156 = .ok (.aload_n 0, 1) := dk_42 (dk_at dksX1_planner_5 23 rfl rfl)
theorem dX1_planner_157 : decode cX1_planner 157 = .ok (.getfield 51, 3) := dk_180 0 51 (dk_at dksX1_planner_6 0 rfl rfl)
theorem dX1_planner_160 : decode cX1_planner 160 = .ok (.invokevirtual 164, 3) := dk_182 0 164 (dk_at dksX1_planner_6 3 rfl rfl)
theorem dX1_planner_163 : decode cX1_planner 163 = .ok (.ireturn, 1) := dk_172 (dk_at dksX1_planner_6 6 rfl rfl)
theorem dX1_planner_164 : decode cX1_planner 164 = .ok (.aload_n 0, 1) := dk_42 (dk_at dksX1_planner_6 7 rfl rfl)
theorem dX1_planner_165 : decode cX1_planner 165 = .ok (.getfield 44, 3) := dk_180 0 44 (dk_at dksX1_planner_6 8 rfl rfl)
theorem dX1_planner_168 : decode cX1_planner 168 = .ok (.invokevirtual 55, 3) := dk_182 0 55 (dk_at dksX1_planner_6 11 rfl rfl)
theorem dX1_planner_171 : decode cX1_planner 171 = .ok (.ireturn, 1) := dk_172 (dk_at dksX1_planner_6 14 rfl rfl)
theorem dX1_planner_172 : decode cX1_planner 172 = .ok (.new 1, 3) := dk_187 0 1 (dk_at dksX1_planner_6 15 rfl rfl)
theorem dX1_planner_175 : decode cX1_planner 175 = .ok (.dup, 1) := dk_89 (dk_at dksX1_planner_6 18 rfl rfl)
theorem dX1_planner_176 : decode cX1_planner 176 = .ok (.invokespecial 3, 3) := dk_183 0 3 (dk_at dksX1_planner_6 19 rfl rfl)
theorem dX1_planner_179 : decode cX1_planner 179 = .ok (.athrow, 1) := dk_191 (dk_at dksX1_planner_6 22 rfl rfl)
def dkwX1_type_3 : List UInt8 := [42, 27, 3, 182, 0, 212, 172, 42, 27, 4, 182, 0, 212, 172, 187, 0, 1, 89, 183, 0, 3, 191]
abbrev dktX1_type_3 : List UInt8 := dkwX1_type_3 ++ []
def dkwX1_type_2 : List UInt8 := [45, 180, 0, 194, 172, 45, 180, 0, 199, 172, 45, 180, 0, 202, 182, 0, 206, 172, 42, 27, 182, 0, 209, 172]
abbrev dktX1_type_2 : List UInt8 := dkwX1_type_2 ++ dktX1_type_3
def dkwX1_type_1 : List UInt8 := [170, 0, 0, 0, 0, 76, 0, 0, 0, 0, 0, 0, 0, 5, 0, 0, 0, 38, 0, 0, 0, 43, 0, 0, 0, 48, 0, 0, 0, 56, 0, 0, 0, 62, 0, 0, 0, 69]
abbrev dktX1_type_1 : List UInt8 := dkwX1_type_1 ++ dktX1_type_2
def dkwX1_type_0 : List UInt8 := [42, 180, 0, 37, 27, 182, 0, 191, 78, 28]
abbrev dktX1_type_0 : List UInt8 := dkwX1_type_0 ++ dktX1_type_1
theorem dksX1_type_0 : cX1_type.data.toList.drop 0 = dktX1_type_0 := by decide +kernel
theorem dksX1_type_1 : cX1_type.data.toList.drop 10 = dktX1_type_1 := dk_seg dksX1_type_0 10 rfl rfl
theorem dksX1_type_2 : cX1_type.data.toList.drop 48 = dktX1_type_2 := dk_seg dksX1_type_1 38 rfl rfl
theorem dksX1_type_3 : cX1_type.data.toList.drop 72 = dktX1_type_3 := dk_seg dksX1_type_2 24 rfl rfl
theorem dX1_type_0 : decode cX1_type 0 = .ok (.aload_n 0, 1) := dk_42 (dk_at dksX1_type_0 0 rfl rfl)
theorem dX1_type_1 : decode cX1_type 1 = .ok (.getfield 37, 3) := dk_180 0 37 (dk_at dksX1_type_0 1 rfl rfl)
theorem dX1_type_4 : decode cX1_type 4 = .ok (.iload_n 1, 1) := dk_27 (dk_at dksX1_type_0 4 rfl rfl)
theorem dX1_type_5 : decode cX1_type 5 = .ok (.invokevirtual 191, 3) := dk_182 0 191 (dk_at dksX1_type_0 5 rfl rfl)
theorem dX1_type_8 : decode cX1_type 8 = .ok (.astore_n 3, 1) := dk_78 (dk_at dksX1_type_0 8 rfl rfl)
theorem dX1_type_9 : decode cX1_type 9 = .ok (.iload_n 2, 1) := dk_28 (dk_at dksX1_type_0 9 rfl rfl)
theorem dX1_type_10 : decode cX1_type 10 = .ok (.tableswitch 76 0 5 #[38, 43, 48, 56, 62, 69], 38) := by decide +kernel
theorem dX1_type_48 : decode cX1_type 48 = .ok (.aload_n 3, 1) := dk_45 (dk_at dksX1_type_2 0 rfl rfl)
theorem dX1_type_49 : decode cX1_type 49 = .ok (.getfield 194, 3) := dk_180 0 194 (dk_at dksX1_type_2 1 rfl rfl)
theorem dX1_type_52 : decode cX1_type 52 = .ok (.ireturn, 1) := dk_172 (dk_at dksX1_type_2 4 rfl rfl)
theorem dX1_type_53 : decode cX1_type 53 = .ok (.aload_n 3, 1) := dk_45 (dk_at dksX1_type_2 5 rfl rfl)
theorem dX1_type_54 : decode cX1_type 54 = .ok (.getfield 199, 3) := dk_180 0 199 (dk_at dksX1_type_2 6 rfl rfl)
theorem dX1_type_57 : decode cX1_type 57 = .ok (.ireturn, 1) := dk_172 (dk_at dksX1_type_2 9 rfl rfl)
theorem dX1_type_58 : decode cX1_type 58 = .ok (.aload_n 3, 1) := dk_45 (dk_at dksX1_type_2 10 rfl rfl)
theorem dX1_type_59 : decode cX1_type 59 = .ok (.getfield 202, 3) := dk_180 0 202 (dk_at dksX1_type_2 11 rfl rfl)
theorem dX1_type_62 : decode cX1_type 62 = .ok (.invokevirtual 206, 3) := dk_182 0 206 (dk_at dksX1_type_2 14 rfl rfl)
theorem dX1_type_65 : decode cX1_type 65 = .ok (.ireturn, 1) := dk_172 (dk_at dksX1_type_2 17 rfl rfl)
theorem dX1_type_66 : decode cX1_type 66 = .ok (.aload_n 0, 1) := dk_42 (dk_at dksX1_type_2 18 rfl rfl)
theorem dX1_type_67 : decode cX1_type 67 = .ok (.iload_n 1, 1) := dk_27 (dk_at dksX1_type_2 19 rfl rfl)
theorem dX1_type_68 : decode cX1_type 68 = .ok (.invokevirtual 209, 3) := dk_182 0 209 (dk_at dksX1_type_2 20 rfl rfl)
theorem dX1_type_71 : decode cX1_type 71 = .ok (.ireturn, 1) := dk_172 (dk_at dksX1_type_2 23 rfl rfl)
theorem dX1_type_72 : decode cX1_type 72 = .ok (.aload_n 0, 1) := dk_42 (dk_at dksX1_type_3 0 rfl rfl)
theorem dX1_type_73 : decode cX1_type 73 = .ok (.iload_n 1, 1) := dk_27 (dk_at dksX1_type_3 1 rfl rfl)
theorem dX1_type_74 : decode cX1_type 74 = .ok (.iconst 0, 1) := dk_3 (dk_at dksX1_type_3 2 rfl rfl)
theorem dX1_type_75 : decode cX1_type 75 = .ok (.invokevirtual 212, 3) := dk_182 0 212 (dk_at dksX1_type_3 3 rfl rfl)
theorem dX1_type_78 : decode cX1_type 78 = .ok (.ireturn, 1) := dk_172 (dk_at dksX1_type_3 6 rfl rfl)
theorem dX1_type_79 : decode cX1_type 79 = .ok (.aload_n 0, 1) := dk_42 (dk_at dksX1_type_3 7 rfl rfl)
theorem dX1_type_80 : decode cX1_type 80 = .ok (.iload_n 1, 1) := dk_27 (dk_at dksX1_type_3 8 rfl rfl)
theorem dX1_type_81 : decode cX1_type 81 = .ok (.iconst 1, 1) := dk_4 (dk_at dksX1_type_3 9 rfl rfl)
theorem dX1_type_82 : decode cX1_type 82 = .ok (.invokevirtual 212, 3) := dk_182 0 212 (dk_at dksX1_type_3 10 rfl rfl)
theorem dX1_type_85 : decode cX1_type 85 = .ok (.ireturn, 1) := dk_172 (dk_at dksX1_type_3 13 rfl rfl)
theorem dX1_type_86 : decode cX1_type 86 = .ok (.new 1, 3) := dk_187 0 1 (dk_at dksX1_type_3 14 rfl rfl)
theorem dX1_type_89 : decode cX1_type 89 = .ok (.dup, 1) := dk_89 (dk_at dksX1_type_3 17 rfl rfl)
theorem dX1_type_90 : decode cX1_type 90 = .ok (.invokespecial 3, 3) := dk_183 0 3 (dk_at dksX1_type_3 18 rfl rfl)
theorem dX1_type_93 : decode cX1_type 93 = .ok (.athrow, 1) := dk_191 (dk_at dksX1_type_3 21 rfl rfl)
def dkwX1_cablesOf_2 : List UInt8 := [3, 96, 61, 167, 255, 219, 28, 172]
abbrev dktX1_cablesOf_2 : List UInt8 := dkwX1_cablesOf_2 ++ []
def dkwX1_cablesOf_1 : List UInt8 := [185, 0, 177, 1, 0, 192, 0, 180, 58, 4, 28, 25, 4, 180, 0, 182, 27, 160, 0, 7, 4, 167, 0, 4]
abbrev dktX1_cablesOf_1 : List UInt8 := dkwX1_cablesOf_1 ++ dktX1_cablesOf_2
def dkwX1_cablesOf_0 : List UInt8 := [3, 61, 42, 180, 0, 37, 180, 0, 67, 182, 0, 167, 78, 45, 185, 0, 171, 1, 0, 153, 0, 34, 45]
abbrev dktX1_cablesOf_0 : List UInt8 := dkwX1_cablesOf_0 ++ dktX1_cablesOf_1
theorem dksX1_cablesOf_0 : cX1_cablesOf.data.toList.drop 0 = dktX1_cablesOf_0 := by decide +kernel
theorem dksX1_cablesOf_1 : cX1_cablesOf.data.toList.drop 23 = dktX1_cablesOf_1 := dk_seg dksX1_cablesOf_0 23 rfl rfl
theorem dksX1_cablesOf_2 : cX1_cablesOf.data.toList.drop 47 = dktX1_cablesOf_2 := dk_seg dksX1_cablesOf_1 24 rfl rfl
theorem dX1_cablesOf_0 : decode cX1_cablesOf 0 = .ok (.iconst 0, 1) := dk_3 (dk_at dksX1_cablesOf_0 0 rfl rfl)
theorem dX1_cablesOf_1 : decode cX1_cablesOf 1 = .ok (.istore_n 2, 1) := dk_61 (dk_at dksX1_cablesOf_0 1 rfl rfl)
theorem dX1_cablesOf_2 : decode cX1_cablesOf 2 = .ok (.aload_n 0, 1) := dk_42 (dk_at dksX1_cablesOf_0 2 rfl rfl)
theorem dX1_cablesOf_3 : decode cX1_cablesOf 3 = .ok (.getfield 37, 3) := dk_180 0 37 (dk_at dksX1_cablesOf_0 3 rfl rfl)
theorem dX1_cablesOf_6 : decode cX1_cablesOf 6 = .ok (.getfield 67, 3) := dk_180 0 67 (dk_at dksX1_cablesOf_0 6 rfl rfl)
theorem dX1_cablesOf_9 : decode cX1_cablesOf 9 = .ok (.invokevirtual 167, 3) := dk_182 0 167 (dk_at dksX1_cablesOf_0 9 rfl rfl)
theorem dX1_cablesOf_12 : decode cX1_cablesOf 12 = .ok (.astore_n 3, 1) := dk_78 (dk_at dksX1_cablesOf_0 12 rfl rfl)
theorem dX1_cablesOf_13 : decode cX1_cablesOf 13 = .ok (.aload_n 3, 1) := dk_45 (dk_at dksX1_cablesOf_0 13 rfl rfl)
theorem dX1_cablesOf_14 : decode cX1_cablesOf 14 = .ok (.invokeinterface 171 1, 5) := by decide +kernel
theorem dX1_cablesOf_19 : decode cX1_cablesOf 19 = .ok (.ifCond .eq 34, 3) := dk_153 0 34 (dk_at dksX1_cablesOf_0 19 rfl rfl)
theorem dX1_cablesOf_22 : decode cX1_cablesOf 22 = .ok (.aload_n 3, 1) := dk_45 (dk_at dksX1_cablesOf_0 22 rfl rfl)
theorem dX1_cablesOf_23 : decode cX1_cablesOf 23 = .ok (.invokeinterface 177 1, 5) := by decide +kernel
theorem dX1_cablesOf_28 : decode cX1_cablesOf 28 = .ok (.checkcast 180, 3) := dk_192 0 180 (dk_at dksX1_cablesOf_1 5 rfl rfl)
theorem dX1_cablesOf_31 : decode cX1_cablesOf 31 = .ok (.astore 4, 2) := dk_58 4 (dk_at dksX1_cablesOf_1 8 rfl rfl)
theorem dX1_cablesOf_33 : decode cX1_cablesOf 33 = .ok (.iload_n 2, 1) := dk_28 (dk_at dksX1_cablesOf_1 10 rfl rfl)
theorem dX1_cablesOf_34 : decode cX1_cablesOf 34 = .ok (.aload 4, 2) := dk_25 4 (dk_at dksX1_cablesOf_1 11 rfl rfl)
theorem dX1_cablesOf_36 : decode cX1_cablesOf 36 = .ok (.getfield 182, 3) := dk_180 0 182 (dk_at dksX1_cablesOf_1 13 rfl rfl)
theorem dX1_cablesOf_39 : decode cX1_cablesOf 39 = .ok (.iload_n 1, 1) := dk_27 (dk_at dksX1_cablesOf_1 16 rfl rfl)
theorem dX1_cablesOf_40 : decode cX1_cablesOf 40 = .ok (.if_icmp .ne 7, 3) := dk_160 0 7 (dk_at dksX1_cablesOf_1 17 rfl rfl)
theorem dX1_cablesOf_43 : decode cX1_cablesOf 43 = .ok (.iconst 1, 1) := dk_4 (dk_at dksX1_cablesOf_1 20 rfl rfl)
theorem dX1_cablesOf_44 : decode cX1_cablesOf 44 = .ok (.goto 4, 3) := dk_167 0 4 (dk_at dksX1_cablesOf_1 21 rfl rfl)
theorem dX1_cablesOf_47 : decode cX1_cablesOf 47 = .ok (.iconst 0, 1) := dk_3 (dk_at dksX1_cablesOf_2 0 rfl rfl)
theorem dX1_cablesOf_48 : decode cX1_cablesOf 48 = .ok (.iadd, 1) := dk_96 (dk_at dksX1_cablesOf_2 1 rfl rfl)
theorem dX1_cablesOf_49 : decode cX1_cablesOf 49 = .ok (.istore_n 2, 1) := dk_61 (dk_at dksX1_cablesOf_2 2 rfl rfl)
theorem dX1_cablesOf_50 : decode cX1_cablesOf 50 = .ok (.goto (-37), 3) := dk_167 255 219 (dk_at dksX1_cablesOf_2 3 rfl rfl)
theorem dX1_cablesOf_53 : decode cX1_cablesOf 53 = .ok (.iload_n 2, 1) := dk_28 (dk_at dksX1_cablesOf_2 6 rfl rfl)
theorem dX1_cablesOf_54 : decode cX1_cablesOf 54 = .ok (.ireturn, 1) := dk_172 (dk_at dksX1_cablesOf_2 7 rfl rfl)
def dkwX1_drumsOf_2 : List UInt8 := [167, 0, 16, 28, 153, 0, 11, 25, 5, 180, 0, 188, 167, 0, 4, 4, 96, 62, 167, 255, 205, 29, 172]
abbrev dktX1_drumsOf_2 : List UInt8 := dkwX1_drumsOf_2 ++ []
def dkwX1_drumsOf_1 : List UInt8 := [25, 4, 185, 0, 177, 1, 0, 192, 0, 185, 58, 5, 29, 25, 5, 180, 0, 187, 27, 159, 0, 7, 3]
abbrev dktX1_drumsOf_1 : List UInt8 := dkwX1_drumsOf_1 ++ dktX1_drumsOf_2
def dkwX1_drumsOf_0 : List UInt8 := [3, 62, 42, 180, 0, 37, 180, 0, 149, 182, 0, 167, 58, 4, 25, 4, 185, 0, 171, 1, 0, 153, 0, 47]
abbrev dktX1_drumsOf_0 : List UInt8 := dkwX1_drumsOf_0 ++ dktX1_drumsOf_1
theorem dksX1_drumsOf_0 : cX1_drumsOf.data.toList.drop 0 = dktX1_drumsOf_0 := by decide +kernel
theorem dksX1_drumsOf_1 : cX1_drumsOf.data.toList.drop 24 = dktX1_drumsOf_1 := dk_seg dksX1_drumsOf_0 24 rfl rfl
theorem dksX1_drumsOf_2 : cX1_drumsOf.data.toList.drop 47 = dktX1_drumsOf_2 := dk_seg dksX1_drumsOf_1 23 rfl rfl
theorem dX1_drumsOf_0 : decode cX1_drumsOf 0 = .ok (.iconst 0, 1) := dk_3 (dk_at dksX1_drumsOf_0 0 rfl rfl)
theorem dX1_drumsOf_1 : decode cX1_drumsOf 1 = .ok (.istore_n 3, 1) := dk_62 (dk_at dksX1_drumsOf_0 1 rfl rfl)
theorem dX1_drumsOf_2 : decode cX1_drumsOf 2 = .ok (.aload_n 0, 1) := dk_42 (dk_at dksX1_drumsOf_0 2 rfl rfl)
theorem dX1_drumsOf_3 : decode cX1_drumsOf 3 = .ok (.getfield 37, 3) := dk_180 0 37 (dk_at dksX1_drumsOf_0 3 rfl rfl)
theorem dX1_drumsOf_6 : decode cX1_drumsOf 6 = .ok (.getfield 149, 3) := dk_180 0 149 (dk_at dksX1_drumsOf_0 6 rfl rfl)
theorem dX1_drumsOf_9 : decode cX1_drumsOf 9 = .ok (.invokevirtual 167, 3) := dk_182 0 167 (dk_at dksX1_drumsOf_0 9 rfl rfl)
theorem dX1_drumsOf_12 : decode cX1_drumsOf 12 = .ok (.astore 4, 2) := dk_58 4 (dk_at dksX1_drumsOf_0 12 rfl rfl)
theorem dX1_drumsOf_14 : decode cX1_drumsOf 14 = .ok (.aload 4, 2) := dk_25 4 (dk_at dksX1_drumsOf_0 14 rfl rfl)
theorem dX1_drumsOf_16 : decode cX1_drumsOf 16 = .ok (.invokeinterface 171 1, 5) := by decide +kernel
theorem dX1_drumsOf_21 : decode cX1_drumsOf 21 = .ok (.ifCond .eq 47, 3) := dk_153 0 47 (dk_at dksX1_drumsOf_0 21 rfl rfl)
theorem dX1_drumsOf_24 : decode cX1_drumsOf 24 = .ok (.aload 4, 2) := dk_25 4 (dk_at dksX1_drumsOf_1 0 rfl rfl)
theorem dX1_drumsOf_26 : decode cX1_drumsOf 26 = .ok (.invokeinterface 177 1, 5) := by decide +kernel
theorem dX1_drumsOf_31 : decode cX1_drumsOf 31 = .ok (.checkcast 185, 3) := dk_192 0 185 (dk_at dksX1_drumsOf_1 7 rfl rfl)
theorem dX1_drumsOf_34 : decode cX1_drumsOf 34 = .ok (.astore 5, 2) := dk_58 5 (dk_at dksX1_drumsOf_1 10 rfl rfl)
theorem dX1_drumsOf_36 : decode cX1_drumsOf 36 = .ok (.iload_n 3, 1) := dk_29 (dk_at dksX1_drumsOf_1 12 rfl rfl)
theorem dX1_drumsOf_37 : decode cX1_drumsOf 37 = .ok (.aload 5, 2) := dk_25 5 (dk_at dksX1_drumsOf_1 13 rfl rfl)
theorem dX1_drumsOf_39 : decode cX1_drumsOf 39 = .ok (.getfield 187, 3) := dk_180 0 187 (dk_at dksX1_drumsOf_1 15 rfl rfl)
theorem dX1_drumsOf_42 : decode cX1_drumsOf 42 = .ok (.iload_n 1, 1) := dk_27 (dk_at dksX1_drumsOf_1 18 rfl rfl)
theorem dX1_drumsOf_43 : decode cX1_drumsOf 43 = .ok (.if_icmp .eq 7, 3) := dk_159 0 7 (dk_at dksX1_drumsOf_1 19 rfl rfl)
theorem dX1_drumsOf_46 : decode cX1_drumsOf 46 = .ok (.iconst 0, 1) := dk_3 (dk_at dksX1_drumsOf_1 22 rfl rfl)
theorem dX1_drumsOf_47 : decode cX1_drumsOf 47 = .ok (.goto 16, 3) := dk_167 0 16 (dk_at dksX1_drumsOf_2 0 rfl rfl)
theorem dX1_drumsOf_50 : decode cX1_drumsOf 50 = .ok (.iload_n 2, 1) := dk_28 (dk_at dksX1_drumsOf_2 3 rfl rfl)
theorem dX1_drumsOf_51 : decode cX1_drumsOf 51 = .ok (.ifCond .eq 11, 3) := dk_153 0 11 (dk_at dksX1_drumsOf_2 4 rfl rfl)
theorem dX1_drumsOf_54 : decode cX1_drumsOf 54 = .ok (.aload 5, 2) := dk_25 5 (dk_at dksX1_drumsOf_2 7 rfl rfl)
theorem dX1_drumsOf_56 : decode cX1_drumsOf 56 = .ok (.getfield 188, 3) := dk_180 0 188 (dk_at dksX1_drumsOf_2 9 rfl rfl)
theorem dX1_drumsOf_59 : decode cX1_drumsOf 59 = .ok (.goto 4, 3) := dk_167 0 4 (dk_at dksX1_drumsOf_2 12 rfl rfl)
theorem dX1_drumsOf_62 : decode cX1_drumsOf 62 = .ok (.iconst 1, 1) := dk_4 (dk_at dksX1_drumsOf_2 15 rfl rfl)
theorem dX1_drumsOf_63 : decode cX1_drumsOf 63 = .ok (.iadd, 1) := dk_96 (dk_at dksX1_drumsOf_2 16 rfl rfl)
theorem dX1_drumsOf_64 : decode cX1_drumsOf 64 = .ok (.istore_n 3, 1) := dk_62 (dk_at dksX1_drumsOf_2 17 rfl rfl)
theorem dX1_drumsOf_65 : decode cX1_drumsOf 65 = .ok (.goto (-51), 3) := dk_167 255 205 (dk_at dksX1_drumsOf_2 18 rfl rfl)
theorem dX1_drumsOf_68 : decode cX1_drumsOf 68 = .ok (.iload_n 3, 1) := dk_29 (dk_at dksX1_drumsOf_2 21 rfl rfl)
theorem dX1_drumsOf_69 : decode cX1_drumsOf 69 = .ok (.ireturn, 1) := dk_172 (dk_at dksX1_drumsOf_2 22 rfl rfl)
def dkwX1_letter_1 : List UInt8 := [184, 0, 23, 184, 0, 140, 45, 180, 0, 202, 28, 182, 0, 216, 172]
abbrev dktX1_letter_1 : List UInt8 := dkwX1_letter_1 ++ []
def dkwX1_letter_0 : List UInt8 := [42, 180, 0, 37, 27, 182, 0, 191, 78, 28, 133, 9, 45, 180, 0, 202, 182, 0, 206, 4, 100, 133]
abbrev dktX1_letter_0 : List UInt8 := dkwX1_letter_0 ++ dktX1_letter_1
theorem dksX1_letter_0 : cX1_letter.data.toList.drop 0 = dktX1_letter_0 := by decide +kernel
theorem dksX1_letter_1 : cX1_letter.data.toList.drop 22 = dktX1_letter_1 := dk_seg dksX1_letter_0 22 rfl rfl
theorem dX1_letter_0 : decode cX1_letter 0 = .ok (.aload_n 0, 1) := dk_42 (dk_at dksX1_letter_0 0 rfl rfl)
theorem dX1_letter_1 : decode cX1_letter 1 = .ok (.getfield 37, 3) := dk_180 0 37 (dk_at dksX1_letter_0 1 rfl rfl)
theorem dX1_letter_4 : decode cX1_letter 4 = .ok (.iload_n 1, 1) := dk_27 (dk_at dksX1_letter_0 4 rfl rfl)
theorem dX1_letter_5 : decode cX1_letter 5 = .ok (.invokevirtual 191, 3) := dk_182 0 191 (dk_at dksX1_letter_0 5 rfl rfl)
theorem dX1_letter_8 : decode cX1_letter 8 = .ok (.astore_n 3, 1) := dk_78 (dk_at dksX1_letter_0 8 rfl rfl)
theorem dX1_letter_9 : decode cX1_letter 9 = .ok (.iload_n 2, 1) := dk_28 (dk_at dksX1_letter_0 9 rfl rfl)
theorem dX1_letter_10 : decode cX1_letter 10 = .ok (.i2l, 1) := dk_133 (dk_at dksX1_letter_0 10 rfl rfl)
theorem dX1_letter_11 : decode cX1_letter 11 = .ok (.lconst 0, 1) := dk_9 (dk_at dksX1_letter_0 11 rfl rfl)
theorem dX1_letter_12 : decode cX1_letter 12 = .ok (.aload_n 3, 1) := dk_45 (dk_at dksX1_letter_0 12 rfl rfl)
theorem dX1_letter_13 : decode cX1_letter 13 = .ok (.getfield 202, 3) := dk_180 0 202 (dk_at dksX1_letter_0 13 rfl rfl)
theorem dX1_letter_16 : decode cX1_letter 16 = .ok (.invokevirtual 206, 3) := dk_182 0 206 (dk_at dksX1_letter_0 16 rfl rfl)
theorem dX1_letter_19 : decode cX1_letter 19 = .ok (.iconst 1, 1) := dk_4 (dk_at dksX1_letter_0 19 rfl rfl)
theorem dX1_letter_20 : decode cX1_letter 20 = .ok (.isub, 1) := dk_100 (dk_at dksX1_letter_0 20 rfl rfl)
theorem dX1_letter_21 : decode cX1_letter 21 = .ok (.i2l, 1) := dk_133 (dk_at dksX1_letter_0 21 rfl rfl)
theorem dX1_letter_22 : decode cX1_letter 22 = .ok (.invokestatic 23, 3) := dk_184 0 23 (dk_at dksX1_letter_1 0 rfl rfl)
theorem dX1_letter_25 : decode cX1_letter 25 = .ok (.invokestatic 140, 3) := dk_184 0 140 (dk_at dksX1_letter_1 3 rfl rfl)
theorem dX1_letter_28 : decode cX1_letter 28 = .ok (.aload_n 3, 1) := dk_45 (dk_at dksX1_letter_1 6 rfl rfl)
theorem dX1_letter_29 : decode cX1_letter 29 = .ok (.getfield 202, 3) := dk_180 0 202 (dk_at dksX1_letter_1 7 rfl rfl)
theorem dX1_letter_32 : decode cX1_letter 32 = .ok (.iload_n 2, 1) := dk_28 (dk_at dksX1_letter_1 10 rfl rfl)
theorem dX1_letter_33 : decode cX1_letter 33 = .ok (.invokevirtual 216, 3) := dk_182 0 216 (dk_at dksX1_letter_1 11 rfl rfl)
theorem dX1_letter_36 : decode cX1_letter 36 = .ok (.ireturn, 1) := dk_172 (dk_at dksX1_letter_1 14 rfl rfl)
def dkwX1_tray_4 : List UInt8 := [45, 182, 0, 255, 172, 45, 182, 1, 2, 172, 187, 0, 1, 89, 183, 0, 3, 191]
abbrev dktX1_tray_4 : List UInt8 := dkwX1_tray_4 ++ []
def dkwX1_tray_3 : List UInt8 := [190, 172, 45, 182, 0, 246, 172, 45, 42, 180, 0, 37, 180, 0, 90, 182, 0, 249, 172, 45, 182, 0, 252, 172]
abbrev dktX1_tray_3 : List UInt8 := dkwX1_tray_3 ++ dktX1_tray_4
def dkwX1_tray_2 : List UInt8 := [45, 180, 0, 232, 172, 45, 180, 0, 237, 172, 45, 180, 0, 240, 172, 45, 180, 0, 242, 172, 45, 180, 0, 243]
abbrev dktX1_tray_2 : List UInt8 := dkwX1_tray_2 ++ dktX1_tray_3
def dkwX1_tray_1 : List UInt8 := [170, 0, 0, 0, 0, 112, 0, 0, 0, 0, 0, 0, 0, 9, 0, 0, 0, 54, 0, 0, 0, 59, 0, 0, 0, 64, 0, 0, 0, 69, 0, 0, 0, 74, 0, 0, 0, 80, 0, 0, 0, 85, 0, 0, 0, 97, 0, 0, 0, 102, 0, 0, 0, 107]
abbrev dktX1_tray_1 : List UInt8 := dkwX1_tray_1 ++ dktX1_tray_2
def dkwX1_tray_0 : List UInt8 := [42, 180, 0, 37, 27, 182, 0, 228, 78, 28]
abbrev dktX1_tray_0 : List UInt8 := dkwX1_tray_0 ++ dktX1_tray_1
theorem dksX1_tray_0 : cX1_tray.data.toList.drop 0 = dktX1_tray_0 := by decide +kernel
theorem dksX1_tray_1 : cX1_tray.data.toList.drop 10 = dktX1_tray_1 := dk_seg dksX1_tray_0 10 rfl rfl
theorem dksX1_tray_2 : cX1_tray.data.toList.drop 64 = dktX1_tray_2 := dk_seg dksX1_tray_1 54 rfl rfl
theorem dksX1_tray_3 : cX1_tray.data.toList.drop 88 = dktX1_tray_3 := dk_seg dksX1_tray_2 24 rfl rfl
theorem dksX1_tray_4 : cX1_tray.data.toList.drop 112 = dktX1_tray_4 := dk_seg dksX1_tray_3 24 rfl rfl
theorem dX1_tray_0 : decode cX1_tray 0 = .ok (.aload_n 0, 1) := dk_42 (dk_at dksX1_tray_0 0 rfl rfl)
theorem dX1_tray_1 : decode cX1_tray 1 = .ok (.getfield 37, 3) := dk_180 0 37 (dk_at dksX1_tray_0 1 rfl rfl)
theorem dX1_tray_4 : decode cX1_tray 4 = .ok (.iload_n 1, 1) := dk_27 (dk_at dksX1_tray_0 4 rfl rfl)
theorem dX1_tray_5 : decode cX1_tray 5 = .ok (.invokevirtual 228, 3) := dk_182 0 228 (dk_at dksX1_tray_0 5 rfl rfl)
theorem dX1_tray_8 : decode cX1_tray 8 = .ok (.astore_n 3, 1) := dk_78 (dk_at dksX1_tray_0 8 rfl rfl)
theorem dX1_tray_9 : decode cX1_tray 9 = .ok (.iload_n 2, 1) := dk_28 (dk_at dksX1_tray_0 9 rfl rfl)
theorem dX1_tray_10 : decode cX1_tray 10 = .ok (.tableswitch 112 0 9 #[54, 59, 64, 69, 74, 80, 85, 97, 102, 107], 54) := by decide +kernel
theorem dX1_tray_64 : decode cX1_tray 64 = .ok (.aload_n 3, 1) := dk_45 (dk_at dksX1_tray_2 0 rfl rfl)
theorem dX1_tray_65 : decode cX1_tray 65 = .ok (.getfield 232, 3) := dk_180 0 232 (dk_at dksX1_tray_2 1 rfl rfl)
theorem dX1_tray_68 : decode cX1_tray 68 = .ok (.ireturn, 1) := dk_172 (dk_at dksX1_tray_2 4 rfl rfl)
theorem dX1_tray_69 : decode cX1_tray 69 = .ok (.aload_n 3, 1) := dk_45 (dk_at dksX1_tray_2 5 rfl rfl)
theorem dX1_tray_70 : decode cX1_tray 70 = .ok (.getfield 237, 3) := dk_180 0 237 (dk_at dksX1_tray_2 6 rfl rfl)
theorem dX1_tray_73 : decode cX1_tray 73 = .ok (.ireturn, 1) := dk_172 (dk_at dksX1_tray_2 9 rfl rfl)
theorem dX1_tray_74 : decode cX1_tray 74 = .ok (.aload_n 3, 1) := dk_45 (dk_at dksX1_tray_2 10 rfl rfl)
theorem dX1_tray_75 : decode cX1_tray 75 = .ok (.getfield 240, 3) := dk_180 0 240 (dk_at dksX1_tray_2 11 rfl rfl)
theorem dX1_tray_78 : decode cX1_tray 78 = .ok (.ireturn, 1) := dk_172 (dk_at dksX1_tray_2 14 rfl rfl)
theorem dX1_tray_79 : decode cX1_tray 79 = .ok (.aload_n 3, 1) := dk_45 (dk_at dksX1_tray_2 15 rfl rfl)
theorem dX1_tray_80 : decode cX1_tray 80 = .ok (.getfield 242, 3) := dk_180 0 242 (dk_at dksX1_tray_2 16 rfl rfl)
theorem dX1_tray_83 : decode cX1_tray 83 = .ok (.ireturn, 1) := dk_172 (dk_at dksX1_tray_2 19 rfl rfl)
theorem dX1_tray_84 : decode cX1_tray 84 = .ok (.aload_n 3, 1) := dk_45 (dk_at dksX1_tray_2 20 rfl rfl)
theorem dX1_tray_85 : decode cX1_tray 85 = .ok (.getfield 243, 3) := dk_180 0 243 (dk_at dksX1_tray_2 21 rfl rfl)
theorem dX1_tray_88 : decode cX1_tray 88 = .ok (.arraylength, 1) := dk_190 (dk_at dksX1_tray_3 0 rfl rfl)
theorem dX1_tray_89 : decode cX1_tray 89 = .ok (.ireturn, 1) := dk_172 (dk_at dksX1_tray_3 1 rfl rfl)
theorem dX1_tray_90 : decode cX1_tray 90 = .ok (.aload_n 3, 1) := dk_45 (dk_at dksX1_tray_3 2 rfl rfl)
theorem dX1_tray_91 : decode cX1_tray 91 = .ok (.invokevirtual 246, 3) := dk_182 0 246 (dk_at dksX1_tray_3 3 rfl rfl)
theorem dX1_tray_94 : decode cX1_tray 94 = .ok (.ireturn, 1) := dk_172 (dk_at dksX1_tray_3 6 rfl rfl)
theorem dX1_tray_95 : decode cX1_tray 95 = .ok (.aload_n 3, 1) := dk_45 (dk_at dksX1_tray_3 7 rfl rfl)
theorem dX1_tray_96 : decode cX1_tray 96 = .ok (.aload_n 0, 1) := dk_42 (dk_at dksX1_tray_3 8 rfl rfl)
theorem dX1_tray_97 : decode cX1_tray 97 = .ok (.getfield 37, 3) := dk_180 0 37 (dk_at dksX1_tray_3 9 rfl rfl)
theorem dX1_tray_100 : decode cX1_tray 100 = .ok (.getfield 90, 3) := dk_180 0 90 (dk_at dksX1_tray_3 12 rfl rfl)
theorem dX1_tray_103 : decode cX1_tray 103 = .ok (.invokevirtual 249, 3) := dk_182 0 249 (dk_at dksX1_tray_3 15 rfl rfl)
theorem dX1_tray_106 : decode cX1_tray 106 = .ok (.ireturn, 1) := dk_172 (dk_at dksX1_tray_3 18 rfl rfl)
theorem dX1_tray_107 : decode cX1_tray 107 = .ok (.aload_n 3, 1) := dk_45 (dk_at dksX1_tray_3 19 rfl rfl)
theorem dX1_tray_108 : decode cX1_tray 108 = .ok (.invokevirtual 252, 3) := dk_182 0 252 (dk_at dksX1_tray_3 20 rfl rfl)
theorem dX1_tray_111 : decode cX1_tray 111 = .ok (.ireturn, 1) := dk_172 (dk_at dksX1_tray_3 23 rfl rfl)
theorem dX1_tray_112 : decode cX1_tray 112 = .ok (.aload_n 3, 1) := dk_45 (dk_at dksX1_tray_4 0 rfl rfl)
theorem dX1_tray_113 : decode cX1_tray 113 = .ok (.invokevirtual 255, 3) := dk_182 0 255 (dk_at dksX1_tray_4 1 rfl rfl)
theorem dX1_tray_116 : decode cX1_tray 116 = .ok (.ireturn, 1) := dk_172 (dk_at dksX1_tray_4 4 rfl rfl)
theorem dX1_tray_117 : decode cX1_tray 117 = .ok (.aload_n 3, 1) := dk_45 (dk_at dksX1_tray_4 5 rfl rfl)
theorem dX1_tray_118 : decode cX1_tray 118 = .ok (.invokevirtual 258, 3) := dk_182 1 2 (dk_at dksX1_tray_4 6 rfl rfl)
theorem dX1_tray_121 : decode cX1_tray 121 = .ok (.ireturn, 1) := dk_172 (dk_at dksX1_tray_4 9 rfl rfl)
theorem dX1_tray_122 : decode cX1_tray 122 = .ok (.new 1, 3) := dk_187 0 1 (dk_at dksX1_tray_4 10 rfl rfl)
theorem dX1_tray_125 : decode cX1_tray 125 = .ok (.dup, 1) := dk_89 (dk_at dksX1_tray_4 13 rfl rfl)
theorem dX1_tray_126 : decode cX1_tray 126 = .ok (.invokespecial 3, 3) := dk_183 0 3 (dk_at dksX1_tray_4 14 rfl rfl)
theorem dX1_tray_129 : decode cX1_tray 129 = .ok (.athrow, 1) := dk_191 (dk_at dksX1_tray_4 17 rfl rfl)
def dkwX1_compartment_2 : List UInt8 := [180, 0, 243, 28, 46, 172]
abbrev dktX1_compartment_2 : List UInt8 := dkwX1_compartment_2 ++ []
def dkwX1_compartment_1 : List UInt8 := [184, 0, 23, 184, 0, 140, 29, 153, 0, 13, 25, 4, 180, 1, 4, 28, 46, 167, 0, 10, 25, 4]
abbrev dktX1_compartment_1 : List UInt8 := dkwX1_compartment_1 ++ dktX1_compartment_2
def dkwX1_compartment_0 : List UInt8 := [42, 180, 0, 37, 27, 182, 0, 228, 58, 4, 28, 133, 9, 25, 4, 180, 0, 243, 190, 4, 100, 133]
abbrev dktX1_compartment_0 : List UInt8 := dkwX1_compartment_0 ++ dktX1_compartment_1
theorem dksX1_compartment_0 : cX1_compartment.data.toList.drop 0 = dktX1_compartment_0 := by decide +kernel
theorem dksX1_compartment_1 : cX1_compartment.data.toList.drop 22 = dktX1_compartment_1 := dk_seg dksX1_compartment_0 22 rfl rfl
theorem dksX1_compartment_2 : cX1_compartment.data.toList.drop 44 = dktX1_compartment_2 := dk_seg dksX1_compartment_1 22 rfl rfl
theorem dX1_compartment_0 : decode cX1_compartment 0 = .ok (.aload_n 0, 1) := dk_42 (dk_at dksX1_compartment_0 0 rfl rfl)
theorem dX1_compartment_1 : decode cX1_compartment 1 = .ok (.getfield 37, 3) := dk_180 0 37 (dk_at dksX1_compartment_0 1 rfl rfl)
theorem dX1_compartment_4 : decode cX1_compartment 4 = .ok (.iload_n 1, 1) := dk_27 (dk_at dksX1_compartment_0 4 rfl rfl)
theorem dX1_compartment_5 : decode cX1_compartment 5 = .ok (.invokevirtual 228, 3) := dk_182 0 228 (dk_at dksX1_compartment_0 5 rfl rfl)
theorem dX1_compartment_8 : decode cX1_compartment 8 = .ok (.astore 4, 2) := dk_58 4 (dk_at dksX1_compartment_0 8 rfl rfl)
theorem dX1_compartment_10 : decode cX1_compartment 10 = .ok (.iload_n 2, 1) := dk_28 (dk_at dksX1_compartment_0 10 rfl rfl)
theorem dX1_compartment_11 : decode cX1_compartment 11 = .ok (.i2l, 1) := dk_133 (dk_at dksX1_compartment_0 11 rfl rfl)
theorem dX1_compartment_12 : decode cX1_compartment 12 = .ok (.lconst 0, 1) := dk_9 (dk_at dksX1_compartment_0 12 rfl rfl)
theorem dX1_compartment_13 : decode cX1_compartment 13 = .ok (.aload 4, 2) := dk_25 4 (dk_at dksX1_compartment_0 13 rfl rfl)
theorem dX1_compartment_15 : decode cX1_compartment 15 = .ok (.getfield 243, 3) := dk_180 0 243 (dk_at dksX1_compartment_0 15 rfl rfl)
theorem dX1_compartment_18 : decode cX1_compartment 18 = .ok (.arraylength, 1) := dk_190 (dk_at dksX1_compartment_0 18 rfl rfl)
theorem dX1_compartment_19 : decode cX1_compartment 19 = .ok (.iconst 1, 1) := dk_4 (dk_at dksX1_compartment_0 19 rfl rfl)
theorem dX1_compartment_20 : decode cX1_compartment 20 = .ok (.isub, 1) := dk_100 (dk_at dksX1_compartment_0 20 rfl rfl)
theorem dX1_compartment_21 : decode cX1_compartment 21 = .ok (.i2l, 1) := dk_133 (dk_at dksX1_compartment_0 21 rfl rfl)
theorem dX1_compartment_22 : decode cX1_compartment 22 = .ok (.invokestatic 23, 3) := dk_184 0 23 (dk_at dksX1_compartment_1 0 rfl rfl)
theorem dX1_compartment_25 : decode cX1_compartment 25 = .ok (.invokestatic 140, 3) := dk_184 0 140 (dk_at dksX1_compartment_1 3 rfl rfl)
theorem dX1_compartment_28 : decode cX1_compartment 28 = .ok (.iload_n 3, 1) := dk_29 (dk_at dksX1_compartment_1 6 rfl rfl)
theorem dX1_compartment_29 : decode cX1_compartment 29 = .ok (.ifCond .eq 13, 3) := dk_153 0 13 (dk_at dksX1_compartment_1 7 rfl rfl)
theorem dX1_compartment_32 : decode cX1_compartment 32 = .ok (.aload 4, 2) := dk_25 4 (dk_at dksX1_compartment_1 10 rfl rfl)
theorem dX1_compartment_34 : decode cX1_compartment 34 = .ok (.getfield 260, 3) := dk_180 1 4 (dk_at dksX1_compartment_1 12 rfl rfl)
theorem dX1_compartment_37 : decode cX1_compartment 37 = .ok (.iload_n 2, 1) := dk_28 (dk_at dksX1_compartment_1 15 rfl rfl)
theorem dX1_compartment_38 : decode cX1_compartment 38 = .ok (.iaload, 1) := dk_46 (dk_at dksX1_compartment_1 16 rfl rfl)
theorem dX1_compartment_39 : decode cX1_compartment 39 = .ok (.goto 10, 3) := dk_167 0 10 (dk_at dksX1_compartment_1 17 rfl rfl)
theorem dX1_compartment_42 : decode cX1_compartment 42 = .ok (.aload 4, 2) := dk_25 4 (dk_at dksX1_compartment_1 20 rfl rfl)
theorem dX1_compartment_44 : decode cX1_compartment 44 = .ok (.getfield 243, 3) := dk_180 0 243 (dk_at dksX1_compartment_2 0 rfl rfl)
theorem dX1_compartment_47 : decode cX1_compartment 47 = .ok (.iload_n 2, 1) := dk_28 (dk_at dksX1_compartment_2 3 rfl rfl)
theorem dX1_compartment_48 : decode cX1_compartment 48 = .ok (.iaload, 1) := dk_46 (dk_at dksX1_compartment_2 4 rfl rfl)
theorem dX1_compartment_49 : decode cX1_compartment 49 = .ok (.ireturn, 1) := dk_172 (dk_at dksX1_compartment_2 5 rfl rfl)
def dkwX1_fits_1 : List UInt8 := [182, 1, 6, 172]
abbrev dktX1_fits_1 : List UInt8 := dkwX1_fits_1 ++ []
def dkwX1_fits_0 : List UInt8 := [42, 180, 0, 37, 27, 182, 0, 228, 78, 42, 180, 0, 37, 27, 42, 180, 0, 37, 28, 182, 0, 191]
abbrev dktX1_fits_0 : List UInt8 := dkwX1_fits_0 ++ dktX1_fits_1
theorem dksX1_fits_0 : cX1_fits.data.toList.drop 0 = dktX1_fits_0 := by decide +kernel
theorem dksX1_fits_1 : cX1_fits.data.toList.drop 22 = dktX1_fits_1 := dk_seg dksX1_fits_0 22 rfl rfl
theorem dX1_fits_0 : decode cX1_fits 0 = .ok (.aload_n 0, 1) := dk_42 (dk_at dksX1_fits_0 0 rfl rfl)
theorem dX1_fits_1 : decode cX1_fits 1 = .ok (.getfield 37, 3) := dk_180 0 37 (dk_at dksX1_fits_0 1 rfl rfl)
theorem dX1_fits_4 : decode cX1_fits 4 = .ok (.iload_n 1, 1) := dk_27 (dk_at dksX1_fits_0 4 rfl rfl)
theorem dX1_fits_5 : decode cX1_fits 5 = .ok (.invokevirtual 228, 3) := dk_182 0 228 (dk_at dksX1_fits_0 5 rfl rfl)
theorem dX1_fits_8 : decode cX1_fits 8 = .ok (.astore_n 3, 1) := dk_78 (dk_at dksX1_fits_0 8 rfl rfl)
theorem dX1_fits_9 : decode cX1_fits 9 = .ok (.aload_n 0, 1) := dk_42 (dk_at dksX1_fits_0 9 rfl rfl)
theorem dX1_fits_10 : decode cX1_fits 10 = .ok (.getfield 37, 3) := dk_180 0 37 (dk_at dksX1_fits_0 10 rfl rfl)
theorem dX1_fits_13 : decode cX1_fits 13 = .ok (.iload_n 1, 1) := dk_27 (dk_at dksX1_fits_0 13 rfl rfl)
theorem dX1_fits_14 : decode cX1_fits 14 = .ok (.aload_n 0, 1) := dk_42 (dk_at dksX1_fits_0 14 rfl rfl)
theorem dX1_fits_15 : decode cX1_fits 15 = .ok (.getfield 37, 3) := dk_180 0 37 (dk_at dksX1_fits_0 15 rfl rfl)
theorem dX1_fits_18 : decode cX1_fits 18 = .ok (.iload_n 2, 1) := dk_28 (dk_at dksX1_fits_0 18 rfl rfl)
theorem dX1_fits_19 : decode cX1_fits 19 = .ok (.invokevirtual 191, 3) := dk_182 0 191 (dk_at dksX1_fits_0 19 rfl rfl)
theorem dX1_fits_22 : decode cX1_fits 22 = .ok (.invokevirtual 262, 3) := dk_182 1 6 (dk_at dksX1_fits_1 0 rfl rfl)
theorem dX1_fits_25 : decode cX1_fits 25 = .ok (.ireturn, 1) := dk_172 (dk_at dksX1_fits_1 3 rfl rfl)
def dkwX1_cable_4 : List UInt8 := [180, 1, 29, 172, 187, 0, 1, 89, 183, 0, 3, 191]
abbrev dktX1_cable_4 : List UInt8 := dkwX1_cable_4 ++ []
def dkwX1_cable_3 : List UInt8 := [182, 0, 71, 172, 42, 180, 0, 37, 45, 182, 1, 22, 172, 42, 180, 0, 37, 45, 182, 1, 26, 172, 45]
abbrev dktX1_cable_3 : List UInt8 := dkwX1_cable_3 ++ dktX1_cable_4
def dkwX1_cable_2 : List UInt8 := [45, 180, 0, 182, 172, 45, 180, 1, 14, 172, 45, 180, 1, 15, 172, 45, 180, 1, 16, 172, 45, 180, 1, 19]
abbrev dktX1_cable_2 : List UInt8 := dkwX1_cable_2 ++ dktX1_cable_3
def dkwX1_cable_1 : List UInt8 := [170, 0, 0, 0, 0, 97, 0, 0, 0, 0, 0, 0, 0, 7, 0, 0, 0, 46, 0, 0, 0, 51, 0, 0, 0, 56, 0, 0, 0, 61, 0, 0, 0, 66, 0, 0, 0, 74, 0, 0, 0, 83, 0, 0, 0, 92]
abbrev dktX1_cable_1 : List UInt8 := dkwX1_cable_1 ++ dktX1_cable_2
def dkwX1_cable_0 : List UInt8 := [42, 180, 0, 37, 27, 182, 1, 10, 78, 28]
abbrev dktX1_cable_0 : List UInt8 := dkwX1_cable_0 ++ dktX1_cable_1
theorem dksX1_cable_0 : cX1_cable.data.toList.drop 0 = dktX1_cable_0 := by decide +kernel
theorem dksX1_cable_1 : cX1_cable.data.toList.drop 10 = dktX1_cable_1 := dk_seg dksX1_cable_0 10 rfl rfl
theorem dksX1_cable_2 : cX1_cable.data.toList.drop 56 = dktX1_cable_2 := dk_seg dksX1_cable_1 46 rfl rfl
theorem dksX1_cable_3 : cX1_cable.data.toList.drop 80 = dktX1_cable_3 := dk_seg dksX1_cable_2 24 rfl rfl
theorem dksX1_cable_4 : cX1_cable.data.toList.drop 103 = dktX1_cable_4 := dk_seg dksX1_cable_3 23 rfl rfl
theorem dX1_cable_0 : decode cX1_cable 0 = .ok (.aload_n 0, 1) := dk_42 (dk_at dksX1_cable_0 0 rfl rfl)
theorem dX1_cable_1 : decode cX1_cable 1 = .ok (.getfield 37, 3) := dk_180 0 37 (dk_at dksX1_cable_0 1 rfl rfl)
theorem dX1_cable_4 : decode cX1_cable 4 = .ok (.iload_n 1, 1) := dk_27 (dk_at dksX1_cable_0 4 rfl rfl)
theorem dX1_cable_5 : decode cX1_cable 5 = .ok (.invokevirtual 266, 3) := dk_182 1 10 (dk_at dksX1_cable_0 5 rfl rfl)
theorem dX1_cable_8 : decode cX1_cable 8 = .ok (.astore_n 3, 1) := dk_78 (dk_at dksX1_cable_0 8 rfl rfl)
theorem dX1_cable_9 : decode cX1_cable 9 = .ok (.iload_n 2, 1) := dk_28 (dk_at dksX1_cable_0 9 rfl rfl)
theorem dX1_cable_10 : decode cX1_cable 10 = .ok (.tableswitch 97 0 7 #[46, 51, 56, 61, 66, 74, 83, 92], 46) := by decide +kernel
theorem dX1_cable_56 : decode cX1_cable 56 = .ok (.aload_n 3, 1) := dk_45 (dk_at dksX1_cable_2 0 rfl rfl)
theorem dX1_cable_57 : decode cX1_cable 57 = .ok (.getfield 182, 3) := dk_180 0 182 (dk_at dksX1_cable_2 1 rfl rfl)
theorem dX1_cable_60 : decode cX1_cable 60 = .ok (.ireturn, 1) := dk_172 (dk_at dksX1_cable_2 4 rfl rfl)
theorem dX1_cable_61 : decode cX1_cable 61 = .ok (.aload_n 3, 1) := dk_45 (dk_at dksX1_cable_2 5 rfl rfl)
theorem dX1_cable_62 : decode cX1_cable 62 = .ok (.getfield 270, 3) := dk_180 1 14 (dk_at dksX1_cable_2 6 rfl rfl)
theorem dX1_cable_65 : decode cX1_cable 65 = .ok (.ireturn, 1) := dk_172 (dk_at dksX1_cable_2 9 rfl rfl)
theorem dX1_cable_66 : decode cX1_cable 66 = .ok (.aload_n 3, 1) := dk_45 (dk_at dksX1_cable_2 10 rfl rfl)
theorem dX1_cable_67 : decode cX1_cable 67 = .ok (.getfield 271, 3) := dk_180 1 15 (dk_at dksX1_cable_2 11 rfl rfl)
theorem dX1_cable_70 : decode cX1_cable 70 = .ok (.ireturn, 1) := dk_172 (dk_at dksX1_cable_2 14 rfl rfl)
theorem dX1_cable_71 : decode cX1_cable 71 = .ok (.aload_n 3, 1) := dk_45 (dk_at dksX1_cable_2 15 rfl rfl)
theorem dX1_cable_72 : decode cX1_cable 72 = .ok (.getfield 272, 3) := dk_180 1 16 (dk_at dksX1_cable_2 16 rfl rfl)
theorem dX1_cable_75 : decode cX1_cable 75 = .ok (.ireturn, 1) := dk_172 (dk_at dksX1_cable_2 19 rfl rfl)
theorem dX1_cable_76 : decode cX1_cable 76 = .ok (.aload_n 3, 1) := dk_45 (dk_at dksX1_cable_2 20 rfl rfl)
theorem dX1_cable_77 : decode cX1_cable 77 = .ok (.getfield 275, 3) := dk_180 1 19 (dk_at dksX1_cable_2 21 rfl rfl)
theorem dX1_cable_80 : decode cX1_cable 80 = .ok (.invokevirtual 71, 3) := dk_182 0 71 (dk_at dksX1_cable_3 0 rfl rfl)
theorem dX1_cable_83 : decode cX1_cable 83 = .ok (.ireturn, 1) := dk_172 (dk_at dksX1_cable_3 3 rfl rfl)
theorem dX1_cable_84 : decode cX1_cable 84 = .ok (.aload_n 0, 1) := dk_42 (dk_at dksX1_cable_3 4 rfl rfl)
theorem dX1_cable_85 : decode cX1_cable 85 = .ok (.getfield 37, 3) := dk_180 0 37 (dk_at dksX1_cable_3 5 rfl rfl)
theorem dX1_cable_88 : decode cX1_cable 88 = .ok (.aload_n 3, 1) := dk_45 (dk_at dksX1_cable_3 8 rfl rfl)
theorem dX1_cable_89 : decode cX1_cable 89 = .ok (.invokevirtual 278, 3) := dk_182 1 22 (dk_at dksX1_cable_3 9 rfl rfl)
theorem dX1_cable_92 : decode cX1_cable 92 = .ok (.ireturn, 1) := dk_172 (dk_at dksX1_cable_3 12 rfl rfl)
theorem dX1_cable_93 : decode cX1_cable 93 = .ok (.aload_n 0, 1) := dk_42 (dk_at dksX1_cable_3 13 rfl rfl)
theorem dX1_cable_94 : decode cX1_cable 94 = .ok (.getfield 37, 3) := dk_180 0 37 (dk_at dksX1_cable_3 14 rfl rfl)
theorem dX1_cable_97 : decode cX1_cable 97 = .ok (.aload_n 3, 1) := dk_45 (dk_at dksX1_cable_3 17 rfl rfl)
theorem dX1_cable_98 : decode cX1_cable 98 = .ok (.invokevirtual 282, 3) := dk_182 1 26 (dk_at dksX1_cable_3 18 rfl rfl)
theorem dX1_cable_101 : decode cX1_cable 101 = .ok (.ireturn, 1) := dk_172 (dk_at dksX1_cable_3 21 rfl rfl)
theorem dX1_cable_102 : decode cX1_cable 102 = .ok (.aload_n 3, 1) := dk_45 (dk_at dksX1_cable_3 22 rfl rfl)
theorem dX1_cable_103 : decode cX1_cable 103 = .ok (.getfield 285, 3) := dk_180 1 29 (dk_at dksX1_cable_4 0 rfl rfl)
theorem dX1_cable_106 : decode cX1_cable 106 = .ok (.ireturn, 1) := dk_172 (dk_at dksX1_cable_4 3 rfl rfl)
theorem dX1_cable_107 : decode cX1_cable 107 = .ok (.new 1, 3) := dk_187 0 1 (dk_at dksX1_cable_4 4 rfl rfl)
theorem dX1_cable_110 : decode cX1_cable 110 = .ok (.dup, 1) := dk_89 (dk_at dksX1_cable_4 7 rfl rfl)
theorem dX1_cable_111 : decode cX1_cable 111 = .ok (.invokespecial 3, 3) := dk_183 0 3 (dk_at dksX1_cable_4 8 rfl rfl)
theorem dX1_cable_114 : decode cX1_cable 114 = .ok (.athrow, 1) := dk_191 (dk_at dksX1_cable_4 11 rfl rfl)
def dkwX1_step_2 : List UInt8 := [25, 5, 180, 1, 38, 167, 0, 8, 25, 5, 180, 1, 41, 172]
abbrev dktX1_step_2 : List UInt8 := dkwX1_step_2 ++ []
def dkwX1_step_1 : List UInt8 := [184, 0, 23, 184, 0, 140, 25, 4, 180, 1, 19, 28, 182, 1, 32, 192, 1, 36, 58, 5, 29, 153, 0, 11]
abbrev dktX1_step_1 : List UInt8 := dkwX1_step_1 ++ dktX1_step_2
def dkwX1_step_0 : List UInt8 := [42, 180, 0, 37, 27, 182, 1, 10, 58, 4, 28, 133, 9, 25, 4, 180, 1, 19, 182, 0, 71, 4, 100, 133]
abbrev dktX1_step_0 : List UInt8 := dkwX1_step_0 ++ dktX1_step_1
theorem dksX1_step_0 : cX1_step.data.toList.drop 0 = dktX1_step_0 := by decide +kernel
theorem dksX1_step_1 : cX1_step.data.toList.drop 24 = dktX1_step_1 := dk_seg dksX1_step_0 24 rfl rfl
theorem dksX1_step_2 : cX1_step.data.toList.drop 48 = dktX1_step_2 := dk_seg dksX1_step_1 24 rfl rfl
theorem dX1_step_0 : decode cX1_step 0 = .ok (.aload_n 0, 1) := dk_42 (dk_at dksX1_step_0 0 rfl rfl)
theorem dX1_step_1 : decode cX1_step 1 = .ok (.getfield 37, 3) := dk_180 0 37 (dk_at dksX1_step_0 1 rfl rfl)
theorem dX1_step_4 : decode cX1_step 4 = .ok (.iload_n 1, 1) := dk_27 (dk_at dksX1_step_0 4 rfl rfl)
theorem dX1_step_5 : decode cX1_step 5 = .ok (.invokevirtual 266, 3) := dk_182 1 10 (dk_at dksX1_step_0 5 rfl rfl)
theorem dX1_step_8 : decode cX1_step 8 = .ok (.astore 4, 2) := dk_58 4 (dk_at dksX1_step_0 8 rfl rfl)
theorem dX1_step_10 : decode cX1_step 10 = .ok (.iload_n 2, 1) := dk_28 (dk_at dksX1_step_0 10 rfl rfl)
theorem dX1_step_11 : decode cX1_step 11 = .ok (.i2l, 1) := dk_133 (dk_at dksX1_step_0 11 rfl rfl)
theorem dX1_step_12 : decode cX1_step 12 = .ok (.lconst 0, 1) := dk_9 (dk_at dksX1_step_0 12 rfl rfl)
theorem dX1_step_13 : decode cX1_step 13 = .ok (.aload 4, 2) := dk_25 4 (dk_at dksX1_step_0 13 rfl rfl)
theorem dX1_step_15 : decode cX1_step 15 = .ok (.getfield 275, 3) := dk_180 1 19 (dk_at dksX1_step_0 15 rfl rfl)
theorem dX1_step_18 : decode cX1_step 18 = .ok (.invokevirtual 71, 3) := dk_182 0 71 (dk_at dksX1_step_0 18 rfl rfl)
theorem dX1_step_21 : decode cX1_step 21 = .ok (.iconst 1, 1) := dk_4 (dk_at dksX1_step_0 21 rfl rfl)
theorem dX1_step_22 : decode cX1_step 22 = .ok (.isub, 1) := dk_100 (dk_at dksX1_step_0 22 rfl rfl)
theorem dX1_step_23 : decode cX1_step 23 = .ok (.i2l, 1) := dk_133 (dk_at dksX1_step_0 23 rfl rfl)
theorem dX1_step_24 : decode cX1_step 24 = .ok (.invokestatic 23, 3) := dk_184 0 23 (dk_at dksX1_step_1 0 rfl rfl)
theorem dX1_step_27 : decode cX1_step 27 = .ok (.invokestatic 140, 3) := dk_184 0 140 (dk_at dksX1_step_1 3 rfl rfl)
theorem dX1_step_30 : decode cX1_step 30 = .ok (.aload 4, 2) := dk_25 4 (dk_at dksX1_step_1 6 rfl rfl)
theorem dX1_step_32 : decode cX1_step 32 = .ok (.getfield 275, 3) := dk_180 1 19 (dk_at dksX1_step_1 8 rfl rfl)
theorem dX1_step_35 : decode cX1_step 35 = .ok (.iload_n 2, 1) := dk_28 (dk_at dksX1_step_1 11 rfl rfl)
theorem dX1_step_36 : decode cX1_step 36 = .ok (.invokevirtual 288, 3) := dk_182 1 32 (dk_at dksX1_step_1 12 rfl rfl)
theorem dX1_step_39 : decode cX1_step 39 = .ok (.checkcast 292, 3) := dk_192 1 36 (dk_at dksX1_step_1 15 rfl rfl)
theorem dX1_step_42 : decode cX1_step 42 = .ok (.astore 5, 2) := dk_58 5 (dk_at dksX1_step_1 18 rfl rfl)
theorem dX1_step_44 : decode cX1_step 44 = .ok (.iload_n 3, 1) := dk_29 (dk_at dksX1_step_1 20 rfl rfl)
theorem dX1_step_45 : decode cX1_step 45 = .ok (.ifCond .eq 11, 3) := dk_153 0 11 (dk_at dksX1_step_1 21 rfl rfl)
theorem dX1_step_48 : decode cX1_step 48 = .ok (.aload 5, 2) := dk_25 5 (dk_at dksX1_step_2 0 rfl rfl)
theorem dX1_step_50 : decode cX1_step 50 = .ok (.getfield 294, 3) := dk_180 1 38 (dk_at dksX1_step_2 2 rfl rfl)
theorem dX1_step_53 : decode cX1_step 53 = .ok (.goto 8, 3) := dk_167 0 8 (dk_at dksX1_step_2 5 rfl rfl)
theorem dX1_step_56 : decode cX1_step 56 = .ok (.aload 5, 2) := dk_25 5 (dk_at dksX1_step_2 8 rfl rfl)
theorem dX1_step_58 : decode cX1_step 58 = .ok (.getfield 297, 3) := dk_180 1 41 (dk_at dksX1_step_2 10 rfl rfl)
theorem dX1_step_61 : decode cX1_step 61 = .ok (.ireturn, 1) := dk_172 (dk_at dksX1_step_2 13 rfl rfl)
def dkwX1_shortest_1 : List UInt8 := [29, 182, 1, 47, 172]
abbrev dktX1_shortest_1 : List UInt8 := dkwX1_shortest_1 ++ []
def dkwX1_shortest_0 : List UInt8 := [42, 180, 0, 37, 27, 182, 0, 191, 58, 4, 28, 184, 1, 43, 29, 184, 1, 43, 42, 180, 0, 37, 27, 28]
abbrev dktX1_shortest_0 : List UInt8 := dkwX1_shortest_0 ++ dktX1_shortest_1
theorem dksX1_shortest_0 : cX1_shortest.data.toList.drop 0 = dktX1_shortest_0 := by decide +kernel
theorem dksX1_shortest_1 : cX1_shortest.data.toList.drop 24 = dktX1_shortest_1 := dk_seg dksX1_shortest_0 24 rfl rfl
theorem dX1_shortest_0 : decode cX1_shortest 0 = .ok (.aload_n 0, 1) := dk_42 (dk_at dksX1_shortest_0 0 rfl rfl)
theorem dX1_shortest_1 : decode cX1_shortest 1 = .ok (.getfield 37, 3) := dk_180 0 37 (dk_at dksX1_shortest_0 1 rfl rfl)
theorem dX1_shortest_4 : decode cX1_shortest 4 = .ok (.iload_n 1, 1) := dk_27 (dk_at dksX1_shortest_0 4 rfl rfl)
theorem dX1_shortest_5 : decode cX1_shortest 5 = .ok (.invokevirtual 191, 3) := dk_182 0 191 (dk_at dksX1_shortest_0 5 rfl rfl)
theorem dX1_shortest_8 : decode cX1_shortest 8 = .ok (.astore 4, 2) := dk_58 4 (dk_at dksX1_shortest_0 8 rfl rfl)
theorem dX1_shortest_10 : decode cX1_shortest 10 = .ok (.iload_n 2, 1) := dk_28 (dk_at dksX1_shortest_0 10 rfl rfl)
theorem dX1_shortest_11 : decode cX1_shortest 11 = .ok (.invokestatic 299, 3) := dk_184 1 43 (dk_at dksX1_shortest_0 11 rfl rfl)
theorem dX1_shortest_14 : decode cX1_shortest 14 = .ok (.iload_n 3, 1) := dk_29 (dk_at dksX1_shortest_0 14 rfl rfl)
theorem dX1_shortest_15 : decode cX1_shortest 15 = .ok (.invokestatic 299, 3) := dk_184 1 43 (dk_at dksX1_shortest_0 15 rfl rfl)
theorem dX1_shortest_18 : decode cX1_shortest 18 = .ok (.aload_n 0, 1) := dk_42 (dk_at dksX1_shortest_0 18 rfl rfl)
theorem dX1_shortest_19 : decode cX1_shortest 19 = .ok (.getfield 37, 3) := dk_180 0 37 (dk_at dksX1_shortest_0 19 rfl rfl)
theorem dX1_shortest_22 : decode cX1_shortest 22 = .ok (.iload_n 1, 1) := dk_27 (dk_at dksX1_shortest_0 22 rfl rfl)
theorem dX1_shortest_23 : decode cX1_shortest 23 = .ok (.iload_n 2, 1) := dk_28 (dk_at dksX1_shortest_0 23 rfl rfl)
theorem dX1_shortest_24 : decode cX1_shortest 24 = .ok (.iload_n 3, 1) := dk_29 (dk_at dksX1_shortest_1 0 rfl rfl)
theorem dX1_shortest_25 : decode cX1_shortest 25 = .ok (.invokevirtual 303, 3) := dk_182 1 47 (dk_at dksX1_shortest_1 1 rfl rfl)
theorem dX1_shortest_28 : decode cX1_shortest 28 = .ok (.ireturn, 1) := dk_172 (dk_at dksX1_shortest_1 4 rfl rfl)
def dkwX1_drum_3 : List UInt8 := [187, 0, 1, 89, 183, 0, 3, 191]
abbrev dktX1_drum_3 : List UInt8 := dkwX1_drum_3 ++ []
def dkwX1_drum_2 : List UInt8 := [45, 180, 0, 187, 172, 45, 180, 0, 188, 172, 42, 180, 0, 37, 27, 182, 1, 53, 172, 45, 180, 1, 56, 172]
abbrev dktX1_drum_2 : List UInt8 := dkwX1_drum_2 ++ dktX1_drum_3
def dkwX1_drum_1 : List UInt8 := [170, 0, 0, 0, 0, 54, 0, 0, 0, 0, 0, 0, 0, 3, 0, 0, 0, 30, 0, 0, 0, 35, 0, 0, 0, 40, 0, 0, 0, 49]
abbrev dktX1_drum_1 : List UInt8 := dkwX1_drum_1 ++ dktX1_drum_2
def dkwX1_drum_0 : List UInt8 := [42, 180, 0, 37, 27, 182, 1, 50, 78, 28]
abbrev dktX1_drum_0 : List UInt8 := dkwX1_drum_0 ++ dktX1_drum_1
theorem dksX1_drum_0 : cX1_drum.data.toList.drop 0 = dktX1_drum_0 := by decide +kernel
theorem dksX1_drum_1 : cX1_drum.data.toList.drop 10 = dktX1_drum_1 := dk_seg dksX1_drum_0 10 rfl rfl
theorem dksX1_drum_2 : cX1_drum.data.toList.drop 40 = dktX1_drum_2 := dk_seg dksX1_drum_1 30 rfl rfl
theorem dksX1_drum_3 : cX1_drum.data.toList.drop 64 = dktX1_drum_3 := dk_seg dksX1_drum_2 24 rfl rfl
theorem dX1_drum_0 : decode cX1_drum 0 = .ok (.aload_n 0, 1) := dk_42 (dk_at dksX1_drum_0 0 rfl rfl)
theorem dX1_drum_1 : decode cX1_drum 1 = .ok (.getfield 37, 3) := dk_180 0 37 (dk_at dksX1_drum_0 1 rfl rfl)
theorem dX1_drum_4 : decode cX1_drum 4 = .ok (.iload_n 1, 1) := dk_27 (dk_at dksX1_drum_0 4 rfl rfl)
theorem dX1_drum_5 : decode cX1_drum 5 = .ok (.invokevirtual 306, 3) := dk_182 1 50 (dk_at dksX1_drum_0 5 rfl rfl)
theorem dX1_drum_8 : decode cX1_drum 8 = .ok (.astore_n 3, 1) := dk_78 (dk_at dksX1_drum_0 8 rfl rfl)
theorem dX1_drum_9 : decode cX1_drum 9 = .ok (.iload_n 2, 1) := dk_28 (dk_at dksX1_drum_0 9 rfl rfl)
theorem dX1_drum_10 : decode cX1_drum 10 = .ok (.tableswitch 54 0 3 #[30, 35, 40, 49], 30) := by decide +kernel
theorem dX1_drum_40 : decode cX1_drum 40 = .ok (.aload_n 3, 1) := dk_45 (dk_at dksX1_drum_2 0 rfl rfl)
theorem dX1_drum_41 : decode cX1_drum 41 = .ok (.getfield 187, 3) := dk_180 0 187 (dk_at dksX1_drum_2 1 rfl rfl)
theorem dX1_drum_44 : decode cX1_drum 44 = .ok (.ireturn, 1) := dk_172 (dk_at dksX1_drum_2 4 rfl rfl)
theorem dX1_drum_45 : decode cX1_drum 45 = .ok (.aload_n 3, 1) := dk_45 (dk_at dksX1_drum_2 5 rfl rfl)
theorem dX1_drum_46 : decode cX1_drum 46 = .ok (.getfield 188, 3) := dk_180 0 188 (dk_at dksX1_drum_2 6 rfl rfl)
theorem dX1_drum_49 : decode cX1_drum 49 = .ok (.ireturn, 1) := dk_172 (dk_at dksX1_drum_2 9 rfl rfl)
theorem dX1_drum_50 : decode cX1_drum 50 = .ok (.aload_n 0, 1) := dk_42 (dk_at dksX1_drum_2 10 rfl rfl)
theorem dX1_drum_51 : decode cX1_drum 51 = .ok (.getfield 37, 3) := dk_180 0 37 (dk_at dksX1_drum_2 11 rfl rfl)
theorem dX1_drum_54 : decode cX1_drum 54 = .ok (.iload_n 1, 1) := dk_27 (dk_at dksX1_drum_2 14 rfl rfl)
theorem dX1_drum_55 : decode cX1_drum 55 = .ok (.invokevirtual 309, 3) := dk_182 1 53 (dk_at dksX1_drum_2 15 rfl rfl)
theorem dX1_drum_58 : decode cX1_drum 58 = .ok (.ireturn, 1) := dk_172 (dk_at dksX1_drum_2 18 rfl rfl)
theorem dX1_drum_59 : decode cX1_drum 59 = .ok (.aload_n 3, 1) := dk_45 (dk_at dksX1_drum_2 19 rfl rfl)
theorem dX1_drum_60 : decode cX1_drum 60 = .ok (.getfield 312, 3) := dk_180 1 56 (dk_at dksX1_drum_2 20 rfl rfl)
theorem dX1_drum_63 : decode cX1_drum 63 = .ok (.ireturn, 1) := dk_172 (dk_at dksX1_drum_2 23 rfl rfl)
theorem dX1_drum_64 : decode cX1_drum 64 = .ok (.new 1, 3) := dk_187 0 1 (dk_at dksX1_drum_3 0 rfl rfl)
theorem dX1_drum_67 : decode cX1_drum 67 = .ok (.dup, 1) := dk_89 (dk_at dksX1_drum_3 3 rfl rfl)
theorem dX1_drum_68 : decode cX1_drum 68 = .ok (.invokespecial 3, 3) := dk_183 0 3 (dk_at dksX1_drum_3 4 rfl rfl)
theorem dX1_drum_71 : decode cX1_drum 71 = .ok (.athrow, 1) := dk_191 (dk_at dksX1_drum_3 7 rfl rfl)
def dkwX1_fewestDrums_0 : List UInt8 := [42, 180, 0, 37, 27, 182, 0, 191, 77, 42, 180, 0, 37, 27, 182, 1, 59, 172]
abbrev dktX1_fewestDrums_0 : List UInt8 := dkwX1_fewestDrums_0 ++ []
theorem dksX1_fewestDrums_0 : cX1_fewestDrums.data.toList.drop 0 = dktX1_fewestDrums_0 := by decide +kernel
theorem dX1_fewestDrums_0 : decode cX1_fewestDrums 0 = .ok (.aload_n 0, 1) := dk_42 (dk_at dksX1_fewestDrums_0 0 rfl rfl)
theorem dX1_fewestDrums_1 : decode cX1_fewestDrums 1 = .ok (.getfield 37, 3) := dk_180 0 37 (dk_at dksX1_fewestDrums_0 1 rfl rfl)
theorem dX1_fewestDrums_4 : decode cX1_fewestDrums 4 = .ok (.iload_n 1, 1) := dk_27 (dk_at dksX1_fewestDrums_0 4 rfl rfl)
theorem dX1_fewestDrums_5 : decode cX1_fewestDrums 5 = .ok (.invokevirtual 191, 3) := dk_182 0 191 (dk_at dksX1_fewestDrums_0 5 rfl rfl)
theorem dX1_fewestDrums_8 : decode cX1_fewestDrums 8 = .ok (.astore_n 2, 1) := dk_77 (dk_at dksX1_fewestDrums_0 8 rfl rfl)
theorem dX1_fewestDrums_9 : decode cX1_fewestDrums 9 = .ok (.aload_n 0, 1) := dk_42 (dk_at dksX1_fewestDrums_0 9 rfl rfl)
theorem dX1_fewestDrums_10 : decode cX1_fewestDrums 10 = .ok (.getfield 37, 3) := dk_180 0 37 (dk_at dksX1_fewestDrums_0 10 rfl rfl)
theorem dX1_fewestDrums_13 : decode cX1_fewestDrums 13 = .ok (.iload_n 1, 1) := dk_27 (dk_at dksX1_fewestDrums_0 13 rfl rfl)
theorem dX1_fewestDrums_14 : decode cX1_fewestDrums 14 = .ok (.invokevirtual 315, 3) := dk_182 1 59 (dk_at dksX1_fewestDrums_0 14 rfl rfl)
theorem dX1_fewestDrums_17 : decode cX1_fewestDrums 17 = .ok (.ireturn, 1) := dk_172 (dk_at dksX1_fewestDrums_0 17 rfl rfl)
def dkwX1_cablesIn_3 : List UInt8 := [172]
abbrev dktX1_cablesIn_3 : List UInt8 := dkwX1_cablesIn_3 ++ []
def dkwX1_cablesIn_2 : List UInt8 := [182, 1, 62, 2, 160, 0, 7, 3, 167, 0, 7, 4, 21, 4, 120, 128, 62, 132, 4, 1, 167, 255, 204, 29]
abbrev dktX1_cablesIn_2 : List UInt8 := dkwX1_cablesIn_2 ++ dktX1_cablesIn_3
def dkwX1_cablesIn_1 : List UInt8 := [182, 0, 71, 162, 0, 43, 29, 42, 180, 0, 37, 180, 0, 67, 21, 4, 182, 1, 32, 192, 0, 180, 27]
abbrev dktX1_cablesIn_1 : List UInt8 := dkwX1_cablesIn_1 ++ dktX1_cablesIn_2
def dkwX1_cablesIn_0 : List UInt8 := [42, 180, 0, 37, 27, 182, 0, 228, 77, 3, 62, 3, 54, 4, 21, 4, 42, 180, 0, 37, 180, 0, 67]
abbrev dktX1_cablesIn_0 : List UInt8 := dkwX1_cablesIn_0 ++ dktX1_cablesIn_1
theorem dksX1_cablesIn_0 : cX1_cablesIn.data.toList.drop 0 = dktX1_cablesIn_0 := by decide +kernel
theorem dksX1_cablesIn_1 : cX1_cablesIn.data.toList.drop 23 = dktX1_cablesIn_1 := dk_seg dksX1_cablesIn_0 23 rfl rfl
theorem dksX1_cablesIn_2 : cX1_cablesIn.data.toList.drop 46 = dktX1_cablesIn_2 := dk_seg dksX1_cablesIn_1 23 rfl rfl
theorem dksX1_cablesIn_3 : cX1_cablesIn.data.toList.drop 70 = dktX1_cablesIn_3 := dk_seg dksX1_cablesIn_2 24 rfl rfl
theorem dX1_cablesIn_0 : decode cX1_cablesIn 0 = .ok (.aload_n 0, 1) := dk_42 (dk_at dksX1_cablesIn_0 0 rfl rfl)
theorem dX1_cablesIn_1 : decode cX1_cablesIn 1 = .ok (.getfield 37, 3) := dk_180 0 37 (dk_at dksX1_cablesIn_0 1 rfl rfl)
theorem dX1_cablesIn_4 : decode cX1_cablesIn 4 = .ok (.iload_n 1, 1) := dk_27 (dk_at dksX1_cablesIn_0 4 rfl rfl)
theorem dX1_cablesIn_5 : decode cX1_cablesIn 5 = .ok (.invokevirtual 228, 3) := dk_182 0 228 (dk_at dksX1_cablesIn_0 5 rfl rfl)
theorem dX1_cablesIn_8 : decode cX1_cablesIn 8 = .ok (.astore_n 2, 1) := dk_77 (dk_at dksX1_cablesIn_0 8 rfl rfl)
theorem dX1_cablesIn_9 : decode cX1_cablesIn 9 = .ok (.iconst 0, 1) := dk_3 (dk_at dksX1_cablesIn_0 9 rfl rfl)
theorem dX1_cablesIn_10 : decode cX1_cablesIn 10 = .ok (.istore_n 3, 1) := dk_62 (dk_at dksX1_cablesIn_0 10 rfl rfl)
theorem dX1_cablesIn_11 : decode cX1_cablesIn 11 = .ok (.iconst 0, 1) := dk_3 (dk_at dksX1_cablesIn_0 11 rfl rfl)
theorem dX1_cablesIn_12 : decode cX1_cablesIn 12 = .ok (.istore 4, 2) := dk_54 4 (dk_at dksX1_cablesIn_0 12 rfl rfl)
theorem dX1_cablesIn_14 : decode cX1_cablesIn 14 = .ok (.iload 4, 2) := dk_21 4 (dk_at dksX1_cablesIn_0 14 rfl rfl)
theorem dX1_cablesIn_16 : decode cX1_cablesIn 16 = .ok (.aload_n 0, 1) := dk_42 (dk_at dksX1_cablesIn_0 16 rfl rfl)
theorem dX1_cablesIn_17 : decode cX1_cablesIn 17 = .ok (.getfield 37, 3) := dk_180 0 37 (dk_at dksX1_cablesIn_0 17 rfl rfl)
theorem dX1_cablesIn_20 : decode cX1_cablesIn 20 = .ok (.getfield 67, 3) := dk_180 0 67 (dk_at dksX1_cablesIn_0 20 rfl rfl)
theorem dX1_cablesIn_23 : decode cX1_cablesIn 23 = .ok (.invokevirtual 71, 3) := dk_182 0 71 (dk_at dksX1_cablesIn_1 0 rfl rfl)
theorem dX1_cablesIn_26 : decode cX1_cablesIn 26 = .ok (.if_icmp .ge 43, 3) := dk_162 0 43 (dk_at dksX1_cablesIn_1 3 rfl rfl)
theorem dX1_cablesIn_29 : decode cX1_cablesIn 29 = .ok (.iload_n 3, 1) := dk_29 (dk_at dksX1_cablesIn_1 6 rfl rfl)
theorem dX1_cablesIn_30 : decode cX1_cablesIn 30 = .ok (.aload_n 0, 1) := dk_42 (dk_at dksX1_cablesIn_1 7 rfl rfl)
theorem dX1_cablesIn_31 : decode cX1_cablesIn 31 = .ok (.getfield 37, 3) := dk_180 0 37 (dk_at dksX1_cablesIn_1 8 rfl rfl)
theorem dX1_cablesIn_34 : decode cX1_cablesIn 34 = .ok (.getfield 67, 3) := dk_180 0 67 (dk_at dksX1_cablesIn_1 11 rfl rfl)
theorem dX1_cablesIn_37 : decode cX1_cablesIn 37 = .ok (.iload 4, 2) := dk_21 4 (dk_at dksX1_cablesIn_1 14 rfl rfl)
theorem dX1_cablesIn_39 : decode cX1_cablesIn 39 = .ok (.invokevirtual 288, 3) := dk_182 1 32 (dk_at dksX1_cablesIn_1 16 rfl rfl)
theorem dX1_cablesIn_42 : decode cX1_cablesIn 42 = .ok (.checkcast 180, 3) := dk_192 0 180 (dk_at dksX1_cablesIn_1 19 rfl rfl)
theorem dX1_cablesIn_45 : decode cX1_cablesIn 45 = .ok (.iload_n 1, 1) := dk_27 (dk_at dksX1_cablesIn_1 22 rfl rfl)
theorem dX1_cablesIn_46 : decode cX1_cablesIn 46 = .ok (.invokevirtual 318, 3) := dk_182 1 62 (dk_at dksX1_cablesIn_2 0 rfl rfl)
theorem dX1_cablesIn_49 : decode cX1_cablesIn 49 = .ok (.iconst (-1), 1) := dk_2 (dk_at dksX1_cablesIn_2 3 rfl rfl)
theorem dX1_cablesIn_50 : decode cX1_cablesIn 50 = .ok (.if_icmp .ne 7, 3) := dk_160 0 7 (dk_at dksX1_cablesIn_2 4 rfl rfl)
theorem dX1_cablesIn_53 : decode cX1_cablesIn 53 = .ok (.iconst 0, 1) := dk_3 (dk_at dksX1_cablesIn_2 7 rfl rfl)
theorem dX1_cablesIn_54 : decode cX1_cablesIn 54 = .ok (.goto 7, 3) := dk_167 0 7 (dk_at dksX1_cablesIn_2 8 rfl rfl)
theorem dX1_cablesIn_57 : decode cX1_cablesIn 57 = .ok (.iconst 1, 1) := dk_4 (dk_at dksX1_cablesIn_2 11 rfl rfl)
theorem dX1_cablesIn_58 : decode cX1_cablesIn 58 = .ok (.iload 4, 2) := dk_21 4 (dk_at dksX1_cablesIn_2 12 rfl rfl)
theorem dX1_cablesIn_60 : decode cX1_cablesIn 60 = .ok (.ishl, 1) := dk_120 (dk_at dksX1_cablesIn_2 14 rfl rfl)
theorem dX1_cablesIn_61 : decode cX1_cablesIn 61 = .ok (.ior, 1) := dk_128 (dk_at dksX1_cablesIn_2 15 rfl rfl)
theorem dX1_cablesIn_62 : decode cX1_cablesIn 62 = .ok (.istore_n 3, 1) := dk_62 (dk_at dksX1_cablesIn_2 16 rfl rfl)
theorem dX1_cablesIn_63 : decode cX1_cablesIn 63 = .ok (.iinc 4 1, 3) := dk_132 4 1 (dk_at dksX1_cablesIn_2 17 rfl rfl)
theorem dX1_cablesIn_66 : decode cX1_cablesIn 66 = .ok (.goto (-52), 3) := dk_167 255 204 (dk_at dksX1_cablesIn_2 20 rfl rfl)
theorem dX1_cablesIn_69 : decode cX1_cablesIn 69 = .ok (.iload_n 3, 1) := dk_29 (dk_at dksX1_cablesIn_2 23 rfl rfl)
theorem dX1_cablesIn_70 : decode cX1_cablesIn 70 = .ok (.ireturn, 1) := dk_172 (dk_at dksX1_cablesIn_3 0 rfl rfl)
def dkwX1_fullest_4 : List UInt8 := [167, 0, 4, 27, 60, 132, 2, 1, 167, 255, 179, 27, 172]
abbrev dktX1_fullest_4 : List UInt8 := dkwX1_fullest_4 ++ []
def dkwX1_fullest_3 : List UInt8 := [182, 0, 252, 25, 4, 180, 0, 242, 104, 25, 4, 182, 0, 252, 45, 180, 0, 242, 104, 164, 0, 7, 28]
abbrev dktX1_fullest_3 : List UInt8 := dkwX1_fullest_3 ++ dktX1_fullest_4
def dkwX1_fullest_2 : List UInt8 := [182, 1, 32, 192, 0, 233, 78, 42, 180, 0, 37, 180, 0, 146, 27, 182, 1, 32, 192, 0, 233, 58, 4, 45]
abbrev dktX1_fullest_2 : List UInt8 := dkwX1_fullest_2 ++ dktX1_fullest_3
def dkwX1_fullest_1 : List UInt8 := [61, 28, 42, 180, 0, 37, 180, 0, 146, 182, 0, 71, 162, 0, 69, 42, 180, 0, 37, 180, 0, 146, 28]
abbrev dktX1_fullest_1 : List UInt8 := dkwX1_fullest_1 ++ dktX1_fullest_2
def dkwX1_fullest_0 : List UInt8 := [42, 180, 0, 37, 180, 0, 146, 182, 1, 65, 154, 0, 7, 4, 167, 0, 4, 3, 184, 0, 140, 3, 60, 4]
abbrev dktX1_fullest_0 : List UInt8 := dkwX1_fullest_0 ++ dktX1_fullest_1
theorem dksX1_fullest_0 : cX1_fullest.data.toList.drop 0 = dktX1_fullest_0 := by decide +kernel
theorem dksX1_fullest_1 : cX1_fullest.data.toList.drop 24 = dktX1_fullest_1 := dk_seg dksX1_fullest_0 24 rfl rfl
theorem dksX1_fullest_2 : cX1_fullest.data.toList.drop 47 = dktX1_fullest_2 := dk_seg dksX1_fullest_1 23 rfl rfl
theorem dksX1_fullest_3 : cX1_fullest.data.toList.drop 71 = dktX1_fullest_3 := dk_seg dksX1_fullest_2 24 rfl rfl
theorem dksX1_fullest_4 : cX1_fullest.data.toList.drop 94 = dktX1_fullest_4 := dk_seg dksX1_fullest_3 23 rfl rfl
theorem dX1_fullest_0 : decode cX1_fullest 0 = .ok (.aload_n 0, 1) := dk_42 (dk_at dksX1_fullest_0 0 rfl rfl)
theorem dX1_fullest_1 : decode cX1_fullest 1 = .ok (.getfield 37, 3) := dk_180 0 37 (dk_at dksX1_fullest_0 1 rfl rfl)
theorem dX1_fullest_4 : decode cX1_fullest 4 = .ok (.getfield 146, 3) := dk_180 0 146 (dk_at dksX1_fullest_0 4 rfl rfl)
theorem dX1_fullest_7 : decode cX1_fullest 7 = .ok (.invokevirtual 321, 3) := dk_182 1 65 (dk_at dksX1_fullest_0 7 rfl rfl)
theorem dX1_fullest_10 : decode cX1_fullest 10 = .ok (.ifCond .ne 7, 3) := dk_154 0 7 (dk_at dksX1_fullest_0 10 rfl rfl)
theorem dX1_fullest_13 : decode cX1_fullest 13 = .ok (.iconst 1, 1) := dk_4 (dk_at dksX1_fullest_0 13 rfl rfl)
theorem dX1_fullest_14 : decode cX1_fullest 14 = .ok (.goto 4, 3) := dk_167 0 4 (dk_at dksX1_fullest_0 14 rfl rfl)
theorem dX1_fullest_17 : decode cX1_fullest 17 = .ok (.iconst 0, 1) := dk_3 (dk_at dksX1_fullest_0 17 rfl rfl)
theorem dX1_fullest_18 : decode cX1_fullest 18 = .ok (.invokestatic 140, 3) := dk_184 0 140 (dk_at dksX1_fullest_0 18 rfl rfl)
theorem dX1_fullest_21 : decode cX1_fullest 21 = .ok (.iconst 0, 1) := dk_3 (dk_at dksX1_fullest_0 21 rfl rfl)
theorem dX1_fullest_22 : decode cX1_fullest 22 = .ok (.istore_n 1, 1) := dk_60 (dk_at dksX1_fullest_0 22 rfl rfl)
theorem dX1_fullest_23 : decode cX1_fullest 23 = .ok (.iconst 1, 1) := dk_4 (dk_at dksX1_fullest_0 23 rfl rfl)
theorem dX1_fullest_24 : decode cX1_fullest 24 = .ok (.istore_n 2, 1) := dk_61 (dk_at dksX1_fullest_1 0 rfl rfl)
theorem dX1_fullest_25 : decode cX1_fullest 25 = .ok (.iload_n 2, 1) := dk_28 (dk_at dksX1_fullest_1 1 rfl rfl)
theorem dX1_fullest_26 : decode cX1_fullest 26 = .ok (.aload_n 0, 1) := dk_42 (dk_at dksX1_fullest_1 2 rfl rfl)
theorem dX1_fullest_27 : decode cX1_fullest 27 = .ok (.getfield 37, 3) := dk_180 0 37 (dk_at dksX1_fullest_1 3 rfl rfl)
theorem dX1_fullest_30 : decode cX1_fullest 30 = .ok (.getfield 146, 3) := dk_180 0 146 (dk_at dksX1_fullest_1 6 rfl rfl)
theorem dX1_fullest_33 : decode cX1_fullest 33 = .ok (.invokevirtual 71, 3) := dk_182 0 71 (dk_at dksX1_fullest_1 9 rfl rfl)
theorem dX1_fullest_36 : decode cX1_fullest 36 = .ok (.if_icmp .ge 69, 3) := dk_162 0 69 (dk_at dksX1_fullest_1 12 rfl rfl)
theorem dX1_fullest_39 : decode cX1_fullest 39 = .ok (.aload_n 0, 1) := dk_42 (dk_at dksX1_fullest_1 15 rfl rfl)
theorem dX1_fullest_40 : decode cX1_fullest 40 = .ok (.getfield 37, 3) := dk_180 0 37 (dk_at dksX1_fullest_1 16 rfl rfl)
theorem dX1_fullest_43 : decode cX1_fullest 43 = .ok (.getfield 146, 3) := dk_180 0 146 (dk_at dksX1_fullest_1 19 rfl rfl)
theorem dX1_fullest_46 : decode cX1_fullest 46 = .ok (.iload_n 2, 1) := dk_28 (dk_at dksX1_fullest_1 22 rfl rfl)
theorem dX1_fullest_47 : decode cX1_fullest 47 = .ok (.invokevirtual 288, 3) := dk_182 1 32 (dk_at dksX1_fullest_2 0 rfl rfl)
theorem dX1_fullest_50 : decode cX1_fullest 50 = .ok (.checkcast 233, 3) := dk_192 0 233 (dk_at dksX1_fullest_2 3 rfl rfl)
theorem dX1_fullest_53 : decode cX1_fullest 53 = .ok (.astore_n 3, 1) := dk_78 (dk_at dksX1_fullest_2 6 rfl rfl)
theorem dX1_fullest_54 : decode cX1_fullest 54 = .ok (.aload_n 0, 1) := dk_42 (dk_at dksX1_fullest_2 7 rfl rfl)
theorem dX1_fullest_55 : decode cX1_fullest 55 = .ok (.getfield 37, 3) := dk_180 0 37 (dk_at dksX1_fullest_2 8 rfl rfl)
theorem dX1_fullest_58 : decode cX1_fullest 58 = .ok (.getfield 146, 3) := dk_180 0 146 (dk_at dksX1_fullest_2 11 rfl rfl)
theorem dX1_fullest_61 : decode cX1_fullest 61 = .ok (.iload_n 1, 1) := dk_27 (dk_at dksX1_fullest_2 14 rfl rfl)
theorem dX1_fullest_62 : decode cX1_fullest 62 = .ok (.invokevirtual 288, 3) := dk_182 1 32 (dk_at dksX1_fullest_2 15 rfl rfl)
theorem dX1_fullest_65 : decode cX1_fullest 65 = .ok (.checkcast 233, 3) := dk_192 0 233 (dk_at dksX1_fullest_2 18 rfl rfl)
theorem dX1_fullest_68 : decode cX1_fullest 68 = .ok (.astore 4, 2) := dk_58 4 (dk_at dksX1_fullest_2 21 rfl rfl)
theorem dX1_fullest_70 : decode cX1_fullest 70 = .ok (.aload_n 3, 1) := dk_45 (dk_at dksX1_fullest_2 23 rfl rfl)
theorem dX1_fullest_71 : decode cX1_fullest 71 = .ok (.invokevirtual 252, 3) := dk_182 0 252 (dk_at dksX1_fullest_3 0 rfl rfl)
theorem dX1_fullest_74 : decode cX1_fullest 74 = .ok (.aload 4, 2) := dk_25 4 (dk_at dksX1_fullest_3 3 rfl rfl)
theorem dX1_fullest_76 : decode cX1_fullest 76 = .ok (.getfield 242, 3) := dk_180 0 242 (dk_at dksX1_fullest_3 5 rfl rfl)
theorem dX1_fullest_79 : decode cX1_fullest 79 = .ok (.imul, 1) := dk_104 (dk_at dksX1_fullest_3 8 rfl rfl)
theorem dX1_fullest_80 : decode cX1_fullest 80 = .ok (.aload 4, 2) := dk_25 4 (dk_at dksX1_fullest_3 9 rfl rfl)
theorem dX1_fullest_82 : decode cX1_fullest 82 = .ok (.invokevirtual 252, 3) := dk_182 0 252 (dk_at dksX1_fullest_3 11 rfl rfl)
theorem dX1_fullest_85 : decode cX1_fullest 85 = .ok (.aload_n 3, 1) := dk_45 (dk_at dksX1_fullest_3 14 rfl rfl)
theorem dX1_fullest_86 : decode cX1_fullest 86 = .ok (.getfield 242, 3) := dk_180 0 242 (dk_at dksX1_fullest_3 15 rfl rfl)
theorem dX1_fullest_89 : decode cX1_fullest 89 = .ok (.imul, 1) := dk_104 (dk_at dksX1_fullest_3 18 rfl rfl)
theorem dX1_fullest_90 : decode cX1_fullest 90 = .ok (.if_icmp .le 7, 3) := dk_164 0 7 (dk_at dksX1_fullest_3 19 rfl rfl)
theorem dX1_fullest_93 : decode cX1_fullest 93 = .ok (.iload_n 2, 1) := dk_28 (dk_at dksX1_fullest_3 22 rfl rfl)
theorem dX1_fullest_94 : decode cX1_fullest 94 = .ok (.goto 4, 3) := dk_167 0 4 (dk_at dksX1_fullest_4 0 rfl rfl)
theorem dX1_fullest_97 : decode cX1_fullest 97 = .ok (.iload_n 1, 1) := dk_27 (dk_at dksX1_fullest_4 3 rfl rfl)
theorem dX1_fullest_98 : decode cX1_fullest 98 = .ok (.istore_n 1, 1) := dk_60 (dk_at dksX1_fullest_4 4 rfl rfl)
theorem dX1_fullest_99 : decode cX1_fullest 99 = .ok (.iinc 2 1, 3) := dk_132 2 1 (dk_at dksX1_fullest_4 5 rfl rfl)
theorem dX1_fullest_102 : decode cX1_fullest 102 = .ok (.goto (-77), 3) := dk_167 255 179 (dk_at dksX1_fullest_4 8 rfl rfl)
theorem dX1_fullest_105 : decode cX1_fullest 105 = .ok (.iload_n 1, 1) := dk_27 (dk_at dksX1_fullest_4 11 rfl rfl)
theorem dX1_fullest_106 : decode cX1_fullest 106 = .ok (.ireturn, 1) := dk_172 (dk_at dksX1_fullest_4 12 rfl rfl)
def dkwX1_fill_0 : List UInt8 := [42, 180, 0, 37, 27, 182, 0, 228, 77, 44, 182, 0, 252, 134, 44, 180, 0, 242, 134, 110, 174]
abbrev dktX1_fill_0 : List UInt8 := dkwX1_fill_0 ++ []
theorem dksX1_fill_0 : cX1_fill.data.toList.drop 0 = dktX1_fill_0 := by decide +kernel
theorem dX1_fill_0 : decode cX1_fill 0 = .ok (.aload_n 0, 1) := dk_42 (dk_at dksX1_fill_0 0 rfl rfl)
theorem dX1_fill_1 : decode cX1_fill 1 = .ok (.getfield 37, 3) := dk_180 0 37 (dk_at dksX1_fill_0 1 rfl rfl)
theorem dX1_fill_4 : decode cX1_fill 4 = .ok (.iload_n 1, 1) := dk_27 (dk_at dksX1_fill_0 4 rfl rfl)
theorem dX1_fill_5 : decode cX1_fill 5 = .ok (.invokevirtual 228, 3) := dk_182 0 228 (dk_at dksX1_fill_0 5 rfl rfl)
theorem dX1_fill_8 : decode cX1_fill 8 = .ok (.astore_n 2, 1) := dk_77 (dk_at dksX1_fill_0 8 rfl rfl)
theorem dX1_fill_9 : decode cX1_fill 9 = .ok (.aload_n 2, 1) := dk_44 (dk_at dksX1_fill_0 9 rfl rfl)
theorem dX1_fill_10 : decode cX1_fill 10 = .ok (.invokevirtual 252, 3) := dk_182 0 252 (dk_at dksX1_fill_0 10 rfl rfl)
theorem dX1_fill_13 : decode cX1_fill 13 = .ok (.i2f, 1) := dk_134 (dk_at dksX1_fill_0 13 rfl rfl)
theorem dX1_fill_14 : decode cX1_fill 14 = .ok (.aload_n 2, 1) := dk_44 (dk_at dksX1_fill_0 14 rfl rfl)
theorem dX1_fill_15 : decode cX1_fill 15 = .ok (.getfield 242, 3) := dk_180 0 242 (dk_at dksX1_fill_0 15 rfl rfl)
theorem dX1_fill_18 : decode cX1_fill 18 = .ok (.i2f, 1) := dk_134 (dk_at dksX1_fill_0 18 rfl rfl)
theorem dX1_fill_19 : decode cX1_fill 19 = .ok (.fdiv, 1) := dk_110 (dk_at dksX1_fill_0 19 rfl rfl)
theorem dX1_fill_20 : decode cX1_fill 20 = .ok (.freturn, 1) := dk_174 (dk_at dksX1_fill_0 20 rfl rfl)
def dkwX1_meanLength_3 : List UInt8 := [167, 0, 4, 3, 184, 1, 68, 27, 135, 28, 135, 111, 175]
abbrev dktX1_meanLength_3 : List UInt8 := dkwX1_meanLength_3 ++ []
def dkwX1_meanLength_2 : List UInt8 := [25, 4, 180, 1, 16, 154, 0, 7, 3, 167, 0, 4, 4, 96, 61, 167, 255, 208, 28, 158, 0, 7, 4]
abbrev dktX1_meanLength_2 : List UInt8 := dkwX1_meanLength_2 ++ dktX1_meanLength_3
def dkwX1_meanLength_1 : List UInt8 := [45, 185, 0, 177, 1, 0, 192, 0, 180, 58, 4, 27, 42, 180, 0, 37, 25, 4, 182, 1, 26, 96, 60, 28]
abbrev dktX1_meanLength_1 : List UInt8 := dkwX1_meanLength_1 ++ dktX1_meanLength_2
def dkwX1_meanLength_0 : List UInt8 := [3, 60, 3, 61, 42, 180, 0, 37, 180, 0, 67, 182, 0, 167, 78, 45, 185, 0, 171, 1, 0, 153, 0, 45]
abbrev dktX1_meanLength_0 : List UInt8 := dkwX1_meanLength_0 ++ dktX1_meanLength_1
theorem dksX1_meanLength_0 : cX1_meanLength.data.toList.drop 0 = dktX1_meanLength_0 := by decide +kernel
theorem dksX1_meanLength_1 : cX1_meanLength.data.toList.drop 24 = dktX1_meanLength_1 := dk_seg dksX1_meanLength_0 24 rfl rfl
theorem dksX1_meanLength_2 : cX1_meanLength.data.toList.drop 48 = dktX1_meanLength_2 := dk_seg dksX1_meanLength_1 24 rfl rfl
theorem dksX1_meanLength_3 : cX1_meanLength.data.toList.drop 71 = dktX1_meanLength_3 := dk_seg dksX1_meanLength_2 23 rfl rfl
theorem dX1_meanLength_0 : decode cX1_meanLength 0 = .ok (.iconst 0, 1) := dk_3 (dk_at dksX1_meanLength_0 0 rfl rfl)
theorem dX1_meanLength_1 : decode cX1_meanLength 1 = .ok (.istore_n 1, 1) := dk_60 (dk_at dksX1_meanLength_0 1 rfl rfl)
theorem dX1_meanLength_2 : decode cX1_meanLength 2 = .ok (.iconst 0, 1) := dk_3 (dk_at dksX1_meanLength_0 2 rfl rfl)
theorem dX1_meanLength_3 : decode cX1_meanLength 3 = .ok (.istore_n 2, 1) := dk_61 (dk_at dksX1_meanLength_0 3 rfl rfl)
theorem dX1_meanLength_4 : decode cX1_meanLength 4 = .ok (.aload_n 0, 1) := dk_42 (dk_at dksX1_meanLength_0 4 rfl rfl)
theorem dX1_meanLength_5 : decode cX1_meanLength 5 = .ok (.getfield 37, 3) := dk_180 0 37 (dk_at dksX1_meanLength_0 5 rfl rfl)
theorem dX1_meanLength_8 : decode cX1_meanLength 8 = .ok (.getfield 67, 3) := dk_180 0 67 (dk_at dksX1_meanLength_0 8 rfl rfl)
theorem dX1_meanLength_11 : decode cX1_meanLength 11 = .ok (.invokevirtual 167, 3) := dk_182 0 167 (dk_at dksX1_meanLength_0 11 rfl rfl)
theorem dX1_meanLength_14 : decode cX1_meanLength 14 = .ok (.astore_n 3, 1) := dk_78 (dk_at dksX1_meanLength_0 14 rfl rfl)
theorem dX1_meanLength_15 : decode cX1_meanLength 15 = .ok (.aload_n 3, 1) := dk_45 (dk_at dksX1_meanLength_0 15 rfl rfl)
theorem dX1_meanLength_16 : decode cX1_meanLength 16 = .ok (.invokeinterface 171 1, 5) := by decide +kernel
theorem dX1_meanLength_21 : decode cX1_meanLength 21 = .ok (.ifCond .eq 45, 3) := dk_153 0 45 (dk_at dksX1_meanLength_0 21 rfl rfl)
theorem dX1_meanLength_24 : decode cX1_meanLength 24 = .ok (.aload_n 3, 1) := dk_45 (dk_at dksX1_meanLength_1 0 rfl rfl)
theorem dX1_meanLength_25 : decode cX1_meanLength 25 = .ok (.invokeinterface 177 1, 5) := by decide +kernel
theorem dX1_meanLength_30 : decode cX1_meanLength 30 = .ok (.checkcast 180, 3) := dk_192 0 180 (dk_at dksX1_meanLength_1 6 rfl rfl)
theorem dX1_meanLength_33 : decode cX1_meanLength 33 = .ok (.astore 4, 2) := dk_58 4 (dk_at dksX1_meanLength_1 9 rfl rfl)
theorem dX1_meanLength_35 : decode cX1_meanLength 35 = .ok (.iload_n 1, 1) := dk_27 (dk_at dksX1_meanLength_1 11 rfl rfl)
theorem dX1_meanLength_36 : decode cX1_meanLength 36 = .ok (.aload_n 0, 1) := dk_42 (dk_at dksX1_meanLength_1 12 rfl rfl)
theorem dX1_meanLength_37 : decode cX1_meanLength 37 = .ok (.getfield 37, 3) := dk_180 0 37 (dk_at dksX1_meanLength_1 13 rfl rfl)
theorem dX1_meanLength_40 : decode cX1_meanLength 40 = .ok (.aload 4, 2) := dk_25 4 (dk_at dksX1_meanLength_1 16 rfl rfl)
theorem dX1_meanLength_42 : decode cX1_meanLength 42 = .ok (.invokevirtual 282, 3) := dk_182 1 26 (dk_at dksX1_meanLength_1 18 rfl rfl)
theorem dX1_meanLength_45 : decode cX1_meanLength 45 = .ok (.iadd, 1) := dk_96 (dk_at dksX1_meanLength_1 21 rfl rfl)
theorem dX1_meanLength_46 : decode cX1_meanLength 46 = .ok (.istore_n 1, 1) := dk_60 (dk_at dksX1_meanLength_1 22 rfl rfl)
theorem dX1_meanLength_47 : decode cX1_meanLength 47 = .ok (.iload_n 2, 1) := dk_28 (dk_at dksX1_meanLength_1 23 rfl rfl)
theorem dX1_meanLength_48 : decode cX1_meanLength 48 = .ok (.aload 4, 2) := dk_25 4 (dk_at dksX1_meanLength_2 0 rfl rfl)
theorem dX1_meanLength_50 : decode cX1_meanLength 50 = .ok (.getfield 272, 3) := dk_180 1 16 (dk_at dksX1_meanLength_2 2 rfl rfl)
theorem dX1_meanLength_53 : decode cX1_meanLength 53 = .ok (.ifCond .ne 7, 3) := dk_154 0 7 (dk_at dksX1_meanLength_2 5 rfl rfl)
theorem dX1_meanLength_56 : decode cX1_meanLength 56 = .ok (.iconst 0, 1) := dk_3 (dk_at dksX1_meanLength_2 8 rfl rfl)
theorem dX1_meanLength_57 : decode cX1_meanLength 57 = .ok (.goto 4, 3) := dk_167 0 4 (dk_at dksX1_meanLength_2 9 rfl rfl)
theorem dX1_meanLength_60 : decode cX1_meanLength 60 = .ok (.iconst 1, 1) := dk_4 (dk_at dksX1_meanLength_2 12 rfl rfl)
theorem dX1_meanLength_61 : decode cX1_meanLength 61 = .ok (.iadd, 1) := dk_96 (dk_at dksX1_meanLength_2 13 rfl rfl)
theorem dX1_meanLength_62 : decode cX1_meanLength 62 = .ok (.istore_n 2, 1) := dk_61 (dk_at dksX1_meanLength_2 14 rfl rfl)
theorem dX1_meanLength_63 : decode cX1_meanLength 63 = .ok (.goto (-48), 3) := dk_167 255 208 (dk_at dksX1_meanLength_2 15 rfl rfl)
theorem dX1_meanLength_66 : decode cX1_meanLength 66 = .ok (.iload_n 2, 1) := dk_28 (dk_at dksX1_meanLength_2 18 rfl rfl)
theorem dX1_meanLength_67 : decode cX1_meanLength 67 = .ok (.ifCond .le 7, 3) := dk_158 0 7 (dk_at dksX1_meanLength_2 19 rfl rfl)
theorem dX1_meanLength_70 : decode cX1_meanLength 70 = .ok (.iconst 1, 1) := dk_4 (dk_at dksX1_meanLength_2 22 rfl rfl)
theorem dX1_meanLength_71 : decode cX1_meanLength 71 = .ok (.goto 4, 3) := dk_167 0 4 (dk_at dksX1_meanLength_3 0 rfl rfl)
theorem dX1_meanLength_74 : decode cX1_meanLength 74 = .ok (.iconst 0, 1) := dk_3 (dk_at dksX1_meanLength_3 3 rfl rfl)
theorem dX1_meanLength_75 : decode cX1_meanLength 75 = .ok (.invokestatic 324, 3) := dk_184 1 68 (dk_at dksX1_meanLength_3 4 rfl rfl)
theorem dX1_meanLength_78 : decode cX1_meanLength 78 = .ok (.iload_n 1, 1) := dk_27 (dk_at dksX1_meanLength_3 7 rfl rfl)
theorem dX1_meanLength_79 : decode cX1_meanLength 79 = .ok (.i2d, 1) := dk_135 (dk_at dksX1_meanLength_3 8 rfl rfl)
theorem dX1_meanLength_80 : decode cX1_meanLength 80 = .ok (.iload_n 2, 1) := dk_28 (dk_at dksX1_meanLength_3 9 rfl rfl)
theorem dX1_meanLength_81 : decode cX1_meanLength 81 = .ok (.i2d, 1) := dk_135 (dk_at dksX1_meanLength_3 10 rfl rfl)
theorem dX1_meanLength_82 : decode cX1_meanLength 82 = .ok (.ddiv, 1) := dk_111 (dk_at dksX1_meanLength_3 11 rfl rfl)
theorem dX1_meanLength_83 : decode cX1_meanLength 83 = .ok (.dreturn, 1) := dk_175 (dk_at dksX1_meanLength_3 12 rfl rfl)
def dkwX1_checkNumbers_0 : List UInt8 := [26, 154, 0, 11, 187, 0, 16, 89, 183, 0, 18, 191, 177]
abbrev dktX1_checkNumbers_0 : List UInt8 := dkwX1_checkNumbers_0 ++ []
theorem dksX1_checkNumbers_0 : cX1_checkNumbers.data.toList.drop 0 = dktX1_checkNumbers_0 := by decide +kernel
theorem dX1_checkNumbers_0 : decode cX1_checkNumbers 0 = .ok (.iload_n 0, 1) := dk_26 (dk_at dksX1_checkNumbers_0 0 rfl rfl)
theorem dX1_checkNumbers_1 : decode cX1_checkNumbers 1 = .ok (.ifCond .ne 11, 3) := dk_154 0 11 (dk_at dksX1_checkNumbers_0 1 rfl rfl)
theorem dX1_checkNumbers_4 : decode cX1_checkNumbers 4 = .ok (.new 16, 3) := dk_187 0 16 (dk_at dksX1_checkNumbers_0 4 rfl rfl)
theorem dX1_checkNumbers_7 : decode cX1_checkNumbers 7 = .ok (.dup, 1) := dk_89 (dk_at dksX1_checkNumbers_0 7 rfl rfl)
theorem dX1_checkNumbers_8 : decode cX1_checkNumbers 8 = .ok (.invokespecial 18, 3) := dk_183 0 18 (dk_at dksX1_checkNumbers_0 8 rfl rfl)
theorem dX1_checkNumbers_11 : decode cX1_checkNumbers 11 = .ok (.athrow, 1) := dk_191 (dk_at dksX1_checkNumbers_0 11 rfl rfl)
theorem dX1_checkNumbers_12 : decode cX1_checkNumbers 12 = .ok (.return_, 1) := dk_177 (dk_at dksX1_checkNumbers_0 12 rfl rfl)
def dkwX1_append_5 : List UInt8 := [182, 1, 78, 87, 132, 3, 248, 167, 255, 224, 42, 180, 0, 51, 182, 0, 164, 172]
abbrev dktX1_append_5 : List UInt8 := dkwX1_append_5 ++ []
def dkwX1_append_4 : List UInt8 := [155, 0, 34, 27, 29, 124, 17, 0, 255, 126, 54, 4, 21, 4, 153, 0, 14, 42, 180, 0, 51, 21, 4, 146]
abbrev dktX1_append_4 : List UInt8 := dkwX1_append_4 ++ dktX1_append_5
def dkwX1_append_3 : List UInt8 := [182, 0, 164, 28, 96, 16, 60, 163, 0, 7, 4, 167, 0, 4, 3, 184, 0, 137, 16, 24, 62, 29]
abbrev dktX1_append_3 : List UInt8 := dkwX1_append_3 ++ dktX1_append_4
def dkwX1_append_2 : List UInt8 := [21, 4, 154, 0, 7, 3, 167, 0, 4, 4, 96, 61, 132, 3, 248, 167, 255, 199, 42, 180, 0, 51]
abbrev dktX1_append_2 : List UInt8 := dkwX1_append_2 ++ dktX1_append_3
def dkwX1_append_1 : List UInt8 := [21, 4, 133, 20, 1, 74, 20, 1, 76, 184, 0, 23, 153, 0, 7, 4, 167, 0, 4, 3, 184, 0, 79, 28]
abbrev dktX1_append_1 : List UInt8 := dkwX1_append_1 ++ dktX1_append_2
def dkwX1_append_0 : List UInt8 := [3, 61, 16, 24, 62, 29, 155, 0, 59, 27, 29, 124, 17, 0, 255, 126, 54, 4, 21, 4, 153, 0, 18]
abbrev dktX1_append_0 : List UInt8 := dkwX1_append_0 ++ dktX1_append_1
theorem dksX1_append_0 : cX1_append.data.toList.drop 0 = dktX1_append_0 := by decide +kernel
theorem dksX1_append_1 : cX1_append.data.toList.drop 23 = dktX1_append_1 := dk_seg dksX1_append_0 23 rfl rfl
theorem dksX1_append_2 : cX1_append.data.toList.drop 47 = dktX1_append_2 := dk_seg dksX1_append_1 24 rfl rfl
theorem dksX1_append_3 : cX1_append.data.toList.drop 69 = dktX1_append_3 := dk_seg dksX1_append_2 22 rfl rfl
theorem dksX1_append_4 : cX1_append.data.toList.drop 91 = dktX1_append_4 := dk_seg dksX1_append_3 22 rfl rfl
theorem dksX1_append_5 : cX1_append.data.toList.drop 115 = dktX1_append_5 := dk_seg dksX1_append_4 24 rfl rfl
theorem dX1_append_0 : decode cX1_append 0 = .ok (.iconst 0, 1) := dk_3 (dk_at dksX1_append_0 0 rfl rfl)
theorem dX1_append_1 : decode cX1_append 1 = .ok (.istore_n 2, 1) := dk_61 (dk_at dksX1_append_0 1 rfl rfl)
theorem dX1_append_2 : decode cX1_append 2 = .ok (.bipush 24, 2) := dk_16 24 (dk_at dksX1_append_0 2 rfl rfl)
theorem dX1_append_4 : decode cX1_append 4 = .ok (.istore_n 3, 1) := dk_62 (dk_at dksX1_append_0 4 rfl rfl)
theorem dX1_append_5 : decode cX1_append 5 = .ok (.iload_n 3, 1) := dk_29 (dk_at dksX1_append_0 5 rfl rfl)
theorem dX1_append_6 : decode cX1_append 6 = .ok (.ifCond .lt 59, 3) := dk_155 0 59 (dk_at dksX1_append_0 6 rfl rfl)
theorem dX1_append_9 : decode cX1_append 9 = .ok (.iload_n 1, 1) := dk_27 (dk_at dksX1_append_0 9 rfl rfl)
theorem dX1_append_10 : decode cX1_append 10 = .ok (.iload_n 3, 1) := dk_29 (dk_at dksX1_append_0 10 rfl rfl)
theorem dX1_append_11 : decode cX1_append 11 = .ok (.iushr, 1) := dk_124 (dk_at dksX1_append_0 11 rfl rfl)
theorem dX1_append_12 : decode cX1_append 12 = .ok (.sipush 255, 3) := dk_17 0 255 (dk_at dksX1_append_0 12 rfl rfl)
theorem dX1_append_15 : decode cX1_append 15 = .ok (.iand, 1) := dk_126 (dk_at dksX1_append_0 15 rfl rfl)
theorem dX1_append_16 : decode cX1_append 16 = .ok (.istore 4, 2) := dk_54 4 (dk_at dksX1_append_0 16 rfl rfl)
theorem dX1_append_18 : decode cX1_append 18 = .ok (.iload 4, 2) := dk_21 4 (dk_at dksX1_append_0 18 rfl rfl)
theorem dX1_append_20 : decode cX1_append 20 = .ok (.ifCond .eq 18, 3) := dk_153 0 18 (dk_at dksX1_append_0 20 rfl rfl)
theorem dX1_append_23 : decode cX1_append 23 = .ok (.iload 4, 2) := dk_21 4 (dk_at dksX1_append_1 0 rfl rfl)
theorem dX1_append_25 : decode cX1_append 25 = .ok (.i2l, 1) := dk_133 (dk_at dksX1_append_1 2 rfl rfl)
theorem dX1_append_26 : decode cX1_append 26 = .ok (.ldc2_w 330, 3) := dk_20 1 74 (dk_at dksX1_append_1 3 rfl rfl)
theorem dX1_append_29 : decode cX1_append 29 = .ok (.ldc2_w 332, 3) := dk_20 1 76 (dk_at dksX1_append_1 6 rfl rfl)
theorem dX1_append_32 : decode cX1_append 32 = .ok (.invokestatic 23, 3) := dk_184 0 23 (dk_at dksX1_append_1 9 rfl rfl)
theorem dX1_append_35 : decode cX1_append 35 = .ok (.ifCond .eq 7, 3) := dk_153 0 7 (dk_at dksX1_append_1 12 rfl rfl)
theorem dX1_append_38 : decode cX1_append 38 = .ok (.iconst 1, 1) := dk_4 (dk_at dksX1_append_1 15 rfl rfl)
theorem dX1_append_39 : decode cX1_append 39 = .ok (.goto 4, 3) := dk_167 0 4 (dk_at dksX1_append_1 16 rfl rfl)
theorem dX1_append_42 : decode cX1_append 42 = .ok (.iconst 0, 1) := dk_3 (dk_at dksX1_append_1 19 rfl rfl)
theorem dX1_append_43 : decode cX1_append 43 = .ok (.invokestatic 79, 3) := dk_184 0 79 (dk_at dksX1_append_1 20 rfl rfl)
theorem dX1_append_46 : decode cX1_append 46 = .ok (.iload_n 2, 1) := dk_28 (dk_at dksX1_append_1 23 rfl rfl)
theorem dX1_append_47 : decode cX1_append 47 = .ok (.iload 4, 2) := dk_21 4 (dk_at dksX1_append_2 0 rfl rfl)
theorem dX1_append_49 : decode cX1_append 49 = .ok (.ifCond .ne 7, 3) := dk_154 0 7 (dk_at dksX1_append_2 2 rfl rfl)
theorem dX1_append_52 : decode cX1_append 52 = .ok (.iconst 0, 1) := dk_3 (dk_at dksX1_append_2 5 rfl rfl)
theorem dX1_append_53 : decode cX1_append 53 = .ok (.goto 4, 3) := dk_167 0 4 (dk_at dksX1_append_2 6 rfl rfl)
theorem dX1_append_56 : decode cX1_append 56 = .ok (.iconst 1, 1) := dk_4 (dk_at dksX1_append_2 9 rfl rfl)
theorem dX1_append_57 : decode cX1_append 57 = .ok (.iadd, 1) := dk_96 (dk_at dksX1_append_2 10 rfl rfl)
theorem dX1_append_58 : decode cX1_append 58 = .ok (.istore_n 2, 1) := dk_61 (dk_at dksX1_append_2 11 rfl rfl)
theorem dX1_append_59 : decode cX1_append 59 = .ok (.iinc 3 (-8), 3) := dk_132 3 248 (dk_at dksX1_append_2 12 rfl rfl)
theorem dX1_append_62 : decode cX1_append 62 = .ok (.goto (-57), 3) := dk_167 255 199 (dk_at dksX1_append_2 15 rfl rfl)
theorem dX1_append_65 : decode cX1_append 65 = .ok (.aload_n 0, 1) := dk_42 (dk_at dksX1_append_2 18 rfl rfl)
theorem dX1_append_66 : decode cX1_append 66 = .ok (.getfield 51, 3) := dk_180 0 51 (dk_at dksX1_append_2 19 rfl rfl)
theorem dX1_append_69 : decode cX1_append 69 = .ok (.invokevirtual 164, 3) := dk_182 0 164 (dk_at dksX1_append_3 0 rfl rfl)
theorem dX1_append_72 : decode cX1_append 72 = .ok (.iload_n 2, 1) := dk_28 (dk_at dksX1_append_3 3 rfl rfl)
theorem dX1_append_73 : decode cX1_append 73 = .ok (.iadd, 1) := dk_96 (dk_at dksX1_append_3 4 rfl rfl)
theorem dX1_append_74 : decode cX1_append 74 = .ok (.bipush 60, 2) := dk_16 60 (dk_at dksX1_append_3 5 rfl rfl)
theorem dX1_append_76 : decode cX1_append 76 = .ok (.if_icmp .gt 7, 3) := dk_163 0 7 (dk_at dksX1_append_3 7 rfl rfl)
theorem dX1_append_79 : decode cX1_append 79 = .ok (.iconst 1, 1) := dk_4 (dk_at dksX1_append_3 10 rfl rfl)
theorem dX1_append_80 : decode cX1_append 80 = .ok (.goto 4, 3) := dk_167 0 4 (dk_at dksX1_append_3 11 rfl rfl)
theorem dX1_append_83 : decode cX1_append 83 = .ok (.iconst 0, 1) := dk_3 (dk_at dksX1_append_3 14 rfl rfl)
theorem dX1_append_84 : decode cX1_append 84 = .ok (.invokestatic 137, 3) := dk_184 0 137 (dk_at dksX1_append_3 15 rfl rfl)
theorem dX1_append_87 : decode cX1_append 87 = .ok (.bipush 24, 2) := dk_16 24 (dk_at dksX1_append_3 18 rfl rfl)
theorem dX1_append_89 : decode cX1_append 89 = .ok (.istore_n 3, 1) := dk_62 (dk_at dksX1_append_3 20 rfl rfl)
theorem dX1_append_90 : decode cX1_append 90 = .ok (.iload_n 3, 1) := dk_29 (dk_at dksX1_append_3 21 rfl rfl)
theorem dX1_append_91 : decode cX1_append 91 = .ok (.ifCond .lt 34, 3) := dk_155 0 34 (dk_at dksX1_append_4 0 rfl rfl)
theorem dX1_append_94 : decode cX1_append 94 = .ok (.iload_n 1, 1) := dk_27 (dk_at dksX1_append_4 3 rfl rfl)
theorem dX1_append_95 : decode cX1_append 95 = .ok (.iload_n 3, 1) := dk_29 (dk_at dksX1_append_4 4 rfl rfl)
theorem dX1_append_96 : decode cX1_append 96 = .ok (.iushr, 1) := dk_124 (dk_at dksX1_append_4 5 rfl rfl)
theorem dX1_append_97 : decode cX1_append 97 = .ok (.sipush 255, 3) := dk_17 0 255 (dk_at dksX1_append_4 6 rfl rfl)
theorem dX1_append_100 : decode cX1_append 100 = .ok (.iand, 1) := dk_126 (dk_at dksX1_append_4 9 rfl rfl)
theorem dX1_append_101 : decode cX1_append 101 = .ok (.istore 4, 2) := dk_54 4 (dk_at dksX1_append_4 10 rfl rfl)
theorem dX1_append_103 : decode cX1_append 103 = .ok (.iload 4, 2) := dk_21 4 (dk_at dksX1_append_4 12 rfl rfl)
theorem dX1_append_105 : decode cX1_append 105 = .ok (.ifCond .eq 14, 3) := dk_153 0 14 (dk_at dksX1_append_4 14 rfl rfl)
theorem dX1_append_108 : decode cX1_append 108 = .ok (.aload_n 0, 1) := dk_42 (dk_at dksX1_append_4 17 rfl rfl)
theorem dX1_append_109 : decode cX1_append 109 = .ok (.getfield 51, 3) := dk_180 0 51 (dk_at dksX1_append_4 18 rfl rfl)
theorem dX1_append_112 : decode cX1_append 112 = .ok (.iload 4, 2) := dk_21 4 (dk_at dksX1_append_4 21 rfl rfl)
theorem dX1_append_114 : decode cX1_append 114 = .ok (.i2c, 1) := dk_146 (dk_at dksX1_append_4 23 rfl rfl)
theorem dX1_append_115 : decode cX1_append 115 = .ok (.invokevirtual 334, 3) := dk_182 1 78 (dk_at dksX1_append_5 0 rfl rfl)
theorem dX1_append_118 : decode cX1_append 118 = .ok (.pop, 1) := dk_87 (dk_at dksX1_append_5 3 rfl rfl)
theorem dX1_append_119 : decode cX1_append 119 = .ok (.iinc 3 (-8), 3) := dk_132 3 248 (dk_at dksX1_append_5 4 rfl rfl)
theorem dX1_append_122 : decode cX1_append 122 = .ok (.goto (-32), 3) := dk_167 255 224 (dk_at dksX1_append_5 7 rfl rfl)
theorem dX1_append_125 : decode cX1_append 125 = .ok (.aload_n 0, 1) := dk_42 (dk_at dksX1_append_5 10 rfl rfl)
theorem dX1_append_126 : decode cX1_append 126 = .ok (.getfield 51, 3) := dk_180 0 51 (dk_at dksX1_append_5 11 rfl rfl)
theorem dX1_append_129 : decode cX1_append 129 = .ok (.invokevirtual 164, 3) := dk_182 0 164 (dk_at dksX1_append_5 14 rfl rfl)
theorem dX1_append_132 : decode cX1_append 132 = .ok (.ireturn, 1) := dk_172 (dk_at dksX1_append_5 17 rfl rfl)
def dkwX1_read_3 : List UInt8 := [181, 1, 111, 187, 1, 115, 89, 183, 1, 117, 191]
abbrev dktX1_read_3 : List UInt8 := dkwX1_read_3 ++ []
def dkwX1_read_2 : List UInt8 := [42, 44, 181, 0, 37, 29, 172, 78, 42, 45, 181, 1, 107, 187, 0, 1, 89, 183, 0, 3, 191, 78, 42, 45]
abbrev dktX1_read_2 : List UInt8 := dkwX1_read_2 ++ dktX1_read_3
def dkwX1_read_1 : List UInt8 := [180, 0, 37, 182, 0, 82, 77, 43, 182, 1, 98, 44, 184, 1, 102, 62, 42, 42, 180, 0, 37, 182, 0, 86]
abbrev dktX1_read_1 : List UInt8 := dkwX1_read_1 ++ dktX1_read_2
def dkwX1_read_0 : List UInt8 := [187, 1, 93, 89, 42, 180, 0, 51, 183, 1, 95, 76, 42, 187, 0, 48, 89, 183, 0, 50, 181, 0, 51, 42]
abbrev dktX1_read_0 : List UInt8 := dkwX1_read_0 ++ dktX1_read_1
theorem dksX1_read_0 : cX1_read.data.toList.drop 0 = dktX1_read_0 := by decide +kernel
theorem dksX1_read_1 : cX1_read.data.toList.drop 24 = dktX1_read_1 := dk_seg dksX1_read_0 24 rfl rfl
theorem dksX1_read_2 : cX1_read.data.toList.drop 48 = dktX1_read_2 := dk_seg dksX1_read_1 24 rfl rfl
theorem dksX1_read_3 : cX1_read.data.toList.drop 72 = dktX1_read_3 := dk_seg dksX1_read_2 24 rfl rfl
theorem dX1_read_0 : decode cX1_read 0 = .ok (.new 349, 3) := dk_187 1 93 (dk_at dksX1_read_0 0 rfl rfl)
theorem dX1_read_3 : decode cX1_read 3 = .ok (.dup, 1) := dk_89 (dk_at dksX1_read_0 3 rfl rfl)
theorem dX1_read_4 : decode cX1_read 4 = .ok (.aload_n 0, 1) := dk_42 (dk_at dksX1_read_0 4 rfl rfl)
theorem dX1_read_5 : decode cX1_read 5 = .ok (.getfield 51, 3) := dk_180 0 51 (dk_at dksX1_read_0 5 rfl rfl)
theorem dX1_read_8 : decode cX1_read 8 = .ok (.invokespecial 351, 3) := dk_183 1 95 (dk_at dksX1_read_0 8 rfl rfl)
theorem dX1_read_11 : decode cX1_read 11 = .ok (.astore_n 1, 1) := dk_76 (dk_at dksX1_read_0 11 rfl rfl)
theorem dX1_read_12 : decode cX1_read 12 = .ok (.aload_n 0, 1) := dk_42 (dk_at dksX1_read_0 12 rfl rfl)
theorem dX1_read_13 : decode cX1_read 13 = .ok (.new 48, 3) := dk_187 0 48 (dk_at dksX1_read_0 13 rfl rfl)
theorem dX1_read_16 : decode cX1_read 16 = .ok (.dup, 1) := dk_89 (dk_at dksX1_read_0 16 rfl rfl)
theorem dX1_read_17 : decode cX1_read 17 = .ok (.invokespecial 50, 3) := dk_183 0 50 (dk_at dksX1_read_0 17 rfl rfl)
theorem dX1_read_20 : decode cX1_read 20 = .ok (.putfield 51, 3) := dk_181 0 51 (dk_at dksX1_read_0 20 rfl rfl)
theorem dX1_read_23 : decode cX1_read 23 = .ok (.aload_n 0, 1) := dk_42 (dk_at dksX1_read_0 23 rfl rfl)
theorem dX1_read_24 : decode cX1_read 24 = .ok (.getfield 37, 3) := dk_180 0 37 (dk_at dksX1_read_1 0 rfl rfl)
theorem dX1_read_27 : decode cX1_read 27 = .ok (.invokevirtual 82, 3) := dk_182 0 82 (dk_at dksX1_read_1 3 rfl rfl)
theorem dX1_read_30 : decode cX1_read 30 = .ok (.astore_n 2, 1) := dk_77 (dk_at dksX1_read_1 6 rfl rfl)
theorem dX1_read_31 : decode cX1_read 31 = .ok (.aload_n 1, 1) := dk_43 (dk_at dksX1_read_1 7 rfl rfl)
theorem dX1_read_32 : decode cX1_read 32 = .ok (.invokevirtual 354, 3) := dk_182 1 98 (dk_at dksX1_read_1 8 rfl rfl)
theorem dX1_read_35 : decode cX1_read 35 = .ok (.aload_n 2, 1) := dk_44 (dk_at dksX1_read_1 11 rfl rfl)
theorem dX1_read_36 : decode cX1_read 36 = .ok (.invokestatic 358, 3) := dk_184 1 102 (dk_at dksX1_read_1 12 rfl rfl)
theorem dX1_read_39 : decode cX1_read 39 = .ok (.istore_n 3, 1) := dk_62 (dk_at dksX1_read_1 15 rfl rfl)
theorem dX1_read_40 : decode cX1_read 40 = .ok (.aload_n 0, 1) := dk_42 (dk_at dksX1_read_1 16 rfl rfl)
theorem dX1_read_41 : decode cX1_read 41 = .ok (.aload_n 0, 1) := dk_42 (dk_at dksX1_read_1 17 rfl rfl)
theorem dX1_read_42 : decode cX1_read 42 = .ok (.getfield 37, 3) := dk_180 0 37 (dk_at dksX1_read_1 18 rfl rfl)
theorem dX1_read_45 : decode cX1_read 45 = .ok (.invokevirtual 86, 3) := dk_182 0 86 (dk_at dksX1_read_1 21 rfl rfl)
theorem dX1_read_48 : decode cX1_read 48 = .ok (.aload_n 0, 1) := dk_42 (dk_at dksX1_read_2 0 rfl rfl)
theorem dX1_read_49 : decode cX1_read 49 = .ok (.aload_n 2, 1) := dk_44 (dk_at dksX1_read_2 1 rfl rfl)
theorem dX1_read_50 : decode cX1_read 50 = .ok (.putfield 37, 3) := dk_181 0 37 (dk_at dksX1_read_2 2 rfl rfl)
theorem dX1_read_53 : decode cX1_read 53 = .ok (.iload_n 3, 1) := dk_29 (dk_at dksX1_read_2 5 rfl rfl)
theorem dX1_read_54 : decode cX1_read 54 = .ok (.ireturn, 1) := dk_172 (dk_at dksX1_read_2 6 rfl rfl)
theorem dX1_read_55 : decode cX1_read 55 = .ok (.astore_n 3, 1) := dk_78 (dk_at dksX1_read_2 7 rfl rfl)
theorem dX1_read_56 : decode cX1_read 56 = .ok (.aload_n 0, 1) := dk_42 (dk_at dksX1_read_2 8 rfl rfl)
theorem dX1_read_57 : decode cX1_read 57 = .ok (.aload_n 3, 1) := dk_45 (dk_at dksX1_read_2 9 rfl rfl)
theorem dX1_read_58 : decode cX1_read 58 = .ok (.putfield 363, 3) := dk_181 1 107 (dk_at dksX1_read_2 10 rfl rfl)
theorem dX1_read_61 : decode cX1_read 61 = .ok (.new 1, 3) := dk_187 0 1 (dk_at dksX1_read_2 13 rfl rfl)
theorem dX1_read_64 : decode cX1_read 64 = .ok (.dup, 1) := dk_89 (dk_at dksX1_read_2 16 rfl rfl)
theorem dX1_read_65 : decode cX1_read 65 = .ok (.invokespecial 3, 3) := dk_183 0 3 (dk_at dksX1_read_2 17 rfl rfl)
theorem dX1_read_68 : decode cX1_read 68 = .ok (.athrow, 1) := dk_191 (dk_at dksX1_read_2 20 rfl rfl)
theorem dX1_read_69 : decode cX1_read 69 = .ok (.astore_n 3, 1) := dk_78 (dk_at dksX1_read_2 21 rfl rfl)
theorem dX1_read_70 : decode cX1_read 70 = .ok (.aload_n 0, 1) := dk_42 (dk_at dksX1_read_2 22 rfl rfl)
theorem dX1_read_71 : decode cX1_read 71 = .ok (.aload_n 3, 1) := dk_45 (dk_at dksX1_read_2 23 rfl rfl)
theorem dX1_read_72 : decode cX1_read 72 = .ok (.putfield 367, 3) := dk_181 1 111 (dk_at dksX1_read_3 0 rfl rfl)
theorem dX1_read_75 : decode cX1_read 75 = .ok (.new 371, 3) := dk_187 1 115 (dk_at dksX1_read_3 3 rfl rfl)
theorem dX1_read_78 : decode cX1_read 78 = .ok (.dup, 1) := dk_89 (dk_at dksX1_read_3 6 rfl rfl)
theorem dX1_read_79 : decode cX1_read 79 = .ok (.invokespecial 373, 3) := dk_183 1 117 (dk_at dksX1_read_3 7 rfl rfl)
theorem dX1_read_82 : decode cX1_read 82 = .ok (.athrow, 1) := dk_191 (dk_at dksX1_read_3 10 rfl rfl)
def dkwX1_carryOut_2 : List UInt8 := [187, 1, 88, 89, 28, 45, 183, 1, 90, 191, 28, 172]
abbrev dktX1_carryOut_2 : List UInt8 := dkwX1_carryOut_2 ++ []
def dkwX1_carryOut_1 : List UInt8 := [192, 1, 82, 58, 4, 25, 4, 43, 182, 1, 84, 54, 5, 132, 2, 1, 167, 255, 225, 167, 0, 14, 78]
abbrev dktX1_carryOut_1 : List UInt8 := dkwX1_carryOut_1 ++ dktX1_carryOut_2
def dkwX1_carryOut_0 : List UInt8 := [3, 61, 42, 182, 0, 167, 78, 45, 185, 0, 171, 1, 0, 153, 0, 28, 45, 185, 0, 177, 1, 0]
abbrev dktX1_carryOut_0 : List UInt8 := dkwX1_carryOut_0 ++ dktX1_carryOut_1
theorem dksX1_carryOut_0 : cX1_carryOut.data.toList.drop 0 = dktX1_carryOut_0 := by decide +kernel
theorem dksX1_carryOut_1 : cX1_carryOut.data.toList.drop 22 = dktX1_carryOut_1 := dk_seg dksX1_carryOut_0 22 rfl rfl
theorem dksX1_carryOut_2 : cX1_carryOut.data.toList.drop 45 = dktX1_carryOut_2 := dk_seg dksX1_carryOut_1 23 rfl rfl
theorem dX1_carryOut_0 : decode cX1_carryOut 0 = .ok (.iconst 0, 1) := dk_3 (dk_at dksX1_carryOut_0 0 rfl rfl)
theorem dX1_carryOut_1 : decode cX1_carryOut 1 = .ok (.istore_n 2, 1) := dk_61 (dk_at dksX1_carryOut_0 1 rfl rfl)
theorem dX1_carryOut_2 : decode cX1_carryOut 2 = .ok (.aload_n 0, 1) := dk_42 (dk_at dksX1_carryOut_0 2 rfl rfl)
theorem dX1_carryOut_3 : decode cX1_carryOut 3 = .ok (.invokevirtual 167, 3) := dk_182 0 167 (dk_at dksX1_carryOut_0 3 rfl rfl)
theorem dX1_carryOut_6 : decode cX1_carryOut 6 = .ok (.astore_n 3, 1) := dk_78 (dk_at dksX1_carryOut_0 6 rfl rfl)
theorem dX1_carryOut_7 : decode cX1_carryOut 7 = .ok (.aload_n 3, 1) := dk_45 (dk_at dksX1_carryOut_0 7 rfl rfl)
theorem dX1_carryOut_8 : decode cX1_carryOut 8 = .ok (.invokeinterface 171 1, 5) := by decide +kernel
theorem dX1_carryOut_13 : decode cX1_carryOut 13 = .ok (.ifCond .eq 28, 3) := dk_153 0 28 (dk_at dksX1_carryOut_0 13 rfl rfl)
theorem dX1_carryOut_16 : decode cX1_carryOut 16 = .ok (.aload_n 3, 1) := dk_45 (dk_at dksX1_carryOut_0 16 rfl rfl)
theorem dX1_carryOut_17 : decode cX1_carryOut 17 = .ok (.invokeinterface 177 1, 5) := by decide +kernel
theorem dX1_carryOut_22 : decode cX1_carryOut 22 = .ok (.checkcast 338, 3) := dk_192 1 82 (dk_at dksX1_carryOut_1 0 rfl rfl)
theorem dX1_carryOut_25 : decode cX1_carryOut 25 = .ok (.astore 4, 2) := dk_58 4 (dk_at dksX1_carryOut_1 3 rfl rfl)
theorem dX1_carryOut_27 : decode cX1_carryOut 27 = .ok (.aload 4, 2) := dk_25 4 (dk_at dksX1_carryOut_1 5 rfl rfl)
theorem dX1_carryOut_29 : decode cX1_carryOut 29 = .ok (.aload_n 1, 1) := dk_43 (dk_at dksX1_carryOut_1 7 rfl rfl)
theorem dX1_carryOut_30 : decode cX1_carryOut 30 = .ok (.invokevirtual 340, 3) := dk_182 1 84 (dk_at dksX1_carryOut_1 8 rfl rfl)
theorem dX1_carryOut_33 : decode cX1_carryOut 33 = .ok (.istore 5, 2) := dk_54 5 (dk_at dksX1_carryOut_1 11 rfl rfl)
theorem dX1_carryOut_35 : decode cX1_carryOut 35 = .ok (.iinc 2 1, 3) := dk_132 2 1 (dk_at dksX1_carryOut_1 13 rfl rfl)
theorem dX1_carryOut_38 : decode cX1_carryOut 38 = .ok (.goto (-31), 3) := dk_167 255 225 (dk_at dksX1_carryOut_1 16 rfl rfl)
theorem dX1_carryOut_41 : decode cX1_carryOut 41 = .ok (.goto 14, 3) := dk_167 0 14 (dk_at dksX1_carryOut_1 19 rfl rfl)
theorem dX1_carryOut_44 : decode cX1_carryOut 44 = .ok (.astore_n 3, 1) := dk_78 (dk_at dksX1_carryOut_1 22 rfl rfl)
theorem dX1_carryOut_45 : decode cX1_carryOut 45 = .ok (.new 344, 3) := dk_187 1 88 (dk_at dksX1_carryOut_2 0 rfl rfl)
theorem dX1_carryOut_48 : decode cX1_carryOut 48 = .ok (.dup, 1) := dk_89 (dk_at dksX1_carryOut_2 3 rfl rfl)
theorem dX1_carryOut_49 : decode cX1_carryOut 49 = .ok (.iload_n 2, 1) := dk_28 (dk_at dksX1_carryOut_2 4 rfl rfl)
theorem dX1_carryOut_50 : decode cX1_carryOut 50 = .ok (.aload_n 3, 1) := dk_45 (dk_at dksX1_carryOut_2 5 rfl rfl)
theorem dX1_carryOut_51 : decode cX1_carryOut 51 = .ok (.invokespecial 346, 3) := dk_183 1 90 (dk_at dksX1_carryOut_2 6 rfl rfl)
theorem dX1_carryOut_54 : decode cX1_carryOut 54 = .ok (.athrow, 1) := dk_191 (dk_at dksX1_carryOut_2 9 rfl rfl)
theorem dX1_carryOut_55 : decode cX1_carryOut 55 = .ok (.iload_n 2, 1) := dk_28 (dk_at dksX1_carryOut_2 10 rfl rfl)
theorem dX1_carryOut_56 : decode cX1_carryOut 56 = .ok (.ireturn, 1) := dk_172 (dk_at dksX1_carryOut_2 11 rfl rfl)
def dkwX1_errorPosition_0 : List UInt8 := [42, 180, 1, 107, 198, 0, 7, 4, 167, 0, 4, 3, 184, 0, 140, 42, 180, 1, 107, 180, 1, 118, 172]
abbrev dktX1_errorPosition_0 : List UInt8 := dkwX1_errorPosition_0 ++ []
theorem dksX1_errorPosition_0 : cX1_errorPosition.data.toList.drop 0 = dktX1_errorPosition_0 := by decide +kernel
theorem dX1_errorPosition_0 : decode cX1_errorPosition 0 = .ok (.aload_n 0, 1) := dk_42 (dk_at dksX1_errorPosition_0 0 rfl rfl)
theorem dX1_errorPosition_1 : decode cX1_errorPosition 1 = .ok (.getfield 363, 3) := dk_180 1 107 (dk_at dksX1_errorPosition_0 1 rfl rfl)
theorem dX1_errorPosition_4 : decode cX1_errorPosition 4 = .ok (.ifnull 7, 3) := dk_198 0 7 (dk_at dksX1_errorPosition_0 4 rfl rfl)
theorem dX1_errorPosition_7 : decode cX1_errorPosition 7 = .ok (.iconst 1, 1) := dk_4 (dk_at dksX1_errorPosition_0 7 rfl rfl)
theorem dX1_errorPosition_8 : decode cX1_errorPosition 8 = .ok (.goto 4, 3) := dk_167 0 4 (dk_at dksX1_errorPosition_0 8 rfl rfl)
theorem dX1_errorPosition_11 : decode cX1_errorPosition 11 = .ok (.iconst 0, 1) := dk_3 (dk_at dksX1_errorPosition_0 11 rfl rfl)
theorem dX1_errorPosition_12 : decode cX1_errorPosition 12 = .ok (.invokestatic 140, 3) := dk_184 0 140 (dk_at dksX1_errorPosition_0 12 rfl rfl)
theorem dX1_errorPosition_15 : decode cX1_errorPosition 15 = .ok (.aload_n 0, 1) := dk_42 (dk_at dksX1_errorPosition_0 15 rfl rfl)
theorem dX1_errorPosition_16 : decode cX1_errorPosition 16 = .ok (.getfield 363, 3) := dk_180 1 107 (dk_at dksX1_errorPosition_0 16 rfl rfl)
theorem dX1_errorPosition_19 : decode cX1_errorPosition 19 = .ok (.getfield 374, 3) := dk_180 1 118 (dk_at dksX1_errorPosition_0 19 rfl rfl)
theorem dX1_errorPosition_22 : decode cX1_errorPosition 22 = .ok (.ireturn, 1) := dk_172 (dk_at dksX1_errorPosition_0 22 rfl rfl)
def dkwX1_refusedItem_0 : List UInt8 := [42, 180, 1, 111, 198, 0, 7, 4, 167, 0, 4, 3, 184, 0, 140, 42, 180, 1, 111, 180, 1, 121, 172]
abbrev dktX1_refusedItem_0 : List UInt8 := dkwX1_refusedItem_0 ++ []
theorem dksX1_refusedItem_0 : cX1_refusedItem.data.toList.drop 0 = dktX1_refusedItem_0 := by decide +kernel
theorem dX1_refusedItem_0 : decode cX1_refusedItem 0 = .ok (.aload_n 0, 1) := dk_42 (dk_at dksX1_refusedItem_0 0 rfl rfl)
theorem dX1_refusedItem_1 : decode cX1_refusedItem 1 = .ok (.getfield 367, 3) := dk_180 1 111 (dk_at dksX1_refusedItem_0 1 rfl rfl)
theorem dX1_refusedItem_4 : decode cX1_refusedItem 4 = .ok (.ifnull 7, 3) := dk_198 0 7 (dk_at dksX1_refusedItem_0 4 rfl rfl)
theorem dX1_refusedItem_7 : decode cX1_refusedItem 7 = .ok (.iconst 1, 1) := dk_4 (dk_at dksX1_refusedItem_0 7 rfl rfl)
theorem dX1_refusedItem_8 : decode cX1_refusedItem 8 = .ok (.goto 4, 3) := dk_167 0 4 (dk_at dksX1_refusedItem_0 8 rfl rfl)
theorem dX1_refusedItem_11 : decode cX1_refusedItem 11 = .ok (.iconst 0, 1) := dk_3 (dk_at dksX1_refusedItem_0 11 rfl rfl)
theorem dX1_refusedItem_12 : decode cX1_refusedItem 12 = .ok (.invokestatic 140, 3) := dk_184 0 140 (dk_at dksX1_refusedItem_0 12 rfl rfl)
theorem dX1_refusedItem_15 : decode cX1_refusedItem 15 = .ok (.aload_n 0, 1) := dk_42 (dk_at dksX1_refusedItem_0 15 rfl rfl)
theorem dX1_refusedItem_16 : decode cX1_refusedItem 16 = .ok (.getfield 367, 3) := dk_180 1 111 (dk_at dksX1_refusedItem_0 16 rfl rfl)
theorem dX1_refusedItem_19 : decode cX1_refusedItem 19 = .ok (.getfield 377, 3) := dk_180 1 121 (dk_at dksX1_refusedItem_0 19 rfl rfl)
theorem dX1_refusedItem_22 : decode cX1_refusedItem 22 = .ok (.ireturn, 1) := dk_172 (dk_at dksX1_refusedItem_0 22 rfl rfl)
def dkwX1_undo_1 : List UInt8 := [182, 1, 125, 192, 0, 34, 181, 0, 37, 42, 180, 0, 44, 182, 0, 55, 172]
abbrev dktX1_undo_1 : List UInt8 := dkwX1_undo_1 ++ []
def dkwX1_undo_0 : List UInt8 := [42, 180, 0, 44, 182, 1, 124, 154, 0, 7, 4, 167, 0, 4, 3, 184, 0, 137, 42, 42, 180, 0, 44]
abbrev dktX1_undo_0 : List UInt8 := dkwX1_undo_0 ++ dktX1_undo_1
theorem dksX1_undo_0 : cX1_undo.data.toList.drop 0 = dktX1_undo_0 := by decide +kernel
theorem dksX1_undo_1 : cX1_undo.data.toList.drop 23 = dktX1_undo_1 := dk_seg dksX1_undo_0 23 rfl rfl
theorem dX1_undo_0 : decode cX1_undo 0 = .ok (.aload_n 0, 1) := dk_42 (dk_at dksX1_undo_0 0 rfl rfl)
theorem dX1_undo_1 : decode cX1_undo 1 = .ok (.getfield 44, 3) := dk_180 0 44 (dk_at dksX1_undo_0 1 rfl rfl)
theorem dX1_undo_4 : decode cX1_undo 4 = .ok (.invokevirtual 380, 3) := dk_182 1 124 (dk_at dksX1_undo_0 4 rfl rfl)
theorem dX1_undo_7 : decode cX1_undo 7 = .ok (.ifCond .ne 7, 3) := dk_154 0 7 (dk_at dksX1_undo_0 7 rfl rfl)
theorem dX1_undo_10 : decode cX1_undo 10 = .ok (.iconst 1, 1) := dk_4 (dk_at dksX1_undo_0 10 rfl rfl)
theorem dX1_undo_11 : decode cX1_undo 11 = .ok (.goto 4, 3) := dk_167 0 4 (dk_at dksX1_undo_0 11 rfl rfl)
theorem dX1_undo_14 : decode cX1_undo 14 = .ok (.iconst 0, 1) := dk_3 (dk_at dksX1_undo_0 14 rfl rfl)
theorem dX1_undo_15 : decode cX1_undo 15 = .ok (.invokestatic 137, 3) := dk_184 0 137 (dk_at dksX1_undo_0 15 rfl rfl)
theorem dX1_undo_18 : decode cX1_undo 18 = .ok (.aload_n 0, 1) := dk_42 (dk_at dksX1_undo_0 18 rfl rfl)
theorem dX1_undo_19 : decode cX1_undo 19 = .ok (.aload_n 0, 1) := dk_42 (dk_at dksX1_undo_0 19 rfl rfl)
theorem dX1_undo_20 : decode cX1_undo 20 = .ok (.getfield 44, 3) := dk_180 0 44 (dk_at dksX1_undo_0 20 rfl rfl)
theorem dX1_undo_23 : decode cX1_undo 23 = .ok (.invokevirtual 381, 3) := dk_182 1 125 (dk_at dksX1_undo_1 0 rfl rfl)
theorem dX1_undo_26 : decode cX1_undo 26 = .ok (.checkcast 34, 3) := dk_192 0 34 (dk_at dksX1_undo_1 3 rfl rfl)
theorem dX1_undo_29 : decode cX1_undo 29 = .ok (.putfield 37, 3) := dk_181 0 37 (dk_at dksX1_undo_1 6 rfl rfl)
theorem dX1_undo_32 : decode cX1_undo 32 = .ok (.aload_n 0, 1) := dk_42 (dk_at dksX1_undo_1 9 rfl rfl)
theorem dX1_undo_33 : decode cX1_undo 33 = .ok (.getfield 44, 3) := dk_180 0 44 (dk_at dksX1_undo_1 10 rfl rfl)
theorem dX1_undo_36 : decode cX1_undo 36 = .ok (.invokevirtual 55, 3) := dk_182 0 55 (dk_at dksX1_undo_1 13 rfl rfl)
theorem dX1_undo_39 : decode cX1_undo 39 = .ok (.ireturn, 1) := dk_172 (dk_at dksX1_undo_1 16 rfl rfl)
def dkwX1_restore_1 : List UInt8 := [181, 0, 37, 42, 180, 0, 44, 182, 0, 74, 42, 180, 0, 37, 180, 0, 67, 182, 0, 71, 172]
abbrev dktX1_restore_1 : List UInt8 := dkwX1_restore_1 ++ []
def dkwX1_restore_0 : List UInt8 := [42, 180, 1, 128, 198, 0, 7, 4, 167, 0, 4, 3, 184, 0, 137, 42, 42, 180, 1, 128, 182, 0, 82]
abbrev dktX1_restore_0 : List UInt8 := dkwX1_restore_0 ++ dktX1_restore_1
theorem dksX1_restore_0 : cX1_restore.data.toList.drop 0 = dktX1_restore_0 := by decide +kernel
theorem dksX1_restore_1 : cX1_restore.data.toList.drop 23 = dktX1_restore_1 := dk_seg dksX1_restore_0 23 rfl rfl
theorem dX1_restore_0 : decode cX1_restore 0 = .ok (.aload_n 0, 1) := dk_42 (dk_at dksX1_restore_0 0 rfl rfl)
theorem dX1_restore_1 : decode cX1_restore 1 = .ok (.getfield 384, 3) := dk_180 1 128 (dk_at dksX1_restore_0 1 rfl rfl)
theorem dX1_restore_4 : decode cX1_restore 4 = .ok (.ifnull 7, 3) := dk_198 0 7 (dk_at dksX1_restore_0 4 rfl rfl)
theorem dX1_restore_7 : decode cX1_restore 7 = .ok (.iconst 1, 1) := dk_4 (dk_at dksX1_restore_0 7 rfl rfl)
theorem dX1_restore_8 : decode cX1_restore 8 = .ok (.goto 4, 3) := dk_167 0 4 (dk_at dksX1_restore_0 8 rfl rfl)
theorem dX1_restore_11 : decode cX1_restore 11 = .ok (.iconst 0, 1) := dk_3 (dk_at dksX1_restore_0 11 rfl rfl)
theorem dX1_restore_12 : decode cX1_restore 12 = .ok (.invokestatic 137, 3) := dk_184 0 137 (dk_at dksX1_restore_0 12 rfl rfl)
theorem dX1_restore_15 : decode cX1_restore 15 = .ok (.aload_n 0, 1) := dk_42 (dk_at dksX1_restore_0 15 rfl rfl)
theorem dX1_restore_16 : decode cX1_restore 16 = .ok (.aload_n 0, 1) := dk_42 (dk_at dksX1_restore_0 16 rfl rfl)
theorem dX1_restore_17 : decode cX1_restore 17 = .ok (.getfield 384, 3) := dk_180 1 128 (dk_at dksX1_restore_0 17 rfl rfl)
theorem dX1_restore_20 : decode cX1_restore 20 = .ok (.invokevirtual 82, 3) := dk_182 0 82 (dk_at dksX1_restore_0 20 rfl rfl)
theorem dX1_restore_23 : decode cX1_restore 23 = .ok (.putfield 37, 3) := dk_181 0 37 (dk_at dksX1_restore_1 0 rfl rfl)
theorem dX1_restore_26 : decode cX1_restore 26 = .ok (.aload_n 0, 1) := dk_42 (dk_at dksX1_restore_1 3 rfl rfl)
theorem dX1_restore_27 : decode cX1_restore 27 = .ok (.getfield 44, 3) := dk_180 0 44 (dk_at dksX1_restore_1 4 rfl rfl)
theorem dX1_restore_30 : decode cX1_restore 30 = .ok (.invokevirtual 74, 3) := dk_182 0 74 (dk_at dksX1_restore_1 7 rfl rfl)
theorem dX1_restore_33 : decode cX1_restore 33 = .ok (.aload_n 0, 1) := dk_42 (dk_at dksX1_restore_1 10 rfl rfl)
theorem dX1_restore_34 : decode cX1_restore 34 = .ok (.getfield 37, 3) := dk_180 0 37 (dk_at dksX1_restore_1 11 rfl rfl)
theorem dX1_restore_37 : decode cX1_restore 37 = .ok (.getfield 67, 3) := dk_180 0 67 (dk_at dksX1_restore_1 14 rfl rfl)
theorem dX1_restore_40 : decode cX1_restore 40 = .ok (.invokevirtual 71, 3) := dk_182 0 71 (dk_at dksX1_restore_1 17 rfl rfl)
theorem dX1_restore_43 : decode cX1_restore 43 = .ok (.ireturn, 1) := dk_172 (dk_at dksX1_restore_1 20 rfl rfl)
def dkwX2_init_3 : List UInt8 := [181, 0, 38, 177]
abbrev dktX2_init_3 : List UInt8 := dkwX2_init_3 ++ []
def dkwX2_init_2 : List UInt8 := [181, 0, 28, 42, 187, 0, 9, 89, 183, 0, 11, 181, 0, 31, 42, 16, 20, 181, 0, 34, 42, 5]
abbrev dktX2_init_2 : List UInt8 := dkwX2_init_2 ++ dktX2_init_3
def dkwX2_init_1 : List UInt8 := [181, 0, 21, 42, 187, 0, 9, 89, 183, 0, 11, 181, 0, 25, 42, 187, 0, 9, 89, 183, 0, 11]
abbrev dktX2_init_1 : List UInt8 := dkwX2_init_1 ++ dktX2_init_2
def dkwX2_init_0 : List UInt8 := [42, 183, 0, 3, 42, 187, 0, 9, 89, 183, 0, 11, 181, 0, 12, 42, 187, 0, 18, 89, 183, 0, 20]
abbrev dktX2_init_0 : List UInt8 := dkwX2_init_0 ++ dktX2_init_1
theorem dksX2_init_0 : cX2_init.data.toList.drop 0 = dktX2_init_0 := by decide +kernel
theorem dksX2_init_1 : cX2_init.data.toList.drop 23 = dktX2_init_1 := dk_seg dksX2_init_0 23 rfl rfl
theorem dksX2_init_2 : cX2_init.data.toList.drop 45 = dktX2_init_2 := dk_seg dksX2_init_1 22 rfl rfl
theorem dksX2_init_3 : cX2_init.data.toList.drop 67 = dktX2_init_3 := dk_seg dksX2_init_2 22 rfl rfl
theorem dX2_init_0 : decode cX2_init 0 = .ok (.aload_n 0, 1) := dk_42 (dk_at dksX2_init_0 0 rfl rfl)
theorem dX2_init_1 : decode cX2_init 1 = .ok (.invokespecial 3, 3) := dk_183 0 3 (dk_at dksX2_init_0 1 rfl rfl)
theorem dX2_init_4 : decode cX2_init 4 = .ok (.aload_n 0, 1) := dk_42 (dk_at dksX2_init_0 4 rfl rfl)
theorem dX2_init_5 : decode cX2_init 5 = .ok (.new 9, 3) := dk_187 0 9 (dk_at dksX2_init_0 5 rfl rfl)
theorem dX2_init_8 : decode cX2_init 8 = .ok (.dup, 1) := dk_89 (dk_at dksX2_init_0 8 rfl rfl)
theorem dX2_init_9 : decode cX2_init 9 = .ok (.invokespecial 11, 3) := dk_183 0 11 (dk_at dksX2_init_0 9 rfl rfl)
theorem dX2_init_12 : decode cX2_init 12 = .ok (.putfield 12, 3) := dk_181 0 12 (dk_at dksX2_init_0 12 rfl rfl)
theorem dX2_init_15 : decode cX2_init 15 = .ok (.aload_n 0, 1) := dk_42 (dk_at dksX2_init_0 15 rfl rfl)
theorem dX2_init_16 : decode cX2_init 16 = .ok (.new 18, 3) := dk_187 0 18 (dk_at dksX2_init_0 16 rfl rfl)
theorem dX2_init_19 : decode cX2_init 19 = .ok (.dup, 1) := dk_89 (dk_at dksX2_init_0 19 rfl rfl)
theorem dX2_init_20 : decode cX2_init 20 = .ok (.invokespecial 20, 3) := dk_183 0 20 (dk_at dksX2_init_0 20 rfl rfl)
theorem dX2_init_23 : decode cX2_init 23 = .ok (.putfield 21, 3) := dk_181 0 21 (dk_at dksX2_init_1 0 rfl rfl)
theorem dX2_init_26 : decode cX2_init 26 = .ok (.aload_n 0, 1) := dk_42 (dk_at dksX2_init_1 3 rfl rfl)
theorem dX2_init_27 : decode cX2_init 27 = .ok (.new 9, 3) := dk_187 0 9 (dk_at dksX2_init_1 4 rfl rfl)
theorem dX2_init_30 : decode cX2_init 30 = .ok (.dup, 1) := dk_89 (dk_at dksX2_init_1 7 rfl rfl)
theorem dX2_init_31 : decode cX2_init 31 = .ok (.invokespecial 11, 3) := dk_183 0 11 (dk_at dksX2_init_1 8 rfl rfl)
theorem dX2_init_34 : decode cX2_init 34 = .ok (.putfield 25, 3) := dk_181 0 25 (dk_at dksX2_init_1 11 rfl rfl)
theorem dX2_init_37 : decode cX2_init 37 = .ok (.aload_n 0, 1) := dk_42 (dk_at dksX2_init_1 14 rfl rfl)
theorem dX2_init_38 : decode cX2_init 38 = .ok (.new 9, 3) := dk_187 0 9 (dk_at dksX2_init_1 15 rfl rfl)
theorem dX2_init_41 : decode cX2_init 41 = .ok (.dup, 1) := dk_89 (dk_at dksX2_init_1 18 rfl rfl)
theorem dX2_init_42 : decode cX2_init 42 = .ok (.invokespecial 11, 3) := dk_183 0 11 (dk_at dksX2_init_1 19 rfl rfl)
theorem dX2_init_45 : decode cX2_init 45 = .ok (.putfield 28, 3) := dk_181 0 28 (dk_at dksX2_init_2 0 rfl rfl)
theorem dX2_init_48 : decode cX2_init 48 = .ok (.aload_n 0, 1) := dk_42 (dk_at dksX2_init_2 3 rfl rfl)
theorem dX2_init_49 : decode cX2_init 49 = .ok (.new 9, 3) := dk_187 0 9 (dk_at dksX2_init_2 4 rfl rfl)
theorem dX2_init_52 : decode cX2_init 52 = .ok (.dup, 1) := dk_89 (dk_at dksX2_init_2 7 rfl rfl)
theorem dX2_init_53 : decode cX2_init 53 = .ok (.invokespecial 11, 3) := dk_183 0 11 (dk_at dksX2_init_2 8 rfl rfl)
theorem dX2_init_56 : decode cX2_init 56 = .ok (.putfield 31, 3) := dk_181 0 31 (dk_at dksX2_init_2 11 rfl rfl)
theorem dX2_init_59 : decode cX2_init 59 = .ok (.aload_n 0, 1) := dk_42 (dk_at dksX2_init_2 14 rfl rfl)
theorem dX2_init_60 : decode cX2_init 60 = .ok (.bipush 20, 2) := dk_16 20 (dk_at dksX2_init_2 15 rfl rfl)
theorem dX2_init_62 : decode cX2_init 62 = .ok (.putfield 34, 3) := dk_181 0 34 (dk_at dksX2_init_2 17 rfl rfl)
theorem dX2_init_65 : decode cX2_init 65 = .ok (.aload_n 0, 1) := dk_42 (dk_at dksX2_init_2 20 rfl rfl)
theorem dX2_init_66 : decode cX2_init 66 = .ok (.iconst 2, 1) := dk_5 (dk_at dksX2_init_2 21 rfl rfl)
theorem dX2_init_67 : decode cX2_init 67 = .ok (.putfield 38, 3) := dk_181 0 38 (dk_at dksX2_init_3 0 rfl rfl)
theorem dX2_init_70 : decode cX2_init 70 = .ok (.return_, 1) := dk_177 (dk_at dksX2_init_3 3 rfl rfl)
def dkwX2_typeNamed_1 : List UInt8 := [172]
abbrev dktX2_typeNamed_1 : List UInt8 := dkwX2_typeNamed_1 ++ []
def dkwX2_typeNamed_0 : List UInt8 := [42, 180, 0, 21, 43, 182, 0, 114, 192, 0, 93, 77, 44, 199, 0, 7, 2, 167, 0, 7, 44, 182, 0, 117]
abbrev dktX2_typeNamed_0 : List UInt8 := dkwX2_typeNamed_0 ++ dktX2_typeNamed_1
theorem dksX2_typeNamed_0 : cX2_typeNamed.data.toList.drop 0 = dktX2_typeNamed_0 := by decide +kernel
theorem dksX2_typeNamed_1 : cX2_typeNamed.data.toList.drop 24 = dktX2_typeNamed_1 := dk_seg dksX2_typeNamed_0 24 rfl rfl
theorem dX2_typeNamed_0 : decode cX2_typeNamed 0 = .ok (.aload_n 0, 1) := dk_42 (dk_at dksX2_typeNamed_0 0 rfl rfl)
theorem dX2_typeNamed_1 : decode cX2_typeNamed 1 = .ok (.getfield 21, 3) := dk_180 0 21 (dk_at dksX2_typeNamed_0 1 rfl rfl)
theorem dX2_typeNamed_4 : decode cX2_typeNamed 4 = .ok (.aload_n 1, 1) := dk_43 (dk_at dksX2_typeNamed_0 4 rfl rfl)
theorem dX2_typeNamed_5 : decode cX2_typeNamed 5 = .ok (.invokevirtual 114, 3) := dk_182 0 114 (dk_at dksX2_typeNamed_0 5 rfl rfl)
theorem dX2_typeNamed_8 : decode cX2_typeNamed 8 = .ok (.checkcast 93, 3) := dk_192 0 93 (dk_at dksX2_typeNamed_0 8 rfl rfl)
theorem dX2_typeNamed_11 : decode cX2_typeNamed 11 = .ok (.astore_n 2, 1) := dk_77 (dk_at dksX2_typeNamed_0 11 rfl rfl)
theorem dX2_typeNamed_12 : decode cX2_typeNamed 12 = .ok (.aload_n 2, 1) := dk_44 (dk_at dksX2_typeNamed_0 12 rfl rfl)
theorem dX2_typeNamed_13 : decode cX2_typeNamed 13 = .ok (.ifnonnull 7, 3) := dk_199 0 7 (dk_at dksX2_typeNamed_0 13 rfl rfl)
theorem dX2_typeNamed_16 : decode cX2_typeNamed 16 = .ok (.iconst (-1), 1) := dk_2 (dk_at dksX2_typeNamed_0 16 rfl rfl)
theorem dX2_typeNamed_17 : decode cX2_typeNamed 17 = .ok (.goto 7, 3) := dk_167 0 7 (dk_at dksX2_typeNamed_0 17 rfl rfl)
theorem dX2_typeNamed_20 : decode cX2_typeNamed 20 = .ok (.aload_n 2, 1) := dk_44 (dk_at dksX2_typeNamed_0 20 rfl rfl)
theorem dX2_typeNamed_21 : decode cX2_typeNamed 21 = .ok (.invokevirtual 117, 3) := dk_182 0 117 (dk_at dksX2_typeNamed_0 21 rfl rfl)
theorem dX2_typeNamed_24 : decode cX2_typeNamed 24 = .ok (.ireturn, 1) := dk_172 (dk_at dksX2_typeNamed_1 0 rfl rfl)
def dkwX2_isConsistent_5 : List UInt8 := [132, 2, 1, 167, 255, 206, 27, 172]
abbrev dktX2_isConsistent_5 : List UInt8 := dkwX2_isConsistent_5 ++ []
def dkwX2_isConsistent_4 : List UInt8 := [180, 1, 77, 190, 162, 0, 18, 27, 42, 28, 29, 182, 1, 95, 126, 60, 132, 3, 1, 167, 255, 225]
abbrev dktX2_isConsistent_4 : List UInt8 := dkwX2_isConsistent_4 ++ dktX2_isConsistent_5
def dkwX2_isConsistent_3 : List UInt8 := [180, 0, 25, 182, 0, 88, 162, 0, 45, 3, 62, 29, 42, 180, 0, 25, 28, 182, 0, 110, 192, 0, 62]
abbrev dktX2_isConsistent_3 : List UInt8 := dkwX2_isConsistent_3 ++ dktX2_isConsistent_4
def dkwX2_isConsistent_2 : List UInt8 := [185, 0, 52, 1, 0, 192, 0, 71, 78, 27, 42, 45, 182, 1, 91, 126, 60, 167, 255, 229, 3, 61, 28, 42]
abbrev dktX2_isConsistent_2 : List UInt8 := dkwX2_isConsistent_2 ++ dktX2_isConsistent_3
def dkwX2_isConsistent_1 : List UInt8 := [167, 0, 4, 3, 60, 42, 180, 0, 28, 182, 0, 42, 77, 44, 185, 0, 46, 1, 0, 153, 0, 24, 44]
abbrev dktX2_isConsistent_1 : List UInt8 := dkwX2_isConsistent_1 ++ dktX2_isConsistent_2
def dkwX2_isConsistent_0 : List UInt8 := [42, 182, 1, 83, 42, 182, 1, 85, 96, 42, 180, 0, 81, 96, 42, 182, 1, 88, 160, 0, 7, 4]
abbrev dktX2_isConsistent_0 : List UInt8 := dkwX2_isConsistent_0 ++ dktX2_isConsistent_1
theorem dksX2_isConsistent_0 : cX2_isConsistent.data.toList.drop 0 = dktX2_isConsistent_0 := by decide +kernel
theorem dksX2_isConsistent_1 : cX2_isConsistent.data.toList.drop 22 = dktX2_isConsistent_1 := dk_seg dksX2_isConsistent_0 22 rfl rfl
theorem dksX2_isConsistent_2 : cX2_isConsistent.data.toList.drop 45 = dktX2_isConsistent_2 := dk_seg dksX2_isConsistent_1 23 rfl rfl
theorem dksX2_isConsistent_3 : cX2_isConsistent.data.toList.drop 69 = dktX2_isConsistent_3 := dk_seg dksX2_isConsistent_2 24 rfl rfl
theorem dksX2_isConsistent_4 : cX2_isConsistent.data.toList.drop 92 = dktX2_isConsistent_4 := dk_seg dksX2_isConsistent_3 23 rfl rfl
theorem dksX2_isConsistent_5 : cX2_isConsistent.data.toList.drop 114 = dktX2_isConsistent_5 := dk_seg dksX2_isConsistent_4 22 rfl rfl
theorem dX2_isConsistent_0 : decode cX2_isConsistent 0 = .ok (.aload_n 0, 1) := dk_42 (dk_at dksX2_isConsistent_0 0 rfl rfl)
theorem dX2_isConsistent_1 : decode cX2_isConsistent 1 = .ok (.invokevirtual 339, 3) := dk_182 1 83 (dk_at dksX2_isConsistent_0 1 rfl rfl)
theorem dX2_isConsistent_4 : decode cX2_isConsistent 4 = .ok (.aload_n 0, 1) := dk_42 (dk_at dksX2_isConsistent_0 4 rfl rfl)
theorem dX2_isConsistent_5 : decode cX2_isConsistent 5 = .ok (.invokevirtual 341, 3) := dk_182 1 85 (dk_at dksX2_isConsistent_0 5 rfl rfl)
theorem dX2_isConsistent_8 : decode cX2_isConsistent 8 = .ok (.iadd, 1) := dk_96 (dk_at dksX2_isConsistent_0 8 rfl rfl)
theorem dX2_isConsistent_9 : decode cX2_isConsistent 9 = .ok (.aload_n 0, 1) := dk_42 (dk_at dksX2_isConsistent_0 9 rfl rfl)
theorem dX2_isConsistent_10 : decode cX2_isConsistent 10 = .ok (.getfield 81, 3) := dk_180 0 81 (dk_at dksX2_isConsistent_0 10 rfl rfl)
theorem dX2_isConsistent_13 : decode cX2_isConsistent 13 = .ok (.iadd, 1) := dk_96 (dk_at dksX2_isConsistent_0 13 rfl rfl)
theorem dX2_isConsistent_14 : decode cX2_isConsistent 14 = .ok (.aload_n 0, 1) := dk_42 (dk_at dksX2_isConsistent_0 14 rfl rfl)
theorem dX2_isConsistent_15 : decode cX2_isConsistent 15 = .ok (.invokevirtual 344, 3) := dk_182 1 88 (dk_at dksX2_isConsistent_0 15 rfl rfl)
theorem dX2_isConsistent_18 : decode cX2_isConsistent 18 = .ok (.if_icmp .ne 7, 3) := dk_160 0 7 (dk_at dksX2_isConsistent_0 18 rfl rfl)
theorem dX2_isConsistent_21 : decode cX2_isConsistent 21 = .ok (.iconst 1, 1) := dk_4 (dk_at dksX2_isConsistent_0 21 rfl rfl)
theorem dX2_isConsistent_22 : decode cX2_isConsistent 22 = .ok (.goto 4, 3) := dk_167 0 4 (dk_at dksX2_isConsistent_1 0 rfl rfl)
theorem dX2_isConsistent_25 : decode cX2_isConsistent 25 = .ok (.iconst 0, 1) := dk_3 (dk_at dksX2_isConsistent_1 3 rfl rfl)
theorem dX2_isConsistent_26 : decode cX2_isConsistent 26 = .ok (.istore_n 1, 1) := dk_60 (dk_at dksX2_isConsistent_1 4 rfl rfl)
theorem dX2_isConsistent_27 : decode cX2_isConsistent 27 = .ok (.aload_n 0, 1) := dk_42 (dk_at dksX2_isConsistent_1 5 rfl rfl)
theorem dX2_isConsistent_28 : decode cX2_isConsistent 28 = .ok (.getfield 28, 3) := dk_180 0 28 (dk_at dksX2_isConsistent_1 6 rfl rfl)
theorem dX2_isConsistent_31 : decode cX2_isConsistent 31 = .ok (.invokevirtual 42, 3) := dk_182 0 42 (dk_at dksX2_isConsistent_1 9 rfl rfl)
theorem dX2_isConsistent_34 : decode cX2_isConsistent 34 = .ok (.astore_n 2, 1) := dk_77 (dk_at dksX2_isConsistent_1 12 rfl rfl)
theorem dX2_isConsistent_35 : decode cX2_isConsistent 35 = .ok (.aload_n 2, 1) := dk_44 (dk_at dksX2_isConsistent_1 13 rfl rfl)
theorem dX2_isConsistent_36 : decode cX2_isConsistent 36 = .ok (.invokeinterface 46 1, 5) := by decide +kernel
theorem dX2_isConsistent_41 : decode cX2_isConsistent 41 = .ok (.ifCond .eq 24, 3) := dk_153 0 24 (dk_at dksX2_isConsistent_1 19 rfl rfl)
theorem dX2_isConsistent_44 : decode cX2_isConsistent 44 = .ok (.aload_n 2, 1) := dk_44 (dk_at dksX2_isConsistent_1 22 rfl rfl)
theorem dX2_isConsistent_45 : decode cX2_isConsistent 45 = .ok (.invokeinterface 52 1, 5) := by decide +kernel
theorem dX2_isConsistent_50 : decode cX2_isConsistent 50 = .ok (.checkcast 71, 3) := dk_192 0 71 (dk_at dksX2_isConsistent_2 5 rfl rfl)
theorem dX2_isConsistent_53 : decode cX2_isConsistent 53 = .ok (.astore_n 3, 1) := dk_78 (dk_at dksX2_isConsistent_2 8 rfl rfl)
theorem dX2_isConsistent_54 : decode cX2_isConsistent 54 = .ok (.iload_n 1, 1) := dk_27 (dk_at dksX2_isConsistent_2 9 rfl rfl)
theorem dX2_isConsistent_55 : decode cX2_isConsistent 55 = .ok (.aload_n 0, 1) := dk_42 (dk_at dksX2_isConsistent_2 10 rfl rfl)
theorem dX2_isConsistent_56 : decode cX2_isConsistent 56 = .ok (.aload_n 3, 1) := dk_45 (dk_at dksX2_isConsistent_2 11 rfl rfl)
theorem dX2_isConsistent_57 : decode cX2_isConsistent 57 = .ok (.invokevirtual 347, 3) := dk_182 1 91 (dk_at dksX2_isConsistent_2 12 rfl rfl)
theorem dX2_isConsistent_60 : decode cX2_isConsistent 60 = .ok (.iand, 1) := dk_126 (dk_at dksX2_isConsistent_2 15 rfl rfl)
theorem dX2_isConsistent_61 : decode cX2_isConsistent 61 = .ok (.istore_n 1, 1) := dk_60 (dk_at dksX2_isConsistent_2 16 rfl rfl)
theorem dX2_isConsistent_62 : decode cX2_isConsistent 62 = .ok (.goto (-27), 3) := dk_167 255 229 (dk_at dksX2_isConsistent_2 17 rfl rfl)
theorem dX2_isConsistent_65 : decode cX2_isConsistent 65 = .ok (.iconst 0, 1) := dk_3 (dk_at dksX2_isConsistent_2 20 rfl rfl)
theorem dX2_isConsistent_66 : decode cX2_isConsistent 66 = .ok (.istore_n 2, 1) := dk_61 (dk_at dksX2_isConsistent_2 21 rfl rfl)
theorem dX2_isConsistent_67 : decode cX2_isConsistent 67 = .ok (.iload_n 2, 1) := dk_28 (dk_at dksX2_isConsistent_2 22 rfl rfl)
theorem dX2_isConsistent_68 : decode cX2_isConsistent 68 = .ok (.aload_n 0, 1) := dk_42 (dk_at dksX2_isConsistent_2 23 rfl rfl)
theorem dX2_isConsistent_69 : decode cX2_isConsistent 69 = .ok (.getfield 25, 3) := dk_180 0 25 (dk_at dksX2_isConsistent_3 0 rfl rfl)
theorem dX2_isConsistent_72 : decode cX2_isConsistent 72 = .ok (.invokevirtual 88, 3) := dk_182 0 88 (dk_at dksX2_isConsistent_3 3 rfl rfl)
theorem dX2_isConsistent_75 : decode cX2_isConsistent 75 = .ok (.if_icmp .ge 45, 3) := dk_162 0 45 (dk_at dksX2_isConsistent_3 6 rfl rfl)
theorem dX2_isConsistent_78 : decode cX2_isConsistent 78 = .ok (.iconst 0, 1) := dk_3 (dk_at dksX2_isConsistent_3 9 rfl rfl)
theorem dX2_isConsistent_79 : decode cX2_isConsistent 79 = .ok (.istore_n 3, 1) := dk_62 (dk_at dksX2_isConsistent_3 10 rfl rfl)
theorem dX2_isConsistent_80 : decode cX2_isConsistent 80 = .ok (.iload_n 3, 1) := dk_29 (dk_at dksX2_isConsistent_3 11 rfl rfl)
theorem dX2_isConsistent_81 : decode cX2_isConsistent 81 = .ok (.aload_n 0, 1) := dk_42 (dk_at dksX2_isConsistent_3 12 rfl rfl)
theorem dX2_isConsistent_82 : decode cX2_isConsistent 82 = .ok (.getfield 25, 3) := dk_180 0 25 (dk_at dksX2_isConsistent_3 13 rfl rfl)
theorem dX2_isConsistent_85 : decode cX2_isConsistent 85 = .ok (.iload_n 2, 1) := dk_28 (dk_at dksX2_isConsistent_3 16 rfl rfl)
theorem dX2_isConsistent_86 : decode cX2_isConsistent 86 = .ok (.invokevirtual 110, 3) := dk_182 0 110 (dk_at dksX2_isConsistent_3 17 rfl rfl)
theorem dX2_isConsistent_89 : decode cX2_isConsistent 89 = .ok (.checkcast 62, 3) := dk_192 0 62 (dk_at dksX2_isConsistent_3 20 rfl rfl)
theorem dX2_isConsistent_92 : decode cX2_isConsistent 92 = .ok (.getfield 333, 3) := dk_180 1 77 (dk_at dksX2_isConsistent_4 0 rfl rfl)
theorem dX2_isConsistent_95 : decode cX2_isConsistent 95 = .ok (.arraylength, 1) := dk_190 (dk_at dksX2_isConsistent_4 3 rfl rfl)
theorem dX2_isConsistent_96 : decode cX2_isConsistent 96 = .ok (.if_icmp .ge 18, 3) := dk_162 0 18 (dk_at dksX2_isConsistent_4 4 rfl rfl)
theorem dX2_isConsistent_99 : decode cX2_isConsistent 99 = .ok (.iload_n 1, 1) := dk_27 (dk_at dksX2_isConsistent_4 7 rfl rfl)
theorem dX2_isConsistent_100 : decode cX2_isConsistent 100 = .ok (.aload_n 0, 1) := dk_42 (dk_at dksX2_isConsistent_4 8 rfl rfl)
theorem dX2_isConsistent_101 : decode cX2_isConsistent 101 = .ok (.iload_n 2, 1) := dk_28 (dk_at dksX2_isConsistent_4 9 rfl rfl)
theorem dX2_isConsistent_102 : decode cX2_isConsistent 102 = .ok (.iload_n 3, 1) := dk_29 (dk_at dksX2_isConsistent_4 10 rfl rfl)
theorem dX2_isConsistent_103 : decode cX2_isConsistent 103 = .ok (.invokevirtual 351, 3) := dk_182 1 95 (dk_at dksX2_isConsistent_4 11 rfl rfl)
theorem dX2_isConsistent_106 : decode cX2_isConsistent 106 = .ok (.iand, 1) := dk_126 (dk_at dksX2_isConsistent_4 14 rfl rfl)
theorem dX2_isConsistent_107 : decode cX2_isConsistent 107 = .ok (.istore_n 1, 1) := dk_60 (dk_at dksX2_isConsistent_4 15 rfl rfl)
theorem dX2_isConsistent_108 : decode cX2_isConsistent 108 = .ok (.iinc 3 1, 3) := dk_132 3 1 (dk_at dksX2_isConsistent_4 16 rfl rfl)
theorem dX2_isConsistent_111 : decode cX2_isConsistent 111 = .ok (.goto (-31), 3) := dk_167 255 225 (dk_at dksX2_isConsistent_4 19 rfl rfl)
theorem dX2_isConsistent_114 : decode cX2_isConsistent 114 = .ok (.iinc 2 1, 3) := dk_132 2 1 (dk_at dksX2_isConsistent_5 0 rfl rfl)
theorem dX2_isConsistent_117 : decode cX2_isConsistent 117 = .ok (.goto (-50), 3) := dk_167 255 206 (dk_at dksX2_isConsistent_5 3 rfl rfl)
theorem dX2_isConsistent_120 : decode cX2_isConsistent 120 = .ok (.iload_n 1, 1) := dk_27 (dk_at dksX2_isConsistent_5 6 rfl rfl)
theorem dX2_isConsistent_121 : decode cX2_isConsistent 121 = .ok (.ireturn, 1) := dk_172 (dk_at dksX2_isConsistent_5 7 rfl rfl)
def dkwX2_rests_1 : List UInt8 := [185, 0, 52, 1, 0, 192, 0, 76, 78, 27, 45, 180, 1, 26, 96, 60, 167, 255, 230, 27, 172]
abbrev dktX2_rests_1 : List UInt8 := dkwX2_rests_1 ++ []
def dkwX2_rests_0 : List UInt8 := [3, 60, 42, 180, 0, 31, 182, 0, 42, 77, 44, 185, 0, 46, 1, 0, 153, 0, 23, 44]
abbrev dktX2_rests_0 : List UInt8 := dkwX2_rests_0 ++ dktX2_rests_1
theorem dksX2_rests_0 : cX2_rests.data.toList.drop 0 = dktX2_rests_0 := by decide +kernel
theorem dksX2_rests_1 : cX2_rests.data.toList.drop 20 = dktX2_rests_1 := dk_seg dksX2_rests_0 20 rfl rfl
theorem dX2_rests_0 : decode cX2_rests 0 = .ok (.iconst 0, 1) := dk_3 (dk_at dksX2_rests_0 0 rfl rfl)
theorem dX2_rests_1 : decode cX2_rests 1 = .ok (.istore_n 1, 1) := dk_60 (dk_at dksX2_rests_0 1 rfl rfl)
theorem dX2_rests_2 : decode cX2_rests 2 = .ok (.aload_n 0, 1) := dk_42 (dk_at dksX2_rests_0 2 rfl rfl)
theorem dX2_rests_3 : decode cX2_rests 3 = .ok (.getfield 31, 3) := dk_180 0 31 (dk_at dksX2_rests_0 3 rfl rfl)
theorem dX2_rests_6 : decode cX2_rests 6 = .ok (.invokevirtual 42, 3) := dk_182 0 42 (dk_at dksX2_rests_0 6 rfl rfl)
theorem dX2_rests_9 : decode cX2_rests 9 = .ok (.astore_n 2, 1) := dk_77 (dk_at dksX2_rests_0 9 rfl rfl)
theorem dX2_rests_10 : decode cX2_rests 10 = .ok (.aload_n 2, 1) := dk_44 (dk_at dksX2_rests_0 10 rfl rfl)
theorem dX2_rests_11 : decode cX2_rests 11 = .ok (.invokeinterface 46 1, 5) := by decide +kernel
theorem dX2_rests_16 : decode cX2_rests 16 = .ok (.ifCond .eq 23, 3) := dk_153 0 23 (dk_at dksX2_rests_0 16 rfl rfl)
theorem dX2_rests_19 : decode cX2_rests 19 = .ok (.aload_n 2, 1) := dk_44 (dk_at dksX2_rests_0 19 rfl rfl)
theorem dX2_rests_20 : decode cX2_rests 20 = .ok (.invokeinterface 52 1, 5) := by decide +kernel
theorem dX2_rests_25 : decode cX2_rests 25 = .ok (.checkcast 76, 3) := dk_192 0 76 (dk_at dksX2_rests_1 5 rfl rfl)
theorem dX2_rests_28 : decode cX2_rests 28 = .ok (.astore_n 3, 1) := dk_78 (dk_at dksX2_rests_1 8 rfl rfl)
theorem dX2_rests_29 : decode cX2_rests 29 = .ok (.iload_n 1, 1) := dk_27 (dk_at dksX2_rests_1 9 rfl rfl)
theorem dX2_rests_30 : decode cX2_rests 30 = .ok (.aload_n 3, 1) := dk_45 (dk_at dksX2_rests_1 10 rfl rfl)
theorem dX2_rests_31 : decode cX2_rests 31 = .ok (.getfield 282, 3) := dk_180 1 26 (dk_at dksX2_rests_1 11 rfl rfl)
theorem dX2_rests_34 : decode cX2_rests 34 = .ok (.iadd, 1) := dk_96 (dk_at dksX2_rests_1 14 rfl rfl)
theorem dX2_rests_35 : decode cX2_rests 35 = .ok (.istore_n 1, 1) := dk_60 (dk_at dksX2_rests_1 15 rfl rfl)
theorem dX2_rests_36 : decode cX2_rests 36 = .ok (.goto (-26), 3) := dk_167 255 230 (dk_at dksX2_rests_1 16 rfl rfl)
theorem dX2_rests_39 : decode cX2_rests 39 = .ok (.iload_n 1, 1) := dk_27 (dk_at dksX2_rests_1 19 rfl rfl)
theorem dX2_rests_40 : decode cX2_rests 40 = .ok (.ireturn, 1) := dk_172 (dk_at dksX2_rests_1 20 rfl rfl)
def dkwX2_cutLengths_2 : List UInt8 := [167, 0, 4, 3, 96, 60, 167, 255, 218, 27, 172]
abbrev dktX2_cutLengths_2 : List UInt8 := dkwX2_cutLengths_2 ++ []
def dkwX2_cutLengths_1 : List UInt8 := [185, 0, 52, 1, 0, 192, 0, 71, 78, 27, 45, 180, 0, 211, 5, 160, 0, 10, 45, 180, 1, 12]
abbrev dktX2_cutLengths_1 : List UInt8 := dkwX2_cutLengths_1 ++ dktX2_cutLengths_2
def dkwX2_cutLengths_0 : List UInt8 := [3, 60, 42, 180, 0, 28, 182, 0, 42, 77, 44, 185, 0, 46, 1, 0, 153, 0, 35, 44]
abbrev dktX2_cutLengths_0 : List UInt8 := dkwX2_cutLengths_0 ++ dktX2_cutLengths_1
theorem dksX2_cutLengths_0 : cX2_cutLengths.data.toList.drop 0 = dktX2_cutLengths_0 := by decide +kernel
theorem dksX2_cutLengths_1 : cX2_cutLengths.data.toList.drop 20 = dktX2_cutLengths_1 := dk_seg dksX2_cutLengths_0 20 rfl rfl
theorem dksX2_cutLengths_2 : cX2_cutLengths.data.toList.drop 42 = dktX2_cutLengths_2 := dk_seg dksX2_cutLengths_1 22 rfl rfl
theorem dX2_cutLengths_0 : decode cX2_cutLengths 0 = .ok (.iconst 0, 1) := dk_3 (dk_at dksX2_cutLengths_0 0 rfl rfl)
theorem dX2_cutLengths_1 : decode cX2_cutLengths 1 = .ok (.istore_n 1, 1) := dk_60 (dk_at dksX2_cutLengths_0 1 rfl rfl)
theorem dX2_cutLengths_2 : decode cX2_cutLengths 2 = .ok (.aload_n 0, 1) := dk_42 (dk_at dksX2_cutLengths_0 2 rfl rfl)
theorem dX2_cutLengths_3 : decode cX2_cutLengths 3 = .ok (.getfield 28, 3) := dk_180 0 28 (dk_at dksX2_cutLengths_0 3 rfl rfl)
theorem dX2_cutLengths_6 : decode cX2_cutLengths 6 = .ok (.invokevirtual 42, 3) := dk_182 0 42 (dk_at dksX2_cutLengths_0 6 rfl rfl)
theorem dX2_cutLengths_9 : decode cX2_cutLengths 9 = .ok (.astore_n 2, 1) := dk_77 (dk_at dksX2_cutLengths_0 9 rfl rfl)
theorem dX2_cutLengths_10 : decode cX2_cutLengths 10 = .ok (.aload_n 2, 1) := dk_44 (dk_at dksX2_cutLengths_0 10 rfl rfl)
theorem dX2_cutLengths_11 : decode cX2_cutLengths 11 = .ok (.invokeinterface 46 1, 5) := by decide +kernel
theorem dX2_cutLengths_16 : decode cX2_cutLengths 16 = .ok (.ifCond .eq 35, 3) := dk_153 0 35 (dk_at dksX2_cutLengths_0 16 rfl rfl)
theorem dX2_cutLengths_19 : decode cX2_cutLengths 19 = .ok (.aload_n 2, 1) := dk_44 (dk_at dksX2_cutLengths_0 19 rfl rfl)
theorem dX2_cutLengths_20 : decode cX2_cutLengths 20 = .ok (.invokeinterface 52 1, 5) := by decide +kernel
theorem dX2_cutLengths_25 : decode cX2_cutLengths 25 = .ok (.checkcast 71, 3) := dk_192 0 71 (dk_at dksX2_cutLengths_1 5 rfl rfl)
theorem dX2_cutLengths_28 : decode cX2_cutLengths 28 = .ok (.astore_n 3, 1) := dk_78 (dk_at dksX2_cutLengths_1 8 rfl rfl)
theorem dX2_cutLengths_29 : decode cX2_cutLengths 29 = .ok (.iload_n 1, 1) := dk_27 (dk_at dksX2_cutLengths_1 9 rfl rfl)
theorem dX2_cutLengths_30 : decode cX2_cutLengths 30 = .ok (.aload_n 3, 1) := dk_45 (dk_at dksX2_cutLengths_1 10 rfl rfl)
theorem dX2_cutLengths_31 : decode cX2_cutLengths 31 = .ok (.getfield 211, 3) := dk_180 0 211 (dk_at dksX2_cutLengths_1 11 rfl rfl)
theorem dX2_cutLengths_34 : decode cX2_cutLengths 34 = .ok (.iconst 2, 1) := dk_5 (dk_at dksX2_cutLengths_1 14 rfl rfl)
theorem dX2_cutLengths_35 : decode cX2_cutLengths 35 = .ok (.if_icmp .ne 10, 3) := dk_160 0 10 (dk_at dksX2_cutLengths_1 15 rfl rfl)
theorem dX2_cutLengths_38 : decode cX2_cutLengths 38 = .ok (.aload_n 3, 1) := dk_45 (dk_at dksX2_cutLengths_1 18 rfl rfl)
theorem dX2_cutLengths_39 : decode cX2_cutLengths 39 = .ok (.getfield 268, 3) := dk_180 1 12 (dk_at dksX2_cutLengths_1 19 rfl rfl)
theorem dX2_cutLengths_42 : decode cX2_cutLengths 42 = .ok (.goto 4, 3) := dk_167 0 4 (dk_at dksX2_cutLengths_2 0 rfl rfl)
theorem dX2_cutLengths_45 : decode cX2_cutLengths 45 = .ok (.iconst 0, 1) := dk_3 (dk_at dksX2_cutLengths_2 3 rfl rfl)
theorem dX2_cutLengths_46 : decode cX2_cutLengths 46 = .ok (.iadd, 1) := dk_96 (dk_at dksX2_cutLengths_2 4 rfl rfl)
theorem dX2_cutLengths_47 : decode cX2_cutLengths 47 = .ok (.istore_n 1, 1) := dk_60 (dk_at dksX2_cutLengths_2 5 rfl rfl)
theorem dX2_cutLengths_48 : decode cX2_cutLengths 48 = .ok (.goto (-38), 3) := dk_167 255 218 (dk_at dksX2_cutLengths_2 6 rfl rfl)
theorem dX2_cutLengths_51 : decode cX2_cutLengths 51 = .ok (.iload_n 1, 1) := dk_27 (dk_at dksX2_cutLengths_2 9 rfl rfl)
theorem dX2_cutLengths_52 : decode cX2_cutLengths 52 = .ok (.ireturn, 1) := dk_172 (dk_at dksX2_cutLengths_2 10 rfl rfl)
def dkwX2_firsts_1 : List UInt8 := [185, 0, 52, 1, 0, 192, 0, 76, 78, 27, 45, 180, 1, 59, 96, 60, 167, 255, 230, 27, 172]
abbrev dktX2_firsts_1 : List UInt8 := dkwX2_firsts_1 ++ []
def dkwX2_firsts_0 : List UInt8 := [3, 60, 42, 180, 0, 31, 182, 0, 42, 77, 44, 185, 0, 46, 1, 0, 153, 0, 23, 44]
abbrev dktX2_firsts_0 : List UInt8 := dkwX2_firsts_0 ++ dktX2_firsts_1
theorem dksX2_firsts_0 : cX2_firsts.data.toList.drop 0 = dktX2_firsts_0 := by decide +kernel
theorem dksX2_firsts_1 : cX2_firsts.data.toList.drop 20 = dktX2_firsts_1 := dk_seg dksX2_firsts_0 20 rfl rfl
theorem dX2_firsts_0 : decode cX2_firsts 0 = .ok (.iconst 0, 1) := dk_3 (dk_at dksX2_firsts_0 0 rfl rfl)
theorem dX2_firsts_1 : decode cX2_firsts 1 = .ok (.istore_n 1, 1) := dk_60 (dk_at dksX2_firsts_0 1 rfl rfl)
theorem dX2_firsts_2 : decode cX2_firsts 2 = .ok (.aload_n 0, 1) := dk_42 (dk_at dksX2_firsts_0 2 rfl rfl)
theorem dX2_firsts_3 : decode cX2_firsts 3 = .ok (.getfield 31, 3) := dk_180 0 31 (dk_at dksX2_firsts_0 3 rfl rfl)
theorem dX2_firsts_6 : decode cX2_firsts 6 = .ok (.invokevirtual 42, 3) := dk_182 0 42 (dk_at dksX2_firsts_0 6 rfl rfl)
theorem dX2_firsts_9 : decode cX2_firsts 9 = .ok (.astore_n 2, 1) := dk_77 (dk_at dksX2_firsts_0 9 rfl rfl)
theorem dX2_firsts_10 : decode cX2_firsts 10 = .ok (.aload_n 2, 1) := dk_44 (dk_at dksX2_firsts_0 10 rfl rfl)
theorem dX2_firsts_11 : decode cX2_firsts 11 = .ok (.invokeinterface 46 1, 5) := by decide +kernel
theorem dX2_firsts_16 : decode cX2_firsts 16 = .ok (.ifCond .eq 23, 3) := dk_153 0 23 (dk_at dksX2_firsts_0 16 rfl rfl)
theorem dX2_firsts_19 : decode cX2_firsts 19 = .ok (.aload_n 2, 1) := dk_44 (dk_at dksX2_firsts_0 19 rfl rfl)
theorem dX2_firsts_20 : decode cX2_firsts 20 = .ok (.invokeinterface 52 1, 5) := by decide +kernel
theorem dX2_firsts_25 : decode cX2_firsts 25 = .ok (.checkcast 76, 3) := dk_192 0 76 (dk_at dksX2_firsts_1 5 rfl rfl)
theorem dX2_firsts_28 : decode cX2_firsts 28 = .ok (.astore_n 3, 1) := dk_78 (dk_at dksX2_firsts_1 8 rfl rfl)
theorem dX2_firsts_29 : decode cX2_firsts 29 = .ok (.iload_n 1, 1) := dk_27 (dk_at dksX2_firsts_1 9 rfl rfl)
theorem dX2_firsts_30 : decode cX2_firsts 30 = .ok (.aload_n 3, 1) := dk_45 (dk_at dksX2_firsts_1 10 rfl rfl)
theorem dX2_firsts_31 : decode cX2_firsts 31 = .ok (.getfield 315, 3) := dk_180 1 59 (dk_at dksX2_firsts_1 11 rfl rfl)
theorem dX2_firsts_34 : decode cX2_firsts 34 = .ok (.iadd, 1) := dk_96 (dk_at dksX2_firsts_1 14 rfl rfl)
theorem dX2_firsts_35 : decode cX2_firsts 35 = .ok (.istore_n 1, 1) := dk_60 (dk_at dksX2_firsts_1 15 rfl rfl)
theorem dX2_firsts_36 : decode cX2_firsts 36 = .ok (.goto (-26), 3) := dk_167 255 230 (dk_at dksX2_firsts_1 16 rfl rfl)
theorem dX2_firsts_39 : decode cX2_firsts 39 = .ok (.iload_n 1, 1) := dk_27 (dk_at dksX2_firsts_1 19 rfl rfl)
theorem dX2_firsts_40 : decode cX2_firsts 40 = .ok (.ireturn, 1) := dk_172 (dk_at dksX2_firsts_1 20 rfl rfl)
def dkwX2_leads_4 : List UInt8 := [167, 0, 4, 3, 172]
abbrev dktX2_leads_4 : List UInt8 := dkwX2_leads_4 ++ []
def dkwX2_leads_3 : List UInt8 := [154, 0, 13, 43, 180, 0, 225, 182, 1, 65, 167, 0, 16, 28, 43, 180, 0, 240, 160, 0, 7, 4]
abbrev dktX2_leads_3 : List UInt8 := dkwX2_leads_3 ++ dktX2_leads_4
def dkwX2_leads_2 : List UInt8 := [25, 4, 180, 0, 254, 182, 0, 110, 192, 0, 62, 28, 182, 1, 62, 61, 167, 255, 207, 43, 180, 0, 211]
abbrev dktX2_leads_2 : List UInt8 := dkwX2_leads_2 ++ dktX2_leads_3
def dkwX2_leads_1 : List UInt8 := [185, 0, 52, 1, 0, 192, 0, 228, 58, 4, 28, 2, 160, 0, 7, 2, 167, 0, 22, 42, 180, 0, 25]
abbrev dktX2_leads_1 : List UInt8 := dkwX2_leads_1 ++ dktX2_leads_2
def dkwX2_leads_0 : List UInt8 := [43, 180, 0, 237, 61, 43, 180, 0, 225, 182, 0, 42, 78, 45, 185, 0, 46, 1, 0, 153, 0, 46, 45]
abbrev dktX2_leads_0 : List UInt8 := dkwX2_leads_0 ++ dktX2_leads_1
theorem dksX2_leads_0 : cX2_leads.data.toList.drop 0 = dktX2_leads_0 := by decide +kernel
theorem dksX2_leads_1 : cX2_leads.data.toList.drop 23 = dktX2_leads_1 := dk_seg dksX2_leads_0 23 rfl rfl
theorem dksX2_leads_2 : cX2_leads.data.toList.drop 46 = dktX2_leads_2 := dk_seg dksX2_leads_1 23 rfl rfl
theorem dksX2_leads_3 : cX2_leads.data.toList.drop 69 = dktX2_leads_3 := dk_seg dksX2_leads_2 23 rfl rfl
theorem dksX2_leads_4 : cX2_leads.data.toList.drop 91 = dktX2_leads_4 := dk_seg dksX2_leads_3 22 rfl rfl
theorem dX2_leads_0 : decode cX2_leads 0 = .ok (.aload_n 1, 1) := dk_43 (dk_at dksX2_leads_0 0 rfl rfl)
theorem dX2_leads_1 : decode cX2_leads 1 = .ok (.getfield 237, 3) := dk_180 0 237 (dk_at dksX2_leads_0 1 rfl rfl)
theorem dX2_leads_4 : decode cX2_leads 4 = .ok (.istore_n 2, 1) := dk_61 (dk_at dksX2_leads_0 4 rfl rfl)
theorem dX2_leads_5 : decode cX2_leads 5 = .ok (.aload_n 1, 1) := dk_43 (dk_at dksX2_leads_0 5 rfl rfl)
theorem dX2_leads_6 : decode cX2_leads 6 = .ok (.getfield 225, 3) := dk_180 0 225 (dk_at dksX2_leads_0 6 rfl rfl)
theorem dX2_leads_9 : decode cX2_leads 9 = .ok (.invokevirtual 42, 3) := dk_182 0 42 (dk_at dksX2_leads_0 9 rfl rfl)
theorem dX2_leads_12 : decode cX2_leads 12 = .ok (.astore_n 3, 1) := dk_78 (dk_at dksX2_leads_0 12 rfl rfl)
theorem dX2_leads_13 : decode cX2_leads 13 = .ok (.aload_n 3, 1) := dk_45 (dk_at dksX2_leads_0 13 rfl rfl)
theorem dX2_leads_14 : decode cX2_leads 14 = .ok (.invokeinterface 46 1, 5) := by decide +kernel
theorem dX2_leads_19 : decode cX2_leads 19 = .ok (.ifCond .eq 46, 3) := dk_153 0 46 (dk_at dksX2_leads_0 19 rfl rfl)
theorem dX2_leads_22 : decode cX2_leads 22 = .ok (.aload_n 3, 1) := dk_45 (dk_at dksX2_leads_0 22 rfl rfl)
theorem dX2_leads_23 : decode cX2_leads 23 = .ok (.invokeinterface 52 1, 5) := by decide +kernel
theorem dX2_leads_28 : decode cX2_leads 28 = .ok (.checkcast 228, 3) := dk_192 0 228 (dk_at dksX2_leads_1 5 rfl rfl)
theorem dX2_leads_31 : decode cX2_leads 31 = .ok (.astore 4, 2) := dk_58 4 (dk_at dksX2_leads_1 8 rfl rfl)
theorem dX2_leads_33 : decode cX2_leads 33 = .ok (.iload_n 2, 1) := dk_28 (dk_at dksX2_leads_1 10 rfl rfl)
theorem dX2_leads_34 : decode cX2_leads 34 = .ok (.iconst (-1), 1) := dk_2 (dk_at dksX2_leads_1 11 rfl rfl)
theorem dX2_leads_35 : decode cX2_leads 35 = .ok (.if_icmp .ne 7, 3) := dk_160 0 7 (dk_at dksX2_leads_1 12 rfl rfl)
theorem dX2_leads_38 : decode cX2_leads 38 = .ok (.iconst (-1), 1) := dk_2 (dk_at dksX2_leads_1 15 rfl rfl)
theorem dX2_leads_39 : decode cX2_leads 39 = .ok (.goto 22, 3) := dk_167 0 22 (dk_at dksX2_leads_1 16 rfl rfl)
theorem dX2_leads_42 : decode cX2_leads 42 = .ok (.aload_n 0, 1) := dk_42 (dk_at dksX2_leads_1 19 rfl rfl)
theorem dX2_leads_43 : decode cX2_leads 43 = .ok (.getfield 25, 3) := dk_180 0 25 (dk_at dksX2_leads_1 20 rfl rfl)
theorem dX2_leads_46 : decode cX2_leads 46 = .ok (.aload 4, 2) := dk_25 4 (dk_at dksX2_leads_2 0 rfl rfl)
theorem dX2_leads_48 : decode cX2_leads 48 = .ok (.getfield 254, 3) := dk_180 0 254 (dk_at dksX2_leads_2 2 rfl rfl)
theorem dX2_leads_51 : decode cX2_leads 51 = .ok (.invokevirtual 110, 3) := dk_182 0 110 (dk_at dksX2_leads_2 5 rfl rfl)
theorem dX2_leads_54 : decode cX2_leads 54 = .ok (.checkcast 62, 3) := dk_192 0 62 (dk_at dksX2_leads_2 8 rfl rfl)
theorem dX2_leads_57 : decode cX2_leads 57 = .ok (.iload_n 2, 1) := dk_28 (dk_at dksX2_leads_2 11 rfl rfl)
theorem dX2_leads_58 : decode cX2_leads 58 = .ok (.invokevirtual 318, 3) := dk_182 1 62 (dk_at dksX2_leads_2 12 rfl rfl)
theorem dX2_leads_61 : decode cX2_leads 61 = .ok (.istore_n 2, 1) := dk_61 (dk_at dksX2_leads_2 15 rfl rfl)
theorem dX2_leads_62 : decode cX2_leads 62 = .ok (.goto (-49), 3) := dk_167 255 207 (dk_at dksX2_leads_2 16 rfl rfl)
theorem dX2_leads_65 : decode cX2_leads 65 = .ok (.aload_n 1, 1) := dk_43 (dk_at dksX2_leads_2 19 rfl rfl)
theorem dX2_leads_66 : decode cX2_leads 66 = .ok (.getfield 211, 3) := dk_180 0 211 (dk_at dksX2_leads_2 20 rfl rfl)
theorem dX2_leads_69 : decode cX2_leads 69 = .ok (.ifCond .ne 13, 3) := dk_154 0 13 (dk_at dksX2_leads_3 0 rfl rfl)
theorem dX2_leads_72 : decode cX2_leads 72 = .ok (.aload_n 1, 1) := dk_43 (dk_at dksX2_leads_3 3 rfl rfl)
theorem dX2_leads_73 : decode cX2_leads 73 = .ok (.getfield 225, 3) := dk_180 0 225 (dk_at dksX2_leads_3 4 rfl rfl)
theorem dX2_leads_76 : decode cX2_leads 76 = .ok (.invokevirtual 321, 3) := dk_182 1 65 (dk_at dksX2_leads_3 7 rfl rfl)
theorem dX2_leads_79 : decode cX2_leads 79 = .ok (.goto 16, 3) := dk_167 0 16 (dk_at dksX2_leads_3 10 rfl rfl)
theorem dX2_leads_82 : decode cX2_leads 82 = .ok (.iload_n 2, 1) := dk_28 (dk_at dksX2_leads_3 13 rfl rfl)
theorem dX2_leads_83 : decode cX2_leads 83 = .ok (.aload_n 1, 1) := dk_43 (dk_at dksX2_leads_3 14 rfl rfl)
theorem dX2_leads_84 : decode cX2_leads 84 = .ok (.getfield 240, 3) := dk_180 0 240 (dk_at dksX2_leads_3 15 rfl rfl)
theorem dX2_leads_87 : decode cX2_leads 87 = .ok (.if_icmp .ne 7, 3) := dk_160 0 7 (dk_at dksX2_leads_3 18 rfl rfl)
theorem dX2_leads_90 : decode cX2_leads 90 = .ok (.iconst 1, 1) := dk_4 (dk_at dksX2_leads_3 21 rfl rfl)
theorem dX2_leads_91 : decode cX2_leads 91 = .ok (.goto 4, 3) := dk_167 0 4 (dk_at dksX2_leads_4 0 rfl rfl)
theorem dX2_leads_94 : decode cX2_leads 94 = .ok (.iconst 0, 1) := dk_3 (dk_at dksX2_leads_4 3 rfl rfl)
theorem dX2_leads_95 : decode cX2_leads 95 = .ok (.ireturn, 1) := dk_172 (dk_at dksX2_leads_4 4 rfl rfl)
def dkwX2_holds_6 : List UInt8 := [46, 160, 0, 7, 4, 167, 0, 4, 3, 172]
abbrev dktX2_holds_6 : List UInt8 := dkwX2_holds_6 ++ []
def dkwX2_holds_5 : List UInt8 := [167, 255, 156, 21, 4, 153, 0, 27, 29, 42, 180, 0, 25, 27, 182, 0, 110, 192, 0, 62, 180, 1, 80, 28]
abbrev dktX2_holds_5 : List UInt8 := dkwX2_holds_5 ++ dktX2_holds_6
def dkwX2_holds_4 : List UInt8 := [182, 0, 110, 192, 0, 62, 180, 1, 77, 28, 46, 160, 0, 7, 4, 167, 0, 4, 3, 126, 54, 4]
abbrev dktX2_holds_4 : List UInt8 := dkwX2_holds_4 ++ dktX2_holds_5
def dkwX2_holds_3 : List UInt8 := [180, 0, 12, 25, 6, 180, 0, 235, 182, 0, 110, 192, 0, 56, 180, 1, 74, 42, 180, 0, 25, 27]
abbrev dktX2_holds_3 : List UInt8 := dkwX2_holds_3 ++ dktX2_holds_4
def dkwX2_holds_2 : List UInt8 := [180, 0, 12, 25, 6, 180, 0, 235, 182, 0, 110, 192, 0, 56, 180, 1, 71, 96, 62, 21, 4, 42]
abbrev dktX2_holds_2 : List UInt8 := dkwX2_holds_2 ++ dktX2_holds_3
def dkwX2_holds_1 : List UInt8 := [25, 5, 185, 0, 52, 1, 0, 192, 0, 71, 58, 6, 25, 6, 27, 182, 1, 68, 28, 160, 0, 71, 29, 42]
abbrev dktX2_holds_1 : List UInt8 := dkwX2_holds_1 ++ dktX2_holds_2
def dkwX2_holds_0 : List UInt8 := [3, 62, 4, 54, 4, 42, 180, 0, 28, 182, 0, 42, 58, 5, 25, 5, 185, 0, 46, 1, 0, 153, 0, 96]
abbrev dktX2_holds_0 : List UInt8 := dkwX2_holds_0 ++ dktX2_holds_1
theorem dksX2_holds_0 : cX2_holds.data.toList.drop 0 = dktX2_holds_0 := by decide +kernel
theorem dksX2_holds_1 : cX2_holds.data.toList.drop 24 = dktX2_holds_1 := dk_seg dksX2_holds_0 24 rfl rfl
theorem dksX2_holds_2 : cX2_holds.data.toList.drop 48 = dktX2_holds_2 := dk_seg dksX2_holds_1 24 rfl rfl
theorem dksX2_holds_3 : cX2_holds.data.toList.drop 70 = dktX2_holds_3 := dk_seg dksX2_holds_2 22 rfl rfl
theorem dksX2_holds_4 : cX2_holds.data.toList.drop 92 = dktX2_holds_4 := dk_seg dksX2_holds_3 22 rfl rfl
theorem dksX2_holds_5 : cX2_holds.data.toList.drop 114 = dktX2_holds_5 := dk_seg dksX2_holds_4 22 rfl rfl
theorem dksX2_holds_6 : cX2_holds.data.toList.drop 138 = dktX2_holds_6 := dk_seg dksX2_holds_5 24 rfl rfl
theorem dX2_holds_0 : decode cX2_holds 0 = .ok (.iconst 0, 1) := dk_3 (dk_at dksX2_holds_0 0 rfl rfl)
theorem dX2_holds_1 : decode cX2_holds 1 = .ok (.istore_n 3, 1) := dk_62 (dk_at dksX2_holds_0 1 rfl rfl)
theorem dX2_holds_2 : decode cX2_holds 2 = .ok (.iconst 1, 1) := dk_4 (dk_at dksX2_holds_0 2 rfl rfl)
theorem dX2_holds_3 : decode cX2_holds 3 = .ok (.istore 4, 2) := dk_54 4 (dk_at dksX2_holds_0 3 rfl rfl)
theorem dX2_holds_5 : decode cX2_holds 5 = .ok (.aload_n 0, 1) := dk_42 (dk_at dksX2_holds_0 5 rfl rfl)
theorem dX2_holds_6 : decode cX2_holds 6 = .ok (.getfield 28, 3) := dk_180 0 28 (dk_at dksX2_holds_0 6 rfl rfl)
theorem dX2_holds_9 : decode cX2_holds 9 = .ok (.invokevirtual 42, 3) := dk_182 0 42 (dk_at dksX2_holds_0 9 rfl rfl)
theorem dX2_holds_12 : decode cX2_holds 12 = .ok (.astore 5, 2) := dk_58 5 (dk_at dksX2_holds_0 12 rfl rfl)
theorem dX2_holds_14 : decode cX2_holds 14 = .ok (.aload 5, 2) := dk_25 5 (dk_at dksX2_holds_0 14 rfl rfl)
theorem dX2_holds_16 : decode cX2_holds 16 = .ok (.invokeinterface 46 1, 5) := by decide +kernel
theorem dX2_holds_21 : decode cX2_holds 21 = .ok (.ifCond .eq 96, 3) := dk_153 0 96 (dk_at dksX2_holds_0 21 rfl rfl)
theorem dX2_holds_24 : decode cX2_holds 24 = .ok (.aload 5, 2) := dk_25 5 (dk_at dksX2_holds_1 0 rfl rfl)
theorem dX2_holds_26 : decode cX2_holds 26 = .ok (.invokeinterface 52 1, 5) := by decide +kernel
theorem dX2_holds_31 : decode cX2_holds 31 = .ok (.checkcast 71, 3) := dk_192 0 71 (dk_at dksX2_holds_1 7 rfl rfl)
theorem dX2_holds_34 : decode cX2_holds 34 = .ok (.astore 6, 2) := dk_58 6 (dk_at dksX2_holds_1 10 rfl rfl)
theorem dX2_holds_36 : decode cX2_holds 36 = .ok (.aload 6, 2) := dk_25 6 (dk_at dksX2_holds_1 12 rfl rfl)
theorem dX2_holds_38 : decode cX2_holds 38 = .ok (.iload_n 1, 1) := dk_27 (dk_at dksX2_holds_1 14 rfl rfl)
theorem dX2_holds_39 : decode cX2_holds 39 = .ok (.invokevirtual 324, 3) := dk_182 1 68 (dk_at dksX2_holds_1 15 rfl rfl)
theorem dX2_holds_42 : decode cX2_holds 42 = .ok (.iload_n 2, 1) := dk_28 (dk_at dksX2_holds_1 18 rfl rfl)
theorem dX2_holds_43 : decode cX2_holds 43 = .ok (.if_icmp .ne 71, 3) := dk_160 0 71 (dk_at dksX2_holds_1 19 rfl rfl)
theorem dX2_holds_46 : decode cX2_holds 46 = .ok (.iload_n 3, 1) := dk_29 (dk_at dksX2_holds_1 22 rfl rfl)
theorem dX2_holds_47 : decode cX2_holds 47 = .ok (.aload_n 0, 1) := dk_42 (dk_at dksX2_holds_1 23 rfl rfl)
theorem dX2_holds_48 : decode cX2_holds 48 = .ok (.getfield 12, 3) := dk_180 0 12 (dk_at dksX2_holds_2 0 rfl rfl)
theorem dX2_holds_51 : decode cX2_holds 51 = .ok (.aload 6, 2) := dk_25 6 (dk_at dksX2_holds_2 3 rfl rfl)
theorem dX2_holds_53 : decode cX2_holds 53 = .ok (.getfield 235, 3) := dk_180 0 235 (dk_at dksX2_holds_2 5 rfl rfl)
theorem dX2_holds_56 : decode cX2_holds 56 = .ok (.invokevirtual 110, 3) := dk_182 0 110 (dk_at dksX2_holds_2 8 rfl rfl)
theorem dX2_holds_59 : decode cX2_holds 59 = .ok (.checkcast 56, 3) := dk_192 0 56 (dk_at dksX2_holds_2 11 rfl rfl)
theorem dX2_holds_62 : decode cX2_holds 62 = .ok (.getfield 327, 3) := dk_180 1 71 (dk_at dksX2_holds_2 14 rfl rfl)
theorem dX2_holds_65 : decode cX2_holds 65 = .ok (.iadd, 1) := dk_96 (dk_at dksX2_holds_2 17 rfl rfl)
theorem dX2_holds_66 : decode cX2_holds 66 = .ok (.istore_n 3, 1) := dk_62 (dk_at dksX2_holds_2 18 rfl rfl)
theorem dX2_holds_67 : decode cX2_holds 67 = .ok (.iload 4, 2) := dk_21 4 (dk_at dksX2_holds_2 19 rfl rfl)
theorem dX2_holds_69 : decode cX2_holds 69 = .ok (.aload_n 0, 1) := dk_42 (dk_at dksX2_holds_2 21 rfl rfl)
theorem dX2_holds_70 : decode cX2_holds 70 = .ok (.getfield 12, 3) := dk_180 0 12 (dk_at dksX2_holds_3 0 rfl rfl)
theorem dX2_holds_73 : decode cX2_holds 73 = .ok (.aload 6, 2) := dk_25 6 (dk_at dksX2_holds_3 3 rfl rfl)
theorem dX2_holds_75 : decode cX2_holds 75 = .ok (.getfield 235, 3) := dk_180 0 235 (dk_at dksX2_holds_3 5 rfl rfl)
theorem dX2_holds_78 : decode cX2_holds 78 = .ok (.invokevirtual 110, 3) := dk_182 0 110 (dk_at dksX2_holds_3 8 rfl rfl)
theorem dX2_holds_81 : decode cX2_holds 81 = .ok (.checkcast 56, 3) := dk_192 0 56 (dk_at dksX2_holds_3 11 rfl rfl)
theorem dX2_holds_84 : decode cX2_holds 84 = .ok (.getfield 330, 3) := dk_180 1 74 (dk_at dksX2_holds_3 14 rfl rfl)
theorem dX2_holds_87 : decode cX2_holds 87 = .ok (.aload_n 0, 1) := dk_42 (dk_at dksX2_holds_3 17 rfl rfl)
theorem dX2_holds_88 : decode cX2_holds 88 = .ok (.getfield 25, 3) := dk_180 0 25 (dk_at dksX2_holds_3 18 rfl rfl)
theorem dX2_holds_91 : decode cX2_holds 91 = .ok (.iload_n 1, 1) := dk_27 (dk_at dksX2_holds_3 21 rfl rfl)
theorem dX2_holds_92 : decode cX2_holds 92 = .ok (.invokevirtual 110, 3) := dk_182 0 110 (dk_at dksX2_holds_4 0 rfl rfl)
theorem dX2_holds_95 : decode cX2_holds 95 = .ok (.checkcast 62, 3) := dk_192 0 62 (dk_at dksX2_holds_4 3 rfl rfl)
theorem dX2_holds_98 : decode cX2_holds 98 = .ok (.getfield 333, 3) := dk_180 1 77 (dk_at dksX2_holds_4 6 rfl rfl)
theorem dX2_holds_101 : decode cX2_holds 101 = .ok (.iload_n 2, 1) := dk_28 (dk_at dksX2_holds_4 9 rfl rfl)
theorem dX2_holds_102 : decode cX2_holds 102 = .ok (.iaload, 1) := dk_46 (dk_at dksX2_holds_4 10 rfl rfl)
theorem dX2_holds_103 : decode cX2_holds 103 = .ok (.if_icmp .ne 7, 3) := dk_160 0 7 (dk_at dksX2_holds_4 11 rfl rfl)
theorem dX2_holds_106 : decode cX2_holds 106 = .ok (.iconst 1, 1) := dk_4 (dk_at dksX2_holds_4 14 rfl rfl)
theorem dX2_holds_107 : decode cX2_holds 107 = .ok (.goto 4, 3) := dk_167 0 4 (dk_at dksX2_holds_4 15 rfl rfl)
theorem dX2_holds_110 : decode cX2_holds 110 = .ok (.iconst 0, 1) := dk_3 (dk_at dksX2_holds_4 18 rfl rfl)
theorem dX2_holds_111 : decode cX2_holds 111 = .ok (.iand, 1) := dk_126 (dk_at dksX2_holds_4 19 rfl rfl)
theorem dX2_holds_112 : decode cX2_holds 112 = .ok (.istore 4, 2) := dk_54 4 (dk_at dksX2_holds_4 20 rfl rfl)
theorem dX2_holds_114 : decode cX2_holds 114 = .ok (.goto (-100), 3) := dk_167 255 156 (dk_at dksX2_holds_5 0 rfl rfl)
theorem dX2_holds_117 : decode cX2_holds 117 = .ok (.iload 4, 2) := dk_21 4 (dk_at dksX2_holds_5 3 rfl rfl)
theorem dX2_holds_119 : decode cX2_holds 119 = .ok (.ifCond .eq 27, 3) := dk_153 0 27 (dk_at dksX2_holds_5 5 rfl rfl)
theorem dX2_holds_122 : decode cX2_holds 122 = .ok (.iload_n 3, 1) := dk_29 (dk_at dksX2_holds_5 8 rfl rfl)
theorem dX2_holds_123 : decode cX2_holds 123 = .ok (.aload_n 0, 1) := dk_42 (dk_at dksX2_holds_5 9 rfl rfl)
theorem dX2_holds_124 : decode cX2_holds 124 = .ok (.getfield 25, 3) := dk_180 0 25 (dk_at dksX2_holds_5 10 rfl rfl)
theorem dX2_holds_127 : decode cX2_holds 127 = .ok (.iload_n 1, 1) := dk_27 (dk_at dksX2_holds_5 13 rfl rfl)
theorem dX2_holds_128 : decode cX2_holds 128 = .ok (.invokevirtual 110, 3) := dk_182 0 110 (dk_at dksX2_holds_5 14 rfl rfl)
theorem dX2_holds_131 : decode cX2_holds 131 = .ok (.checkcast 62, 3) := dk_192 0 62 (dk_at dksX2_holds_5 17 rfl rfl)
theorem dX2_holds_134 : decode cX2_holds 134 = .ok (.getfield 336, 3) := dk_180 1 80 (dk_at dksX2_holds_5 20 rfl rfl)
theorem dX2_holds_137 : decode cX2_holds 137 = .ok (.iload_n 2, 1) := dk_28 (dk_at dksX2_holds_5 23 rfl rfl)
theorem dX2_holds_138 : decode cX2_holds 138 = .ok (.iaload, 1) := dk_46 (dk_at dksX2_holds_6 0 rfl rfl)
theorem dX2_holds_139 : decode cX2_holds 139 = .ok (.if_icmp .ne 7, 3) := dk_160 0 7 (dk_at dksX2_holds_6 1 rfl rfl)
theorem dX2_holds_142 : decode cX2_holds 142 = .ok (.iconst 1, 1) := dk_4 (dk_at dksX2_holds_6 4 rfl rfl)
theorem dX2_holds_143 : decode cX2_holds 143 = .ok (.goto 4, 3) := dk_167 0 4 (dk_at dksX2_holds_6 5 rfl rfl)
theorem dX2_holds_146 : decode cX2_holds 146 = .ok (.iconst 0, 1) := dk_3 (dk_at dksX2_holds_6 8 rfl rfl)
theorem dX2_holds_147 : decode cX2_holds 147 = .ok (.ireturn, 1) := dk_172 (dk_at dksX2_holds_6 9 rfl rfl)
def dkwX2_copy_8 : List UInt8 := [181, 0, 38, 43, 42, 180, 0, 81, 181, 0, 81, 43, 176]
abbrev dktX2_copy_8 : List UInt8 := dkwX2_copy_8 ++ []
def dkwX2_copy_7 : List UInt8 := [182, 0, 78, 182, 0, 68, 54, 4, 167, 255, 224, 43, 42, 180, 0, 34, 181, 0, 34, 43, 42, 180, 0, 38]
abbrev dktX2_copy_7 : List UInt8 := dkwX2_copy_7 ++ dktX2_copy_8
def dkwX2_copy_6 : List UInt8 := [185, 0, 46, 1, 0, 153, 0, 29, 44, 185, 0, 52, 1, 0, 192, 0, 76, 78, 43, 180, 0, 31, 45]
abbrev dktX2_copy_6 : List UInt8 := dkwX2_copy_6 ++ dktX2_copy_7
def dkwX2_copy_5 : List UInt8 := [180, 0, 28, 45, 182, 0, 73, 182, 0, 68, 54, 4, 167, 255, 224, 42, 180, 0, 31, 182, 0, 42, 77, 44]
abbrev dktX2_copy_5 : List UInt8 := dkwX2_copy_5 ++ dktX2_copy_6
def dkwX2_copy_4 : List UInt8 := [182, 0, 42, 77, 44, 185, 0, 46, 1, 0, 153, 0, 29, 44, 185, 0, 52, 1, 0, 192, 0, 71, 78, 43]
abbrev dktX2_copy_4 : List UInt8 := dkwX2_copy_4 ++ dktX2_copy_5
def dkwX2_copy_3 : List UInt8 := [192, 0, 62, 78, 43, 180, 0, 25, 45, 182, 0, 64, 182, 0, 68, 54, 4, 167, 255, 224, 42, 180, 0, 28]
abbrev dktX2_copy_3 : List UInt8 := dkwX2_copy_3 ++ dktX2_copy_4
def dkwX2_copy_2 : List UInt8 := [180, 0, 25, 182, 0, 42, 77, 44, 185, 0, 46, 1, 0, 153, 0, 29, 44, 185, 0, 52, 1, 0]
abbrev dktX2_copy_2 : List UInt8 := dkwX2_copy_2 ++ dktX2_copy_3
def dkwX2_copy_1 : List UInt8 := [153, 0, 21, 44, 185, 0, 52, 1, 0, 192, 0, 56, 78, 43, 45, 182, 0, 58, 167, 255, 232, 42]
abbrev dktX2_copy_1 : List UInt8 := dkwX2_copy_1 ++ dktX2_copy_2
def dkwX2_copy_0 : List UInt8 := [187, 0, 13, 89, 183, 0, 41, 76, 42, 180, 0, 12, 182, 0, 42, 77, 44, 185, 0, 46, 1, 0]
abbrev dktX2_copy_0 : List UInt8 := dkwX2_copy_0 ++ dktX2_copy_1
theorem dksX2_copy_0 : cX2_copy.data.toList.drop 0 = dktX2_copy_0 := by decide +kernel
theorem dksX2_copy_1 : cX2_copy.data.toList.drop 22 = dktX2_copy_1 := dk_seg dksX2_copy_0 22 rfl rfl
theorem dksX2_copy_2 : cX2_copy.data.toList.drop 44 = dktX2_copy_2 := dk_seg dksX2_copy_1 22 rfl rfl
theorem dksX2_copy_3 : cX2_copy.data.toList.drop 66 = dktX2_copy_3 := dk_seg dksX2_copy_2 22 rfl rfl
theorem dksX2_copy_4 : cX2_copy.data.toList.drop 90 = dktX2_copy_4 := dk_seg dksX2_copy_3 24 rfl rfl
theorem dksX2_copy_5 : cX2_copy.data.toList.drop 114 = dktX2_copy_5 := dk_seg dksX2_copy_4 24 rfl rfl
theorem dksX2_copy_6 : cX2_copy.data.toList.drop 138 = dktX2_copy_6 := dk_seg dksX2_copy_5 24 rfl rfl
theorem dksX2_copy_7 : cX2_copy.data.toList.drop 161 = dktX2_copy_7 := dk_seg dksX2_copy_6 23 rfl rfl
theorem dksX2_copy_8 : cX2_copy.data.toList.drop 185 = dktX2_copy_8 := dk_seg dksX2_copy_7 24 rfl rfl
theorem dX2_copy_0 : decode cX2_copy 0 = .ok (.new 13, 3) := dk_187 0 13 (dk_at dksX2_copy_0 0 rfl rfl)
theorem dX2_copy_3 : decode cX2_copy 3 = .ok (.dup, 1) := dk_89 (dk_at dksX2_copy_0 3 rfl rfl)
theorem dX2_copy_4 : decode cX2_copy 4 = .ok (.invokespecial 41, 3) := dk_183 0 41 (dk_at dksX2_copy_0 4 rfl rfl)
theorem dX2_copy_7 : decode cX2_copy 7 = .ok (.astore_n 1, 1) := dk_76 (dk_at dksX2_copy_0 7 rfl rfl)
theorem dX2_copy_8 : decode cX2_copy 8 = .ok (.aload_n 0, 1) := dk_42 (dk_at dksX2_copy_0 8 rfl rfl)
theorem dX2_copy_9 : decode cX2_copy 9 = .ok (.getfield 12, 3) := dk_180 0 12 (dk_at dksX2_copy_0 9 rfl rfl)
theorem dX2_copy_12 : decode cX2_copy 12 = .ok (.invokevirtual 42, 3) := dk_182 0 42 (dk_at dksX2_copy_0 12 rfl rfl)
theorem dX2_copy_15 : decode cX2_copy 15 = .ok (.astore_n 2, 1) := dk_77 (dk_at dksX2_copy_0 15 rfl rfl)
theorem dX2_copy_16 : decode cX2_copy 16 = .ok (.aload_n 2, 1) := dk_44 (dk_at dksX2_copy_0 16 rfl rfl)
theorem dX2_copy_17 : decode cX2_copy 17 = .ok (.invokeinterface 46 1, 5) := by decide +kernel
theorem dX2_copy_22 : decode cX2_copy 22 = .ok (.ifCond .eq 21, 3) := dk_153 0 21 (dk_at dksX2_copy_1 0 rfl rfl)
theorem dX2_copy_25 : decode cX2_copy 25 = .ok (.aload_n 2, 1) := dk_44 (dk_at dksX2_copy_1 3 rfl rfl)
theorem dX2_copy_26 : decode cX2_copy 26 = .ok (.invokeinterface 52 1, 5) := by decide +kernel
theorem dX2_copy_31 : decode cX2_copy 31 = .ok (.checkcast 56, 3) := dk_192 0 56 (dk_at dksX2_copy_1 9 rfl rfl)
theorem dX2_copy_34 : decode cX2_copy 34 = .ok (.astore_n 3, 1) := dk_78 (dk_at dksX2_copy_1 12 rfl rfl)
theorem dX2_copy_35 : decode cX2_copy 35 = .ok (.aload_n 1, 1) := dk_43 (dk_at dksX2_copy_1 13 rfl rfl)
theorem dX2_copy_36 : decode cX2_copy 36 = .ok (.aload_n 3, 1) := dk_45 (dk_at dksX2_copy_1 14 rfl rfl)
theorem dX2_copy_37 : decode cX2_copy 37 = .ok (.invokevirtual 58, 3) := dk_182 0 58 (dk_at dksX2_copy_1 15 rfl rfl)
theorem dX2_copy_40 : decode cX2_copy 40 = .ok (.goto (-24), 3) := dk_167 255 232 (dk_at dksX2_copy_1 18 rfl rfl)
theorem dX2_copy_43 : decode cX2_copy 43 = .ok (.aload_n 0, 1) := dk_42 (dk_at dksX2_copy_1 21 rfl rfl)
theorem dX2_copy_44 : decode cX2_copy 44 = .ok (.getfield 25, 3) := dk_180 0 25 (dk_at dksX2_copy_2 0 rfl rfl)
theorem dX2_copy_47 : decode cX2_copy 47 = .ok (.invokevirtual 42, 3) := dk_182 0 42 (dk_at dksX2_copy_2 3 rfl rfl)
theorem dX2_copy_50 : decode cX2_copy 50 = .ok (.astore_n 2, 1) := dk_77 (dk_at dksX2_copy_2 6 rfl rfl)
theorem dX2_copy_51 : decode cX2_copy 51 = .ok (.aload_n 2, 1) := dk_44 (dk_at dksX2_copy_2 7 rfl rfl)
theorem dX2_copy_52 : decode cX2_copy 52 = .ok (.invokeinterface 46 1, 5) := by decide +kernel
theorem dX2_copy_57 : decode cX2_copy 57 = .ok (.ifCond .eq 29, 3) := dk_153 0 29 (dk_at dksX2_copy_2 13 rfl rfl)
theorem dX2_copy_60 : decode cX2_copy 60 = .ok (.aload_n 2, 1) := dk_44 (dk_at dksX2_copy_2 16 rfl rfl)
theorem dX2_copy_61 : decode cX2_copy 61 = .ok (.invokeinterface 52 1, 5) := by decide +kernel
theorem dX2_copy_66 : decode cX2_copy 66 = .ok (.checkcast 62, 3) := dk_192 0 62 (dk_at dksX2_copy_3 0 rfl rfl)
theorem dX2_copy_69 : decode cX2_copy 69 = .ok (.astore_n 3, 1) := dk_78 (dk_at dksX2_copy_3 3 rfl rfl)
theorem dX2_copy_70 : decode cX2_copy 70 = .ok (.aload_n 1, 1) := dk_43 (dk_at dksX2_copy_3 4 rfl rfl)
theorem dX2_copy_71 : decode cX2_copy 71 = .ok (.getfield 25, 3) := dk_180 0 25 (dk_at dksX2_copy_3 5 rfl rfl)
theorem dX2_copy_74 : decode cX2_copy 74 = .ok (.aload_n 3, 1) := dk_45 (dk_at dksX2_copy_3 8 rfl rfl)
theorem dX2_copy_75 : decode cX2_copy 75 = .ok (.invokevirtual 64, 3) := dk_182 0 64 (dk_at dksX2_copy_3 9 rfl rfl)
theorem dX2_copy_78 : decode cX2_copy 78 = .ok (.invokevirtual 68, 3) := dk_182 0 68 (dk_at dksX2_copy_3 12 rfl rfl)
theorem dX2_copy_81 : decode cX2_copy 81 = .ok (.istore 4, 2) := dk_54 4 (dk_at dksX2_copy_3 15 rfl rfl)
theorem dX2_copy_83 : decode cX2_copy 83 = .ok (.goto (-32), 3) := dk_167 255 224 (dk_at dksX2_copy_3 17 rfl rfl)
theorem dX2_copy_86 : decode cX2_copy 86 = .ok (.aload_n 0, 1) := dk_42 (dk_at dksX2_copy_3 20 rfl rfl)
theorem dX2_copy_87 : decode cX2_copy 87 = .ok (.getfield 28, 3) := dk_180 0 28 (dk_at dksX2_copy_3 21 rfl rfl)
theorem dX2_copy_90 : decode cX2_copy 90 = .ok (.invokevirtual 42, 3) := dk_182 0 42 (dk_at dksX2_copy_4 0 rfl rfl)
theorem dX2_copy_93 : decode cX2_copy 93 = .ok (.astore_n 2, 1) := dk_77 (dk_at dksX2_copy_4 3 rfl rfl)
theorem dX2_copy_94 : decode cX2_copy 94 = .ok (.aload_n 2, 1) := dk_44 (dk_at dksX2_copy_4 4 rfl rfl)
theorem dX2_copy_95 : decode cX2_copy 95 = .ok (.invokeinterface 46 1, 5) := by decide +kernel
theorem dX2_copy_100 : decode cX2_copy 100 = .ok (.ifCond .eq 29, 3) := dk_153 0 29 (dk_at dksX2_copy_4 10 rfl rfl)
theorem dX2_copy_103 : decode cX2_copy 103 = .ok (.aload_n 2, 1) := dk_44 (dk_at dksX2_copy_4 13 rfl rfl)
theorem dX2_copy_104 : decode cX2_copy 104 = .ok (.invokeinterface 52 1, 5) := by decide +kernel
theorem dX2_copy_109 : decode cX2_copy 109 = .ok (.checkcast 71, 3) := dk_192 0 71 (dk_at dksX2_copy_4 19 rfl rfl)
theorem dX2_copy_112 : decode cX2_copy 112 = .ok (.astore_n 3, 1) := dk_78 (dk_at dksX2_copy_4 22 rfl rfl)
theorem dX2_copy_113 : decode cX2_copy 113 = .ok (.aload_n 1, 1) := dk_43 (dk_at dksX2_copy_4 23 rfl rfl)
theorem dX2_copy_114 : decode cX2_copy 114 = .ok (.getfield 28, 3) := dk_180 0 28 (dk_at dksX2_copy_5 0 rfl rfl)
theorem dX2_copy_117 : decode cX2_copy 117 = .ok (.aload_n 3, 1) := dk_45 (dk_at dksX2_copy_5 3 rfl rfl)
theorem dX2_copy_118 : decode cX2_copy 118 = .ok (.invokevirtual 73, 3) := dk_182 0 73 (dk_at dksX2_copy_5 4 rfl rfl)
theorem dX2_copy_121 : decode cX2_copy 121 = .ok (.invokevirtual 68, 3) := dk_182 0 68 (dk_at dksX2_copy_5 7 rfl rfl)
theorem dX2_copy_124 : decode cX2_copy 124 = .ok (.istore 4, 2) := dk_54 4 (dk_at dksX2_copy_5 10 rfl rfl)
theorem dX2_copy_126 : decode cX2_copy 126 = .ok (.goto (-32), 3) := dk_167 255 224 (dk_at dksX2_copy_5 12 rfl rfl)
theorem dX2_copy_129 : decode cX2_copy 129 = .ok (.aload_n 0, 1) := dk_42 (dk_at dksX2_copy_5 15 rfl rfl)
theorem dX2_copy_130 : decode cX2_copy 130 = .ok (.getfield 31, 3) := dk_180 0 31 (dk_at dksX2_copy_5 16 rfl rfl)
theorem dX2_copy_133 : decode cX2_copy 133 = .ok (.invokevirtual 42, 3) := dk_182 0 42 (dk_at dksX2_copy_5 19 rfl rfl)
theorem dX2_copy_136 : decode cX2_copy 136 = .ok (.astore_n 2, 1) := dk_77 (dk_at dksX2_copy_5 22 rfl rfl)
theorem dX2_copy_137 : decode cX2_copy 137 = .ok (.aload_n 2, 1) := dk_44 (dk_at dksX2_copy_5 23 rfl rfl)
theorem dX2_copy_138 : decode cX2_copy 138 = .ok (.invokeinterface 46 1, 5) := by decide +kernel
theorem dX2_copy_143 : decode cX2_copy 143 = .ok (.ifCond .eq 29, 3) := dk_153 0 29 (dk_at dksX2_copy_6 5 rfl rfl)
theorem dX2_copy_146 : decode cX2_copy 146 = .ok (.aload_n 2, 1) := dk_44 (dk_at dksX2_copy_6 8 rfl rfl)
theorem dX2_copy_147 : decode cX2_copy 147 = .ok (.invokeinterface 52 1, 5) := by decide +kernel
theorem dX2_copy_152 : decode cX2_copy 152 = .ok (.checkcast 76, 3) := dk_192 0 76 (dk_at dksX2_copy_6 14 rfl rfl)
theorem dX2_copy_155 : decode cX2_copy 155 = .ok (.astore_n 3, 1) := dk_78 (dk_at dksX2_copy_6 17 rfl rfl)
theorem dX2_copy_156 : decode cX2_copy 156 = .ok (.aload_n 1, 1) := dk_43 (dk_at dksX2_copy_6 18 rfl rfl)
theorem dX2_copy_157 : decode cX2_copy 157 = .ok (.getfield 31, 3) := dk_180 0 31 (dk_at dksX2_copy_6 19 rfl rfl)
theorem dX2_copy_160 : decode cX2_copy 160 = .ok (.aload_n 3, 1) := dk_45 (dk_at dksX2_copy_6 22 rfl rfl)
theorem dX2_copy_161 : decode cX2_copy 161 = .ok (.invokevirtual 78, 3) := dk_182 0 78 (dk_at dksX2_copy_7 0 rfl rfl)
theorem dX2_copy_164 : decode cX2_copy 164 = .ok (.invokevirtual 68, 3) := dk_182 0 68 (dk_at dksX2_copy_7 3 rfl rfl)
theorem dX2_copy_167 : decode cX2_copy 167 = .ok (.istore 4, 2) := dk_54 4 (dk_at dksX2_copy_7 6 rfl rfl)
theorem dX2_copy_169 : decode cX2_copy 169 = .ok (.goto (-32), 3) := dk_167 255 224 (dk_at dksX2_copy_7 8 rfl rfl)
theorem dX2_copy_172 : decode cX2_copy 172 = .ok (.aload_n 1, 1) := dk_43 (dk_at dksX2_copy_7 11 rfl rfl)
theorem dX2_copy_173 : decode cX2_copy 173 = .ok (.aload_n 0, 1) := dk_42 (dk_at dksX2_copy_7 12 rfl rfl)
theorem dX2_copy_174 : decode cX2_copy 174 = .ok (.getfield 34, 3) := dk_180 0 34 (dk_at dksX2_copy_7 13 rfl rfl)
theorem dX2_copy_177 : decode cX2_copy 177 = .ok (.putfield 34, 3) := dk_181 0 34 (dk_at dksX2_copy_7 16 rfl rfl)
theorem dX2_copy_180 : decode cX2_copy 180 = .ok (.aload_n 1, 1) := dk_43 (dk_at dksX2_copy_7 19 rfl rfl)
theorem dX2_copy_181 : decode cX2_copy 181 = .ok (.aload_n 0, 1) := dk_42 (dk_at dksX2_copy_7 20 rfl rfl)
theorem dX2_copy_182 : decode cX2_copy 182 = .ok (.getfield 38, 3) := dk_180 0 38 (dk_at dksX2_copy_7 21 rfl rfl)
theorem dX2_copy_185 : decode cX2_copy 185 = .ok (.putfield 38, 3) := dk_181 0 38 (dk_at dksX2_copy_8 0 rfl rfl)
theorem dX2_copy_188 : decode cX2_copy 188 = .ok (.aload_n 1, 1) := dk_43 (dk_at dksX2_copy_8 3 rfl rfl)
theorem dX2_copy_189 : decode cX2_copy 189 = .ok (.aload_n 0, 1) := dk_42 (dk_at dksX2_copy_8 4 rfl rfl)
theorem dX2_copy_190 : decode cX2_copy 190 = .ok (.getfield 81, 3) := dk_180 0 81 (dk_at dksX2_copy_8 5 rfl rfl)
theorem dX2_copy_193 : decode cX2_copy 193 = .ok (.putfield 81, 3) := dk_181 0 81 (dk_at dksX2_copy_8 8 rfl rfl)
theorem dX2_copy_196 : decode cX2_copy 196 = .ok (.aload_n 1, 1) := dk_43 (dk_at dksX2_copy_8 11 rfl rfl)
theorem dX2_copy_197 : decode cX2_copy 197 = .ok (.areturn, 1) := dk_176 (dk_at dksX2_copy_8 12 rfl rfl)
def dkwX2_add_1 : List UInt8 := [77, 42, 180, 0, 12, 43, 182, 0, 68, 62, 177]
abbrev dktX2_add_1 : List UInt8 := dkwX2_add_1 ++ []
def dkwX2_add_0 : List UInt8 := [42, 180, 0, 21, 43, 180, 0, 84, 42, 180, 0, 12, 182, 0, 88, 184, 0, 92, 182, 0, 98, 192, 0, 93]
abbrev dktX2_add_0 : List UInt8 := dkwX2_add_0 ++ dktX2_add_1
theorem dksX2_add_0 : cX2_add.data.toList.drop 0 = dktX2_add_0 := by decide +kernel
theorem dksX2_add_1 : cX2_add.data.toList.drop 24 = dktX2_add_1 := dk_seg dksX2_add_0 24 rfl rfl
theorem dX2_add_0 : decode cX2_add 0 = .ok (.aload_n 0, 1) := dk_42 (dk_at dksX2_add_0 0 rfl rfl)
theorem dX2_add_1 : decode cX2_add 1 = .ok (.getfield 21, 3) := dk_180 0 21 (dk_at dksX2_add_0 1 rfl rfl)
theorem dX2_add_4 : decode cX2_add 4 = .ok (.aload_n 1, 1) := dk_43 (dk_at dksX2_add_0 4 rfl rfl)
theorem dX2_add_5 : decode cX2_add 5 = .ok (.getfield 84, 3) := dk_180 0 84 (dk_at dksX2_add_0 5 rfl rfl)
theorem dX2_add_8 : decode cX2_add 8 = .ok (.aload_n 0, 1) := dk_42 (dk_at dksX2_add_0 8 rfl rfl)
theorem dX2_add_9 : decode cX2_add 9 = .ok (.getfield 12, 3) := dk_180 0 12 (dk_at dksX2_add_0 9 rfl rfl)
theorem dX2_add_12 : decode cX2_add 12 = .ok (.invokevirtual 88, 3) := dk_182 0 88 (dk_at dksX2_add_0 12 rfl rfl)
theorem dX2_add_15 : decode cX2_add 15 = .ok (.invokestatic 92, 3) := dk_184 0 92 (dk_at dksX2_add_0 15 rfl rfl)
theorem dX2_add_18 : decode cX2_add 18 = .ok (.invokevirtual 98, 3) := dk_182 0 98 (dk_at dksX2_add_0 18 rfl rfl)
theorem dX2_add_21 : decode cX2_add 21 = .ok (.checkcast 93, 3) := dk_192 0 93 (dk_at dksX2_add_0 21 rfl rfl)
theorem dX2_add_24 : decode cX2_add 24 = .ok (.astore_n 2, 1) := dk_77 (dk_at dksX2_add_1 0 rfl rfl)
theorem dX2_add_25 : decode cX2_add 25 = .ok (.aload_n 0, 1) := dk_42 (dk_at dksX2_add_1 1 rfl rfl)
theorem dX2_add_26 : decode cX2_add 26 = .ok (.getfield 12, 3) := dk_180 0 12 (dk_at dksX2_add_1 2 rfl rfl)
theorem dX2_add_29 : decode cX2_add 29 = .ok (.aload_n 1, 1) := dk_43 (dk_at dksX2_add_1 5 rfl rfl)
theorem dX2_add_30 : decode cX2_add 30 = .ok (.invokevirtual 68, 3) := dk_182 0 68 (dk_at dksX2_add_1 6 rfl rfl)
theorem dX2_add_33 : decode cX2_add 33 = .ok (.istore_n 3, 1) := dk_62 (dk_at dksX2_add_1 9 rfl rfl)
theorem dX2_add_34 : decode cX2_add 34 = .ok (.return_, 1) := dk_177 (dk_at dksX2_add_1 10 rfl rfl)
def dkwX2_addTray_4 : List UInt8 := [21, 4, 21, 5, 183, 0, 147, 182, 0, 68, 54, 6, 42, 180, 0, 25, 182, 0, 88, 4, 100, 172]
abbrev dktX2_addTray_4 : List UInt8 := dkwX2_addTray_4 ++ []
def dkwX2_addTray_3 : List UInt8 := [16, 12, 162, 0, 7, 4, 167, 0, 4, 3, 184, 0, 131, 42, 180, 0, 25, 187, 0, 62, 89, 27, 28, 29]
abbrev dktX2_addTray_3 : List UInt8 := dkwX2_addTray_3 ++ dktX2_addTray_4
def dkwX2_addTray_2 : List UInt8 := [20, 0, 145, 184, 0, 102, 153, 0, 7, 4, 167, 0, 4, 3, 184, 0, 124, 42, 180, 0, 25, 182, 0, 88]
abbrev dktX2_addTray_2 : List UInt8 := dkwX2_addTray_2 ++ dktX2_addTray_3
def dkwX2_addTray_1 : List UInt8 := [153, 0, 35, 21, 4, 133, 20, 0, 141, 20, 0, 143, 184, 0, 102, 153, 0, 20, 21, 5, 133, 10]
abbrev dktX2_addTray_1 : List UInt8 := dkwX2_addTray_1 ++ dktX2_addTray_2
def dkwX2_addTray_0 : List UInt8 := [27, 184, 0, 137, 28, 184, 0, 137, 27, 28, 159, 0, 47, 29, 133, 10, 20, 0, 122, 184, 0, 102]
abbrev dktX2_addTray_0 : List UInt8 := dkwX2_addTray_0 ++ dktX2_addTray_1
theorem dksX2_addTray_0 : cX2_addTray.data.toList.drop 0 = dktX2_addTray_0 := by decide +kernel
theorem dksX2_addTray_1 : cX2_addTray.data.toList.drop 22 = dktX2_addTray_1 := dk_seg dksX2_addTray_0 22 rfl rfl
theorem dksX2_addTray_2 : cX2_addTray.data.toList.drop 44 = dktX2_addTray_2 := dk_seg dksX2_addTray_1 22 rfl rfl
theorem dksX2_addTray_3 : cX2_addTray.data.toList.drop 68 = dktX2_addTray_3 := dk_seg dksX2_addTray_2 24 rfl rfl
theorem dksX2_addTray_4 : cX2_addTray.data.toList.drop 92 = dktX2_addTray_4 := dk_seg dksX2_addTray_3 24 rfl rfl
theorem dX2_addTray_0 : decode cX2_addTray 0 = .ok (.iload_n 1, 1) := dk_27 (dk_at dksX2_addTray_0 0 rfl rfl)
theorem dX2_addTray_1 : decode cX2_addTray 1 = .ok (.invokestatic 137, 3) := dk_184 0 137 (dk_at dksX2_addTray_0 1 rfl rfl)
theorem dX2_addTray_4 : decode cX2_addTray 4 = .ok (.iload_n 2, 1) := dk_28 (dk_at dksX2_addTray_0 4 rfl rfl)
theorem dX2_addTray_5 : decode cX2_addTray 5 = .ok (.invokestatic 137, 3) := dk_184 0 137 (dk_at dksX2_addTray_0 5 rfl rfl)
theorem dX2_addTray_8 : decode cX2_addTray 8 = .ok (.iload_n 1, 1) := dk_27 (dk_at dksX2_addTray_0 8 rfl rfl)
theorem dX2_addTray_9 : decode cX2_addTray 9 = .ok (.iload_n 2, 1) := dk_28 (dk_at dksX2_addTray_0 9 rfl rfl)
theorem dX2_addTray_10 : decode cX2_addTray 10 = .ok (.if_icmp .eq 47, 3) := dk_159 0 47 (dk_at dksX2_addTray_0 10 rfl rfl)
theorem dX2_addTray_13 : decode cX2_addTray 13 = .ok (.iload_n 3, 1) := dk_29 (dk_at dksX2_addTray_0 13 rfl rfl)
theorem dX2_addTray_14 : decode cX2_addTray 14 = .ok (.i2l, 1) := dk_133 (dk_at dksX2_addTray_0 14 rfl rfl)
theorem dX2_addTray_15 : decode cX2_addTray 15 = .ok (.lconst 1, 1) := dk_10 (dk_at dksX2_addTray_0 15 rfl rfl)
theorem dX2_addTray_16 : decode cX2_addTray 16 = .ok (.ldc2_w 122, 3) := dk_20 0 122 (dk_at dksX2_addTray_0 16 rfl rfl)
theorem dX2_addTray_19 : decode cX2_addTray 19 = .ok (.invokestatic 102, 3) := dk_184 0 102 (dk_at dksX2_addTray_0 19 rfl rfl)
theorem dX2_addTray_22 : decode cX2_addTray 22 = .ok (.ifCond .eq 35, 3) := dk_153 0 35 (dk_at dksX2_addTray_1 0 rfl rfl)
theorem dX2_addTray_25 : decode cX2_addTray 25 = .ok (.iload 4, 2) := dk_21 4 (dk_at dksX2_addTray_1 3 rfl rfl)
theorem dX2_addTray_27 : decode cX2_addTray 27 = .ok (.i2l, 1) := dk_133 (dk_at dksX2_addTray_1 5 rfl rfl)
theorem dX2_addTray_28 : decode cX2_addTray 28 = .ok (.ldc2_w 141, 3) := dk_20 0 141 (dk_at dksX2_addTray_1 6 rfl rfl)
theorem dX2_addTray_31 : decode cX2_addTray 31 = .ok (.ldc2_w 143, 3) := dk_20 0 143 (dk_at dksX2_addTray_1 9 rfl rfl)
theorem dX2_addTray_34 : decode cX2_addTray 34 = .ok (.invokestatic 102, 3) := dk_184 0 102 (dk_at dksX2_addTray_1 12 rfl rfl)
theorem dX2_addTray_37 : decode cX2_addTray 37 = .ok (.ifCond .eq 20, 3) := dk_153 0 20 (dk_at dksX2_addTray_1 15 rfl rfl)
theorem dX2_addTray_40 : decode cX2_addTray 40 = .ok (.iload 5, 2) := dk_21 5 (dk_at dksX2_addTray_1 18 rfl rfl)
theorem dX2_addTray_42 : decode cX2_addTray 42 = .ok (.i2l, 1) := dk_133 (dk_at dksX2_addTray_1 20 rfl rfl)
theorem dX2_addTray_43 : decode cX2_addTray 43 = .ok (.lconst 1, 1) := dk_10 (dk_at dksX2_addTray_1 21 rfl rfl)
theorem dX2_addTray_44 : decode cX2_addTray 44 = .ok (.ldc2_w 145, 3) := dk_20 0 145 (dk_at dksX2_addTray_2 0 rfl rfl)
theorem dX2_addTray_47 : decode cX2_addTray 47 = .ok (.invokestatic 102, 3) := dk_184 0 102 (dk_at dksX2_addTray_2 3 rfl rfl)
theorem dX2_addTray_50 : decode cX2_addTray 50 = .ok (.ifCond .eq 7, 3) := dk_153 0 7 (dk_at dksX2_addTray_2 6 rfl rfl)
theorem dX2_addTray_53 : decode cX2_addTray 53 = .ok (.iconst 1, 1) := dk_4 (dk_at dksX2_addTray_2 9 rfl rfl)
theorem dX2_addTray_54 : decode cX2_addTray 54 = .ok (.goto 4, 3) := dk_167 0 4 (dk_at dksX2_addTray_2 10 rfl rfl)
theorem dX2_addTray_57 : decode cX2_addTray 57 = .ok (.iconst 0, 1) := dk_3 (dk_at dksX2_addTray_2 13 rfl rfl)
theorem dX2_addTray_58 : decode cX2_addTray 58 = .ok (.invokestatic 124, 3) := dk_184 0 124 (dk_at dksX2_addTray_2 14 rfl rfl)
theorem dX2_addTray_61 : decode cX2_addTray 61 = .ok (.aload_n 0, 1) := dk_42 (dk_at dksX2_addTray_2 17 rfl rfl)
theorem dX2_addTray_62 : decode cX2_addTray 62 = .ok (.getfield 25, 3) := dk_180 0 25 (dk_at dksX2_addTray_2 18 rfl rfl)
theorem dX2_addTray_65 : decode cX2_addTray 65 = .ok (.invokevirtual 88, 3) := dk_182 0 88 (dk_at dksX2_addTray_2 21 rfl rfl)
theorem dX2_addTray_68 : decode cX2_addTray 68 = .ok (.bipush 12, 2) := dk_16 12 (dk_at dksX2_addTray_3 0 rfl rfl)
theorem dX2_addTray_70 : decode cX2_addTray 70 = .ok (.if_icmp .ge 7, 3) := dk_162 0 7 (dk_at dksX2_addTray_3 2 rfl rfl)
theorem dX2_addTray_73 : decode cX2_addTray 73 = .ok (.iconst 1, 1) := dk_4 (dk_at dksX2_addTray_3 5 rfl rfl)
theorem dX2_addTray_74 : decode cX2_addTray 74 = .ok (.goto 4, 3) := dk_167 0 4 (dk_at dksX2_addTray_3 6 rfl rfl)
theorem dX2_addTray_77 : decode cX2_addTray 77 = .ok (.iconst 0, 1) := dk_3 (dk_at dksX2_addTray_3 9 rfl rfl)
theorem dX2_addTray_78 : decode cX2_addTray 78 = .ok (.invokestatic 131, 3) := dk_184 0 131 (dk_at dksX2_addTray_3 10 rfl rfl)
theorem dX2_addTray_81 : decode cX2_addTray 81 = .ok (.aload_n 0, 1) := dk_42 (dk_at dksX2_addTray_3 13 rfl rfl)
theorem dX2_addTray_82 : decode cX2_addTray 82 = .ok (.getfield 25, 3) := dk_180 0 25 (dk_at dksX2_addTray_3 14 rfl rfl)
theorem dX2_addTray_85 : decode cX2_addTray 85 = .ok (.new 62, 3) := dk_187 0 62 (dk_at dksX2_addTray_3 17 rfl rfl)
theorem dX2_addTray_88 : decode cX2_addTray 88 = .ok (.dup, 1) := dk_89 (dk_at dksX2_addTray_3 20 rfl rfl)
theorem dX2_addTray_89 : decode cX2_addTray 89 = .ok (.iload_n 1, 1) := dk_27 (dk_at dksX2_addTray_3 21 rfl rfl)
theorem dX2_addTray_90 : decode cX2_addTray 90 = .ok (.iload_n 2, 1) := dk_28 (dk_at dksX2_addTray_3 22 rfl rfl)
theorem dX2_addTray_91 : decode cX2_addTray 91 = .ok (.iload_n 3, 1) := dk_29 (dk_at dksX2_addTray_3 23 rfl rfl)
theorem dX2_addTray_92 : decode cX2_addTray 92 = .ok (.iload 4, 2) := dk_21 4 (dk_at dksX2_addTray_4 0 rfl rfl)
theorem dX2_addTray_94 : decode cX2_addTray 94 = .ok (.iload 5, 2) := dk_21 5 (dk_at dksX2_addTray_4 2 rfl rfl)
theorem dX2_addTray_96 : decode cX2_addTray 96 = .ok (.invokespecial 147, 3) := dk_183 0 147 (dk_at dksX2_addTray_4 4 rfl rfl)
theorem dX2_addTray_99 : decode cX2_addTray 99 = .ok (.invokevirtual 68, 3) := dk_182 0 68 (dk_at dksX2_addTray_4 7 rfl rfl)
theorem dX2_addTray_102 : decode cX2_addTray 102 = .ok (.istore 6, 2) := dk_54 6 (dk_at dksX2_addTray_4 10 rfl rfl)
theorem dX2_addTray_104 : decode cX2_addTray 104 = .ok (.aload_n 0, 1) := dk_42 (dk_at dksX2_addTray_4 12 rfl rfl)
theorem dX2_addTray_105 : decode cX2_addTray 105 = .ok (.getfield 25, 3) := dk_180 0 25 (dk_at dksX2_addTray_4 13 rfl rfl)
theorem dX2_addTray_108 : decode cX2_addTray 108 = .ok (.invokevirtual 88, 3) := dk_182 0 88 (dk_at dksX2_addTray_4 16 rfl rfl)
theorem dX2_addTray_111 : decode cX2_addTray 111 = .ok (.iconst 1, 1) := dk_4 (dk_at dksX2_addTray_4 19 rfl rfl)
theorem dX2_addTray_112 : decode cX2_addTray 112 = .ok (.isub, 1) := dk_100 (dk_at dksX2_addTray_4 20 rfl rfl)
theorem dX2_addTray_113 : decode cX2_addTray 113 = .ok (.ireturn, 1) := dk_172 (dk_at dksX2_addTray_4 21 rfl rfl)
def dkwX2_dropTray_3 : List UInt8 := [182, 0, 88, 172]
abbrev dktX2_dropTray_3 : List UInt8 := dkwX2_dropTray_3 ++ []
def dkwX2_dropTray_2 : List UInt8 := [45, 185, 0, 52, 1, 0, 192, 0, 71, 58, 4, 25, 4, 27, 182, 0, 160, 167, 255, 230, 42, 180, 0, 25]
abbrev dktX2_dropTray_2 : List UInt8 := dkwX2_dropTray_2 ++ dktX2_dropTray_3
def dkwX2_dropTray_1 : List UInt8 := [182, 0, 157, 192, 0, 62, 77, 42, 180, 0, 28, 182, 0, 42, 78, 45, 185, 0, 46, 1, 0, 153, 0, 23]
abbrev dktX2_dropTray_1 : List UInt8 := dkwX2_dropTray_1 ++ dktX2_dropTray_2
def dkwX2_dropTray_0 : List UInt8 := [42, 27, 182, 0, 150, 182, 0, 154, 154, 0, 7, 4, 167, 0, 4, 3, 184, 0, 131, 42, 180, 0, 25, 27]
abbrev dktX2_dropTray_0 : List UInt8 := dkwX2_dropTray_0 ++ dktX2_dropTray_1
theorem dksX2_dropTray_0 : cX2_dropTray.data.toList.drop 0 = dktX2_dropTray_0 := by decide +kernel
theorem dksX2_dropTray_1 : cX2_dropTray.data.toList.drop 24 = dktX2_dropTray_1 := dk_seg dksX2_dropTray_0 24 rfl rfl
theorem dksX2_dropTray_2 : cX2_dropTray.data.toList.drop 48 = dktX2_dropTray_2 := dk_seg dksX2_dropTray_1 24 rfl rfl
theorem dksX2_dropTray_3 : cX2_dropTray.data.toList.drop 72 = dktX2_dropTray_3 := dk_seg dksX2_dropTray_2 24 rfl rfl
theorem dX2_dropTray_0 : decode cX2_dropTray 0 = .ok (.aload_n 0, 1) := dk_42 (dk_at dksX2_dropTray_0 0 rfl rfl)
theorem dX2_dropTray_1 : decode cX2_dropTray 1 = .ok (.iload_n 1, 1) := dk_27 (dk_at dksX2_dropTray_0 1 rfl rfl)
theorem dX2_dropTray_2 : decode cX2_dropTray 2 = .ok (.invokevirtual 150, 3) := dk_182 0 150 (dk_at dksX2_dropTray_0 2 rfl rfl)
theorem dX2_dropTray_5 : decode cX2_dropTray 5 = .ok (.invokevirtual 154, 3) := dk_182 0 154 (dk_at dksX2_dropTray_0 5 rfl rfl)
theorem dX2_dropTray_8 : decode cX2_dropTray 8 = .ok (.ifCond .ne 7, 3) := dk_154 0 7 (dk_at dksX2_dropTray_0 8 rfl rfl)
theorem dX2_dropTray_11 : decode cX2_dropTray 11 = .ok (.iconst 1, 1) := dk_4 (dk_at dksX2_dropTray_0 11 rfl rfl)
theorem dX2_dropTray_12 : decode cX2_dropTray 12 = .ok (.goto 4, 3) := dk_167 0 4 (dk_at dksX2_dropTray_0 12 rfl rfl)
theorem dX2_dropTray_15 : decode cX2_dropTray 15 = .ok (.iconst 0, 1) := dk_3 (dk_at dksX2_dropTray_0 15 rfl rfl)
theorem dX2_dropTray_16 : decode cX2_dropTray 16 = .ok (.invokestatic 131, 3) := dk_184 0 131 (dk_at dksX2_dropTray_0 16 rfl rfl)
theorem dX2_dropTray_19 : decode cX2_dropTray 19 = .ok (.aload_n 0, 1) := dk_42 (dk_at dksX2_dropTray_0 19 rfl rfl)
theorem dX2_dropTray_20 : decode cX2_dropTray 20 = .ok (.getfield 25, 3) := dk_180 0 25 (dk_at dksX2_dropTray_0 20 rfl rfl)
theorem dX2_dropTray_23 : decode cX2_dropTray 23 = .ok (.iload_n 1, 1) := dk_27 (dk_at dksX2_dropTray_0 23 rfl rfl)
theorem dX2_dropTray_24 : decode cX2_dropTray 24 = .ok (.invokevirtual 157, 3) := dk_182 0 157 (dk_at dksX2_dropTray_1 0 rfl rfl)
theorem dX2_dropTray_27 : decode cX2_dropTray 27 = .ok (.checkcast 62, 3) := dk_192 0 62 (dk_at dksX2_dropTray_1 3 rfl rfl)
theorem dX2_dropTray_30 : decode cX2_dropTray 30 = .ok (.astore_n 2, 1) := dk_77 (dk_at dksX2_dropTray_1 6 rfl rfl)
theorem dX2_dropTray_31 : decode cX2_dropTray 31 = .ok (.aload_n 0, 1) := dk_42 (dk_at dksX2_dropTray_1 7 rfl rfl)
theorem dX2_dropTray_32 : decode cX2_dropTray 32 = .ok (.getfield 28, 3) := dk_180 0 28 (dk_at dksX2_dropTray_1 8 rfl rfl)
theorem dX2_dropTray_35 : decode cX2_dropTray 35 = .ok (.invokevirtual 42, 3) := dk_182 0 42 (dk_at dksX2_dropTray_1 11 rfl rfl)
theorem dX2_dropTray_38 : decode cX2_dropTray 38 = .ok (.astore_n 3, 1) := dk_78 (dk_at dksX2_dropTray_1 14 rfl rfl)
theorem dX2_dropTray_39 : decode cX2_dropTray 39 = .ok (.aload_n 3, 1) := dk_45 (dk_at dksX2_dropTray_1 15 rfl rfl)
theorem dX2_dropTray_40 : decode cX2_dropTray 40 = .ok (.invokeinterface 46 1, 5) := by decide +kernel
theorem dX2_dropTray_45 : decode cX2_dropTray 45 = .ok (.ifCond .eq 23, 3) := dk_153 0 23 (dk_at dksX2_dropTray_1 21 rfl rfl)
theorem dX2_dropTray_48 : decode cX2_dropTray 48 = .ok (.aload_n 3, 1) := dk_45 (dk_at dksX2_dropTray_2 0 rfl rfl)
theorem dX2_dropTray_49 : decode cX2_dropTray 49 = .ok (.invokeinterface 52 1, 5) := by decide +kernel
theorem dX2_dropTray_54 : decode cX2_dropTray 54 = .ok (.checkcast 71, 3) := dk_192 0 71 (dk_at dksX2_dropTray_2 6 rfl rfl)
theorem dX2_dropTray_57 : decode cX2_dropTray 57 = .ok (.astore 4, 2) := dk_58 4 (dk_at dksX2_dropTray_2 9 rfl rfl)
theorem dX2_dropTray_59 : decode cX2_dropTray 59 = .ok (.aload 4, 2) := dk_25 4 (dk_at dksX2_dropTray_2 11 rfl rfl)
theorem dX2_dropTray_61 : decode cX2_dropTray 61 = .ok (.iload_n 1, 1) := dk_27 (dk_at dksX2_dropTray_2 13 rfl rfl)
theorem dX2_dropTray_62 : decode cX2_dropTray 62 = .ok (.invokevirtual 160, 3) := dk_182 0 160 (dk_at dksX2_dropTray_2 14 rfl rfl)
theorem dX2_dropTray_65 : decode cX2_dropTray 65 = .ok (.goto (-26), 3) := dk_167 255 230 (dk_at dksX2_dropTray_2 17 rfl rfl)
theorem dX2_dropTray_68 : decode cX2_dropTray 68 = .ok (.aload_n 0, 1) := dk_42 (dk_at dksX2_dropTray_2 20 rfl rfl)
theorem dX2_dropTray_69 : decode cX2_dropTray 69 = .ok (.getfield 25, 3) := dk_180 0 25 (dk_at dksX2_dropTray_2 21 rfl rfl)
theorem dX2_dropTray_72 : decode cX2_dropTray 72 = .ok (.invokevirtual 88, 3) := dk_182 0 88 (dk_at dksX2_dropTray_3 0 rfl rfl)
theorem dX2_dropTray_75 : decode cX2_dropTray 75 = .ok (.ireturn, 1) := dk_172 (dk_at dksX2_dropTray_3 3 rfl rfl)
def dkwX2_tray_1 : List UInt8 := [182, 0, 110, 192, 0, 62, 176]
abbrev dktX2_tray_1 : List UInt8 := dkwX2_tray_1 ++ []
def dkwX2_tray_0 : List UInt8 := [27, 133, 9, 42, 180, 0, 25, 182, 0, 88, 4, 100, 133, 184, 0, 102, 184, 0, 106, 42, 180, 0, 25, 27]
abbrev dktX2_tray_0 : List UInt8 := dkwX2_tray_0 ++ dktX2_tray_1
theorem dksX2_tray_0 : cX2_tray.data.toList.drop 0 = dktX2_tray_0 := by decide +kernel
theorem dksX2_tray_1 : cX2_tray.data.toList.drop 24 = dktX2_tray_1 := dk_seg dksX2_tray_0 24 rfl rfl
theorem dX2_tray_0 : decode cX2_tray 0 = .ok (.iload_n 1, 1) := dk_27 (dk_at dksX2_tray_0 0 rfl rfl)
theorem dX2_tray_1 : decode cX2_tray 1 = .ok (.i2l, 1) := dk_133 (dk_at dksX2_tray_0 1 rfl rfl)
theorem dX2_tray_2 : decode cX2_tray 2 = .ok (.lconst 0, 1) := dk_9 (dk_at dksX2_tray_0 2 rfl rfl)
theorem dX2_tray_3 : decode cX2_tray 3 = .ok (.aload_n 0, 1) := dk_42 (dk_at dksX2_tray_0 3 rfl rfl)
theorem dX2_tray_4 : decode cX2_tray 4 = .ok (.getfield 25, 3) := dk_180 0 25 (dk_at dksX2_tray_0 4 rfl rfl)
theorem dX2_tray_7 : decode cX2_tray 7 = .ok (.invokevirtual 88, 3) := dk_182 0 88 (dk_at dksX2_tray_0 7 rfl rfl)
theorem dX2_tray_10 : decode cX2_tray 10 = .ok (.iconst 1, 1) := dk_4 (dk_at dksX2_tray_0 10 rfl rfl)
theorem dX2_tray_11 : decode cX2_tray 11 = .ok (.isub, 1) := dk_100 (dk_at dksX2_tray_0 11 rfl rfl)
theorem dX2_tray_12 : decode cX2_tray 12 = .ok (.i2l, 1) := dk_133 (dk_at dksX2_tray_0 12 rfl rfl)
theorem dX2_tray_13 : decode cX2_tray 13 = .ok (.invokestatic 102, 3) := dk_184 0 102 (dk_at dksX2_tray_0 13 rfl rfl)
theorem dX2_tray_16 : decode cX2_tray 16 = .ok (.invokestatic 106, 3) := dk_184 0 106 (dk_at dksX2_tray_0 16 rfl rfl)
theorem dX2_tray_19 : decode cX2_tray 19 = .ok (.aload_n 0, 1) := dk_42 (dk_at dksX2_tray_0 19 rfl rfl)
theorem dX2_tray_20 : decode cX2_tray 20 = .ok (.getfield 25, 3) := dk_180 0 25 (dk_at dksX2_tray_0 20 rfl rfl)
theorem dX2_tray_23 : decode cX2_tray 23 = .ok (.iload_n 1, 1) := dk_27 (dk_at dksX2_tray_0 23 rfl rfl)
theorem dX2_tray_24 : decode cX2_tray 24 = .ok (.invokevirtual 110, 3) := dk_182 0 110 (dk_at dksX2_tray_1 0 rfl rfl)
theorem dX2_tray_27 : decode cX2_tray 27 = .ok (.checkcast 62, 3) := dk_192 0 62 (dk_at dksX2_tray_1 3 rfl rfl)
theorem dX2_tray_30 : decode cX2_tray 30 = .ok (.areturn, 1) := dk_176 (dk_at dksX2_tray_1 6 rfl rfl)
def dkwX2_addCable_3 : List UInt8 := [182, 0, 88, 4, 100, 172]
abbrev dktX2_addCable_3 : List UInt8 := dkwX2_addCable_3 ++ []
def dkwX2_addCable_2 : List UInt8 := [42, 180, 0, 28, 187, 0, 71, 89, 27, 28, 29, 183, 0, 167, 182, 0, 68, 54, 5, 42, 180, 0, 28]
abbrev dktX2_addCable_2 : List UInt8 := dkwX2_addCable_2 ++ dktX2_addCable_3
def dkwX2_addCable_1 : List UInt8 := [3, 184, 0, 124, 42, 180, 0, 28, 182, 0, 88, 16, 12, 162, 0, 7, 4, 167, 0, 4, 3, 184, 0, 131]
abbrev dktX2_addCable_1 : List UInt8 := dkwX2_addCable_1 ++ dktX2_addCable_2
def dkwX2_addCable_0 : List UInt8 := [42, 27, 182, 0, 163, 58, 4, 28, 184, 0, 137, 29, 184, 0, 137, 28, 29, 159, 0, 7, 4, 167, 0, 4]
abbrev dktX2_addCable_0 : List UInt8 := dkwX2_addCable_0 ++ dktX2_addCable_1
theorem dksX2_addCable_0 : cX2_addCable.data.toList.drop 0 = dktX2_addCable_0 := by decide +kernel
theorem dksX2_addCable_1 : cX2_addCable.data.toList.drop 24 = dktX2_addCable_1 := dk_seg dksX2_addCable_0 24 rfl rfl
theorem dksX2_addCable_2 : cX2_addCable.data.toList.drop 48 = dktX2_addCable_2 := dk_seg dksX2_addCable_1 24 rfl rfl
theorem dksX2_addCable_3 : cX2_addCable.data.toList.drop 71 = dktX2_addCable_3 := dk_seg dksX2_addCable_2 23 rfl rfl
theorem dX2_addCable_0 : decode cX2_addCable 0 = .ok (.aload_n 0, 1) := dk_42 (dk_at dksX2_addCable_0 0 rfl rfl)
theorem dX2_addCable_1 : decode cX2_addCable 1 = .ok (.iload_n 1, 1) := dk_27 (dk_at dksX2_addCable_0 1 rfl rfl)
theorem dX2_addCable_2 : decode cX2_addCable 2 = .ok (.invokevirtual 163, 3) := dk_182 0 163 (dk_at dksX2_addCable_0 2 rfl rfl)
theorem dX2_addCable_5 : decode cX2_addCable 5 = .ok (.astore 4, 2) := dk_58 4 (dk_at dksX2_addCable_0 5 rfl rfl)
theorem dX2_addCable_7 : decode cX2_addCable 7 = .ok (.iload_n 2, 1) := dk_28 (dk_at dksX2_addCable_0 7 rfl rfl)
theorem dX2_addCable_8 : decode cX2_addCable 8 = .ok (.invokestatic 137, 3) := dk_184 0 137 (dk_at dksX2_addCable_0 8 rfl rfl)
theorem dX2_addCable_11 : decode cX2_addCable 11 = .ok (.iload_n 3, 1) := dk_29 (dk_at dksX2_addCable_0 11 rfl rfl)
theorem dX2_addCable_12 : decode cX2_addCable 12 = .ok (.invokestatic 137, 3) := dk_184 0 137 (dk_at dksX2_addCable_0 12 rfl rfl)
theorem dX2_addCable_15 : decode cX2_addCable 15 = .ok (.iload_n 2, 1) := dk_28 (dk_at dksX2_addCable_0 15 rfl rfl)
theorem dX2_addCable_16 : decode cX2_addCable 16 = .ok (.iload_n 3, 1) := dk_29 (dk_at dksX2_addCable_0 16 rfl rfl)
theorem dX2_addCable_17 : decode cX2_addCable 17 = .ok (.if_icmp .eq 7, 3) := dk_159 0 7 (dk_at dksX2_addCable_0 17 rfl rfl)
theorem dX2_addCable_20 : decode cX2_addCable 20 = .ok (.iconst 1, 1) := dk_4 (dk_at dksX2_addCable_0 20 rfl rfl)
theorem dX2_addCable_21 : decode cX2_addCable 21 = .ok (.goto 4, 3) := dk_167 0 4 (dk_at dksX2_addCable_0 21 rfl rfl)
theorem dX2_addCable_24 : decode cX2_addCable 24 = .ok (.iconst 0, 1) := dk_3 (dk_at dksX2_addCable_1 0 rfl rfl)
theorem dX2_addCable_25 : decode cX2_addCable 25 = .ok (.invokestatic 124, 3) := dk_184 0 124 (dk_at dksX2_addCable_1 1 rfl rfl)
theorem dX2_addCable_28 : decode cX2_addCable 28 = .ok (.aload_n 0, 1) := dk_42 (dk_at dksX2_addCable_1 4 rfl rfl)
theorem dX2_addCable_29 : decode cX2_addCable 29 = .ok (.getfield 28, 3) := dk_180 0 28 (dk_at dksX2_addCable_1 5 rfl rfl)
theorem dX2_addCable_32 : decode cX2_addCable 32 = .ok (.invokevirtual 88, 3) := dk_182 0 88 (dk_at dksX2_addCable_1 8 rfl rfl)
theorem dX2_addCable_35 : decode cX2_addCable 35 = .ok (.bipush 12, 2) := dk_16 12 (dk_at dksX2_addCable_1 11 rfl rfl)
theorem dX2_addCable_37 : decode cX2_addCable 37 = .ok (.if_icmp .ge 7, 3) := dk_162 0 7 (dk_at dksX2_addCable_1 13 rfl rfl)
theorem dX2_addCable_40 : decode cX2_addCable 40 = .ok (.iconst 1, 1) := dk_4 (dk_at dksX2_addCable_1 16 rfl rfl)
theorem dX2_addCable_41 : decode cX2_addCable 41 = .ok (.goto 4, 3) := dk_167 0 4 (dk_at dksX2_addCable_1 17 rfl rfl)
theorem dX2_addCable_44 : decode cX2_addCable 44 = .ok (.iconst 0, 1) := dk_3 (dk_at dksX2_addCable_1 20 rfl rfl)
theorem dX2_addCable_45 : decode cX2_addCable 45 = .ok (.invokestatic 131, 3) := dk_184 0 131 (dk_at dksX2_addCable_1 21 rfl rfl)
theorem dX2_addCable_48 : decode cX2_addCable 48 = .ok (.aload_n 0, 1) := dk_42 (dk_at dksX2_addCable_2 0 rfl rfl)
theorem dX2_addCable_49 : decode cX2_addCable 49 = .ok (.getfield 28, 3) := dk_180 0 28 (dk_at dksX2_addCable_2 1 rfl rfl)
theorem dX2_addCable_52 : decode cX2_addCable 52 = .ok (.new 71, 3) := dk_187 0 71 (dk_at dksX2_addCable_2 4 rfl rfl)
theorem dX2_addCable_55 : decode cX2_addCable 55 = .ok (.dup, 1) := dk_89 (dk_at dksX2_addCable_2 7 rfl rfl)
theorem dX2_addCable_56 : decode cX2_addCable 56 = .ok (.iload_n 1, 1) := dk_27 (dk_at dksX2_addCable_2 8 rfl rfl)
theorem dX2_addCable_57 : decode cX2_addCable 57 = .ok (.iload_n 2, 1) := dk_28 (dk_at dksX2_addCable_2 9 rfl rfl)
theorem dX2_addCable_58 : decode cX2_addCable 58 = .ok (.iload_n 3, 1) := dk_29 (dk_at dksX2_addCable_2 10 rfl rfl)
theorem dX2_addCable_59 : decode cX2_addCable 59 = .ok (.invokespecial 167, 3) := dk_183 0 167 (dk_at dksX2_addCable_2 11 rfl rfl)
theorem dX2_addCable_62 : decode cX2_addCable 62 = .ok (.invokevirtual 68, 3) := dk_182 0 68 (dk_at dksX2_addCable_2 14 rfl rfl)
theorem dX2_addCable_65 : decode cX2_addCable 65 = .ok (.istore 5, 2) := dk_54 5 (dk_at dksX2_addCable_2 17 rfl rfl)
theorem dX2_addCable_67 : decode cX2_addCable 67 = .ok (.aload_n 0, 1) := dk_42 (dk_at dksX2_addCable_2 19 rfl rfl)
theorem dX2_addCable_68 : decode cX2_addCable 68 = .ok (.getfield 28, 3) := dk_180 0 28 (dk_at dksX2_addCable_2 20 rfl rfl)
theorem dX2_addCable_71 : decode cX2_addCable 71 = .ok (.invokevirtual 88, 3) := dk_182 0 88 (dk_at dksX2_addCable_3 0 rfl rfl)
theorem dX2_addCable_74 : decode cX2_addCable 74 = .ok (.iconst 1, 1) := dk_4 (dk_at dksX2_addCable_3 3 rfl rfl)
theorem dX2_addCable_75 : decode cX2_addCable 75 = .ok (.isub, 1) := dk_100 (dk_at dksX2_addCable_3 4 rfl rfl)
theorem dX2_addCable_76 : decode cX2_addCable 76 = .ok (.ireturn, 1) := dk_172 (dk_at dksX2_addCable_3 5 rfl rfl)
def dkwX2_type_1 : List UInt8 := [182, 0, 110, 192, 0, 56, 176]
abbrev dktX2_type_1 : List UInt8 := dkwX2_type_1 ++ []
def dkwX2_type_0 : List UInt8 := [27, 133, 9, 42, 180, 0, 12, 182, 0, 88, 4, 100, 133, 184, 0, 102, 184, 0, 106, 42, 180, 0, 12, 27]
abbrev dktX2_type_0 : List UInt8 := dkwX2_type_0 ++ dktX2_type_1
theorem dksX2_type_0 : cX2_type.data.toList.drop 0 = dktX2_type_0 := by decide +kernel
theorem dksX2_type_1 : cX2_type.data.toList.drop 24 = dktX2_type_1 := dk_seg dksX2_type_0 24 rfl rfl
theorem dX2_type_0 : decode cX2_type 0 = .ok (.iload_n 1, 1) := dk_27 (dk_at dksX2_type_0 0 rfl rfl)
theorem dX2_type_1 : decode cX2_type 1 = .ok (.i2l, 1) := dk_133 (dk_at dksX2_type_0 1 rfl rfl)
theorem dX2_type_2 : decode cX2_type 2 = .ok (.lconst 0, 1) := dk_9 (dk_at dksX2_type_0 2 rfl rfl)
theorem dX2_type_3 : decode cX2_type 3 = .ok (.aload_n 0, 1) := dk_42 (dk_at dksX2_type_0 3 rfl rfl)
theorem dX2_type_4 : decode cX2_type 4 = .ok (.getfield 12, 3) := dk_180 0 12 (dk_at dksX2_type_0 4 rfl rfl)
theorem dX2_type_7 : decode cX2_type 7 = .ok (.invokevirtual 88, 3) := dk_182 0 88 (dk_at dksX2_type_0 7 rfl rfl)
theorem dX2_type_10 : decode cX2_type 10 = .ok (.iconst 1, 1) := dk_4 (dk_at dksX2_type_0 10 rfl rfl)
theorem dX2_type_11 : decode cX2_type 11 = .ok (.isub, 1) := dk_100 (dk_at dksX2_type_0 11 rfl rfl)
theorem dX2_type_12 : decode cX2_type 12 = .ok (.i2l, 1) := dk_133 (dk_at dksX2_type_0 12 rfl rfl)
theorem dX2_type_13 : decode cX2_type 13 = .ok (.invokestatic 102, 3) := dk_184 0 102 (dk_at dksX2_type_0 13 rfl rfl)
theorem dX2_type_16 : decode cX2_type 16 = .ok (.invokestatic 106, 3) := dk_184 0 106 (dk_at dksX2_type_0 16 rfl rfl)
theorem dX2_type_19 : decode cX2_type 19 = .ok (.aload_n 0, 1) := dk_42 (dk_at dksX2_type_0 19 rfl rfl)
theorem dX2_type_20 : decode cX2_type 20 = .ok (.getfield 12, 3) := dk_180 0 12 (dk_at dksX2_type_0 20 rfl rfl)
theorem dX2_type_23 : decode cX2_type 23 = .ok (.iload_n 1, 1) := dk_27 (dk_at dksX2_type_0 23 rfl rfl)
theorem dX2_type_24 : decode cX2_type 24 = .ok (.invokevirtual 110, 3) := dk_182 0 110 (dk_at dksX2_type_1 0 rfl rfl)
theorem dX2_type_27 : decode cX2_type 27 = .ok (.checkcast 56, 3) := dk_192 0 56 (dk_at dksX2_type_1 3 rfl rfl)
theorem dX2_type_30 : decode cX2_type 30 = .ok (.areturn, 1) := dk_176 (dk_at dksX2_type_1 6 rfl rfl)
def dkwX2_addDrum_2 : List UInt8 := [27, 28, 183, 0, 170, 182, 0, 68, 54, 4, 42, 180, 0, 31, 182, 0, 88, 4, 100, 172]
abbrev dktX2_addDrum_2 : List UInt8 := dkwX2_addDrum_2 ++ []
def dkwX2_addDrum_1 : List UInt8 := [182, 0, 88, 16, 10, 162, 0, 7, 4, 167, 0, 4, 3, 184, 0, 131, 42, 180, 0, 31, 187, 0, 76, 89]
abbrev dktX2_addDrum_1 : List UInt8 := dkwX2_addDrum_1 ++ dktX2_addDrum_2
def dkwX2_addDrum_0 : List UInt8 := [42, 27, 182, 0, 163, 78, 28, 133, 9, 20, 0, 143, 184, 0, 102, 184, 0, 124, 42, 180, 0, 31]
abbrev dktX2_addDrum_0 : List UInt8 := dkwX2_addDrum_0 ++ dktX2_addDrum_1
theorem dksX2_addDrum_0 : cX2_addDrum.data.toList.drop 0 = dktX2_addDrum_0 := by decide +kernel
theorem dksX2_addDrum_1 : cX2_addDrum.data.toList.drop 22 = dktX2_addDrum_1 := dk_seg dksX2_addDrum_0 22 rfl rfl
theorem dksX2_addDrum_2 : cX2_addDrum.data.toList.drop 46 = dktX2_addDrum_2 := dk_seg dksX2_addDrum_1 24 rfl rfl
theorem dX2_addDrum_0 : decode cX2_addDrum 0 = .ok (.aload_n 0, 1) := dk_42 (dk_at dksX2_addDrum_0 0 rfl rfl)
theorem dX2_addDrum_1 : decode cX2_addDrum 1 = .ok (.iload_n 1, 1) := dk_27 (dk_at dksX2_addDrum_0 1 rfl rfl)
theorem dX2_addDrum_2 : decode cX2_addDrum 2 = .ok (.invokevirtual 163, 3) := dk_182 0 163 (dk_at dksX2_addDrum_0 2 rfl rfl)
theorem dX2_addDrum_5 : decode cX2_addDrum 5 = .ok (.astore_n 3, 1) := dk_78 (dk_at dksX2_addDrum_0 5 rfl rfl)
theorem dX2_addDrum_6 : decode cX2_addDrum 6 = .ok (.iload_n 2, 1) := dk_28 (dk_at dksX2_addDrum_0 6 rfl rfl)
theorem dX2_addDrum_7 : decode cX2_addDrum 7 = .ok (.i2l, 1) := dk_133 (dk_at dksX2_addDrum_0 7 rfl rfl)
theorem dX2_addDrum_8 : decode cX2_addDrum 8 = .ok (.lconst 0, 1) := dk_9 (dk_at dksX2_addDrum_0 8 rfl rfl)
theorem dX2_addDrum_9 : decode cX2_addDrum 9 = .ok (.ldc2_w 143, 3) := dk_20 0 143 (dk_at dksX2_addDrum_0 9 rfl rfl)
theorem dX2_addDrum_12 : decode cX2_addDrum 12 = .ok (.invokestatic 102, 3) := dk_184 0 102 (dk_at dksX2_addDrum_0 12 rfl rfl)
theorem dX2_addDrum_15 : decode cX2_addDrum 15 = .ok (.invokestatic 124, 3) := dk_184 0 124 (dk_at dksX2_addDrum_0 15 rfl rfl)
theorem dX2_addDrum_18 : decode cX2_addDrum 18 = .ok (.aload_n 0, 1) := dk_42 (dk_at dksX2_addDrum_0 18 rfl rfl)
theorem dX2_addDrum_19 : decode cX2_addDrum 19 = .ok (.getfield 31, 3) := dk_180 0 31 (dk_at dksX2_addDrum_0 19 rfl rfl)
theorem dX2_addDrum_22 : decode cX2_addDrum 22 = .ok (.invokevirtual 88, 3) := dk_182 0 88 (dk_at dksX2_addDrum_1 0 rfl rfl)
theorem dX2_addDrum_25 : decode cX2_addDrum 25 = .ok (.bipush 10, 2) := dk_16 10 (dk_at dksX2_addDrum_1 3 rfl rfl)
theorem dX2_addDrum_27 : decode cX2_addDrum 27 = .ok (.if_icmp .ge 7, 3) := dk_162 0 7 (dk_at dksX2_addDrum_1 5 rfl rfl)
theorem dX2_addDrum_30 : decode cX2_addDrum 30 = .ok (.iconst 1, 1) := dk_4 (dk_at dksX2_addDrum_1 8 rfl rfl)
theorem dX2_addDrum_31 : decode cX2_addDrum 31 = .ok (.goto 4, 3) := dk_167 0 4 (dk_at dksX2_addDrum_1 9 rfl rfl)
theorem dX2_addDrum_34 : decode cX2_addDrum 34 = .ok (.iconst 0, 1) := dk_3 (dk_at dksX2_addDrum_1 12 rfl rfl)
theorem dX2_addDrum_35 : decode cX2_addDrum 35 = .ok (.invokestatic 131, 3) := dk_184 0 131 (dk_at dksX2_addDrum_1 13 rfl rfl)
theorem dX2_addDrum_38 : decode cX2_addDrum 38 = .ok (.aload_n 0, 1) := dk_42 (dk_at dksX2_addDrum_1 16 rfl rfl)
theorem dX2_addDrum_39 : decode cX2_addDrum 39 = .ok (.getfield 31, 3) := dk_180 0 31 (dk_at dksX2_addDrum_1 17 rfl rfl)
theorem dX2_addDrum_42 : decode cX2_addDrum 42 = .ok (.new 76, 3) := dk_187 0 76 (dk_at dksX2_addDrum_1 20 rfl rfl)
theorem dX2_addDrum_45 : decode cX2_addDrum 45 = .ok (.dup, 1) := dk_89 (dk_at dksX2_addDrum_1 23 rfl rfl)
theorem dX2_addDrum_46 : decode cX2_addDrum 46 = .ok (.iload_n 1, 1) := dk_27 (dk_at dksX2_addDrum_2 0 rfl rfl)
theorem dX2_addDrum_47 : decode cX2_addDrum 47 = .ok (.iload_n 2, 1) := dk_28 (dk_at dksX2_addDrum_2 1 rfl rfl)
theorem dX2_addDrum_48 : decode cX2_addDrum 48 = .ok (.invokespecial 170, 3) := dk_183 0 170 (dk_at dksX2_addDrum_2 2 rfl rfl)
theorem dX2_addDrum_51 : decode cX2_addDrum 51 = .ok (.invokevirtual 68, 3) := dk_182 0 68 (dk_at dksX2_addDrum_2 5 rfl rfl)
theorem dX2_addDrum_54 : decode cX2_addDrum 54 = .ok (.istore 4, 2) := dk_54 4 (dk_at dksX2_addDrum_2 8 rfl rfl)
theorem dX2_addDrum_56 : decode cX2_addDrum 56 = .ok (.aload_n 0, 1) := dk_42 (dk_at dksX2_addDrum_2 10 rfl rfl)
theorem dX2_addDrum_57 : decode cX2_addDrum 57 = .ok (.getfield 31, 3) := dk_180 0 31 (dk_at dksX2_addDrum_2 11 rfl rfl)
theorem dX2_addDrum_60 : decode cX2_addDrum 60 = .ok (.invokevirtual 88, 3) := dk_182 0 88 (dk_at dksX2_addDrum_2 14 rfl rfl)
theorem dX2_addDrum_63 : decode cX2_addDrum 63 = .ok (.iconst 1, 1) := dk_4 (dk_at dksX2_addDrum_2 17 rfl rfl)
theorem dX2_addDrum_64 : decode cX2_addDrum 64 = .ok (.isub, 1) := dk_100 (dk_at dksX2_addDrum_2 18 rfl rfl)
theorem dX2_addDrum_65 : decode cX2_addDrum 65 = .ok (.ireturn, 1) := dk_172 (dk_at dksX2_addDrum_2 19 rfl rfl)
def dkwX2_route_5 : List UInt8 := [182, 0, 250, 172]
abbrev dktX2_route_5 : List UInt8 := dkwX2_route_5 ++ []
def dkwX2_route_4 : List UInt8 := [182, 0, 187, 154, 0, 9, 42, 45, 182, 0, 243, 191, 42, 44, 45, 25, 4, 182, 0, 247, 42, 44]
abbrev dktX2_route_4 : List UInt8 := dkwX2_route_4 ++ dktX2_route_5
def dkwX2_route_3 : List UInt8 := [191, 187, 0, 182, 89, 42, 45, 44, 180, 0, 237, 44, 180, 0, 240, 183, 0, 184, 58, 4, 25, 4]
abbrev dktX2_route_3 : List UInt8 := dkwX2_route_3 ++ dktX2_route_4
def dkwX2_route_2 : List UInt8 := [6, 188, 10, 89, 3, 6, 79, 89, 4, 44, 180, 0, 237, 79, 89, 5, 44, 180, 0, 240, 79, 184, 0, 207]
abbrev dktX2_route_2 : List UInt8 := dkwX2_route_2 ++ dktX2_route_3
def dkwX2_route_1 : List UInt8 := [187, 0, 182, 89, 42, 1, 44, 180, 0, 237, 44, 180, 0, 240, 183, 0, 184, 182, 0, 187, 154, 0, 29, 3]
abbrev dktX2_route_1 : List UInt8 := dkwX2_route_1 ++ dktX2_route_2
def dkwX2_route_0 : List UInt8 := [42, 27, 3, 182, 0, 231, 77, 42, 180, 0, 12, 44, 180, 0, 235, 182, 0, 110, 192, 0, 56, 78]
abbrev dktX2_route_0 : List UInt8 := dkwX2_route_0 ++ dktX2_route_1
theorem dksX2_route_0 : cX2_route.data.toList.drop 0 = dktX2_route_0 := by decide +kernel
theorem dksX2_route_1 : cX2_route.data.toList.drop 22 = dktX2_route_1 := dk_seg dksX2_route_0 22 rfl rfl
theorem dksX2_route_2 : cX2_route.data.toList.drop 46 = dktX2_route_2 := dk_seg dksX2_route_1 24 rfl rfl
theorem dksX2_route_3 : cX2_route.data.toList.drop 70 = dktX2_route_3 := dk_seg dksX2_route_2 24 rfl rfl
theorem dksX2_route_4 : cX2_route.data.toList.drop 92 = dktX2_route_4 := dk_seg dksX2_route_3 22 rfl rfl
theorem dksX2_route_5 : cX2_route.data.toList.drop 114 = dktX2_route_5 := dk_seg dksX2_route_4 22 rfl rfl
theorem dX2_route_0 : decode cX2_route 0 = .ok (.aload_n 0, 1) := dk_42 (dk_at dksX2_route_0 0 rfl rfl)
theorem dX2_route_1 : decode cX2_route 1 = .ok (.iload_n 1, 1) := dk_27 (dk_at dksX2_route_0 1 rfl rfl)
theorem dX2_route_2 : decode cX2_route 2 = .ok (.iconst 0, 1) := dk_3 (dk_at dksX2_route_0 2 rfl rfl)
theorem dX2_route_3 : decode cX2_route 3 = .ok (.invokevirtual 231, 3) := dk_182 0 231 (dk_at dksX2_route_0 3 rfl rfl)
theorem dX2_route_6 : decode cX2_route 6 = .ok (.astore_n 2, 1) := dk_77 (dk_at dksX2_route_0 6 rfl rfl)
theorem dX2_route_7 : decode cX2_route 7 = .ok (.aload_n 0, 1) := dk_42 (dk_at dksX2_route_0 7 rfl rfl)
theorem dX2_route_8 : decode cX2_route 8 = .ok (.getfield 12, 3) := dk_180 0 12 (dk_at dksX2_route_0 8 rfl rfl)
theorem dX2_route_11 : decode cX2_route 11 = .ok (.aload_n 2, 1) := dk_44 (dk_at dksX2_route_0 11 rfl rfl)
theorem dX2_route_12 : decode cX2_route 12 = .ok (.getfield 235, 3) := dk_180 0 235 (dk_at dksX2_route_0 12 rfl rfl)
theorem dX2_route_15 : decode cX2_route 15 = .ok (.invokevirtual 110, 3) := dk_182 0 110 (dk_at dksX2_route_0 15 rfl rfl)
theorem dX2_route_18 : decode cX2_route 18 = .ok (.checkcast 56, 3) := dk_192 0 56 (dk_at dksX2_route_0 18 rfl rfl)
theorem dX2_route_21 : decode cX2_route 21 = .ok (.astore_n 3, 1) := dk_78 (dk_at dksX2_route_0 21 rfl rfl)
theorem dX2_route_22 : decode cX2_route 22 = .ok (.new 182, 3) := dk_187 0 182 (dk_at dksX2_route_1 0 rfl rfl)
theorem dX2_route_25 : decode cX2_route 25 = .ok (.dup, 1) := dk_89 (dk_at dksX2_route_1 3 rfl rfl)
theorem dX2_route_26 : decode cX2_route 26 = .ok (.aload_n 0, 1) := dk_42 (dk_at dksX2_route_1 4 rfl rfl)
theorem dX2_route_27 : decode cX2_route 27 = .ok (.aconst_null, 1) := dk_1 (dk_at dksX2_route_1 5 rfl rfl)
theorem dX2_route_28 : decode cX2_route 28 = .ok (.aload_n 2, 1) := dk_44 (dk_at dksX2_route_1 6 rfl rfl)
theorem dX2_route_29 : decode cX2_route 29 = .ok (.getfield 237, 3) := dk_180 0 237 (dk_at dksX2_route_1 7 rfl rfl)
theorem dX2_route_32 : decode cX2_route 32 = .ok (.aload_n 2, 1) := dk_44 (dk_at dksX2_route_1 10 rfl rfl)
theorem dX2_route_33 : decode cX2_route 33 = .ok (.getfield 240, 3) := dk_180 0 240 (dk_at dksX2_route_1 11 rfl rfl)
theorem dX2_route_36 : decode cX2_route 36 = .ok (.invokespecial 184, 3) := dk_183 0 184 (dk_at dksX2_route_1 14 rfl rfl)
theorem dX2_route_39 : decode cX2_route 39 = .ok (.invokevirtual 187, 3) := dk_182 0 187 (dk_at dksX2_route_1 17 rfl rfl)
theorem dX2_route_42 : decode cX2_route 42 = .ok (.ifCond .ne 29, 3) := dk_154 0 29 (dk_at dksX2_route_1 20 rfl rfl)
theorem dX2_route_45 : decode cX2_route 45 = .ok (.iconst 0, 1) := dk_3 (dk_at dksX2_route_1 23 rfl rfl)
theorem dX2_route_46 : decode cX2_route 46 = .ok (.iconst 3, 1) := dk_6 (dk_at dksX2_route_2 0 rfl rfl)
theorem dX2_route_47 : decode cX2_route 47 = .ok (.newarray .int, 2) := dk_188_10 (dk_at dksX2_route_2 1 rfl rfl)
theorem dX2_route_49 : decode cX2_route 49 = .ok (.dup, 1) := dk_89 (dk_at dksX2_route_2 3 rfl rfl)
theorem dX2_route_50 : decode cX2_route 50 = .ok (.iconst 0, 1) := dk_3 (dk_at dksX2_route_2 4 rfl rfl)
theorem dX2_route_51 : decode cX2_route 51 = .ok (.iconst 3, 1) := dk_6 (dk_at dksX2_route_2 5 rfl rfl)
theorem dX2_route_52 : decode cX2_route 52 = .ok (.iastore, 1) := dk_79 (dk_at dksX2_route_2 6 rfl rfl)
theorem dX2_route_53 : decode cX2_route 53 = .ok (.dup, 1) := dk_89 (dk_at dksX2_route_2 7 rfl rfl)
theorem dX2_route_54 : decode cX2_route 54 = .ok (.iconst 1, 1) := dk_4 (dk_at dksX2_route_2 8 rfl rfl)
theorem dX2_route_55 : decode cX2_route 55 = .ok (.aload_n 2, 1) := dk_44 (dk_at dksX2_route_2 9 rfl rfl)
theorem dX2_route_56 : decode cX2_route 56 = .ok (.getfield 237, 3) := dk_180 0 237 (dk_at dksX2_route_2 10 rfl rfl)
theorem dX2_route_59 : decode cX2_route 59 = .ok (.iastore, 1) := dk_79 (dk_at dksX2_route_2 13 rfl rfl)
theorem dX2_route_60 : decode cX2_route 60 = .ok (.dup, 1) := dk_89 (dk_at dksX2_route_2 14 rfl rfl)
theorem dX2_route_61 : decode cX2_route 61 = .ok (.iconst 2, 1) := dk_5 (dk_at dksX2_route_2 15 rfl rfl)
theorem dX2_route_62 : decode cX2_route 62 = .ok (.aload_n 2, 1) := dk_44 (dk_at dksX2_route_2 16 rfl rfl)
theorem dX2_route_63 : decode cX2_route 63 = .ok (.getfield 240, 3) := dk_180 0 240 (dk_at dksX2_route_2 17 rfl rfl)
theorem dX2_route_66 : decode cX2_route 66 = .ok (.iastore, 1) := dk_79 (dk_at dksX2_route_2 20 rfl rfl)
theorem dX2_route_67 : decode cX2_route 67 = .ok (.invokestatic 207, 3) := dk_184 0 207 (dk_at dksX2_route_2 21 rfl rfl)
theorem dX2_route_70 : decode cX2_route 70 = .ok (.athrow, 1) := dk_191 (dk_at dksX2_route_3 0 rfl rfl)
theorem dX2_route_71 : decode cX2_route 71 = .ok (.new 182, 3) := dk_187 0 182 (dk_at dksX2_route_3 1 rfl rfl)
theorem dX2_route_74 : decode cX2_route 74 = .ok (.dup, 1) := dk_89 (dk_at dksX2_route_3 4 rfl rfl)
theorem dX2_route_75 : decode cX2_route 75 = .ok (.aload_n 0, 1) := dk_42 (dk_at dksX2_route_3 5 rfl rfl)
theorem dX2_route_76 : decode cX2_route 76 = .ok (.aload_n 3, 1) := dk_45 (dk_at dksX2_route_3 6 rfl rfl)
theorem dX2_route_77 : decode cX2_route 77 = .ok (.aload_n 2, 1) := dk_44 (dk_at dksX2_route_3 7 rfl rfl)
theorem dX2_route_78 : decode cX2_route 78 = .ok (.getfield 237, 3) := dk_180 0 237 (dk_at dksX2_route_3 8 rfl rfl)
theorem dX2_route_81 : decode cX2_route 81 = .ok (.aload_n 2, 1) := dk_44 (dk_at dksX2_route_3 11 rfl rfl)
theorem dX2_route_82 : decode cX2_route 82 = .ok (.getfield 240, 3) := dk_180 0 240 (dk_at dksX2_route_3 12 rfl rfl)
theorem dX2_route_85 : decode cX2_route 85 = .ok (.invokespecial 184, 3) := dk_183 0 184 (dk_at dksX2_route_3 15 rfl rfl)
theorem dX2_route_88 : decode cX2_route 88 = .ok (.astore 4, 2) := dk_58 4 (dk_at dksX2_route_3 18 rfl rfl)
theorem dX2_route_90 : decode cX2_route 90 = .ok (.aload 4, 2) := dk_25 4 (dk_at dksX2_route_3 20 rfl rfl)
theorem dX2_route_92 : decode cX2_route 92 = .ok (.invokevirtual 187, 3) := dk_182 0 187 (dk_at dksX2_route_4 0 rfl rfl)
theorem dX2_route_95 : decode cX2_route 95 = .ok (.ifCond .ne 9, 3) := dk_154 0 9 (dk_at dksX2_route_4 3 rfl rfl)
theorem dX2_route_98 : decode cX2_route 98 = .ok (.aload_n 0, 1) := dk_42 (dk_at dksX2_route_4 6 rfl rfl)
theorem dX2_route_99 : decode cX2_route 99 = .ok (.aload_n 3, 1) := dk_45 (dk_at dksX2_route_4 7 rfl rfl)
theorem dX2_route_100 : decode cX2_route 100 = .ok (.invokevirtual 243, 3) := dk_182 0 243 (dk_at dksX2_route_4 8 rfl rfl)
theorem dX2_route_103 : decode cX2_route 103 = .ok (.athrow, 1) := dk_191 (dk_at dksX2_route_4 11 rfl rfl)
theorem dX2_route_104 : decode cX2_route 104 = .ok (.aload_n 0, 1) := dk_42 (dk_at dksX2_route_4 12 rfl rfl)
theorem dX2_route_105 : decode cX2_route 105 = .ok (.aload_n 2, 1) := dk_44 (dk_at dksX2_route_4 13 rfl rfl)
theorem dX2_route_106 : decode cX2_route 106 = .ok (.aload_n 3, 1) := dk_45 (dk_at dksX2_route_4 14 rfl rfl)
theorem dX2_route_107 : decode cX2_route 107 = .ok (.aload 4, 2) := dk_25 4 (dk_at dksX2_route_4 15 rfl rfl)
theorem dX2_route_109 : decode cX2_route 109 = .ok (.invokevirtual 247, 3) := dk_182 0 247 (dk_at dksX2_route_4 17 rfl rfl)
theorem dX2_route_112 : decode cX2_route 112 = .ok (.aload_n 0, 1) := dk_42 (dk_at dksX2_route_4 20 rfl rfl)
theorem dX2_route_113 : decode cX2_route 113 = .ok (.aload_n 2, 1) := dk_44 (dk_at dksX2_route_4 21 rfl rfl)
theorem dX2_route_114 : decode cX2_route 114 = .ok (.invokevirtual 250, 3) := dk_182 0 250 (dk_at dksX2_route_5 0 rfl rfl)
theorem dX2_route_117 : decode cX2_route 117 = .ok (.ireturn, 1) := dk_172 (dk_at dksX2_route_5 3 rfl rfl)
def dkwX2_cableToChange_3 : List UInt8 := [184, 0, 207, 191, 45, 176]
abbrev dktX2_cableToChange_3 : List UInt8 := dkwX2_cableToChange_3 ++ []
def dkwX2_cableToChange_2 : List UInt8 := [180, 0, 211, 28, 159, 0, 22, 3, 5, 188, 10, 89, 3, 5, 79, 89, 4, 45, 180, 0, 211, 79]
abbrev dktX2_cableToChange_2 : List UInt8 := dkwX2_cableToChange_2 ++ dktX2_cableToChange_3
def dkwX2_cableToChange_1 : List UInt8 := [3, 4, 79, 89, 4, 27, 79, 184, 0, 207, 191, 42, 180, 0, 28, 27, 182, 0, 110, 192, 0, 71, 78, 45]
abbrev dktX2_cableToChange_1 : List UInt8 := dkwX2_cableToChange_1 ++ dktX2_cableToChange_2
def dkwX2_cableToChange_0 : List UInt8 := [27, 133, 9, 42, 180, 0, 28, 182, 0, 88, 4, 100, 133, 184, 0, 102, 154, 0, 19, 3, 5, 188, 10, 89]
abbrev dktX2_cableToChange_0 : List UInt8 := dkwX2_cableToChange_0 ++ dktX2_cableToChange_1
theorem dksX2_cableToChange_0 : cX2_cableToChange.data.toList.drop 0 = dktX2_cableToChange_0 := by decide +kernel
theorem dksX2_cableToChange_1 : cX2_cableToChange.data.toList.drop 24 = dktX2_cableToChange_1 := dk_seg dksX2_cableToChange_0 24 rfl rfl
theorem dksX2_cableToChange_2 : cX2_cableToChange.data.toList.drop 48 = dktX2_cableToChange_2 := dk_seg dksX2_cableToChange_1 24 rfl rfl
theorem dksX2_cableToChange_3 : cX2_cableToChange.data.toList.drop 70 = dktX2_cableToChange_3 := dk_seg dksX2_cableToChange_2 22 rfl rfl
theorem dX2_cableToChange_0 : decode cX2_cableToChange 0 = .ok (.iload_n 1, 1) := dk_27 (dk_at dksX2_cableToChange_0 0 rfl rfl)
theorem dX2_cableToChange_1 : decode cX2_cableToChange 1 = .ok (.i2l, 1) := dk_133 (dk_at dksX2_cableToChange_0 1 rfl rfl)
theorem dX2_cableToChange_2 : decode cX2_cableToChange 2 = .ok (.lconst 0, 1) := dk_9 (dk_at dksX2_cableToChange_0 2 rfl rfl)
theorem dX2_cableToChange_3 : decode cX2_cableToChange 3 = .ok (.aload_n 0, 1) := dk_42 (dk_at dksX2_cableToChange_0 3 rfl rfl)
theorem dX2_cableToChange_4 : decode cX2_cableToChange 4 = .ok (.getfield 28, 3) := dk_180 0 28 (dk_at dksX2_cableToChange_0 4 rfl rfl)
theorem dX2_cableToChange_7 : decode cX2_cableToChange 7 = .ok (.invokevirtual 88, 3) := dk_182 0 88 (dk_at dksX2_cableToChange_0 7 rfl rfl)
theorem dX2_cableToChange_10 : decode cX2_cableToChange 10 = .ok (.iconst 1, 1) := dk_4 (dk_at dksX2_cableToChange_0 10 rfl rfl)
theorem dX2_cableToChange_11 : decode cX2_cableToChange 11 = .ok (.isub, 1) := dk_100 (dk_at dksX2_cableToChange_0 11 rfl rfl)
theorem dX2_cableToChange_12 : decode cX2_cableToChange 12 = .ok (.i2l, 1) := dk_133 (dk_at dksX2_cableToChange_0 12 rfl rfl)
theorem dX2_cableToChange_13 : decode cX2_cableToChange 13 = .ok (.invokestatic 102, 3) := dk_184 0 102 (dk_at dksX2_cableToChange_0 13 rfl rfl)
theorem dX2_cableToChange_16 : decode cX2_cableToChange 16 = .ok (.ifCond .ne 19, 3) := dk_154 0 19 (dk_at dksX2_cableToChange_0 16 rfl rfl)
theorem dX2_cableToChange_19 : decode cX2_cableToChange 19 = .ok (.iconst 0, 1) := dk_3 (dk_at dksX2_cableToChange_0 19 rfl rfl)
theorem dX2_cableToChange_20 : decode cX2_cableToChange 20 = .ok (.iconst 2, 1) := dk_5 (dk_at dksX2_cableToChange_0 20 rfl rfl)
theorem dX2_cableToChange_21 : decode cX2_cableToChange 21 = .ok (.newarray .int, 2) := dk_188_10 (dk_at dksX2_cableToChange_0 21 rfl rfl)
theorem dX2_cableToChange_23 : decode cX2_cableToChange 23 = .ok (.dup, 1) := dk_89 (dk_at dksX2_cableToChange_0 23 rfl rfl)
theorem dX2_cableToChange_24 : decode cX2_cableToChange 24 = .ok (.iconst 0, 1) := dk_3 (dk_at dksX2_cableToChange_1 0 rfl rfl)
theorem dX2_cableToChange_25 : decode cX2_cableToChange 25 = .ok (.iconst 1, 1) := dk_4 (dk_at dksX2_cableToChange_1 1 rfl rfl)
theorem dX2_cableToChange_26 : decode cX2_cableToChange 26 = .ok (.iastore, 1) := dk_79 (dk_at dksX2_cableToChange_1 2 rfl rfl)
theorem dX2_cableToChange_27 : decode cX2_cableToChange 27 = .ok (.dup, 1) := dk_89 (dk_at dksX2_cableToChange_1 3 rfl rfl)
theorem dX2_cableToChange_28 : decode cX2_cableToChange 28 = .ok (.iconst 1, 1) := dk_4 (dk_at dksX2_cableToChange_1 4 rfl rfl)
theorem dX2_cableToChange_29 : decode cX2_cableToChange 29 = .ok (.iload_n 1, 1) := dk_27 (dk_at dksX2_cableToChange_1 5 rfl rfl)
theorem dX2_cableToChange_30 : decode cX2_cableToChange 30 = .ok (.iastore, 1) := dk_79 (dk_at dksX2_cableToChange_1 6 rfl rfl)
theorem dX2_cableToChange_31 : decode cX2_cableToChange 31 = .ok (.invokestatic 207, 3) := dk_184 0 207 (dk_at dksX2_cableToChange_1 7 rfl rfl)
theorem dX2_cableToChange_34 : decode cX2_cableToChange 34 = .ok (.athrow, 1) := dk_191 (dk_at dksX2_cableToChange_1 10 rfl rfl)
theorem dX2_cableToChange_35 : decode cX2_cableToChange 35 = .ok (.aload_n 0, 1) := dk_42 (dk_at dksX2_cableToChange_1 11 rfl rfl)
theorem dX2_cableToChange_36 : decode cX2_cableToChange 36 = .ok (.getfield 28, 3) := dk_180 0 28 (dk_at dksX2_cableToChange_1 12 rfl rfl)
theorem dX2_cableToChange_39 : decode cX2_cableToChange 39 = .ok (.iload_n 1, 1) := dk_27 (dk_at dksX2_cableToChange_1 15 rfl rfl)
theorem dX2_cableToChange_40 : decode cX2_cableToChange 40 = .ok (.invokevirtual 110, 3) := dk_182 0 110 (dk_at dksX2_cableToChange_1 16 rfl rfl)
theorem dX2_cableToChange_43 : decode cX2_cableToChange 43 = .ok (.checkcast 71, 3) := dk_192 0 71 (dk_at dksX2_cableToChange_1 19 rfl rfl)
theorem dX2_cableToChange_46 : decode cX2_cableToChange 46 = .ok (.astore_n 3, 1) := dk_78 (dk_at dksX2_cableToChange_1 22 rfl rfl)
theorem dX2_cableToChange_47 : decode cX2_cableToChange 47 = .ok (.aload_n 3, 1) := dk_45 (dk_at dksX2_cableToChange_1 23 rfl rfl)
theorem dX2_cableToChange_48 : decode cX2_cableToChange 48 = .ok (.getfield 211, 3) := dk_180 0 211 (dk_at dksX2_cableToChange_2 0 rfl rfl)
theorem dX2_cableToChange_51 : decode cX2_cableToChange 51 = .ok (.iload_n 2, 1) := dk_28 (dk_at dksX2_cableToChange_2 3 rfl rfl)
theorem dX2_cableToChange_52 : decode cX2_cableToChange 52 = .ok (.if_icmp .eq 22, 3) := dk_159 0 22 (dk_at dksX2_cableToChange_2 4 rfl rfl)
theorem dX2_cableToChange_55 : decode cX2_cableToChange 55 = .ok (.iconst 0, 1) := dk_3 (dk_at dksX2_cableToChange_2 7 rfl rfl)
theorem dX2_cableToChange_56 : decode cX2_cableToChange 56 = .ok (.iconst 2, 1) := dk_5 (dk_at dksX2_cableToChange_2 8 rfl rfl)
theorem dX2_cableToChange_57 : decode cX2_cableToChange 57 = .ok (.newarray .int, 2) := dk_188_10 (dk_at dksX2_cableToChange_2 9 rfl rfl)
theorem dX2_cableToChange_59 : decode cX2_cableToChange 59 = .ok (.dup, 1) := dk_89 (dk_at dksX2_cableToChange_2 11 rfl rfl)
theorem dX2_cableToChange_60 : decode cX2_cableToChange 60 = .ok (.iconst 0, 1) := dk_3 (dk_at dksX2_cableToChange_2 12 rfl rfl)
theorem dX2_cableToChange_61 : decode cX2_cableToChange 61 = .ok (.iconst 2, 1) := dk_5 (dk_at dksX2_cableToChange_2 13 rfl rfl)
theorem dX2_cableToChange_62 : decode cX2_cableToChange 62 = .ok (.iastore, 1) := dk_79 (dk_at dksX2_cableToChange_2 14 rfl rfl)
theorem dX2_cableToChange_63 : decode cX2_cableToChange 63 = .ok (.dup, 1) := dk_89 (dk_at dksX2_cableToChange_2 15 rfl rfl)
theorem dX2_cableToChange_64 : decode cX2_cableToChange 64 = .ok (.iconst 1, 1) := dk_4 (dk_at dksX2_cableToChange_2 16 rfl rfl)
theorem dX2_cableToChange_65 : decode cX2_cableToChange 65 = .ok (.aload_n 3, 1) := dk_45 (dk_at dksX2_cableToChange_2 17 rfl rfl)
theorem dX2_cableToChange_66 : decode cX2_cableToChange 66 = .ok (.getfield 211, 3) := dk_180 0 211 (dk_at dksX2_cableToChange_2 18 rfl rfl)
theorem dX2_cableToChange_69 : decode cX2_cableToChange 69 = .ok (.iastore, 1) := dk_79 (dk_at dksX2_cableToChange_2 21 rfl rfl)
theorem dX2_cableToChange_70 : decode cX2_cableToChange 70 = .ok (.invokestatic 207, 3) := dk_184 0 207 (dk_at dksX2_cableToChange_3 0 rfl rfl)
theorem dX2_cableToChange_73 : decode cX2_cableToChange 73 = .ok (.athrow, 1) := dk_191 (dk_at dksX2_cableToChange_3 3 rfl rfl)
theorem dX2_cableToChange_74 : decode cX2_cableToChange 74 = .ok (.aload_n 3, 1) := dk_45 (dk_at dksX2_cableToChange_3 4 rfl rfl)
theorem dX2_cableToChange_75 : decode cX2_cableToChange 75 = .ok (.areturn, 1) := dk_176 (dk_at dksX2_cableToChange_3 5 rfl rfl)
def dkwX2_traysAt_0 : List UInt8 := [187, 0, 177, 89, 42, 27, 183, 0, 179, 176]
abbrev dktX2_traysAt_0 : List UInt8 := dkwX2_traysAt_0 ++ []
theorem dksX2_traysAt_0 : cX2_traysAt.data.toList.drop 0 = dktX2_traysAt_0 := by decide +kernel
theorem dX2_traysAt_0 : decode cX2_traysAt 0 = .ok (.new 177, 3) := dk_187 0 177 (dk_at dksX2_traysAt_0 0 rfl rfl)
theorem dX2_traysAt_3 : decode cX2_traysAt 3 = .ok (.dup, 1) := dk_89 (dk_at dksX2_traysAt_0 3 rfl rfl)
theorem dX2_traysAt_4 : decode cX2_traysAt 4 = .ok (.aload_n 0, 1) := dk_42 (dk_at dksX2_traysAt_0 4 rfl rfl)
theorem dX2_traysAt_5 : decode cX2_traysAt 5 = .ok (.iload_n 1, 1) := dk_27 (dk_at dksX2_traysAt_0 5 rfl rfl)
theorem dX2_traysAt_6 : decode cX2_traysAt 6 = .ok (.invokespecial 179, 3) := dk_183 0 179 (dk_at dksX2_traysAt_0 6 rfl rfl)
theorem dX2_traysAt_9 : decode cX2_traysAt 9 = .ok (.areturn, 1) := dk_176 (dk_at dksX2_traysAt_0 9 rfl rfl)
def dkwX2_fits_1 : List UInt8 := [167, 0, 4, 3, 172]
abbrev dktX2_fits_1 : List UInt8 := dkwX2_fits_1 ++ []
def dkwX2_fits_0 : List UInt8 := [42, 180, 0, 25, 27, 182, 0, 110, 192, 0, 62, 44, 42, 180, 0, 34, 182, 0, 173, 2, 159, 0, 7, 4]
abbrev dktX2_fits_0 : List UInt8 := dkwX2_fits_0 ++ dktX2_fits_1
theorem dksX2_fits_0 : cX2_fits.data.toList.drop 0 = dktX2_fits_0 := by decide +kernel
theorem dksX2_fits_1 : cX2_fits.data.toList.drop 24 = dktX2_fits_1 := dk_seg dksX2_fits_0 24 rfl rfl
theorem dX2_fits_0 : decode cX2_fits 0 = .ok (.aload_n 0, 1) := dk_42 (dk_at dksX2_fits_0 0 rfl rfl)
theorem dX2_fits_1 : decode cX2_fits 1 = .ok (.getfield 25, 3) := dk_180 0 25 (dk_at dksX2_fits_0 1 rfl rfl)
theorem dX2_fits_4 : decode cX2_fits 4 = .ok (.iload_n 1, 1) := dk_27 (dk_at dksX2_fits_0 4 rfl rfl)
theorem dX2_fits_5 : decode cX2_fits 5 = .ok (.invokevirtual 110, 3) := dk_182 0 110 (dk_at dksX2_fits_0 5 rfl rfl)
theorem dX2_fits_8 : decode cX2_fits 8 = .ok (.checkcast 62, 3) := dk_192 0 62 (dk_at dksX2_fits_0 8 rfl rfl)
theorem dX2_fits_11 : decode cX2_fits 11 = .ok (.aload_n 2, 1) := dk_44 (dk_at dksX2_fits_0 11 rfl rfl)
theorem dX2_fits_12 : decode cX2_fits 12 = .ok (.aload_n 0, 1) := dk_42 (dk_at dksX2_fits_0 12 rfl rfl)
theorem dX2_fits_13 : decode cX2_fits 13 = .ok (.getfield 34, 3) := dk_180 0 34 (dk_at dksX2_fits_0 13 rfl rfl)
theorem dX2_fits_16 : decode cX2_fits 16 = .ok (.invokevirtual 173, 3) := dk_182 0 173 (dk_at dksX2_fits_0 16 rfl rfl)
theorem dX2_fits_19 : decode cX2_fits 19 = .ok (.iconst (-1), 1) := dk_2 (dk_at dksX2_fits_0 19 rfl rfl)
theorem dX2_fits_20 : decode cX2_fits 20 = .ok (.if_icmp .eq 7, 3) := dk_159 0 7 (dk_at dksX2_fits_0 20 rfl rfl)
theorem dX2_fits_23 : decode cX2_fits 23 = .ok (.iconst 1, 1) := dk_4 (dk_at dksX2_fits_0 23 rfl rfl)
theorem dX2_fits_24 : decode cX2_fits 24 = .ok (.goto 4, 3) := dk_167 0 4 (dk_at dksX2_fits_1 0 rfl rfl)
theorem dX2_fits_27 : decode cX2_fits 27 = .ok (.iconst 0, 1) := dk_3 (dk_at dksX2_fits_1 3 rfl rfl)
theorem dX2_fits_28 : decode cX2_fits 28 = .ok (.ireturn, 1) := dk_172 (dk_at dksX2_fits_1 4 rfl rfl)
def dkwX2_full_2 : List UInt8 := [187, 0, 202, 89, 44, 183, 0, 204, 176]
abbrev dktX2_full_2 : List UInt8 := dkwX2_full_2 ++ []
def dkwX2_full_1 : List UInt8 := [153, 0, 7, 44, 167, 0, 12, 187, 0, 197, 89, 29, 44, 183, 0, 199, 77, 132, 3, 255, 167, 255, 226]
abbrev dktX2_full_1 : List UInt8 := dkwX2_full_1 ++ dktX2_full_2
def dkwX2_full_0 : List UInt8 := [1, 77, 42, 180, 0, 25, 182, 0, 88, 4, 100, 62, 29, 155, 0, 32, 42, 29, 43, 182, 0, 193]
abbrev dktX2_full_0 : List UInt8 := dkwX2_full_0 ++ dktX2_full_1
theorem dksX2_full_0 : cX2_full.data.toList.drop 0 = dktX2_full_0 := by decide +kernel
theorem dksX2_full_1 : cX2_full.data.toList.drop 22 = dktX2_full_1 := dk_seg dksX2_full_0 22 rfl rfl
theorem dksX2_full_2 : cX2_full.data.toList.drop 45 = dktX2_full_2 := dk_seg dksX2_full_1 23 rfl rfl
theorem dX2_full_0 : decode cX2_full 0 = .ok (.aconst_null, 1) := dk_1 (dk_at dksX2_full_0 0 rfl rfl)
theorem dX2_full_1 : decode cX2_full 1 = .ok (.astore_n 2, 1) := dk_77 (dk_at dksX2_full_0 1 rfl rfl)
theorem dX2_full_2 : decode cX2_full 2 = .ok (.aload_n 0, 1) := dk_42 (dk_at dksX2_full_0 2 rfl rfl)
theorem dX2_full_3 : decode cX2_full 3 = .ok (.getfield 25, 3) := dk_180 0 25 (dk_at dksX2_full_0 3 rfl rfl)
theorem dX2_full_6 : decode cX2_full 6 = .ok (.invokevirtual 88, 3) := dk_182 0 88 (dk_at dksX2_full_0 6 rfl rfl)
theorem dX2_full_9 : decode cX2_full 9 = .ok (.iconst 1, 1) := dk_4 (dk_at dksX2_full_0 9 rfl rfl)
theorem dX2_full_10 : decode cX2_full 10 = .ok (.isub, 1) := dk_100 (dk_at dksX2_full_0 10 rfl rfl)
theorem dX2_full_11 : decode cX2_full 11 = .ok (.istore_n 3, 1) := dk_62 (dk_at dksX2_full_0 11 rfl rfl)
theorem dX2_full_12 : decode cX2_full 12 = .ok (.iload_n 3, 1) := dk_29 (dk_at dksX2_full_0 12 rfl rfl)
theorem dX2_full_13 : decode cX2_full 13 = .ok (.ifCond .lt 32, 3) := dk_155 0 32 (dk_at dksX2_full_0 13 rfl rfl)
theorem dX2_full_16 : decode cX2_full 16 = .ok (.aload_n 0, 1) := dk_42 (dk_at dksX2_full_0 16 rfl rfl)
theorem dX2_full_17 : decode cX2_full 17 = .ok (.iload_n 3, 1) := dk_29 (dk_at dksX2_full_0 17 rfl rfl)
theorem dX2_full_18 : decode cX2_full 18 = .ok (.aload_n 1, 1) := dk_43 (dk_at dksX2_full_0 18 rfl rfl)
theorem dX2_full_19 : decode cX2_full 19 = .ok (.invokevirtual 193, 3) := dk_182 0 193 (dk_at dksX2_full_0 19 rfl rfl)
theorem dX2_full_22 : decode cX2_full 22 = .ok (.ifCond .eq 7, 3) := dk_153 0 7 (dk_at dksX2_full_1 0 rfl rfl)
theorem dX2_full_25 : decode cX2_full 25 = .ok (.aload_n 2, 1) := dk_44 (dk_at dksX2_full_1 3 rfl rfl)
theorem dX2_full_26 : decode cX2_full 26 = .ok (.goto 12, 3) := dk_167 0 12 (dk_at dksX2_full_1 4 rfl rfl)
theorem dX2_full_29 : decode cX2_full 29 = .ok (.new 197, 3) := dk_187 0 197 (dk_at dksX2_full_1 7 rfl rfl)
theorem dX2_full_32 : decode cX2_full 32 = .ok (.dup, 1) := dk_89 (dk_at dksX2_full_1 10 rfl rfl)
theorem dX2_full_33 : decode cX2_full 33 = .ok (.iload_n 3, 1) := dk_29 (dk_at dksX2_full_1 11 rfl rfl)
theorem dX2_full_34 : decode cX2_full 34 = .ok (.aload_n 2, 1) := dk_44 (dk_at dksX2_full_1 12 rfl rfl)
theorem dX2_full_35 : decode cX2_full 35 = .ok (.invokespecial 199, 3) := dk_183 0 199 (dk_at dksX2_full_1 13 rfl rfl)
theorem dX2_full_38 : decode cX2_full 38 = .ok (.astore_n 2, 1) := dk_77 (dk_at dksX2_full_1 16 rfl rfl)
theorem dX2_full_39 : decode cX2_full 39 = .ok (.iinc 3 (-1), 3) := dk_132 3 255 (dk_at dksX2_full_1 17 rfl rfl)
theorem dX2_full_42 : decode cX2_full 42 = .ok (.goto (-30), 3) := dk_167 255 226 (dk_at dksX2_full_1 20 rfl rfl)
theorem dX2_full_45 : decode cX2_full 45 = .ok (.new 202, 3) := dk_187 0 202 (dk_at dksX2_full_2 0 rfl rfl)
theorem dX2_full_48 : decode cX2_full 48 = .ok (.dup, 1) := dk_89 (dk_at dksX2_full_2 3 rfl rfl)
theorem dX2_full_49 : decode cX2_full 49 = .ok (.aload_n 2, 1) := dk_44 (dk_at dksX2_full_2 4 rfl rfl)
theorem dX2_full_50 : decode cX2_full 50 = .ok (.invokespecial 204, 3) := dk_183 0 204 (dk_at dksX2_full_2 5 rfl rfl)
theorem dX2_full_53 : decode cX2_full 53 = .ok (.areturn, 1) := dk_176 (dk_at dksX2_full_2 8 rfl rfl)
def dkwX2_lay_3 : List UInt8 := [183, 0, 230, 182, 0, 68, 54, 7, 132, 4, 1, 167, 255, 180, 43, 4, 181, 0, 211, 177]
abbrev dktX2_lay_3 : List UInt8 := dkwX2_lay_3 ++ []
def dkwX2_lay_2 : List UInt8 := [21, 6, 182, 0, 221, 43, 180, 0, 225, 187, 0, 228, 89, 45, 180, 0, 217, 21, 4, 46, 21, 6]
abbrev dktX2_lay_2 : List UInt8 := dkwX2_lay_2 ++ dktX2_lay_3
def dkwX2_lay_1 : List UInt8 := [182, 0, 110, 192, 0, 62, 58, 5, 25, 5, 44, 42, 180, 0, 34, 182, 0, 173, 54, 6, 25, 5, 44]
abbrev dktX2_lay_1 : List UInt8 := dkwX2_lay_1 ++ dktX2_lay_2
def dkwX2_lay_0 : List UInt8 := [3, 54, 4, 21, 4, 45, 180, 0, 214, 162, 0, 73, 42, 180, 0, 25, 45, 180, 0, 217, 21, 4, 46]
abbrev dktX2_lay_0 : List UInt8 := dkwX2_lay_0 ++ dktX2_lay_1
theorem dksX2_lay_0 : cX2_lay.data.toList.drop 0 = dktX2_lay_0 := by decide +kernel
theorem dksX2_lay_1 : cX2_lay.data.toList.drop 23 = dktX2_lay_1 := dk_seg dksX2_lay_0 23 rfl rfl
theorem dksX2_lay_2 : cX2_lay.data.toList.drop 46 = dktX2_lay_2 := dk_seg dksX2_lay_1 23 rfl rfl
theorem dksX2_lay_3 : cX2_lay.data.toList.drop 68 = dktX2_lay_3 := dk_seg dksX2_lay_2 22 rfl rfl
theorem dX2_lay_0 : decode cX2_lay 0 = .ok (.iconst 0, 1) := dk_3 (dk_at dksX2_lay_0 0 rfl rfl)
theorem dX2_lay_1 : decode cX2_lay 1 = .ok (.istore 4, 2) := dk_54 4 (dk_at dksX2_lay_0 1 rfl rfl)
theorem dX2_lay_3 : decode cX2_lay 3 = .ok (.iload 4, 2) := dk_21 4 (dk_at dksX2_lay_0 3 rfl rfl)
theorem dX2_lay_5 : decode cX2_lay 5 = .ok (.aload_n 3, 1) := dk_45 (dk_at dksX2_lay_0 5 rfl rfl)
theorem dX2_lay_6 : decode cX2_lay 6 = .ok (.getfield 214, 3) := dk_180 0 214 (dk_at dksX2_lay_0 6 rfl rfl)
theorem dX2_lay_9 : decode cX2_lay 9 = .ok (.if_icmp .ge 73, 3) := dk_162 0 73 (dk_at dksX2_lay_0 9 rfl rfl)
theorem dX2_lay_12 : decode cX2_lay 12 = .ok (.aload_n 0, 1) := dk_42 (dk_at dksX2_lay_0 12 rfl rfl)
theorem dX2_lay_13 : decode cX2_lay 13 = .ok (.getfield 25, 3) := dk_180 0 25 (dk_at dksX2_lay_0 13 rfl rfl)
theorem dX2_lay_16 : decode cX2_lay 16 = .ok (.aload_n 3, 1) := dk_45 (dk_at dksX2_lay_0 16 rfl rfl)
theorem dX2_lay_17 : decode cX2_lay 17 = .ok (.getfield 217, 3) := dk_180 0 217 (dk_at dksX2_lay_0 17 rfl rfl)
theorem dX2_lay_20 : decode cX2_lay 20 = .ok (.iload 4, 2) := dk_21 4 (dk_at dksX2_lay_0 20 rfl rfl)
theorem dX2_lay_22 : decode cX2_lay 22 = .ok (.iaload, 1) := dk_46 (dk_at dksX2_lay_0 22 rfl rfl)
theorem dX2_lay_23 : decode cX2_lay 23 = .ok (.invokevirtual 110, 3) := dk_182 0 110 (dk_at dksX2_lay_1 0 rfl rfl)
theorem dX2_lay_26 : decode cX2_lay 26 = .ok (.checkcast 62, 3) := dk_192 0 62 (dk_at dksX2_lay_1 3 rfl rfl)
theorem dX2_lay_29 : decode cX2_lay 29 = .ok (.astore 5, 2) := dk_58 5 (dk_at dksX2_lay_1 6 rfl rfl)
theorem dX2_lay_31 : decode cX2_lay 31 = .ok (.aload 5, 2) := dk_25 5 (dk_at dksX2_lay_1 8 rfl rfl)
theorem dX2_lay_33 : decode cX2_lay 33 = .ok (.aload_n 2, 1) := dk_44 (dk_at dksX2_lay_1 10 rfl rfl)
theorem dX2_lay_34 : decode cX2_lay 34 = .ok (.aload_n 0, 1) := dk_42 (dk_at dksX2_lay_1 11 rfl rfl)
theorem dX2_lay_35 : decode cX2_lay 35 = .ok (.getfield 34, 3) := dk_180 0 34 (dk_at dksX2_lay_1 12 rfl rfl)
theorem dX2_lay_38 : decode cX2_lay 38 = .ok (.invokevirtual 173, 3) := dk_182 0 173 (dk_at dksX2_lay_1 15 rfl rfl)
theorem dX2_lay_41 : decode cX2_lay 41 = .ok (.istore 6, 2) := dk_54 6 (dk_at dksX2_lay_1 18 rfl rfl)
theorem dX2_lay_43 : decode cX2_lay 43 = .ok (.aload 5, 2) := dk_25 5 (dk_at dksX2_lay_1 20 rfl rfl)
theorem dX2_lay_45 : decode cX2_lay 45 = .ok (.aload_n 2, 1) := dk_44 (dk_at dksX2_lay_1 22 rfl rfl)
theorem dX2_lay_46 : decode cX2_lay 46 = .ok (.iload 6, 2) := dk_21 6 (dk_at dksX2_lay_2 0 rfl rfl)
theorem dX2_lay_48 : decode cX2_lay 48 = .ok (.invokevirtual 221, 3) := dk_182 0 221 (dk_at dksX2_lay_2 2 rfl rfl)
theorem dX2_lay_51 : decode cX2_lay 51 = .ok (.aload_n 1, 1) := dk_43 (dk_at dksX2_lay_2 5 rfl rfl)
theorem dX2_lay_52 : decode cX2_lay 52 = .ok (.getfield 225, 3) := dk_180 0 225 (dk_at dksX2_lay_2 6 rfl rfl)
theorem dX2_lay_55 : decode cX2_lay 55 = .ok (.new 228, 3) := dk_187 0 228 (dk_at dksX2_lay_2 9 rfl rfl)
theorem dX2_lay_58 : decode cX2_lay 58 = .ok (.dup, 1) := dk_89 (dk_at dksX2_lay_2 12 rfl rfl)
theorem dX2_lay_59 : decode cX2_lay 59 = .ok (.aload_n 3, 1) := dk_45 (dk_at dksX2_lay_2 13 rfl rfl)
theorem dX2_lay_60 : decode cX2_lay 60 = .ok (.getfield 217, 3) := dk_180 0 217 (dk_at dksX2_lay_2 14 rfl rfl)
theorem dX2_lay_63 : decode cX2_lay 63 = .ok (.iload 4, 2) := dk_21 4 (dk_at dksX2_lay_2 17 rfl rfl)
theorem dX2_lay_65 : decode cX2_lay 65 = .ok (.iaload, 1) := dk_46 (dk_at dksX2_lay_2 19 rfl rfl)
theorem dX2_lay_66 : decode cX2_lay 66 = .ok (.iload 6, 2) := dk_21 6 (dk_at dksX2_lay_2 20 rfl rfl)
theorem dX2_lay_68 : decode cX2_lay 68 = .ok (.invokespecial 230, 3) := dk_183 0 230 (dk_at dksX2_lay_3 0 rfl rfl)
theorem dX2_lay_71 : decode cX2_lay 71 = .ok (.invokevirtual 68, 3) := dk_182 0 68 (dk_at dksX2_lay_3 3 rfl rfl)
theorem dX2_lay_74 : decode cX2_lay 74 = .ok (.istore 7, 2) := dk_54 7 (dk_at dksX2_lay_3 6 rfl rfl)
theorem dX2_lay_76 : decode cX2_lay 76 = .ok (.iinc 4 1, 3) := dk_132 4 1 (dk_at dksX2_lay_3 8 rfl rfl)
theorem dX2_lay_79 : decode cX2_lay 79 = .ok (.goto (-76), 3) := dk_167 255 180 (dk_at dksX2_lay_3 11 rfl rfl)
theorem dX2_lay_82 : decode cX2_lay 82 = .ok (.aload_n 1, 1) := dk_43 (dk_at dksX2_lay_3 14 rfl rfl)
theorem dX2_lay_83 : decode cX2_lay 83 = .ok (.iconst 1, 1) := dk_4 (dk_at dksX2_lay_3 15 rfl rfl)
theorem dX2_lay_84 : decode cX2_lay 84 = .ok (.putfield 211, 3) := dk_181 0 211 (dk_at dksX2_lay_3 16 rfl rfl)
theorem dX2_lay_87 : decode cX2_lay 87 = .ok (.return_, 1) := dk_177 (dk_at dksX2_lay_3 19 rfl rfl)
def dkwX2_needed_1 : List UInt8 := [167, 0, 15, 42, 43, 182, 1, 22, 5, 42, 180, 0, 38, 104, 96, 172]
abbrev dktX2_needed_1 : List UInt8 := dkwX2_needed_1 ++ []
def dkwX2_needed_0 : List UInt8 := [43, 180, 0, 211, 154, 0, 7, 3, 167, 0, 30, 43, 180, 0, 211, 5, 160, 0, 10, 43, 180, 1, 12]
abbrev dktX2_needed_0 : List UInt8 := dkwX2_needed_0 ++ dktX2_needed_1
theorem dksX2_needed_0 : cX2_needed.data.toList.drop 0 = dktX2_needed_0 := by decide +kernel
theorem dksX2_needed_1 : cX2_needed.data.toList.drop 23 = dktX2_needed_1 := dk_seg dksX2_needed_0 23 rfl rfl
theorem dX2_needed_0 : decode cX2_needed 0 = .ok (.aload_n 1, 1) := dk_43 (dk_at dksX2_needed_0 0 rfl rfl)
theorem dX2_needed_1 : decode cX2_needed 1 = .ok (.getfield 211, 3) := dk_180 0 211 (dk_at dksX2_needed_0 1 rfl rfl)
theorem dX2_needed_4 : decode cX2_needed 4 = .ok (.ifCond .ne 7, 3) := dk_154 0 7 (dk_at dksX2_needed_0 4 rfl rfl)
theorem dX2_needed_7 : decode cX2_needed 7 = .ok (.iconst 0, 1) := dk_3 (dk_at dksX2_needed_0 7 rfl rfl)
theorem dX2_needed_8 : decode cX2_needed 8 = .ok (.goto 30, 3) := dk_167 0 30 (dk_at dksX2_needed_0 8 rfl rfl)
theorem dX2_needed_11 : decode cX2_needed 11 = .ok (.aload_n 1, 1) := dk_43 (dk_at dksX2_needed_0 11 rfl rfl)
theorem dX2_needed_12 : decode cX2_needed 12 = .ok (.getfield 211, 3) := dk_180 0 211 (dk_at dksX2_needed_0 12 rfl rfl)
theorem dX2_needed_15 : decode cX2_needed 15 = .ok (.iconst 2, 1) := dk_5 (dk_at dksX2_needed_0 15 rfl rfl)
theorem dX2_needed_16 : decode cX2_needed 16 = .ok (.if_icmp .ne 10, 3) := dk_160 0 10 (dk_at dksX2_needed_0 16 rfl rfl)
theorem dX2_needed_19 : decode cX2_needed 19 = .ok (.aload_n 1, 1) := dk_43 (dk_at dksX2_needed_0 19 rfl rfl)
theorem dX2_needed_20 : decode cX2_needed 20 = .ok (.getfield 268, 3) := dk_180 1 12 (dk_at dksX2_needed_0 20 rfl rfl)
theorem dX2_needed_23 : decode cX2_needed 23 = .ok (.goto 15, 3) := dk_167 0 15 (dk_at dksX2_needed_1 0 rfl rfl)
theorem dX2_needed_26 : decode cX2_needed 26 = .ok (.aload_n 0, 1) := dk_42 (dk_at dksX2_needed_1 3 rfl rfl)
theorem dX2_needed_27 : decode cX2_needed 27 = .ok (.aload_n 1, 1) := dk_43 (dk_at dksX2_needed_1 4 rfl rfl)
theorem dX2_needed_28 : decode cX2_needed 28 = .ok (.invokevirtual 278, 3) := dk_182 1 22 (dk_at dksX2_needed_1 5 rfl rfl)
theorem dX2_needed_31 : decode cX2_needed 31 = .ok (.iconst 2, 1) := dk_5 (dk_at dksX2_needed_1 8 rfl rfl)
theorem dX2_needed_32 : decode cX2_needed 32 = .ok (.aload_n 0, 1) := dk_42 (dk_at dksX2_needed_1 9 rfl rfl)
theorem dX2_needed_33 : decode cX2_needed 33 = .ok (.getfield 38, 3) := dk_180 0 38 (dk_at dksX2_needed_1 10 rfl rfl)
theorem dX2_needed_36 : decode cX2_needed 36 = .ok (.imul, 1) := dk_104 (dk_at dksX2_needed_1 13 rfl rfl)
theorem dX2_needed_37 : decode cX2_needed 37 = .ok (.iadd, 1) := dk_96 (dk_at dksX2_needed_1 14 rfl rfl)
theorem dX2_needed_38 : decode cX2_needed 38 = .ok (.ireturn, 1) := dk_172 (dk_at dksX2_needed_1 15 rfl rfl)
def dkwX2_routeLength_2 : List UInt8 := [192, 0, 62, 180, 1, 21, 96, 61, 167, 255, 215, 28, 172]
abbrev dktX2_routeLength_2 : List UInt8 := dkwX2_routeLength_2 ++ []
def dkwX2_routeLength_1 : List UInt8 := [185, 0, 52, 1, 0, 192, 0, 228, 58, 4, 28, 42, 180, 0, 25, 25, 4, 180, 0, 254, 182, 0, 110]
abbrev dktX2_routeLength_1 : List UInt8 := dkwX2_routeLength_1 ++ dktX2_routeLength_2
def dkwX2_routeLength_0 : List UInt8 := [3, 61, 43, 180, 0, 225, 182, 0, 42, 78, 45, 185, 0, 46, 1, 0, 153, 0, 38, 45]
abbrev dktX2_routeLength_0 : List UInt8 := dkwX2_routeLength_0 ++ dktX2_routeLength_1
theorem dksX2_routeLength_0 : cX2_routeLength.data.toList.drop 0 = dktX2_routeLength_0 := by decide +kernel
theorem dksX2_routeLength_1 : cX2_routeLength.data.toList.drop 20 = dktX2_routeLength_1 := dk_seg dksX2_routeLength_0 20 rfl rfl
theorem dksX2_routeLength_2 : cX2_routeLength.data.toList.drop 43 = dktX2_routeLength_2 := dk_seg dksX2_routeLength_1 23 rfl rfl
theorem dX2_routeLength_0 : decode cX2_routeLength 0 = .ok (.iconst 0, 1) := dk_3 (dk_at dksX2_routeLength_0 0 rfl rfl)
theorem dX2_routeLength_1 : decode cX2_routeLength 1 = .ok (.istore_n 2, 1) := dk_61 (dk_at dksX2_routeLength_0 1 rfl rfl)
theorem dX2_routeLength_2 : decode cX2_routeLength 2 = .ok (.aload_n 1, 1) := dk_43 (dk_at dksX2_routeLength_0 2 rfl rfl)
theorem dX2_routeLength_3 : decode cX2_routeLength 3 = .ok (.getfield 225, 3) := dk_180 0 225 (dk_at dksX2_routeLength_0 3 rfl rfl)
theorem dX2_routeLength_6 : decode cX2_routeLength 6 = .ok (.invokevirtual 42, 3) := dk_182 0 42 (dk_at dksX2_routeLength_0 6 rfl rfl)
theorem dX2_routeLength_9 : decode cX2_routeLength 9 = .ok (.astore_n 3, 1) := dk_78 (dk_at dksX2_routeLength_0 9 rfl rfl)
theorem dX2_routeLength_10 : decode cX2_routeLength 10 = .ok (.aload_n 3, 1) := dk_45 (dk_at dksX2_routeLength_0 10 rfl rfl)
theorem dX2_routeLength_11 : decode cX2_routeLength 11 = .ok (.invokeinterface 46 1, 5) := by decide +kernel
theorem dX2_routeLength_16 : decode cX2_routeLength 16 = .ok (.ifCond .eq 38, 3) := dk_153 0 38 (dk_at dksX2_routeLength_0 16 rfl rfl)
theorem dX2_routeLength_19 : decode cX2_routeLength 19 = .ok (.aload_n 3, 1) := dk_45 (dk_at dksX2_routeLength_0 19 rfl rfl)
theorem dX2_routeLength_20 : decode cX2_routeLength 20 = .ok (.invokeinterface 52 1, 5) := by decide +kernel
theorem dX2_routeLength_25 : decode cX2_routeLength 25 = .ok (.checkcast 228, 3) := dk_192 0 228 (dk_at dksX2_routeLength_1 5 rfl rfl)
theorem dX2_routeLength_28 : decode cX2_routeLength 28 = .ok (.astore 4, 2) := dk_58 4 (dk_at dksX2_routeLength_1 8 rfl rfl)
theorem dX2_routeLength_30 : decode cX2_routeLength 30 = .ok (.iload_n 2, 1) := dk_28 (dk_at dksX2_routeLength_1 10 rfl rfl)
theorem dX2_routeLength_31 : decode cX2_routeLength 31 = .ok (.aload_n 0, 1) := dk_42 (dk_at dksX2_routeLength_1 11 rfl rfl)
theorem dX2_routeLength_32 : decode cX2_routeLength 32 = .ok (.getfield 25, 3) := dk_180 0 25 (dk_at dksX2_routeLength_1 12 rfl rfl)
theorem dX2_routeLength_35 : decode cX2_routeLength 35 = .ok (.aload 4, 2) := dk_25 4 (dk_at dksX2_routeLength_1 15 rfl rfl)
theorem dX2_routeLength_37 : decode cX2_routeLength 37 = .ok (.getfield 254, 3) := dk_180 0 254 (dk_at dksX2_routeLength_1 17 rfl rfl)
theorem dX2_routeLength_40 : decode cX2_routeLength 40 = .ok (.invokevirtual 110, 3) := dk_182 0 110 (dk_at dksX2_routeLength_1 20 rfl rfl)
theorem dX2_routeLength_43 : decode cX2_routeLength 43 = .ok (.checkcast 62, 3) := dk_192 0 62 (dk_at dksX2_routeLength_2 0 rfl rfl)
theorem dX2_routeLength_46 : decode cX2_routeLength 46 = .ok (.getfield 277, 3) := dk_180 1 21 (dk_at dksX2_routeLength_2 3 rfl rfl)
theorem dX2_routeLength_49 : decode cX2_routeLength 49 = .ok (.iadd, 1) := dk_96 (dk_at dksX2_routeLength_2 6 rfl rfl)
theorem dX2_routeLength_50 : decode cX2_routeLength 50 = .ok (.istore_n 2, 1) := dk_61 (dk_at dksX2_routeLength_2 7 rfl rfl)
theorem dX2_routeLength_51 : decode cX2_routeLength 51 = .ok (.goto (-41), 3) := dk_167 255 215 (dk_at dksX2_routeLength_2 8 rfl rfl)
theorem dX2_routeLength_54 : decode cX2_routeLength 54 = .ok (.iload_n 2, 1) := dk_28 (dk_at dksX2_routeLength_2 11 rfl rfl)
theorem dX2_routeLength_55 : decode cX2_routeLength 55 = .ok (.ireturn, 1) := dk_172 (dk_at dksX2_routeLength_2 12 rfl rfl)
def dkwX2_cut_8 : List UInt8 := [181, 1, 9, 44, 5, 181, 0, 211, 21, 4, 172]
abbrev dktX2_cut_8 : List UInt8 := dkwX2_cut_8 ++ []
def dkwX2_cut_7 : List UInt8 := [182, 0, 110, 192, 0, 76, 89, 180, 1, 26, 29, 100, 181, 1, 26, 44, 29, 181, 1, 12, 44, 21, 4]
abbrev dktX2_cut_7 : List UInt8 := dkwX2_cut_7 ++ dktX2_cut_8
def dkwX2_cut_6 : List UInt8 := [29, 79, 89, 5, 42, 44, 180, 0, 235, 182, 1, 35, 79, 184, 0, 207, 191, 42, 180, 0, 31, 21, 4]
abbrev dktX2_cut_6 : List UInt8 := dkwX2_cut_6 ++ dktX2_cut_7
def dkwX2_cut_5 : List UInt8 := [54, 4, 132, 5, 1, 167, 255, 156, 21, 4, 2, 160, 0, 30, 3, 6, 188, 10, 89, 3, 8, 79, 89, 4]
abbrev dktX2_cut_5 : List UInt8 := dkwX2_cut_5 ++ dktX2_cut_6
def dkwX2_cut_4 : List UInt8 := [180, 0, 31, 21, 4, 182, 0, 110, 192, 0, 76, 180, 1, 26, 162, 0, 8, 21, 5, 167, 0, 5, 21, 4]
abbrev dktX2_cut_4 : List UInt8 := dkwX2_cut_4 ++ dktX2_cut_5
def dkwX2_cut_3 : List UInt8 := [167, 0, 4, 3, 54, 7, 21, 7, 153, 0, 37, 21, 4, 2, 159, 0, 26, 25, 6, 180, 1, 26, 42]
abbrev dktX2_cut_3 : List UInt8 := dkwX2_cut_3 ++ dktX2_cut_4
def dkwX2_cut_2 : List UInt8 := [25, 6, 180, 1, 25, 44, 180, 0, 235, 160, 0, 16, 25, 6, 180, 1, 26, 29, 161, 0, 7, 4]
abbrev dktX2_cut_2 : List UInt8 := dkwX2_cut_2 ++ dktX2_cut_3
def dkwX2_cut_1 : List UInt8 := [180, 0, 31, 182, 0, 88, 162, 0, 94, 42, 180, 0, 31, 21, 5, 182, 0, 110, 192, 0, 76, 58, 6]
abbrev dktX2_cut_1 : List UInt8 := dkwX2_cut_1 ++ dktX2_cut_2
def dkwX2_cut_0 : List UInt8 := [42, 27, 4, 182, 0, 231, 77, 42, 44, 182, 0, 250, 62, 2, 54, 4, 3, 54, 5, 21, 5, 42]
abbrev dktX2_cut_0 : List UInt8 := dkwX2_cut_0 ++ dktX2_cut_1
theorem dksX2_cut_0 : cX2_cut.data.toList.drop 0 = dktX2_cut_0 := by decide +kernel
theorem dksX2_cut_1 : cX2_cut.data.toList.drop 22 = dktX2_cut_1 := dk_seg dksX2_cut_0 22 rfl rfl
theorem dksX2_cut_2 : cX2_cut.data.toList.drop 45 = dktX2_cut_2 := dk_seg dksX2_cut_1 23 rfl rfl
theorem dksX2_cut_3 : cX2_cut.data.toList.drop 67 = dktX2_cut_3 := dk_seg dksX2_cut_2 22 rfl rfl
theorem dksX2_cut_4 : cX2_cut.data.toList.drop 90 = dktX2_cut_4 := dk_seg dksX2_cut_3 23 rfl rfl
theorem dksX2_cut_5 : cX2_cut.data.toList.drop 114 = dktX2_cut_5 := dk_seg dksX2_cut_4 24 rfl rfl
theorem dksX2_cut_6 : cX2_cut.data.toList.drop 138 = dktX2_cut_6 := dk_seg dksX2_cut_5 24 rfl rfl
theorem dksX2_cut_7 : cX2_cut.data.toList.drop 161 = dktX2_cut_7 := dk_seg dksX2_cut_6 23 rfl rfl
theorem dksX2_cut_8 : cX2_cut.data.toList.drop 184 = dktX2_cut_8 := dk_seg dksX2_cut_7 23 rfl rfl
theorem dX2_cut_0 : decode cX2_cut 0 = .ok (.aload_n 0, 1) := dk_42 (dk_at dksX2_cut_0 0 rfl rfl)
theorem dX2_cut_1 : decode cX2_cut 1 = .ok (.iload_n 1, 1) := dk_27 (dk_at dksX2_cut_0 1 rfl rfl)
theorem dX2_cut_2 : decode cX2_cut 2 = .ok (.iconst 1, 1) := dk_4 (dk_at dksX2_cut_0 2 rfl rfl)
theorem dX2_cut_3 : decode cX2_cut 3 = .ok (.invokevirtual 231, 3) := dk_182 0 231 (dk_at dksX2_cut_0 3 rfl rfl)
theorem dX2_cut_6 : decode cX2_cut 6 = .ok (.astore_n 2, 1) := dk_77 (dk_at dksX2_cut_0 6 rfl rfl)
theorem dX2_cut_7 : decode cX2_cut 7 = .ok (.aload_n 0, 1) := dk_42 (dk_at dksX2_cut_0 7 rfl rfl)
theorem dX2_cut_8 : decode cX2_cut 8 = .ok (.aload_n 2, 1) := dk_44 (dk_at dksX2_cut_0 8 rfl rfl)
theorem dX2_cut_9 : decode cX2_cut 9 = .ok (.invokevirtual 250, 3) := dk_182 0 250 (dk_at dksX2_cut_0 9 rfl rfl)
theorem dX2_cut_12 : decode cX2_cut 12 = .ok (.istore_n 3, 1) := dk_62 (dk_at dksX2_cut_0 12 rfl rfl)
theorem dX2_cut_13 : decode cX2_cut 13 = .ok (.iconst (-1), 1) := dk_2 (dk_at dksX2_cut_0 13 rfl rfl)
theorem dX2_cut_14 : decode cX2_cut 14 = .ok (.istore 4, 2) := dk_54 4 (dk_at dksX2_cut_0 14 rfl rfl)
theorem dX2_cut_16 : decode cX2_cut 16 = .ok (.iconst 0, 1) := dk_3 (dk_at dksX2_cut_0 16 rfl rfl)
theorem dX2_cut_17 : decode cX2_cut 17 = .ok (.istore 5, 2) := dk_54 5 (dk_at dksX2_cut_0 17 rfl rfl)
theorem dX2_cut_19 : decode cX2_cut 19 = .ok (.iload 5, 2) := dk_21 5 (dk_at dksX2_cut_0 19 rfl rfl)
theorem dX2_cut_21 : decode cX2_cut 21 = .ok (.aload_n 0, 1) := dk_42 (dk_at dksX2_cut_0 21 rfl rfl)
theorem dX2_cut_22 : decode cX2_cut 22 = .ok (.getfield 31, 3) := dk_180 0 31 (dk_at dksX2_cut_1 0 rfl rfl)
theorem dX2_cut_25 : decode cX2_cut 25 = .ok (.invokevirtual 88, 3) := dk_182 0 88 (dk_at dksX2_cut_1 3 rfl rfl)
theorem dX2_cut_28 : decode cX2_cut 28 = .ok (.if_icmp .ge 94, 3) := dk_162 0 94 (dk_at dksX2_cut_1 6 rfl rfl)
theorem dX2_cut_31 : decode cX2_cut 31 = .ok (.aload_n 0, 1) := dk_42 (dk_at dksX2_cut_1 9 rfl rfl)
theorem dX2_cut_32 : decode cX2_cut 32 = .ok (.getfield 31, 3) := dk_180 0 31 (dk_at dksX2_cut_1 10 rfl rfl)
theorem dX2_cut_35 : decode cX2_cut 35 = .ok (.iload 5, 2) := dk_21 5 (dk_at dksX2_cut_1 13 rfl rfl)
theorem dX2_cut_37 : decode cX2_cut 37 = .ok (.invokevirtual 110, 3) := dk_182 0 110 (dk_at dksX2_cut_1 15 rfl rfl)
theorem dX2_cut_40 : decode cX2_cut 40 = .ok (.checkcast 76, 3) := dk_192 0 76 (dk_at dksX2_cut_1 18 rfl rfl)
theorem dX2_cut_43 : decode cX2_cut 43 = .ok (.astore 6, 2) := dk_58 6 (dk_at dksX2_cut_1 21 rfl rfl)
theorem dX2_cut_45 : decode cX2_cut 45 = .ok (.aload 6, 2) := dk_25 6 (dk_at dksX2_cut_2 0 rfl rfl)
theorem dX2_cut_47 : decode cX2_cut 47 = .ok (.getfield 281, 3) := dk_180 1 25 (dk_at dksX2_cut_2 2 rfl rfl)
theorem dX2_cut_50 : decode cX2_cut 50 = .ok (.aload_n 2, 1) := dk_44 (dk_at dksX2_cut_2 5 rfl rfl)
theorem dX2_cut_51 : decode cX2_cut 51 = .ok (.getfield 235, 3) := dk_180 0 235 (dk_at dksX2_cut_2 6 rfl rfl)
theorem dX2_cut_54 : decode cX2_cut 54 = .ok (.if_icmp .ne 16, 3) := dk_160 0 16 (dk_at dksX2_cut_2 9 rfl rfl)
theorem dX2_cut_57 : decode cX2_cut 57 = .ok (.aload 6, 2) := dk_25 6 (dk_at dksX2_cut_2 12 rfl rfl)
theorem dX2_cut_59 : decode cX2_cut 59 = .ok (.getfield 282, 3) := dk_180 1 26 (dk_at dksX2_cut_2 14 rfl rfl)
theorem dX2_cut_62 : decode cX2_cut 62 = .ok (.iload_n 3, 1) := dk_29 (dk_at dksX2_cut_2 17 rfl rfl)
theorem dX2_cut_63 : decode cX2_cut 63 = .ok (.if_icmp .lt 7, 3) := dk_161 0 7 (dk_at dksX2_cut_2 18 rfl rfl)
theorem dX2_cut_66 : decode cX2_cut 66 = .ok (.iconst 1, 1) := dk_4 (dk_at dksX2_cut_2 21 rfl rfl)
theorem dX2_cut_67 : decode cX2_cut 67 = .ok (.goto 4, 3) := dk_167 0 4 (dk_at dksX2_cut_3 0 rfl rfl)
theorem dX2_cut_70 : decode cX2_cut 70 = .ok (.iconst 0, 1) := dk_3 (dk_at dksX2_cut_3 3 rfl rfl)
theorem dX2_cut_71 : decode cX2_cut 71 = .ok (.istore 7, 2) := dk_54 7 (dk_at dksX2_cut_3 4 rfl rfl)
theorem dX2_cut_73 : decode cX2_cut 73 = .ok (.iload 7, 2) := dk_21 7 (dk_at dksX2_cut_3 6 rfl rfl)
theorem dX2_cut_75 : decode cX2_cut 75 = .ok (.ifCond .eq 37, 3) := dk_153 0 37 (dk_at dksX2_cut_3 8 rfl rfl)
theorem dX2_cut_78 : decode cX2_cut 78 = .ok (.iload 4, 2) := dk_21 4 (dk_at dksX2_cut_3 11 rfl rfl)
theorem dX2_cut_80 : decode cX2_cut 80 = .ok (.iconst (-1), 1) := dk_2 (dk_at dksX2_cut_3 13 rfl rfl)
theorem dX2_cut_81 : decode cX2_cut 81 = .ok (.if_icmp .eq 26, 3) := dk_159 0 26 (dk_at dksX2_cut_3 14 rfl rfl)
theorem dX2_cut_84 : decode cX2_cut 84 = .ok (.aload 6, 2) := dk_25 6 (dk_at dksX2_cut_3 17 rfl rfl)
theorem dX2_cut_86 : decode cX2_cut 86 = .ok (.getfield 282, 3) := dk_180 1 26 (dk_at dksX2_cut_3 19 rfl rfl)
theorem dX2_cut_89 : decode cX2_cut 89 = .ok (.aload_n 0, 1) := dk_42 (dk_at dksX2_cut_3 22 rfl rfl)
theorem dX2_cut_90 : decode cX2_cut 90 = .ok (.getfield 31, 3) := dk_180 0 31 (dk_at dksX2_cut_4 0 rfl rfl)
theorem dX2_cut_93 : decode cX2_cut 93 = .ok (.iload 4, 2) := dk_21 4 (dk_at dksX2_cut_4 3 rfl rfl)
theorem dX2_cut_95 : decode cX2_cut 95 = .ok (.invokevirtual 110, 3) := dk_182 0 110 (dk_at dksX2_cut_4 5 rfl rfl)
theorem dX2_cut_98 : decode cX2_cut 98 = .ok (.checkcast 76, 3) := dk_192 0 76 (dk_at dksX2_cut_4 8 rfl rfl)
theorem dX2_cut_101 : decode cX2_cut 101 = .ok (.getfield 282, 3) := dk_180 1 26 (dk_at dksX2_cut_4 11 rfl rfl)
theorem dX2_cut_104 : decode cX2_cut 104 = .ok (.if_icmp .ge 8, 3) := dk_162 0 8 (dk_at dksX2_cut_4 14 rfl rfl)
theorem dX2_cut_107 : decode cX2_cut 107 = .ok (.iload 5, 2) := dk_21 5 (dk_at dksX2_cut_4 17 rfl rfl)
theorem dX2_cut_109 : decode cX2_cut 109 = .ok (.goto 5, 3) := dk_167 0 5 (dk_at dksX2_cut_4 19 rfl rfl)
theorem dX2_cut_112 : decode cX2_cut 112 = .ok (.iload 4, 2) := dk_21 4 (dk_at dksX2_cut_4 22 rfl rfl)
theorem dX2_cut_114 : decode cX2_cut 114 = .ok (.istore 4, 2) := dk_54 4 (dk_at dksX2_cut_5 0 rfl rfl)
theorem dX2_cut_116 : decode cX2_cut 116 = .ok (.iinc 5 1, 3) := dk_132 5 1 (dk_at dksX2_cut_5 2 rfl rfl)
theorem dX2_cut_119 : decode cX2_cut 119 = .ok (.goto (-100), 3) := dk_167 255 156 (dk_at dksX2_cut_5 5 rfl rfl)
theorem dX2_cut_122 : decode cX2_cut 122 = .ok (.iload 4, 2) := dk_21 4 (dk_at dksX2_cut_5 8 rfl rfl)
theorem dX2_cut_124 : decode cX2_cut 124 = .ok (.iconst (-1), 1) := dk_2 (dk_at dksX2_cut_5 10 rfl rfl)
theorem dX2_cut_125 : decode cX2_cut 125 = .ok (.if_icmp .ne 30, 3) := dk_160 0 30 (dk_at dksX2_cut_5 11 rfl rfl)
theorem dX2_cut_128 : decode cX2_cut 128 = .ok (.iconst 0, 1) := dk_3 (dk_at dksX2_cut_5 14 rfl rfl)
theorem dX2_cut_129 : decode cX2_cut 129 = .ok (.iconst 3, 1) := dk_6 (dk_at dksX2_cut_5 15 rfl rfl)
theorem dX2_cut_130 : decode cX2_cut 130 = .ok (.newarray .int, 2) := dk_188_10 (dk_at dksX2_cut_5 16 rfl rfl)
theorem dX2_cut_132 : decode cX2_cut 132 = .ok (.dup, 1) := dk_89 (dk_at dksX2_cut_5 18 rfl rfl)
theorem dX2_cut_133 : decode cX2_cut 133 = .ok (.iconst 0, 1) := dk_3 (dk_at dksX2_cut_5 19 rfl rfl)
theorem dX2_cut_134 : decode cX2_cut 134 = .ok (.iconst 5, 1) := dk_8 (dk_at dksX2_cut_5 20 rfl rfl)
theorem dX2_cut_135 : decode cX2_cut 135 = .ok (.iastore, 1) := dk_79 (dk_at dksX2_cut_5 21 rfl rfl)
theorem dX2_cut_136 : decode cX2_cut 136 = .ok (.dup, 1) := dk_89 (dk_at dksX2_cut_5 22 rfl rfl)
theorem dX2_cut_137 : decode cX2_cut 137 = .ok (.iconst 1, 1) := dk_4 (dk_at dksX2_cut_5 23 rfl rfl)
theorem dX2_cut_138 : decode cX2_cut 138 = .ok (.iload_n 3, 1) := dk_29 (dk_at dksX2_cut_6 0 rfl rfl)
theorem dX2_cut_139 : decode cX2_cut 139 = .ok (.iastore, 1) := dk_79 (dk_at dksX2_cut_6 1 rfl rfl)
theorem dX2_cut_140 : decode cX2_cut 140 = .ok (.dup, 1) := dk_89 (dk_at dksX2_cut_6 2 rfl rfl)
theorem dX2_cut_141 : decode cX2_cut 141 = .ok (.iconst 2, 1) := dk_5 (dk_at dksX2_cut_6 3 rfl rfl)
theorem dX2_cut_142 : decode cX2_cut 142 = .ok (.aload_n 0, 1) := dk_42 (dk_at dksX2_cut_6 4 rfl rfl)
theorem dX2_cut_143 : decode cX2_cut 143 = .ok (.aload_n 2, 1) := dk_44 (dk_at dksX2_cut_6 5 rfl rfl)
theorem dX2_cut_144 : decode cX2_cut 144 = .ok (.getfield 235, 3) := dk_180 0 235 (dk_at dksX2_cut_6 6 rfl rfl)
theorem dX2_cut_147 : decode cX2_cut 147 = .ok (.invokevirtual 291, 3) := dk_182 1 35 (dk_at dksX2_cut_6 9 rfl rfl)
theorem dX2_cut_150 : decode cX2_cut 150 = .ok (.iastore, 1) := dk_79 (dk_at dksX2_cut_6 12 rfl rfl)
theorem dX2_cut_151 : decode cX2_cut 151 = .ok (.invokestatic 207, 3) := dk_184 0 207 (dk_at dksX2_cut_6 13 rfl rfl)
theorem dX2_cut_154 : decode cX2_cut 154 = .ok (.athrow, 1) := dk_191 (dk_at dksX2_cut_6 16 rfl rfl)
theorem dX2_cut_155 : decode cX2_cut 155 = .ok (.aload_n 0, 1) := dk_42 (dk_at dksX2_cut_6 17 rfl rfl)
theorem dX2_cut_156 : decode cX2_cut 156 = .ok (.getfield 31, 3) := dk_180 0 31 (dk_at dksX2_cut_6 18 rfl rfl)
theorem dX2_cut_159 : decode cX2_cut 159 = .ok (.iload 4, 2) := dk_21 4 (dk_at dksX2_cut_6 21 rfl rfl)
theorem dX2_cut_161 : decode cX2_cut 161 = .ok (.invokevirtual 110, 3) := dk_182 0 110 (dk_at dksX2_cut_7 0 rfl rfl)
theorem dX2_cut_164 : decode cX2_cut 164 = .ok (.checkcast 76, 3) := dk_192 0 76 (dk_at dksX2_cut_7 3 rfl rfl)
theorem dX2_cut_167 : decode cX2_cut 167 = .ok (.dup, 1) := dk_89 (dk_at dksX2_cut_7 6 rfl rfl)
theorem dX2_cut_168 : decode cX2_cut 168 = .ok (.getfield 282, 3) := dk_180 1 26 (dk_at dksX2_cut_7 7 rfl rfl)
theorem dX2_cut_171 : decode cX2_cut 171 = .ok (.iload_n 3, 1) := dk_29 (dk_at dksX2_cut_7 10 rfl rfl)
theorem dX2_cut_172 : decode cX2_cut 172 = .ok (.isub, 1) := dk_100 (dk_at dksX2_cut_7 11 rfl rfl)
theorem dX2_cut_173 : decode cX2_cut 173 = .ok (.putfield 282, 3) := dk_181 1 26 (dk_at dksX2_cut_7 12 rfl rfl)
theorem dX2_cut_176 : decode cX2_cut 176 = .ok (.aload_n 2, 1) := dk_44 (dk_at dksX2_cut_7 15 rfl rfl)
theorem dX2_cut_177 : decode cX2_cut 177 = .ok (.iload_n 3, 1) := dk_29 (dk_at dksX2_cut_7 16 rfl rfl)
theorem dX2_cut_178 : decode cX2_cut 178 = .ok (.putfield 268, 3) := dk_181 1 12 (dk_at dksX2_cut_7 17 rfl rfl)
theorem dX2_cut_181 : decode cX2_cut 181 = .ok (.aload_n 2, 1) := dk_44 (dk_at dksX2_cut_7 20 rfl rfl)
theorem dX2_cut_182 : decode cX2_cut 182 = .ok (.iload 4, 2) := dk_21 4 (dk_at dksX2_cut_7 21 rfl rfl)
theorem dX2_cut_184 : decode cX2_cut 184 = .ok (.putfield 265, 3) := dk_181 1 9 (dk_at dksX2_cut_8 0 rfl rfl)
theorem dX2_cut_187 : decode cX2_cut 187 = .ok (.aload_n 2, 1) := dk_44 (dk_at dksX2_cut_8 3 rfl rfl)
theorem dX2_cut_188 : decode cX2_cut 188 = .ok (.iconst 2, 1) := dk_5 (dk_at dksX2_cut_8 4 rfl rfl)
theorem dX2_cut_189 : decode cX2_cut 189 = .ok (.putfield 211, 3) := dk_181 0 211 (dk_at dksX2_cut_8 5 rfl rfl)
theorem dX2_cut_192 : decode cX2_cut 192 = .ok (.iload 4, 2) := dk_21 4 (dk_at dksX2_cut_8 8 rfl rfl)
theorem dX2_cut_194 : decode cX2_cut 194 = .ok (.ireturn, 1) := dk_172 (dk_at dksX2_cut_8 10 rfl rfl)
def dkwX2_greatestRest_2 : List UInt8 := [180, 1, 26, 184, 1, 29, 167, 0, 4, 28, 61, 167, 255, 213, 28, 172]
abbrev dktX2_greatestRest_2 : List UInt8 := dkwX2_greatestRest_2 ++ []
def dkwX2_greatestRest_1 : List UInt8 := [185, 0, 52, 1, 0, 192, 0, 76, 58, 4, 25, 4, 180, 1, 25, 27, 160, 0, 15, 28, 25, 4]
abbrev dktX2_greatestRest_1 : List UInt8 := dkwX2_greatestRest_1 ++ dktX2_greatestRest_2
def dkwX2_greatestRest_0 : List UInt8 := [2, 61, 42, 180, 0, 31, 182, 0, 42, 78, 45, 185, 0, 46, 1, 0, 153, 0, 40, 45]
abbrev dktX2_greatestRest_0 : List UInt8 := dkwX2_greatestRest_0 ++ dktX2_greatestRest_1
theorem dksX2_greatestRest_0 : cX2_greatestRest.data.toList.drop 0 = dktX2_greatestRest_0 := by decide +kernel
theorem dksX2_greatestRest_1 : cX2_greatestRest.data.toList.drop 20 = dktX2_greatestRest_1 := dk_seg dksX2_greatestRest_0 20 rfl rfl
theorem dksX2_greatestRest_2 : cX2_greatestRest.data.toList.drop 42 = dktX2_greatestRest_2 := dk_seg dksX2_greatestRest_1 22 rfl rfl
theorem dX2_greatestRest_0 : decode cX2_greatestRest 0 = .ok (.iconst (-1), 1) := dk_2 (dk_at dksX2_greatestRest_0 0 rfl rfl)
theorem dX2_greatestRest_1 : decode cX2_greatestRest 1 = .ok (.istore_n 2, 1) := dk_61 (dk_at dksX2_greatestRest_0 1 rfl rfl)
theorem dX2_greatestRest_2 : decode cX2_greatestRest 2 = .ok (.aload_n 0, 1) := dk_42 (dk_at dksX2_greatestRest_0 2 rfl rfl)
theorem dX2_greatestRest_3 : decode cX2_greatestRest 3 = .ok (.getfield 31, 3) := dk_180 0 31 (dk_at dksX2_greatestRest_0 3 rfl rfl)
theorem dX2_greatestRest_6 : decode cX2_greatestRest 6 = .ok (.invokevirtual 42, 3) := dk_182 0 42 (dk_at dksX2_greatestRest_0 6 rfl rfl)
theorem dX2_greatestRest_9 : decode cX2_greatestRest 9 = .ok (.astore_n 3, 1) := dk_78 (dk_at dksX2_greatestRest_0 9 rfl rfl)
theorem dX2_greatestRest_10 : decode cX2_greatestRest 10 = .ok (.aload_n 3, 1) := dk_45 (dk_at dksX2_greatestRest_0 10 rfl rfl)
theorem dX2_greatestRest_11 : decode cX2_greatestRest 11 = .ok (.invokeinterface 46 1, 5) := by decide +kernel
theorem dX2_greatestRest_16 : decode cX2_greatestRest 16 = .ok (.ifCond .eq 40, 3) := dk_153 0 40 (dk_at dksX2_greatestRest_0 16 rfl rfl)
theorem dX2_greatestRest_19 : decode cX2_greatestRest 19 = .ok (.aload_n 3, 1) := dk_45 (dk_at dksX2_greatestRest_0 19 rfl rfl)
theorem dX2_greatestRest_20 : decode cX2_greatestRest 20 = .ok (.invokeinterface 52 1, 5) := by decide +kernel
theorem dX2_greatestRest_25 : decode cX2_greatestRest 25 = .ok (.checkcast 76, 3) := dk_192 0 76 (dk_at dksX2_greatestRest_1 5 rfl rfl)
theorem dX2_greatestRest_28 : decode cX2_greatestRest 28 = .ok (.astore 4, 2) := dk_58 4 (dk_at dksX2_greatestRest_1 8 rfl rfl)
theorem dX2_greatestRest_30 : decode cX2_greatestRest 30 = .ok (.aload 4, 2) := dk_25 4 (dk_at dksX2_greatestRest_1 10 rfl rfl)
theorem dX2_greatestRest_32 : decode cX2_greatestRest 32 = .ok (.getfield 281, 3) := dk_180 1 25 (dk_at dksX2_greatestRest_1 12 rfl rfl)
theorem dX2_greatestRest_35 : decode cX2_greatestRest 35 = .ok (.iload_n 1, 1) := dk_27 (dk_at dksX2_greatestRest_1 15 rfl rfl)
theorem dX2_greatestRest_36 : decode cX2_greatestRest 36 = .ok (.if_icmp .ne 15, 3) := dk_160 0 15 (dk_at dksX2_greatestRest_1 16 rfl rfl)
theorem dX2_greatestRest_39 : decode cX2_greatestRest 39 = .ok (.iload_n 2, 1) := dk_28 (dk_at dksX2_greatestRest_1 19 rfl rfl)
theorem dX2_greatestRest_40 : decode cX2_greatestRest 40 = .ok (.aload 4, 2) := dk_25 4 (dk_at dksX2_greatestRest_1 20 rfl rfl)
theorem dX2_greatestRest_42 : decode cX2_greatestRest 42 = .ok (.getfield 282, 3) := dk_180 1 26 (dk_at dksX2_greatestRest_2 0 rfl rfl)
theorem dX2_greatestRest_45 : decode cX2_greatestRest 45 = .ok (.invokestatic 285, 3) := dk_184 1 29 (dk_at dksX2_greatestRest_2 3 rfl rfl)
theorem dX2_greatestRest_48 : decode cX2_greatestRest 48 = .ok (.goto 4, 3) := dk_167 0 4 (dk_at dksX2_greatestRest_2 6 rfl rfl)
theorem dX2_greatestRest_51 : decode cX2_greatestRest 51 = .ok (.iload_n 2, 1) := dk_28 (dk_at dksX2_greatestRest_2 9 rfl rfl)
theorem dX2_greatestRest_52 : decode cX2_greatestRest 52 = .ok (.istore_n 2, 1) := dk_61 (dk_at dksX2_greatestRest_2 10 rfl rfl)
theorem dX2_greatestRest_53 : decode cX2_greatestRest 53 = .ok (.goto (-43), 3) := dk_167 255 213 (dk_at dksX2_greatestRest_2 11 rfl rfl)
theorem dX2_greatestRest_56 : decode cX2_greatestRest 56 = .ok (.iload_n 2, 1) := dk_28 (dk_at dksX2_greatestRest_2 14 rfl rfl)
theorem dX2_greatestRest_57 : decode cX2_greatestRest 57 = .ok (.ireturn, 1) := dk_172 (dk_at dksX2_greatestRest_2 15 rfl rfl)
def dkwX2_free_1 : List UInt8 := [182, 1, 19, 172]
abbrev dktX2_free_1 : List UInt8 := dkwX2_free_1 ++ []
def dkwX2_free_0 : List UInt8 := [42, 27, 182, 1, 15, 77, 44, 180, 0, 211, 5, 159, 0, 7, 4, 167, 0, 4, 3, 184, 0, 131, 42, 44]
abbrev dktX2_free_0 : List UInt8 := dkwX2_free_0 ++ dktX2_free_1
theorem dksX2_free_0 : cX2_free.data.toList.drop 0 = dktX2_free_0 := by decide +kernel
theorem dksX2_free_1 : cX2_free.data.toList.drop 24 = dktX2_free_1 := dk_seg dksX2_free_0 24 rfl rfl
theorem dX2_free_0 : decode cX2_free 0 = .ok (.aload_n 0, 1) := dk_42 (dk_at dksX2_free_0 0 rfl rfl)
theorem dX2_free_1 : decode cX2_free 1 = .ok (.iload_n 1, 1) := dk_27 (dk_at dksX2_free_0 1 rfl rfl)
theorem dX2_free_2 : decode cX2_free 2 = .ok (.invokevirtual 271, 3) := dk_182 1 15 (dk_at dksX2_free_0 2 rfl rfl)
theorem dX2_free_5 : decode cX2_free 5 = .ok (.astore_n 2, 1) := dk_77 (dk_at dksX2_free_0 5 rfl rfl)
theorem dX2_free_6 : decode cX2_free 6 = .ok (.aload_n 2, 1) := dk_44 (dk_at dksX2_free_0 6 rfl rfl)
theorem dX2_free_7 : decode cX2_free 7 = .ok (.getfield 211, 3) := dk_180 0 211 (dk_at dksX2_free_0 7 rfl rfl)
theorem dX2_free_10 : decode cX2_free 10 = .ok (.iconst 2, 1) := dk_5 (dk_at dksX2_free_0 10 rfl rfl)
theorem dX2_free_11 : decode cX2_free 11 = .ok (.if_icmp .eq 7, 3) := dk_159 0 7 (dk_at dksX2_free_0 11 rfl rfl)
theorem dX2_free_14 : decode cX2_free 14 = .ok (.iconst 1, 1) := dk_4 (dk_at dksX2_free_0 14 rfl rfl)
theorem dX2_free_15 : decode cX2_free 15 = .ok (.goto 4, 3) := dk_167 0 4 (dk_at dksX2_free_0 15 rfl rfl)
theorem dX2_free_18 : decode cX2_free 18 = .ok (.iconst 0, 1) := dk_3 (dk_at dksX2_free_0 18 rfl rfl)
theorem dX2_free_19 : decode cX2_free 19 = .ok (.invokestatic 131, 3) := dk_184 0 131 (dk_at dksX2_free_0 19 rfl rfl)
theorem dX2_free_22 : decode cX2_free 22 = .ok (.aload_n 0, 1) := dk_42 (dk_at dksX2_free_0 22 rfl rfl)
theorem dX2_free_23 : decode cX2_free 23 = .ok (.aload_n 2, 1) := dk_44 (dk_at dksX2_free_0 23 rfl rfl)
theorem dX2_free_24 : decode cX2_free 24 = .ok (.invokevirtual 275, 3) := dk_182 1 19 (dk_at dksX2_free_1 0 rfl rfl)
theorem dX2_free_27 : decode cX2_free 27 = .ok (.ireturn, 1) := dk_172 (dk_at dksX2_free_1 3 rfl rfl)
def dkwX2_cable_1 : List UInt8 := [182, 0, 110, 192, 0, 71, 176]
abbrev dktX2_cable_1 : List UInt8 := dkwX2_cable_1 ++ []
def dkwX2_cable_0 : List UInt8 := [27, 133, 9, 42, 180, 0, 28, 182, 0, 88, 4, 100, 133, 184, 0, 102, 184, 0, 106, 42, 180, 0, 28, 27]
abbrev dktX2_cable_0 : List UInt8 := dkwX2_cable_0 ++ dktX2_cable_1
theorem dksX2_cable_0 : cX2_cable.data.toList.drop 0 = dktX2_cable_0 := by decide +kernel
theorem dksX2_cable_1 : cX2_cable.data.toList.drop 24 = dktX2_cable_1 := dk_seg dksX2_cable_0 24 rfl rfl
theorem dX2_cable_0 : decode cX2_cable 0 = .ok (.iload_n 1, 1) := dk_27 (dk_at dksX2_cable_0 0 rfl rfl)
theorem dX2_cable_1 : decode cX2_cable 1 = .ok (.i2l, 1) := dk_133 (dk_at dksX2_cable_0 1 rfl rfl)
theorem dX2_cable_2 : decode cX2_cable 2 = .ok (.lconst 0, 1) := dk_9 (dk_at dksX2_cable_0 2 rfl rfl)
theorem dX2_cable_3 : decode cX2_cable 3 = .ok (.aload_n 0, 1) := dk_42 (dk_at dksX2_cable_0 3 rfl rfl)
theorem dX2_cable_4 : decode cX2_cable 4 = .ok (.getfield 28, 3) := dk_180 0 28 (dk_at dksX2_cable_0 4 rfl rfl)
theorem dX2_cable_7 : decode cX2_cable 7 = .ok (.invokevirtual 88, 3) := dk_182 0 88 (dk_at dksX2_cable_0 7 rfl rfl)
theorem dX2_cable_10 : decode cX2_cable 10 = .ok (.iconst 1, 1) := dk_4 (dk_at dksX2_cable_0 10 rfl rfl)
theorem dX2_cable_11 : decode cX2_cable 11 = .ok (.isub, 1) := dk_100 (dk_at dksX2_cable_0 11 rfl rfl)
theorem dX2_cable_12 : decode cX2_cable 12 = .ok (.i2l, 1) := dk_133 (dk_at dksX2_cable_0 12 rfl rfl)
theorem dX2_cable_13 : decode cX2_cable 13 = .ok (.invokestatic 102, 3) := dk_184 0 102 (dk_at dksX2_cable_0 13 rfl rfl)
theorem dX2_cable_16 : decode cX2_cable 16 = .ok (.invokestatic 106, 3) := dk_184 0 106 (dk_at dksX2_cable_0 16 rfl rfl)
theorem dX2_cable_19 : decode cX2_cable 19 = .ok (.aload_n 0, 1) := dk_42 (dk_at dksX2_cable_0 19 rfl rfl)
theorem dX2_cable_20 : decode cX2_cable 20 = .ok (.getfield 28, 3) := dk_180 0 28 (dk_at dksX2_cable_0 20 rfl rfl)
theorem dX2_cable_23 : decode cX2_cable 23 = .ok (.iload_n 1, 1) := dk_27 (dk_at dksX2_cable_0 23 rfl rfl)
theorem dX2_cable_24 : decode cX2_cable 24 = .ok (.invokevirtual 110, 3) := dk_182 0 110 (dk_at dksX2_cable_1 0 rfl rfl)
theorem dX2_cable_27 : decode cX2_cable 27 = .ok (.checkcast 71, 3) := dk_192 0 71 (dk_at dksX2_cable_1 3 rfl rfl)
theorem dX2_cable_30 : decode cX2_cable 30 = .ok (.areturn, 1) := dk_176 (dk_at dksX2_cable_1 6 rfl rfl)
def dkwX2_leave_4 : List UInt8 := [181, 1, 9, 43, 3, 181, 1, 12, 28, 172]
abbrev dktX2_leave_4 : List UInt8 := dkwX2_leave_4 ++ []
def dkwX2_leave_3 : List UInt8 := [180, 1, 0, 182, 1, 3, 167, 255, 199, 43, 180, 0, 225, 182, 1, 6, 43, 3, 181, 0, 211, 43, 2]
abbrev dktX2_leave_3 : List UInt8 := dkwX2_leave_3 ++ dktX2_leave_4
def dkwX2_leave_2 : List UInt8 := [182, 0, 110, 192, 0, 62, 42, 180, 0, 12, 43, 180, 0, 235, 182, 0, 110, 192, 0, 56, 25, 4]
abbrev dktX2_leave_2 : List UInt8 := dkwX2_leave_2 ++ dktX2_leave_3
def dkwX2_leave_1 : List UInt8 := [153, 0, 54, 45, 185, 0, 52, 1, 0, 192, 0, 228, 58, 4, 42, 180, 0, 25, 25, 4, 180, 0, 254]
abbrev dktX2_leave_1 : List UInt8 := dkwX2_leave_1 ++ dktX2_leave_2
def dkwX2_leave_0 : List UInt8 := [43, 180, 0, 225, 182, 0, 88, 61, 43, 180, 0, 225, 182, 0, 42, 78, 45, 185, 0, 46, 1, 0]
abbrev dktX2_leave_0 : List UInt8 := dkwX2_leave_0 ++ dktX2_leave_1
theorem dksX2_leave_0 : cX2_leave.data.toList.drop 0 = dktX2_leave_0 := by decide +kernel
theorem dksX2_leave_1 : cX2_leave.data.toList.drop 22 = dktX2_leave_1 := dk_seg dksX2_leave_0 22 rfl rfl
theorem dksX2_leave_2 : cX2_leave.data.toList.drop 45 = dktX2_leave_2 := dk_seg dksX2_leave_1 23 rfl rfl
theorem dksX2_leave_3 : cX2_leave.data.toList.drop 67 = dktX2_leave_3 := dk_seg dksX2_leave_2 22 rfl rfl
theorem dksX2_leave_4 : cX2_leave.data.toList.drop 90 = dktX2_leave_4 := dk_seg dksX2_leave_3 23 rfl rfl
theorem dX2_leave_0 : decode cX2_leave 0 = .ok (.aload_n 1, 1) := dk_43 (dk_at dksX2_leave_0 0 rfl rfl)
theorem dX2_leave_1 : decode cX2_leave 1 = .ok (.getfield 225, 3) := dk_180 0 225 (dk_at dksX2_leave_0 1 rfl rfl)
theorem dX2_leave_4 : decode cX2_leave 4 = .ok (.invokevirtual 88, 3) := dk_182 0 88 (dk_at dksX2_leave_0 4 rfl rfl)
theorem dX2_leave_7 : decode cX2_leave 7 = .ok (.istore_n 2, 1) := dk_61 (dk_at dksX2_leave_0 7 rfl rfl)
theorem dX2_leave_8 : decode cX2_leave 8 = .ok (.aload_n 1, 1) := dk_43 (dk_at dksX2_leave_0 8 rfl rfl)
theorem dX2_leave_9 : decode cX2_leave 9 = .ok (.getfield 225, 3) := dk_180 0 225 (dk_at dksX2_leave_0 9 rfl rfl)
theorem dX2_leave_12 : decode cX2_leave 12 = .ok (.invokevirtual 42, 3) := dk_182 0 42 (dk_at dksX2_leave_0 12 rfl rfl)
theorem dX2_leave_15 : decode cX2_leave 15 = .ok (.astore_n 3, 1) := dk_78 (dk_at dksX2_leave_0 15 rfl rfl)
theorem dX2_leave_16 : decode cX2_leave 16 = .ok (.aload_n 3, 1) := dk_45 (dk_at dksX2_leave_0 16 rfl rfl)
theorem dX2_leave_17 : decode cX2_leave 17 = .ok (.invokeinterface 46 1, 5) := by decide +kernel
theorem dX2_leave_22 : decode cX2_leave 22 = .ok (.ifCond .eq 54, 3) := dk_153 0 54 (dk_at dksX2_leave_1 0 rfl rfl)
theorem dX2_leave_25 : decode cX2_leave 25 = .ok (.aload_n 3, 1) := dk_45 (dk_at dksX2_leave_1 3 rfl rfl)
theorem dX2_leave_26 : decode cX2_leave 26 = .ok (.invokeinterface 52 1, 5) := by decide +kernel
theorem dX2_leave_31 : decode cX2_leave 31 = .ok (.checkcast 228, 3) := dk_192 0 228 (dk_at dksX2_leave_1 9 rfl rfl)
theorem dX2_leave_34 : decode cX2_leave 34 = .ok (.astore 4, 2) := dk_58 4 (dk_at dksX2_leave_1 12 rfl rfl)
theorem dX2_leave_36 : decode cX2_leave 36 = .ok (.aload_n 0, 1) := dk_42 (dk_at dksX2_leave_1 14 rfl rfl)
theorem dX2_leave_37 : decode cX2_leave 37 = .ok (.getfield 25, 3) := dk_180 0 25 (dk_at dksX2_leave_1 15 rfl rfl)
theorem dX2_leave_40 : decode cX2_leave 40 = .ok (.aload 4, 2) := dk_25 4 (dk_at dksX2_leave_1 18 rfl rfl)
theorem dX2_leave_42 : decode cX2_leave 42 = .ok (.getfield 254, 3) := dk_180 0 254 (dk_at dksX2_leave_1 20 rfl rfl)
theorem dX2_leave_45 : decode cX2_leave 45 = .ok (.invokevirtual 110, 3) := dk_182 0 110 (dk_at dksX2_leave_2 0 rfl rfl)
theorem dX2_leave_48 : decode cX2_leave 48 = .ok (.checkcast 62, 3) := dk_192 0 62 (dk_at dksX2_leave_2 3 rfl rfl)
theorem dX2_leave_51 : decode cX2_leave 51 = .ok (.aload_n 0, 1) := dk_42 (dk_at dksX2_leave_2 6 rfl rfl)
theorem dX2_leave_52 : decode cX2_leave 52 = .ok (.getfield 12, 3) := dk_180 0 12 (dk_at dksX2_leave_2 7 rfl rfl)
theorem dX2_leave_55 : decode cX2_leave 55 = .ok (.aload_n 1, 1) := dk_43 (dk_at dksX2_leave_2 10 rfl rfl)
theorem dX2_leave_56 : decode cX2_leave 56 = .ok (.getfield 235, 3) := dk_180 0 235 (dk_at dksX2_leave_2 11 rfl rfl)
theorem dX2_leave_59 : decode cX2_leave 59 = .ok (.invokevirtual 110, 3) := dk_182 0 110 (dk_at dksX2_leave_2 14 rfl rfl)
theorem dX2_leave_62 : decode cX2_leave 62 = .ok (.checkcast 56, 3) := dk_192 0 56 (dk_at dksX2_leave_2 17 rfl rfl)
theorem dX2_leave_65 : decode cX2_leave 65 = .ok (.aload 4, 2) := dk_25 4 (dk_at dksX2_leave_2 20 rfl rfl)
theorem dX2_leave_67 : decode cX2_leave 67 = .ok (.getfield 256, 3) := dk_180 1 0 (dk_at dksX2_leave_3 0 rfl rfl)
theorem dX2_leave_70 : decode cX2_leave 70 = .ok (.invokevirtual 259, 3) := dk_182 1 3 (dk_at dksX2_leave_3 3 rfl rfl)
theorem dX2_leave_73 : decode cX2_leave 73 = .ok (.goto (-57), 3) := dk_167 255 199 (dk_at dksX2_leave_3 6 rfl rfl)
theorem dX2_leave_76 : decode cX2_leave 76 = .ok (.aload_n 1, 1) := dk_43 (dk_at dksX2_leave_3 9 rfl rfl)
theorem dX2_leave_77 : decode cX2_leave 77 = .ok (.getfield 225, 3) := dk_180 0 225 (dk_at dksX2_leave_3 10 rfl rfl)
theorem dX2_leave_80 : decode cX2_leave 80 = .ok (.invokevirtual 262, 3) := dk_182 1 6 (dk_at dksX2_leave_3 13 rfl rfl)
theorem dX2_leave_83 : decode cX2_leave 83 = .ok (.aload_n 1, 1) := dk_43 (dk_at dksX2_leave_3 16 rfl rfl)
theorem dX2_leave_84 : decode cX2_leave 84 = .ok (.iconst 0, 1) := dk_3 (dk_at dksX2_leave_3 17 rfl rfl)
theorem dX2_leave_85 : decode cX2_leave 85 = .ok (.putfield 211, 3) := dk_181 0 211 (dk_at dksX2_leave_3 18 rfl rfl)
theorem dX2_leave_88 : decode cX2_leave 88 = .ok (.aload_n 1, 1) := dk_43 (dk_at dksX2_leave_3 21 rfl rfl)
theorem dX2_leave_89 : decode cX2_leave 89 = .ok (.iconst (-1), 1) := dk_2 (dk_at dksX2_leave_3 22 rfl rfl)
theorem dX2_leave_90 : decode cX2_leave 90 = .ok (.putfield 265, 3) := dk_181 1 9 (dk_at dksX2_leave_4 0 rfl rfl)
theorem dX2_leave_93 : decode cX2_leave 93 = .ok (.aload_n 1, 1) := dk_43 (dk_at dksX2_leave_4 3 rfl rfl)
theorem dX2_leave_94 : decode cX2_leave 94 = .ok (.iconst 0, 1) := dk_3 (dk_at dksX2_leave_4 4 rfl rfl)
theorem dX2_leave_95 : decode cX2_leave 95 = .ok (.putfield 268, 3) := dk_181 1 12 (dk_at dksX2_leave_4 5 rfl rfl)
theorem dX2_leave_98 : decode cX2_leave 98 = .ok (.iload_n 2, 1) := dk_28 (dk_at dksX2_leave_4 8 rfl rfl)
theorem dX2_leave_99 : decode cX2_leave 99 = .ok (.ireturn, 1) := dk_172 (dk_at dksX2_leave_4 9 rfl rfl)
def dkwX2_scrap_1 : List UInt8 := [180, 1, 12, 62, 42, 89, 180, 0, 81, 29, 96, 181, 0, 81, 42, 44, 182, 1, 19, 54, 4, 29, 172]
abbrev dktX2_scrap_1 : List UInt8 := dkwX2_scrap_1 ++ []
def dkwX2_scrap_0 : List UInt8 := [42, 27, 182, 1, 15, 77, 44, 180, 0, 211, 5, 160, 0, 7, 4, 167, 0, 4, 3, 184, 0, 131, 44]
abbrev dktX2_scrap_0 : List UInt8 := dkwX2_scrap_0 ++ dktX2_scrap_1
theorem dksX2_scrap_0 : cX2_scrap.data.toList.drop 0 = dktX2_scrap_0 := by decide +kernel
theorem dksX2_scrap_1 : cX2_scrap.data.toList.drop 23 = dktX2_scrap_1 := dk_seg dksX2_scrap_0 23 rfl rfl
theorem dX2_scrap_0 : decode cX2_scrap 0 = .ok (.aload_n 0, 1) := dk_42 (dk_at dksX2_scrap_0 0 rfl rfl)
theorem dX2_scrap_1 : decode cX2_scrap 1 = .ok (.iload_n 1, 1) := dk_27 (dk_at dksX2_scrap_0 1 rfl rfl)
theorem dX2_scrap_2 : decode cX2_scrap 2 = .ok (.invokevirtual 271, 3) := dk_182 1 15 (dk_at dksX2_scrap_0 2 rfl rfl)
theorem dX2_scrap_5 : decode cX2_scrap 5 = .ok (.astore_n 2, 1) := dk_77 (dk_at dksX2_scrap_0 5 rfl rfl)
theorem dX2_scrap_6 : decode cX2_scrap 6 = .ok (.aload_n 2, 1) := dk_44 (dk_at dksX2_scrap_0 6 rfl rfl)
theorem dX2_scrap_7 : decode cX2_scrap 7 = .ok (.getfield 211, 3) := dk_180 0 211 (dk_at dksX2_scrap_0 7 rfl rfl)
theorem dX2_scrap_10 : decode cX2_scrap 10 = .ok (.iconst 2, 1) := dk_5 (dk_at dksX2_scrap_0 10 rfl rfl)
theorem dX2_scrap_11 : decode cX2_scrap 11 = .ok (.if_icmp .ne 7, 3) := dk_160 0 7 (dk_at dksX2_scrap_0 11 rfl rfl)
theorem dX2_scrap_14 : decode cX2_scrap 14 = .ok (.iconst 1, 1) := dk_4 (dk_at dksX2_scrap_0 14 rfl rfl)
theorem dX2_scrap_15 : decode cX2_scrap 15 = .ok (.goto 4, 3) := dk_167 0 4 (dk_at dksX2_scrap_0 15 rfl rfl)
theorem dX2_scrap_18 : decode cX2_scrap 18 = .ok (.iconst 0, 1) := dk_3 (dk_at dksX2_scrap_0 18 rfl rfl)
theorem dX2_scrap_19 : decode cX2_scrap 19 = .ok (.invokestatic 131, 3) := dk_184 0 131 (dk_at dksX2_scrap_0 19 rfl rfl)
theorem dX2_scrap_22 : decode cX2_scrap 22 = .ok (.aload_n 2, 1) := dk_44 (dk_at dksX2_scrap_0 22 rfl rfl)
theorem dX2_scrap_23 : decode cX2_scrap 23 = .ok (.getfield 268, 3) := dk_180 1 12 (dk_at dksX2_scrap_1 0 rfl rfl)
theorem dX2_scrap_26 : decode cX2_scrap 26 = .ok (.istore_n 3, 1) := dk_62 (dk_at dksX2_scrap_1 3 rfl rfl)
theorem dX2_scrap_27 : decode cX2_scrap 27 = .ok (.aload_n 0, 1) := dk_42 (dk_at dksX2_scrap_1 4 rfl rfl)
theorem dX2_scrap_28 : decode cX2_scrap 28 = .ok (.dup, 1) := dk_89 (dk_at dksX2_scrap_1 5 rfl rfl)
theorem dX2_scrap_29 : decode cX2_scrap 29 = .ok (.getfield 81, 3) := dk_180 0 81 (dk_at dksX2_scrap_1 6 rfl rfl)
theorem dX2_scrap_32 : decode cX2_scrap 32 = .ok (.iload_n 3, 1) := dk_29 (dk_at dksX2_scrap_1 9 rfl rfl)
theorem dX2_scrap_33 : decode cX2_scrap 33 = .ok (.iadd, 1) := dk_96 (dk_at dksX2_scrap_1 10 rfl rfl)
theorem dX2_scrap_34 : decode cX2_scrap 34 = .ok (.putfield 81, 3) := dk_181 0 81 (dk_at dksX2_scrap_1 11 rfl rfl)
theorem dX2_scrap_37 : decode cX2_scrap 37 = .ok (.aload_n 0, 1) := dk_42 (dk_at dksX2_scrap_1 14 rfl rfl)
theorem dX2_scrap_38 : decode cX2_scrap 38 = .ok (.aload_n 2, 1) := dk_44 (dk_at dksX2_scrap_1 15 rfl rfl)
theorem dX2_scrap_39 : decode cX2_scrap 39 = .ok (.invokevirtual 275, 3) := dk_182 1 19 (dk_at dksX2_scrap_1 16 rfl rfl)
theorem dX2_scrap_42 : decode cX2_scrap 42 = .ok (.istore 4, 2) := dk_54 4 (dk_at dksX2_scrap_1 19 rfl rfl)
theorem dX2_scrap_44 : decode cX2_scrap 44 = .ok (.iload_n 3, 1) := dk_29 (dk_at dksX2_scrap_1 21 rfl rfl)
theorem dX2_scrap_45 : decode cX2_scrap 45 = .ok (.ireturn, 1) := dk_172 (dk_at dksX2_scrap_1 22 rfl rfl)
def dkwX2_shortest_1 : List UInt8 := [153, 0, 11, 25, 4, 180, 0, 190, 167, 0, 4, 2, 172]
abbrev dktX2_shortest_1 : List UInt8 := dkwX2_shortest_1 ++ []
def dkwX2_shortest_0 : List UInt8 := [187, 0, 182, 89, 42, 42, 27, 182, 0, 163, 28, 29, 183, 0, 184, 58, 4, 25, 4, 182, 0, 187]
abbrev dktX2_shortest_0 : List UInt8 := dkwX2_shortest_0 ++ dktX2_shortest_1
theorem dksX2_shortest_0 : cX2_shortest.data.toList.drop 0 = dktX2_shortest_0 := by decide +kernel
theorem dksX2_shortest_1 : cX2_shortest.data.toList.drop 22 = dktX2_shortest_1 := dk_seg dksX2_shortest_0 22 rfl rfl
theorem dX2_shortest_0 : decode cX2_shortest 0 = .ok (.new 182, 3) := dk_187 0 182 (dk_at dksX2_shortest_0 0 rfl rfl)
theorem dX2_shortest_3 : decode cX2_shortest 3 = .ok (.dup, 1) := dk_89 (dk_at dksX2_shortest_0 3 rfl rfl)
theorem dX2_shortest_4 : decode cX2_shortest 4 = .ok (.aload_n 0, 1) := dk_42 (dk_at dksX2_shortest_0 4 rfl rfl)
theorem dX2_shortest_5 : decode cX2_shortest 5 = .ok (.aload_n 0, 1) := dk_42 (dk_at dksX2_shortest_0 5 rfl rfl)
theorem dX2_shortest_6 : decode cX2_shortest 6 = .ok (.iload_n 1, 1) := dk_27 (dk_at dksX2_shortest_0 6 rfl rfl)
theorem dX2_shortest_7 : decode cX2_shortest 7 = .ok (.invokevirtual 163, 3) := dk_182 0 163 (dk_at dksX2_shortest_0 7 rfl rfl)
theorem dX2_shortest_10 : decode cX2_shortest 10 = .ok (.iload_n 2, 1) := dk_28 (dk_at dksX2_shortest_0 10 rfl rfl)
theorem dX2_shortest_11 : decode cX2_shortest 11 = .ok (.iload_n 3, 1) := dk_29 (dk_at dksX2_shortest_0 11 rfl rfl)
theorem dX2_shortest_12 : decode cX2_shortest 12 = .ok (.invokespecial 184, 3) := dk_183 0 184 (dk_at dksX2_shortest_0 12 rfl rfl)
theorem dX2_shortest_15 : decode cX2_shortest 15 = .ok (.astore 4, 2) := dk_58 4 (dk_at dksX2_shortest_0 15 rfl rfl)
theorem dX2_shortest_17 : decode cX2_shortest 17 = .ok (.aload 4, 2) := dk_25 4 (dk_at dksX2_shortest_0 17 rfl rfl)
theorem dX2_shortest_19 : decode cX2_shortest 19 = .ok (.invokevirtual 187, 3) := dk_182 0 187 (dk_at dksX2_shortest_0 19 rfl rfl)
theorem dX2_shortest_22 : decode cX2_shortest 22 = .ok (.ifCond .eq 11, 3) := dk_153 0 11 (dk_at dksX2_shortest_1 0 rfl rfl)
theorem dX2_shortest_25 : decode cX2_shortest 25 = .ok (.aload 4, 2) := dk_25 4 (dk_at dksX2_shortest_1 3 rfl rfl)
theorem dX2_shortest_27 : decode cX2_shortest 27 = .ok (.getfield 190, 3) := dk_180 0 190 (dk_at dksX2_shortest_1 5 rfl rfl)
theorem dX2_shortest_30 : decode cX2_shortest 30 = .ok (.goto 4, 3) := dk_167 0 4 (dk_at dksX2_shortest_1 8 rfl rfl)
theorem dX2_shortest_33 : decode cX2_shortest 33 = .ok (.iconst (-1), 1) := dk_2 (dk_at dksX2_shortest_1 11 rfl rfl)
theorem dX2_shortest_34 : decode cX2_shortest 34 = .ok (.ireturn, 1) := dk_172 (dk_at dksX2_shortest_1 12 rfl rfl)
def dkwX2_drum_1 : List UInt8 := [182, 0, 110, 192, 0, 76, 176]
abbrev dktX2_drum_1 : List UInt8 := dkwX2_drum_1 ++ []
def dkwX2_drum_0 : List UInt8 := [27, 133, 9, 42, 180, 0, 31, 182, 0, 88, 4, 100, 133, 184, 0, 102, 184, 0, 106, 42, 180, 0, 31, 27]
abbrev dktX2_drum_0 : List UInt8 := dkwX2_drum_0 ++ dktX2_drum_1
theorem dksX2_drum_0 : cX2_drum.data.toList.drop 0 = dktX2_drum_0 := by decide +kernel
theorem dksX2_drum_1 : cX2_drum.data.toList.drop 24 = dktX2_drum_1 := dk_seg dksX2_drum_0 24 rfl rfl
theorem dX2_drum_0 : decode cX2_drum 0 = .ok (.iload_n 1, 1) := dk_27 (dk_at dksX2_drum_0 0 rfl rfl)
theorem dX2_drum_1 : decode cX2_drum 1 = .ok (.i2l, 1) := dk_133 (dk_at dksX2_drum_0 1 rfl rfl)
theorem dX2_drum_2 : decode cX2_drum 2 = .ok (.lconst 0, 1) := dk_9 (dk_at dksX2_drum_0 2 rfl rfl)
theorem dX2_drum_3 : decode cX2_drum 3 = .ok (.aload_n 0, 1) := dk_42 (dk_at dksX2_drum_0 3 rfl rfl)
theorem dX2_drum_4 : decode cX2_drum 4 = .ok (.getfield 31, 3) := dk_180 0 31 (dk_at dksX2_drum_0 4 rfl rfl)
theorem dX2_drum_7 : decode cX2_drum 7 = .ok (.invokevirtual 88, 3) := dk_182 0 88 (dk_at dksX2_drum_0 7 rfl rfl)
theorem dX2_drum_10 : decode cX2_drum 10 = .ok (.iconst 1, 1) := dk_4 (dk_at dksX2_drum_0 10 rfl rfl)
theorem dX2_drum_11 : decode cX2_drum 11 = .ok (.isub, 1) := dk_100 (dk_at dksX2_drum_0 11 rfl rfl)
theorem dX2_drum_12 : decode cX2_drum 12 = .ok (.i2l, 1) := dk_133 (dk_at dksX2_drum_0 12 rfl rfl)
theorem dX2_drum_13 : decode cX2_drum 13 = .ok (.invokestatic 102, 3) := dk_184 0 102 (dk_at dksX2_drum_0 13 rfl rfl)
theorem dX2_drum_16 : decode cX2_drum 16 = .ok (.invokestatic 106, 3) := dk_184 0 106 (dk_at dksX2_drum_0 16 rfl rfl)
theorem dX2_drum_19 : decode cX2_drum 19 = .ok (.aload_n 0, 1) := dk_42 (dk_at dksX2_drum_0 19 rfl rfl)
theorem dX2_drum_20 : decode cX2_drum 20 = .ok (.getfield 31, 3) := dk_180 0 31 (dk_at dksX2_drum_0 20 rfl rfl)
theorem dX2_drum_23 : decode cX2_drum 23 = .ok (.iload_n 1, 1) := dk_27 (dk_at dksX2_drum_0 23 rfl rfl)
theorem dX2_drum_24 : decode cX2_drum 24 = .ok (.invokevirtual 110, 3) := dk_182 0 110 (dk_at dksX2_drum_1 0 rfl rfl)
theorem dX2_drum_27 : decode cX2_drum 27 = .ok (.checkcast 76, 3) := dk_192 0 76 (dk_at dksX2_drum_1 3 rfl rfl)
theorem dX2_drum_30 : decode cX2_drum 30 = .ok (.areturn, 1) := dk_176 (dk_at dksX2_drum_1 6 rfl rfl)
def dkwX2_cutFrom_2 : List UInt8 := [3, 96, 61, 167, 255, 219, 28, 172]
abbrev dktX2_cutFrom_2 : List UInt8 := dkwX2_cutFrom_2 ++ []
def dkwX2_cutFrom_1 : List UInt8 := [185, 0, 52, 1, 0, 192, 0, 71, 58, 4, 28, 25, 4, 180, 1, 9, 27, 160, 0, 7, 4, 167, 0, 4]
abbrev dktX2_cutFrom_1 : List UInt8 := dkwX2_cutFrom_1 ++ dktX2_cutFrom_2
def dkwX2_cutFrom_0 : List UInt8 := [3, 61, 42, 180, 0, 28, 182, 0, 42, 78, 45, 185, 0, 46, 1, 0, 153, 0, 34, 45]
abbrev dktX2_cutFrom_0 : List UInt8 := dkwX2_cutFrom_0 ++ dktX2_cutFrom_1
theorem dksX2_cutFrom_0 : cX2_cutFrom.data.toList.drop 0 = dktX2_cutFrom_0 := by decide +kernel
theorem dksX2_cutFrom_1 : cX2_cutFrom.data.toList.drop 20 = dktX2_cutFrom_1 := dk_seg dksX2_cutFrom_0 20 rfl rfl
theorem dksX2_cutFrom_2 : cX2_cutFrom.data.toList.drop 44 = dktX2_cutFrom_2 := dk_seg dksX2_cutFrom_1 24 rfl rfl
theorem dX2_cutFrom_0 : decode cX2_cutFrom 0 = .ok (.iconst 0, 1) := dk_3 (dk_at dksX2_cutFrom_0 0 rfl rfl)
theorem dX2_cutFrom_1 : decode cX2_cutFrom 1 = .ok (.istore_n 2, 1) := dk_61 (dk_at dksX2_cutFrom_0 1 rfl rfl)
theorem dX2_cutFrom_2 : decode cX2_cutFrom 2 = .ok (.aload_n 0, 1) := dk_42 (dk_at dksX2_cutFrom_0 2 rfl rfl)
theorem dX2_cutFrom_3 : decode cX2_cutFrom 3 = .ok (.getfield 28, 3) := dk_180 0 28 (dk_at dksX2_cutFrom_0 3 rfl rfl)
theorem dX2_cutFrom_6 : decode cX2_cutFrom 6 = .ok (.invokevirtual 42, 3) := dk_182 0 42 (dk_at dksX2_cutFrom_0 6 rfl rfl)
theorem dX2_cutFrom_9 : decode cX2_cutFrom 9 = .ok (.astore_n 3, 1) := dk_78 (dk_at dksX2_cutFrom_0 9 rfl rfl)
theorem dX2_cutFrom_10 : decode cX2_cutFrom 10 = .ok (.aload_n 3, 1) := dk_45 (dk_at dksX2_cutFrom_0 10 rfl rfl)
theorem dX2_cutFrom_11 : decode cX2_cutFrom 11 = .ok (.invokeinterface 46 1, 5) := by decide +kernel
theorem dX2_cutFrom_16 : decode cX2_cutFrom 16 = .ok (.ifCond .eq 34, 3) := dk_153 0 34 (dk_at dksX2_cutFrom_0 16 rfl rfl)
theorem dX2_cutFrom_19 : decode cX2_cutFrom 19 = .ok (.aload_n 3, 1) := dk_45 (dk_at dksX2_cutFrom_0 19 rfl rfl)
theorem dX2_cutFrom_20 : decode cX2_cutFrom 20 = .ok (.invokeinterface 52 1, 5) := by decide +kernel
theorem dX2_cutFrom_25 : decode cX2_cutFrom 25 = .ok (.checkcast 71, 3) := dk_192 0 71 (dk_at dksX2_cutFrom_1 5 rfl rfl)
theorem dX2_cutFrom_28 : decode cX2_cutFrom 28 = .ok (.astore 4, 2) := dk_58 4 (dk_at dksX2_cutFrom_1 8 rfl rfl)
theorem dX2_cutFrom_30 : decode cX2_cutFrom 30 = .ok (.iload_n 2, 1) := dk_28 (dk_at dksX2_cutFrom_1 10 rfl rfl)
theorem dX2_cutFrom_31 : decode cX2_cutFrom 31 = .ok (.aload 4, 2) := dk_25 4 (dk_at dksX2_cutFrom_1 11 rfl rfl)
theorem dX2_cutFrom_33 : decode cX2_cutFrom 33 = .ok (.getfield 265, 3) := dk_180 1 9 (dk_at dksX2_cutFrom_1 13 rfl rfl)
theorem dX2_cutFrom_36 : decode cX2_cutFrom 36 = .ok (.iload_n 1, 1) := dk_27 (dk_at dksX2_cutFrom_1 16 rfl rfl)
theorem dX2_cutFrom_37 : decode cX2_cutFrom 37 = .ok (.if_icmp .ne 7, 3) := dk_160 0 7 (dk_at dksX2_cutFrom_1 17 rfl rfl)
theorem dX2_cutFrom_40 : decode cX2_cutFrom 40 = .ok (.iconst 1, 1) := dk_4 (dk_at dksX2_cutFrom_1 20 rfl rfl)
theorem dX2_cutFrom_41 : decode cX2_cutFrom 41 = .ok (.goto 4, 3) := dk_167 0 4 (dk_at dksX2_cutFrom_1 21 rfl rfl)
theorem dX2_cutFrom_44 : decode cX2_cutFrom 44 = .ok (.iconst 0, 1) := dk_3 (dk_at dksX2_cutFrom_2 0 rfl rfl)
theorem dX2_cutFrom_45 : decode cX2_cutFrom 45 = .ok (.iadd, 1) := dk_96 (dk_at dksX2_cutFrom_2 1 rfl rfl)
theorem dX2_cutFrom_46 : decode cX2_cutFrom 46 = .ok (.istore_n 2, 1) := dk_61 (dk_at dksX2_cutFrom_2 2 rfl rfl)
theorem dX2_cutFrom_47 : decode cX2_cutFrom 47 = .ok (.goto (-37), 3) := dk_167 255 219 (dk_at dksX2_cutFrom_2 3 rfl rfl)
theorem dX2_cutFrom_50 : decode cX2_cutFrom 50 = .ok (.iload_n 2, 1) := dk_28 (dk_at dksX2_cutFrom_2 6 rfl rfl)
theorem dX2_cutFrom_51 : decode cX2_cutFrom 51 = .ok (.ireturn, 1) := dk_172 (dk_at dksX2_cutFrom_2 7 rfl rfl)
def dkwX2_fewestDrums_7 : List UInt8 := [3, 167, 0, 11, 21, 6, 17, 39, 16, 108, 4, 96, 172]
abbrev dktX2_fewestDrums_7 : List UInt8 := dkwX2_fewestDrums_7 ++ []
def dkwX2_fewestDrums_6 : List UInt8 := [182, 0, 88, 17, 39, 16, 104, 162, 0, 7, 4, 167, 0, 4, 3, 184, 1, 56, 21, 4, 4, 160, 0, 7]
abbrev dktX2_fewestDrums_6 : List UInt8 := dkwX2_fewestDrums_6 ++ dktX2_fewestDrums_7
def dkwX2_fewestDrums_5 : List UInt8 := [132, 6, 1, 167, 255, 163, 25, 5, 21, 4, 4, 100, 46, 54, 6, 21, 4, 4, 159, 0, 16, 21, 6, 45]
abbrev dktX2_fewestDrums_5 : List UInt8 := dkwX2_fewestDrums_5 ++ dktX2_fewestDrums_6
def dkwX2_fewestDrums_4 : List UInt8 := [182, 0, 110, 192, 0, 93, 182, 0, 117, 45, 184, 1, 49, 184, 1, 53, 79, 132, 7, 1, 167, 255, 192]
abbrev dktX2_fewestDrums_4 : List UInt8 := dkwX2_fewestDrums_4 ++ dktX2_fewestDrums_5
def dkwX2_fewestDrums_3 : List UInt8 := [25, 5, 21, 6, 25, 5, 21, 6, 46, 25, 5, 21, 6, 4, 21, 7, 120, 2, 130, 126, 46, 44, 21, 7]
abbrev dktX2_fewestDrums_3 : List UInt8 := dkwX2_fewestDrums_3 ++ dktX2_fewestDrums_4
def dkwX2_fewestDrums_2 : List UInt8 := [79, 3, 54, 7, 21, 7, 44, 182, 0, 88, 162, 0, 61, 21, 6, 21, 7, 122, 4, 126, 4, 160, 0, 44]
abbrev dktX2_fewestDrums_2 : List UInt8 := dkwX2_fewestDrums_2 ++ dktX2_fewestDrums_3
def dkwX2_fewestDrums_1 : List UInt8 := [58, 5, 4, 54, 6, 21, 6, 21, 4, 162, 0, 92, 25, 5, 21, 6, 45, 182, 0, 88, 17, 39, 16, 104]
abbrev dktX2_fewestDrums_1 : List UInt8 := dkwX2_fewestDrums_1 ++ dktX2_fewestDrums_2
def dkwX2_fewestDrums_0 : List UInt8 := [42, 27, 182, 1, 42, 77, 42, 27, 182, 1, 46, 78, 4, 44, 182, 0, 88, 120, 54, 4, 21, 4, 188, 10]
abbrev dktX2_fewestDrums_0 : List UInt8 := dkwX2_fewestDrums_0 ++ dktX2_fewestDrums_1
theorem dksX2_fewestDrums_0 : cX2_fewestDrums.data.toList.drop 0 = dktX2_fewestDrums_0 := by decide +kernel
theorem dksX2_fewestDrums_1 : cX2_fewestDrums.data.toList.drop 24 = dktX2_fewestDrums_1 := dk_seg dksX2_fewestDrums_0 24 rfl rfl
theorem dksX2_fewestDrums_2 : cX2_fewestDrums.data.toList.drop 48 = dktX2_fewestDrums_2 := dk_seg dksX2_fewestDrums_1 24 rfl rfl
theorem dksX2_fewestDrums_3 : cX2_fewestDrums.data.toList.drop 72 = dktX2_fewestDrums_3 := dk_seg dksX2_fewestDrums_2 24 rfl rfl
theorem dksX2_fewestDrums_4 : cX2_fewestDrums.data.toList.drop 96 = dktX2_fewestDrums_4 := dk_seg dksX2_fewestDrums_3 24 rfl rfl
theorem dksX2_fewestDrums_5 : cX2_fewestDrums.data.toList.drop 119 = dktX2_fewestDrums_5 := dk_seg dksX2_fewestDrums_4 23 rfl rfl
theorem dksX2_fewestDrums_6 : cX2_fewestDrums.data.toList.drop 143 = dktX2_fewestDrums_6 := dk_seg dksX2_fewestDrums_5 24 rfl rfl
theorem dksX2_fewestDrums_7 : cX2_fewestDrums.data.toList.drop 167 = dktX2_fewestDrums_7 := dk_seg dksX2_fewestDrums_6 24 rfl rfl
theorem dX2_fewestDrums_0 : decode cX2_fewestDrums 0 = .ok (.aload_n 0, 1) := dk_42 (dk_at dksX2_fewestDrums_0 0 rfl rfl)
theorem dX2_fewestDrums_1 : decode cX2_fewestDrums 1 = .ok (.iload_n 1, 1) := dk_27 (dk_at dksX2_fewestDrums_0 1 rfl rfl)
theorem dX2_fewestDrums_2 : decode cX2_fewestDrums 2 = .ok (.invokevirtual 298, 3) := dk_182 1 42 (dk_at dksX2_fewestDrums_0 2 rfl rfl)
theorem dX2_fewestDrums_5 : decode cX2_fewestDrums 5 = .ok (.astore_n 2, 1) := dk_77 (dk_at dksX2_fewestDrums_0 5 rfl rfl)
theorem dX2_fewestDrums_6 : decode cX2_fewestDrums 6 = .ok (.aload_n 0, 1) := dk_42 (dk_at dksX2_fewestDrums_0 6 rfl rfl)
theorem dX2_fewestDrums_7 : decode cX2_fewestDrums 7 = .ok (.iload_n 1, 1) := dk_27 (dk_at dksX2_fewestDrums_0 7 rfl rfl)
theorem dX2_fewestDrums_8 : decode cX2_fewestDrums 8 = .ok (.invokevirtual 302, 3) := dk_182 1 46 (dk_at dksX2_fewestDrums_0 8 rfl rfl)
theorem dX2_fewestDrums_11 : decode cX2_fewestDrums 11 = .ok (.astore_n 3, 1) := dk_78 (dk_at dksX2_fewestDrums_0 11 rfl rfl)
theorem dX2_fewestDrums_12 : decode cX2_fewestDrums 12 = .ok (.iconst 1, 1) := dk_4 (dk_at dksX2_fewestDrums_0 12 rfl rfl)
theorem dX2_fewestDrums_13 : decode cX2_fewestDrums 13 = .ok (.aload_n 2, 1) := dk_44 (dk_at dksX2_fewestDrums_0 13 rfl rfl)
theorem dX2_fewestDrums_14 : decode cX2_fewestDrums 14 = .ok (.invokevirtual 88, 3) := dk_182 0 88 (dk_at dksX2_fewestDrums_0 14 rfl rfl)
theorem dX2_fewestDrums_17 : decode cX2_fewestDrums 17 = .ok (.ishl, 1) := dk_120 (dk_at dksX2_fewestDrums_0 17 rfl rfl)
theorem dX2_fewestDrums_18 : decode cX2_fewestDrums 18 = .ok (.istore 4, 2) := dk_54 4 (dk_at dksX2_fewestDrums_0 18 rfl rfl)
theorem dX2_fewestDrums_20 : decode cX2_fewestDrums 20 = .ok (.iload 4, 2) := dk_21 4 (dk_at dksX2_fewestDrums_0 20 rfl rfl)
theorem dX2_fewestDrums_22 : decode cX2_fewestDrums 22 = .ok (.newarray .int, 2) := dk_188_10 (dk_at dksX2_fewestDrums_0 22 rfl rfl)
theorem dX2_fewestDrums_24 : decode cX2_fewestDrums 24 = .ok (.astore 5, 2) := dk_58 5 (dk_at dksX2_fewestDrums_1 0 rfl rfl)
theorem dX2_fewestDrums_26 : decode cX2_fewestDrums 26 = .ok (.iconst 1, 1) := dk_4 (dk_at dksX2_fewestDrums_1 2 rfl rfl)
theorem dX2_fewestDrums_27 : decode cX2_fewestDrums 27 = .ok (.istore 6, 2) := dk_54 6 (dk_at dksX2_fewestDrums_1 3 rfl rfl)
theorem dX2_fewestDrums_29 : decode cX2_fewestDrums 29 = .ok (.iload 6, 2) := dk_21 6 (dk_at dksX2_fewestDrums_1 5 rfl rfl)
theorem dX2_fewestDrums_31 : decode cX2_fewestDrums 31 = .ok (.iload 4, 2) := dk_21 4 (dk_at dksX2_fewestDrums_1 7 rfl rfl)
theorem dX2_fewestDrums_33 : decode cX2_fewestDrums 33 = .ok (.if_icmp .ge 92, 3) := dk_162 0 92 (dk_at dksX2_fewestDrums_1 9 rfl rfl)
theorem dX2_fewestDrums_36 : decode cX2_fewestDrums 36 = .ok (.aload 5, 2) := dk_25 5 (dk_at dksX2_fewestDrums_1 12 rfl rfl)
theorem dX2_fewestDrums_38 : decode cX2_fewestDrums 38 = .ok (.iload 6, 2) := dk_21 6 (dk_at dksX2_fewestDrums_1 14 rfl rfl)
theorem dX2_fewestDrums_40 : decode cX2_fewestDrums 40 = .ok (.aload_n 3, 1) := dk_45 (dk_at dksX2_fewestDrums_1 16 rfl rfl)
theorem dX2_fewestDrums_41 : decode cX2_fewestDrums 41 = .ok (.invokevirtual 88, 3) := dk_182 0 88 (dk_at dksX2_fewestDrums_1 17 rfl rfl)
theorem dX2_fewestDrums_44 : decode cX2_fewestDrums 44 = .ok (.sipush 10000, 3) := dk_17 39 16 (dk_at dksX2_fewestDrums_1 20 rfl rfl)
theorem dX2_fewestDrums_47 : decode cX2_fewestDrums 47 = .ok (.imul, 1) := dk_104 (dk_at dksX2_fewestDrums_1 23 rfl rfl)
theorem dX2_fewestDrums_48 : decode cX2_fewestDrums 48 = .ok (.iastore, 1) := dk_79 (dk_at dksX2_fewestDrums_2 0 rfl rfl)
theorem dX2_fewestDrums_49 : decode cX2_fewestDrums 49 = .ok (.iconst 0, 1) := dk_3 (dk_at dksX2_fewestDrums_2 1 rfl rfl)
theorem dX2_fewestDrums_50 : decode cX2_fewestDrums 50 = .ok (.istore 7, 2) := dk_54 7 (dk_at dksX2_fewestDrums_2 2 rfl rfl)
theorem dX2_fewestDrums_52 : decode cX2_fewestDrums 52 = .ok (.iload 7, 2) := dk_21 7 (dk_at dksX2_fewestDrums_2 4 rfl rfl)
theorem dX2_fewestDrums_54 : decode cX2_fewestDrums 54 = .ok (.aload_n 2, 1) := dk_44 (dk_at dksX2_fewestDrums_2 6 rfl rfl)
theorem dX2_fewestDrums_55 : decode cX2_fewestDrums 55 = .ok (.invokevirtual 88, 3) := dk_182 0 88 (dk_at dksX2_fewestDrums_2 7 rfl rfl)
theorem dX2_fewestDrums_58 : decode cX2_fewestDrums 58 = .ok (.if_icmp .ge 61, 3) := dk_162 0 61 (dk_at dksX2_fewestDrums_2 10 rfl rfl)
theorem dX2_fewestDrums_61 : decode cX2_fewestDrums 61 = .ok (.iload 6, 2) := dk_21 6 (dk_at dksX2_fewestDrums_2 13 rfl rfl)
theorem dX2_fewestDrums_63 : decode cX2_fewestDrums 63 = .ok (.iload 7, 2) := dk_21 7 (dk_at dksX2_fewestDrums_2 15 rfl rfl)
theorem dX2_fewestDrums_65 : decode cX2_fewestDrums 65 = .ok (.ishr, 1) := dk_122 (dk_at dksX2_fewestDrums_2 17 rfl rfl)
theorem dX2_fewestDrums_66 : decode cX2_fewestDrums 66 = .ok (.iconst 1, 1) := dk_4 (dk_at dksX2_fewestDrums_2 18 rfl rfl)
theorem dX2_fewestDrums_67 : decode cX2_fewestDrums 67 = .ok (.iand, 1) := dk_126 (dk_at dksX2_fewestDrums_2 19 rfl rfl)
theorem dX2_fewestDrums_68 : decode cX2_fewestDrums 68 = .ok (.iconst 1, 1) := dk_4 (dk_at dksX2_fewestDrums_2 20 rfl rfl)
theorem dX2_fewestDrums_69 : decode cX2_fewestDrums 69 = .ok (.if_icmp .ne 44, 3) := dk_160 0 44 (dk_at dksX2_fewestDrums_2 21 rfl rfl)
theorem dX2_fewestDrums_72 : decode cX2_fewestDrums 72 = .ok (.aload 5, 2) := dk_25 5 (dk_at dksX2_fewestDrums_3 0 rfl rfl)
theorem dX2_fewestDrums_74 : decode cX2_fewestDrums 74 = .ok (.iload 6, 2) := dk_21 6 (dk_at dksX2_fewestDrums_3 2 rfl rfl)
theorem dX2_fewestDrums_76 : decode cX2_fewestDrums 76 = .ok (.aload 5, 2) := dk_25 5 (dk_at dksX2_fewestDrums_3 4 rfl rfl)
theorem dX2_fewestDrums_78 : decode cX2_fewestDrums 78 = .ok (.iload 6, 2) := dk_21 6 (dk_at dksX2_fewestDrums_3 6 rfl rfl)
theorem dX2_fewestDrums_80 : decode cX2_fewestDrums 80 = .ok (.iaload, 1) := dk_46 (dk_at dksX2_fewestDrums_3 8 rfl rfl)
theorem dX2_fewestDrums_81 : decode cX2_fewestDrums 81 = .ok (.aload 5, 2) := dk_25 5 (dk_at dksX2_fewestDrums_3 9 rfl rfl)
theorem dX2_fewestDrums_83 : decode cX2_fewestDrums 83 = .ok (.iload 6, 2) := dk_21 6 (dk_at dksX2_fewestDrums_3 11 rfl rfl)
theorem dX2_fewestDrums_85 : decode cX2_fewestDrums 85 = .ok (.iconst 1, 1) := dk_4 (dk_at dksX2_fewestDrums_3 13 rfl rfl)
theorem dX2_fewestDrums_86 : decode cX2_fewestDrums 86 = .ok (.iload 7, 2) := dk_21 7 (dk_at dksX2_fewestDrums_3 14 rfl rfl)
theorem dX2_fewestDrums_88 : decode cX2_fewestDrums 88 = .ok (.ishl, 1) := dk_120 (dk_at dksX2_fewestDrums_3 16 rfl rfl)
theorem dX2_fewestDrums_89 : decode cX2_fewestDrums 89 = .ok (.iconst (-1), 1) := dk_2 (dk_at dksX2_fewestDrums_3 17 rfl rfl)
theorem dX2_fewestDrums_90 : decode cX2_fewestDrums 90 = .ok (.ixor, 1) := dk_130 (dk_at dksX2_fewestDrums_3 18 rfl rfl)
theorem dX2_fewestDrums_91 : decode cX2_fewestDrums 91 = .ok (.iand, 1) := dk_126 (dk_at dksX2_fewestDrums_3 19 rfl rfl)
theorem dX2_fewestDrums_92 : decode cX2_fewestDrums 92 = .ok (.iaload, 1) := dk_46 (dk_at dksX2_fewestDrums_3 20 rfl rfl)
theorem dX2_fewestDrums_93 : decode cX2_fewestDrums 93 = .ok (.aload_n 2, 1) := dk_44 (dk_at dksX2_fewestDrums_3 21 rfl rfl)
theorem dX2_fewestDrums_94 : decode cX2_fewestDrums 94 = .ok (.iload 7, 2) := dk_21 7 (dk_at dksX2_fewestDrums_3 22 rfl rfl)
theorem dX2_fewestDrums_96 : decode cX2_fewestDrums 96 = .ok (.invokevirtual 110, 3) := dk_182 0 110 (dk_at dksX2_fewestDrums_4 0 rfl rfl)
theorem dX2_fewestDrums_99 : decode cX2_fewestDrums 99 = .ok (.checkcast 93, 3) := dk_192 0 93 (dk_at dksX2_fewestDrums_4 3 rfl rfl)
theorem dX2_fewestDrums_102 : decode cX2_fewestDrums 102 = .ok (.invokevirtual 117, 3) := dk_182 0 117 (dk_at dksX2_fewestDrums_4 6 rfl rfl)
theorem dX2_fewestDrums_105 : decode cX2_fewestDrums 105 = .ok (.aload_n 3, 1) := dk_45 (dk_at dksX2_fewestDrums_4 9 rfl rfl)
theorem dX2_fewestDrums_106 : decode cX2_fewestDrums 106 = .ok (.invokestatic 305, 3) := dk_184 1 49 (dk_at dksX2_fewestDrums_4 10 rfl rfl)
theorem dX2_fewestDrums_109 : decode cX2_fewestDrums 109 = .ok (.invokestatic 309, 3) := dk_184 1 53 (dk_at dksX2_fewestDrums_4 13 rfl rfl)
theorem dX2_fewestDrums_112 : decode cX2_fewestDrums 112 = .ok (.iastore, 1) := dk_79 (dk_at dksX2_fewestDrums_4 16 rfl rfl)
theorem dX2_fewestDrums_113 : decode cX2_fewestDrums 113 = .ok (.iinc 7 1, 3) := dk_132 7 1 (dk_at dksX2_fewestDrums_4 17 rfl rfl)
theorem dX2_fewestDrums_116 : decode cX2_fewestDrums 116 = .ok (.goto (-64), 3) := dk_167 255 192 (dk_at dksX2_fewestDrums_4 20 rfl rfl)
theorem dX2_fewestDrums_119 : decode cX2_fewestDrums 119 = .ok (.iinc 6 1, 3) := dk_132 6 1 (dk_at dksX2_fewestDrums_5 0 rfl rfl)
theorem dX2_fewestDrums_122 : decode cX2_fewestDrums 122 = .ok (.goto (-93), 3) := dk_167 255 163 (dk_at dksX2_fewestDrums_5 3 rfl rfl)
theorem dX2_fewestDrums_125 : decode cX2_fewestDrums 125 = .ok (.aload 5, 2) := dk_25 5 (dk_at dksX2_fewestDrums_5 6 rfl rfl)
theorem dX2_fewestDrums_127 : decode cX2_fewestDrums 127 = .ok (.iload 4, 2) := dk_21 4 (dk_at dksX2_fewestDrums_5 8 rfl rfl)
theorem dX2_fewestDrums_129 : decode cX2_fewestDrums 129 = .ok (.iconst 1, 1) := dk_4 (dk_at dksX2_fewestDrums_5 10 rfl rfl)
theorem dX2_fewestDrums_130 : decode cX2_fewestDrums 130 = .ok (.isub, 1) := dk_100 (dk_at dksX2_fewestDrums_5 11 rfl rfl)
theorem dX2_fewestDrums_131 : decode cX2_fewestDrums 131 = .ok (.iaload, 1) := dk_46 (dk_at dksX2_fewestDrums_5 12 rfl rfl)
theorem dX2_fewestDrums_132 : decode cX2_fewestDrums 132 = .ok (.istore 6, 2) := dk_54 6 (dk_at dksX2_fewestDrums_5 13 rfl rfl)
theorem dX2_fewestDrums_134 : decode cX2_fewestDrums 134 = .ok (.iload 4, 2) := dk_21 4 (dk_at dksX2_fewestDrums_5 15 rfl rfl)
theorem dX2_fewestDrums_136 : decode cX2_fewestDrums 136 = .ok (.iconst 1, 1) := dk_4 (dk_at dksX2_fewestDrums_5 17 rfl rfl)
theorem dX2_fewestDrums_137 : decode cX2_fewestDrums 137 = .ok (.if_icmp .eq 16, 3) := dk_159 0 16 (dk_at dksX2_fewestDrums_5 18 rfl rfl)
theorem dX2_fewestDrums_140 : decode cX2_fewestDrums 140 = .ok (.iload 6, 2) := dk_21 6 (dk_at dksX2_fewestDrums_5 21 rfl rfl)
theorem dX2_fewestDrums_142 : decode cX2_fewestDrums 142 = .ok (.aload_n 3, 1) := dk_45 (dk_at dksX2_fewestDrums_5 23 rfl rfl)
theorem dX2_fewestDrums_143 : decode cX2_fewestDrums 143 = .ok (.invokevirtual 88, 3) := dk_182 0 88 (dk_at dksX2_fewestDrums_6 0 rfl rfl)
theorem dX2_fewestDrums_146 : decode cX2_fewestDrums 146 = .ok (.sipush 10000, 3) := dk_17 39 16 (dk_at dksX2_fewestDrums_6 3 rfl rfl)
theorem dX2_fewestDrums_149 : decode cX2_fewestDrums 149 = .ok (.imul, 1) := dk_104 (dk_at dksX2_fewestDrums_6 6 rfl rfl)
theorem dX2_fewestDrums_150 : decode cX2_fewestDrums 150 = .ok (.if_icmp .ge 7, 3) := dk_162 0 7 (dk_at dksX2_fewestDrums_6 7 rfl rfl)
theorem dX2_fewestDrums_153 : decode cX2_fewestDrums 153 = .ok (.iconst 1, 1) := dk_4 (dk_at dksX2_fewestDrums_6 10 rfl rfl)
theorem dX2_fewestDrums_154 : decode cX2_fewestDrums 154 = .ok (.goto 4, 3) := dk_167 0 4 (dk_at dksX2_fewestDrums_6 11 rfl rfl)
theorem dX2_fewestDrums_157 : decode cX2_fewestDrums 157 = .ok (.iconst 0, 1) := dk_3 (dk_at dksX2_fewestDrums_6 14 rfl rfl)
theorem dX2_fewestDrums_158 : decode cX2_fewestDrums 158 = .ok (.invokestatic 312, 3) := dk_184 1 56 (dk_at dksX2_fewestDrums_6 15 rfl rfl)
theorem dX2_fewestDrums_161 : decode cX2_fewestDrums 161 = .ok (.iload 4, 2) := dk_21 4 (dk_at dksX2_fewestDrums_6 18 rfl rfl)
theorem dX2_fewestDrums_163 : decode cX2_fewestDrums 163 = .ok (.iconst 1, 1) := dk_4 (dk_at dksX2_fewestDrums_6 20 rfl rfl)
theorem dX2_fewestDrums_164 : decode cX2_fewestDrums 164 = .ok (.if_icmp .ne 7, 3) := dk_160 0 7 (dk_at dksX2_fewestDrums_6 21 rfl rfl)
theorem dX2_fewestDrums_167 : decode cX2_fewestDrums 167 = .ok (.iconst 0, 1) := dk_3 (dk_at dksX2_fewestDrums_7 0 rfl rfl)
theorem dX2_fewestDrums_168 : decode cX2_fewestDrums 168 = .ok (.goto 11, 3) := dk_167 0 11 (dk_at dksX2_fewestDrums_7 1 rfl rfl)
theorem dX2_fewestDrums_171 : decode cX2_fewestDrums 171 = .ok (.iload 6, 2) := dk_21 6 (dk_at dksX2_fewestDrums_7 4 rfl rfl)
theorem dX2_fewestDrums_173 : decode cX2_fewestDrums 173 = .ok (.sipush 10000, 3) := dk_17 39 16 (dk_at dksX2_fewestDrums_7 6 rfl rfl)
theorem dX2_fewestDrums_176 : decode cX2_fewestDrums 176 = .ok (.idiv, 1) := dk_108 (dk_at dksX2_fewestDrums_7 9 rfl rfl)
theorem dX2_fewestDrums_177 : decode cX2_fewestDrums 177 = .ok (.iconst 1, 1) := dk_4 (dk_at dksX2_fewestDrums_7 10 rfl rfl)
theorem dX2_fewestDrums_178 : decode cX2_fewestDrums 178 = .ok (.iadd, 1) := dk_96 (dk_at dksX2_fewestDrums_7 11 rfl rfl)
theorem dX2_fewestDrums_179 : decode cX2_fewestDrums 179 = .ok (.ireturn, 1) := dk_172 (dk_at dksX2_fewestDrums_7 12 rfl rfl)
def dkwX2_needs_3 : List UInt8 := [153, 0, 7, 4, 167, 0, 4, 3, 54, 5, 167, 255, 195, 44, 176]
abbrev dktX2_needs_3 : List UInt8 := dkwX2_needs_3 ++ []
def dkwX2_needs_2 : List UInt8 := [25, 4, 180, 0, 211, 4, 160, 0, 23, 44, 42, 25, 4, 182, 0, 250, 184, 0, 92, 182, 0, 68]
abbrev dktX2_needs_2 : List UInt8 := dkwX2_needs_2 ++ dktX2_needs_3
def dkwX2_needs_1 : List UInt8 := [153, 0, 58, 45, 185, 0, 52, 1, 0, 192, 0, 71, 58, 4, 25, 4, 180, 0, 235, 27, 160, 0, 32]
abbrev dktX2_needs_1 : List UInt8 := dkwX2_needs_1 ++ dktX2_needs_2
def dkwX2_needs_0 : List UInt8 := [187, 0, 9, 89, 183, 0, 11, 77, 42, 180, 0, 28, 182, 0, 42, 78, 45, 185, 0, 46, 1, 0]
abbrev dktX2_needs_0 : List UInt8 := dkwX2_needs_0 ++ dktX2_needs_1
theorem dksX2_needs_0 : cX2_needs.data.toList.drop 0 = dktX2_needs_0 := by decide +kernel
theorem dksX2_needs_1 : cX2_needs.data.toList.drop 22 = dktX2_needs_1 := dk_seg dksX2_needs_0 22 rfl rfl
theorem dksX2_needs_2 : cX2_needs.data.toList.drop 45 = dktX2_needs_2 := dk_seg dksX2_needs_1 23 rfl rfl
theorem dksX2_needs_3 : cX2_needs.data.toList.drop 67 = dktX2_needs_3 := dk_seg dksX2_needs_2 22 rfl rfl
theorem dX2_needs_0 : decode cX2_needs 0 = .ok (.new 9, 3) := dk_187 0 9 (dk_at dksX2_needs_0 0 rfl rfl)
theorem dX2_needs_3 : decode cX2_needs 3 = .ok (.dup, 1) := dk_89 (dk_at dksX2_needs_0 3 rfl rfl)
theorem dX2_needs_4 : decode cX2_needs 4 = .ok (.invokespecial 11, 3) := dk_183 0 11 (dk_at dksX2_needs_0 4 rfl rfl)
theorem dX2_needs_7 : decode cX2_needs 7 = .ok (.astore_n 2, 1) := dk_77 (dk_at dksX2_needs_0 7 rfl rfl)
theorem dX2_needs_8 : decode cX2_needs 8 = .ok (.aload_n 0, 1) := dk_42 (dk_at dksX2_needs_0 8 rfl rfl)
theorem dX2_needs_9 : decode cX2_needs 9 = .ok (.getfield 28, 3) := dk_180 0 28 (dk_at dksX2_needs_0 9 rfl rfl)
theorem dX2_needs_12 : decode cX2_needs 12 = .ok (.invokevirtual 42, 3) := dk_182 0 42 (dk_at dksX2_needs_0 12 rfl rfl)
theorem dX2_needs_15 : decode cX2_needs 15 = .ok (.astore_n 3, 1) := dk_78 (dk_at dksX2_needs_0 15 rfl rfl)
theorem dX2_needs_16 : decode cX2_needs 16 = .ok (.aload_n 3, 1) := dk_45 (dk_at dksX2_needs_0 16 rfl rfl)
theorem dX2_needs_17 : decode cX2_needs 17 = .ok (.invokeinterface 46 1, 5) := by decide +kernel
theorem dX2_needs_22 : decode cX2_needs 22 = .ok (.ifCond .eq 58, 3) := dk_153 0 58 (dk_at dksX2_needs_1 0 rfl rfl)
theorem dX2_needs_25 : decode cX2_needs 25 = .ok (.aload_n 3, 1) := dk_45 (dk_at dksX2_needs_1 3 rfl rfl)
theorem dX2_needs_26 : decode cX2_needs 26 = .ok (.invokeinterface 52 1, 5) := by decide +kernel
theorem dX2_needs_31 : decode cX2_needs 31 = .ok (.checkcast 71, 3) := dk_192 0 71 (dk_at dksX2_needs_1 9 rfl rfl)
theorem dX2_needs_34 : decode cX2_needs 34 = .ok (.astore 4, 2) := dk_58 4 (dk_at dksX2_needs_1 12 rfl rfl)
theorem dX2_needs_36 : decode cX2_needs 36 = .ok (.aload 4, 2) := dk_25 4 (dk_at dksX2_needs_1 14 rfl rfl)
theorem dX2_needs_38 : decode cX2_needs 38 = .ok (.getfield 235, 3) := dk_180 0 235 (dk_at dksX2_needs_1 16 rfl rfl)
theorem dX2_needs_41 : decode cX2_needs 41 = .ok (.iload_n 1, 1) := dk_27 (dk_at dksX2_needs_1 19 rfl rfl)
theorem dX2_needs_42 : decode cX2_needs 42 = .ok (.if_icmp .ne 32, 3) := dk_160 0 32 (dk_at dksX2_needs_1 20 rfl rfl)
theorem dX2_needs_45 : decode cX2_needs 45 = .ok (.aload 4, 2) := dk_25 4 (dk_at dksX2_needs_2 0 rfl rfl)
theorem dX2_needs_47 : decode cX2_needs 47 = .ok (.getfield 211, 3) := dk_180 0 211 (dk_at dksX2_needs_2 2 rfl rfl)
theorem dX2_needs_50 : decode cX2_needs 50 = .ok (.iconst 1, 1) := dk_4 (dk_at dksX2_needs_2 5 rfl rfl)
theorem dX2_needs_51 : decode cX2_needs 51 = .ok (.if_icmp .ne 23, 3) := dk_160 0 23 (dk_at dksX2_needs_2 6 rfl rfl)
theorem dX2_needs_54 : decode cX2_needs 54 = .ok (.aload_n 2, 1) := dk_44 (dk_at dksX2_needs_2 9 rfl rfl)
theorem dX2_needs_55 : decode cX2_needs 55 = .ok (.aload_n 0, 1) := dk_42 (dk_at dksX2_needs_2 10 rfl rfl)
theorem dX2_needs_56 : decode cX2_needs 56 = .ok (.aload 4, 2) := dk_25 4 (dk_at dksX2_needs_2 11 rfl rfl)
theorem dX2_needs_58 : decode cX2_needs 58 = .ok (.invokevirtual 250, 3) := dk_182 0 250 (dk_at dksX2_needs_2 13 rfl rfl)
theorem dX2_needs_61 : decode cX2_needs 61 = .ok (.invokestatic 92, 3) := dk_184 0 92 (dk_at dksX2_needs_2 16 rfl rfl)
theorem dX2_needs_64 : decode cX2_needs 64 = .ok (.invokevirtual 68, 3) := dk_182 0 68 (dk_at dksX2_needs_2 19 rfl rfl)
theorem dX2_needs_67 : decode cX2_needs 67 = .ok (.ifCond .eq 7, 3) := dk_153 0 7 (dk_at dksX2_needs_3 0 rfl rfl)
theorem dX2_needs_70 : decode cX2_needs 70 = .ok (.iconst 1, 1) := dk_4 (dk_at dksX2_needs_3 3 rfl rfl)
theorem dX2_needs_71 : decode cX2_needs 71 = .ok (.goto 4, 3) := dk_167 0 4 (dk_at dksX2_needs_3 4 rfl rfl)
theorem dX2_needs_74 : decode cX2_needs 74 = .ok (.iconst 0, 1) := dk_3 (dk_at dksX2_needs_3 7 rfl rfl)
theorem dX2_needs_75 : decode cX2_needs 75 = .ok (.istore 5, 2) := dk_54 5 (dk_at dksX2_needs_3 8 rfl rfl)
theorem dX2_needs_77 : decode cX2_needs 77 = .ok (.goto (-61), 3) := dk_167 255 195 (dk_at dksX2_needs_3 10 rfl rfl)
theorem dX2_needs_80 : decode cX2_needs 80 = .ok (.aload_n 2, 1) := dk_44 (dk_at dksX2_needs_3 13 rfl rfl)
theorem dX2_needs_81 : decode cX2_needs 81 = .ok (.areturn, 1) := dk_176 (dk_at dksX2_needs_3 14 rfl rfl)
def dkwX2_rests_2_4 : List UInt8 := [184, 0, 92, 182, 1, 39, 167, 255, 175, 44, 176]
abbrev dktX2_rests_2_4 : List UInt8 := dkwX2_rests_2_4 ++ []
def dkwX2_rests_2_3 : List UInt8 := [25, 4, 180, 1, 26, 161, 0, 9, 132, 5, 1, 167, 255, 224, 44, 21, 5, 25, 4, 180, 1, 26]
abbrev dktX2_rests_2_3 : List UInt8 := dkwX2_rests_2_3 ++ dktX2_rests_2_4
def dkwX2_rests_2_2 : List UInt8 := [54, 5, 21, 5, 44, 182, 0, 88, 162, 0, 29, 44, 21, 5, 182, 0, 110, 192, 0, 93, 182, 0, 117]
abbrev dktX2_rests_2_2 : List UInt8 := dkwX2_rests_2_2 ++ dktX2_rests_2_3
def dkwX2_rests_2_1 : List UInt8 := [153, 0, 78, 45, 185, 0, 52, 1, 0, 192, 0, 76, 58, 4, 25, 4, 180, 1, 25, 27, 160, 0, 55, 3]
abbrev dktX2_rests_2_1 : List UInt8 := dkwX2_rests_2_1 ++ dktX2_rests_2_2
def dkwX2_rests_2_0 : List UInt8 := [187, 0, 9, 89, 183, 0, 11, 77, 42, 180, 0, 31, 182, 0, 42, 78, 45, 185, 0, 46, 1, 0]
abbrev dktX2_rests_2_0 : List UInt8 := dkwX2_rests_2_0 ++ dktX2_rests_2_1
theorem dksX2_rests_2_0 : cX2_rests_2.data.toList.drop 0 = dktX2_rests_2_0 := by decide +kernel
theorem dksX2_rests_2_1 : cX2_rests_2.data.toList.drop 22 = dktX2_rests_2_1 := dk_seg dksX2_rests_2_0 22 rfl rfl
theorem dksX2_rests_2_2 : cX2_rests_2.data.toList.drop 46 = dktX2_rests_2_2 := dk_seg dksX2_rests_2_1 24 rfl rfl
theorem dksX2_rests_2_3 : cX2_rests_2.data.toList.drop 69 = dktX2_rests_2_3 := dk_seg dksX2_rests_2_2 23 rfl rfl
theorem dksX2_rests_2_4 : cX2_rests_2.data.toList.drop 91 = dktX2_rests_2_4 := dk_seg dksX2_rests_2_3 22 rfl rfl
theorem dX2_rests_2_0 : decode cX2_rests_2 0 = .ok (.new 9, 3) := dk_187 0 9 (dk_at dksX2_rests_2_0 0 rfl rfl)
theorem dX2_rests_2_3 : decode cX2_rests_2 3 = .ok (.dup, 1) := dk_89 (dk_at dksX2_rests_2_0 3 rfl rfl)
theorem dX2_rests_2_4 : decode cX2_rests_2 4 = .ok (.invokespecial 11, 3) := dk_183 0 11 (dk_at dksX2_rests_2_0 4 rfl rfl)
theorem dX2_rests_2_7 : decode cX2_rests_2 7 = .ok (.astore_n 2, 1) := dk_77 (dk_at dksX2_rests_2_0 7 rfl rfl)
theorem dX2_rests_2_8 : decode cX2_rests_2 8 = .ok (.aload_n 0, 1) := dk_42 (dk_at dksX2_rests_2_0 8 rfl rfl)
theorem dX2_rests_2_9 : decode cX2_rests_2 9 = .ok (.getfield 31, 3) := dk_180 0 31 (dk_at dksX2_rests_2_0 9 rfl rfl)
theorem dX2_rests_2_12 : decode cX2_rests_2 12 = .ok (.invokevirtual 42, 3) := dk_182 0 42 (dk_at dksX2_rests_2_0 12 rfl rfl)
theorem dX2_rests_2_15 : decode cX2_rests_2 15 = .ok (.astore_n 3, 1) := dk_78 (dk_at dksX2_rests_2_0 15 rfl rfl)
theorem dX2_rests_2_16 : decode cX2_rests_2 16 = .ok (.aload_n 3, 1) := dk_45 (dk_at dksX2_rests_2_0 16 rfl rfl)
theorem dX2_rests_2_17 : decode cX2_rests_2 17 = .ok (.invokeinterface 46 1, 5) := by decide +kernel
theorem dX2_rests_2_22 : decode cX2_rests_2 22 = .ok (.ifCond .eq 78, 3) := dk_153 0 78 (dk_at dksX2_rests_2_1 0 rfl rfl)
theorem dX2_rests_2_25 : decode cX2_rests_2 25 = .ok (.aload_n 3, 1) := dk_45 (dk_at dksX2_rests_2_1 3 rfl rfl)
theorem dX2_rests_2_26 : decode cX2_rests_2 26 = .ok (.invokeinterface 52 1, 5) := by decide +kernel
theorem dX2_rests_2_31 : decode cX2_rests_2 31 = .ok (.checkcast 76, 3) := dk_192 0 76 (dk_at dksX2_rests_2_1 9 rfl rfl)
theorem dX2_rests_2_34 : decode cX2_rests_2 34 = .ok (.astore 4, 2) := dk_58 4 (dk_at dksX2_rests_2_1 12 rfl rfl)
theorem dX2_rests_2_36 : decode cX2_rests_2 36 = .ok (.aload 4, 2) := dk_25 4 (dk_at dksX2_rests_2_1 14 rfl rfl)
theorem dX2_rests_2_38 : decode cX2_rests_2 38 = .ok (.getfield 281, 3) := dk_180 1 25 (dk_at dksX2_rests_2_1 16 rfl rfl)
theorem dX2_rests_2_41 : decode cX2_rests_2 41 = .ok (.iload_n 1, 1) := dk_27 (dk_at dksX2_rests_2_1 19 rfl rfl)
theorem dX2_rests_2_42 : decode cX2_rests_2 42 = .ok (.if_icmp .ne 55, 3) := dk_160 0 55 (dk_at dksX2_rests_2_1 20 rfl rfl)
theorem dX2_rests_2_45 : decode cX2_rests_2 45 = .ok (.iconst 0, 1) := dk_3 (dk_at dksX2_rests_2_1 23 rfl rfl)
theorem dX2_rests_2_46 : decode cX2_rests_2 46 = .ok (.istore 5, 2) := dk_54 5 (dk_at dksX2_rests_2_2 0 rfl rfl)
theorem dX2_rests_2_48 : decode cX2_rests_2 48 = .ok (.iload 5, 2) := dk_21 5 (dk_at dksX2_rests_2_2 2 rfl rfl)
theorem dX2_rests_2_50 : decode cX2_rests_2 50 = .ok (.aload_n 2, 1) := dk_44 (dk_at dksX2_rests_2_2 4 rfl rfl)
theorem dX2_rests_2_51 : decode cX2_rests_2 51 = .ok (.invokevirtual 88, 3) := dk_182 0 88 (dk_at dksX2_rests_2_2 5 rfl rfl)
theorem dX2_rests_2_54 : decode cX2_rests_2 54 = .ok (.if_icmp .ge 29, 3) := dk_162 0 29 (dk_at dksX2_rests_2_2 8 rfl rfl)
theorem dX2_rests_2_57 : decode cX2_rests_2 57 = .ok (.aload_n 2, 1) := dk_44 (dk_at dksX2_rests_2_2 11 rfl rfl)
theorem dX2_rests_2_58 : decode cX2_rests_2 58 = .ok (.iload 5, 2) := dk_21 5 (dk_at dksX2_rests_2_2 12 rfl rfl)
theorem dX2_rests_2_60 : decode cX2_rests_2 60 = .ok (.invokevirtual 110, 3) := dk_182 0 110 (dk_at dksX2_rests_2_2 14 rfl rfl)
theorem dX2_rests_2_63 : decode cX2_rests_2 63 = .ok (.checkcast 93, 3) := dk_192 0 93 (dk_at dksX2_rests_2_2 17 rfl rfl)
theorem dX2_rests_2_66 : decode cX2_rests_2 66 = .ok (.invokevirtual 117, 3) := dk_182 0 117 (dk_at dksX2_rests_2_2 20 rfl rfl)
theorem dX2_rests_2_69 : decode cX2_rests_2 69 = .ok (.aload 4, 2) := dk_25 4 (dk_at dksX2_rests_2_3 0 rfl rfl)
theorem dX2_rests_2_71 : decode cX2_rests_2 71 = .ok (.getfield 282, 3) := dk_180 1 26 (dk_at dksX2_rests_2_3 2 rfl rfl)
theorem dX2_rests_2_74 : decode cX2_rests_2 74 = .ok (.if_icmp .lt 9, 3) := dk_161 0 9 (dk_at dksX2_rests_2_3 5 rfl rfl)
theorem dX2_rests_2_77 : decode cX2_rests_2 77 = .ok (.iinc 5 1, 3) := dk_132 5 1 (dk_at dksX2_rests_2_3 8 rfl rfl)
theorem dX2_rests_2_80 : decode cX2_rests_2 80 = .ok (.goto (-32), 3) := dk_167 255 224 (dk_at dksX2_rests_2_3 11 rfl rfl)
theorem dX2_rests_2_83 : decode cX2_rests_2 83 = .ok (.aload_n 2, 1) := dk_44 (dk_at dksX2_rests_2_3 14 rfl rfl)
theorem dX2_rests_2_84 : decode cX2_rests_2 84 = .ok (.iload 5, 2) := dk_21 5 (dk_at dksX2_rests_2_3 15 rfl rfl)
theorem dX2_rests_2_86 : decode cX2_rests_2 86 = .ok (.aload 4, 2) := dk_25 4 (dk_at dksX2_rests_2_3 17 rfl rfl)
theorem dX2_rests_2_88 : decode cX2_rests_2 88 = .ok (.getfield 282, 3) := dk_180 1 26 (dk_at dksX2_rests_2_3 19 rfl rfl)
theorem dX2_rests_2_91 : decode cX2_rests_2 91 = .ok (.invokestatic 92, 3) := dk_184 0 92 (dk_at dksX2_rests_2_4 0 rfl rfl)
theorem dX2_rests_2_94 : decode cX2_rests_2 94 = .ok (.invokevirtual 295, 3) := dk_182 1 39 (dk_at dksX2_rests_2_4 3 rfl rfl)
theorem dX2_rests_2_97 : decode cX2_rests_2 97 = .ok (.goto (-81), 3) := dk_167 255 175 (dk_at dksX2_rests_2_4 6 rfl rfl)
theorem dX2_rests_2_100 : decode cX2_rests_2 100 = .ok (.aload_n 2, 1) := dk_44 (dk_at dksX2_rests_2_4 9 rfl rfl)
theorem dX2_rests_2_101 : decode cX2_rests_2 101 = .ok (.areturn, 1) := dk_176 (dk_at dksX2_rests_2_4 10 rfl rfl)
def dkwX2_behind_3 : List UInt8 := [27, 96, 172]
abbrev dktX2_behind_3 : List UInt8 := dkwX2_behind_3 ++ []
def dkwX2_behind_2 : List UInt8 := [29, 44, 182, 0, 88, 160, 0, 11, 29, 17, 39, 16, 104, 167, 0, 13, 29, 17, 39, 16, 104, 21, 4, 96]
abbrev dktX2_behind_2 : List UInt8 := dkwX2_behind_2 ++ dktX2_behind_3
def dkwX2_behind_1 : List UInt8 := [96, 44, 29, 182, 0, 110, 192, 0, 93, 182, 0, 117, 164, 0, 12, 132, 3, 1, 3, 54, 4, 167, 255, 224]
abbrev dktX2_behind_1 : List UInt8 := dkwX2_behind_1 ++ dktX2_behind_2
def dkwX2_behind_0 : List UInt8 := [26, 17, 39, 16, 108, 62, 26, 17, 39, 16, 112, 54, 4, 29, 44, 182, 0, 88, 162, 0, 30, 21, 4, 27]
abbrev dktX2_behind_0 : List UInt8 := dkwX2_behind_0 ++ dktX2_behind_1
theorem dksX2_behind_0 : cX2_behind.data.toList.drop 0 = dktX2_behind_0 := by decide +kernel
theorem dksX2_behind_1 : cX2_behind.data.toList.drop 24 = dktX2_behind_1 := dk_seg dksX2_behind_0 24 rfl rfl
theorem dksX2_behind_2 : cX2_behind.data.toList.drop 48 = dktX2_behind_2 := dk_seg dksX2_behind_1 24 rfl rfl
theorem dksX2_behind_3 : cX2_behind.data.toList.drop 72 = dktX2_behind_3 := dk_seg dksX2_behind_2 24 rfl rfl
theorem dX2_behind_0 : decode cX2_behind 0 = .ok (.iload_n 0, 1) := dk_26 (dk_at dksX2_behind_0 0 rfl rfl)
theorem dX2_behind_1 : decode cX2_behind 1 = .ok (.sipush 10000, 3) := dk_17 39 16 (dk_at dksX2_behind_0 1 rfl rfl)
theorem dX2_behind_4 : decode cX2_behind 4 = .ok (.idiv, 1) := dk_108 (dk_at dksX2_behind_0 4 rfl rfl)
theorem dX2_behind_5 : decode cX2_behind 5 = .ok (.istore_n 3, 1) := dk_62 (dk_at dksX2_behind_0 5 rfl rfl)
theorem dX2_behind_6 : decode cX2_behind 6 = .ok (.iload_n 0, 1) := dk_26 (dk_at dksX2_behind_0 6 rfl rfl)
theorem dX2_behind_7 : decode cX2_behind 7 = .ok (.sipush 10000, 3) := dk_17 39 16 (dk_at dksX2_behind_0 7 rfl rfl)
theorem dX2_behind_10 : decode cX2_behind 10 = .ok (.irem, 1) := dk_112 (dk_at dksX2_behind_0 10 rfl rfl)
theorem dX2_behind_11 : decode cX2_behind 11 = .ok (.istore 4, 2) := dk_54 4 (dk_at dksX2_behind_0 11 rfl rfl)
theorem dX2_behind_13 : decode cX2_behind 13 = .ok (.iload_n 3, 1) := dk_29 (dk_at dksX2_behind_0 13 rfl rfl)
theorem dX2_behind_14 : decode cX2_behind 14 = .ok (.aload_n 2, 1) := dk_44 (dk_at dksX2_behind_0 14 rfl rfl)
theorem dX2_behind_15 : decode cX2_behind 15 = .ok (.invokevirtual 88, 3) := dk_182 0 88 (dk_at dksX2_behind_0 15 rfl rfl)
theorem dX2_behind_18 : decode cX2_behind 18 = .ok (.if_icmp .ge 30, 3) := dk_162 0 30 (dk_at dksX2_behind_0 18 rfl rfl)
theorem dX2_behind_21 : decode cX2_behind 21 = .ok (.iload 4, 2) := dk_21 4 (dk_at dksX2_behind_0 21 rfl rfl)
theorem dX2_behind_23 : decode cX2_behind 23 = .ok (.iload_n 1, 1) := dk_27 (dk_at dksX2_behind_0 23 rfl rfl)
theorem dX2_behind_24 : decode cX2_behind 24 = .ok (.iadd, 1) := dk_96 (dk_at dksX2_behind_1 0 rfl rfl)
theorem dX2_behind_25 : decode cX2_behind 25 = .ok (.aload_n 2, 1) := dk_44 (dk_at dksX2_behind_1 1 rfl rfl)
theorem dX2_behind_26 : decode cX2_behind 26 = .ok (.iload_n 3, 1) := dk_29 (dk_at dksX2_behind_1 2 rfl rfl)
theorem dX2_behind_27 : decode cX2_behind 27 = .ok (.invokevirtual 110, 3) := dk_182 0 110 (dk_at dksX2_behind_1 3 rfl rfl)
theorem dX2_behind_30 : decode cX2_behind 30 = .ok (.checkcast 93, 3) := dk_192 0 93 (dk_at dksX2_behind_1 6 rfl rfl)
theorem dX2_behind_33 : decode cX2_behind 33 = .ok (.invokevirtual 117, 3) := dk_182 0 117 (dk_at dksX2_behind_1 9 rfl rfl)
theorem dX2_behind_36 : decode cX2_behind 36 = .ok (.if_icmp .le 12, 3) := dk_164 0 12 (dk_at dksX2_behind_1 12 rfl rfl)
theorem dX2_behind_39 : decode cX2_behind 39 = .ok (.iinc 3 1, 3) := dk_132 3 1 (dk_at dksX2_behind_1 15 rfl rfl)
theorem dX2_behind_42 : decode cX2_behind 42 = .ok (.iconst 0, 1) := dk_3 (dk_at dksX2_behind_1 18 rfl rfl)
theorem dX2_behind_43 : decode cX2_behind 43 = .ok (.istore 4, 2) := dk_54 4 (dk_at dksX2_behind_1 19 rfl rfl)
theorem dX2_behind_45 : decode cX2_behind 45 = .ok (.goto (-32), 3) := dk_167 255 224 (dk_at dksX2_behind_1 21 rfl rfl)
theorem dX2_behind_48 : decode cX2_behind 48 = .ok (.iload_n 3, 1) := dk_29 (dk_at dksX2_behind_2 0 rfl rfl)
theorem dX2_behind_49 : decode cX2_behind 49 = .ok (.aload_n 2, 1) := dk_44 (dk_at dksX2_behind_2 1 rfl rfl)
theorem dX2_behind_50 : decode cX2_behind 50 = .ok (.invokevirtual 88, 3) := dk_182 0 88 (dk_at dksX2_behind_2 2 rfl rfl)
theorem dX2_behind_53 : decode cX2_behind 53 = .ok (.if_icmp .ne 11, 3) := dk_160 0 11 (dk_at dksX2_behind_2 5 rfl rfl)
theorem dX2_behind_56 : decode cX2_behind 56 = .ok (.iload_n 3, 1) := dk_29 (dk_at dksX2_behind_2 8 rfl rfl)
theorem dX2_behind_57 : decode cX2_behind 57 = .ok (.sipush 10000, 3) := dk_17 39 16 (dk_at dksX2_behind_2 9 rfl rfl)
theorem dX2_behind_60 : decode cX2_behind 60 = .ok (.imul, 1) := dk_104 (dk_at dksX2_behind_2 12 rfl rfl)
theorem dX2_behind_61 : decode cX2_behind 61 = .ok (.goto 13, 3) := dk_167 0 13 (dk_at dksX2_behind_2 13 rfl rfl)
theorem dX2_behind_64 : decode cX2_behind 64 = .ok (.iload_n 3, 1) := dk_29 (dk_at dksX2_behind_2 16 rfl rfl)
theorem dX2_behind_65 : decode cX2_behind 65 = .ok (.sipush 10000, 3) := dk_17 39 16 (dk_at dksX2_behind_2 17 rfl rfl)
theorem dX2_behind_68 : decode cX2_behind 68 = .ok (.imul, 1) := dk_104 (dk_at dksX2_behind_2 20 rfl rfl)
theorem dX2_behind_69 : decode cX2_behind 69 = .ok (.iload 4, 2) := dk_21 4 (dk_at dksX2_behind_2 21 rfl rfl)
theorem dX2_behind_71 : decode cX2_behind 71 = .ok (.iadd, 1) := dk_96 (dk_at dksX2_behind_2 23 rfl rfl)
theorem dX2_behind_72 : decode cX2_behind 72 = .ok (.iload_n 1, 1) := dk_27 (dk_at dksX2_behind_3 0 rfl rfl)
theorem dX2_behind_73 : decode cX2_behind 73 = .ok (.iadd, 1) := dk_96 (dk_at dksX2_behind_3 1 rfl rfl)
theorem dX2_behind_74 : decode cX2_behind 74 = .ok (.ireturn, 1) := dk_172 (dk_at dksX2_behind_3 2 rfl rfl)
def dkwX2_addType_3 : List UInt8 := [183, 0, 134, 182, 0, 58, 177]
abbrev dktX2_addType_3 : List UInt8 := dkwX2_addType_3 ++ []
def dkwX2_addType_2 : List UInt8 := [182, 0, 127, 2, 160, 0, 7, 4, 167, 0, 4, 3, 184, 0, 131, 42, 187, 0, 56, 89, 43, 28, 29]
abbrev dktX2_addType_2 : List UInt8 := dkwX2_addType_2 ++ dktX2_addType_3
def dkwX2_addType_1 : List UInt8 := [4, 167, 0, 4, 3, 184, 0, 124, 42, 180, 0, 12, 182, 0, 88, 16, 6, 162, 0, 16, 42, 43]
abbrev dktX2_addType_1 : List UInt8 := dkwX2_addType_1 ++ dktX2_addType_2
def dkwX2_addType_0 : List UInt8 := [28, 133, 9, 20, 0, 120, 184, 0, 102, 153, 0, 19, 29, 133, 10, 20, 0, 122, 184, 0, 102, 153, 0, 7]
abbrev dktX2_addType_0 : List UInt8 := dkwX2_addType_0 ++ dktX2_addType_1
theorem dksX2_addType_0 : cX2_addType.data.toList.drop 0 = dktX2_addType_0 := by decide +kernel
theorem dksX2_addType_1 : cX2_addType.data.toList.drop 24 = dktX2_addType_1 := dk_seg dksX2_addType_0 24 rfl rfl
theorem dksX2_addType_2 : cX2_addType.data.toList.drop 46 = dktX2_addType_2 := dk_seg dksX2_addType_1 22 rfl rfl
theorem dksX2_addType_3 : cX2_addType.data.toList.drop 69 = dktX2_addType_3 := dk_seg dksX2_addType_2 23 rfl rfl
theorem dX2_addType_0 : decode cX2_addType 0 = .ok (.iload_n 2, 1) := dk_28 (dk_at dksX2_addType_0 0 rfl rfl)
theorem dX2_addType_1 : decode cX2_addType 1 = .ok (.i2l, 1) := dk_133 (dk_at dksX2_addType_0 1 rfl rfl)
theorem dX2_addType_2 : decode cX2_addType 2 = .ok (.lconst 0, 1) := dk_9 (dk_at dksX2_addType_0 2 rfl rfl)
theorem dX2_addType_3 : decode cX2_addType 3 = .ok (.ldc2_w 120, 3) := dk_20 0 120 (dk_at dksX2_addType_0 3 rfl rfl)
theorem dX2_addType_6 : decode cX2_addType 6 = .ok (.invokestatic 102, 3) := dk_184 0 102 (dk_at dksX2_addType_0 6 rfl rfl)
theorem dX2_addType_9 : decode cX2_addType 9 = .ok (.ifCond .eq 19, 3) := dk_153 0 19 (dk_at dksX2_addType_0 9 rfl rfl)
theorem dX2_addType_12 : decode cX2_addType 12 = .ok (.iload_n 3, 1) := dk_29 (dk_at dksX2_addType_0 12 rfl rfl)
theorem dX2_addType_13 : decode cX2_addType 13 = .ok (.i2l, 1) := dk_133 (dk_at dksX2_addType_0 13 rfl rfl)
theorem dX2_addType_14 : decode cX2_addType 14 = .ok (.lconst 1, 1) := dk_10 (dk_at dksX2_addType_0 14 rfl rfl)
theorem dX2_addType_15 : decode cX2_addType 15 = .ok (.ldc2_w 122, 3) := dk_20 0 122 (dk_at dksX2_addType_0 15 rfl rfl)
theorem dX2_addType_18 : decode cX2_addType 18 = .ok (.invokestatic 102, 3) := dk_184 0 102 (dk_at dksX2_addType_0 18 rfl rfl)
theorem dX2_addType_21 : decode cX2_addType 21 = .ok (.ifCond .eq 7, 3) := dk_153 0 7 (dk_at dksX2_addType_0 21 rfl rfl)
theorem dX2_addType_24 : decode cX2_addType 24 = .ok (.iconst 1, 1) := dk_4 (dk_at dksX2_addType_1 0 rfl rfl)
theorem dX2_addType_25 : decode cX2_addType 25 = .ok (.goto 4, 3) := dk_167 0 4 (dk_at dksX2_addType_1 1 rfl rfl)
theorem dX2_addType_28 : decode cX2_addType 28 = .ok (.iconst 0, 1) := dk_3 (dk_at dksX2_addType_1 4 rfl rfl)
theorem dX2_addType_29 : decode cX2_addType 29 = .ok (.invokestatic 124, 3) := dk_184 0 124 (dk_at dksX2_addType_1 5 rfl rfl)
theorem dX2_addType_32 : decode cX2_addType 32 = .ok (.aload_n 0, 1) := dk_42 (dk_at dksX2_addType_1 8 rfl rfl)
theorem dX2_addType_33 : decode cX2_addType 33 = .ok (.getfield 12, 3) := dk_180 0 12 (dk_at dksX2_addType_1 9 rfl rfl)
theorem dX2_addType_36 : decode cX2_addType 36 = .ok (.invokevirtual 88, 3) := dk_182 0 88 (dk_at dksX2_addType_1 12 rfl rfl)
theorem dX2_addType_39 : decode cX2_addType 39 = .ok (.bipush 6, 2) := dk_16 6 (dk_at dksX2_addType_1 15 rfl rfl)
theorem dX2_addType_41 : decode cX2_addType 41 = .ok (.if_icmp .ge 16, 3) := dk_162 0 16 (dk_at dksX2_addType_1 17 rfl rfl)
theorem dX2_addType_44 : decode cX2_addType 44 = .ok (.aload_n 0, 1) := dk_42 (dk_at dksX2_addType_1 20 rfl rfl)
theorem dX2_addType_45 : decode cX2_addType 45 = .ok (.aload_n 1, 1) := dk_43 (dk_at dksX2_addType_1 21 rfl rfl)
theorem dX2_addType_46 : decode cX2_addType 46 = .ok (.invokevirtual 127, 3) := dk_182 0 127 (dk_at dksX2_addType_2 0 rfl rfl)
theorem dX2_addType_49 : decode cX2_addType 49 = .ok (.iconst (-1), 1) := dk_2 (dk_at dksX2_addType_2 3 rfl rfl)
theorem dX2_addType_50 : decode cX2_addType 50 = .ok (.if_icmp .ne 7, 3) := dk_160 0 7 (dk_at dksX2_addType_2 4 rfl rfl)
theorem dX2_addType_53 : decode cX2_addType 53 = .ok (.iconst 1, 1) := dk_4 (dk_at dksX2_addType_2 7 rfl rfl)
theorem dX2_addType_54 : decode cX2_addType 54 = .ok (.goto 4, 3) := dk_167 0 4 (dk_at dksX2_addType_2 8 rfl rfl)
theorem dX2_addType_57 : decode cX2_addType 57 = .ok (.iconst 0, 1) := dk_3 (dk_at dksX2_addType_2 11 rfl rfl)
theorem dX2_addType_58 : decode cX2_addType 58 = .ok (.invokestatic 131, 3) := dk_184 0 131 (dk_at dksX2_addType_2 12 rfl rfl)
theorem dX2_addType_61 : decode cX2_addType 61 = .ok (.aload_n 0, 1) := dk_42 (dk_at dksX2_addType_2 15 rfl rfl)
theorem dX2_addType_62 : decode cX2_addType 62 = .ok (.new 56, 3) := dk_187 0 56 (dk_at dksX2_addType_2 16 rfl rfl)
theorem dX2_addType_65 : decode cX2_addType 65 = .ok (.dup, 1) := dk_89 (dk_at dksX2_addType_2 19 rfl rfl)
theorem dX2_addType_66 : decode cX2_addType 66 = .ok (.aload_n 1, 1) := dk_43 (dk_at dksX2_addType_2 20 rfl rfl)
theorem dX2_addType_67 : decode cX2_addType 67 = .ok (.iload_n 2, 1) := dk_28 (dk_at dksX2_addType_2 21 rfl rfl)
theorem dX2_addType_68 : decode cX2_addType 68 = .ok (.iload_n 3, 1) := dk_29 (dk_at dksX2_addType_2 22 rfl rfl)
theorem dX2_addType_69 : decode cX2_addType 69 = .ok (.invokespecial 134, 3) := dk_183 0 134 (dk_at dksX2_addType_3 0 rfl rfl)
theorem dX2_addType_72 : decode cX2_addType 72 = .ok (.invokevirtual 58, 3) := dk_182 0 58 (dk_at dksX2_addType_3 3 rfl rfl)
theorem dX2_addType_75 : decode cX2_addType 75 = .ok (.return_, 1) := dk_177 (dk_at dksX2_addType_3 6 rfl rfl)
def dkwX4_otherEnd_1 : List UInt8 := [180, 0, 9, 167, 0, 4, 2, 172]
abbrev dktX4_otherEnd_1 : List UInt8 := dkwX4_otherEnd_1 ++ []
def dkwX4_otherEnd_0 : List UInt8 := [27, 42, 180, 0, 9, 160, 0, 10, 42, 180, 0, 15, 167, 0, 19, 27, 42, 180, 0, 15, 160, 0, 10, 42]
abbrev dktX4_otherEnd_0 : List UInt8 := dkwX4_otherEnd_0 ++ dktX4_otherEnd_1
theorem dksX4_otherEnd_0 : cX4_otherEnd.data.toList.drop 0 = dktX4_otherEnd_0 := by decide +kernel
theorem dksX4_otherEnd_1 : cX4_otherEnd.data.toList.drop 24 = dktX4_otherEnd_1 := dk_seg dksX4_otherEnd_0 24 rfl rfl
theorem dX4_otherEnd_0 : decode cX4_otherEnd 0 = .ok (.iload_n 1, 1) := dk_27 (dk_at dksX4_otherEnd_0 0 rfl rfl)
theorem dX4_otherEnd_1 : decode cX4_otherEnd 1 = .ok (.aload_n 0, 1) := dk_42 (dk_at dksX4_otherEnd_0 1 rfl rfl)
theorem dX4_otherEnd_2 : decode cX4_otherEnd 2 = .ok (.getfield 9, 3) := dk_180 0 9 (dk_at dksX4_otherEnd_0 2 rfl rfl)
theorem dX4_otherEnd_5 : decode cX4_otherEnd 5 = .ok (.if_icmp .ne 10, 3) := dk_160 0 10 (dk_at dksX4_otherEnd_0 5 rfl rfl)
theorem dX4_otherEnd_8 : decode cX4_otherEnd 8 = .ok (.aload_n 0, 1) := dk_42 (dk_at dksX4_otherEnd_0 8 rfl rfl)
theorem dX4_otherEnd_9 : decode cX4_otherEnd 9 = .ok (.getfield 15, 3) := dk_180 0 15 (dk_at dksX4_otherEnd_0 9 rfl rfl)
theorem dX4_otherEnd_12 : decode cX4_otherEnd 12 = .ok (.goto 19, 3) := dk_167 0 19 (dk_at dksX4_otherEnd_0 12 rfl rfl)
theorem dX4_otherEnd_15 : decode cX4_otherEnd 15 = .ok (.iload_n 1, 1) := dk_27 (dk_at dksX4_otherEnd_0 15 rfl rfl)
theorem dX4_otherEnd_16 : decode cX4_otherEnd 16 = .ok (.aload_n 0, 1) := dk_42 (dk_at dksX4_otherEnd_0 16 rfl rfl)
theorem dX4_otherEnd_17 : decode cX4_otherEnd 17 = .ok (.getfield 15, 3) := dk_180 0 15 (dk_at dksX4_otherEnd_0 17 rfl rfl)
theorem dX4_otherEnd_20 : decode cX4_otherEnd 20 = .ok (.if_icmp .ne 10, 3) := dk_160 0 10 (dk_at dksX4_otherEnd_0 20 rfl rfl)
theorem dX4_otherEnd_23 : decode cX4_otherEnd 23 = .ok (.aload_n 0, 1) := dk_42 (dk_at dksX4_otherEnd_0 23 rfl rfl)
theorem dX4_otherEnd_24 : decode cX4_otherEnd 24 = .ok (.getfield 9, 3) := dk_180 0 9 (dk_at dksX4_otherEnd_1 0 rfl rfl)
theorem dX4_otherEnd_27 : decode cX4_otherEnd 27 = .ok (.goto 4, 3) := dk_167 0 4 (dk_at dksX4_otherEnd_1 3 rfl rfl)
theorem dX4_otherEnd_30 : decode cX4_otherEnd 30 = .ok (.iconst (-1), 1) := dk_2 (dk_at dksX4_otherEnd_1 6 rfl rfl)
theorem dX4_otherEnd_31 : decode cX4_otherEnd 31 = .ok (.ireturn, 1) := dk_172 (dk_at dksX4_otherEnd_1 7 rfl rfl)
def dkwX4_copy_3 : List UInt8 := [180, 0, 31, 3, 42, 180, 0, 24, 190, 184, 0, 37, 43, 176]
abbrev dktX4_copy_3 : List UInt8 := dkwX4_copy_3 ++ []
def dkwX4_copy_2 : List UInt8 := [180, 0, 28, 3, 43, 180, 0, 28, 3, 42, 180, 0, 24, 190, 184, 0, 37, 42, 180, 0, 31, 3, 43]
abbrev dktX4_copy_2 : List UInt8 := dkwX4_copy_2 ++ dktX4_copy_3
def dkwX4_copy_1 : List UInt8 := [190, 183, 0, 34, 76, 42, 180, 0, 24, 3, 43, 180, 0, 24, 3, 42, 180, 0, 24, 190, 184, 0, 37, 42]
abbrev dktX4_copy_1 : List UInt8 := dkwX4_copy_1 ++ dktX4_copy_2
def dkwX4_copy_0 : List UInt8 := [187, 0, 10, 89, 42, 180, 0, 9, 42, 180, 0, 15, 42, 180, 0, 18, 42, 180, 0, 21, 42, 180, 0, 24]
abbrev dktX4_copy_0 : List UInt8 := dkwX4_copy_0 ++ dktX4_copy_1
theorem dksX4_copy_0 : cX4_copy.data.toList.drop 0 = dktX4_copy_0 := by decide +kernel
theorem dksX4_copy_1 : cX4_copy.data.toList.drop 24 = dktX4_copy_1 := dk_seg dksX4_copy_0 24 rfl rfl
theorem dksX4_copy_2 : cX4_copy.data.toList.drop 48 = dktX4_copy_2 := dk_seg dksX4_copy_1 24 rfl rfl
theorem dksX4_copy_3 : cX4_copy.data.toList.drop 71 = dktX4_copy_3 := dk_seg dksX4_copy_2 23 rfl rfl
theorem dX4_copy_0 : decode cX4_copy 0 = .ok (.new 10, 3) := dk_187 0 10 (dk_at dksX4_copy_0 0 rfl rfl)
theorem dX4_copy_3 : decode cX4_copy 3 = .ok (.dup, 1) := dk_89 (dk_at dksX4_copy_0 3 rfl rfl)
theorem dX4_copy_4 : decode cX4_copy 4 = .ok (.aload_n 0, 1) := dk_42 (dk_at dksX4_copy_0 4 rfl rfl)
theorem dX4_copy_5 : decode cX4_copy 5 = .ok (.getfield 9, 3) := dk_180 0 9 (dk_at dksX4_copy_0 5 rfl rfl)
theorem dX4_copy_8 : decode cX4_copy 8 = .ok (.aload_n 0, 1) := dk_42 (dk_at dksX4_copy_0 8 rfl rfl)
theorem dX4_copy_9 : decode cX4_copy 9 = .ok (.getfield 15, 3) := dk_180 0 15 (dk_at dksX4_copy_0 9 rfl rfl)
theorem dX4_copy_12 : decode cX4_copy 12 = .ok (.aload_n 0, 1) := dk_42 (dk_at dksX4_copy_0 12 rfl rfl)
theorem dX4_copy_13 : decode cX4_copy 13 = .ok (.getfield 18, 3) := dk_180 0 18 (dk_at dksX4_copy_0 13 rfl rfl)
theorem dX4_copy_16 : decode cX4_copy 16 = .ok (.aload_n 0, 1) := dk_42 (dk_at dksX4_copy_0 16 rfl rfl)
theorem dX4_copy_17 : decode cX4_copy 17 = .ok (.getfield 21, 3) := dk_180 0 21 (dk_at dksX4_copy_0 17 rfl rfl)
theorem dX4_copy_20 : decode cX4_copy 20 = .ok (.aload_n 0, 1) := dk_42 (dk_at dksX4_copy_0 20 rfl rfl)
theorem dX4_copy_21 : decode cX4_copy 21 = .ok (.getfield 24, 3) := dk_180 0 24 (dk_at dksX4_copy_0 21 rfl rfl)
theorem dX4_copy_24 : decode cX4_copy 24 = .ok (.arraylength, 1) := dk_190 (dk_at dksX4_copy_1 0 rfl rfl)
theorem dX4_copy_25 : decode cX4_copy 25 = .ok (.invokespecial 34, 3) := dk_183 0 34 (dk_at dksX4_copy_1 1 rfl rfl)
theorem dX4_copy_28 : decode cX4_copy 28 = .ok (.astore_n 1, 1) := dk_76 (dk_at dksX4_copy_1 4 rfl rfl)
theorem dX4_copy_29 : decode cX4_copy 29 = .ok (.aload_n 0, 1) := dk_42 (dk_at dksX4_copy_1 5 rfl rfl)
theorem dX4_copy_30 : decode cX4_copy 30 = .ok (.getfield 24, 3) := dk_180 0 24 (dk_at dksX4_copy_1 6 rfl rfl)
theorem dX4_copy_33 : decode cX4_copy 33 = .ok (.iconst 0, 1) := dk_3 (dk_at dksX4_copy_1 9 rfl rfl)
theorem dX4_copy_34 : decode cX4_copy 34 = .ok (.aload_n 1, 1) := dk_43 (dk_at dksX4_copy_1 10 rfl rfl)
theorem dX4_copy_35 : decode cX4_copy 35 = .ok (.getfield 24, 3) := dk_180 0 24 (dk_at dksX4_copy_1 11 rfl rfl)
theorem dX4_copy_38 : decode cX4_copy 38 = .ok (.iconst 0, 1) := dk_3 (dk_at dksX4_copy_1 14 rfl rfl)
theorem dX4_copy_39 : decode cX4_copy 39 = .ok (.aload_n 0, 1) := dk_42 (dk_at dksX4_copy_1 15 rfl rfl)
theorem dX4_copy_40 : decode cX4_copy 40 = .ok (.getfield 24, 3) := dk_180 0 24 (dk_at dksX4_copy_1 16 rfl rfl)
theorem dX4_copy_43 : decode cX4_copy 43 = .ok (.arraylength, 1) := dk_190 (dk_at dksX4_copy_1 19 rfl rfl)
theorem dX4_copy_44 : decode cX4_copy 44 = .ok (.invokestatic 37, 3) := dk_184 0 37 (dk_at dksX4_copy_1 20 rfl rfl)
theorem dX4_copy_47 : decode cX4_copy 47 = .ok (.aload_n 0, 1) := dk_42 (dk_at dksX4_copy_1 23 rfl rfl)
theorem dX4_copy_48 : decode cX4_copy 48 = .ok (.getfield 28, 3) := dk_180 0 28 (dk_at dksX4_copy_2 0 rfl rfl)
theorem dX4_copy_51 : decode cX4_copy 51 = .ok (.iconst 0, 1) := dk_3 (dk_at dksX4_copy_2 3 rfl rfl)
theorem dX4_copy_52 : decode cX4_copy 52 = .ok (.aload_n 1, 1) := dk_43 (dk_at dksX4_copy_2 4 rfl rfl)
theorem dX4_copy_53 : decode cX4_copy 53 = .ok (.getfield 28, 3) := dk_180 0 28 (dk_at dksX4_copy_2 5 rfl rfl)
theorem dX4_copy_56 : decode cX4_copy 56 = .ok (.iconst 0, 1) := dk_3 (dk_at dksX4_copy_2 8 rfl rfl)
theorem dX4_copy_57 : decode cX4_copy 57 = .ok (.aload_n 0, 1) := dk_42 (dk_at dksX4_copy_2 9 rfl rfl)
theorem dX4_copy_58 : decode cX4_copy 58 = .ok (.getfield 24, 3) := dk_180 0 24 (dk_at dksX4_copy_2 10 rfl rfl)
theorem dX4_copy_61 : decode cX4_copy 61 = .ok (.arraylength, 1) := dk_190 (dk_at dksX4_copy_2 13 rfl rfl)
theorem dX4_copy_62 : decode cX4_copy 62 = .ok (.invokestatic 37, 3) := dk_184 0 37 (dk_at dksX4_copy_2 14 rfl rfl)
theorem dX4_copy_65 : decode cX4_copy 65 = .ok (.aload_n 0, 1) := dk_42 (dk_at dksX4_copy_2 17 rfl rfl)
theorem dX4_copy_66 : decode cX4_copy 66 = .ok (.getfield 31, 3) := dk_180 0 31 (dk_at dksX4_copy_2 18 rfl rfl)
theorem dX4_copy_69 : decode cX4_copy 69 = .ok (.iconst 0, 1) := dk_3 (dk_at dksX4_copy_2 21 rfl rfl)
theorem dX4_copy_70 : decode cX4_copy 70 = .ok (.aload_n 1, 1) := dk_43 (dk_at dksX4_copy_2 22 rfl rfl)
theorem dX4_copy_71 : decode cX4_copy 71 = .ok (.getfield 31, 3) := dk_180 0 31 (dk_at dksX4_copy_3 0 rfl rfl)
theorem dX4_copy_74 : decode cX4_copy 74 = .ok (.iconst 0, 1) := dk_3 (dk_at dksX4_copy_3 3 rfl rfl)
theorem dX4_copy_75 : decode cX4_copy 75 = .ok (.aload_n 0, 1) := dk_42 (dk_at dksX4_copy_3 4 rfl rfl)
theorem dX4_copy_76 : decode cX4_copy 76 = .ok (.getfield 24, 3) := dk_180 0 24 (dk_at dksX4_copy_3 5 rfl rfl)
theorem dX4_copy_79 : decode cX4_copy 79 = .ok (.arraylength, 1) := dk_190 (dk_at dksX4_copy_3 8 rfl rfl)
theorem dX4_copy_80 : decode cX4_copy 80 = .ok (.invokestatic 37, 3) := dk_184 0 37 (dk_at dksX4_copy_3 9 rfl rfl)
theorem dX4_copy_83 : decode cX4_copy 83 = .ok (.aload_n 1, 1) := dk_43 (dk_at dksX4_copy_3 12 rfl rfl)
theorem dX4_copy_84 : decode cX4_copy 84 = .ok (.areturn, 1) := dk_176 (dk_at dksX4_copy_3 13 rfl rfl)
def dkwX4_init_3 : List UInt8 := [167, 255, 238, 177]
abbrev dktX4_init_3 : List UInt8 := dkwX4_init_3 ++ []
def dkwX4_init_2 : List UInt8 := [181, 0, 31, 3, 54, 6, 21, 6, 21, 5, 162, 0, 17, 42, 180, 0, 24, 21, 6, 2, 79, 132, 6, 1]
abbrev dktX4_init_2 : List UInt8 := dkwX4_init_2 ++ dktX4_init_3
def dkwX4_init_1 : List UInt8 := [181, 0, 21, 42, 21, 5, 188, 10, 181, 0, 24, 42, 21, 5, 188, 10, 181, 0, 28, 42, 21, 5, 188, 10]
abbrev dktX4_init_1 : List UInt8 := dkwX4_init_1 ++ dktX4_init_2
def dkwX4_init_0 : List UInt8 := [42, 183, 0, 3, 42, 27, 181, 0, 9, 42, 28, 181, 0, 15, 42, 29, 181, 0, 18, 42, 21, 4]
abbrev dktX4_init_0 : List UInt8 := dkwX4_init_0 ++ dktX4_init_1
theorem dksX4_init_0 : cX4_init.data.toList.drop 0 = dktX4_init_0 := by decide +kernel
theorem dksX4_init_1 : cX4_init.data.toList.drop 22 = dktX4_init_1 := dk_seg dksX4_init_0 22 rfl rfl
theorem dksX4_init_2 : cX4_init.data.toList.drop 46 = dktX4_init_2 := dk_seg dksX4_init_1 24 rfl rfl
theorem dksX4_init_3 : cX4_init.data.toList.drop 70 = dktX4_init_3 := dk_seg dksX4_init_2 24 rfl rfl
theorem dX4_init_0 : decode cX4_init 0 = .ok (.aload_n 0, 1) := dk_42 (dk_at dksX4_init_0 0 rfl rfl)
theorem dX4_init_1 : decode cX4_init 1 = .ok (.invokespecial 3, 3) := dk_183 0 3 (dk_at dksX4_init_0 1 rfl rfl)
theorem dX4_init_4 : decode cX4_init 4 = .ok (.aload_n 0, 1) := dk_42 (dk_at dksX4_init_0 4 rfl rfl)
theorem dX4_init_5 : decode cX4_init 5 = .ok (.iload_n 1, 1) := dk_27 (dk_at dksX4_init_0 5 rfl rfl)
theorem dX4_init_6 : decode cX4_init 6 = .ok (.putfield 9, 3) := dk_181 0 9 (dk_at dksX4_init_0 6 rfl rfl)
theorem dX4_init_9 : decode cX4_init 9 = .ok (.aload_n 0, 1) := dk_42 (dk_at dksX4_init_0 9 rfl rfl)
theorem dX4_init_10 : decode cX4_init 10 = .ok (.iload_n 2, 1) := dk_28 (dk_at dksX4_init_0 10 rfl rfl)
theorem dX4_init_11 : decode cX4_init 11 = .ok (.putfield 15, 3) := dk_181 0 15 (dk_at dksX4_init_0 11 rfl rfl)
theorem dX4_init_14 : decode cX4_init 14 = .ok (.aload_n 0, 1) := dk_42 (dk_at dksX4_init_0 14 rfl rfl)
theorem dX4_init_15 : decode cX4_init 15 = .ok (.iload_n 3, 1) := dk_29 (dk_at dksX4_init_0 15 rfl rfl)
theorem dX4_init_16 : decode cX4_init 16 = .ok (.putfield 18, 3) := dk_181 0 18 (dk_at dksX4_init_0 16 rfl rfl)
theorem dX4_init_19 : decode cX4_init 19 = .ok (.aload_n 0, 1) := dk_42 (dk_at dksX4_init_0 19 rfl rfl)
theorem dX4_init_20 : decode cX4_init 20 = .ok (.iload 4, 2) := dk_21 4 (dk_at dksX4_init_0 20 rfl rfl)
theorem dX4_init_22 : decode cX4_init 22 = .ok (.putfield 21, 3) := dk_181 0 21 (dk_at dksX4_init_1 0 rfl rfl)
theorem dX4_init_25 : decode cX4_init 25 = .ok (.aload_n 0, 1) := dk_42 (dk_at dksX4_init_1 3 rfl rfl)
theorem dX4_init_26 : decode cX4_init 26 = .ok (.iload 5, 2) := dk_21 5 (dk_at dksX4_init_1 4 rfl rfl)
theorem dX4_init_28 : decode cX4_init 28 = .ok (.newarray .int, 2) := dk_188_10 (dk_at dksX4_init_1 6 rfl rfl)
theorem dX4_init_30 : decode cX4_init 30 = .ok (.putfield 24, 3) := dk_181 0 24 (dk_at dksX4_init_1 8 rfl rfl)
theorem dX4_init_33 : decode cX4_init 33 = .ok (.aload_n 0, 1) := dk_42 (dk_at dksX4_init_1 11 rfl rfl)
theorem dX4_init_34 : decode cX4_init 34 = .ok (.iload 5, 2) := dk_21 5 (dk_at dksX4_init_1 12 rfl rfl)
theorem dX4_init_36 : decode cX4_init 36 = .ok (.newarray .int, 2) := dk_188_10 (dk_at dksX4_init_1 14 rfl rfl)
theorem dX4_init_38 : decode cX4_init 38 = .ok (.putfield 28, 3) := dk_181 0 28 (dk_at dksX4_init_1 16 rfl rfl)
theorem dX4_init_41 : decode cX4_init 41 = .ok (.aload_n 0, 1) := dk_42 (dk_at dksX4_init_1 19 rfl rfl)
theorem dX4_init_42 : decode cX4_init 42 = .ok (.iload 5, 2) := dk_21 5 (dk_at dksX4_init_1 20 rfl rfl)
theorem dX4_init_44 : decode cX4_init 44 = .ok (.newarray .int, 2) := dk_188_10 (dk_at dksX4_init_1 22 rfl rfl)
theorem dX4_init_46 : decode cX4_init 46 = .ok (.putfield 31, 3) := dk_181 0 31 (dk_at dksX4_init_2 0 rfl rfl)
theorem dX4_init_49 : decode cX4_init 49 = .ok (.iconst 0, 1) := dk_3 (dk_at dksX4_init_2 3 rfl rfl)
theorem dX4_init_50 : decode cX4_init 50 = .ok (.istore 6, 2) := dk_54 6 (dk_at dksX4_init_2 4 rfl rfl)
theorem dX4_init_52 : decode cX4_init 52 = .ok (.iload 6, 2) := dk_21 6 (dk_at dksX4_init_2 6 rfl rfl)
theorem dX4_init_54 : decode cX4_init 54 = .ok (.iload 5, 2) := dk_21 5 (dk_at dksX4_init_2 8 rfl rfl)
theorem dX4_init_56 : decode cX4_init 56 = .ok (.if_icmp .ge 17, 3) := dk_162 0 17 (dk_at dksX4_init_2 10 rfl rfl)
theorem dX4_init_59 : decode cX4_init 59 = .ok (.aload_n 0, 1) := dk_42 (dk_at dksX4_init_2 13 rfl rfl)
theorem dX4_init_60 : decode cX4_init 60 = .ok (.getfield 24, 3) := dk_180 0 24 (dk_at dksX4_init_2 14 rfl rfl)
theorem dX4_init_63 : decode cX4_init 63 = .ok (.iload 6, 2) := dk_21 6 (dk_at dksX4_init_2 17 rfl rfl)
theorem dX4_init_65 : decode cX4_init 65 = .ok (.iconst (-1), 1) := dk_2 (dk_at dksX4_init_2 19 rfl rfl)
theorem dX4_init_66 : decode cX4_init 66 = .ok (.iastore, 1) := dk_79 (dk_at dksX4_init_2 20 rfl rfl)
theorem dX4_init_67 : decode cX4_init 67 = .ok (.iinc 6 1, 3) := dk_132 6 1 (dk_at dksX4_init_2 21 rfl rfl)
theorem dX4_init_70 : decode cX4_init 70 = .ok (.goto (-18), 3) := dk_167 255 238 (dk_at dksX4_init_3 0 rfl rfl)
theorem dX4_init_73 : decode cX4_init 73 = .ok (.return_, 1) := dk_177 (dk_at dksX4_init_3 3 rfl rfl)
def dkwX4_count_1 : List UInt8 := [54, 5, 27, 21, 5, 96, 60, 132, 4, 1, 167, 255, 236, 27, 172]
abbrev dktX4_count_1 : List UInt8 := dkwX4_count_1 ++ []
def dkwX4_count_0 : List UInt8 := [3, 60, 42, 180, 0, 31, 77, 44, 190, 62, 3, 54, 4, 21, 4, 29, 162, 0, 20, 44, 21, 4, 46]
abbrev dktX4_count_0 : List UInt8 := dkwX4_count_0 ++ dktX4_count_1
theorem dksX4_count_0 : cX4_count.data.toList.drop 0 = dktX4_count_0 := by decide +kernel
theorem dksX4_count_1 : cX4_count.data.toList.drop 23 = dktX4_count_1 := dk_seg dksX4_count_0 23 rfl rfl
theorem dX4_count_0 : decode cX4_count 0 = .ok (.iconst 0, 1) := dk_3 (dk_at dksX4_count_0 0 rfl rfl)
theorem dX4_count_1 : decode cX4_count 1 = .ok (.istore_n 1, 1) := dk_60 (dk_at dksX4_count_0 1 rfl rfl)
theorem dX4_count_2 : decode cX4_count 2 = .ok (.aload_n 0, 1) := dk_42 (dk_at dksX4_count_0 2 rfl rfl)
theorem dX4_count_3 : decode cX4_count 3 = .ok (.getfield 31, 3) := dk_180 0 31 (dk_at dksX4_count_0 3 rfl rfl)
theorem dX4_count_6 : decode cX4_count 6 = .ok (.astore_n 2, 1) := dk_77 (dk_at dksX4_count_0 6 rfl rfl)
theorem dX4_count_7 : decode cX4_count 7 = .ok (.aload_n 2, 1) := dk_44 (dk_at dksX4_count_0 7 rfl rfl)
theorem dX4_count_8 : decode cX4_count 8 = .ok (.arraylength, 1) := dk_190 (dk_at dksX4_count_0 8 rfl rfl)
theorem dX4_count_9 : decode cX4_count 9 = .ok (.istore_n 3, 1) := dk_62 (dk_at dksX4_count_0 9 rfl rfl)
theorem dX4_count_10 : decode cX4_count 10 = .ok (.iconst 0, 1) := dk_3 (dk_at dksX4_count_0 10 rfl rfl)
theorem dX4_count_11 : decode cX4_count 11 = .ok (.istore 4, 2) := dk_54 4 (dk_at dksX4_count_0 11 rfl rfl)
theorem dX4_count_13 : decode cX4_count 13 = .ok (.iload 4, 2) := dk_21 4 (dk_at dksX4_count_0 13 rfl rfl)
theorem dX4_count_15 : decode cX4_count 15 = .ok (.iload_n 3, 1) := dk_29 (dk_at dksX4_count_0 15 rfl rfl)
theorem dX4_count_16 : decode cX4_count 16 = .ok (.if_icmp .ge 20, 3) := dk_162 0 20 (dk_at dksX4_count_0 16 rfl rfl)
theorem dX4_count_19 : decode cX4_count 19 = .ok (.aload_n 2, 1) := dk_44 (dk_at dksX4_count_0 19 rfl rfl)
theorem dX4_count_20 : decode cX4_count 20 = .ok (.iload 4, 2) := dk_21 4 (dk_at dksX4_count_0 20 rfl rfl)
theorem dX4_count_22 : decode cX4_count 22 = .ok (.iaload, 1) := dk_46 (dk_at dksX4_count_0 22 rfl rfl)
theorem dX4_count_23 : decode cX4_count 23 = .ok (.istore 5, 2) := dk_54 5 (dk_at dksX4_count_1 0 rfl rfl)
theorem dX4_count_25 : decode cX4_count 25 = .ok (.iload_n 1, 1) := dk_27 (dk_at dksX4_count_1 2 rfl rfl)
theorem dX4_count_26 : decode cX4_count 26 = .ok (.iload 5, 2) := dk_21 5 (dk_at dksX4_count_1 3 rfl rfl)
theorem dX4_count_28 : decode cX4_count 28 = .ok (.iadd, 1) := dk_96 (dk_at dksX4_count_1 5 rfl rfl)
theorem dX4_count_29 : decode cX4_count 29 = .ok (.istore_n 1, 1) := dk_60 (dk_at dksX4_count_1 6 rfl rfl)
theorem dX4_count_30 : decode cX4_count 30 = .ok (.iinc 4 1, 3) := dk_132 4 1 (dk_at dksX4_count_1 7 rfl rfl)
theorem dX4_count_33 : decode cX4_count 33 = .ok (.goto (-20), 3) := dk_167 255 236 (dk_at dksX4_count_1 10 rfl rfl)
theorem dX4_count_36 : decode cX4_count 36 = .ok (.iload_n 1, 1) := dk_27 (dk_at dksX4_count_1 13 rfl rfl)
theorem dX4_count_37 : decode cX4_count 37 = .ok (.ireturn, 1) := dk_172 (dk_at dksX4_count_1 14 rfl rfl)
def dkwX4_compartmentFor_1 : List UInt8 := [180, 0, 56, 28, 182, 0, 57, 167, 0, 4, 29, 172]
abbrev dktX4_compartmentFor_1 : List UInt8 := dkwX4_compartmentFor_1 ++ []
def dkwX4_compartmentFor_0 : List UInt8 := [42, 43, 180, 0, 51, 43, 180, 0, 56, 28, 182, 0, 57, 62, 29, 2, 160, 0, 16, 42, 2, 43]
abbrev dktX4_compartmentFor_0 : List UInt8 := dkwX4_compartmentFor_0 ++ dktX4_compartmentFor_1
theorem dksX4_compartmentFor_0 : cX4_compartmentFor.data.toList.drop 0 = dktX4_compartmentFor_0 := by decide +kernel
theorem dksX4_compartmentFor_1 : cX4_compartmentFor.data.toList.drop 22 = dktX4_compartmentFor_1 := dk_seg dksX4_compartmentFor_0 22 rfl rfl
theorem dX4_compartmentFor_0 : decode cX4_compartmentFor 0 = .ok (.aload_n 0, 1) := dk_42 (dk_at dksX4_compartmentFor_0 0 rfl rfl)
theorem dX4_compartmentFor_1 : decode cX4_compartmentFor 1 = .ok (.aload_n 1, 1) := dk_43 (dk_at dksX4_compartmentFor_0 1 rfl rfl)
theorem dX4_compartmentFor_2 : decode cX4_compartmentFor 2 = .ok (.getfield 51, 3) := dk_180 0 51 (dk_at dksX4_compartmentFor_0 2 rfl rfl)
theorem dX4_compartmentFor_5 : decode cX4_compartmentFor 5 = .ok (.aload_n 1, 1) := dk_43 (dk_at dksX4_compartmentFor_0 5 rfl rfl)
theorem dX4_compartmentFor_6 : decode cX4_compartmentFor 6 = .ok (.getfield 56, 3) := dk_180 0 56 (dk_at dksX4_compartmentFor_0 6 rfl rfl)
theorem dX4_compartmentFor_9 : decode cX4_compartmentFor 9 = .ok (.iload_n 2, 1) := dk_28 (dk_at dksX4_compartmentFor_0 9 rfl rfl)
theorem dX4_compartmentFor_10 : decode cX4_compartmentFor 10 = .ok (.invokevirtual 57, 3) := dk_182 0 57 (dk_at dksX4_compartmentFor_0 10 rfl rfl)
theorem dX4_compartmentFor_13 : decode cX4_compartmentFor 13 = .ok (.istore_n 3, 1) := dk_62 (dk_at dksX4_compartmentFor_0 13 rfl rfl)
theorem dX4_compartmentFor_14 : decode cX4_compartmentFor 14 = .ok (.iload_n 3, 1) := dk_29 (dk_at dksX4_compartmentFor_0 14 rfl rfl)
theorem dX4_compartmentFor_15 : decode cX4_compartmentFor 15 = .ok (.iconst (-1), 1) := dk_2 (dk_at dksX4_compartmentFor_0 15 rfl rfl)
theorem dX4_compartmentFor_16 : decode cX4_compartmentFor 16 = .ok (.if_icmp .ne 16, 3) := dk_160 0 16 (dk_at dksX4_compartmentFor_0 16 rfl rfl)
theorem dX4_compartmentFor_19 : decode cX4_compartmentFor 19 = .ok (.aload_n 0, 1) := dk_42 (dk_at dksX4_compartmentFor_0 19 rfl rfl)
theorem dX4_compartmentFor_20 : decode cX4_compartmentFor 20 = .ok (.iconst (-1), 1) := dk_2 (dk_at dksX4_compartmentFor_0 20 rfl rfl)
theorem dX4_compartmentFor_21 : decode cX4_compartmentFor 21 = .ok (.aload_n 1, 1) := dk_43 (dk_at dksX4_compartmentFor_0 21 rfl rfl)
theorem dX4_compartmentFor_22 : decode cX4_compartmentFor 22 = .ok (.getfield 56, 3) := dk_180 0 56 (dk_at dksX4_compartmentFor_1 0 rfl rfl)
theorem dX4_compartmentFor_25 : decode cX4_compartmentFor 25 = .ok (.iload_n 2, 1) := dk_28 (dk_at dksX4_compartmentFor_1 3 rfl rfl)
theorem dX4_compartmentFor_26 : decode cX4_compartmentFor 26 = .ok (.invokevirtual 57, 3) := dk_182 0 57 (dk_at dksX4_compartmentFor_1 4 rfl rfl)
theorem dX4_compartmentFor_29 : decode cX4_compartmentFor 29 = .ok (.goto 4, 3) := dk_167 0 4 (dk_at dksX4_compartmentFor_1 7 rfl rfl)
theorem dX4_compartmentFor_32 : decode cX4_compartmentFor 32 = .ok (.iload_n 3, 1) := dk_29 (dk_at dksX4_compartmentFor_1 10 rfl rfl)
theorem dX4_compartmentFor_33 : decode cX4_compartmentFor 33 = .ok (.ireturn, 1) := dk_172 (dk_at dksX4_compartmentFor_1 11 rfl rfl)
def dkwX4_compartment_2 : List UInt8 := [172, 132, 4, 1, 167, 255, 207, 2, 172]
abbrev dktX4_compartment_2 : List UInt8 := dkwX4_compartment_2 ++ []
def dkwX4_compartment_1 : List UInt8 := [42, 180, 0, 28, 21, 4, 46, 28, 96, 42, 182, 0, 43, 42, 29, 182, 0, 47, 100, 163, 0, 6, 21, 4]
abbrev dktX4_compartment_1 : List UInt8 := dkwX4_compartment_1 ++ dktX4_compartment_2
def dkwX4_compartment_0 : List UInt8 := [3, 54, 4, 21, 4, 42, 180, 0, 24, 190, 162, 0, 45, 42, 180, 0, 24, 21, 4, 46, 27, 160, 0, 28]
abbrev dktX4_compartment_0 : List UInt8 := dkwX4_compartment_0 ++ dktX4_compartment_1
theorem dksX4_compartment_0 : cX4_compartment.data.toList.drop 0 = dktX4_compartment_0 := by decide +kernel
theorem dksX4_compartment_1 : cX4_compartment.data.toList.drop 24 = dktX4_compartment_1 := dk_seg dksX4_compartment_0 24 rfl rfl
theorem dksX4_compartment_2 : cX4_compartment.data.toList.drop 48 = dktX4_compartment_2 := dk_seg dksX4_compartment_1 24 rfl rfl
theorem dX4_compartment_0 : decode cX4_compartment 0 = .ok (.iconst 0, 1) := dk_3 (dk_at dksX4_compartment_0 0 rfl rfl)
theorem dX4_compartment_1 : decode cX4_compartment 1 = .ok (.istore 4, 2) := dk_54 4 (dk_at dksX4_compartment_0 1 rfl rfl)
theorem dX4_compartment_3 : decode cX4_compartment 3 = .ok (.iload 4, 2) := dk_21 4 (dk_at dksX4_compartment_0 3 rfl rfl)
theorem dX4_compartment_5 : decode cX4_compartment 5 = .ok (.aload_n 0, 1) := dk_42 (dk_at dksX4_compartment_0 5 rfl rfl)
theorem dX4_compartment_6 : decode cX4_compartment 6 = .ok (.getfield 24, 3) := dk_180 0 24 (dk_at dksX4_compartment_0 6 rfl rfl)
theorem dX4_compartment_9 : decode cX4_compartment 9 = .ok (.arraylength, 1) := dk_190 (dk_at dksX4_compartment_0 9 rfl rfl)
theorem dX4_compartment_10 : decode cX4_compartment 10 = .ok (.if_icmp .ge 45, 3) := dk_162 0 45 (dk_at dksX4_compartment_0 10 rfl rfl)
theorem dX4_compartment_13 : decode cX4_compartment 13 = .ok (.aload_n 0, 1) := dk_42 (dk_at dksX4_compartment_0 13 rfl rfl)
theorem dX4_compartment_14 : decode cX4_compartment 14 = .ok (.getfield 24, 3) := dk_180 0 24 (dk_at dksX4_compartment_0 14 rfl rfl)
theorem dX4_compartment_17 : decode cX4_compartment 17 = .ok (.iload 4, 2) := dk_21 4 (dk_at dksX4_compartment_0 17 rfl rfl)
theorem dX4_compartment_19 : decode cX4_compartment 19 = .ok (.iaload, 1) := dk_46 (dk_at dksX4_compartment_0 19 rfl rfl)
theorem dX4_compartment_20 : decode cX4_compartment 20 = .ok (.iload_n 1, 1) := dk_27 (dk_at dksX4_compartment_0 20 rfl rfl)
theorem dX4_compartment_21 : decode cX4_compartment 21 = .ok (.if_icmp .ne 28, 3) := dk_160 0 28 (dk_at dksX4_compartment_0 21 rfl rfl)
theorem dX4_compartment_24 : decode cX4_compartment 24 = .ok (.aload_n 0, 1) := dk_42 (dk_at dksX4_compartment_1 0 rfl rfl)
theorem dX4_compartment_25 : decode cX4_compartment 25 = .ok (.getfield 28, 3) := dk_180 0 28 (dk_at dksX4_compartment_1 1 rfl rfl)
theorem dX4_compartment_28 : decode cX4_compartment 28 = .ok (.iload 4, 2) := dk_21 4 (dk_at dksX4_compartment_1 4 rfl rfl)
theorem dX4_compartment_30 : decode cX4_compartment 30 = .ok (.iaload, 1) := dk_46 (dk_at dksX4_compartment_1 6 rfl rfl)
theorem dX4_compartment_31 : decode cX4_compartment 31 = .ok (.iload_n 2, 1) := dk_28 (dk_at dksX4_compartment_1 7 rfl rfl)
theorem dX4_compartment_32 : decode cX4_compartment 32 = .ok (.iadd, 1) := dk_96 (dk_at dksX4_compartment_1 8 rfl rfl)
theorem dX4_compartment_33 : decode cX4_compartment 33 = .ok (.aload_n 0, 1) := dk_42 (dk_at dksX4_compartment_1 9 rfl rfl)
theorem dX4_compartment_34 : decode cX4_compartment 34 = .ok (.invokevirtual 43, 3) := dk_182 0 43 (dk_at dksX4_compartment_1 10 rfl rfl)
theorem dX4_compartment_37 : decode cX4_compartment 37 = .ok (.aload_n 0, 1) := dk_42 (dk_at dksX4_compartment_1 13 rfl rfl)
theorem dX4_compartment_38 : decode cX4_compartment 38 = .ok (.iload_n 3, 1) := dk_29 (dk_at dksX4_compartment_1 14 rfl rfl)
theorem dX4_compartment_39 : decode cX4_compartment 39 = .ok (.invokevirtual 47, 3) := dk_182 0 47 (dk_at dksX4_compartment_1 15 rfl rfl)
theorem dX4_compartment_42 : decode cX4_compartment 42 = .ok (.isub, 1) := dk_100 (dk_at dksX4_compartment_1 18 rfl rfl)
theorem dX4_compartment_43 : decode cX4_compartment 43 = .ok (.if_icmp .gt 6, 3) := dk_163 0 6 (dk_at dksX4_compartment_1 19 rfl rfl)
theorem dX4_compartment_46 : decode cX4_compartment 46 = .ok (.iload 4, 2) := dk_21 4 (dk_at dksX4_compartment_1 22 rfl rfl)
theorem dX4_compartment_48 : decode cX4_compartment 48 = .ok (.ireturn, 1) := dk_172 (dk_at dksX4_compartment_2 0 rfl rfl)
theorem dX4_compartment_49 : decode cX4_compartment 49 = .ok (.iinc 4 1, 3) := dk_132 4 1 (dk_at dksX4_compartment_2 1 rfl rfl)
theorem dX4_compartment_52 : decode cX4_compartment 52 = .ok (.goto (-49), 3) := dk_167 255 207 (dk_at dksX4_compartment_2 4 rfl rfl)
theorem dX4_compartment_55 : decode cX4_compartment 55 = .ok (.iconst (-1), 1) := dk_2 (dk_at dksX4_compartment_2 7 rfl rfl)
theorem dX4_compartment_56 : decode cX4_compartment 56 = .ok (.ireturn, 1) := dk_172 (dk_at dksX4_compartment_2 8 rfl rfl)
def dkwX4_room_0 : List UInt8 := [42, 180, 0, 21, 42, 180, 0, 24, 190, 108, 172]
abbrev dktX4_room_0 : List UInt8 := dkwX4_room_0 ++ []
theorem dksX4_room_0 : cX4_room.data.toList.drop 0 = dktX4_room_0 := by decide +kernel
theorem dX4_room_0 : decode cX4_room 0 = .ok (.aload_n 0, 1) := dk_42 (dk_at dksX4_room_0 0 rfl rfl)
theorem dX4_room_1 : decode cX4_room 1 = .ok (.getfield 21, 3) := dk_180 0 21 (dk_at dksX4_room_0 1 rfl rfl)
theorem dX4_room_4 : decode cX4_room 4 = .ok (.aload_n 0, 1) := dk_42 (dk_at dksX4_room_0 4 rfl rfl)
theorem dX4_room_5 : decode cX4_room 5 = .ok (.getfield 24, 3) := dk_180 0 24 (dk_at dksX4_room_0 5 rfl rfl)
theorem dX4_room_8 : decode cX4_room 8 = .ok (.arraylength, 1) := dk_190 (dk_at dksX4_room_0 8 rfl rfl)
theorem dX4_room_9 : decode cX4_room 9 = .ok (.idiv, 1) := dk_108 (dk_at dksX4_room_0 9 rfl rfl)
theorem dX4_room_10 : decode cX4_room 10 = .ok (.ireturn, 1) := dk_172 (dk_at dksX4_room_0 10 rfl rfl)
def dkwX4_kept_0 : List UInt8 := [42, 182, 0, 43, 27, 104, 16, 99, 96, 16, 100, 108, 172]
abbrev dktX4_kept_0 : List UInt8 := dkwX4_kept_0 ++ []
theorem dksX4_kept_0 : cX4_kept.data.toList.drop 0 = dktX4_kept_0 := by decide +kernel
theorem dX4_kept_0 : decode cX4_kept 0 = .ok (.aload_n 0, 1) := dk_42 (dk_at dksX4_kept_0 0 rfl rfl)
theorem dX4_kept_1 : decode cX4_kept 1 = .ok (.invokevirtual 43, 3) := dk_182 0 43 (dk_at dksX4_kept_0 1 rfl rfl)
theorem dX4_kept_4 : decode cX4_kept 4 = .ok (.iload_n 1, 1) := dk_27 (dk_at dksX4_kept_0 4 rfl rfl)
theorem dX4_kept_5 : decode cX4_kept 5 = .ok (.imul, 1) := dk_104 (dk_at dksX4_kept_0 5 rfl rfl)
theorem dX4_kept_6 : decode cX4_kept 6 = .ok (.bipush 99, 2) := dk_16 99 (dk_at dksX4_kept_0 6 rfl rfl)
theorem dX4_kept_8 : decode cX4_kept 8 = .ok (.iadd, 1) := dk_96 (dk_at dksX4_kept_0 8 rfl rfl)
theorem dX4_kept_9 : decode cX4_kept 9 = .ok (.bipush 100, 2) := dk_16 100 (dk_at dksX4_kept_0 9 rfl rfl)
theorem dX4_kept_11 : decode cX4_kept 11 = .ok (.idiv, 1) := dk_108 (dk_at dksX4_kept_0 11 rfl rfl)
theorem dX4_kept_12 : decode cX4_kept 12 = .ok (.ireturn, 1) := dk_172 (dk_at dksX4_kept_0 12 rfl rfl)
def dkwX4_lay_1 : List UInt8 := [180, 0, 31, 28, 92, 46, 4, 96, 79, 177]
abbrev dktX4_lay_1 : List UInt8 := dkwX4_lay_1 ++ []
def dkwX4_lay_0 : List UInt8 := [42, 180, 0, 24, 28, 43, 180, 0, 51, 79, 42, 180, 0, 28, 28, 92, 46, 43, 180, 0, 56, 96, 79, 42]
abbrev dktX4_lay_0 : List UInt8 := dkwX4_lay_0 ++ dktX4_lay_1
theorem dksX4_lay_0 : cX4_lay.data.toList.drop 0 = dktX4_lay_0 := by decide +kernel
theorem dksX4_lay_1 : cX4_lay.data.toList.drop 24 = dktX4_lay_1 := dk_seg dksX4_lay_0 24 rfl rfl
theorem dX4_lay_0 : decode cX4_lay 0 = .ok (.aload_n 0, 1) := dk_42 (dk_at dksX4_lay_0 0 rfl rfl)
theorem dX4_lay_1 : decode cX4_lay 1 = .ok (.getfield 24, 3) := dk_180 0 24 (dk_at dksX4_lay_0 1 rfl rfl)
theorem dX4_lay_4 : decode cX4_lay 4 = .ok (.iload_n 2, 1) := dk_28 (dk_at dksX4_lay_0 4 rfl rfl)
theorem dX4_lay_5 : decode cX4_lay 5 = .ok (.aload_n 1, 1) := dk_43 (dk_at dksX4_lay_0 5 rfl rfl)
theorem dX4_lay_6 : decode cX4_lay 6 = .ok (.getfield 51, 3) := dk_180 0 51 (dk_at dksX4_lay_0 6 rfl rfl)
theorem dX4_lay_9 : decode cX4_lay 9 = .ok (.iastore, 1) := dk_79 (dk_at dksX4_lay_0 9 rfl rfl)
theorem dX4_lay_10 : decode cX4_lay 10 = .ok (.aload_n 0, 1) := dk_42 (dk_at dksX4_lay_0 10 rfl rfl)
theorem dX4_lay_11 : decode cX4_lay 11 = .ok (.getfield 28, 3) := dk_180 0 28 (dk_at dksX4_lay_0 11 rfl rfl)
theorem dX4_lay_14 : decode cX4_lay 14 = .ok (.iload_n 2, 1) := dk_28 (dk_at dksX4_lay_0 14 rfl rfl)
theorem dX4_lay_15 : decode cX4_lay 15 = .ok (.dup2, 1) := dk_92 (dk_at dksX4_lay_0 15 rfl rfl)
theorem dX4_lay_16 : decode cX4_lay 16 = .ok (.iaload, 1) := dk_46 (dk_at dksX4_lay_0 16 rfl rfl)
theorem dX4_lay_17 : decode cX4_lay 17 = .ok (.aload_n 1, 1) := dk_43 (dk_at dksX4_lay_0 17 rfl rfl)
theorem dX4_lay_18 : decode cX4_lay 18 = .ok (.getfield 56, 3) := dk_180 0 56 (dk_at dksX4_lay_0 18 rfl rfl)
theorem dX4_lay_21 : decode cX4_lay 21 = .ok (.iadd, 1) := dk_96 (dk_at dksX4_lay_0 21 rfl rfl)
theorem dX4_lay_22 : decode cX4_lay 22 = .ok (.iastore, 1) := dk_79 (dk_at dksX4_lay_0 22 rfl rfl)
theorem dX4_lay_23 : decode cX4_lay 23 = .ok (.aload_n 0, 1) := dk_42 (dk_at dksX4_lay_0 23 rfl rfl)
theorem dX4_lay_24 : decode cX4_lay 24 = .ok (.getfield 31, 3) := dk_180 0 31 (dk_at dksX4_lay_1 0 rfl rfl)
theorem dX4_lay_27 : decode cX4_lay 27 = .ok (.iload_n 2, 1) := dk_28 (dk_at dksX4_lay_1 3 rfl rfl)
theorem dX4_lay_28 : decode cX4_lay 28 = .ok (.dup2, 1) := dk_92 (dk_at dksX4_lay_1 4 rfl rfl)
theorem dX4_lay_29 : decode cX4_lay 29 = .ok (.iaload, 1) := dk_46 (dk_at dksX4_lay_1 5 rfl rfl)
theorem dX4_lay_30 : decode cX4_lay 30 = .ok (.iconst 1, 1) := dk_4 (dk_at dksX4_lay_1 6 rfl rfl)
theorem dX4_lay_31 : decode cX4_lay 31 = .ok (.iadd, 1) := dk_96 (dk_at dksX4_lay_1 7 rfl rfl)
theorem dX4_lay_32 : decode cX4_lay 32 = .ok (.iastore, 1) := dk_79 (dk_at dksX4_lay_1 8 rfl rfl)
theorem dX4_lay_33 : decode cX4_lay 33 = .ok (.return_, 1) := dk_177 (dk_at dksX4_lay_1 9 rfl rfl)
def dkwX4_leave_1 : List UInt8 := [180, 0, 24, 28, 42, 180, 0, 31, 28, 46, 154, 0, 7, 2, 167, 0, 7, 43, 180, 0, 51, 79, 177]
abbrev dktX4_leave_1 : List UInt8 := dkwX4_leave_1 ++ []
def dkwX4_leave_0 : List UInt8 := [42, 180, 0, 28, 28, 92, 46, 43, 180, 0, 56, 100, 79, 42, 180, 0, 31, 28, 92, 46, 4, 100, 79, 42]
abbrev dktX4_leave_0 : List UInt8 := dkwX4_leave_0 ++ dktX4_leave_1
theorem dksX4_leave_0 : cX4_leave.data.toList.drop 0 = dktX4_leave_0 := by decide +kernel
theorem dksX4_leave_1 : cX4_leave.data.toList.drop 24 = dktX4_leave_1 := dk_seg dksX4_leave_0 24 rfl rfl
theorem dX4_leave_0 : decode cX4_leave 0 = .ok (.aload_n 0, 1) := dk_42 (dk_at dksX4_leave_0 0 rfl rfl)
theorem dX4_leave_1 : decode cX4_leave 1 = .ok (.getfield 28, 3) := dk_180 0 28 (dk_at dksX4_leave_0 1 rfl rfl)
theorem dX4_leave_4 : decode cX4_leave 4 = .ok (.iload_n 2, 1) := dk_28 (dk_at dksX4_leave_0 4 rfl rfl)
theorem dX4_leave_5 : decode cX4_leave 5 = .ok (.dup2, 1) := dk_92 (dk_at dksX4_leave_0 5 rfl rfl)
theorem dX4_leave_6 : decode cX4_leave 6 = .ok (.iaload, 1) := dk_46 (dk_at dksX4_leave_0 6 rfl rfl)
theorem dX4_leave_7 : decode cX4_leave 7 = .ok (.aload_n 1, 1) := dk_43 (dk_at dksX4_leave_0 7 rfl rfl)
theorem dX4_leave_8 : decode cX4_leave 8 = .ok (.getfield 56, 3) := dk_180 0 56 (dk_at dksX4_leave_0 8 rfl rfl)
theorem dX4_leave_11 : decode cX4_leave 11 = .ok (.isub, 1) := dk_100 (dk_at dksX4_leave_0 11 rfl rfl)
theorem dX4_leave_12 : decode cX4_leave 12 = .ok (.iastore, 1) := dk_79 (dk_at dksX4_leave_0 12 rfl rfl)
theorem dX4_leave_13 : decode cX4_leave 13 = .ok (.aload_n 0, 1) := dk_42 (dk_at dksX4_leave_0 13 rfl rfl)
theorem dX4_leave_14 : decode cX4_leave 14 = .ok (.getfield 31, 3) := dk_180 0 31 (dk_at dksX4_leave_0 14 rfl rfl)
theorem dX4_leave_17 : decode cX4_leave 17 = .ok (.iload_n 2, 1) := dk_28 (dk_at dksX4_leave_0 17 rfl rfl)
theorem dX4_leave_18 : decode cX4_leave 18 = .ok (.dup2, 1) := dk_92 (dk_at dksX4_leave_0 18 rfl rfl)
theorem dX4_leave_19 : decode cX4_leave 19 = .ok (.iaload, 1) := dk_46 (dk_at dksX4_leave_0 19 rfl rfl)
theorem dX4_leave_20 : decode cX4_leave 20 = .ok (.iconst 1, 1) := dk_4 (dk_at dksX4_leave_0 20 rfl rfl)
theorem dX4_leave_21 : decode cX4_leave 21 = .ok (.isub, 1) := dk_100 (dk_at dksX4_leave_0 21 rfl rfl)
theorem dX4_leave_22 : decode cX4_leave 22 = .ok (.iastore, 1) := dk_79 (dk_at dksX4_leave_0 22 rfl rfl)
theorem dX4_leave_23 : decode cX4_leave 23 = .ok (.aload_n 0, 1) := dk_42 (dk_at dksX4_leave_0 23 rfl rfl)
theorem dX4_leave_24 : decode cX4_leave 24 = .ok (.getfield 24, 3) := dk_180 0 24 (dk_at dksX4_leave_1 0 rfl rfl)
theorem dX4_leave_27 : decode cX4_leave 27 = .ok (.iload_n 2, 1) := dk_28 (dk_at dksX4_leave_1 3 rfl rfl)
theorem dX4_leave_28 : decode cX4_leave 28 = .ok (.aload_n 0, 1) := dk_42 (dk_at dksX4_leave_1 4 rfl rfl)
theorem dX4_leave_29 : decode cX4_leave 29 = .ok (.getfield 31, 3) := dk_180 0 31 (dk_at dksX4_leave_1 5 rfl rfl)
theorem dX4_leave_32 : decode cX4_leave 32 = .ok (.iload_n 2, 1) := dk_28 (dk_at dksX4_leave_1 8 rfl rfl)
theorem dX4_leave_33 : decode cX4_leave 33 = .ok (.iaload, 1) := dk_46 (dk_at dksX4_leave_1 9 rfl rfl)
theorem dX4_leave_34 : decode cX4_leave 34 = .ok (.ifCond .ne 7, 3) := dk_154 0 7 (dk_at dksX4_leave_1 10 rfl rfl)
theorem dX4_leave_37 : decode cX4_leave 37 = .ok (.iconst (-1), 1) := dk_2 (dk_at dksX4_leave_1 13 rfl rfl)
theorem dX4_leave_38 : decode cX4_leave 38 = .ok (.goto 7, 3) := dk_167 0 7 (dk_at dksX4_leave_1 14 rfl rfl)
theorem dX4_leave_41 : decode cX4_leave 41 = .ok (.aload_n 1, 1) := dk_43 (dk_at dksX4_leave_1 17 rfl rfl)
theorem dX4_leave_42 : decode cX4_leave 42 = .ok (.getfield 51, 3) := dk_180 0 51 (dk_at dksX4_leave_1 18 rfl rfl)
theorem dX4_leave_45 : decode cX4_leave 45 = .ok (.iastore, 1) := dk_79 (dk_at dksX4_leave_1 21 rfl rfl)
theorem dX4_leave_46 : decode cX4_leave 46 = .ok (.return_, 1) := dk_177 (dk_at dksX4_leave_1 22 rfl rfl)
def dkwX4_filled_1 : List UInt8 := [54, 5, 27, 21, 5, 96, 60, 132, 4, 1, 167, 255, 236, 27, 172]
abbrev dktX4_filled_1 : List UInt8 := dkwX4_filled_1 ++ []
def dkwX4_filled_0 : List UInt8 := [3, 60, 42, 180, 0, 28, 77, 44, 190, 62, 3, 54, 4, 21, 4, 29, 162, 0, 20, 44, 21, 4, 46]
abbrev dktX4_filled_0 : List UInt8 := dkwX4_filled_0 ++ dktX4_filled_1
theorem dksX4_filled_0 : cX4_filled.data.toList.drop 0 = dktX4_filled_0 := by decide +kernel
theorem dksX4_filled_1 : cX4_filled.data.toList.drop 23 = dktX4_filled_1 := dk_seg dksX4_filled_0 23 rfl rfl
theorem dX4_filled_0 : decode cX4_filled 0 = .ok (.iconst 0, 1) := dk_3 (dk_at dksX4_filled_0 0 rfl rfl)
theorem dX4_filled_1 : decode cX4_filled 1 = .ok (.istore_n 1, 1) := dk_60 (dk_at dksX4_filled_0 1 rfl rfl)
theorem dX4_filled_2 : decode cX4_filled 2 = .ok (.aload_n 0, 1) := dk_42 (dk_at dksX4_filled_0 2 rfl rfl)
theorem dX4_filled_3 : decode cX4_filled 3 = .ok (.getfield 28, 3) := dk_180 0 28 (dk_at dksX4_filled_0 3 rfl rfl)
theorem dX4_filled_6 : decode cX4_filled 6 = .ok (.astore_n 2, 1) := dk_77 (dk_at dksX4_filled_0 6 rfl rfl)
theorem dX4_filled_7 : decode cX4_filled 7 = .ok (.aload_n 2, 1) := dk_44 (dk_at dksX4_filled_0 7 rfl rfl)
theorem dX4_filled_8 : decode cX4_filled 8 = .ok (.arraylength, 1) := dk_190 (dk_at dksX4_filled_0 8 rfl rfl)
theorem dX4_filled_9 : decode cX4_filled 9 = .ok (.istore_n 3, 1) := dk_62 (dk_at dksX4_filled_0 9 rfl rfl)
theorem dX4_filled_10 : decode cX4_filled 10 = .ok (.iconst 0, 1) := dk_3 (dk_at dksX4_filled_0 10 rfl rfl)
theorem dX4_filled_11 : decode cX4_filled 11 = .ok (.istore 4, 2) := dk_54 4 (dk_at dksX4_filled_0 11 rfl rfl)
theorem dX4_filled_13 : decode cX4_filled 13 = .ok (.iload 4, 2) := dk_21 4 (dk_at dksX4_filled_0 13 rfl rfl)
theorem dX4_filled_15 : decode cX4_filled 15 = .ok (.iload_n 3, 1) := dk_29 (dk_at dksX4_filled_0 15 rfl rfl)
theorem dX4_filled_16 : decode cX4_filled 16 = .ok (.if_icmp .ge 20, 3) := dk_162 0 20 (dk_at dksX4_filled_0 16 rfl rfl)
theorem dX4_filled_19 : decode cX4_filled 19 = .ok (.aload_n 2, 1) := dk_44 (dk_at dksX4_filled_0 19 rfl rfl)
theorem dX4_filled_20 : decode cX4_filled 20 = .ok (.iload 4, 2) := dk_21 4 (dk_at dksX4_filled_0 20 rfl rfl)
theorem dX4_filled_22 : decode cX4_filled 22 = .ok (.iaload, 1) := dk_46 (dk_at dksX4_filled_0 22 rfl rfl)
theorem dX4_filled_23 : decode cX4_filled 23 = .ok (.istore 5, 2) := dk_54 5 (dk_at dksX4_filled_1 0 rfl rfl)
theorem dX4_filled_25 : decode cX4_filled 25 = .ok (.iload_n 1, 1) := dk_27 (dk_at dksX4_filled_1 2 rfl rfl)
theorem dX4_filled_26 : decode cX4_filled 26 = .ok (.iload 5, 2) := dk_21 5 (dk_at dksX4_filled_1 3 rfl rfl)
theorem dX4_filled_28 : decode cX4_filled 28 = .ok (.iadd, 1) := dk_96 (dk_at dksX4_filled_1 5 rfl rfl)
theorem dX4_filled_29 : decode cX4_filled 29 = .ok (.istore_n 1, 1) := dk_60 (dk_at dksX4_filled_1 6 rfl rfl)
theorem dX4_filled_30 : decode cX4_filled 30 = .ok (.iinc 4 1, 3) := dk_132 4 1 (dk_at dksX4_filled_1 7 rfl rfl)
theorem dX4_filled_33 : decode cX4_filled 33 = .ok (.goto (-20), 3) := dk_167 255 236 (dk_at dksX4_filled_1 10 rfl rfl)
theorem dX4_filled_36 : decode cX4_filled 36 = .ok (.iload_n 1, 1) := dk_27 (dk_at dksX4_filled_1 13 rfl rfl)
theorem dX4_filled_37 : decode cX4_filled 37 = .ok (.ireturn, 1) := dk_172 (dk_at dksX4_filled_1 14 rfl rfl)
def dkwX4_free_1 : List UInt8 := [54, 5, 27, 21, 5, 2, 160, 0, 7, 4, 167, 0, 4, 3, 96, 60, 132, 4, 1, 167, 255, 227, 27, 172]
abbrev dktX4_free_1 : List UInt8 := dkwX4_free_1 ++ []
def dkwX4_free_0 : List UInt8 := [3, 60, 42, 180, 0, 24, 77, 44, 190, 62, 3, 54, 4, 21, 4, 29, 162, 0, 29, 44, 21, 4, 46]
abbrev dktX4_free_0 : List UInt8 := dkwX4_free_0 ++ dktX4_free_1
theorem dksX4_free_0 : cX4_free.data.toList.drop 0 = dktX4_free_0 := by decide +kernel
theorem dksX4_free_1 : cX4_free.data.toList.drop 23 = dktX4_free_1 := dk_seg dksX4_free_0 23 rfl rfl
theorem dX4_free_0 : decode cX4_free 0 = .ok (.iconst 0, 1) := dk_3 (dk_at dksX4_free_0 0 rfl rfl)
theorem dX4_free_1 : decode cX4_free 1 = .ok (.istore_n 1, 1) := dk_60 (dk_at dksX4_free_0 1 rfl rfl)
theorem dX4_free_2 : decode cX4_free 2 = .ok (.aload_n 0, 1) := dk_42 (dk_at dksX4_free_0 2 rfl rfl)
theorem dX4_free_3 : decode cX4_free 3 = .ok (.getfield 24, 3) := dk_180 0 24 (dk_at dksX4_free_0 3 rfl rfl)
theorem dX4_free_6 : decode cX4_free 6 = .ok (.astore_n 2, 1) := dk_77 (dk_at dksX4_free_0 6 rfl rfl)
theorem dX4_free_7 : decode cX4_free 7 = .ok (.aload_n 2, 1) := dk_44 (dk_at dksX4_free_0 7 rfl rfl)
theorem dX4_free_8 : decode cX4_free 8 = .ok (.arraylength, 1) := dk_190 (dk_at dksX4_free_0 8 rfl rfl)
theorem dX4_free_9 : decode cX4_free 9 = .ok (.istore_n 3, 1) := dk_62 (dk_at dksX4_free_0 9 rfl rfl)
theorem dX4_free_10 : decode cX4_free 10 = .ok (.iconst 0, 1) := dk_3 (dk_at dksX4_free_0 10 rfl rfl)
theorem dX4_free_11 : decode cX4_free 11 = .ok (.istore 4, 2) := dk_54 4 (dk_at dksX4_free_0 11 rfl rfl)
theorem dX4_free_13 : decode cX4_free 13 = .ok (.iload 4, 2) := dk_21 4 (dk_at dksX4_free_0 13 rfl rfl)
theorem dX4_free_15 : decode cX4_free 15 = .ok (.iload_n 3, 1) := dk_29 (dk_at dksX4_free_0 15 rfl rfl)
theorem dX4_free_16 : decode cX4_free 16 = .ok (.if_icmp .ge 29, 3) := dk_162 0 29 (dk_at dksX4_free_0 16 rfl rfl)
theorem dX4_free_19 : decode cX4_free 19 = .ok (.aload_n 2, 1) := dk_44 (dk_at dksX4_free_0 19 rfl rfl)
theorem dX4_free_20 : decode cX4_free 20 = .ok (.iload 4, 2) := dk_21 4 (dk_at dksX4_free_0 20 rfl rfl)
theorem dX4_free_22 : decode cX4_free 22 = .ok (.iaload, 1) := dk_46 (dk_at dksX4_free_0 22 rfl rfl)
theorem dX4_free_23 : decode cX4_free 23 = .ok (.istore 5, 2) := dk_54 5 (dk_at dksX4_free_1 0 rfl rfl)
theorem dX4_free_25 : decode cX4_free 25 = .ok (.iload_n 1, 1) := dk_27 (dk_at dksX4_free_1 2 rfl rfl)
theorem dX4_free_26 : decode cX4_free 26 = .ok (.iload 5, 2) := dk_21 5 (dk_at dksX4_free_1 3 rfl rfl)
theorem dX4_free_28 : decode cX4_free 28 = .ok (.iconst (-1), 1) := dk_2 (dk_at dksX4_free_1 5 rfl rfl)
theorem dX4_free_29 : decode cX4_free 29 = .ok (.if_icmp .ne 7, 3) := dk_160 0 7 (dk_at dksX4_free_1 6 rfl rfl)
theorem dX4_free_32 : decode cX4_free 32 = .ok (.iconst 1, 1) := dk_4 (dk_at dksX4_free_1 9 rfl rfl)
theorem dX4_free_33 : decode cX4_free 33 = .ok (.goto 4, 3) := dk_167 0 4 (dk_at dksX4_free_1 10 rfl rfl)
theorem dX4_free_36 : decode cX4_free 36 = .ok (.iconst 0, 1) := dk_3 (dk_at dksX4_free_1 13 rfl rfl)
theorem dX4_free_37 : decode cX4_free 37 = .ok (.iadd, 1) := dk_96 (dk_at dksX4_free_1 14 rfl rfl)
theorem dX4_free_38 : decode cX4_free 38 = .ok (.istore_n 1, 1) := dk_60 (dk_at dksX4_free_1 15 rfl rfl)
theorem dX4_free_39 : decode cX4_free 39 = .ok (.iinc 4 1, 3) := dk_132 4 1 (dk_at dksX4_free_1 16 rfl rfl)
theorem dX4_free_42 : decode cX4_free 42 = .ok (.goto (-29), 3) := dk_167 255 227 (dk_at dksX4_free_1 19 rfl rfl)
theorem dX4_free_45 : decode cX4_free 45 = .ok (.iload_n 1, 1) := dk_27 (dk_at dksX4_free_1 22 rfl rfl)
theorem dX4_free_46 : decode cX4_free 46 = .ok (.ireturn, 1) := dk_172 (dk_at dksX4_free_1 23 rfl rfl)
def dkwX5_compartmentIn_1 : List UInt8 := [192, 0, 58, 78, 45, 180, 0, 60, 27, 160, 0, 8, 45, 180, 0, 63, 172, 167, 255, 224, 2, 172]
abbrev dktX5_compartmentIn_1 : List UInt8 := dkwX5_compartmentIn_1 ++ []
def dkwX5_compartmentIn_0 : List UInt8 := [42, 180, 0, 18, 182, 0, 44, 77, 44, 185, 0, 48, 1, 0, 153, 0, 29, 44, 185, 0, 54, 1, 0]
abbrev dktX5_compartmentIn_0 : List UInt8 := dkwX5_compartmentIn_0 ++ dktX5_compartmentIn_1
theorem dksX5_compartmentIn_0 : cX5_compartmentIn.data.toList.drop 0 = dktX5_compartmentIn_0 := by decide +kernel
theorem dksX5_compartmentIn_1 : cX5_compartmentIn.data.toList.drop 23 = dktX5_compartmentIn_1 := dk_seg dksX5_compartmentIn_0 23 rfl rfl
theorem dX5_compartmentIn_0 : decode cX5_compartmentIn 0 = .ok (.aload_n 0, 1) := dk_42 (dk_at dksX5_compartmentIn_0 0 rfl rfl)
theorem dX5_compartmentIn_1 : decode cX5_compartmentIn 1 = .ok (.getfield 18, 3) := dk_180 0 18 (dk_at dksX5_compartmentIn_0 1 rfl rfl)
theorem dX5_compartmentIn_4 : decode cX5_compartmentIn 4 = .ok (.invokevirtual 44, 3) := dk_182 0 44 (dk_at dksX5_compartmentIn_0 4 rfl rfl)
theorem dX5_compartmentIn_7 : decode cX5_compartmentIn 7 = .ok (.astore_n 2, 1) := dk_77 (dk_at dksX5_compartmentIn_0 7 rfl rfl)
theorem dX5_compartmentIn_8 : decode cX5_compartmentIn 8 = .ok (.aload_n 2, 1) := dk_44 (dk_at dksX5_compartmentIn_0 8 rfl rfl)
theorem dX5_compartmentIn_9 : decode cX5_compartmentIn 9 = .ok (.invokeinterface 48 1, 5) := by decide +kernel
theorem dX5_compartmentIn_14 : decode cX5_compartmentIn 14 = .ok (.ifCond .eq 29, 3) := dk_153 0 29 (dk_at dksX5_compartmentIn_0 14 rfl rfl)
theorem dX5_compartmentIn_17 : decode cX5_compartmentIn 17 = .ok (.aload_n 2, 1) := dk_44 (dk_at dksX5_compartmentIn_0 17 rfl rfl)
theorem dX5_compartmentIn_18 : decode cX5_compartmentIn 18 = .ok (.invokeinterface 54 1, 5) := by decide +kernel
theorem dX5_compartmentIn_23 : decode cX5_compartmentIn 23 = .ok (.checkcast 58, 3) := dk_192 0 58 (dk_at dksX5_compartmentIn_1 0 rfl rfl)
theorem dX5_compartmentIn_26 : decode cX5_compartmentIn 26 = .ok (.astore_n 3, 1) := dk_78 (dk_at dksX5_compartmentIn_1 3 rfl rfl)
theorem dX5_compartmentIn_27 : decode cX5_compartmentIn 27 = .ok (.aload_n 3, 1) := dk_45 (dk_at dksX5_compartmentIn_1 4 rfl rfl)
theorem dX5_compartmentIn_28 : decode cX5_compartmentIn 28 = .ok (.getfield 60, 3) := dk_180 0 60 (dk_at dksX5_compartmentIn_1 5 rfl rfl)
theorem dX5_compartmentIn_31 : decode cX5_compartmentIn 31 = .ok (.iload_n 1, 1) := dk_27 (dk_at dksX5_compartmentIn_1 8 rfl rfl)
theorem dX5_compartmentIn_32 : decode cX5_compartmentIn 32 = .ok (.if_icmp .ne 8, 3) := dk_160 0 8 (dk_at dksX5_compartmentIn_1 9 rfl rfl)
theorem dX5_compartmentIn_35 : decode cX5_compartmentIn 35 = .ok (.aload_n 3, 1) := dk_45 (dk_at dksX5_compartmentIn_1 12 rfl rfl)
theorem dX5_compartmentIn_36 : decode cX5_compartmentIn 36 = .ok (.getfield 63, 3) := dk_180 0 63 (dk_at dksX5_compartmentIn_1 13 rfl rfl)
theorem dX5_compartmentIn_39 : decode cX5_compartmentIn 39 = .ok (.ireturn, 1) := dk_172 (dk_at dksX5_compartmentIn_1 16 rfl rfl)
theorem dX5_compartmentIn_40 : decode cX5_compartmentIn 40 = .ok (.goto (-32), 3) := dk_167 255 224 (dk_at dksX5_compartmentIn_1 17 rfl rfl)
theorem dX5_compartmentIn_43 : decode cX5_compartmentIn 43 = .ok (.iconst (-1), 1) := dk_2 (dk_at dksX5_compartmentIn_1 20 rfl rfl)
theorem dX5_compartmentIn_44 : decode cX5_compartmentIn 44 = .ok (.ireturn, 1) := dk_172 (dk_at dksX5_compartmentIn_1 21 rfl rfl)
def dkwX5_copy_2 : List UInt8 := [181, 0, 41, 43, 42, 180, 0, 22, 181, 0, 22, 43, 176]
abbrev dktX5_copy_2 : List UInt8 := dkwX5_copy_2 ++ []
def dkwX5_copy_1 : List UInt8 := [180, 0, 9, 181, 0, 9, 43, 180, 0, 18, 42, 180, 0, 18, 182, 0, 37, 61, 43, 42, 180, 0, 41]
abbrev dktX5_copy_1 : List UInt8 := dkwX5_copy_1 ++ dktX5_copy_2
def dkwX5_copy_0 : List UInt8 := [187, 0, 10, 89, 42, 180, 0, 25, 42, 180, 0, 28, 42, 180, 0, 31, 183, 0, 34, 76, 43, 42]
abbrev dktX5_copy_0 : List UInt8 := dkwX5_copy_0 ++ dktX5_copy_1
theorem dksX5_copy_0 : cX5_copy.data.toList.drop 0 = dktX5_copy_0 := by decide +kernel
theorem dksX5_copy_1 : cX5_copy.data.toList.drop 22 = dktX5_copy_1 := dk_seg dksX5_copy_0 22 rfl rfl
theorem dksX5_copy_2 : cX5_copy.data.toList.drop 45 = dktX5_copy_2 := dk_seg dksX5_copy_1 23 rfl rfl
theorem dX5_copy_0 : decode cX5_copy 0 = .ok (.new 10, 3) := dk_187 0 10 (dk_at dksX5_copy_0 0 rfl rfl)
theorem dX5_copy_3 : decode cX5_copy 3 = .ok (.dup, 1) := dk_89 (dk_at dksX5_copy_0 3 rfl rfl)
theorem dX5_copy_4 : decode cX5_copy 4 = .ok (.aload_n 0, 1) := dk_42 (dk_at dksX5_copy_0 4 rfl rfl)
theorem dX5_copy_5 : decode cX5_copy 5 = .ok (.getfield 25, 3) := dk_180 0 25 (dk_at dksX5_copy_0 5 rfl rfl)
theorem dX5_copy_8 : decode cX5_copy 8 = .ok (.aload_n 0, 1) := dk_42 (dk_at dksX5_copy_0 8 rfl rfl)
theorem dX5_copy_9 : decode cX5_copy 9 = .ok (.getfield 28, 3) := dk_180 0 28 (dk_at dksX5_copy_0 9 rfl rfl)
theorem dX5_copy_12 : decode cX5_copy 12 = .ok (.aload_n 0, 1) := dk_42 (dk_at dksX5_copy_0 12 rfl rfl)
theorem dX5_copy_13 : decode cX5_copy 13 = .ok (.getfield 31, 3) := dk_180 0 31 (dk_at dksX5_copy_0 13 rfl rfl)
theorem dX5_copy_16 : decode cX5_copy 16 = .ok (.invokespecial 34, 3) := dk_183 0 34 (dk_at dksX5_copy_0 16 rfl rfl)
theorem dX5_copy_19 : decode cX5_copy 19 = .ok (.astore_n 1, 1) := dk_76 (dk_at dksX5_copy_0 19 rfl rfl)
theorem dX5_copy_20 : decode cX5_copy 20 = .ok (.aload_n 1, 1) := dk_43 (dk_at dksX5_copy_0 20 rfl rfl)
theorem dX5_copy_21 : decode cX5_copy 21 = .ok (.aload_n 0, 1) := dk_42 (dk_at dksX5_copy_0 21 rfl rfl)
theorem dX5_copy_22 : decode cX5_copy 22 = .ok (.getfield 9, 3) := dk_180 0 9 (dk_at dksX5_copy_1 0 rfl rfl)
theorem dX5_copy_25 : decode cX5_copy 25 = .ok (.putfield 9, 3) := dk_181 0 9 (dk_at dksX5_copy_1 3 rfl rfl)
theorem dX5_copy_28 : decode cX5_copy 28 = .ok (.aload_n 1, 1) := dk_43 (dk_at dksX5_copy_1 6 rfl rfl)
theorem dX5_copy_29 : decode cX5_copy 29 = .ok (.getfield 18, 3) := dk_180 0 18 (dk_at dksX5_copy_1 7 rfl rfl)
theorem dX5_copy_32 : decode cX5_copy 32 = .ok (.aload_n 0, 1) := dk_42 (dk_at dksX5_copy_1 10 rfl rfl)
theorem dX5_copy_33 : decode cX5_copy 33 = .ok (.getfield 18, 3) := dk_180 0 18 (dk_at dksX5_copy_1 11 rfl rfl)
theorem dX5_copy_36 : decode cX5_copy 36 = .ok (.invokevirtual 37, 3) := dk_182 0 37 (dk_at dksX5_copy_1 14 rfl rfl)
theorem dX5_copy_39 : decode cX5_copy 39 = .ok (.istore_n 2, 1) := dk_61 (dk_at dksX5_copy_1 17 rfl rfl)
theorem dX5_copy_40 : decode cX5_copy 40 = .ok (.aload_n 1, 1) := dk_43 (dk_at dksX5_copy_1 18 rfl rfl)
theorem dX5_copy_41 : decode cX5_copy 41 = .ok (.aload_n 0, 1) := dk_42 (dk_at dksX5_copy_1 19 rfl rfl)
theorem dX5_copy_42 : decode cX5_copy 42 = .ok (.getfield 41, 3) := dk_180 0 41 (dk_at dksX5_copy_1 20 rfl rfl)
theorem dX5_copy_45 : decode cX5_copy 45 = .ok (.putfield 41, 3) := dk_181 0 41 (dk_at dksX5_copy_2 0 rfl rfl)
theorem dX5_copy_48 : decode cX5_copy 48 = .ok (.aload_n 1, 1) := dk_43 (dk_at dksX5_copy_2 3 rfl rfl)
theorem dX5_copy_49 : decode cX5_copy 49 = .ok (.aload_n 0, 1) := dk_42 (dk_at dksX5_copy_2 4 rfl rfl)
theorem dX5_copy_50 : decode cX5_copy 50 = .ok (.getfield 22, 3) := dk_180 0 22 (dk_at dksX5_copy_2 5 rfl rfl)
theorem dX5_copy_53 : decode cX5_copy 53 = .ok (.putfield 22, 3) := dk_181 0 22 (dk_at dksX5_copy_2 8 rfl rfl)
theorem dX5_copy_56 : decode cX5_copy 56 = .ok (.aload_n 1, 1) := dk_43 (dk_at dksX5_copy_2 11 rfl rfl)
theorem dX5_copy_57 : decode cX5_copy 57 = .ok (.areturn, 1) := dk_176 (dk_at dksX5_copy_2 12 rfl rfl)
def dkwX5_init_1 : List UInt8 := [181, 0, 22, 42, 27, 181, 0, 25, 42, 28, 181, 0, 28, 42, 29, 181, 0, 31, 177]
abbrev dktX5_init_1 : List UInt8 := dkwX5_init_1 ++ []
def dkwX5_init_0 : List UInt8 := [42, 183, 0, 3, 42, 3, 181, 0, 9, 42, 187, 0, 15, 89, 183, 0, 17, 181, 0, 18, 42, 2]
abbrev dktX5_init_0 : List UInt8 := dkwX5_init_0 ++ dktX5_init_1
theorem dksX5_init_0 : cX5_init.data.toList.drop 0 = dktX5_init_0 := by decide +kernel
theorem dksX5_init_1 : cX5_init.data.toList.drop 22 = dktX5_init_1 := dk_seg dksX5_init_0 22 rfl rfl
theorem dX5_init_0 : decode cX5_init 0 = .ok (.aload_n 0, 1) := dk_42 (dk_at dksX5_init_0 0 rfl rfl)
theorem dX5_init_1 : decode cX5_init 1 = .ok (.invokespecial 3, 3) := dk_183 0 3 (dk_at dksX5_init_0 1 rfl rfl)
theorem dX5_init_4 : decode cX5_init 4 = .ok (.aload_n 0, 1) := dk_42 (dk_at dksX5_init_0 4 rfl rfl)
theorem dX5_init_5 : decode cX5_init 5 = .ok (.iconst 0, 1) := dk_3 (dk_at dksX5_init_0 5 rfl rfl)
theorem dX5_init_6 : decode cX5_init 6 = .ok (.putfield 9, 3) := dk_181 0 9 (dk_at dksX5_init_0 6 rfl rfl)
theorem dX5_init_9 : decode cX5_init 9 = .ok (.aload_n 0, 1) := dk_42 (dk_at dksX5_init_0 9 rfl rfl)
theorem dX5_init_10 : decode cX5_init 10 = .ok (.new 15, 3) := dk_187 0 15 (dk_at dksX5_init_0 10 rfl rfl)
theorem dX5_init_13 : decode cX5_init 13 = .ok (.dup, 1) := dk_89 (dk_at dksX5_init_0 13 rfl rfl)
theorem dX5_init_14 : decode cX5_init 14 = .ok (.invokespecial 17, 3) := dk_183 0 17 (dk_at dksX5_init_0 14 rfl rfl)
theorem dX5_init_17 : decode cX5_init 17 = .ok (.putfield 18, 3) := dk_181 0 18 (dk_at dksX5_init_0 17 rfl rfl)
theorem dX5_init_20 : decode cX5_init 20 = .ok (.aload_n 0, 1) := dk_42 (dk_at dksX5_init_0 20 rfl rfl)
theorem dX5_init_21 : decode cX5_init 21 = .ok (.iconst (-1), 1) := dk_2 (dk_at dksX5_init_0 21 rfl rfl)
theorem dX5_init_22 : decode cX5_init 22 = .ok (.putfield 22, 3) := dk_181 0 22 (dk_at dksX5_init_1 0 rfl rfl)
theorem dX5_init_25 : decode cX5_init 25 = .ok (.aload_n 0, 1) := dk_42 (dk_at dksX5_init_1 3 rfl rfl)
theorem dX5_init_26 : decode cX5_init 26 = .ok (.iload_n 1, 1) := dk_27 (dk_at dksX5_init_1 4 rfl rfl)
theorem dX5_init_27 : decode cX5_init 27 = .ok (.putfield 25, 3) := dk_181 0 25 (dk_at dksX5_init_1 5 rfl rfl)
theorem dX5_init_30 : decode cX5_init 30 = .ok (.aload_n 0, 1) := dk_42 (dk_at dksX5_init_1 8 rfl rfl)
theorem dX5_init_31 : decode cX5_init 31 = .ok (.iload_n 2, 1) := dk_28 (dk_at dksX5_init_1 9 rfl rfl)
theorem dX5_init_32 : decode cX5_init 32 = .ok (.putfield 28, 3) := dk_181 0 28 (dk_at dksX5_init_1 10 rfl rfl)
theorem dX5_init_35 : decode cX5_init 35 = .ok (.aload_n 0, 1) := dk_42 (dk_at dksX5_init_1 13 rfl rfl)
theorem dX5_init_36 : decode cX5_init 36 = .ok (.iload_n 3, 1) := dk_29 (dk_at dksX5_init_1 14 rfl rfl)
theorem dX5_init_37 : decode cX5_init 37 = .ok (.putfield 31, 3) := dk_181 0 31 (dk_at dksX5_init_1 15 rfl rfl)
theorem dX5_init_40 : decode cX5_init 40 = .ok (.return_, 1) := dk_177 (dk_at dksX5_init_1 18 rfl rfl)
def dkwX5_renumber_2 : List UInt8 := [45, 180, 0, 63, 183, 0, 74, 182, 0, 77, 192, 0, 58, 58, 4, 132, 2, 1, 167, 255, 192, 177]
abbrev dktX5_renumber_2 : List UInt8 := dkwX5_renumber_2 ++ []
def dkwX5_renumber_1 : List UInt8 := [78, 45, 180, 0, 60, 27, 164, 0, 33, 42, 180, 0, 18, 28, 187, 0, 58, 89, 45, 180, 0, 60, 4, 100]
abbrev dktX5_renumber_1 : List UInt8 := dkwX5_renumber_1 ++ dktX5_renumber_2
def dkwX5_renumber_0 : List UInt8 := [3, 61, 28, 42, 180, 0, 18, 182, 0, 66, 162, 0, 59, 42, 180, 0, 18, 28, 182, 0, 70, 192, 0, 58]
abbrev dktX5_renumber_0 : List UInt8 := dkwX5_renumber_0 ++ dktX5_renumber_1
theorem dksX5_renumber_0 : cX5_renumber.data.toList.drop 0 = dktX5_renumber_0 := by decide +kernel
theorem dksX5_renumber_1 : cX5_renumber.data.toList.drop 24 = dktX5_renumber_1 := dk_seg dksX5_renumber_0 24 rfl rfl
theorem dksX5_renumber_2 : cX5_renumber.data.toList.drop 48 = dktX5_renumber_2 := dk_seg dksX5_renumber_1 24 rfl rfl
theorem dX5_renumber_0 : decode cX5_renumber 0 = .ok (.iconst 0, 1) := dk_3 (dk_at dksX5_renumber_0 0 rfl rfl)
theorem dX5_renumber_1 : decode cX5_renumber 1 = .ok (.istore_n 2, 1) := dk_61 (dk_at dksX5_renumber_0 1 rfl rfl)
theorem dX5_renumber_2 : decode cX5_renumber 2 = .ok (.iload_n 2, 1) := dk_28 (dk_at dksX5_renumber_0 2 rfl rfl)
theorem dX5_renumber_3 : decode cX5_renumber 3 = .ok (.aload_n 0, 1) := dk_42 (dk_at dksX5_renumber_0 3 rfl rfl)
theorem dX5_renumber_4 : decode cX5_renumber 4 = .ok (.getfield 18, 3) := dk_180 0 18 (dk_at dksX5_renumber_0 4 rfl rfl)
theorem dX5_renumber_7 : decode cX5_renumber 7 = .ok (.invokevirtual 66, 3) := dk_182 0 66 (dk_at dksX5_renumber_0 7 rfl rfl)
theorem dX5_renumber_10 : decode cX5_renumber 10 = .ok (.if_icmp .ge 59, 3) := dk_162 0 59 (dk_at dksX5_renumber_0 10 rfl rfl)
theorem dX5_renumber_13 : decode cX5_renumber 13 = .ok (.aload_n 0, 1) := dk_42 (dk_at dksX5_renumber_0 13 rfl rfl)
theorem dX5_renumber_14 : decode cX5_renumber 14 = .ok (.getfield 18, 3) := dk_180 0 18 (dk_at dksX5_renumber_0 14 rfl rfl)
theorem dX5_renumber_17 : decode cX5_renumber 17 = .ok (.iload_n 2, 1) := dk_28 (dk_at dksX5_renumber_0 17 rfl rfl)
theorem dX5_renumber_18 : decode cX5_renumber 18 = .ok (.invokevirtual 70, 3) := dk_182 0 70 (dk_at dksX5_renumber_0 18 rfl rfl)
theorem dX5_renumber_21 : decode cX5_renumber 21 = .ok (.checkcast 58, 3) := dk_192 0 58 (dk_at dksX5_renumber_0 21 rfl rfl)
theorem dX5_renumber_24 : decode cX5_renumber 24 = .ok (.astore_n 3, 1) := dk_78 (dk_at dksX5_renumber_1 0 rfl rfl)
theorem dX5_renumber_25 : decode cX5_renumber 25 = .ok (.aload_n 3, 1) := dk_45 (dk_at dksX5_renumber_1 1 rfl rfl)
theorem dX5_renumber_26 : decode cX5_renumber 26 = .ok (.getfield 60, 3) := dk_180 0 60 (dk_at dksX5_renumber_1 2 rfl rfl)
theorem dX5_renumber_29 : decode cX5_renumber 29 = .ok (.iload_n 1, 1) := dk_27 (dk_at dksX5_renumber_1 5 rfl rfl)
theorem dX5_renumber_30 : decode cX5_renumber 30 = .ok (.if_icmp .le 33, 3) := dk_164 0 33 (dk_at dksX5_renumber_1 6 rfl rfl)
theorem dX5_renumber_33 : decode cX5_renumber 33 = .ok (.aload_n 0, 1) := dk_42 (dk_at dksX5_renumber_1 9 rfl rfl)
theorem dX5_renumber_34 : decode cX5_renumber 34 = .ok (.getfield 18, 3) := dk_180 0 18 (dk_at dksX5_renumber_1 10 rfl rfl)
theorem dX5_renumber_37 : decode cX5_renumber 37 = .ok (.iload_n 2, 1) := dk_28 (dk_at dksX5_renumber_1 13 rfl rfl)
theorem dX5_renumber_38 : decode cX5_renumber 38 = .ok (.new 58, 3) := dk_187 0 58 (dk_at dksX5_renumber_1 14 rfl rfl)
theorem dX5_renumber_41 : decode cX5_renumber 41 = .ok (.dup, 1) := dk_89 (dk_at dksX5_renumber_1 17 rfl rfl)
theorem dX5_renumber_42 : decode cX5_renumber 42 = .ok (.aload_n 3, 1) := dk_45 (dk_at dksX5_renumber_1 18 rfl rfl)
theorem dX5_renumber_43 : decode cX5_renumber 43 = .ok (.getfield 60, 3) := dk_180 0 60 (dk_at dksX5_renumber_1 19 rfl rfl)
theorem dX5_renumber_46 : decode cX5_renumber 46 = .ok (.iconst 1, 1) := dk_4 (dk_at dksX5_renumber_1 22 rfl rfl)
theorem dX5_renumber_47 : decode cX5_renumber 47 = .ok (.isub, 1) := dk_100 (dk_at dksX5_renumber_1 23 rfl rfl)
theorem dX5_renumber_48 : decode cX5_renumber 48 = .ok (.aload_n 3, 1) := dk_45 (dk_at dksX5_renumber_2 0 rfl rfl)
theorem dX5_renumber_49 : decode cX5_renumber 49 = .ok (.getfield 63, 3) := dk_180 0 63 (dk_at dksX5_renumber_2 1 rfl rfl)
theorem dX5_renumber_52 : decode cX5_renumber 52 = .ok (.invokespecial 74, 3) := dk_183 0 74 (dk_at dksX5_renumber_2 4 rfl rfl)
theorem dX5_renumber_55 : decode cX5_renumber 55 = .ok (.invokevirtual 77, 3) := dk_182 0 77 (dk_at dksX5_renumber_2 7 rfl rfl)
theorem dX5_renumber_58 : decode cX5_renumber 58 = .ok (.checkcast 58, 3) := dk_192 0 58 (dk_at dksX5_renumber_2 10 rfl rfl)
theorem dX5_renumber_61 : decode cX5_renumber 61 = .ok (.astore 4, 2) := dk_58 4 (dk_at dksX5_renumber_2 13 rfl rfl)
theorem dX5_renumber_63 : decode cX5_renumber 63 = .ok (.iinc 2 1, 3) := dk_132 2 1 (dk_at dksX5_renumber_2 15 rfl rfl)
theorem dX5_renumber_66 : decode cX5_renumber 66 = .ok (.goto (-64), 3) := dk_167 255 192 (dk_at dksX5_renumber_2 18 rfl rfl)
theorem dX5_renumber_69 : decode cX5_renumber 69 = .ok (.return_, 1) := dk_177 (dk_at dksX5_renumber_2 21 rfl rfl)
def dkwX6_copy_1 : List UInt8 := [43, 176]
abbrev dktX6_copy_1 : List UInt8 := dkwX6_copy_1 ++ []
def dkwX6_copy_0 : List UInt8 := [187, 0, 8, 89, 42, 180, 0, 7, 42, 180, 0, 13, 183, 0, 19, 76, 43, 42, 180, 0, 16, 181, 0, 16]
abbrev dktX6_copy_0 : List UInt8 := dkwX6_copy_0 ++ dktX6_copy_1
theorem dksX6_copy_0 : cX6_copy.data.toList.drop 0 = dktX6_copy_0 := by decide +kernel
theorem dksX6_copy_1 : cX6_copy.data.toList.drop 24 = dktX6_copy_1 := dk_seg dksX6_copy_0 24 rfl rfl
theorem dX6_copy_0 : decode cX6_copy 0 = .ok (.new 8, 3) := dk_187 0 8 (dk_at dksX6_copy_0 0 rfl rfl)
theorem dX6_copy_3 : decode cX6_copy 3 = .ok (.dup, 1) := dk_89 (dk_at dksX6_copy_0 3 rfl rfl)
theorem dX6_copy_4 : decode cX6_copy 4 = .ok (.aload_n 0, 1) := dk_42 (dk_at dksX6_copy_0 4 rfl rfl)
theorem dX6_copy_5 : decode cX6_copy 5 = .ok (.getfield 7, 3) := dk_180 0 7 (dk_at dksX6_copy_0 5 rfl rfl)
theorem dX6_copy_8 : decode cX6_copy 8 = .ok (.aload_n 0, 1) := dk_42 (dk_at dksX6_copy_0 8 rfl rfl)
theorem dX6_copy_9 : decode cX6_copy 9 = .ok (.getfield 13, 3) := dk_180 0 13 (dk_at dksX6_copy_0 9 rfl rfl)
theorem dX6_copy_12 : decode cX6_copy 12 = .ok (.invokespecial 19, 3) := dk_183 0 19 (dk_at dksX6_copy_0 12 rfl rfl)
theorem dX6_copy_15 : decode cX6_copy 15 = .ok (.astore_n 1, 1) := dk_76 (dk_at dksX6_copy_0 15 rfl rfl)
theorem dX6_copy_16 : decode cX6_copy 16 = .ok (.aload_n 1, 1) := dk_43 (dk_at dksX6_copy_0 16 rfl rfl)
theorem dX6_copy_17 : decode cX6_copy 17 = .ok (.aload_n 0, 1) := dk_42 (dk_at dksX6_copy_0 17 rfl rfl)
theorem dX6_copy_18 : decode cX6_copy 18 = .ok (.getfield 16, 3) := dk_180 0 16 (dk_at dksX6_copy_0 18 rfl rfl)
theorem dX6_copy_21 : decode cX6_copy 21 = .ok (.putfield 16, 3) := dk_181 0 16 (dk_at dksX6_copy_0 21 rfl rfl)
theorem dX6_copy_24 : decode cX6_copy 24 = .ok (.aload_n 1, 1) := dk_43 (dk_at dksX6_copy_1 0 rfl rfl)
theorem dX6_copy_25 : decode cX6_copy 25 = .ok (.areturn, 1) := dk_176 (dk_at dksX6_copy_1 1 rfl rfl)
def dkwX6_init_0 : List UInt8 := [42, 183, 0, 1, 42, 27, 181, 0, 7, 42, 28, 181, 0, 13, 42, 28, 181, 0, 16, 177]
abbrev dktX6_init_0 : List UInt8 := dkwX6_init_0 ++ []
theorem dksX6_init_0 : cX6_init.data.toList.drop 0 = dktX6_init_0 := by decide +kernel
theorem dX6_init_0 : decode cX6_init 0 = .ok (.aload_n 0, 1) := dk_42 (dk_at dksX6_init_0 0 rfl rfl)
theorem dX6_init_1 : decode cX6_init 1 = .ok (.invokespecial 1, 3) := dk_183 0 1 (dk_at dksX6_init_0 1 rfl rfl)
theorem dX6_init_4 : decode cX6_init 4 = .ok (.aload_n 0, 1) := dk_42 (dk_at dksX6_init_0 4 rfl rfl)
theorem dX6_init_5 : decode cX6_init 5 = .ok (.iload_n 1, 1) := dk_27 (dk_at dksX6_init_0 5 rfl rfl)
theorem dX6_init_6 : decode cX6_init 6 = .ok (.putfield 7, 3) := dk_181 0 7 (dk_at dksX6_init_0 6 rfl rfl)
theorem dX6_init_9 : decode cX6_init 9 = .ok (.aload_n 0, 1) := dk_42 (dk_at dksX6_init_0 9 rfl rfl)
theorem dX6_init_10 : decode cX6_init 10 = .ok (.iload_n 2, 1) := dk_28 (dk_at dksX6_init_0 10 rfl rfl)
theorem dX6_init_11 : decode cX6_init 11 = .ok (.putfield 13, 3) := dk_181 0 13 (dk_at dksX6_init_0 11 rfl rfl)
theorem dX6_init_14 : decode cX6_init 14 = .ok (.aload_n 0, 1) := dk_42 (dk_at dksX6_init_0 14 rfl rfl)
theorem dX6_init_15 : decode cX6_init 15 = .ok (.iload_n 2, 1) := dk_28 (dk_at dksX6_init_0 15 rfl rfl)
theorem dX6_init_16 : decode cX6_init 16 = .ok (.putfield 16, 3) := dk_181 0 16 (dk_at dksX6_init_0 16 rfl rfl)
theorem dX6_init_19 : decode cX6_init 19 = .ok (.return_, 1) := dk_177 (dk_at dksX6_init_0 19 rfl rfl)
def dkwX7_init_0 : List UInt8 := [42, 183, 0, 1, 42, 27, 181, 0, 7, 42, 28, 181, 0, 13, 177]
abbrev dktX7_init_0 : List UInt8 := dkwX7_init_0 ++ []
theorem dksX7_init_0 : cX7_init.data.toList.drop 0 = dktX7_init_0 := by decide +kernel
theorem dX7_init_0 : decode cX7_init 0 = .ok (.aload_n 0, 1) := dk_42 (dk_at dksX7_init_0 0 rfl rfl)
theorem dX7_init_1 : decode cX7_init 1 = .ok (.invokespecial 1, 3) := dk_183 0 1 (dk_at dksX7_init_0 1 rfl rfl)
theorem dX7_init_4 : decode cX7_init 4 = .ok (.aload_n 0, 1) := dk_42 (dk_at dksX7_init_0 4 rfl rfl)
theorem dX7_init_5 : decode cX7_init 5 = .ok (.iload_n 1, 1) := dk_27 (dk_at dksX7_init_0 5 rfl rfl)
theorem dX7_init_6 : decode cX7_init 6 = .ok (.putfield 7, 3) := dk_181 0 7 (dk_at dksX7_init_0 6 rfl rfl)
theorem dX7_init_9 : decode cX7_init 9 = .ok (.aload_n 0, 1) := dk_42 (dk_at dksX7_init_0 9 rfl rfl)
theorem dX7_init_10 : decode cX7_init 10 = .ok (.iload_n 2, 1) := dk_28 (dk_at dksX7_init_0 10 rfl rfl)
theorem dX7_init_11 : decode cX7_init 11 = .ok (.putfield 13, 3) := dk_181 0 13 (dk_at dksX7_init_0 11 rfl rfl)
theorem dX7_init_14 : decode cX7_init 14 = .ok (.return_, 1) := dk_177 (dk_at dksX7_init_0 14 rfl rfl)
def dkwX9_init_0 : List UInt8 := [42, 43, 181, 0, 1, 42, 28, 181, 0, 7, 42, 43, 183, 0, 11, 177]
abbrev dktX9_init_0 : List UInt8 := dkwX9_init_0 ++ []
theorem dksX9_init_0 : cX9_init.data.toList.drop 0 = dktX9_init_0 := by decide +kernel
theorem dX9_init_0 : decode cX9_init 0 = .ok (.aload_n 0, 1) := dk_42 (dk_at dksX9_init_0 0 rfl rfl)
theorem dX9_init_1 : decode cX9_init 1 = .ok (.aload_n 1, 1) := dk_43 (dk_at dksX9_init_0 1 rfl rfl)
theorem dX9_init_2 : decode cX9_init 2 = .ok (.putfield 1, 3) := dk_181 0 1 (dk_at dksX9_init_0 2 rfl rfl)
theorem dX9_init_5 : decode cX9_init 5 = .ok (.aload_n 0, 1) := dk_42 (dk_at dksX9_init_0 5 rfl rfl)
theorem dX9_init_6 : decode cX9_init 6 = .ok (.iload_n 2, 1) := dk_28 (dk_at dksX9_init_0 6 rfl rfl)
theorem dX9_init_7 : decode cX9_init 7 = .ok (.putfield 7, 3) := dk_181 0 7 (dk_at dksX9_init_0 7 rfl rfl)
theorem dX9_init_10 : decode cX9_init 10 = .ok (.aload_n 0, 1) := dk_42 (dk_at dksX9_init_0 10 rfl rfl)
theorem dX9_init_11 : decode cX9_init 11 = .ok (.aload_n 1, 1) := dk_43 (dk_at dksX9_init_0 11 rfl rfl)
theorem dX9_init_12 : decode cX9_init 12 = .ok (.invokespecial 11, 3) := dk_183 0 11 (dk_at dksX9_init_0 12 rfl rfl)
theorem dX9_init_15 : decode cX9_init 15 = .ok (.return_, 1) := dk_177 (dk_at dksX9_init_0 15 rfl rfl)
def dkwX9_does_0 : List UInt8 := [43, 42, 180, 0, 7, 182, 0, 17, 172]
abbrev dktX9_does_0 : List UInt8 := dkwX9_does_0 ++ []
theorem dksX9_does_0 : cX9_does.data.toList.drop 0 = dktX9_does_0 := by decide +kernel
theorem dX9_does_0 : decode cX9_does 0 = .ok (.aload_n 1, 1) := dk_43 (dk_at dksX9_does_0 0 rfl rfl)
theorem dX9_does_1 : decode cX9_does 1 = .ok (.aload_n 0, 1) := dk_42 (dk_at dksX9_does_0 1 rfl rfl)
theorem dX9_does_2 : decode cX9_does 2 = .ok (.getfield 7, 3) := dk_180 0 7 (dk_at dksX9_does_0 2 rfl rfl)
theorem dX9_does_5 : decode cX9_does 5 = .ok (.invokevirtual 17, 3) := dk_182 0 17 (dk_at dksX9_does_0 5 rfl rfl)
theorem dX9_does_8 : decode cX9_does 8 = .ok (.ireturn, 1) := dk_172 (dk_at dksX9_does_0 8 rfl rfl)
def dkwX15_does_0 : List UInt8 := [43, 42, 180, 0, 7, 182, 0, 17, 172]
abbrev dktX15_does_0 : List UInt8 := dkwX15_does_0 ++ []
theorem dksX15_does_0 : cX15_does.data.toList.drop 0 = dktX15_does_0 := by decide +kernel
theorem dX15_does_0 : decode cX15_does 0 = .ok (.aload_n 1, 1) := dk_43 (dk_at dksX15_does_0 0 rfl rfl)
theorem dX15_does_1 : decode cX15_does 1 = .ok (.aload_n 0, 1) := dk_42 (dk_at dksX15_does_0 1 rfl rfl)
theorem dX15_does_2 : decode cX15_does 2 = .ok (.getfield 7, 3) := dk_180 0 7 (dk_at dksX15_does_0 2 rfl rfl)
theorem dX15_does_5 : decode cX15_does 5 = .ok (.invokevirtual 17, 3) := dk_182 0 17 (dk_at dksX15_does_0 5 rfl rfl)
theorem dX15_does_8 : decode cX15_does 8 = .ok (.ireturn, 1) := dk_172 (dk_at dksX15_does_0 8 rfl rfl)
def dkwX15_init_0 : List UInt8 := [42, 43, 181, 0, 1, 42, 28, 181, 0, 7, 42, 43, 183, 0, 11, 177]
abbrev dktX15_init_0 : List UInt8 := dkwX15_init_0 ++ []
theorem dksX15_init_0 : cX15_init.data.toList.drop 0 = dktX15_init_0 := by decide +kernel
theorem dX15_init_0 : decode cX15_init 0 = .ok (.aload_n 0, 1) := dk_42 (dk_at dksX15_init_0 0 rfl rfl)
theorem dX15_init_1 : decode cX15_init 1 = .ok (.aload_n 1, 1) := dk_43 (dk_at dksX15_init_0 1 rfl rfl)
theorem dX15_init_2 : decode cX15_init 2 = .ok (.putfield 1, 3) := dk_181 0 1 (dk_at dksX15_init_0 2 rfl rfl)
theorem dX15_init_5 : decode cX15_init 5 = .ok (.aload_n 0, 1) := dk_42 (dk_at dksX15_init_0 5 rfl rfl)
theorem dX15_init_6 : decode cX15_init 6 = .ok (.iload_n 2, 1) := dk_28 (dk_at dksX15_init_0 6 rfl rfl)
theorem dX15_init_7 : decode cX15_init 7 = .ok (.putfield 7, 3) := dk_181 0 7 (dk_at dksX15_init_0 7 rfl rfl)
theorem dX15_init_10 : decode cX15_init 10 = .ok (.aload_n 0, 1) := dk_42 (dk_at dksX15_init_0 10 rfl rfl)
theorem dX15_init_11 : decode cX15_init 11 = .ok (.aload_n 1, 1) := dk_43 (dk_at dksX15_init_0 11 rfl rfl)
theorem dX15_init_12 : decode cX15_init 12 = .ok (.invokespecial 11, 3) := dk_183 0 11 (dk_at dksX15_init_0 12 rfl rfl)
theorem dX15_init_15 : decode cX15_init 15 = .ok (.return_, 1) := dk_177 (dk_at dksX15_init_0 15 rfl rfl)
def dkwX10_of_1 : List UInt8 := [183, 0, 17, 176]
abbrev dktX10_of_1 : List UInt8 := dkwX10_of_1 ++ []
def dkwX10_of_0 : List UInt8 := [26, 43, 190, 160, 0, 7, 1, 167, 0, 20, 187, 0, 8, 89, 43, 26, 46, 26, 4, 96, 43, 184, 0, 13]
abbrev dktX10_of_0 : List UInt8 := dkwX10_of_0 ++ dktX10_of_1
theorem dksX10_of_0 : cX10_of.data.toList.drop 0 = dktX10_of_0 := by decide +kernel
theorem dksX10_of_1 : cX10_of.data.toList.drop 24 = dktX10_of_1 := dk_seg dksX10_of_0 24 rfl rfl
theorem dX10_of_0 : decode cX10_of 0 = .ok (.iload_n 0, 1) := dk_26 (dk_at dksX10_of_0 0 rfl rfl)
theorem dX10_of_1 : decode cX10_of 1 = .ok (.aload_n 1, 1) := dk_43 (dk_at dksX10_of_0 1 rfl rfl)
theorem dX10_of_2 : decode cX10_of 2 = .ok (.arraylength, 1) := dk_190 (dk_at dksX10_of_0 2 rfl rfl)
theorem dX10_of_3 : decode cX10_of 3 = .ok (.if_icmp .ne 7, 3) := dk_160 0 7 (dk_at dksX10_of_0 3 rfl rfl)
theorem dX10_of_6 : decode cX10_of 6 = .ok (.aconst_null, 1) := dk_1 (dk_at dksX10_of_0 6 rfl rfl)
theorem dX10_of_7 : decode cX10_of 7 = .ok (.goto 20, 3) := dk_167 0 20 (dk_at dksX10_of_0 7 rfl rfl)
theorem dX10_of_10 : decode cX10_of 10 = .ok (.new 8, 3) := dk_187 0 8 (dk_at dksX10_of_0 10 rfl rfl)
theorem dX10_of_13 : decode cX10_of 13 = .ok (.dup, 1) := dk_89 (dk_at dksX10_of_0 13 rfl rfl)
theorem dX10_of_14 : decode cX10_of 14 = .ok (.aload_n 1, 1) := dk_43 (dk_at dksX10_of_0 14 rfl rfl)
theorem dX10_of_15 : decode cX10_of 15 = .ok (.iload_n 0, 1) := dk_26 (dk_at dksX10_of_0 15 rfl rfl)
theorem dX10_of_16 : decode cX10_of 16 = .ok (.iaload, 1) := dk_46 (dk_at dksX10_of_0 16 rfl rfl)
theorem dX10_of_17 : decode cX10_of 17 = .ok (.iload_n 0, 1) := dk_26 (dk_at dksX10_of_0 17 rfl rfl)
theorem dX10_of_18 : decode cX10_of 18 = .ok (.iconst 1, 1) := dk_4 (dk_at dksX10_of_0 18 rfl rfl)
theorem dX10_of_19 : decode cX10_of 19 = .ok (.iadd, 1) := dk_96 (dk_at dksX10_of_0 19 rfl rfl)
theorem dX10_of_20 : decode cX10_of 20 = .ok (.aload_n 1, 1) := dk_43 (dk_at dksX10_of_0 20 rfl rfl)
theorem dX10_of_21 : decode cX10_of 21 = .ok (.invokestatic 13, 3) := dk_184 0 13 (dk_at dksX10_of_0 21 rfl rfl)
theorem dX10_of_24 : decode cX10_of 24 = .ok (.invokespecial 17, 3) := dk_183 0 17 (dk_at dksX10_of_1 0 rfl rfl)
theorem dX10_of_27 : decode cX10_of 27 = .ok (.areturn, 1) := dk_176 (dk_at dksX10_of_1 3 rfl rfl)
def dkwX10_init_0 : List UInt8 := [42, 1, 44, 3, 3, 183, 0, 1, 42, 27, 181, 0, 7, 177]
abbrev dktX10_init_0 : List UInt8 := dkwX10_init_0 ++ []
theorem dksX10_init_0 : cX10_init.data.toList.drop 0 = dktX10_init_0 := by decide +kernel
theorem dX10_init_0 : decode cX10_init 0 = .ok (.aload_n 0, 1) := dk_42 (dk_at dksX10_init_0 0 rfl rfl)
theorem dX10_init_1 : decode cX10_init 1 = .ok (.aconst_null, 1) := dk_1 (dk_at dksX10_init_0 1 rfl rfl)
theorem dX10_init_2 : decode cX10_init 2 = .ok (.aload_n 2, 1) := dk_44 (dk_at dksX10_init_0 2 rfl rfl)
theorem dX10_init_3 : decode cX10_init 3 = .ok (.iconst 0, 1) := dk_3 (dk_at dksX10_init_0 3 rfl rfl)
theorem dX10_init_4 : decode cX10_init 4 = .ok (.iconst 0, 1) := dk_3 (dk_at dksX10_init_0 4 rfl rfl)
theorem dX10_init_5 : decode cX10_init 5 = .ok (.invokespecial 1, 3) := dk_183 0 1 (dk_at dksX10_init_0 5 rfl rfl)
theorem dX10_init_8 : decode cX10_init 8 = .ok (.aload_n 0, 1) := dk_42 (dk_at dksX10_init_0 8 rfl rfl)
theorem dX10_init_9 : decode cX10_init 9 = .ok (.iload_n 1, 1) := dk_27 (dk_at dksX10_init_0 9 rfl rfl)
theorem dX10_init_10 : decode cX10_init 10 = .ok (.putfield 7, 3) := dk_181 0 7 (dk_at dksX10_init_0 10 rfl rfl)
theorem dX10_init_13 : decode cX10_init 13 = .ok (.return_, 1) := dk_177 (dk_at dksX10_init_0 13 rfl rfl)
def dkwX10_chain_2 : List UInt8 := [182, 0, 20, 78, 132, 4, 1, 167, 255, 231, 44, 176]
abbrev dktX10_chain_2 : List UInt8 := dkwX10_chain_2 ++ []
def dkwX10_chain_1 : List UInt8 := [78, 3, 54, 4, 21, 4, 27, 162, 0, 25, 44, 21, 4, 45, 192, 0, 8, 180, 0, 7, 79, 45]
abbrev dktX10_chain_1 : List UInt8 := dkwX10_chain_1 ++ dktX10_chain_2
def dkwX10_chain_0 : List UInt8 := [3, 60, 42, 77, 44, 198, 0, 14, 132, 1, 1, 44, 182, 0, 20, 77, 167, 255, 244, 27, 188, 10, 77, 42]
abbrev dktX10_chain_0 : List UInt8 := dkwX10_chain_0 ++ dktX10_chain_1
theorem dksX10_chain_0 : cX10_chain.data.toList.drop 0 = dktX10_chain_0 := by decide +kernel
theorem dksX10_chain_1 : cX10_chain.data.toList.drop 24 = dktX10_chain_1 := dk_seg dksX10_chain_0 24 rfl rfl
theorem dksX10_chain_2 : cX10_chain.data.toList.drop 46 = dktX10_chain_2 := dk_seg dksX10_chain_1 22 rfl rfl
theorem dX10_chain_0 : decode cX10_chain 0 = .ok (.iconst 0, 1) := dk_3 (dk_at dksX10_chain_0 0 rfl rfl)
theorem dX10_chain_1 : decode cX10_chain 1 = .ok (.istore_n 1, 1) := dk_60 (dk_at dksX10_chain_0 1 rfl rfl)
theorem dX10_chain_2 : decode cX10_chain 2 = .ok (.aload_n 0, 1) := dk_42 (dk_at dksX10_chain_0 2 rfl rfl)
theorem dX10_chain_3 : decode cX10_chain 3 = .ok (.astore_n 2, 1) := dk_77 (dk_at dksX10_chain_0 3 rfl rfl)
theorem dX10_chain_4 : decode cX10_chain 4 = .ok (.aload_n 2, 1) := dk_44 (dk_at dksX10_chain_0 4 rfl rfl)
theorem dX10_chain_5 : decode cX10_chain 5 = .ok (.ifnull 14, 3) := dk_198 0 14 (dk_at dksX10_chain_0 5 rfl rfl)
theorem dX10_chain_8 : decode cX10_chain 8 = .ok (.iinc 1 1, 3) := dk_132 1 1 (dk_at dksX10_chain_0 8 rfl rfl)
theorem dX10_chain_11 : decode cX10_chain 11 = .ok (.aload_n 2, 1) := dk_44 (dk_at dksX10_chain_0 11 rfl rfl)
theorem dX10_chain_12 : decode cX10_chain 12 = .ok (.invokevirtual 20, 3) := dk_182 0 20 (dk_at dksX10_chain_0 12 rfl rfl)
theorem dX10_chain_15 : decode cX10_chain 15 = .ok (.astore_n 2, 1) := dk_77 (dk_at dksX10_chain_0 15 rfl rfl)
theorem dX10_chain_16 : decode cX10_chain 16 = .ok (.goto (-12), 3) := dk_167 255 244 (dk_at dksX10_chain_0 16 rfl rfl)
theorem dX10_chain_19 : decode cX10_chain 19 = .ok (.iload_n 1, 1) := dk_27 (dk_at dksX10_chain_0 19 rfl rfl)
theorem dX10_chain_20 : decode cX10_chain 20 = .ok (.newarray .int, 2) := dk_188_10 (dk_at dksX10_chain_0 20 rfl rfl)
theorem dX10_chain_22 : decode cX10_chain 22 = .ok (.astore_n 2, 1) := dk_77 (dk_at dksX10_chain_0 22 rfl rfl)
theorem dX10_chain_23 : decode cX10_chain 23 = .ok (.aload_n 0, 1) := dk_42 (dk_at dksX10_chain_0 23 rfl rfl)
theorem dX10_chain_24 : decode cX10_chain 24 = .ok (.astore_n 3, 1) := dk_78 (dk_at dksX10_chain_1 0 rfl rfl)
theorem dX10_chain_25 : decode cX10_chain 25 = .ok (.iconst 0, 1) := dk_3 (dk_at dksX10_chain_1 1 rfl rfl)
theorem dX10_chain_26 : decode cX10_chain 26 = .ok (.istore 4, 2) := dk_54 4 (dk_at dksX10_chain_1 2 rfl rfl)
theorem dX10_chain_28 : decode cX10_chain 28 = .ok (.iload 4, 2) := dk_21 4 (dk_at dksX10_chain_1 4 rfl rfl)
theorem dX10_chain_30 : decode cX10_chain 30 = .ok (.iload_n 1, 1) := dk_27 (dk_at dksX10_chain_1 6 rfl rfl)
theorem dX10_chain_31 : decode cX10_chain 31 = .ok (.if_icmp .ge 25, 3) := dk_162 0 25 (dk_at dksX10_chain_1 7 rfl rfl)
theorem dX10_chain_34 : decode cX10_chain 34 = .ok (.aload_n 2, 1) := dk_44 (dk_at dksX10_chain_1 10 rfl rfl)
theorem dX10_chain_35 : decode cX10_chain 35 = .ok (.iload 4, 2) := dk_21 4 (dk_at dksX10_chain_1 11 rfl rfl)
theorem dX10_chain_37 : decode cX10_chain 37 = .ok (.aload_n 3, 1) := dk_45 (dk_at dksX10_chain_1 13 rfl rfl)
theorem dX10_chain_38 : decode cX10_chain 38 = .ok (.checkcast 8, 3) := dk_192 0 8 (dk_at dksX10_chain_1 14 rfl rfl)
theorem dX10_chain_41 : decode cX10_chain 41 = .ok (.getfield 7, 3) := dk_180 0 7 (dk_at dksX10_chain_1 17 rfl rfl)
theorem dX10_chain_44 : decode cX10_chain 44 = .ok (.iastore, 1) := dk_79 (dk_at dksX10_chain_1 20 rfl rfl)
theorem dX10_chain_45 : decode cX10_chain 45 = .ok (.aload_n 3, 1) := dk_45 (dk_at dksX10_chain_1 21 rfl rfl)
theorem dX10_chain_46 : decode cX10_chain 46 = .ok (.invokevirtual 20, 3) := dk_182 0 20 (dk_at dksX10_chain_2 0 rfl rfl)
theorem dX10_chain_49 : decode cX10_chain 49 = .ok (.astore_n 3, 1) := dk_78 (dk_at dksX10_chain_2 3 rfl rfl)
theorem dX10_chain_50 : decode cX10_chain 50 = .ok (.iinc 4 1, 3) := dk_132 4 1 (dk_at dksX10_chain_2 4 rfl rfl)
theorem dX10_chain_53 : decode cX10_chain 53 = .ok (.goto (-25), 3) := dk_167 255 231 (dk_at dksX10_chain_2 7 rfl rfl)
theorem dX10_chain_56 : decode cX10_chain 56 = .ok (.aload_n 2, 1) := dk_44 (dk_at dksX10_chain_2 10 rfl rfl)
theorem dX10_chain_57 : decode cX10_chain 57 = .ok (.areturn, 1) := dk_176 (dk_at dksX10_chain_2 11 rfl rfl)
def dkwX14_init_0 : List UInt8 := [42, 7, 43, 183, 0, 1, 177]
abbrev dktX14_init_0 : List UInt8 := dkwX14_init_0 ++ []
theorem dksX14_init_0 : cX14_init.data.toList.drop 0 = dktX14_init_0 := by decide +kernel
theorem dX14_init_0 : decode cX14_init 0 = .ok (.aload_n 0, 1) := dk_42 (dk_at dksX14_init_0 0 rfl rfl)
theorem dX14_init_1 : decode cX14_init 1 = .ok (.iconst 4, 1) := dk_7 (dk_at dksX14_init_0 1 rfl rfl)
theorem dX14_init_2 : decode cX14_init 2 = .ok (.aload_n 1, 1) := dk_43 (dk_at dksX14_init_0 2 rfl rfl)
theorem dX14_init_3 : decode cX14_init 3 = .ok (.invokespecial 1, 3) := dk_183 0 1 (dk_at dksX14_init_0 3 rfl rfl)
theorem dX14_init_6 : decode cX14_init 6 = .ok (.return_, 1) := dk_177 (dk_at dksX14_init_0 6 rfl rfl)
def dkwX11_init_1 : List UInt8 := [44, 181, 0, 26, 42, 21, 4, 181, 0, 30, 42, 4, 29, 120, 181, 0, 33, 42, 29, 3, 182, 0, 36, 177]
abbrev dktX11_init_1 : List UInt8 := dkwX11_init_1 ++ []
def dkwX11_init_0 : List UInt8 := [42, 43, 181, 0, 3, 42, 183, 0, 9, 42, 16, 12, 188, 10, 181, 0, 15, 42, 18, 21, 181, 0, 22, 42]
abbrev dktX11_init_0 : List UInt8 := dkwX11_init_0 ++ dktX11_init_1
theorem dksX11_init_0 : cX11_init.data.toList.drop 0 = dktX11_init_0 := by decide +kernel
theorem dksX11_init_1 : cX11_init.data.toList.drop 24 = dktX11_init_1 := dk_seg dksX11_init_0 24 rfl rfl
theorem dX11_init_0 : decode cX11_init 0 = .ok (.aload_n 0, 1) := dk_42 (dk_at dksX11_init_0 0 rfl rfl)
theorem dX11_init_1 : decode cX11_init 1 = .ok (.aload_n 1, 1) := dk_43 (dk_at dksX11_init_0 1 rfl rfl)
theorem dX11_init_2 : decode cX11_init 2 = .ok (.putfield 3, 3) := dk_181 0 3 (dk_at dksX11_init_0 2 rfl rfl)
theorem dX11_init_5 : decode cX11_init 5 = .ok (.aload_n 0, 1) := dk_42 (dk_at dksX11_init_0 5 rfl rfl)
theorem dX11_init_6 : decode cX11_init 6 = .ok (.invokespecial 9, 3) := dk_183 0 9 (dk_at dksX11_init_0 6 rfl rfl)
theorem dX11_init_9 : decode cX11_init 9 = .ok (.aload_n 0, 1) := dk_42 (dk_at dksX11_init_0 9 rfl rfl)
theorem dX11_init_10 : decode cX11_init 10 = .ok (.bipush 12, 2) := dk_16 12 (dk_at dksX11_init_0 10 rfl rfl)
theorem dX11_init_12 : decode cX11_init 12 = .ok (.newarray .int, 2) := dk_188_10 (dk_at dksX11_init_0 12 rfl rfl)
theorem dX11_init_14 : decode cX11_init 14 = .ok (.putfield 15, 3) := dk_181 0 15 (dk_at dksX11_init_0 14 rfl rfl)
theorem dX11_init_17 : decode cX11_init 17 = .ok (.aload_n 0, 1) := dk_42 (dk_at dksX11_init_0 17 rfl rfl)
theorem dX11_init_18 : decode cX11_init 18 = .ok (.ldc 21, 2) := dk_18 21 (dk_at dksX11_init_0 18 rfl rfl)
theorem dX11_init_20 : decode cX11_init 20 = .ok (.putfield 22, 3) := dk_181 0 22 (dk_at dksX11_init_0 20 rfl rfl)
theorem dX11_init_23 : decode cX11_init 23 = .ok (.aload_n 0, 1) := dk_42 (dk_at dksX11_init_0 23 rfl rfl)
theorem dX11_init_24 : decode cX11_init 24 = .ok (.aload_n 2, 1) := dk_44 (dk_at dksX11_init_1 0 rfl rfl)
theorem dX11_init_25 : decode cX11_init 25 = .ok (.putfield 26, 3) := dk_181 0 26 (dk_at dksX11_init_1 1 rfl rfl)
theorem dX11_init_28 : decode cX11_init 28 = .ok (.aload_n 0, 1) := dk_42 (dk_at dksX11_init_1 4 rfl rfl)
theorem dX11_init_29 : decode cX11_init 29 = .ok (.iload 4, 2) := dk_21 4 (dk_at dksX11_init_1 5 rfl rfl)
theorem dX11_init_31 : decode cX11_init 31 = .ok (.putfield 30, 3) := dk_181 0 30 (dk_at dksX11_init_1 7 rfl rfl)
theorem dX11_init_34 : decode cX11_init 34 = .ok (.aload_n 0, 1) := dk_42 (dk_at dksX11_init_1 10 rfl rfl)
theorem dX11_init_35 : decode cX11_init 35 = .ok (.iconst 1, 1) := dk_4 (dk_at dksX11_init_1 11 rfl rfl)
theorem dX11_init_36 : decode cX11_init 36 = .ok (.iload_n 3, 1) := dk_29 (dk_at dksX11_init_1 12 rfl rfl)
theorem dX11_init_37 : decode cX11_init 37 = .ok (.ishl, 1) := dk_120 (dk_at dksX11_init_1 13 rfl rfl)
theorem dX11_init_38 : decode cX11_init 38 = .ok (.putfield 33, 3) := dk_181 0 33 (dk_at dksX11_init_1 14 rfl rfl)
theorem dX11_init_41 : decode cX11_init 41 = .ok (.aload_n 0, 1) := dk_42 (dk_at dksX11_init_1 17 rfl rfl)
theorem dX11_init_42 : decode cX11_init 42 = .ok (.iload_n 3, 1) := dk_29 (dk_at dksX11_init_1 18 rfl rfl)
theorem dX11_init_43 : decode cX11_init 43 = .ok (.iconst 0, 1) := dk_3 (dk_at dksX11_init_1 19 rfl rfl)
theorem dX11_init_44 : decode cX11_init 44 = .ok (.invokevirtual 36, 3) := dk_182 0 36 (dk_at dksX11_init_1 20 rfl rfl)
theorem dX11_init_47 : decode cX11_init 47 = .ok (.return_, 1) := dk_177 (dk_at dksX11_init_1 23 rfl rfl)
def dkwX11_go_8 : List UInt8 := [126, 181, 0, 33, 42, 89, 180, 0, 43, 4, 100, 181, 0, 43, 167, 255, 83, 177]
abbrev dktX11_go_8 : List UInt8 := dkwX11_go_8 ++ []
def dkwX11_go_7 : List UInt8 := [182, 0, 87, 192, 0, 93, 180, 0, 103, 96, 182, 0, 36, 42, 89, 180, 0, 33, 4, 21, 5, 120, 2, 130]
abbrev dktX11_go_7 : List UInt8 := dkwX11_go_7 ++ dktX11_go_8
def dkwX11_go_6 : List UInt8 := [180, 0, 33, 4, 21, 5, 120, 128, 181, 0, 33, 42, 21, 5, 28, 42, 180, 0, 3, 180, 0, 83, 21, 4]
abbrev dktX11_go_6 : List UInt8 := dkwX11_go_6 ++ dktX11_go_7
def dkwX11_go_5 : List UInt8 := [153, 0, 85, 42, 180, 0, 15, 42, 89, 180, 0, 43, 90, 4, 96, 181, 0, 43, 21, 4, 79, 42, 89]
abbrev dktX11_go_5 : List UInt8 := dkwX11_go_5 ++ dktX11_go_6
def dkwX11_go_4 : List UInt8 := [153, 0, 108, 42, 180, 0, 26, 198, 0, 19, 42, 180, 0, 3, 21, 4, 42, 180, 0, 26, 182, 0, 99]
abbrev dktX11_go_4 : List UInt8 := dkwX11_go_4 ++ dktX11_go_5
def dkwX11_go_3 : List UInt8 := [54, 5, 42, 180, 0, 33, 21, 5, 122, 4, 126, 154, 0, 7, 4, 167, 0, 4, 3, 54, 6, 21, 6]
abbrev dktX11_go_3 : List UInt8 := dkwX11_go_3 ++ dktX11_go_4
def dkwX11_go_2 : List UInt8 := [182, 0, 79, 54, 4, 42, 180, 0, 3, 180, 0, 83, 21, 4, 182, 0, 87, 192, 0, 93, 27, 182, 0, 95]
abbrev dktX11_go_2 : List UInt8 := dkwX11_go_2 ++ dktX11_go_3
def dkwX11_go_1 : List UInt8 := [185, 0, 64, 1, 0, 78, 45, 185, 0, 70, 1, 0, 153, 0, 170, 45, 185, 0, 76, 1, 0, 192, 0, 19]
abbrev dktX11_go_1 : List UInt8 := dkwX11_go_1 ++ dktX11_go_2
def dkwX11_go_0 : List UInt8 := [27, 42, 180, 0, 30, 160, 0, 9, 42, 28, 182, 0, 54, 177, 42, 180, 0, 3, 27, 182, 0, 58]
abbrev dktX11_go_0 : List UInt8 := dkwX11_go_0 ++ dktX11_go_1
theorem dksX11_go_0 : cX11_go.data.toList.drop 0 = dktX11_go_0 := by decide +kernel
theorem dksX11_go_1 : cX11_go.data.toList.drop 22 = dktX11_go_1 := dk_seg dksX11_go_0 22 rfl rfl
theorem dksX11_go_2 : cX11_go.data.toList.drop 46 = dktX11_go_2 := dk_seg dksX11_go_1 24 rfl rfl
theorem dksX11_go_3 : cX11_go.data.toList.drop 70 = dktX11_go_3 := dk_seg dksX11_go_2 24 rfl rfl
theorem dksX11_go_4 : cX11_go.data.toList.drop 93 = dktX11_go_4 := dk_seg dksX11_go_3 23 rfl rfl
theorem dksX11_go_5 : cX11_go.data.toList.drop 116 = dktX11_go_5 := dk_seg dksX11_go_4 23 rfl rfl
theorem dksX11_go_6 : cX11_go.data.toList.drop 139 = dktX11_go_6 := dk_seg dksX11_go_5 23 rfl rfl
theorem dksX11_go_7 : cX11_go.data.toList.drop 163 = dktX11_go_7 := dk_seg dksX11_go_6 24 rfl rfl
theorem dksX11_go_8 : cX11_go.data.toList.drop 187 = dktX11_go_8 := dk_seg dksX11_go_7 24 rfl rfl
theorem dX11_go_0 : decode cX11_go 0 = .ok (.iload_n 1, 1) := dk_27 (dk_at dksX11_go_0 0 rfl rfl)
theorem dX11_go_1 : decode cX11_go 1 = .ok (.aload_n 0, 1) := dk_42 (dk_at dksX11_go_0 1 rfl rfl)
theorem dX11_go_2 : decode cX11_go 2 = .ok (.getfield 30, 3) := dk_180 0 30 (dk_at dksX11_go_0 2 rfl rfl)
theorem dX11_go_5 : decode cX11_go 5 = .ok (.if_icmp .ne 9, 3) := dk_160 0 9 (dk_at dksX11_go_0 5 rfl rfl)
theorem dX11_go_8 : decode cX11_go 8 = .ok (.aload_n 0, 1) := dk_42 (dk_at dksX11_go_0 8 rfl rfl)
theorem dX11_go_9 : decode cX11_go 9 = .ok (.iload_n 2, 1) := dk_28 (dk_at dksX11_go_0 9 rfl rfl)
theorem dX11_go_10 : decode cX11_go 10 = .ok (.invokevirtual 54, 3) := dk_182 0 54 (dk_at dksX11_go_0 10 rfl rfl)
theorem dX11_go_13 : decode cX11_go 13 = .ok (.return_, 1) := dk_177 (dk_at dksX11_go_0 13 rfl rfl)
theorem dX11_go_14 : decode cX11_go 14 = .ok (.aload_n 0, 1) := dk_42 (dk_at dksX11_go_0 14 rfl rfl)
theorem dX11_go_15 : decode cX11_go 15 = .ok (.getfield 3, 3) := dk_180 0 3 (dk_at dksX11_go_0 15 rfl rfl)
theorem dX11_go_18 : decode cX11_go 18 = .ok (.iload_n 1, 1) := dk_27 (dk_at dksX11_go_0 18 rfl rfl)
theorem dX11_go_19 : decode cX11_go 19 = .ok (.invokevirtual 58, 3) := dk_182 0 58 (dk_at dksX11_go_0 19 rfl rfl)
theorem dX11_go_22 : decode cX11_go 22 = .ok (.invokeinterface 64 1, 5) := by decide +kernel
theorem dX11_go_27 : decode cX11_go 27 = .ok (.astore_n 3, 1) := dk_78 (dk_at dksX11_go_1 5 rfl rfl)
theorem dX11_go_28 : decode cX11_go 28 = .ok (.aload_n 3, 1) := dk_45 (dk_at dksX11_go_1 6 rfl rfl)
theorem dX11_go_29 : decode cX11_go 29 = .ok (.invokeinterface 70 1, 5) := by decide +kernel
theorem dX11_go_34 : decode cX11_go 34 = .ok (.ifCond .eq 170, 3) := dk_153 0 170 (dk_at dksX11_go_1 12 rfl rfl)
theorem dX11_go_37 : decode cX11_go 37 = .ok (.aload_n 3, 1) := dk_45 (dk_at dksX11_go_1 15 rfl rfl)
theorem dX11_go_38 : decode cX11_go 38 = .ok (.invokeinterface 76 1, 5) := by decide +kernel
theorem dX11_go_43 : decode cX11_go 43 = .ok (.checkcast 19, 3) := dk_192 0 19 (dk_at dksX11_go_1 21 rfl rfl)
theorem dX11_go_46 : decode cX11_go 46 = .ok (.invokevirtual 79, 3) := dk_182 0 79 (dk_at dksX11_go_2 0 rfl rfl)
theorem dX11_go_49 : decode cX11_go 49 = .ok (.istore 4, 2) := dk_54 4 (dk_at dksX11_go_2 3 rfl rfl)
theorem dX11_go_51 : decode cX11_go 51 = .ok (.aload_n 0, 1) := dk_42 (dk_at dksX11_go_2 5 rfl rfl)
theorem dX11_go_52 : decode cX11_go 52 = .ok (.getfield 3, 3) := dk_180 0 3 (dk_at dksX11_go_2 6 rfl rfl)
theorem dX11_go_55 : decode cX11_go 55 = .ok (.getfield 83, 3) := dk_180 0 83 (dk_at dksX11_go_2 9 rfl rfl)
theorem dX11_go_58 : decode cX11_go 58 = .ok (.iload 4, 2) := dk_21 4 (dk_at dksX11_go_2 12 rfl rfl)
theorem dX11_go_60 : decode cX11_go 60 = .ok (.invokevirtual 87, 3) := dk_182 0 87 (dk_at dksX11_go_2 14 rfl rfl)
theorem dX11_go_63 : decode cX11_go 63 = .ok (.checkcast 93, 3) := dk_192 0 93 (dk_at dksX11_go_2 17 rfl rfl)
theorem dX11_go_66 : decode cX11_go 66 = .ok (.iload_n 1, 1) := dk_27 (dk_at dksX11_go_2 20 rfl rfl)
theorem dX11_go_67 : decode cX11_go 67 = .ok (.invokevirtual 95, 3) := dk_182 0 95 (dk_at dksX11_go_2 21 rfl rfl)
theorem dX11_go_70 : decode cX11_go 70 = .ok (.istore 5, 2) := dk_54 5 (dk_at dksX11_go_3 0 rfl rfl)
theorem dX11_go_72 : decode cX11_go 72 = .ok (.aload_n 0, 1) := dk_42 (dk_at dksX11_go_3 2 rfl rfl)
theorem dX11_go_73 : decode cX11_go 73 = .ok (.getfield 33, 3) := dk_180 0 33 (dk_at dksX11_go_3 3 rfl rfl)
theorem dX11_go_76 : decode cX11_go 76 = .ok (.iload 5, 2) := dk_21 5 (dk_at dksX11_go_3 6 rfl rfl)
theorem dX11_go_78 : decode cX11_go 78 = .ok (.ishr, 1) := dk_122 (dk_at dksX11_go_3 8 rfl rfl)
theorem dX11_go_79 : decode cX11_go 79 = .ok (.iconst 1, 1) := dk_4 (dk_at dksX11_go_3 9 rfl rfl)
theorem dX11_go_80 : decode cX11_go 80 = .ok (.iand, 1) := dk_126 (dk_at dksX11_go_3 10 rfl rfl)
theorem dX11_go_81 : decode cX11_go 81 = .ok (.ifCond .ne 7, 3) := dk_154 0 7 (dk_at dksX11_go_3 11 rfl rfl)
theorem dX11_go_84 : decode cX11_go 84 = .ok (.iconst 1, 1) := dk_4 (dk_at dksX11_go_3 14 rfl rfl)
theorem dX11_go_85 : decode cX11_go 85 = .ok (.goto 4, 3) := dk_167 0 4 (dk_at dksX11_go_3 15 rfl rfl)
theorem dX11_go_88 : decode cX11_go 88 = .ok (.iconst 0, 1) := dk_3 (dk_at dksX11_go_3 18 rfl rfl)
theorem dX11_go_89 : decode cX11_go 89 = .ok (.istore 6, 2) := dk_54 6 (dk_at dksX11_go_3 19 rfl rfl)
theorem dX11_go_91 : decode cX11_go 91 = .ok (.iload 6, 2) := dk_21 6 (dk_at dksX11_go_3 21 rfl rfl)
theorem dX11_go_93 : decode cX11_go 93 = .ok (.ifCond .eq 108, 3) := dk_153 0 108 (dk_at dksX11_go_4 0 rfl rfl)
theorem dX11_go_96 : decode cX11_go 96 = .ok (.aload_n 0, 1) := dk_42 (dk_at dksX11_go_4 3 rfl rfl)
theorem dX11_go_97 : decode cX11_go 97 = .ok (.getfield 26, 3) := dk_180 0 26 (dk_at dksX11_go_4 4 rfl rfl)
theorem dX11_go_100 : decode cX11_go 100 = .ok (.ifnull 19, 3) := dk_198 0 19 (dk_at dksX11_go_4 7 rfl rfl)
theorem dX11_go_103 : decode cX11_go 103 = .ok (.aload_n 0, 1) := dk_42 (dk_at dksX11_go_4 10 rfl rfl)
theorem dX11_go_104 : decode cX11_go 104 = .ok (.getfield 3, 3) := dk_180 0 3 (dk_at dksX11_go_4 11 rfl rfl)
theorem dX11_go_107 : decode cX11_go 107 = .ok (.iload 4, 2) := dk_21 4 (dk_at dksX11_go_4 14 rfl rfl)
theorem dX11_go_109 : decode cX11_go 109 = .ok (.aload_n 0, 1) := dk_42 (dk_at dksX11_go_4 16 rfl rfl)
theorem dX11_go_110 : decode cX11_go 110 = .ok (.getfield 26, 3) := dk_180 0 26 (dk_at dksX11_go_4 17 rfl rfl)
theorem dX11_go_113 : decode cX11_go 113 = .ok (.invokevirtual 99, 3) := dk_182 0 99 (dk_at dksX11_go_4 20 rfl rfl)
theorem dX11_go_116 : decode cX11_go 116 = .ok (.ifCond .eq 85, 3) := dk_153 0 85 (dk_at dksX11_go_5 0 rfl rfl)
theorem dX11_go_119 : decode cX11_go 119 = .ok (.aload_n 0, 1) := dk_42 (dk_at dksX11_go_5 3 rfl rfl)
theorem dX11_go_120 : decode cX11_go 120 = .ok (.getfield 15, 3) := dk_180 0 15 (dk_at dksX11_go_5 4 rfl rfl)
theorem dX11_go_123 : decode cX11_go 123 = .ok (.aload_n 0, 1) := dk_42 (dk_at dksX11_go_5 7 rfl rfl)
theorem dX11_go_124 : decode cX11_go 124 = .ok (.dup, 1) := dk_89 (dk_at dksX11_go_5 8 rfl rfl)
theorem dX11_go_125 : decode cX11_go 125 = .ok (.getfield 43, 3) := dk_180 0 43 (dk_at dksX11_go_5 9 rfl rfl)
theorem dX11_go_128 : decode cX11_go 128 = .ok (.dup_x1, 1) := dk_90 (dk_at dksX11_go_5 12 rfl rfl)
theorem dX11_go_129 : decode cX11_go 129 = .ok (.iconst 1, 1) := dk_4 (dk_at dksX11_go_5 13 rfl rfl)
theorem dX11_go_130 : decode cX11_go 130 = .ok (.iadd, 1) := dk_96 (dk_at dksX11_go_5 14 rfl rfl)
theorem dX11_go_131 : decode cX11_go 131 = .ok (.putfield 43, 3) := dk_181 0 43 (dk_at dksX11_go_5 15 rfl rfl)
theorem dX11_go_134 : decode cX11_go 134 = .ok (.iload 4, 2) := dk_21 4 (dk_at dksX11_go_5 18 rfl rfl)
theorem dX11_go_136 : decode cX11_go 136 = .ok (.iastore, 1) := dk_79 (dk_at dksX11_go_5 20 rfl rfl)
theorem dX11_go_137 : decode cX11_go 137 = .ok (.aload_n 0, 1) := dk_42 (dk_at dksX11_go_5 21 rfl rfl)
theorem dX11_go_138 : decode cX11_go 138 = .ok (.dup, 1) := dk_89 (dk_at dksX11_go_5 22 rfl rfl)
theorem dX11_go_139 : decode cX11_go 139 = .ok (.getfield 33, 3) := dk_180 0 33 (dk_at dksX11_go_6 0 rfl rfl)
theorem dX11_go_142 : decode cX11_go 142 = .ok (.iconst 1, 1) := dk_4 (dk_at dksX11_go_6 3 rfl rfl)
theorem dX11_go_143 : decode cX11_go 143 = .ok (.iload 5, 2) := dk_21 5 (dk_at dksX11_go_6 4 rfl rfl)
theorem dX11_go_145 : decode cX11_go 145 = .ok (.ishl, 1) := dk_120 (dk_at dksX11_go_6 6 rfl rfl)
theorem dX11_go_146 : decode cX11_go 146 = .ok (.ior, 1) := dk_128 (dk_at dksX11_go_6 7 rfl rfl)
theorem dX11_go_147 : decode cX11_go 147 = .ok (.putfield 33, 3) := dk_181 0 33 (dk_at dksX11_go_6 8 rfl rfl)
theorem dX11_go_150 : decode cX11_go 150 = .ok (.aload_n 0, 1) := dk_42 (dk_at dksX11_go_6 11 rfl rfl)
theorem dX11_go_151 : decode cX11_go 151 = .ok (.iload 5, 2) := dk_21 5 (dk_at dksX11_go_6 12 rfl rfl)
theorem dX11_go_153 : decode cX11_go 153 = .ok (.iload_n 2, 1) := dk_28 (dk_at dksX11_go_6 14 rfl rfl)
theorem dX11_go_154 : decode cX11_go 154 = .ok (.aload_n 0, 1) := dk_42 (dk_at dksX11_go_6 15 rfl rfl)
theorem dX11_go_155 : decode cX11_go 155 = .ok (.getfield 3, 3) := dk_180 0 3 (dk_at dksX11_go_6 16 rfl rfl)
theorem dX11_go_158 : decode cX11_go 158 = .ok (.getfield 83, 3) := dk_180 0 83 (dk_at dksX11_go_6 19 rfl rfl)
theorem dX11_go_161 : decode cX11_go 161 = .ok (.iload 4, 2) := dk_21 4 (dk_at dksX11_go_6 22 rfl rfl)
theorem dX11_go_163 : decode cX11_go 163 = .ok (.invokevirtual 87, 3) := dk_182 0 87 (dk_at dksX11_go_7 0 rfl rfl)
theorem dX11_go_166 : decode cX11_go 166 = .ok (.checkcast 93, 3) := dk_192 0 93 (dk_at dksX11_go_7 3 rfl rfl)
theorem dX11_go_169 : decode cX11_go 169 = .ok (.getfield 103, 3) := dk_180 0 103 (dk_at dksX11_go_7 6 rfl rfl)
theorem dX11_go_172 : decode cX11_go 172 = .ok (.iadd, 1) := dk_96 (dk_at dksX11_go_7 9 rfl rfl)
theorem dX11_go_173 : decode cX11_go 173 = .ok (.invokevirtual 36, 3) := dk_182 0 36 (dk_at dksX11_go_7 10 rfl rfl)
theorem dX11_go_176 : decode cX11_go 176 = .ok (.aload_n 0, 1) := dk_42 (dk_at dksX11_go_7 13 rfl rfl)
theorem dX11_go_177 : decode cX11_go 177 = .ok (.dup, 1) := dk_89 (dk_at dksX11_go_7 14 rfl rfl)
theorem dX11_go_178 : decode cX11_go 178 = .ok (.getfield 33, 3) := dk_180 0 33 (dk_at dksX11_go_7 15 rfl rfl)
theorem dX11_go_181 : decode cX11_go 181 = .ok (.iconst 1, 1) := dk_4 (dk_at dksX11_go_7 18 rfl rfl)
theorem dX11_go_182 : decode cX11_go 182 = .ok (.iload 5, 2) := dk_21 5 (dk_at dksX11_go_7 19 rfl rfl)
theorem dX11_go_184 : decode cX11_go 184 = .ok (.ishl, 1) := dk_120 (dk_at dksX11_go_7 21 rfl rfl)
theorem dX11_go_185 : decode cX11_go 185 = .ok (.iconst (-1), 1) := dk_2 (dk_at dksX11_go_7 22 rfl rfl)
theorem dX11_go_186 : decode cX11_go 186 = .ok (.ixor, 1) := dk_130 (dk_at dksX11_go_7 23 rfl rfl)
theorem dX11_go_187 : decode cX11_go 187 = .ok (.iand, 1) := dk_126 (dk_at dksX11_go_8 0 rfl rfl)
theorem dX11_go_188 : decode cX11_go 188 = .ok (.putfield 33, 3) := dk_181 0 33 (dk_at dksX11_go_8 1 rfl rfl)
theorem dX11_go_191 : decode cX11_go 191 = .ok (.aload_n 0, 1) := dk_42 (dk_at dksX11_go_8 4 rfl rfl)
theorem dX11_go_192 : decode cX11_go 192 = .ok (.dup, 1) := dk_89 (dk_at dksX11_go_8 5 rfl rfl)
theorem dX11_go_193 : decode cX11_go 193 = .ok (.getfield 43, 3) := dk_180 0 43 (dk_at dksX11_go_8 6 rfl rfl)
theorem dX11_go_196 : decode cX11_go 196 = .ok (.iconst 1, 1) := dk_4 (dk_at dksX11_go_8 9 rfl rfl)
theorem dX11_go_197 : decode cX11_go 197 = .ok (.isub, 1) := dk_100 (dk_at dksX11_go_8 10 rfl rfl)
theorem dX11_go_198 : decode cX11_go 198 = .ok (.putfield 43, 3) := dk_181 0 43 (dk_at dksX11_go_8 11 rfl rfl)
theorem dX11_go_201 : decode cX11_go 201 = .ok (.goto (-173), 3) := dk_167 255 83 (dk_at dksX11_go_8 14 rfl rfl)
theorem dX11_go_204 : decode cX11_go 204 = .ok (.return_, 1) := dk_177 (dk_at dksX11_go_8 17 rfl rfl)
def dkwX11_arrive_2 : List UInt8 := [181, 0, 46, 42, 27, 181, 0, 22, 177]
abbrev dktX11_arrive_2 : List UInt8 := dkwX11_arrive_2 ++ []
def dkwX11_arrive_1 : List UInt8 := [162, 0, 30, 42, 42, 180, 0, 15, 182, 0, 49, 192, 0, 50, 181, 0, 40, 42, 42, 180, 0, 43]
abbrev dktX11_arrive_1 : List UInt8 := dkwX11_arrive_1 ++ dktX11_arrive_2
def dkwX11_arrive_0 : List UInt8 := [27, 42, 180, 0, 22, 161, 0, 22, 27, 42, 180, 0, 22, 160, 0, 41, 42, 180, 0, 43, 42, 180, 0, 46]
abbrev dktX11_arrive_0 : List UInt8 := dkwX11_arrive_0 ++ dktX11_arrive_1
theorem dksX11_arrive_0 : cX11_arrive.data.toList.drop 0 = dktX11_arrive_0 := by decide +kernel
theorem dksX11_arrive_1 : cX11_arrive.data.toList.drop 24 = dktX11_arrive_1 := dk_seg dksX11_arrive_0 24 rfl rfl
theorem dksX11_arrive_2 : cX11_arrive.data.toList.drop 46 = dktX11_arrive_2 := dk_seg dksX11_arrive_1 22 rfl rfl
theorem dX11_arrive_0 : decode cX11_arrive 0 = .ok (.iload_n 1, 1) := dk_27 (dk_at dksX11_arrive_0 0 rfl rfl)
theorem dX11_arrive_1 : decode cX11_arrive 1 = .ok (.aload_n 0, 1) := dk_42 (dk_at dksX11_arrive_0 1 rfl rfl)
theorem dX11_arrive_2 : decode cX11_arrive 2 = .ok (.getfield 22, 3) := dk_180 0 22 (dk_at dksX11_arrive_0 2 rfl rfl)
theorem dX11_arrive_5 : decode cX11_arrive 5 = .ok (.if_icmp .lt 22, 3) := dk_161 0 22 (dk_at dksX11_arrive_0 5 rfl rfl)
theorem dX11_arrive_8 : decode cX11_arrive 8 = .ok (.iload_n 1, 1) := dk_27 (dk_at dksX11_arrive_0 8 rfl rfl)
theorem dX11_arrive_9 : decode cX11_arrive 9 = .ok (.aload_n 0, 1) := dk_42 (dk_at dksX11_arrive_0 9 rfl rfl)
theorem dX11_arrive_10 : decode cX11_arrive 10 = .ok (.getfield 22, 3) := dk_180 0 22 (dk_at dksX11_arrive_0 10 rfl rfl)
theorem dX11_arrive_13 : decode cX11_arrive 13 = .ok (.if_icmp .ne 41, 3) := dk_160 0 41 (dk_at dksX11_arrive_0 13 rfl rfl)
theorem dX11_arrive_16 : decode cX11_arrive 16 = .ok (.aload_n 0, 1) := dk_42 (dk_at dksX11_arrive_0 16 rfl rfl)
theorem dX11_arrive_17 : decode cX11_arrive 17 = .ok (.getfield 43, 3) := dk_180 0 43 (dk_at dksX11_arrive_0 17 rfl rfl)
theorem dX11_arrive_20 : decode cX11_arrive 20 = .ok (.aload_n 0, 1) := dk_42 (dk_at dksX11_arrive_0 20 rfl rfl)
theorem dX11_arrive_21 : decode cX11_arrive 21 = .ok (.getfield 46, 3) := dk_180 0 46 (dk_at dksX11_arrive_0 21 rfl rfl)
theorem dX11_arrive_24 : decode cX11_arrive 24 = .ok (.if_icmp .ge 30, 3) := dk_162 0 30 (dk_at dksX11_arrive_1 0 rfl rfl)
theorem dX11_arrive_27 : decode cX11_arrive 27 = .ok (.aload_n 0, 1) := dk_42 (dk_at dksX11_arrive_1 3 rfl rfl)
theorem dX11_arrive_28 : decode cX11_arrive 28 = .ok (.aload_n 0, 1) := dk_42 (dk_at dksX11_arrive_1 4 rfl rfl)
theorem dX11_arrive_29 : decode cX11_arrive 29 = .ok (.getfield 15, 3) := dk_180 0 15 (dk_at dksX11_arrive_1 5 rfl rfl)
theorem dX11_arrive_32 : decode cX11_arrive 32 = .ok (.invokevirtual 49, 3) := dk_182 0 49 (dk_at dksX11_arrive_1 8 rfl rfl)
theorem dX11_arrive_35 : decode cX11_arrive 35 = .ok (.checkcast 50, 3) := dk_192 0 50 (dk_at dksX11_arrive_1 11 rfl rfl)
theorem dX11_arrive_38 : decode cX11_arrive 38 = .ok (.putfield 40, 3) := dk_181 0 40 (dk_at dksX11_arrive_1 14 rfl rfl)
theorem dX11_arrive_41 : decode cX11_arrive 41 = .ok (.aload_n 0, 1) := dk_42 (dk_at dksX11_arrive_1 17 rfl rfl)
theorem dX11_arrive_42 : decode cX11_arrive 42 = .ok (.aload_n 0, 1) := dk_42 (dk_at dksX11_arrive_1 18 rfl rfl)
theorem dX11_arrive_43 : decode cX11_arrive 43 = .ok (.getfield 43, 3) := dk_180 0 43 (dk_at dksX11_arrive_1 19 rfl rfl)
theorem dX11_arrive_46 : decode cX11_arrive 46 = .ok (.putfield 46, 3) := dk_181 0 46 (dk_at dksX11_arrive_2 0 rfl rfl)
theorem dX11_arrive_49 : decode cX11_arrive 49 = .ok (.aload_n 0, 1) := dk_42 (dk_at dksX11_arrive_2 3 rfl rfl)
theorem dX11_arrive_50 : decode cX11_arrive 50 = .ok (.iload_n 1, 1) := dk_27 (dk_at dksX11_arrive_2 4 rfl rfl)
theorem dX11_arrive_51 : decode cX11_arrive 51 = .ok (.putfield 22, 3) := dk_181 0 22 (dk_at dksX11_arrive_2 5 rfl rfl)
theorem dX11_arrive_54 : decode cX11_arrive 54 = .ok (.return_, 1) := dk_177 (dk_at dksX11_arrive_2 8 rfl rfl)
def dkwX11_isFound_0 : List UInt8 := [42, 180, 0, 40, 198, 0, 7, 4, 167, 0, 4, 3, 172]
abbrev dktX11_isFound_0 : List UInt8 := dkwX11_isFound_0 ++ []
theorem dksX11_isFound_0 : cX11_isFound.data.toList.drop 0 = dktX11_isFound_0 := by decide +kernel
theorem dX11_isFound_0 : decode cX11_isFound 0 = .ok (.aload_n 0, 1) := dk_42 (dk_at dksX11_isFound_0 0 rfl rfl)
theorem dX11_isFound_1 : decode cX11_isFound 1 = .ok (.getfield 40, 3) := dk_180 0 40 (dk_at dksX11_isFound_0 1 rfl rfl)
theorem dX11_isFound_4 : decode cX11_isFound 4 = .ok (.ifnull 7, 3) := dk_198 0 7 (dk_at dksX11_isFound_0 4 rfl rfl)
theorem dX11_isFound_7 : decode cX11_isFound 7 = .ok (.iconst 1, 1) := dk_4 (dk_at dksX11_isFound_0 7 rfl rfl)
theorem dX11_isFound_8 : decode cX11_isFound 8 = .ok (.goto 4, 3) := dk_167 0 4 (dk_at dksX11_isFound_0 8 rfl rfl)
theorem dX11_isFound_11 : decode cX11_isFound 11 = .ok (.iconst 0, 1) := dk_3 (dk_at dksX11_isFound_0 11 rfl rfl)
theorem dX11_isFound_12 : decode cX11_isFound 12 = .ok (.ireturn, 1) := dk_172 (dk_at dksX11_isFound_0 12 rfl rfl)
def dkwX12_init_0 : List UInt8 := [42, 43, 181, 0, 1, 42, 28, 181, 0, 7, 42, 183, 0, 11, 177]
abbrev dktX12_init_0 : List UInt8 := dkwX12_init_0 ++ []
theorem dksX12_init_0 : cX12_init.data.toList.drop 0 = dktX12_init_0 := by decide +kernel
theorem dX12_init_0 : decode cX12_init 0 = .ok (.aload_n 0, 1) := dk_42 (dk_at dksX12_init_0 0 rfl rfl)
theorem dX12_init_1 : decode cX12_init 1 = .ok (.aload_n 1, 1) := dk_43 (dk_at dksX12_init_0 1 rfl rfl)
theorem dX12_init_2 : decode cX12_init 2 = .ok (.putfield 1, 3) := dk_181 0 1 (dk_at dksX12_init_0 2 rfl rfl)
theorem dX12_init_5 : decode cX12_init 5 = .ok (.aload_n 0, 1) := dk_42 (dk_at dksX12_init_0 5 rfl rfl)
theorem dX12_init_6 : decode cX12_init 6 = .ok (.iload_n 2, 1) := dk_28 (dk_at dksX12_init_0 6 rfl rfl)
theorem dX12_init_7 : decode cX12_init 7 = .ok (.putfield 7, 3) := dk_181 0 7 (dk_at dksX12_init_0 7 rfl rfl)
theorem dX12_init_10 : decode cX12_init 10 = .ok (.aload_n 0, 1) := dk_42 (dk_at dksX12_init_0 10 rfl rfl)
theorem dX12_init_11 : decode cX12_init 11 = .ok (.invokespecial 11, 3) := dk_183 0 11 (dk_at dksX12_init_0 11 rfl rfl)
theorem dX12_init_14 : decode cX12_init 14 = .ok (.return_, 1) := dk_177 (dk_at dksX12_init_0 14 rfl rfl)
def dkwX12_iterator_0 : List UInt8 := [187, 0, 17, 89, 42, 183, 0, 19, 176]
abbrev dktX12_iterator_0 : List UInt8 := dkwX12_iterator_0 ++ []
theorem dksX12_iterator_0 : cX12_iterator.data.toList.drop 0 = dktX12_iterator_0 := by decide +kernel
theorem dX12_iterator_0 : decode cX12_iterator 0 = .ok (.new 17, 3) := dk_187 0 17 (dk_at dksX12_iterator_0 0 rfl rfl)
theorem dX12_iterator_3 : decode cX12_iterator 3 = .ok (.dup, 1) := dk_89 (dk_at dksX12_iterator_0 3 rfl rfl)
theorem dX12_iterator_4 : decode cX12_iterator 4 = .ok (.aload_n 0, 1) := dk_42 (dk_at dksX12_iterator_0 4 rfl rfl)
theorem dX12_iterator_5 : decode cX12_iterator 5 = .ok (.invokespecial 19, 3) := dk_183 0 19 (dk_at dksX12_iterator_0 5 rfl rfl)
theorem dX12_iterator_8 : decode cX12_iterator 8 = .ok (.areturn, 1) := dk_176 (dk_at dksX12_iterator_0 8 rfl rfl)
def dkwX13_hasNext_1 : List UInt8 := [3, 172]
abbrev dktX13_hasNext_1 : List UInt8 := dkwX13_hasNext_1 ++ []
def dkwX13_hasNext_0 : List UInt8 := [42, 180, 0, 19, 42, 180, 0, 3, 180, 0, 23, 180, 0, 29, 182, 0, 35, 162, 0, 7, 4, 167, 0, 4]
abbrev dktX13_hasNext_0 : List UInt8 := dkwX13_hasNext_0 ++ dktX13_hasNext_1
theorem dksX13_hasNext_0 : cX13_hasNext.data.toList.drop 0 = dktX13_hasNext_0 := by decide +kernel
theorem dksX13_hasNext_1 : cX13_hasNext.data.toList.drop 24 = dktX13_hasNext_1 := dk_seg dksX13_hasNext_0 24 rfl rfl
theorem dX13_hasNext_0 : decode cX13_hasNext 0 = .ok (.aload_n 0, 1) := dk_42 (dk_at dksX13_hasNext_0 0 rfl rfl)
theorem dX13_hasNext_1 : decode cX13_hasNext 1 = .ok (.getfield 19, 3) := dk_180 0 19 (dk_at dksX13_hasNext_0 1 rfl rfl)
theorem dX13_hasNext_4 : decode cX13_hasNext 4 = .ok (.aload_n 0, 1) := dk_42 (dk_at dksX13_hasNext_0 4 rfl rfl)
theorem dX13_hasNext_5 : decode cX13_hasNext 5 = .ok (.getfield 3, 3) := dk_180 0 3 (dk_at dksX13_hasNext_0 5 rfl rfl)
theorem dX13_hasNext_8 : decode cX13_hasNext 8 = .ok (.getfield 23, 3) := dk_180 0 23 (dk_at dksX13_hasNext_0 8 rfl rfl)
theorem dX13_hasNext_11 : decode cX13_hasNext 11 = .ok (.getfield 29, 3) := dk_180 0 29 (dk_at dksX13_hasNext_0 11 rfl rfl)
theorem dX13_hasNext_14 : decode cX13_hasNext 14 = .ok (.invokevirtual 35, 3) := dk_182 0 35 (dk_at dksX13_hasNext_0 14 rfl rfl)
theorem dX13_hasNext_17 : decode cX13_hasNext 17 = .ok (.if_icmp .ge 7, 3) := dk_162 0 7 (dk_at dksX13_hasNext_0 17 rfl rfl)
theorem dX13_hasNext_20 : decode cX13_hasNext 20 = .ok (.iconst 1, 1) := dk_4 (dk_at dksX13_hasNext_0 20 rfl rfl)
theorem dX13_hasNext_21 : decode cX13_hasNext 21 = .ok (.goto 4, 3) := dk_167 0 4 (dk_at dksX13_hasNext_0 21 rfl rfl)
theorem dX13_hasNext_24 : decode cX13_hasNext 24 = .ok (.iconst 0, 1) := dk_3 (dk_at dksX13_hasNext_1 0 rfl rfl)
theorem dX13_hasNext_25 : decode cX13_hasNext 25 = .ok (.ireturn, 1) := dk_172 (dk_at dksX13_hasNext_1 1 rfl rfl)
theorem dX13_next_0 : decode cX13_next 0 = .ok (.aload_n 0, 1) := by decide +kernel
theorem dX13_next_1 : decode cX13_next 1 = .ok (.invokevirtual 67, 3) := by decide +kernel
theorem dX13_next_4 : decode cX13_next 4 = .ok (.areturn, 1) := by decide +kernel
def dkwX13_next_2_1 : List UInt8 := [184, 0, 61, 176]
abbrev dktX13_next_2_1 : List UInt8 := dkwX13_next_2_1 ++ []
def dkwX13_next_2_0 : List UInt8 := [42, 182, 0, 53, 184, 0, 57, 42, 180, 0, 19, 60, 42, 42, 27, 4, 96, 182, 0, 15, 181, 0, 19, 27]
abbrev dktX13_next_2_0 : List UInt8 := dkwX13_next_2_0 ++ dktX13_next_2_1
theorem dksX13_next_2_0 : cX13_next_2.data.toList.drop 0 = dktX13_next_2_0 := by decide +kernel
theorem dksX13_next_2_1 : cX13_next_2.data.toList.drop 24 = dktX13_next_2_1 := dk_seg dksX13_next_2_0 24 rfl rfl
theorem dX13_next_2_0 : decode cX13_next_2 0 = .ok (.aload_n 0, 1) := dk_42 (dk_at dksX13_next_2_0 0 rfl rfl)
theorem dX13_next_2_1 : decode cX13_next_2 1 = .ok (.invokevirtual 53, 3) := dk_182 0 53 (dk_at dksX13_next_2_0 1 rfl rfl)
theorem dX13_next_2_4 : decode cX13_next_2 4 = .ok (.invokestatic 57, 3) := dk_184 0 57 (dk_at dksX13_next_2_0 4 rfl rfl)
theorem dX13_next_2_7 : decode cX13_next_2 7 = .ok (.aload_n 0, 1) := dk_42 (dk_at dksX13_next_2_0 7 rfl rfl)
theorem dX13_next_2_8 : decode cX13_next_2 8 = .ok (.getfield 19, 3) := dk_180 0 19 (dk_at dksX13_next_2_0 8 rfl rfl)
theorem dX13_next_2_11 : decode cX13_next_2 11 = .ok (.istore_n 1, 1) := dk_60 (dk_at dksX13_next_2_0 11 rfl rfl)
theorem dX13_next_2_12 : decode cX13_next_2 12 = .ok (.aload_n 0, 1) := dk_42 (dk_at dksX13_next_2_0 12 rfl rfl)
theorem dX13_next_2_13 : decode cX13_next_2 13 = .ok (.aload_n 0, 1) := dk_42 (dk_at dksX13_next_2_0 13 rfl rfl)
theorem dX13_next_2_14 : decode cX13_next_2 14 = .ok (.iload_n 1, 1) := dk_27 (dk_at dksX13_next_2_0 14 rfl rfl)
theorem dX13_next_2_15 : decode cX13_next_2 15 = .ok (.iconst 1, 1) := dk_4 (dk_at dksX13_next_2_0 15 rfl rfl)
theorem dX13_next_2_16 : decode cX13_next_2 16 = .ok (.iadd, 1) := dk_96 (dk_at dksX13_next_2_0 16 rfl rfl)
theorem dX13_next_2_17 : decode cX13_next_2 17 = .ok (.invokevirtual 15, 3) := dk_182 0 15 (dk_at dksX13_next_2_0 17 rfl rfl)
theorem dX13_next_2_20 : decode cX13_next_2 20 = .ok (.putfield 19, 3) := dk_181 0 19 (dk_at dksX13_next_2_0 20 rfl rfl)
theorem dX13_next_2_23 : decode cX13_next_2 23 = .ok (.iload_n 1, 1) := dk_27 (dk_at dksX13_next_2_0 23 rfl rfl)
theorem dX13_next_2_24 : decode cX13_next_2 24 = .ok (.invokestatic 61, 3) := dk_184 0 61 (dk_at dksX13_next_2_1 0 rfl rfl)
theorem dX13_next_2_27 : decode cX13_next_2 27 = .ok (.areturn, 1) := dk_176 (dk_at dksX13_next_2_1 3 rfl rfl)
def dkwX13_nextFrom_2 : List UInt8 := [160, 0, 9, 132, 2, 1, 167, 255, 205, 28, 172]
abbrev dktX13_nextFrom_2 : List UInt8 := dkwX13_nextFrom_2 ++ []
def dkwX13_nextFrom_1 : List UInt8 := [180, 0, 23, 180, 0, 29, 28, 182, 0, 41, 192, 0, 45, 42, 180, 0, 3, 180, 0, 47, 182, 0, 50, 2]
abbrev dktX13_nextFrom_1 : List UInt8 := dkwX13_nextFrom_1 ++ dktX13_nextFrom_2
def dkwX13_nextFrom_0 : List UInt8 := [27, 61, 28, 42, 180, 0, 3, 180, 0, 23, 180, 0, 29, 182, 0, 35, 162, 0, 40, 42, 180, 0, 3]
abbrev dktX13_nextFrom_0 : List UInt8 := dkwX13_nextFrom_0 ++ dktX13_nextFrom_1
theorem dksX13_nextFrom_0 : cX13_nextFrom.data.toList.drop 0 = dktX13_nextFrom_0 := by decide +kernel
theorem dksX13_nextFrom_1 : cX13_nextFrom.data.toList.drop 23 = dktX13_nextFrom_1 := dk_seg dksX13_nextFrom_0 23 rfl rfl
theorem dksX13_nextFrom_2 : cX13_nextFrom.data.toList.drop 47 = dktX13_nextFrom_2 := dk_seg dksX13_nextFrom_1 24 rfl rfl
theorem dX13_nextFrom_0 : decode cX13_nextFrom 0 = .ok (.iload_n 1, 1) := dk_27 (dk_at dksX13_nextFrom_0 0 rfl rfl)
theorem dX13_nextFrom_1 : decode cX13_nextFrom 1 = .ok (.istore_n 2, 1) := dk_61 (dk_at dksX13_nextFrom_0 1 rfl rfl)
theorem dX13_nextFrom_2 : decode cX13_nextFrom 2 = .ok (.iload_n 2, 1) := dk_28 (dk_at dksX13_nextFrom_0 2 rfl rfl)
theorem dX13_nextFrom_3 : decode cX13_nextFrom 3 = .ok (.aload_n 0, 1) := dk_42 (dk_at dksX13_nextFrom_0 3 rfl rfl)
theorem dX13_nextFrom_4 : decode cX13_nextFrom 4 = .ok (.getfield 3, 3) := dk_180 0 3 (dk_at dksX13_nextFrom_0 4 rfl rfl)
theorem dX13_nextFrom_7 : decode cX13_nextFrom 7 = .ok (.getfield 23, 3) := dk_180 0 23 (dk_at dksX13_nextFrom_0 7 rfl rfl)
theorem dX13_nextFrom_10 : decode cX13_nextFrom 10 = .ok (.getfield 29, 3) := dk_180 0 29 (dk_at dksX13_nextFrom_0 10 rfl rfl)
theorem dX13_nextFrom_13 : decode cX13_nextFrom 13 = .ok (.invokevirtual 35, 3) := dk_182 0 35 (dk_at dksX13_nextFrom_0 13 rfl rfl)
theorem dX13_nextFrom_16 : decode cX13_nextFrom 16 = .ok (.if_icmp .ge 40, 3) := dk_162 0 40 (dk_at dksX13_nextFrom_0 16 rfl rfl)
theorem dX13_nextFrom_19 : decode cX13_nextFrom 19 = .ok (.aload_n 0, 1) := dk_42 (dk_at dksX13_nextFrom_0 19 rfl rfl)
theorem dX13_nextFrom_20 : decode cX13_nextFrom 20 = .ok (.getfield 3, 3) := dk_180 0 3 (dk_at dksX13_nextFrom_0 20 rfl rfl)
theorem dX13_nextFrom_23 : decode cX13_nextFrom 23 = .ok (.getfield 23, 3) := dk_180 0 23 (dk_at dksX13_nextFrom_1 0 rfl rfl)
theorem dX13_nextFrom_26 : decode cX13_nextFrom 26 = .ok (.getfield 29, 3) := dk_180 0 29 (dk_at dksX13_nextFrom_1 3 rfl rfl)
theorem dX13_nextFrom_29 : decode cX13_nextFrom 29 = .ok (.iload_n 2, 1) := dk_28 (dk_at dksX13_nextFrom_1 6 rfl rfl)
theorem dX13_nextFrom_30 : decode cX13_nextFrom 30 = .ok (.invokevirtual 41, 3) := dk_182 0 41 (dk_at dksX13_nextFrom_1 7 rfl rfl)
theorem dX13_nextFrom_33 : decode cX13_nextFrom 33 = .ok (.checkcast 45, 3) := dk_192 0 45 (dk_at dksX13_nextFrom_1 10 rfl rfl)
theorem dX13_nextFrom_36 : decode cX13_nextFrom 36 = .ok (.aload_n 0, 1) := dk_42 (dk_at dksX13_nextFrom_1 13 rfl rfl)
theorem dX13_nextFrom_37 : decode cX13_nextFrom 37 = .ok (.getfield 3, 3) := dk_180 0 3 (dk_at dksX13_nextFrom_1 14 rfl rfl)
theorem dX13_nextFrom_40 : decode cX13_nextFrom 40 = .ok (.getfield 47, 3) := dk_180 0 47 (dk_at dksX13_nextFrom_1 17 rfl rfl)
theorem dX13_nextFrom_43 : decode cX13_nextFrom 43 = .ok (.invokevirtual 50, 3) := dk_182 0 50 (dk_at dksX13_nextFrom_1 20 rfl rfl)
theorem dX13_nextFrom_46 : decode cX13_nextFrom 46 = .ok (.iconst (-1), 1) := dk_2 (dk_at dksX13_nextFrom_1 23 rfl rfl)
theorem dX13_nextFrom_47 : decode cX13_nextFrom 47 = .ok (.if_icmp .ne 9, 3) := dk_160 0 9 (dk_at dksX13_nextFrom_2 0 rfl rfl)
theorem dX13_nextFrom_50 : decode cX13_nextFrom 50 = .ok (.iinc 2 1, 3) := dk_132 2 1 (dk_at dksX13_nextFrom_2 3 rfl rfl)
theorem dX13_nextFrom_53 : decode cX13_nextFrom 53 = .ok (.goto (-51), 3) := dk_167 255 205 (dk_at dksX13_nextFrom_2 6 rfl rfl)
theorem dX13_nextFrom_56 : decode cX13_nextFrom 56 = .ok (.iload_n 2, 1) := dk_28 (dk_at dksX13_nextFrom_2 9 rfl rfl)
theorem dX13_nextFrom_57 : decode cX13_nextFrom 57 = .ok (.ireturn, 1) := dk_172 (dk_at dksX13_nextFrom_2 10 rfl rfl)
def dkwX13_init_0 : List UInt8 := [42, 43, 181, 0, 3, 42, 183, 0, 9, 42, 42, 3, 182, 0, 15, 181, 0, 19, 177]
abbrev dktX13_init_0 : List UInt8 := dkwX13_init_0 ++ []
theorem dksX13_init_0 : cX13_init.data.toList.drop 0 = dktX13_init_0 := by decide +kernel
theorem dX13_init_0 : decode cX13_init 0 = .ok (.aload_n 0, 1) := dk_42 (dk_at dksX13_init_0 0 rfl rfl)
theorem dX13_init_1 : decode cX13_init 1 = .ok (.aload_n 1, 1) := dk_43 (dk_at dksX13_init_0 1 rfl rfl)
theorem dX13_init_2 : decode cX13_init 2 = .ok (.putfield 3, 3) := dk_181 0 3 (dk_at dksX13_init_0 2 rfl rfl)
theorem dX13_init_5 : decode cX13_init 5 = .ok (.aload_n 0, 1) := dk_42 (dk_at dksX13_init_0 5 rfl rfl)
theorem dX13_init_6 : decode cX13_init 6 = .ok (.invokespecial 9, 3) := dk_183 0 9 (dk_at dksX13_init_0 6 rfl rfl)
theorem dX13_init_9 : decode cX13_init 9 = .ok (.aload_n 0, 1) := dk_42 (dk_at dksX13_init_0 9 rfl rfl)
theorem dX13_init_10 : decode cX13_init 10 = .ok (.aload_n 0, 1) := dk_42 (dk_at dksX13_init_0 10 rfl rfl)
theorem dX13_init_11 : decode cX13_init 11 = .ok (.iconst 0, 1) := dk_3 (dk_at dksX13_init_0 11 rfl rfl)
theorem dX13_init_12 : decode cX13_init 12 = .ok (.invokevirtual 15, 3) := dk_182 0 15 (dk_at dksX13_init_0 12 rfl rfl)
theorem dX13_init_15 : decode cX13_init 15 = .ok (.putfield 19, 3) := dk_181 0 19 (dk_at dksX13_init_0 15 rfl rfl)
theorem dX13_init_18 : decode cX13_init 18 = .ok (.return_, 1) := dk_177 (dk_at dksX13_init_0 18 rfl rfl)
def dkwX16_init_0 : List UInt8 := [42, 183, 0, 3, 42, 43, 181, 0, 9, 177]
abbrev dktX16_init_0 : List UInt8 := dkwX16_init_0 ++ []
theorem dksX16_init_0 : cX16_init.data.toList.drop 0 = dktX16_init_0 := by decide +kernel
theorem dX16_init_0 : decode cX16_init 0 = .ok (.aload_n 0, 1) := dk_42 (dk_at dksX16_init_0 0 rfl rfl)
theorem dX16_init_1 : decode cX16_init 1 = .ok (.invokespecial 3, 3) := dk_183 0 3 (dk_at dksX16_init_0 1 rfl rfl)
theorem dX16_init_4 : decode cX16_init 4 = .ok (.aload_n 0, 1) := dk_42 (dk_at dksX16_init_0 4 rfl rfl)
theorem dX16_init_5 : decode cX16_init 5 = .ok (.aload_n 1, 1) := dk_43 (dk_at dksX16_init_0 5 rfl rfl)
theorem dX16_init_6 : decode cX16_init 6 = .ok (.putfield 9, 3) := dk_181 0 9 (dk_at dksX16_init_0 6 rfl rfl)
theorem dX16_init_9 : decode cX16_init 9 = .ok (.return_, 1) := dk_177 (dk_at dksX16_init_0 9 rfl rfl)
def dkwX16_items_2 : List UInt8 := [182, 0, 77, 182, 0, 81, 61, 167, 255, 222, 43, 176]
abbrev dktX16_items_2 : List UInt8 := dkwX16_items_2 ++ []
def dkwX16_items_1 : List UInt8 := [180, 0, 9, 185, 0, 19, 1, 0, 162, 0, 24, 42, 16, 59, 16, 59, 182, 0, 42, 62, 43, 42]
abbrev dktX16_items_1 : List UInt8 := dkwX16_items_1 ++ dktX16_items_2
def dkwX16_items_0 : List UInt8 := [187, 0, 74, 89, 183, 0, 76, 76, 43, 42, 182, 0, 77, 182, 0, 81, 61, 42, 180, 0, 15, 42]
abbrev dktX16_items_0 : List UInt8 := dkwX16_items_0 ++ dktX16_items_1
theorem dksX16_items_0 : cX16_items.data.toList.drop 0 = dktX16_items_0 := by decide +kernel
theorem dksX16_items_1 : cX16_items.data.toList.drop 22 = dktX16_items_1 := dk_seg dksX16_items_0 22 rfl rfl
theorem dksX16_items_2 : cX16_items.data.toList.drop 44 = dktX16_items_2 := dk_seg dksX16_items_1 22 rfl rfl
theorem dX16_items_0 : decode cX16_items 0 = .ok (.new 74, 3) := dk_187 0 74 (dk_at dksX16_items_0 0 rfl rfl)
theorem dX16_items_3 : decode cX16_items 3 = .ok (.dup, 1) := dk_89 (dk_at dksX16_items_0 3 rfl rfl)
theorem dX16_items_4 : decode cX16_items 4 = .ok (.invokespecial 76, 3) := dk_183 0 76 (dk_at dksX16_items_0 4 rfl rfl)
theorem dX16_items_7 : decode cX16_items 7 = .ok (.astore_n 1, 1) := dk_76 (dk_at dksX16_items_0 7 rfl rfl)
theorem dX16_items_8 : decode cX16_items 8 = .ok (.aload_n 1, 1) := dk_43 (dk_at dksX16_items_0 8 rfl rfl)
theorem dX16_items_9 : decode cX16_items 9 = .ok (.aload_n 0, 1) := dk_42 (dk_at dksX16_items_0 9 rfl rfl)
theorem dX16_items_10 : decode cX16_items 10 = .ok (.invokevirtual 77, 3) := dk_182 0 77 (dk_at dksX16_items_0 10 rfl rfl)
theorem dX16_items_13 : decode cX16_items 13 = .ok (.invokevirtual 81, 3) := dk_182 0 81 (dk_at dksX16_items_0 13 rfl rfl)
theorem dX16_items_16 : decode cX16_items 16 = .ok (.istore_n 2, 1) := dk_61 (dk_at dksX16_items_0 16 rfl rfl)
theorem dX16_items_17 : decode cX16_items 17 = .ok (.aload_n 0, 1) := dk_42 (dk_at dksX16_items_0 17 rfl rfl)
theorem dX16_items_18 : decode cX16_items 18 = .ok (.getfield 15, 3) := dk_180 0 15 (dk_at dksX16_items_0 18 rfl rfl)
theorem dX16_items_21 : decode cX16_items 21 = .ok (.aload_n 0, 1) := dk_42 (dk_at dksX16_items_0 21 rfl rfl)
theorem dX16_items_22 : decode cX16_items 22 = .ok (.getfield 9, 3) := dk_180 0 9 (dk_at dksX16_items_1 0 rfl rfl)
theorem dX16_items_25 : decode cX16_items 25 = .ok (.invokeinterface 19 1, 5) := by decide +kernel
theorem dX16_items_30 : decode cX16_items 30 = .ok (.if_icmp .ge 24, 3) := dk_162 0 24 (dk_at dksX16_items_1 8 rfl rfl)
theorem dX16_items_33 : decode cX16_items 33 = .ok (.aload_n 0, 1) := dk_42 (dk_at dksX16_items_1 11 rfl rfl)
theorem dX16_items_34 : decode cX16_items 34 = .ok (.bipush 59, 2) := dk_16 59 (dk_at dksX16_items_1 12 rfl rfl)
theorem dX16_items_36 : decode cX16_items 36 = .ok (.bipush 59, 2) := dk_16 59 (dk_at dksX16_items_1 14 rfl rfl)
theorem dX16_items_38 : decode cX16_items 38 = .ok (.invokevirtual 42, 3) := dk_182 0 42 (dk_at dksX16_items_1 16 rfl rfl)
theorem dX16_items_41 : decode cX16_items 41 = .ok (.istore_n 3, 1) := dk_62 (dk_at dksX16_items_1 19 rfl rfl)
theorem dX16_items_42 : decode cX16_items 42 = .ok (.aload_n 1, 1) := dk_43 (dk_at dksX16_items_1 20 rfl rfl)
theorem dX16_items_43 : decode cX16_items 43 = .ok (.aload_n 0, 1) := dk_42 (dk_at dksX16_items_1 21 rfl rfl)
theorem dX16_items_44 : decode cX16_items 44 = .ok (.invokevirtual 77, 3) := dk_182 0 77 (dk_at dksX16_items_2 0 rfl rfl)
theorem dX16_items_47 : decode cX16_items 47 = .ok (.invokevirtual 81, 3) := dk_182 0 81 (dk_at dksX16_items_2 3 rfl rfl)
theorem dX16_items_50 : decode cX16_items 50 = .ok (.istore_n 2, 1) := dk_61 (dk_at dksX16_items_2 6 rfl rfl)
theorem dX16_items_51 : decode cX16_items 51 = .ok (.goto (-34), 3) := dk_167 255 222 (dk_at dksX16_items_2 7 rfl rfl)
theorem dX16_items_54 : decode cX16_items 54 = .ok (.aload_n 1, 1) := dk_43 (dk_at dksX16_items_2 10 rfl rfl)
theorem dX16_items_55 : decode cX16_items 55 = .ok (.areturn, 1) := dk_176 (dk_at dksX16_items_2 11 rfl rfl)
def dkwX16_item_10 : List UInt8 := [182, 0, 49, 79, 183, 0, 69, 176]
abbrev dktX16_item_10 : List UInt8 := dkwX16_item_10 ++ []
def dkwX16_item_9 : List UInt8 := [188, 10, 89, 3, 27, 79, 89, 4, 28, 79, 89, 5, 29, 79, 89, 6, 21, 4, 79, 89, 7, 42, 16, 44]
abbrev dktX16_item_9 : List UInt8 := dkwX16_item_9 ++ dktX16_item_10
def dkwX16_item_8 : List UInt8 := [16, 58, 182, 0, 66, 62, 42, 16, 44, 182, 0, 66, 54, 4, 187, 0, 64, 89, 16, 116, 18, 72, 8]
abbrev dktX16_item_8 : List UInt8 := dkwX16_item_8 ++ dktX16_item_9
def dkwX16_item_7 : List UInt8 := [182, 0, 66, 79, 183, 0, 69, 176, 42, 16, 116, 182, 0, 49, 60, 42, 16, 45, 182, 0, 49, 61, 42]
abbrev dktX16_item_7 : List UInt8 := dkwX16_item_7 ++ dktX16_item_8
def dkwX16_item_6 : List UInt8 := [181, 0, 15, 42, 182, 0, 61, 76, 187, 0, 64, 89, 16, 100, 43, 4, 188, 10, 89, 3, 42, 16, 61]
abbrev dktX16_item_6 : List UInt8 := dkwX16_item_6 ++ dktX16_item_7
def dkwX16_item_5 : List UInt8 := [183, 0, 69, 176, 42, 16, 100, 16, 100, 182, 0, 33, 153, 0, 41, 42, 89, 180, 0, 15, 4, 96]
abbrev dktX16_item_5 : List UInt8 := dkwX16_item_5 ++ dktX16_item_6
def dkwX16_item_4 : List UInt8 := [61, 187, 0, 64, 89, 16, 99, 43, 5, 188, 10, 89, 3, 28, 79, 89, 4, 42, 16, 45, 182, 0, 49, 79]
abbrev dktX16_item_4 : List UInt8 := dkwX16_item_4 ++ dktX16_item_5
def dkwX16_item_3 : List UInt8 := [153, 0, 52, 42, 89, 180, 0, 15, 4, 96, 181, 0, 15, 42, 182, 0, 61, 76, 42, 16, 58, 182, 0, 49]
abbrev dktX16_item_3 : List UInt8 := dkwX16_item_3 ++ dktX16_item_4
def dkwX16_item_2 : List UInt8 := [79, 89, 4, 42, 16, 44, 182, 0, 66, 79, 183, 0, 69, 176, 42, 16, 99, 16, 99, 182, 0, 33]
abbrev dktX16_item_2 : List UInt8 := dkwX16_item_2 ++ dktX16_item_3
def dkwX16_item_1 : List UInt8 := [182, 0, 61, 76, 42, 16, 58, 182, 0, 49, 61, 187, 0, 64, 89, 16, 107, 43, 5, 188, 10, 89, 3, 28]
abbrev dktX16_item_1 : List UInt8 := dkwX16_item_1 ++ dktX16_item_2
def dkwX16_item_0 : List UInt8 := [42, 16, 107, 16, 107, 182, 0, 33, 153, 0, 52, 42, 89, 180, 0, 15, 4, 96, 181, 0, 15, 42]
abbrev dktX16_item_0 : List UInt8 := dkwX16_item_0 ++ dktX16_item_1
theorem dksX16_item_0 : cX16_item.data.toList.drop 0 = dktX16_item_0 := by decide +kernel
theorem dksX16_item_1 : cX16_item.data.toList.drop 22 = dktX16_item_1 := dk_seg dksX16_item_0 22 rfl rfl
theorem dksX16_item_2 : cX16_item.data.toList.drop 46 = dktX16_item_2 := dk_seg dksX16_item_1 24 rfl rfl
theorem dksX16_item_3 : cX16_item.data.toList.drop 68 = dktX16_item_3 := dk_seg dksX16_item_2 22 rfl rfl
theorem dksX16_item_4 : cX16_item.data.toList.drop 92 = dktX16_item_4 := dk_seg dksX16_item_3 24 rfl rfl
theorem dksX16_item_5 : cX16_item.data.toList.drop 116 = dktX16_item_5 := dk_seg dksX16_item_4 24 rfl rfl
theorem dksX16_item_6 : cX16_item.data.toList.drop 138 = dktX16_item_6 := dk_seg dksX16_item_5 22 rfl rfl
theorem dksX16_item_7 : cX16_item.data.toList.drop 161 = dktX16_item_7 := dk_seg dksX16_item_6 23 rfl rfl
theorem dksX16_item_8 : cX16_item.data.toList.drop 184 = dktX16_item_8 := dk_seg dksX16_item_7 23 rfl rfl
theorem dksX16_item_9 : cX16_item.data.toList.drop 207 = dktX16_item_9 := dk_seg dksX16_item_8 23 rfl rfl
theorem dksX16_item_10 : cX16_item.data.toList.drop 231 = dktX16_item_10 := dk_seg dksX16_item_9 24 rfl rfl
theorem dX16_item_0 : decode cX16_item 0 = .ok (.aload_n 0, 1) := dk_42 (dk_at dksX16_item_0 0 rfl rfl)
theorem dX16_item_1 : decode cX16_item 1 = .ok (.bipush 107, 2) := dk_16 107 (dk_at dksX16_item_0 1 rfl rfl)
theorem dX16_item_3 : decode cX16_item 3 = .ok (.bipush 107, 2) := dk_16 107 (dk_at dksX16_item_0 3 rfl rfl)
theorem dX16_item_5 : decode cX16_item 5 = .ok (.invokevirtual 33, 3) := dk_182 0 33 (dk_at dksX16_item_0 5 rfl rfl)
theorem dX16_item_8 : decode cX16_item 8 = .ok (.ifCond .eq 52, 3) := dk_153 0 52 (dk_at dksX16_item_0 8 rfl rfl)
theorem dX16_item_11 : decode cX16_item 11 = .ok (.aload_n 0, 1) := dk_42 (dk_at dksX16_item_0 11 rfl rfl)
theorem dX16_item_12 : decode cX16_item 12 = .ok (.dup, 1) := dk_89 (dk_at dksX16_item_0 12 rfl rfl)
theorem dX16_item_13 : decode cX16_item 13 = .ok (.getfield 15, 3) := dk_180 0 15 (dk_at dksX16_item_0 13 rfl rfl)
theorem dX16_item_16 : decode cX16_item 16 = .ok (.iconst 1, 1) := dk_4 (dk_at dksX16_item_0 16 rfl rfl)
theorem dX16_item_17 : decode cX16_item 17 = .ok (.iadd, 1) := dk_96 (dk_at dksX16_item_0 17 rfl rfl)
theorem dX16_item_18 : decode cX16_item 18 = .ok (.putfield 15, 3) := dk_181 0 15 (dk_at dksX16_item_0 18 rfl rfl)
theorem dX16_item_21 : decode cX16_item 21 = .ok (.aload_n 0, 1) := dk_42 (dk_at dksX16_item_0 21 rfl rfl)
theorem dX16_item_22 : decode cX16_item 22 = .ok (.invokevirtual 61, 3) := dk_182 0 61 (dk_at dksX16_item_1 0 rfl rfl)
theorem dX16_item_25 : decode cX16_item 25 = .ok (.astore_n 1, 1) := dk_76 (dk_at dksX16_item_1 3 rfl rfl)
theorem dX16_item_26 : decode cX16_item 26 = .ok (.aload_n 0, 1) := dk_42 (dk_at dksX16_item_1 4 rfl rfl)
theorem dX16_item_27 : decode cX16_item 27 = .ok (.bipush 58, 2) := dk_16 58 (dk_at dksX16_item_1 5 rfl rfl)
theorem dX16_item_29 : decode cX16_item 29 = .ok (.invokevirtual 49, 3) := dk_182 0 49 (dk_at dksX16_item_1 7 rfl rfl)
theorem dX16_item_32 : decode cX16_item 32 = .ok (.istore_n 2, 1) := dk_61 (dk_at dksX16_item_1 10 rfl rfl)
theorem dX16_item_33 : decode cX16_item 33 = .ok (.new 64, 3) := dk_187 0 64 (dk_at dksX16_item_1 11 rfl rfl)
theorem dX16_item_36 : decode cX16_item 36 = .ok (.dup, 1) := dk_89 (dk_at dksX16_item_1 14 rfl rfl)
theorem dX16_item_37 : decode cX16_item 37 = .ok (.bipush 107, 2) := dk_16 107 (dk_at dksX16_item_1 15 rfl rfl)
theorem dX16_item_39 : decode cX16_item 39 = .ok (.aload_n 1, 1) := dk_43 (dk_at dksX16_item_1 17 rfl rfl)
theorem dX16_item_40 : decode cX16_item 40 = .ok (.iconst 2, 1) := dk_5 (dk_at dksX16_item_1 18 rfl rfl)
theorem dX16_item_41 : decode cX16_item 41 = .ok (.newarray .int, 2) := dk_188_10 (dk_at dksX16_item_1 19 rfl rfl)
theorem dX16_item_43 : decode cX16_item 43 = .ok (.dup, 1) := dk_89 (dk_at dksX16_item_1 21 rfl rfl)
theorem dX16_item_44 : decode cX16_item 44 = .ok (.iconst 0, 1) := dk_3 (dk_at dksX16_item_1 22 rfl rfl)
theorem dX16_item_45 : decode cX16_item 45 = .ok (.iload_n 2, 1) := dk_28 (dk_at dksX16_item_1 23 rfl rfl)
theorem dX16_item_46 : decode cX16_item 46 = .ok (.iastore, 1) := dk_79 (dk_at dksX16_item_2 0 rfl rfl)
theorem dX16_item_47 : decode cX16_item 47 = .ok (.dup, 1) := dk_89 (dk_at dksX16_item_2 1 rfl rfl)
theorem dX16_item_48 : decode cX16_item 48 = .ok (.iconst 1, 1) := dk_4 (dk_at dksX16_item_2 2 rfl rfl)
theorem dX16_item_49 : decode cX16_item 49 = .ok (.aload_n 0, 1) := dk_42 (dk_at dksX16_item_2 3 rfl rfl)
theorem dX16_item_50 : decode cX16_item 50 = .ok (.bipush 44, 2) := dk_16 44 (dk_at dksX16_item_2 4 rfl rfl)
theorem dX16_item_52 : decode cX16_item 52 = .ok (.invokevirtual 66, 3) := dk_182 0 66 (dk_at dksX16_item_2 6 rfl rfl)
theorem dX16_item_55 : decode cX16_item 55 = .ok (.iastore, 1) := dk_79 (dk_at dksX16_item_2 9 rfl rfl)
theorem dX16_item_56 : decode cX16_item 56 = .ok (.invokespecial 69, 3) := dk_183 0 69 (dk_at dksX16_item_2 10 rfl rfl)
theorem dX16_item_59 : decode cX16_item 59 = .ok (.areturn, 1) := dk_176 (dk_at dksX16_item_2 13 rfl rfl)
theorem dX16_item_60 : decode cX16_item 60 = .ok (.aload_n 0, 1) := dk_42 (dk_at dksX16_item_2 14 rfl rfl)
theorem dX16_item_61 : decode cX16_item 61 = .ok (.bipush 99, 2) := dk_16 99 (dk_at dksX16_item_2 15 rfl rfl)
theorem dX16_item_63 : decode cX16_item 63 = .ok (.bipush 99, 2) := dk_16 99 (dk_at dksX16_item_2 17 rfl rfl)
theorem dX16_item_65 : decode cX16_item 65 = .ok (.invokevirtual 33, 3) := dk_182 0 33 (dk_at dksX16_item_2 19 rfl rfl)
theorem dX16_item_68 : decode cX16_item 68 = .ok (.ifCond .eq 52, 3) := dk_153 0 52 (dk_at dksX16_item_3 0 rfl rfl)
theorem dX16_item_71 : decode cX16_item 71 = .ok (.aload_n 0, 1) := dk_42 (dk_at dksX16_item_3 3 rfl rfl)
theorem dX16_item_72 : decode cX16_item 72 = .ok (.dup, 1) := dk_89 (dk_at dksX16_item_3 4 rfl rfl)
theorem dX16_item_73 : decode cX16_item 73 = .ok (.getfield 15, 3) := dk_180 0 15 (dk_at dksX16_item_3 5 rfl rfl)
theorem dX16_item_76 : decode cX16_item 76 = .ok (.iconst 1, 1) := dk_4 (dk_at dksX16_item_3 8 rfl rfl)
theorem dX16_item_77 : decode cX16_item 77 = .ok (.iadd, 1) := dk_96 (dk_at dksX16_item_3 9 rfl rfl)
theorem dX16_item_78 : decode cX16_item 78 = .ok (.putfield 15, 3) := dk_181 0 15 (dk_at dksX16_item_3 10 rfl rfl)
theorem dX16_item_81 : decode cX16_item 81 = .ok (.aload_n 0, 1) := dk_42 (dk_at dksX16_item_3 13 rfl rfl)
theorem dX16_item_82 : decode cX16_item 82 = .ok (.invokevirtual 61, 3) := dk_182 0 61 (dk_at dksX16_item_3 14 rfl rfl)
theorem dX16_item_85 : decode cX16_item 85 = .ok (.astore_n 1, 1) := dk_76 (dk_at dksX16_item_3 17 rfl rfl)
theorem dX16_item_86 : decode cX16_item 86 = .ok (.aload_n 0, 1) := dk_42 (dk_at dksX16_item_3 18 rfl rfl)
theorem dX16_item_87 : decode cX16_item 87 = .ok (.bipush 58, 2) := dk_16 58 (dk_at dksX16_item_3 19 rfl rfl)
theorem dX16_item_89 : decode cX16_item 89 = .ok (.invokevirtual 49, 3) := dk_182 0 49 (dk_at dksX16_item_3 21 rfl rfl)
theorem dX16_item_92 : decode cX16_item 92 = .ok (.istore_n 2, 1) := dk_61 (dk_at dksX16_item_4 0 rfl rfl)
theorem dX16_item_93 : decode cX16_item 93 = .ok (.new 64, 3) := dk_187 0 64 (dk_at dksX16_item_4 1 rfl rfl)
theorem dX16_item_96 : decode cX16_item 96 = .ok (.dup, 1) := dk_89 (dk_at dksX16_item_4 4 rfl rfl)
theorem dX16_item_97 : decode cX16_item 97 = .ok (.bipush 99, 2) := dk_16 99 (dk_at dksX16_item_4 5 rfl rfl)
theorem dX16_item_99 : decode cX16_item 99 = .ok (.aload_n 1, 1) := dk_43 (dk_at dksX16_item_4 7 rfl rfl)
theorem dX16_item_100 : decode cX16_item 100 = .ok (.iconst 2, 1) := dk_5 (dk_at dksX16_item_4 8 rfl rfl)
theorem dX16_item_101 : decode cX16_item 101 = .ok (.newarray .int, 2) := dk_188_10 (dk_at dksX16_item_4 9 rfl rfl)
theorem dX16_item_103 : decode cX16_item 103 = .ok (.dup, 1) := dk_89 (dk_at dksX16_item_4 11 rfl rfl)
theorem dX16_item_104 : decode cX16_item 104 = .ok (.iconst 0, 1) := dk_3 (dk_at dksX16_item_4 12 rfl rfl)
theorem dX16_item_105 : decode cX16_item 105 = .ok (.iload_n 2, 1) := dk_28 (dk_at dksX16_item_4 13 rfl rfl)
theorem dX16_item_106 : decode cX16_item 106 = .ok (.iastore, 1) := dk_79 (dk_at dksX16_item_4 14 rfl rfl)
theorem dX16_item_107 : decode cX16_item 107 = .ok (.dup, 1) := dk_89 (dk_at dksX16_item_4 15 rfl rfl)
theorem dX16_item_108 : decode cX16_item 108 = .ok (.iconst 1, 1) := dk_4 (dk_at dksX16_item_4 16 rfl rfl)
theorem dX16_item_109 : decode cX16_item 109 = .ok (.aload_n 0, 1) := dk_42 (dk_at dksX16_item_4 17 rfl rfl)
theorem dX16_item_110 : decode cX16_item 110 = .ok (.bipush 45, 2) := dk_16 45 (dk_at dksX16_item_4 18 rfl rfl)
theorem dX16_item_112 : decode cX16_item 112 = .ok (.invokevirtual 49, 3) := dk_182 0 49 (dk_at dksX16_item_4 20 rfl rfl)
theorem dX16_item_115 : decode cX16_item 115 = .ok (.iastore, 1) := dk_79 (dk_at dksX16_item_4 23 rfl rfl)
theorem dX16_item_116 : decode cX16_item 116 = .ok (.invokespecial 69, 3) := dk_183 0 69 (dk_at dksX16_item_5 0 rfl rfl)
theorem dX16_item_119 : decode cX16_item 119 = .ok (.areturn, 1) := dk_176 (dk_at dksX16_item_5 3 rfl rfl)
theorem dX16_item_120 : decode cX16_item 120 = .ok (.aload_n 0, 1) := dk_42 (dk_at dksX16_item_5 4 rfl rfl)
theorem dX16_item_121 : decode cX16_item 121 = .ok (.bipush 100, 2) := dk_16 100 (dk_at dksX16_item_5 5 rfl rfl)
theorem dX16_item_123 : decode cX16_item 123 = .ok (.bipush 100, 2) := dk_16 100 (dk_at dksX16_item_5 7 rfl rfl)
theorem dX16_item_125 : decode cX16_item 125 = .ok (.invokevirtual 33, 3) := dk_182 0 33 (dk_at dksX16_item_5 9 rfl rfl)
theorem dX16_item_128 : decode cX16_item 128 = .ok (.ifCond .eq 41, 3) := dk_153 0 41 (dk_at dksX16_item_5 12 rfl rfl)
theorem dX16_item_131 : decode cX16_item 131 = .ok (.aload_n 0, 1) := dk_42 (dk_at dksX16_item_5 15 rfl rfl)
theorem dX16_item_132 : decode cX16_item 132 = .ok (.dup, 1) := dk_89 (dk_at dksX16_item_5 16 rfl rfl)
theorem dX16_item_133 : decode cX16_item 133 = .ok (.getfield 15, 3) := dk_180 0 15 (dk_at dksX16_item_5 17 rfl rfl)
theorem dX16_item_136 : decode cX16_item 136 = .ok (.iconst 1, 1) := dk_4 (dk_at dksX16_item_5 20 rfl rfl)
theorem dX16_item_137 : decode cX16_item 137 = .ok (.iadd, 1) := dk_96 (dk_at dksX16_item_5 21 rfl rfl)
theorem dX16_item_138 : decode cX16_item 138 = .ok (.putfield 15, 3) := dk_181 0 15 (dk_at dksX16_item_6 0 rfl rfl)
theorem dX16_item_141 : decode cX16_item 141 = .ok (.aload_n 0, 1) := dk_42 (dk_at dksX16_item_6 3 rfl rfl)
theorem dX16_item_142 : decode cX16_item 142 = .ok (.invokevirtual 61, 3) := dk_182 0 61 (dk_at dksX16_item_6 4 rfl rfl)
theorem dX16_item_145 : decode cX16_item 145 = .ok (.astore_n 1, 1) := dk_76 (dk_at dksX16_item_6 7 rfl rfl)
theorem dX16_item_146 : decode cX16_item 146 = .ok (.new 64, 3) := dk_187 0 64 (dk_at dksX16_item_6 8 rfl rfl)
theorem dX16_item_149 : decode cX16_item 149 = .ok (.dup, 1) := dk_89 (dk_at dksX16_item_6 11 rfl rfl)
theorem dX16_item_150 : decode cX16_item 150 = .ok (.bipush 100, 2) := dk_16 100 (dk_at dksX16_item_6 12 rfl rfl)
theorem dX16_item_152 : decode cX16_item 152 = .ok (.aload_n 1, 1) := dk_43 (dk_at dksX16_item_6 14 rfl rfl)
theorem dX16_item_153 : decode cX16_item 153 = .ok (.iconst 1, 1) := dk_4 (dk_at dksX16_item_6 15 rfl rfl)
theorem dX16_item_154 : decode cX16_item 154 = .ok (.newarray .int, 2) := dk_188_10 (dk_at dksX16_item_6 16 rfl rfl)
theorem dX16_item_156 : decode cX16_item 156 = .ok (.dup, 1) := dk_89 (dk_at dksX16_item_6 18 rfl rfl)
theorem dX16_item_157 : decode cX16_item 157 = .ok (.iconst 0, 1) := dk_3 (dk_at dksX16_item_6 19 rfl rfl)
theorem dX16_item_158 : decode cX16_item 158 = .ok (.aload_n 0, 1) := dk_42 (dk_at dksX16_item_6 20 rfl rfl)
theorem dX16_item_159 : decode cX16_item 159 = .ok (.bipush 61, 2) := dk_16 61 (dk_at dksX16_item_6 21 rfl rfl)
theorem dX16_item_161 : decode cX16_item 161 = .ok (.invokevirtual 66, 3) := dk_182 0 66 (dk_at dksX16_item_7 0 rfl rfl)
theorem dX16_item_164 : decode cX16_item 164 = .ok (.iastore, 1) := dk_79 (dk_at dksX16_item_7 3 rfl rfl)
theorem dX16_item_165 : decode cX16_item 165 = .ok (.invokespecial 69, 3) := dk_183 0 69 (dk_at dksX16_item_7 4 rfl rfl)
theorem dX16_item_168 : decode cX16_item 168 = .ok (.areturn, 1) := dk_176 (dk_at dksX16_item_7 7 rfl rfl)
theorem dX16_item_169 : decode cX16_item 169 = .ok (.aload_n 0, 1) := dk_42 (dk_at dksX16_item_7 8 rfl rfl)
theorem dX16_item_170 : decode cX16_item 170 = .ok (.bipush 116, 2) := dk_16 116 (dk_at dksX16_item_7 9 rfl rfl)
theorem dX16_item_172 : decode cX16_item 172 = .ok (.invokevirtual 49, 3) := dk_182 0 49 (dk_at dksX16_item_7 11 rfl rfl)
theorem dX16_item_175 : decode cX16_item 175 = .ok (.istore_n 1, 1) := dk_60 (dk_at dksX16_item_7 14 rfl rfl)
theorem dX16_item_176 : decode cX16_item 176 = .ok (.aload_n 0, 1) := dk_42 (dk_at dksX16_item_7 15 rfl rfl)
theorem dX16_item_177 : decode cX16_item 177 = .ok (.bipush 45, 2) := dk_16 45 (dk_at dksX16_item_7 16 rfl rfl)
theorem dX16_item_179 : decode cX16_item 179 = .ok (.invokevirtual 49, 3) := dk_182 0 49 (dk_at dksX16_item_7 18 rfl rfl)
theorem dX16_item_182 : decode cX16_item 182 = .ok (.istore_n 2, 1) := dk_61 (dk_at dksX16_item_7 21 rfl rfl)
theorem dX16_item_183 : decode cX16_item 183 = .ok (.aload_n 0, 1) := dk_42 (dk_at dksX16_item_7 22 rfl rfl)
theorem dX16_item_184 : decode cX16_item 184 = .ok (.bipush 58, 2) := dk_16 58 (dk_at dksX16_item_8 0 rfl rfl)
theorem dX16_item_186 : decode cX16_item 186 = .ok (.invokevirtual 66, 3) := dk_182 0 66 (dk_at dksX16_item_8 2 rfl rfl)
theorem dX16_item_189 : decode cX16_item 189 = .ok (.istore_n 3, 1) := dk_62 (dk_at dksX16_item_8 5 rfl rfl)
theorem dX16_item_190 : decode cX16_item 190 = .ok (.aload_n 0, 1) := dk_42 (dk_at dksX16_item_8 6 rfl rfl)
theorem dX16_item_191 : decode cX16_item 191 = .ok (.bipush 44, 2) := dk_16 44 (dk_at dksX16_item_8 7 rfl rfl)
theorem dX16_item_193 : decode cX16_item 193 = .ok (.invokevirtual 66, 3) := dk_182 0 66 (dk_at dksX16_item_8 9 rfl rfl)
theorem dX16_item_196 : decode cX16_item 196 = .ok (.istore 4, 2) := dk_54 4 (dk_at dksX16_item_8 12 rfl rfl)
theorem dX16_item_198 : decode cX16_item 198 = .ok (.new 64, 3) := dk_187 0 64 (dk_at dksX16_item_8 14 rfl rfl)
theorem dX16_item_201 : decode cX16_item 201 = .ok (.dup, 1) := dk_89 (dk_at dksX16_item_8 17 rfl rfl)
theorem dX16_item_202 : decode cX16_item 202 = .ok (.bipush 116, 2) := dk_16 116 (dk_at dksX16_item_8 18 rfl rfl)
theorem dX16_item_204 : decode cX16_item 204 = .ok (.ldc 72, 2) := dk_18 72 (dk_at dksX16_item_8 20 rfl rfl)
theorem dX16_item_206 : decode cX16_item 206 = .ok (.iconst 5, 1) := dk_8 (dk_at dksX16_item_8 22 rfl rfl)
theorem dX16_item_207 : decode cX16_item 207 = .ok (.newarray .int, 2) := dk_188_10 (dk_at dksX16_item_9 0 rfl rfl)
theorem dX16_item_209 : decode cX16_item 209 = .ok (.dup, 1) := dk_89 (dk_at dksX16_item_9 2 rfl rfl)
theorem dX16_item_210 : decode cX16_item 210 = .ok (.iconst 0, 1) := dk_3 (dk_at dksX16_item_9 3 rfl rfl)
theorem dX16_item_211 : decode cX16_item 211 = .ok (.iload_n 1, 1) := dk_27 (dk_at dksX16_item_9 4 rfl rfl)
theorem dX16_item_212 : decode cX16_item 212 = .ok (.iastore, 1) := dk_79 (dk_at dksX16_item_9 5 rfl rfl)
theorem dX16_item_213 : decode cX16_item 213 = .ok (.dup, 1) := dk_89 (dk_at dksX16_item_9 6 rfl rfl)
theorem dX16_item_214 : decode cX16_item 214 = .ok (.iconst 1, 1) := dk_4 (dk_at dksX16_item_9 7 rfl rfl)
theorem dX16_item_215 : decode cX16_item 215 = .ok (.iload_n 2, 1) := dk_28 (dk_at dksX16_item_9 8 rfl rfl)
theorem dX16_item_216 : decode cX16_item 216 = .ok (.iastore, 1) := dk_79 (dk_at dksX16_item_9 9 rfl rfl)
theorem dX16_item_217 : decode cX16_item 217 = .ok (.dup, 1) := dk_89 (dk_at dksX16_item_9 10 rfl rfl)
theorem dX16_item_218 : decode cX16_item 218 = .ok (.iconst 2, 1) := dk_5 (dk_at dksX16_item_9 11 rfl rfl)
theorem dX16_item_219 : decode cX16_item 219 = .ok (.iload_n 3, 1) := dk_29 (dk_at dksX16_item_9 12 rfl rfl)
theorem dX16_item_220 : decode cX16_item 220 = .ok (.iastore, 1) := dk_79 (dk_at dksX16_item_9 13 rfl rfl)
theorem dX16_item_221 : decode cX16_item 221 = .ok (.dup, 1) := dk_89 (dk_at dksX16_item_9 14 rfl rfl)
theorem dX16_item_222 : decode cX16_item 222 = .ok (.iconst 3, 1) := dk_6 (dk_at dksX16_item_9 15 rfl rfl)
theorem dX16_item_223 : decode cX16_item 223 = .ok (.iload 4, 2) := dk_21 4 (dk_at dksX16_item_9 16 rfl rfl)
theorem dX16_item_225 : decode cX16_item 225 = .ok (.iastore, 1) := dk_79 (dk_at dksX16_item_9 18 rfl rfl)
theorem dX16_item_226 : decode cX16_item 226 = .ok (.dup, 1) := dk_89 (dk_at dksX16_item_9 19 rfl rfl)
theorem dX16_item_227 : decode cX16_item 227 = .ok (.iconst 4, 1) := dk_7 (dk_at dksX16_item_9 20 rfl rfl)
theorem dX16_item_228 : decode cX16_item 228 = .ok (.aload_n 0, 1) := dk_42 (dk_at dksX16_item_9 21 rfl rfl)
theorem dX16_item_229 : decode cX16_item 229 = .ok (.bipush 44, 2) := dk_16 44 (dk_at dksX16_item_9 22 rfl rfl)
theorem dX16_item_231 : decode cX16_item 231 = .ok (.invokevirtual 49, 3) := dk_182 0 49 (dk_at dksX16_item_10 0 rfl rfl)
theorem dX16_item_234 : decode cX16_item 234 = .ok (.iastore, 1) := dk_79 (dk_at dksX16_item_10 3 rfl rfl)
theorem dX16_item_235 : decode cX16_item 235 = .ok (.invokespecial 69, 3) := dk_183 0 69 (dk_at dksX16_item_10 4 rfl rfl)
theorem dX16_item_238 : decode cX16_item 238 = .ok (.areturn, 1) := dk_176 (dk_at dksX16_item_10 7 rfl rfl)
def dkwX16_isNext_1 : List UInt8 := [185, 0, 25, 2, 0, 133, 27, 133, 28, 133, 184, 0, 29, 153, 0, 7, 4, 167, 0, 4, 3, 172]
abbrev dktX16_isNext_1 : List UInt8 := dkwX16_isNext_1 ++ []
def dkwX16_isNext_0 : List UInt8 := [42, 180, 0, 15, 42, 180, 0, 9, 185, 0, 19, 1, 0, 162, 0, 31, 42, 180, 0, 9, 42, 180, 0, 15]
abbrev dktX16_isNext_0 : List UInt8 := dkwX16_isNext_0 ++ dktX16_isNext_1
theorem dksX16_isNext_0 : cX16_isNext.data.toList.drop 0 = dktX16_isNext_0 := by decide +kernel
theorem dksX16_isNext_1 : cX16_isNext.data.toList.drop 24 = dktX16_isNext_1 := dk_seg dksX16_isNext_0 24 rfl rfl
theorem dX16_isNext_0 : decode cX16_isNext 0 = .ok (.aload_n 0, 1) := dk_42 (dk_at dksX16_isNext_0 0 rfl rfl)
theorem dX16_isNext_1 : decode cX16_isNext 1 = .ok (.getfield 15, 3) := dk_180 0 15 (dk_at dksX16_isNext_0 1 rfl rfl)
theorem dX16_isNext_4 : decode cX16_isNext 4 = .ok (.aload_n 0, 1) := dk_42 (dk_at dksX16_isNext_0 4 rfl rfl)
theorem dX16_isNext_5 : decode cX16_isNext 5 = .ok (.getfield 9, 3) := dk_180 0 9 (dk_at dksX16_isNext_0 5 rfl rfl)
theorem dX16_isNext_8 : decode cX16_isNext 8 = .ok (.invokeinterface 19 1, 5) := by decide +kernel
theorem dX16_isNext_13 : decode cX16_isNext 13 = .ok (.if_icmp .ge 31, 3) := dk_162 0 31 (dk_at dksX16_isNext_0 13 rfl rfl)
theorem dX16_isNext_16 : decode cX16_isNext 16 = .ok (.aload_n 0, 1) := dk_42 (dk_at dksX16_isNext_0 16 rfl rfl)
theorem dX16_isNext_17 : decode cX16_isNext 17 = .ok (.getfield 9, 3) := dk_180 0 9 (dk_at dksX16_isNext_0 17 rfl rfl)
theorem dX16_isNext_20 : decode cX16_isNext 20 = .ok (.aload_n 0, 1) := dk_42 (dk_at dksX16_isNext_0 20 rfl rfl)
theorem dX16_isNext_21 : decode cX16_isNext 21 = .ok (.getfield 15, 3) := dk_180 0 15 (dk_at dksX16_isNext_0 21 rfl rfl)
theorem dX16_isNext_24 : decode cX16_isNext 24 = .ok (.invokeinterface 25 2, 5) := by decide +kernel
theorem dX16_isNext_29 : decode cX16_isNext 29 = .ok (.i2l, 1) := dk_133 (dk_at dksX16_isNext_1 5 rfl rfl)
theorem dX16_isNext_30 : decode cX16_isNext 30 = .ok (.iload_n 1, 1) := dk_27 (dk_at dksX16_isNext_1 6 rfl rfl)
theorem dX16_isNext_31 : decode cX16_isNext 31 = .ok (.i2l, 1) := dk_133 (dk_at dksX16_isNext_1 7 rfl rfl)
theorem dX16_isNext_32 : decode cX16_isNext 32 = .ok (.iload_n 2, 1) := dk_28 (dk_at dksX16_isNext_1 8 rfl rfl)
theorem dX16_isNext_33 : decode cX16_isNext 33 = .ok (.i2l, 1) := dk_133 (dk_at dksX16_isNext_1 9 rfl rfl)
theorem dX16_isNext_34 : decode cX16_isNext 34 = .ok (.invokestatic 29, 3) := dk_184 0 29 (dk_at dksX16_isNext_1 10 rfl rfl)
theorem dX16_isNext_37 : decode cX16_isNext 37 = .ok (.ifCond .eq 7, 3) := dk_153 0 7 (dk_at dksX16_isNext_1 13 rfl rfl)
theorem dX16_isNext_40 : decode cX16_isNext 40 = .ok (.iconst 1, 1) := dk_4 (dk_at dksX16_isNext_1 16 rfl rfl)
theorem dX16_isNext_41 : decode cX16_isNext 41 = .ok (.goto 4, 3) := dk_167 0 4 (dk_at dksX16_isNext_1 17 rfl rfl)
theorem dX16_isNext_44 : decode cX16_isNext 44 = .ok (.iconst 0, 1) := dk_3 (dk_at dksX16_isNext_1 20 rfl rfl)
theorem dX16_isNext_45 : decode cX16_isNext 45 = .ok (.ireturn, 1) := dk_172 (dk_at dksX16_isNext_1 21 rfl rfl)
def dkwX16_name_2 : List UInt8 := [167, 255, 225, 42, 180, 0, 9, 27, 42, 180, 0, 15, 185, 0, 53, 3, 0, 185, 0, 57, 1, 0, 176]
abbrev dktX16_name_2 : List UInt8 := dkwX16_name_2 ++ []
def dkwX16_name_1 : List UInt8 := [153, 0, 26, 42, 180, 0, 15, 27, 100, 6, 162, 0, 16, 42, 89, 180, 0, 15, 4, 96, 181, 0, 15]
abbrev dktX16_name_1 : List UInt8 := dkwX16_name_1 ++ dktX16_name_2
def dkwX16_name_0 : List UInt8 := [42, 180, 0, 15, 60, 42, 16, 97, 16, 122, 182, 0, 42, 61, 42, 16, 97, 16, 122, 182, 0, 33]
abbrev dktX16_name_0 : List UInt8 := dkwX16_name_0 ++ dktX16_name_1
theorem dksX16_name_0 : cX16_name.data.toList.drop 0 = dktX16_name_0 := by decide +kernel
theorem dksX16_name_1 : cX16_name.data.toList.drop 22 = dktX16_name_1 := dk_seg dksX16_name_0 22 rfl rfl
theorem dksX16_name_2 : cX16_name.data.toList.drop 45 = dktX16_name_2 := dk_seg dksX16_name_1 23 rfl rfl
theorem dX16_name_0 : decode cX16_name 0 = .ok (.aload_n 0, 1) := dk_42 (dk_at dksX16_name_0 0 rfl rfl)
theorem dX16_name_1 : decode cX16_name 1 = .ok (.getfield 15, 3) := dk_180 0 15 (dk_at dksX16_name_0 1 rfl rfl)
theorem dX16_name_4 : decode cX16_name 4 = .ok (.istore_n 1, 1) := dk_60 (dk_at dksX16_name_0 4 rfl rfl)
theorem dX16_name_5 : decode cX16_name 5 = .ok (.aload_n 0, 1) := dk_42 (dk_at dksX16_name_0 5 rfl rfl)
theorem dX16_name_6 : decode cX16_name 6 = .ok (.bipush 97, 2) := dk_16 97 (dk_at dksX16_name_0 6 rfl rfl)
theorem dX16_name_8 : decode cX16_name 8 = .ok (.bipush 122, 2) := dk_16 122 (dk_at dksX16_name_0 8 rfl rfl)
theorem dX16_name_10 : decode cX16_name 10 = .ok (.invokevirtual 42, 3) := dk_182 0 42 (dk_at dksX16_name_0 10 rfl rfl)
theorem dX16_name_13 : decode cX16_name 13 = .ok (.istore_n 2, 1) := dk_61 (dk_at dksX16_name_0 13 rfl rfl)
theorem dX16_name_14 : decode cX16_name 14 = .ok (.aload_n 0, 1) := dk_42 (dk_at dksX16_name_0 14 rfl rfl)
theorem dX16_name_15 : decode cX16_name 15 = .ok (.bipush 97, 2) := dk_16 97 (dk_at dksX16_name_0 15 rfl rfl)
theorem dX16_name_17 : decode cX16_name 17 = .ok (.bipush 122, 2) := dk_16 122 (dk_at dksX16_name_0 17 rfl rfl)
theorem dX16_name_19 : decode cX16_name 19 = .ok (.invokevirtual 33, 3) := dk_182 0 33 (dk_at dksX16_name_0 19 rfl rfl)
theorem dX16_name_22 : decode cX16_name 22 = .ok (.ifCond .eq 26, 3) := dk_153 0 26 (dk_at dksX16_name_1 0 rfl rfl)
theorem dX16_name_25 : decode cX16_name 25 = .ok (.aload_n 0, 1) := dk_42 (dk_at dksX16_name_1 3 rfl rfl)
theorem dX16_name_26 : decode cX16_name 26 = .ok (.getfield 15, 3) := dk_180 0 15 (dk_at dksX16_name_1 4 rfl rfl)
theorem dX16_name_29 : decode cX16_name 29 = .ok (.iload_n 1, 1) := dk_27 (dk_at dksX16_name_1 7 rfl rfl)
theorem dX16_name_30 : decode cX16_name 30 = .ok (.isub, 1) := dk_100 (dk_at dksX16_name_1 8 rfl rfl)
theorem dX16_name_31 : decode cX16_name 31 = .ok (.iconst 3, 1) := dk_6 (dk_at dksX16_name_1 9 rfl rfl)
theorem dX16_name_32 : decode cX16_name 32 = .ok (.if_icmp .ge 16, 3) := dk_162 0 16 (dk_at dksX16_name_1 10 rfl rfl)
theorem dX16_name_35 : decode cX16_name 35 = .ok (.aload_n 0, 1) := dk_42 (dk_at dksX16_name_1 13 rfl rfl)
theorem dX16_name_36 : decode cX16_name 36 = .ok (.dup, 1) := dk_89 (dk_at dksX16_name_1 14 rfl rfl)
theorem dX16_name_37 : decode cX16_name 37 = .ok (.getfield 15, 3) := dk_180 0 15 (dk_at dksX16_name_1 15 rfl rfl)
theorem dX16_name_40 : decode cX16_name 40 = .ok (.iconst 1, 1) := dk_4 (dk_at dksX16_name_1 18 rfl rfl)
theorem dX16_name_41 : decode cX16_name 41 = .ok (.iadd, 1) := dk_96 (dk_at dksX16_name_1 19 rfl rfl)
theorem dX16_name_42 : decode cX16_name 42 = .ok (.putfield 15, 3) := dk_181 0 15 (dk_at dksX16_name_1 20 rfl rfl)
theorem dX16_name_45 : decode cX16_name 45 = .ok (.goto (-31), 3) := dk_167 255 225 (dk_at dksX16_name_2 0 rfl rfl)
theorem dX16_name_48 : decode cX16_name 48 = .ok (.aload_n 0, 1) := dk_42 (dk_at dksX16_name_2 3 rfl rfl)
theorem dX16_name_49 : decode cX16_name 49 = .ok (.getfield 9, 3) := dk_180 0 9 (dk_at dksX16_name_2 4 rfl rfl)
theorem dX16_name_52 : decode cX16_name 52 = .ok (.iload_n 1, 1) := dk_27 (dk_at dksX16_name_2 7 rfl rfl)
theorem dX16_name_53 : decode cX16_name 53 = .ok (.aload_n 0, 1) := dk_42 (dk_at dksX16_name_2 8 rfl rfl)
theorem dX16_name_54 : decode cX16_name 54 = .ok (.getfield 15, 3) := dk_180 0 15 (dk_at dksX16_name_2 9 rfl rfl)
theorem dX16_name_57 : decode cX16_name 57 = .ok (.invokeinterface 53 3, 5) := by decide +kernel
theorem dX16_name_62 : decode cX16_name 62 = .ok (.invokeinterface 57 1, 5) := by decide +kernel
theorem dX16_name_67 : decode cX16_name 67 = .ok (.areturn, 1) := dk_176 (dk_at dksX16_name_2 22 rfl rfl)
def dkwX16_take_2 : List UInt8 := [100, 172]
abbrev dktX16_take_2 : List UInt8 := dkwX16_take_2 ++ []
def dkwX16_take_1 : List UInt8 := [180, 0, 15, 4, 96, 181, 0, 15, 42, 180, 0, 9, 42, 180, 0, 15, 4, 100, 185, 0, 25, 2, 0, 27]
abbrev dktX16_take_1 : List UInt8 := dkwX16_take_1 ++ dktX16_take_2
def dkwX16_take_0 : List UInt8 := [42, 27, 28, 182, 0, 33, 154, 0, 15, 187, 0, 37, 89, 42, 180, 0, 15, 183, 0, 39, 191, 42, 89]
abbrev dktX16_take_0 : List UInt8 := dkwX16_take_0 ++ dktX16_take_1
theorem dksX16_take_0 : cX16_take.data.toList.drop 0 = dktX16_take_0 := by decide +kernel
theorem dksX16_take_1 : cX16_take.data.toList.drop 23 = dktX16_take_1 := dk_seg dksX16_take_0 23 rfl rfl
theorem dksX16_take_2 : cX16_take.data.toList.drop 47 = dktX16_take_2 := dk_seg dksX16_take_1 24 rfl rfl
theorem dX16_take_0 : decode cX16_take 0 = .ok (.aload_n 0, 1) := dk_42 (dk_at dksX16_take_0 0 rfl rfl)
theorem dX16_take_1 : decode cX16_take 1 = .ok (.iload_n 1, 1) := dk_27 (dk_at dksX16_take_0 1 rfl rfl)
theorem dX16_take_2 : decode cX16_take 2 = .ok (.iload_n 2, 1) := dk_28 (dk_at dksX16_take_0 2 rfl rfl)
theorem dX16_take_3 : decode cX16_take 3 = .ok (.invokevirtual 33, 3) := dk_182 0 33 (dk_at dksX16_take_0 3 rfl rfl)
theorem dX16_take_6 : decode cX16_take 6 = .ok (.ifCond .ne 15, 3) := dk_154 0 15 (dk_at dksX16_take_0 6 rfl rfl)
theorem dX16_take_9 : decode cX16_take 9 = .ok (.new 37, 3) := dk_187 0 37 (dk_at dksX16_take_0 9 rfl rfl)
theorem dX16_take_12 : decode cX16_take 12 = .ok (.dup, 1) := dk_89 (dk_at dksX16_take_0 12 rfl rfl)
theorem dX16_take_13 : decode cX16_take 13 = .ok (.aload_n 0, 1) := dk_42 (dk_at dksX16_take_0 13 rfl rfl)
theorem dX16_take_14 : decode cX16_take 14 = .ok (.getfield 15, 3) := dk_180 0 15 (dk_at dksX16_take_0 14 rfl rfl)
theorem dX16_take_17 : decode cX16_take 17 = .ok (.invokespecial 39, 3) := dk_183 0 39 (dk_at dksX16_take_0 17 rfl rfl)
theorem dX16_take_20 : decode cX16_take 20 = .ok (.athrow, 1) := dk_191 (dk_at dksX16_take_0 20 rfl rfl)
theorem dX16_take_21 : decode cX16_take 21 = .ok (.aload_n 0, 1) := dk_42 (dk_at dksX16_take_0 21 rfl rfl)
theorem dX16_take_22 : decode cX16_take 22 = .ok (.dup, 1) := dk_89 (dk_at dksX16_take_0 22 rfl rfl)
theorem dX16_take_23 : decode cX16_take 23 = .ok (.getfield 15, 3) := dk_180 0 15 (dk_at dksX16_take_1 0 rfl rfl)
theorem dX16_take_26 : decode cX16_take 26 = .ok (.iconst 1, 1) := dk_4 (dk_at dksX16_take_1 3 rfl rfl)
theorem dX16_take_27 : decode cX16_take 27 = .ok (.iadd, 1) := dk_96 (dk_at dksX16_take_1 4 rfl rfl)
theorem dX16_take_28 : decode cX16_take 28 = .ok (.putfield 15, 3) := dk_181 0 15 (dk_at dksX16_take_1 5 rfl rfl)
theorem dX16_take_31 : decode cX16_take 31 = .ok (.aload_n 0, 1) := dk_42 (dk_at dksX16_take_1 8 rfl rfl)
theorem dX16_take_32 : decode cX16_take 32 = .ok (.getfield 9, 3) := dk_180 0 9 (dk_at dksX16_take_1 9 rfl rfl)
theorem dX16_take_35 : decode cX16_take 35 = .ok (.aload_n 0, 1) := dk_42 (dk_at dksX16_take_1 12 rfl rfl)
theorem dX16_take_36 : decode cX16_take 36 = .ok (.getfield 15, 3) := dk_180 0 15 (dk_at dksX16_take_1 13 rfl rfl)
theorem dX16_take_39 : decode cX16_take 39 = .ok (.iconst 1, 1) := dk_4 (dk_at dksX16_take_1 16 rfl rfl)
theorem dX16_take_40 : decode cX16_take 40 = .ok (.isub, 1) := dk_100 (dk_at dksX16_take_1 17 rfl rfl)
theorem dX16_take_41 : decode cX16_take 41 = .ok (.invokeinterface 25 2, 5) := by decide +kernel
theorem dX16_take_46 : decode cX16_take 46 = .ok (.iload_n 1, 1) := dk_27 (dk_at dksX16_take_1 23 rfl rfl)
theorem dX16_take_47 : decode cX16_take 47 = .ok (.isub, 1) := dk_100 (dk_at dksX16_take_2 0 rfl rfl)
theorem dX16_take_48 : decode cX16_take 48 = .ok (.ireturn, 1) := dk_172 (dk_at dksX16_take_2 1 rfl rfl)
def dkwX16_digitBehind_0 : List UInt8 := [42, 27, 27, 182, 0, 42, 61, 42, 182, 0, 46, 172]
abbrev dktX16_digitBehind_0 : List UInt8 := dkwX16_digitBehind_0 ++ []
theorem dksX16_digitBehind_0 : cX16_digitBehind.data.toList.drop 0 = dktX16_digitBehind_0 := by decide +kernel
theorem dX16_digitBehind_0 : decode cX16_digitBehind 0 = .ok (.aload_n 0, 1) := dk_42 (dk_at dksX16_digitBehind_0 0 rfl rfl)
theorem dX16_digitBehind_1 : decode cX16_digitBehind 1 = .ok (.iload_n 1, 1) := dk_27 (dk_at dksX16_digitBehind_0 1 rfl rfl)
theorem dX16_digitBehind_2 : decode cX16_digitBehind 2 = .ok (.iload_n 1, 1) := dk_27 (dk_at dksX16_digitBehind_0 2 rfl rfl)
theorem dX16_digitBehind_3 : decode cX16_digitBehind 3 = .ok (.invokevirtual 42, 3) := dk_182 0 42 (dk_at dksX16_digitBehind_0 3 rfl rfl)
theorem dX16_digitBehind_6 : decode cX16_digitBehind 6 = .ok (.istore_n 2, 1) := dk_61 (dk_at dksX16_digitBehind_0 6 rfl rfl)
theorem dX16_digitBehind_7 : decode cX16_digitBehind 7 = .ok (.aload_n 0, 1) := dk_42 (dk_at dksX16_digitBehind_0 7 rfl rfl)
theorem dX16_digitBehind_8 : decode cX16_digitBehind 8 = .ok (.invokevirtual 46, 3) := dk_182 0 46 (dk_at dksX16_digitBehind_0 8 rfl rfl)
theorem dX16_digitBehind_11 : decode cX16_digitBehind 11 = .ok (.ireturn, 1) := dk_172 (dk_at dksX16_digitBehind_0 11 rfl rfl)
def dkwX16_digit_0 : List UInt8 := [42, 16, 48, 16, 57, 182, 0, 42, 172]
abbrev dktX16_digit_0 : List UInt8 := dkwX16_digit_0 ++ []
theorem dksX16_digit_0 : cX16_digit.data.toList.drop 0 = dktX16_digit_0 := by decide +kernel
theorem dX16_digit_0 : decode cX16_digit 0 = .ok (.aload_n 0, 1) := dk_42 (dk_at dksX16_digit_0 0 rfl rfl)
theorem dX16_digit_1 : decode cX16_digit 1 = .ok (.bipush 48, 2) := dk_16 48 (dk_at dksX16_digit_0 1 rfl rfl)
theorem dX16_digit_3 : decode cX16_digit 3 = .ok (.bipush 57, 2) := dk_16 57 (dk_at dksX16_digit_0 3 rfl rfl)
theorem dX16_digit_5 : decode cX16_digit 5 = .ok (.invokevirtual 42, 3) := dk_182 0 42 (dk_at dksX16_digit_0 5 rfl rfl)
theorem dX16_digit_8 : decode cX16_digit 8 = .ok (.ireturn, 1) := dk_172 (dk_at dksX16_digit_0 8 rfl rfl)
def dkwX16_numberBehind_1 : List UInt8 := [182, 0, 33, 153, 0, 19, 16, 10, 28, 104, 42, 182, 0, 46, 96, 61, 132, 3, 1, 167, 255, 223, 28, 172]
abbrev dktX16_numberBehind_1 : List UInt8 := dkwX16_numberBehind_1 ++ []
def dkwX16_numberBehind_0 : List UInt8 := [42, 27, 182, 0, 49, 61, 4, 62, 29, 6, 162, 0, 34, 28, 158, 0, 30, 42, 16, 48, 16, 57]
abbrev dktX16_numberBehind_0 : List UInt8 := dkwX16_numberBehind_0 ++ dktX16_numberBehind_1
theorem dksX16_numberBehind_0 : cX16_numberBehind.data.toList.drop 0 = dktX16_numberBehind_0 := by decide +kernel
theorem dksX16_numberBehind_1 : cX16_numberBehind.data.toList.drop 22 = dktX16_numberBehind_1 := dk_seg dksX16_numberBehind_0 22 rfl rfl
theorem dX16_numberBehind_0 : decode cX16_numberBehind 0 = .ok (.aload_n 0, 1) := dk_42 (dk_at dksX16_numberBehind_0 0 rfl rfl)
theorem dX16_numberBehind_1 : decode cX16_numberBehind 1 = .ok (.iload_n 1, 1) := dk_27 (dk_at dksX16_numberBehind_0 1 rfl rfl)
theorem dX16_numberBehind_2 : decode cX16_numberBehind 2 = .ok (.invokevirtual 49, 3) := dk_182 0 49 (dk_at dksX16_numberBehind_0 2 rfl rfl)
theorem dX16_numberBehind_5 : decode cX16_numberBehind 5 = .ok (.istore_n 2, 1) := dk_61 (dk_at dksX16_numberBehind_0 5 rfl rfl)
theorem dX16_numberBehind_6 : decode cX16_numberBehind 6 = .ok (.iconst 1, 1) := dk_4 (dk_at dksX16_numberBehind_0 6 rfl rfl)
theorem dX16_numberBehind_7 : decode cX16_numberBehind 7 = .ok (.istore_n 3, 1) := dk_62 (dk_at dksX16_numberBehind_0 7 rfl rfl)
theorem dX16_numberBehind_8 : decode cX16_numberBehind 8 = .ok (.iload_n 3, 1) := dk_29 (dk_at dksX16_numberBehind_0 8 rfl rfl)
theorem dX16_numberBehind_9 : decode cX16_numberBehind 9 = .ok (.iconst 3, 1) := dk_6 (dk_at dksX16_numberBehind_0 9 rfl rfl)
theorem dX16_numberBehind_10 : decode cX16_numberBehind 10 = .ok (.if_icmp .ge 34, 3) := dk_162 0 34 (dk_at dksX16_numberBehind_0 10 rfl rfl)
theorem dX16_numberBehind_13 : decode cX16_numberBehind 13 = .ok (.iload_n 2, 1) := dk_28 (dk_at dksX16_numberBehind_0 13 rfl rfl)
theorem dX16_numberBehind_14 : decode cX16_numberBehind 14 = .ok (.ifCond .le 30, 3) := dk_158 0 30 (dk_at dksX16_numberBehind_0 14 rfl rfl)
theorem dX16_numberBehind_17 : decode cX16_numberBehind 17 = .ok (.aload_n 0, 1) := dk_42 (dk_at dksX16_numberBehind_0 17 rfl rfl)
theorem dX16_numberBehind_18 : decode cX16_numberBehind 18 = .ok (.bipush 48, 2) := dk_16 48 (dk_at dksX16_numberBehind_0 18 rfl rfl)
theorem dX16_numberBehind_20 : decode cX16_numberBehind 20 = .ok (.bipush 57, 2) := dk_16 57 (dk_at dksX16_numberBehind_0 20 rfl rfl)
theorem dX16_numberBehind_22 : decode cX16_numberBehind 22 = .ok (.invokevirtual 33, 3) := dk_182 0 33 (dk_at dksX16_numberBehind_1 0 rfl rfl)
theorem dX16_numberBehind_25 : decode cX16_numberBehind 25 = .ok (.ifCond .eq 19, 3) := dk_153 0 19 (dk_at dksX16_numberBehind_1 3 rfl rfl)
theorem dX16_numberBehind_28 : decode cX16_numberBehind 28 = .ok (.bipush 10, 2) := dk_16 10 (dk_at dksX16_numberBehind_1 6 rfl rfl)
theorem dX16_numberBehind_30 : decode cX16_numberBehind 30 = .ok (.iload_n 2, 1) := dk_28 (dk_at dksX16_numberBehind_1 8 rfl rfl)
theorem dX16_numberBehind_31 : decode cX16_numberBehind 31 = .ok (.imul, 1) := dk_104 (dk_at dksX16_numberBehind_1 9 rfl rfl)
theorem dX16_numberBehind_32 : decode cX16_numberBehind 32 = .ok (.aload_n 0, 1) := dk_42 (dk_at dksX16_numberBehind_1 10 rfl rfl)
theorem dX16_numberBehind_33 : decode cX16_numberBehind 33 = .ok (.invokevirtual 46, 3) := dk_182 0 46 (dk_at dksX16_numberBehind_1 11 rfl rfl)
theorem dX16_numberBehind_36 : decode cX16_numberBehind 36 = .ok (.iadd, 1) := dk_96 (dk_at dksX16_numberBehind_1 14 rfl rfl)
theorem dX16_numberBehind_37 : decode cX16_numberBehind 37 = .ok (.istore_n 2, 1) := dk_61 (dk_at dksX16_numberBehind_1 15 rfl rfl)
theorem dX16_numberBehind_38 : decode cX16_numberBehind 38 = .ok (.iinc 3 1, 3) := dk_132 3 1 (dk_at dksX16_numberBehind_1 16 rfl rfl)
theorem dX16_numberBehind_41 : decode cX16_numberBehind 41 = .ok (.goto (-33), 3) := dk_167 255 223 (dk_at dksX16_numberBehind_1 19 rfl rfl)
theorem dX16_numberBehind_44 : decode cX16_numberBehind 44 = .ok (.iload_n 2, 1) := dk_28 (dk_at dksX16_numberBehind_1 22 rfl rfl)
theorem dX16_numberBehind_45 : decode cX16_numberBehind 45 = .ok (.ireturn, 1) := dk_172 (dk_at dksX16_numberBehind_1 23 rfl rfl)
def dkwX17_init_0 : List UInt8 := [42, 1, 1, 3, 3, 183, 0, 1, 42, 27, 181, 0, 7, 177]
abbrev dktX17_init_0 : List UInt8 := dkwX17_init_0 ++ []
theorem dksX17_init_0 : cX17_init.data.toList.drop 0 = dktX17_init_0 := by decide +kernel
theorem dX17_init_0 : decode cX17_init 0 = .ok (.aload_n 0, 1) := dk_42 (dk_at dksX17_init_0 0 rfl rfl)
theorem dX17_init_1 : decode cX17_init 1 = .ok (.aconst_null, 1) := dk_1 (dk_at dksX17_init_0 1 rfl rfl)
theorem dX17_init_2 : decode cX17_init 2 = .ok (.aconst_null, 1) := dk_1 (dk_at dksX17_init_0 2 rfl rfl)
theorem dX17_init_3 : decode cX17_init 3 = .ok (.iconst 0, 1) := dk_3 (dk_at dksX17_init_0 3 rfl rfl)
theorem dX17_init_4 : decode cX17_init 4 = .ok (.iconst 0, 1) := dk_3 (dk_at dksX17_init_0 4 rfl rfl)
theorem dX17_init_5 : decode cX17_init 5 = .ok (.invokespecial 1, 3) := dk_183 0 1 (dk_at dksX17_init_0 5 rfl rfl)
theorem dX17_init_8 : decode cX17_init 8 = .ok (.aload_n 0, 1) := dk_42 (dk_at dksX17_init_0 8 rfl rfl)
theorem dX17_init_9 : decode cX17_init 9 = .ok (.iload_n 1, 1) := dk_27 (dk_at dksX17_init_0 9 rfl rfl)
theorem dX17_init_10 : decode cX17_init 10 = .ok (.putfield 7, 3) := dk_181 0 7 (dk_at dksX17_init_0 10 rfl rfl)
theorem dX17_init_13 : decode cX17_init 13 = .ok (.return_, 1) := dk_177 (dk_at dksX17_init_0 13 rfl rfl)
def dkwX18_init_0 : List UInt8 := [42, 183, 0, 1, 42, 27, 181, 0, 7, 42, 44, 181, 0, 13, 42, 45, 181, 0, 17, 177]
abbrev dktX18_init_0 : List UInt8 := dkwX18_init_0 ++ []
theorem dksX18_init_0 : cX18_init.data.toList.drop 0 = dktX18_init_0 := by decide +kernel
theorem dX18_init_0 : decode cX18_init 0 = .ok (.aload_n 0, 1) := dk_42 (dk_at dksX18_init_0 0 rfl rfl)
theorem dX18_init_1 : decode cX18_init 1 = .ok (.invokespecial 1, 3) := dk_183 0 1 (dk_at dksX18_init_0 1 rfl rfl)
theorem dX18_init_4 : decode cX18_init 4 = .ok (.aload_n 0, 1) := dk_42 (dk_at dksX18_init_0 4 rfl rfl)
theorem dX18_init_5 : decode cX18_init 5 = .ok (.iload_n 1, 1) := dk_27 (dk_at dksX18_init_0 5 rfl rfl)
theorem dX18_init_6 : decode cX18_init 6 = .ok (.putfield 7, 3) := dk_181 0 7 (dk_at dksX18_init_0 6 rfl rfl)
theorem dX18_init_9 : decode cX18_init 9 = .ok (.aload_n 0, 1) := dk_42 (dk_at dksX18_init_0 9 rfl rfl)
theorem dX18_init_10 : decode cX18_init 10 = .ok (.aload_n 2, 1) := dk_44 (dk_at dksX18_init_0 10 rfl rfl)
theorem dX18_init_11 : decode cX18_init 11 = .ok (.putfield 13, 3) := dk_181 0 13 (dk_at dksX18_init_0 11 rfl rfl)
theorem dX18_init_14 : decode cX18_init 14 = .ok (.aload_n 0, 1) := dk_42 (dk_at dksX18_init_0 14 rfl rfl)
theorem dX18_init_15 : decode cX18_init 15 = .ok (.aload_n 3, 1) := dk_45 (dk_at dksX18_init_0 15 rfl rfl)
theorem dX18_init_16 : decode cX18_init 16 = .ok (.putfield 17, 3) := dk_181 0 17 (dk_at dksX18_init_0 16 rfl rfl)
theorem dX18_init_19 : decode cX18_init 19 = .ok (.return_, 1) := dk_177 (dk_at dksX18_init_0 19 rfl rfl)
def dkwX18_carryOut_6 : List UInt8 := [180, 0, 17, 3, 46, 182, 0, 53, 172]
abbrev dktX18_carryOut_6 : List UInt8 := dkwX18_carryOut_6 ++ []
def dkwX18_carryOut_5 : List UInt8 := [180, 0, 17, 3, 46, 42, 180, 0, 17, 4, 46, 182, 0, 49, 172, 43, 42, 43, 182, 0, 45, 42]
abbrev dktX18_carryOut_5 : List UInt8 := dkwX18_carryOut_5 ++ dktX18_carryOut_6
def dkwX18_carryOut_4 : List UInt8 := [46, 42, 180, 0, 17, 6, 46, 42, 180, 0, 17, 7, 46, 182, 0, 41, 172, 43, 42, 43, 182, 0, 45, 42]
abbrev dktX18_carryOut_4 : List UInt8 := dkwX18_carryOut_4 ++ dktX18_carryOut_5
def dkwX18_carryOut_3 : List UInt8 := [182, 0, 35, 4, 100, 172, 43, 42, 180, 0, 17, 3, 46, 42, 180, 0, 17, 4, 46, 42, 180, 0, 17, 5]
abbrev dktX18_carryOut_3 : List UInt8 := dkwX18_carryOut_3 ++ dktX18_carryOut_4
def dkwX18_carryOut_2 : List UInt8 := [43, 42, 180, 0, 13, 42, 180, 0, 17, 3, 46, 42, 180, 0, 17, 4, 46, 182, 0, 27, 43, 180, 0, 31]
abbrev dktX18_carryOut_2 : List UInt8 := dkwX18_carryOut_2 ++ dktX18_carryOut_3
def dkwX18_carryOut_1 : List UInt8 := [171, 0, 0, 0, 0, 0, 0, 123, 0, 0, 0, 3, 0, 0, 0, 99, 0, 0, 0, 101, 0, 0, 0, 107, 0, 0, 0, 36, 0, 0, 0, 116, 0, 0, 0, 66]
abbrev dktX18_carryOut_1 : List UInt8 := dkwX18_carryOut_1 ++ dktX18_carryOut_2
def dkwX18_carryOut_0 : List UInt8 := [42, 180, 0, 7]
abbrev dktX18_carryOut_0 : List UInt8 := dkwX18_carryOut_0 ++ dktX18_carryOut_1
theorem dksX18_carryOut_0 : cX18_carryOut.data.toList.drop 0 = dktX18_carryOut_0 := by decide +kernel
theorem dksX18_carryOut_1 : cX18_carryOut.data.toList.drop 4 = dktX18_carryOut_1 := dk_seg dksX18_carryOut_0 4 rfl rfl
theorem dksX18_carryOut_2 : cX18_carryOut.data.toList.drop 40 = dktX18_carryOut_2 := dk_seg dksX18_carryOut_1 36 rfl rfl
theorem dksX18_carryOut_3 : cX18_carryOut.data.toList.drop 64 = dktX18_carryOut_3 := dk_seg dksX18_carryOut_2 24 rfl rfl
theorem dksX18_carryOut_4 : cX18_carryOut.data.toList.drop 88 = dktX18_carryOut_4 := dk_seg dksX18_carryOut_3 24 rfl rfl
theorem dksX18_carryOut_5 : cX18_carryOut.data.toList.drop 112 = dktX18_carryOut_5 := dk_seg dksX18_carryOut_4 24 rfl rfl
theorem dksX18_carryOut_6 : cX18_carryOut.data.toList.drop 134 = dktX18_carryOut_6 := dk_seg dksX18_carryOut_5 22 rfl rfl
theorem dX18_carryOut_0 : decode cX18_carryOut 0 = .ok (.aload_n 0, 1) := dk_42 (dk_at dksX18_carryOut_0 0 rfl rfl)
theorem dX18_carryOut_1 : decode cX18_carryOut 1 = .ok (.getfield 7, 3) := dk_180 0 7 (dk_at dksX18_carryOut_0 1 rfl rfl)
theorem dX18_carryOut_4 : decode cX18_carryOut 4 = .ok (.lookupswitch 123 #[(99, 101), (107, 36), (116, 66)], 36) := by decide +kernel
theorem dX18_carryOut_40 : decode cX18_carryOut 40 = .ok (.aload_n 1, 1) := dk_43 (dk_at dksX18_carryOut_2 0 rfl rfl)
theorem dX18_carryOut_41 : decode cX18_carryOut 41 = .ok (.aload_n 0, 1) := dk_42 (dk_at dksX18_carryOut_2 1 rfl rfl)
theorem dX18_carryOut_42 : decode cX18_carryOut 42 = .ok (.getfield 13, 3) := dk_180 0 13 (dk_at dksX18_carryOut_2 2 rfl rfl)
theorem dX18_carryOut_45 : decode cX18_carryOut 45 = .ok (.aload_n 0, 1) := dk_42 (dk_at dksX18_carryOut_2 5 rfl rfl)
theorem dX18_carryOut_46 : decode cX18_carryOut 46 = .ok (.getfield 17, 3) := dk_180 0 17 (dk_at dksX18_carryOut_2 6 rfl rfl)
theorem dX18_carryOut_49 : decode cX18_carryOut 49 = .ok (.iconst 0, 1) := dk_3 (dk_at dksX18_carryOut_2 9 rfl rfl)
theorem dX18_carryOut_50 : decode cX18_carryOut 50 = .ok (.iaload, 1) := dk_46 (dk_at dksX18_carryOut_2 10 rfl rfl)
theorem dX18_carryOut_51 : decode cX18_carryOut 51 = .ok (.aload_n 0, 1) := dk_42 (dk_at dksX18_carryOut_2 11 rfl rfl)
theorem dX18_carryOut_52 : decode cX18_carryOut 52 = .ok (.getfield 17, 3) := dk_180 0 17 (dk_at dksX18_carryOut_2 12 rfl rfl)
theorem dX18_carryOut_55 : decode cX18_carryOut 55 = .ok (.iconst 1, 1) := dk_4 (dk_at dksX18_carryOut_2 15 rfl rfl)
theorem dX18_carryOut_56 : decode cX18_carryOut 56 = .ok (.iaload, 1) := dk_46 (dk_at dksX18_carryOut_2 16 rfl rfl)
theorem dX18_carryOut_57 : decode cX18_carryOut 57 = .ok (.invokevirtual 27, 3) := dk_182 0 27 (dk_at dksX18_carryOut_2 17 rfl rfl)
theorem dX18_carryOut_60 : decode cX18_carryOut 60 = .ok (.aload_n 1, 1) := dk_43 (dk_at dksX18_carryOut_2 20 rfl rfl)
theorem dX18_carryOut_61 : decode cX18_carryOut 61 = .ok (.getfield 31, 3) := dk_180 0 31 (dk_at dksX18_carryOut_2 21 rfl rfl)
theorem dX18_carryOut_64 : decode cX18_carryOut 64 = .ok (.invokevirtual 35, 3) := dk_182 0 35 (dk_at dksX18_carryOut_3 0 rfl rfl)
theorem dX18_carryOut_67 : decode cX18_carryOut 67 = .ok (.iconst 1, 1) := dk_4 (dk_at dksX18_carryOut_3 3 rfl rfl)
theorem dX18_carryOut_68 : decode cX18_carryOut 68 = .ok (.isub, 1) := dk_100 (dk_at dksX18_carryOut_3 4 rfl rfl)
theorem dX18_carryOut_69 : decode cX18_carryOut 69 = .ok (.ireturn, 1) := dk_172 (dk_at dksX18_carryOut_3 5 rfl rfl)
theorem dX18_carryOut_70 : decode cX18_carryOut 70 = .ok (.aload_n 1, 1) := dk_43 (dk_at dksX18_carryOut_3 6 rfl rfl)
theorem dX18_carryOut_71 : decode cX18_carryOut 71 = .ok (.aload_n 0, 1) := dk_42 (dk_at dksX18_carryOut_3 7 rfl rfl)
theorem dX18_carryOut_72 : decode cX18_carryOut 72 = .ok (.getfield 17, 3) := dk_180 0 17 (dk_at dksX18_carryOut_3 8 rfl rfl)
theorem dX18_carryOut_75 : decode cX18_carryOut 75 = .ok (.iconst 0, 1) := dk_3 (dk_at dksX18_carryOut_3 11 rfl rfl)
theorem dX18_carryOut_76 : decode cX18_carryOut 76 = .ok (.iaload, 1) := dk_46 (dk_at dksX18_carryOut_3 12 rfl rfl)
theorem dX18_carryOut_77 : decode cX18_carryOut 77 = .ok (.aload_n 0, 1) := dk_42 (dk_at dksX18_carryOut_3 13 rfl rfl)
theorem dX18_carryOut_78 : decode cX18_carryOut 78 = .ok (.getfield 17, 3) := dk_180 0 17 (dk_at dksX18_carryOut_3 14 rfl rfl)
theorem dX18_carryOut_81 : decode cX18_carryOut 81 = .ok (.iconst 1, 1) := dk_4 (dk_at dksX18_carryOut_3 17 rfl rfl)
theorem dX18_carryOut_82 : decode cX18_carryOut 82 = .ok (.iaload, 1) := dk_46 (dk_at dksX18_carryOut_3 18 rfl rfl)
theorem dX18_carryOut_83 : decode cX18_carryOut 83 = .ok (.aload_n 0, 1) := dk_42 (dk_at dksX18_carryOut_3 19 rfl rfl)
theorem dX18_carryOut_84 : decode cX18_carryOut 84 = .ok (.getfield 17, 3) := dk_180 0 17 (dk_at dksX18_carryOut_3 20 rfl rfl)
theorem dX18_carryOut_87 : decode cX18_carryOut 87 = .ok (.iconst 2, 1) := dk_5 (dk_at dksX18_carryOut_3 23 rfl rfl)
theorem dX18_carryOut_88 : decode cX18_carryOut 88 = .ok (.iaload, 1) := dk_46 (dk_at dksX18_carryOut_4 0 rfl rfl)
theorem dX18_carryOut_89 : decode cX18_carryOut 89 = .ok (.aload_n 0, 1) := dk_42 (dk_at dksX18_carryOut_4 1 rfl rfl)
theorem dX18_carryOut_90 : decode cX18_carryOut 90 = .ok (.getfield 17, 3) := dk_180 0 17 (dk_at dksX18_carryOut_4 2 rfl rfl)
theorem dX18_carryOut_93 : decode cX18_carryOut 93 = .ok (.iconst 3, 1) := dk_6 (dk_at dksX18_carryOut_4 5 rfl rfl)
theorem dX18_carryOut_94 : decode cX18_carryOut 94 = .ok (.iaload, 1) := dk_46 (dk_at dksX18_carryOut_4 6 rfl rfl)
theorem dX18_carryOut_95 : decode cX18_carryOut 95 = .ok (.aload_n 0, 1) := dk_42 (dk_at dksX18_carryOut_4 7 rfl rfl)
theorem dX18_carryOut_96 : decode cX18_carryOut 96 = .ok (.getfield 17, 3) := dk_180 0 17 (dk_at dksX18_carryOut_4 8 rfl rfl)
theorem dX18_carryOut_99 : decode cX18_carryOut 99 = .ok (.iconst 4, 1) := dk_7 (dk_at dksX18_carryOut_4 11 rfl rfl)
theorem dX18_carryOut_100 : decode cX18_carryOut 100 = .ok (.iaload, 1) := dk_46 (dk_at dksX18_carryOut_4 12 rfl rfl)
theorem dX18_carryOut_101 : decode cX18_carryOut 101 = .ok (.invokevirtual 41, 3) := dk_182 0 41 (dk_at dksX18_carryOut_4 13 rfl rfl)
theorem dX18_carryOut_104 : decode cX18_carryOut 104 = .ok (.ireturn, 1) := dk_172 (dk_at dksX18_carryOut_4 16 rfl rfl)
theorem dX18_carryOut_105 : decode cX18_carryOut 105 = .ok (.aload_n 1, 1) := dk_43 (dk_at dksX18_carryOut_4 17 rfl rfl)
theorem dX18_carryOut_106 : decode cX18_carryOut 106 = .ok (.aload_n 0, 1) := dk_42 (dk_at dksX18_carryOut_4 18 rfl rfl)
theorem dX18_carryOut_107 : decode cX18_carryOut 107 = .ok (.aload_n 1, 1) := dk_43 (dk_at dksX18_carryOut_4 19 rfl rfl)
theorem dX18_carryOut_108 : decode cX18_carryOut 108 = .ok (.invokevirtual 45, 3) := dk_182 0 45 (dk_at dksX18_carryOut_4 20 rfl rfl)
theorem dX18_carryOut_111 : decode cX18_carryOut 111 = .ok (.aload_n 0, 1) := dk_42 (dk_at dksX18_carryOut_4 23 rfl rfl)
theorem dX18_carryOut_112 : decode cX18_carryOut 112 = .ok (.getfield 17, 3) := dk_180 0 17 (dk_at dksX18_carryOut_5 0 rfl rfl)
theorem dX18_carryOut_115 : decode cX18_carryOut 115 = .ok (.iconst 0, 1) := dk_3 (dk_at dksX18_carryOut_5 3 rfl rfl)
theorem dX18_carryOut_116 : decode cX18_carryOut 116 = .ok (.iaload, 1) := dk_46 (dk_at dksX18_carryOut_5 4 rfl rfl)
theorem dX18_carryOut_117 : decode cX18_carryOut 117 = .ok (.aload_n 0, 1) := dk_42 (dk_at dksX18_carryOut_5 5 rfl rfl)
theorem dX18_carryOut_118 : decode cX18_carryOut 118 = .ok (.getfield 17, 3) := dk_180 0 17 (dk_at dksX18_carryOut_5 6 rfl rfl)
theorem dX18_carryOut_121 : decode cX18_carryOut 121 = .ok (.iconst 1, 1) := dk_4 (dk_at dksX18_carryOut_5 9 rfl rfl)
theorem dX18_carryOut_122 : decode cX18_carryOut 122 = .ok (.iaload, 1) := dk_46 (dk_at dksX18_carryOut_5 10 rfl rfl)
theorem dX18_carryOut_123 : decode cX18_carryOut 123 = .ok (.invokevirtual 49, 3) := dk_182 0 49 (dk_at dksX18_carryOut_5 11 rfl rfl)
theorem dX18_carryOut_126 : decode cX18_carryOut 126 = .ok (.ireturn, 1) := dk_172 (dk_at dksX18_carryOut_5 14 rfl rfl)
theorem dX18_carryOut_127 : decode cX18_carryOut 127 = .ok (.aload_n 1, 1) := dk_43 (dk_at dksX18_carryOut_5 15 rfl rfl)
theorem dX18_carryOut_128 : decode cX18_carryOut 128 = .ok (.aload_n 0, 1) := dk_42 (dk_at dksX18_carryOut_5 16 rfl rfl)
theorem dX18_carryOut_129 : decode cX18_carryOut 129 = .ok (.aload_n 1, 1) := dk_43 (dk_at dksX18_carryOut_5 17 rfl rfl)
theorem dX18_carryOut_130 : decode cX18_carryOut 130 = .ok (.invokevirtual 45, 3) := dk_182 0 45 (dk_at dksX18_carryOut_5 18 rfl rfl)
theorem dX18_carryOut_133 : decode cX18_carryOut 133 = .ok (.aload_n 0, 1) := dk_42 (dk_at dksX18_carryOut_5 21 rfl rfl)
theorem dX18_carryOut_134 : decode cX18_carryOut 134 = .ok (.getfield 17, 3) := dk_180 0 17 (dk_at dksX18_carryOut_6 0 rfl rfl)
theorem dX18_carryOut_137 : decode cX18_carryOut 137 = .ok (.iconst 0, 1) := dk_3 (dk_at dksX18_carryOut_6 3 rfl rfl)
theorem dX18_carryOut_138 : decode cX18_carryOut 138 = .ok (.iaload, 1) := dk_46 (dk_at dksX18_carryOut_6 4 rfl rfl)
theorem dX18_carryOut_139 : decode cX18_carryOut 139 = .ok (.invokevirtual 53, 3) := dk_182 0 53 (dk_at dksX18_carryOut_6 5 rfl rfl)
theorem dX18_carryOut_142 : decode cX18_carryOut 142 = .ok (.ireturn, 1) := dk_172 (dk_at dksX18_carryOut_6 8 rfl rfl)
def dkwX18_type_0 : List UInt8 := [43, 42, 180, 0, 13, 182, 0, 21, 172]
abbrev dktX18_type_0 : List UInt8 := dkwX18_type_0 ++ []
theorem dksX18_type_0 : cX18_type.data.toList.drop 0 = dktX18_type_0 := by decide +kernel
theorem dX18_type_0 : decode cX18_type 0 = .ok (.aload_n 1, 1) := dk_43 (dk_at dksX18_type_0 0 rfl rfl)
theorem dX18_type_1 : decode cX18_type 1 = .ok (.aload_n 0, 1) := dk_42 (dk_at dksX18_type_0 1 rfl rfl)
theorem dX18_type_2 : decode cX18_type 2 = .ok (.getfield 13, 3) := dk_180 0 13 (dk_at dksX18_type_0 2 rfl rfl)
theorem dX18_type_5 : decode cX18_type 5 = .ok (.invokevirtual 21, 3) := dk_182 0 21 (dk_at dksX18_type_0 5 rfl rfl)
theorem dX18_type_8 : decode cX18_type 8 = .ok (.ireturn, 1) := dk_172 (dk_at dksX18_type_0 8 rfl rfl)
def dkwX19_init_0 : List UInt8 := [42, 183, 0, 1, 42, 43, 181, 0, 7, 42, 28, 181, 0, 13, 42, 29, 181, 0, 17, 177]
abbrev dktX19_init_0 : List UInt8 := dkwX19_init_0 ++ []
theorem dksX19_init_0 : cX19_init.data.toList.drop 0 = dktX19_init_0 := by decide +kernel
theorem dX19_init_0 : decode cX19_init 0 = .ok (.aload_n 0, 1) := dk_42 (dk_at dksX19_init_0 0 rfl rfl)
theorem dX19_init_1 : decode cX19_init 1 = .ok (.invokespecial 1, 3) := dk_183 0 1 (dk_at dksX19_init_0 1 rfl rfl)
theorem dX19_init_4 : decode cX19_init 4 = .ok (.aload_n 0, 1) := dk_42 (dk_at dksX19_init_0 4 rfl rfl)
theorem dX19_init_5 : decode cX19_init 5 = .ok (.aload_n 1, 1) := dk_43 (dk_at dksX19_init_0 5 rfl rfl)
theorem dX19_init_6 : decode cX19_init 6 = .ok (.putfield 7, 3) := dk_181 0 7 (dk_at dksX19_init_0 6 rfl rfl)
theorem dX19_init_9 : decode cX19_init 9 = .ok (.aload_n 0, 1) := dk_42 (dk_at dksX19_init_0 9 rfl rfl)
theorem dX19_init_10 : decode cX19_init 10 = .ok (.iload_n 2, 1) := dk_28 (dk_at dksX19_init_0 10 rfl rfl)
theorem dX19_init_11 : decode cX19_init 11 = .ok (.putfield 13, 3) := dk_181 0 13 (dk_at dksX19_init_0 11 rfl rfl)
theorem dX19_init_14 : decode cX19_init 14 = .ok (.aload_n 0, 1) := dk_42 (dk_at dksX19_init_0 14 rfl rfl)
theorem dX19_init_15 : decode cX19_init 15 = .ok (.iload_n 3, 1) := dk_29 (dk_at dksX19_init_0 15 rfl rfl)
theorem dX19_init_16 : decode cX19_init 16 = .ok (.putfield 17, 3) := dk_181 0 17 (dk_at dksX19_init_0 16 rfl rfl)
theorem dX19_init_19 : decode cX19_init 19 = .ok (.return_, 1) := dk_177 (dk_at dksX19_init_0 19 rfl rfl)
def dkwX20_init_0 : List UInt8 := [42, 1, 44, 3, 3, 183, 0, 1, 42, 27, 181, 0, 7, 177]
abbrev dktX20_init_0 : List UInt8 := dkwX20_init_0 ++ []
theorem dksX20_init_0 : cX20_init.data.toList.drop 0 = dktX20_init_0 := by decide +kernel
theorem dX20_init_0 : decode cX20_init 0 = .ok (.aload_n 0, 1) := dk_42 (dk_at dksX20_init_0 0 rfl rfl)
theorem dX20_init_1 : decode cX20_init 1 = .ok (.aconst_null, 1) := dk_1 (dk_at dksX20_init_0 1 rfl rfl)
theorem dX20_init_2 : decode cX20_init 2 = .ok (.aload_n 2, 1) := dk_44 (dk_at dksX20_init_0 2 rfl rfl)
theorem dX20_init_3 : decode cX20_init 3 = .ok (.iconst 0, 1) := dk_3 (dk_at dksX20_init_0 3 rfl rfl)
theorem dX20_init_4 : decode cX20_init 4 = .ok (.iconst 0, 1) := dk_3 (dk_at dksX20_init_0 4 rfl rfl)
theorem dX20_init_5 : decode cX20_init 5 = .ok (.invokespecial 1, 3) := dk_183 0 1 (dk_at dksX20_init_0 5 rfl rfl)
theorem dX20_init_8 : decode cX20_init 8 = .ok (.aload_n 0, 1) := dk_42 (dk_at dksX20_init_0 8 rfl rfl)
theorem dX20_init_9 : decode cX20_init 9 = .ok (.iload_n 1, 1) := dk_27 (dk_at dksX20_init_0 9 rfl rfl)
theorem dX20_init_10 : decode cX20_init 10 = .ok (.putfield 7, 3) := dk_181 0 7 (dk_at dksX20_init_0 10 rfl rfl)
theorem dX20_init_13 : decode cX20_init 13 = .ok (.return_, 1) := dk_177 (dk_at dksX20_init_0 13 rfl rfl)
def dkwX8_init_0 : List UInt8 := [42, 43, 181, 0, 1, 42, 183, 0, 7, 177]
abbrev dktX8_init_0 : List UInt8 := dkwX8_init_0 ++ []
theorem dksX8_init_0 : cX8_init.data.toList.drop 0 = dktX8_init_0 := by decide +kernel
theorem dX8_init_0 : decode cX8_init 0 = .ok (.aload_n 0, 1) := dk_42 (dk_at dksX8_init_0 0 rfl rfl)
theorem dX8_init_1 : decode cX8_init 1 = .ok (.aload_n 1, 1) := dk_43 (dk_at dksX8_init_0 1 rfl rfl)
theorem dX8_init_2 : decode cX8_init 2 = .ok (.putfield 1, 3) := dk_181 0 1 (dk_at dksX8_init_0 2 rfl rfl)
theorem dX8_init_5 : decode cX8_init 5 = .ok (.aload_n 0, 1) := dk_42 (dk_at dksX8_init_0 5 rfl rfl)
theorem dX8_init_6 : decode cX8_init 6 = .ok (.invokespecial 7, 3) := dk_183 0 7 (dk_at dksX8_init_0 6 rfl rfl)
theorem dX8_init_9 : decode cX8_init 9 = .ok (.return_, 1) := dk_177 (dk_at dksX8_init_0 9 rfl rfl)
def dkwX8_run_3 : List UInt8 := [183, 0, 45, 191, 58, 5, 28, 154, 0, 11, 42, 180, 0, 1, 43, 181, 0, 13, 25, 5, 191]
abbrev dktX8_run_3 : List UInt8 := dkwX8_run_3 ++ []
def dkwX8_run_2 : List UInt8 := [181, 0, 13, 21, 4, 172, 78, 42, 180, 0, 1, 45, 182, 0, 35, 181, 0, 39, 187, 0, 43, 89]
abbrev dktX8_run_2 : List UInt8 := dkwX8_run_2 ++ dktX8_run_3
def dkwX8_run_1 : List UInt8 := [62, 4, 61, 42, 180, 0, 1, 43, 182, 0, 29, 29, 54, 4, 28, 154, 0, 11, 42, 180, 0, 1, 43]
abbrev dktX8_run_1 : List UInt8 := dkwX8_run_1 ++ dktX8_run_2
def dkwX8_run_0 : List UInt8 := [42, 180, 0, 1, 180, 0, 13, 182, 0, 19, 76, 3, 61, 42, 42, 180, 0, 1, 180, 0, 13, 182, 0, 25]
abbrev dktX8_run_0 : List UInt8 := dkwX8_run_0 ++ dktX8_run_1
theorem dksX8_run_0 : cX8_run.data.toList.drop 0 = dktX8_run_0 := by decide +kernel
theorem dksX8_run_1 : cX8_run.data.toList.drop 24 = dktX8_run_1 := dk_seg dksX8_run_0 24 rfl rfl
theorem dksX8_run_2 : cX8_run.data.toList.drop 47 = dktX8_run_2 := dk_seg dksX8_run_1 23 rfl rfl
theorem dksX8_run_3 : cX8_run.data.toList.drop 69 = dktX8_run_3 := dk_seg dksX8_run_2 22 rfl rfl
theorem dX8_run_0 : decode cX8_run 0 = .ok (.aload_n 0, 1) := dk_42 (dk_at dksX8_run_0 0 rfl rfl)
theorem dX8_run_1 : decode cX8_run 1 = .ok (.getfield 1, 3) := dk_180 0 1 (dk_at dksX8_run_0 1 rfl rfl)
theorem dX8_run_4 : decode cX8_run 4 = .ok (.getfield 13, 3) := dk_180 0 13 (dk_at dksX8_run_0 4 rfl rfl)
theorem dX8_run_7 : decode cX8_run 7 = .ok (.invokevirtual 19, 3) := dk_182 0 19 (dk_at dksX8_run_0 7 rfl rfl)
theorem dX8_run_10 : decode cX8_run 10 = .ok (.astore_n 1, 1) := dk_76 (dk_at dksX8_run_0 10 rfl rfl)
theorem dX8_run_11 : decode cX8_run 11 = .ok (.iconst 0, 1) := dk_3 (dk_at dksX8_run_0 11 rfl rfl)
theorem dX8_run_12 : decode cX8_run 12 = .ok (.istore_n 2, 1) := dk_61 (dk_at dksX8_run_0 12 rfl rfl)
theorem dX8_run_13 : decode cX8_run 13 = .ok (.aload_n 0, 1) := dk_42 (dk_at dksX8_run_0 13 rfl rfl)
theorem dX8_run_14 : decode cX8_run 14 = .ok (.aload_n 0, 1) := dk_42 (dk_at dksX8_run_0 14 rfl rfl)
theorem dX8_run_15 : decode cX8_run 15 = .ok (.getfield 1, 3) := dk_180 0 1 (dk_at dksX8_run_0 15 rfl rfl)
theorem dX8_run_18 : decode cX8_run 18 = .ok (.getfield 13, 3) := dk_180 0 13 (dk_at dksX8_run_0 18 rfl rfl)
theorem dX8_run_21 : decode cX8_run 21 = .ok (.invokevirtual 25, 3) := dk_182 0 25 (dk_at dksX8_run_0 21 rfl rfl)
theorem dX8_run_24 : decode cX8_run 24 = .ok (.istore_n 3, 1) := dk_62 (dk_at dksX8_run_1 0 rfl rfl)
theorem dX8_run_25 : decode cX8_run 25 = .ok (.iconst 1, 1) := dk_4 (dk_at dksX8_run_1 1 rfl rfl)
theorem dX8_run_26 : decode cX8_run 26 = .ok (.istore_n 2, 1) := dk_61 (dk_at dksX8_run_1 2 rfl rfl)
theorem dX8_run_27 : decode cX8_run 27 = .ok (.aload_n 0, 1) := dk_42 (dk_at dksX8_run_1 3 rfl rfl)
theorem dX8_run_28 : decode cX8_run 28 = .ok (.getfield 1, 3) := dk_180 0 1 (dk_at dksX8_run_1 4 rfl rfl)
theorem dX8_run_31 : decode cX8_run 31 = .ok (.aload_n 1, 1) := dk_43 (dk_at dksX8_run_1 7 rfl rfl)
theorem dX8_run_32 : decode cX8_run 32 = .ok (.invokevirtual 29, 3) := dk_182 0 29 (dk_at dksX8_run_1 8 rfl rfl)
theorem dX8_run_35 : decode cX8_run 35 = .ok (.iload_n 3, 1) := dk_29 (dk_at dksX8_run_1 11 rfl rfl)
theorem dX8_run_36 : decode cX8_run 36 = .ok (.istore 4, 2) := dk_54 4 (dk_at dksX8_run_1 12 rfl rfl)
theorem dX8_run_38 : decode cX8_run 38 = .ok (.iload_n 2, 1) := dk_28 (dk_at dksX8_run_1 14 rfl rfl)
theorem dX8_run_39 : decode cX8_run 39 = .ok (.ifCond .ne 11, 3) := dk_154 0 11 (dk_at dksX8_run_1 15 rfl rfl)
theorem dX8_run_42 : decode cX8_run 42 = .ok (.aload_n 0, 1) := dk_42 (dk_at dksX8_run_1 18 rfl rfl)
theorem dX8_run_43 : decode cX8_run 43 = .ok (.getfield 1, 3) := dk_180 0 1 (dk_at dksX8_run_1 19 rfl rfl)
theorem dX8_run_46 : decode cX8_run 46 = .ok (.aload_n 1, 1) := dk_43 (dk_at dksX8_run_1 22 rfl rfl)
theorem dX8_run_47 : decode cX8_run 47 = .ok (.putfield 13, 3) := dk_181 0 13 (dk_at dksX8_run_2 0 rfl rfl)
theorem dX8_run_50 : decode cX8_run 50 = .ok (.iload 4, 2) := dk_21 4 (dk_at dksX8_run_2 3 rfl rfl)
theorem dX8_run_52 : decode cX8_run 52 = .ok (.ireturn, 1) := dk_172 (dk_at dksX8_run_2 5 rfl rfl)
theorem dX8_run_53 : decode cX8_run 53 = .ok (.astore_n 3, 1) := dk_78 (dk_at dksX8_run_2 6 rfl rfl)
theorem dX8_run_54 : decode cX8_run 54 = .ok (.aload_n 0, 1) := dk_42 (dk_at dksX8_run_2 7 rfl rfl)
theorem dX8_run_55 : decode cX8_run 55 = .ok (.getfield 1, 3) := dk_180 0 1 (dk_at dksX8_run_2 8 rfl rfl)
theorem dX8_run_58 : decode cX8_run 58 = .ok (.aload_n 3, 1) := dk_45 (dk_at dksX8_run_2 11 rfl rfl)
theorem dX8_run_59 : decode cX8_run 59 = .ok (.invokevirtual 35, 3) := dk_182 0 35 (dk_at dksX8_run_2 12 rfl rfl)
theorem dX8_run_62 : decode cX8_run 62 = .ok (.putfield 39, 3) := dk_181 0 39 (dk_at dksX8_run_2 15 rfl rfl)
theorem dX8_run_65 : decode cX8_run 65 = .ok (.new 43, 3) := dk_187 0 43 (dk_at dksX8_run_2 18 rfl rfl)
theorem dX8_run_68 : decode cX8_run 68 = .ok (.dup, 1) := dk_89 (dk_at dksX8_run_2 21 rfl rfl)
theorem dX8_run_69 : decode cX8_run 69 = .ok (.invokespecial 45, 3) := dk_183 0 45 (dk_at dksX8_run_3 0 rfl rfl)
theorem dX8_run_72 : decode cX8_run 72 = .ok (.athrow, 1) := dk_191 (dk_at dksX8_run_3 3 rfl rfl)
theorem dX8_run_73 : decode cX8_run 73 = .ok (.astore 5, 2) := dk_58 5 (dk_at dksX8_run_3 4 rfl rfl)
theorem dX8_run_75 : decode cX8_run 75 = .ok (.iload_n 2, 1) := dk_28 (dk_at dksX8_run_3 6 rfl rfl)
theorem dX8_run_76 : decode cX8_run 76 = .ok (.ifCond .ne 11, 3) := dk_154 0 11 (dk_at dksX8_run_3 7 rfl rfl)
theorem dX8_run_79 : decode cX8_run 79 = .ok (.aload_n 0, 1) := dk_42 (dk_at dksX8_run_3 10 rfl rfl)
theorem dX8_run_80 : decode cX8_run 80 = .ok (.getfield 1, 3) := dk_180 0 1 (dk_at dksX8_run_3 11 rfl rfl)
theorem dX8_run_83 : decode cX8_run 83 = .ok (.aload_n 1, 1) := dk_43 (dk_at dksX8_run_3 14 rfl rfl)
theorem dX8_run_84 : decode cX8_run 84 = .ok (.putfield 13, 3) := dk_181 0 13 (dk_at dksX8_run_3 15 rfl rfl)
theorem dX8_run_87 : decode cX8_run 87 = .ok (.aload 5, 2) := dk_25 5 (dk_at dksX8_run_3 18 rfl rfl)
theorem dX8_run_89 : decode cX8_run 89 = .ok (.athrow, 1) := dk_191 (dk_at dksX8_run_3 20 rfl rfl)
