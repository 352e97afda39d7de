set_option maxRecDepth 100000
def dkwX3_init_0 : List UInt8 := [42, 183, 0, 3, 42, 16, 10, 189, 0, 9, 181, 0, 11, 177]
abbrev dktX3_init_0 : List UInt8 := dkwX3_init_0 ++ []
theorem dksX3_init_0 : cX3_init.data.toList.drop 0 = dktX3_init_0 := by decide +kernel
theorem dX3_init_0 : decode cX3_init 0 = .ok (.aload_n 0, 1) := dk_42 (dk_at dksX3_init_0 0 rfl rfl)
theorem dX3_init_1 : decode cX3_init 1 = .ok (.invokespecial 3, 3) := dk_183 0 3 (dk_at dksX3_init_0 1 rfl rfl)
theorem dX3_init_4 : decode cX3_init 4 = .ok (.aload_n 0, 1) := dk_42 (dk_at dksX3_init_0 4 rfl rfl)
theorem dX3_init_5 : decode cX3_init 5 = .ok (.bipush 10, 2) := dk_16 10 (dk_at dksX3_init_0 5 rfl rfl)
theorem dX3_init_7 : decode cX3_init 7 = .ok (.anewarray 9, 3) := dk_189 0 9 (dk_at dksX3_init_0 7 rfl rfl)
theorem dX3_init_10 : decode cX3_init 10 = .ok (.putfield 11, 3) := dk_181 0 11 (dk_at dksX3_init_0 10 rfl rfl)
theorem dX3_init_13 : decode cX3_init 13 = .ok (.return_, 1) := dk_177 (dk_at dksX3_init_0 13 rfl rfl)
def dkwX3_copy_1 : List UInt8 := [185, 0, 44, 1, 0, 192, 0, 9, 78, 43, 45, 182, 0, 48, 182, 0, 52, 167, 255, 229, 43, 176]
abbrev dktX3_copy_1 : List UInt8 := dkwX3_copy_1 ++ []
def dkwX3_copy_0 : List UInt8 := [187, 0, 12, 89, 183, 0, 33, 76, 42, 182, 0, 34, 77, 44, 185, 0, 38, 1, 0, 153, 0, 24, 44]
abbrev dktX3_copy_0 : List UInt8 := dkwX3_copy_0 ++ dktX3_copy_1
theorem dksX3_copy_0 : cX3_copy.data.toList.drop 0 = dktX3_copy_0 := by decide +kernel
theorem dksX3_copy_1 : cX3_copy.data.toList.drop 23 = dktX3_copy_1 := dk_seg dksX3_copy_0 23 rfl rfl
theorem dX3_copy_0 : decode cX3_copy 0 = .ok (.new 12, 3) := dk_187 0 12 (dk_at dksX3_copy_0 0 rfl rfl)
theorem dX3_copy_3 : decode cX3_copy 3 = .ok (.dup, 1) := dk_89 (dk_at dksX3_copy_0 3 rfl rfl)
theorem dX3_copy_4 : decode cX3_copy 4 = .ok (.invokespecial 33, 3) := dk_183 0 33 (dk_at dksX3_copy_0 4 rfl rfl)
theorem dX3_copy_7 : decode cX3_copy 7 = .ok (.astore_n 1, 1) := dk_76 (dk_at dksX3_copy_0 7 rfl rfl)
theorem dX3_copy_8 : decode cX3_copy 8 = .ok (.aload_n 0, 1) := dk_42 (dk_at dksX3_copy_0 8 rfl rfl)
theorem dX3_copy_9 : decode cX3_copy 9 = .ok (.invokevirtual 34, 3) := dk_182 0 34 (dk_at dksX3_copy_0 9 rfl rfl)
theorem dX3_copy_12 : decode cX3_copy 12 = .ok (.astore_n 2, 1) := dk_77 (dk_at dksX3_copy_0 12 rfl rfl)
theorem dX3_copy_13 : decode cX3_copy 13 = .ok (.aload_n 2, 1) := dk_44 (dk_at dksX3_copy_0 13 rfl rfl)
theorem dX3_copy_14 : decode cX3_copy 14 = .ok (.invokeinterface 38 1, 5) := by decide +kernel
theorem dX3_copy_19 : decode cX3_copy 19 = .ok (.ifCond .eq 24, 3) := dk_153 0 24 (dk_at dksX3_copy_0 19 rfl rfl)
theorem dX3_copy_22 : decode cX3_copy 22 = .ok (.aload_n 2, 1) := dk_44 (dk_at dksX3_copy_0 22 rfl rfl)
theorem dX3_copy_23 : decode cX3_copy 23 = .ok (.invokeinterface 44 1, 5) := by decide +kernel
theorem dX3_copy_28 : decode cX3_copy 28 = .ok (.checkcast 9, 3) := dk_192 0 9 (dk_at dksX3_copy_1 5 rfl rfl)
theorem dX3_copy_31 : decode cX3_copy 31 = .ok (.astore_n 3, 1) := dk_78 (dk_at dksX3_copy_1 8 rfl rfl)
theorem dX3_copy_32 : decode cX3_copy 32 = .ok (.aload_n 1, 1) := dk_43 (dk_at dksX3_copy_1 9 rfl rfl)
theorem dX3_copy_33 : decode cX3_copy 33 = .ok (.aload_n 3, 1) := dk_45 (dk_at dksX3_copy_1 10 rfl rfl)
theorem dX3_copy_34 : decode cX3_copy 34 = .ok (.invokevirtual 48, 3) := dk_182 0 48 (dk_at dksX3_copy_1 11 rfl rfl)
theorem dX3_copy_37 : decode cX3_copy 37 = .ok (.invokevirtual 52, 3) := dk_182 0 52 (dk_at dksX3_copy_1 14 rfl rfl)
theorem dX3_copy_40 : decode cX3_copy 40 = .ok (.goto (-27), 3) := dk_167 255 229 (dk_at dksX3_copy_1 17 rfl rfl)
theorem dX3_copy_43 : decode cX3_copy 43 = .ok (.aload_n 1, 1) := dk_43 (dk_at dksX3_copy_1 20 rfl rfl)
theorem dX3_copy_44 : decode cX3_copy 44 = .ok (.areturn, 1) := dk_176 (dk_at dksX3_copy_1 21 rfl rfl)
def dkwX3_iterator_0 : List UInt8 := [187, 0, 17, 89, 42, 183, 0, 19, 176]
abbrev dktX3_iterator_0 : List UInt8 := dkwX3_iterator_0 ++ []
theorem dksX3_iterator_0 : cX3_iterator.data.toList.drop 0 = dktX3_iterator_0 := by decide +kernel
theorem dX3_iterator_0 : decode cX3_iterator 0 = .ok (.new 17, 3) := dk_187 0 17 (dk_at dksX3_iterator_0 0 rfl rfl)
theorem dX3_iterator_3 : decode cX3_iterator 3 = .ok (.dup, 1) := dk_89 (dk_at dksX3_iterator_0 3 rfl rfl)
theorem dX3_iterator_4 : decode cX3_iterator 4 = .ok (.aload_n 0, 1) := dk_42 (dk_at dksX3_iterator_0 4 rfl rfl)
theorem dX3_iterator_5 : decode cX3_iterator 5 = .ok (.invokespecial 19, 3) := dk_183 0 19 (dk_at dksX3_iterator_0 5 rfl rfl)
theorem dX3_iterator_8 : decode cX3_iterator 8 = .ok (.areturn, 1) := dk_176 (dk_at dksX3_iterator_0 8 rfl rfl)
def dkwX3_add_0 : List UInt8 := [42, 180, 0, 11, 42, 180, 0, 22, 43, 83, 42, 89, 180, 0, 22, 4, 96, 181, 0, 22, 177]
abbrev dktX3_add_0 : List UInt8 := dkwX3_add_0 ++ []
theorem dksX3_add_0 : cX3_add.data.toList.drop 0 = dktX3_add_0 := by decide +kernel
theorem dX3_add_0 : decode cX3_add 0 = .ok (.aload_n 0, 1) := dk_42 (dk_at dksX3_add_0 0 rfl rfl)
theorem dX3_add_1 : decode cX3_add 1 = .ok (.getfield 11, 3) := dk_180 0 11 (dk_at dksX3_add_0 1 rfl rfl)
theorem dX3_add_4 : decode cX3_add 4 = .ok (.aload_n 0, 1) := dk_42 (dk_at dksX3_add_0 4 rfl rfl)
theorem dX3_add_5 : decode cX3_add 5 = .ok (.getfield 22, 3) := dk_180 0 22 (dk_at dksX3_add_0 5 rfl rfl)
theorem dX3_add_8 : decode cX3_add 8 = .ok (.aload_n 1, 1) := dk_43 (dk_at dksX3_add_0 8 rfl rfl)
theorem dX3_add_9 : decode cX3_add 9 = .ok (.aastore, 1) := dk_83 (dk_at dksX3_add_0 9 rfl rfl)
theorem dX3_add_10 : decode cX3_add 10 = .ok (.aload_n 0, 1) := dk_42 (dk_at dksX3_add_0 10 rfl rfl)
theorem dX3_add_11 : decode cX3_add 11 = .ok (.dup, 1) := dk_89 (dk_at dksX3_add_0 11 rfl rfl)
theorem dX3_add_12 : decode cX3_add 12 = .ok (.getfield 22, 3) := dk_180 0 22 (dk_at dksX3_add_0 12 rfl rfl)
theorem dX3_add_15 : decode cX3_add 15 = .ok (.iconst 1, 1) := dk_4 (dk_at dksX3_add_0 15 rfl rfl)
theorem dX3_add_16 : decode cX3_add 16 = .ok (.iadd, 1) := dk_96 (dk_at dksX3_add_0 16 rfl rfl)
theorem dX3_add_17 : decode cX3_add 17 = .ok (.putfield 22, 3) := dk_181 0 22 (dk_at dksX3_add_0 17 rfl rfl)
theorem dX3_add_20 : decode cX3_add 20 = .ok (.return_, 1) := dk_177 (dk_at dksX3_add_0 20 rfl rfl)
theorem dX3_count_0 : decode cX3_count 0 = .ok (.aload_n 0, 1) := by decide +kernel
theorem dX3_count_1 : decode cX3_count 1 = .ok (.getfield 22, 3) := by decide +kernel
theorem dX3_count_4 : decode cX3_count 4 = .ok (.ireturn, 1) := by decide +kernel
def dkwX3_placeOf_1 : List UInt8 := [160, 0, 7, 29, 167, 0, 4, 28, 61, 132, 3, 1, 167, 255, 226, 28, 172]
abbrev dktX3_placeOf_1 : List UInt8 := dkwX3_placeOf_1 ++ []
def dkwX3_placeOf_0 : List UInt8 := [2, 61, 3, 62, 29, 42, 180, 0, 22, 162, 0, 28, 42, 180, 0, 11, 29, 50, 180, 0, 26, 27]
abbrev dktX3_placeOf_0 : List UInt8 := dkwX3_placeOf_0 ++ dktX3_placeOf_1
theorem dksX3_placeOf_0 : cX3_placeOf.data.toList.drop 0 = dktX3_placeOf_0 := by decide +kernel
theorem dksX3_placeOf_1 : cX3_placeOf.data.toList.drop 22 = dktX3_placeOf_1 := dk_seg dksX3_placeOf_0 22 rfl rfl
theorem dX3_placeOf_0 : decode cX3_placeOf 0 = .ok (.iconst (-1), 1) := dk_2 (dk_at dksX3_placeOf_0 0 rfl rfl)
theorem dX3_placeOf_1 : decode cX3_placeOf 1 = .ok (.istore_n 2, 1) := dk_61 (dk_at dksX3_placeOf_0 1 rfl rfl)
theorem dX3_placeOf_2 : decode cX3_placeOf 2 = .ok (.iconst 0, 1) := dk_3 (dk_at dksX3_placeOf_0 2 rfl rfl)
theorem dX3_placeOf_3 : decode cX3_placeOf 3 = .ok (.istore_n 3, 1) := dk_62 (dk_at dksX3_placeOf_0 3 rfl rfl)
theorem dX3_placeOf_4 : decode cX3_placeOf 4 = .ok (.iload_n 3, 1) := dk_29 (dk_at dksX3_placeOf_0 4 rfl rfl)
theorem dX3_placeOf_5 : decode cX3_placeOf 5 = .ok (.aload_n 0, 1) := dk_42 (dk_at dksX3_placeOf_0 5 rfl rfl)
theorem dX3_placeOf_6 : decode cX3_placeOf 6 = .ok (.getfield 22, 3) := dk_180 0 22 (dk_at dksX3_placeOf_0 6 rfl rfl)
theorem dX3_placeOf_9 : decode cX3_placeOf 9 = .ok (.if_icmp .ge 28, 3) := dk_162 0 28 (dk_at dksX3_placeOf_0 9 rfl rfl)
theorem dX3_placeOf_12 : decode cX3_placeOf 12 = .ok (.aload_n 0, 1) := dk_42 (dk_at dksX3_placeOf_0 12 rfl rfl)
theorem dX3_placeOf_13 : decode cX3_placeOf 13 = .ok (.getfield 11, 3) := dk_180 0 11 (dk_at dksX3_placeOf_0 13 rfl rfl)
theorem dX3_placeOf_16 : decode cX3_placeOf 16 = .ok (.iload_n 3, 1) := dk_29 (dk_at dksX3_placeOf_0 16 rfl rfl)
theorem dX3_placeOf_17 : decode cX3_placeOf 17 = .ok (.aaload, 1) := dk_50 (dk_at dksX3_placeOf_0 17 rfl rfl)
theorem dX3_placeOf_18 : decode cX3_placeOf 18 = .ok (.getfield 26, 3) := dk_180 0 26 (dk_at dksX3_placeOf_0 18 rfl rfl)
theorem dX3_placeOf_21 : decode cX3_placeOf 21 = .ok (.iload_n 1, 1) := dk_27 (dk_at dksX3_placeOf_0 21 rfl rfl)
theorem dX3_placeOf_22 : decode cX3_placeOf 22 = .ok (.if_icmp .ne 7, 3) := dk_160 0 7 (dk_at dksX3_placeOf_1 0 rfl rfl)
theorem dX3_placeOf_25 : decode cX3_placeOf 25 = .ok (.iload_n 3, 1) := dk_29 (dk_at dksX3_placeOf_1 3 rfl rfl)
theorem dX3_placeOf_26 : decode cX3_placeOf 26 = .ok (.goto 4, 3) := dk_167 0 4 (dk_at dksX3_placeOf_1 4 rfl rfl)
theorem dX3_placeOf_29 : decode cX3_placeOf 29 = .ok (.iload_n 2, 1) := dk_28 (dk_at dksX3_placeOf_1 7 rfl rfl)
theorem dX3_placeOf_30 : decode cX3_placeOf 30 = .ok (.istore_n 2, 1) := dk_61 (dk_at dksX3_placeOf_1 8 rfl rfl)
theorem dX3_placeOf_31 : decode cX3_placeOf 31 = .ok (.iinc 3 1, 3) := dk_132 3 1 (dk_at dksX3_placeOf_1 9 rfl rfl)
theorem dX3_placeOf_34 : decode cX3_placeOf 34 = .ok (.goto (-30), 3) := dk_167 255 226 (dk_at dksX3_placeOf_1 12 rfl rfl)
theorem dX3_placeOf_37 : decode cX3_placeOf 37 = .ok (.iload_n 2, 1) := dk_28 (dk_at dksX3_placeOf_1 15 rfl rfl)
theorem dX3_placeOf_38 : decode cX3_placeOf 38 = .ok (.ireturn, 1) := dk_172 (dk_at dksX3_placeOf_1 16 rfl rfl)
def dkwX3_remove_2 : List UInt8 := [177]
abbrev dktX3_remove_2 : List UInt8 := dkwX3_remove_2 ++ []
def dkwX3_remove_1 : List UInt8 := [180, 0, 11, 28, 4, 96, 50, 83, 132, 2, 1, 167, 255, 229, 42, 89, 180, 0, 22, 4, 100, 181, 0, 22]
abbrev dktX3_remove_1 : List UInt8 := dkwX3_remove_1 ++ dktX3_remove_2
def dkwX3_remove_0 : List UInt8 := [42, 27, 182, 0, 29, 61, 28, 4, 96, 42, 180, 0, 22, 162, 0, 23, 42, 180, 0, 11, 28, 42]
abbrev dktX3_remove_0 : List UInt8 := dkwX3_remove_0 ++ dktX3_remove_1
theorem dksX3_remove_0 : cX3_remove.data.toList.drop 0 = dktX3_remove_0 := by decide +kernel
theorem dksX3_remove_1 : cX3_remove.data.toList.drop 22 = dktX3_remove_1 := dk_seg dksX3_remove_0 22 rfl rfl
theorem dksX3_remove_2 : cX3_remove.data.toList.drop 46 = dktX3_remove_2 := dk_seg dksX3_remove_1 24 rfl rfl
theorem dX3_remove_0 : decode cX3_remove 0 = .ok (.aload_n 0, 1) := dk_42 (dk_at dksX3_remove_0 0 rfl rfl)
theorem dX3_remove_1 : decode cX3_remove 1 = .ok (.iload_n 1, 1) := dk_27 (dk_at dksX3_remove_0 1 rfl rfl)
theorem dX3_remove_2 : decode cX3_remove 2 = .ok (.invokevirtual 29, 3) := dk_182 0 29 (dk_at dksX3_remove_0 2 rfl rfl)
theorem dX3_remove_5 : decode cX3_remove 5 = .ok (.istore_n 2, 1) := dk_61 (dk_at dksX3_remove_0 5 rfl rfl)
theorem dX3_remove_6 : decode cX3_remove 6 = .ok (.iload_n 2, 1) := dk_28 (dk_at dksX3_remove_0 6 rfl rfl)
theorem dX3_remove_7 : decode cX3_remove 7 = .ok (.iconst 1, 1) := dk_4 (dk_at dksX3_remove_0 7 rfl rfl)
theorem dX3_remove_8 : decode cX3_remove 8 = .ok (.iadd, 1) := dk_96 (dk_at dksX3_remove_0 8 rfl rfl)
theorem dX3_remove_9 : decode cX3_remove 9 = .ok (.aload_n 0, 1) := dk_42 (dk_at dksX3_remove_0 9 rfl rfl)
theorem dX3_remove_10 : decode cX3_remove 10 = .ok (.getfield 22, 3) := dk_180 0 22 (dk_at dksX3_remove_0 10 rfl rfl)
theorem dX3_remove_13 : decode cX3_remove 13 = .ok (.if_icmp .ge 23, 3) := dk_162 0 23 (dk_at dksX3_remove_0 13 rfl rfl)
theorem dX3_remove_16 : decode cX3_remove 16 = .ok (.aload_n 0, 1) := dk_42 (dk_at dksX3_remove_0 16 rfl rfl)
theorem dX3_remove_17 : decode cX3_remove 17 = .ok (.getfield 11, 3) := dk_180 0 11 (dk_at dksX3_remove_0 17 rfl rfl)
theorem dX3_remove_20 : decode cX3_remove 20 = .ok (.iload_n 2, 1) := dk_28 (dk_at dksX3_remove_0 20 rfl rfl)
theorem dX3_remove_21 : decode cX3_remove 21 = .ok (.aload_n 0, 1) := dk_42 (dk_at dksX3_remove_0 21 rfl rfl)
theorem dX3_remove_22 : decode cX3_remove 22 = .ok (.getfield 11, 3) := dk_180 0 11 (dk_at dksX3_remove_1 0 rfl rfl)
theorem dX3_remove_25 : decode cX3_remove 25 = .ok (.iload_n 2, 1) := dk_28 (dk_at dksX3_remove_1 3 rfl rfl)
theorem dX3_remove_26 : decode cX3_remove 26 = .ok (.iconst 1, 1) := dk_4 (dk_at dksX3_remove_1 4 rfl rfl)
theorem dX3_remove_27 : decode cX3_remove 27 = .ok (.iadd, 1) := dk_96 (dk_at dksX3_remove_1 5 rfl rfl)
theorem dX3_remove_28 : decode cX3_remove 28 = .ok (.aaload, 1) := dk_50 (dk_at dksX3_remove_1 6 rfl rfl)
theorem dX3_remove_29 : decode cX3_remove 29 = .ok (.aastore, 1) := dk_83 (dk_at dksX3_remove_1 7 rfl rfl)
theorem dX3_remove_30 : decode cX3_remove 30 = .ok (.iinc 2 1, 3) := dk_132 2 1 (dk_at dksX3_remove_1 8 rfl rfl)
theorem dX3_remove_33 : decode cX3_remove 33 = .ok (.goto (-27), 3) := dk_167 255 229 (dk_at dksX3_remove_1 11 rfl rfl)
theorem dX3_remove_36 : decode cX3_remove 36 = .ok (.aload_n 0, 1) := dk_42 (dk_at dksX3_remove_1 14 rfl rfl)
theorem dX3_remove_37 : decode cX3_remove 37 = .ok (.dup, 1) := dk_89 (dk_at dksX3_remove_1 15 rfl rfl)
theorem dX3_remove_38 : decode cX3_remove 38 = .ok (.getfield 22, 3) := dk_180 0 22 (dk_at dksX3_remove_1 16 rfl rfl)
theorem dX3_remove_41 : decode cX3_remove 41 = .ok (.iconst 1, 1) := dk_4 (dk_at dksX3_remove_1 19 rfl rfl)
theorem dX3_remove_42 : decode cX3_remove 42 = .ok (.isub, 1) := dk_100 (dk_at dksX3_remove_1 20 rfl rfl)
theorem dX3_remove_43 : decode cX3_remove 43 = .ok (.putfield 22, 3) := dk_181 0 22 (dk_at dksX3_remove_1 21 rfl rfl)
theorem dX3_remove_46 : decode cX3_remove 46 = .ok (.return_, 1) := dk_177 (dk_at dksX3_remove_2 0 rfl rfl)
def dkwX3_at_0 : List UInt8 := [42, 180, 0, 11, 27, 50, 176]
abbrev dktX3_at_0 : List UInt8 := dkwX3_at_0 ++ []
theorem dksX3_at_0 : cX3_at.data.toList.drop 0 = dktX3_at_0 := by decide +kernel
theorem dX3_at_0 : decode cX3_at 0 = .ok (.aload_n 0, 1) := dk_42 (dk_at dksX3_at_0 0 rfl rfl)
theorem dX3_at_1 : decode cX3_at 1 = .ok (.getfield 11, 3) := dk_180 0 11 (dk_at dksX3_at_0 1 rfl rfl)
theorem dX3_at_4 : decode cX3_at 4 = .ok (.iload_n 1, 1) := dk_27 (dk_at dksX3_at_0 4 rfl rfl)
theorem dX3_at_5 : decode cX3_at 5 = .ok (.aaload, 1) := dk_50 (dk_at dksX3_at_0 5 rfl rfl)
theorem dX3_at_6 : decode cX3_at 6 = .ok (.areturn, 1) := dk_176 (dk_at dksX3_at_0 6 rfl rfl)
def dkwX4_init_0 : List UInt8 := [42, 183, 0, 3, 42, 187, 0, 9, 89, 183, 0, 11, 181, 0, 12, 177]
abbrev dktX4_init_0 : List UInt8 := dkwX4_init_0 ++ []
theorem dksX4_init_0 : cX4_init.data.toList.drop 0 = dktX4_init_0 := by decide +kernel
theorem dX4_init_0 : decode cX4_init 0 = .ok (.aload_n 0, 1) := dk_42 (dk_at dksX4_init_0 0 rfl rfl)
theorem dX4_init_1 : decode cX4_init 1 = .ok (.invokespecial 3, 3) := dk_183 0 3 (dk_at dksX4_init_0 1 rfl rfl)
theorem dX4_init_4 : decode cX4_init 4 = .ok (.aload_n 0, 1) := dk_42 (dk_at dksX4_init_0 4 rfl rfl)
theorem dX4_init_5 : decode cX4_init 5 = .ok (.new 9, 3) := dk_187 0 9 (dk_at dksX4_init_0 5 rfl rfl)
theorem dX4_init_8 : decode cX4_init 8 = .ok (.dup, 1) := dk_89 (dk_at dksX4_init_0 8 rfl rfl)
theorem dX4_init_9 : decode cX4_init 9 = .ok (.invokespecial 11, 3) := dk_183 0 11 (dk_at dksX4_init_0 9 rfl rfl)
theorem dX4_init_12 : decode cX4_init 12 = .ok (.putfield 12, 3) := dk_181 0 12 (dk_at dksX4_init_0 12 rfl rfl)
theorem dX4_init_15 : decode cX4_init 15 = .ok (.return_, 1) := dk_177 (dk_at dksX4_init_0 15 rfl rfl)
def dkwX6_init_0 : List UInt8 := [42, 43, 181, 0, 1, 42, 183, 0, 7, 177]
abbrev dktX6_init_0 : List UInt8 := dkwX6_init_0 ++ []
theorem dksX6_init_0 : cX6_init.data.toList.drop 0 = dktX6_init_0 := by decide +kernel
theorem dX6_init_0 : decode cX6_init 0 = .ok (.aload_n 0, 1) := dk_42 (dk_at dksX6_init_0 0 rfl rfl)
theorem dX6_init_1 : decode cX6_init 1 = .ok (.aload_n 1, 1) := dk_43 (dk_at dksX6_init_0 1 rfl rfl)
theorem dX6_init_2 : decode cX6_init 2 = .ok (.putfield 1, 3) := dk_181 0 1 (dk_at dksX6_init_0 2 rfl rfl)
theorem dX6_init_5 : decode cX6_init 5 = .ok (.aload_n 0, 1) := dk_42 (dk_at dksX6_init_0 5 rfl rfl)
theorem dX6_init_6 : decode cX6_init 6 = .ok (.invokespecial 7, 3) := dk_183 0 7 (dk_at dksX6_init_0 6 rfl rfl)
theorem dX6_init_9 : decode cX6_init 9 = .ok (.return_, 1) := dk_177 (dk_at dksX6_init_0 9 rfl rfl)
def dkwX6_hasNext_0 : List UInt8 := [42, 180, 0, 13, 42, 180, 0, 1, 180, 0, 17, 162, 0, 7, 4, 167, 0, 4, 3, 172]
abbrev dktX6_hasNext_0 : List UInt8 := dkwX6_hasNext_0 ++ []
theorem dksX6_hasNext_0 : cX6_hasNext.data.toList.drop 0 = dktX6_hasNext_0 := by decide +kernel
theorem dX6_hasNext_0 : decode cX6_hasNext 0 = .ok (.aload_n 0, 1) := dk_42 (dk_at dksX6_hasNext_0 0 rfl rfl)
theorem dX6_hasNext_1 : decode cX6_hasNext 1 = .ok (.getfield 13, 3) := dk_180 0 13 (dk_at dksX6_hasNext_0 1 rfl rfl)
theorem dX6_hasNext_4 : decode cX6_hasNext 4 = .ok (.aload_n 0, 1) := dk_42 (dk_at dksX6_hasNext_0 4 rfl rfl)
theorem dX6_hasNext_5 : decode cX6_hasNext 5 = .ok (.getfield 1, 3) := dk_180 0 1 (dk_at dksX6_hasNext_0 5 rfl rfl)
theorem dX6_hasNext_8 : decode cX6_hasNext 8 = .ok (.getfield 17, 3) := dk_180 0 17 (dk_at dksX6_hasNext_0 8 rfl rfl)
theorem dX6_hasNext_11 : decode cX6_hasNext 11 = .ok (.if_icmp .ge 7, 3) := dk_162 0 7 (dk_at dksX6_hasNext_0 11 rfl rfl)
theorem dX6_hasNext_14 : decode cX6_hasNext 14 = .ok (.iconst 1, 1) := dk_4 (dk_at dksX6_hasNext_0 14 rfl rfl)
theorem dX6_hasNext_15 : decode cX6_hasNext 15 = .ok (.goto 4, 3) := dk_167 0 4 (dk_at dksX6_hasNext_0 15 rfl rfl)
theorem dX6_hasNext_18 : decode cX6_hasNext 18 = .ok (.iconst 0, 1) := dk_3 (dk_at dksX6_hasNext_0 18 rfl rfl)
theorem dX6_hasNext_19 : decode cX6_hasNext 19 = .ok (.ireturn, 1) := dk_172 (dk_at dksX6_hasNext_0 19 rfl rfl)
theorem dX6_next_0 : decode cX6_next 0 = .ok (.aload_n 0, 1) := by decide +kernel
theorem dX6_next_1 : decode cX6_next 1 = .ok (.invokevirtual 33, 3) := by decide +kernel
theorem dX6_next_4 : decode cX6_next 4 = .ok (.areturn, 1) := by decide +kernel
def dkwX6_next_2_1 : List UInt8 := [181, 0, 13, 42, 180, 0, 1, 180, 0, 29, 42, 180, 0, 13, 4, 100, 50, 176]
abbrev dktX6_next_2_1 : List UInt8 := dkwX6_next_2_1 ++ []
def dkwX6_next_2_0 : List UInt8 := [42, 182, 0, 22, 154, 0, 11, 187, 0, 26, 89, 183, 0, 28, 191, 42, 89, 180, 0, 13, 4, 96]
abbrev dktX6_next_2_0 : List UInt8 := dkwX6_next_2_0 ++ dktX6_next_2_1
theorem dksX6_next_2_0 : cX6_next_2.data.toList.drop 0 = dktX6_next_2_0 := by decide +kernel
theorem dksX6_next_2_1 : cX6_next_2.data.toList.drop 22 = dktX6_next_2_1 := dk_seg dksX6_next_2_0 22 rfl rfl
theorem dX6_next_2_0 : decode cX6_next_2 0 = .ok (.aload_n 0, 1) := dk_42 (dk_at dksX6_next_2_0 0 rfl rfl)
theorem dX6_next_2_1 : decode cX6_next_2 1 = .ok (.invokevirtual 22, 3) := dk_182 0 22 (dk_at dksX6_next_2_0 1 rfl rfl)
theorem dX6_next_2_4 : decode cX6_next_2 4 = .ok (.ifCond .ne 11, 3) := dk_154 0 11 (dk_at dksX6_next_2_0 4 rfl rfl)
theorem dX6_next_2_7 : decode cX6_next_2 7 = .ok (.new 26, 3) := dk_187 0 26 (dk_at dksX6_next_2_0 7 rfl rfl)
theorem dX6_next_2_10 : decode cX6_next_2 10 = .ok (.dup, 1) := dk_89 (dk_at dksX6_next_2_0 10 rfl rfl)
theorem dX6_next_2_11 : decode cX6_next_2 11 = .ok (.invokespecial 28, 3) := dk_183 0 28 (dk_at dksX6_next_2_0 11 rfl rfl)
theorem dX6_next_2_14 : decode cX6_next_2 14 = .ok (.athrow, 1) := dk_191 (dk_at dksX6_next_2_0 14 rfl rfl)
theorem dX6_next_2_15 : decode cX6_next_2 15 = .ok (.aload_n 0, 1) := dk_42 (dk_at dksX6_next_2_0 15 rfl rfl)
theorem dX6_next_2_16 : decode cX6_next_2 16 = .ok (.dup, 1) := dk_89 (dk_at dksX6_next_2_0 16 rfl rfl)
theorem dX6_next_2_17 : decode cX6_next_2 17 = .ok (.getfield 13, 3) := dk_180 0 13 (dk_at dksX6_next_2_0 17 rfl rfl)
theorem dX6_next_2_20 : decode cX6_next_2 20 = .ok (.iconst 1, 1) := dk_4 (dk_at dksX6_next_2_0 20 rfl rfl)
theorem dX6_next_2_21 : decode cX6_next_2 21 = .ok (.iadd, 1) := dk_96 (dk_at dksX6_next_2_0 21 rfl rfl)
theorem dX6_next_2_22 : decode cX6_next_2 22 = .ok (.putfield 13, 3) := dk_181 0 13 (dk_at dksX6_next_2_1 0 rfl rfl)
theorem dX6_next_2_25 : decode cX6_next_2 25 = .ok (.aload_n 0, 1) := dk_42 (dk_at dksX6_next_2_1 3 rfl rfl)
theorem dX6_next_2_26 : decode cX6_next_2 26 = .ok (.getfield 1, 3) := dk_180 0 1 (dk_at dksX6_next_2_1 4 rfl rfl)
theorem dX6_next_2_29 : decode cX6_next_2 29 = .ok (.getfield 29, 3) := dk_180 0 29 (dk_at dksX6_next_2_1 7 rfl rfl)
theorem dX6_next_2_32 : decode cX6_next_2 32 = .ok (.aload_n 0, 1) := dk_42 (dk_at dksX6_next_2_1 10 rfl rfl)
theorem dX6_next_2_33 : decode cX6_next_2 33 = .ok (.getfield 13, 3) := dk_180 0 13 (dk_at dksX6_next_2_1 11 rfl rfl)
theorem dX6_next_2_36 : decode cX6_next_2 36 = .ok (.iconst 1, 1) := dk_4 (dk_at dksX6_next_2_1 14 rfl rfl)
theorem dX6_next_2_37 : decode cX6_next_2 37 = .ok (.isub, 1) := dk_100 (dk_at dksX6_next_2_1 15 rfl rfl)
theorem dX6_next_2_38 : decode cX6_next_2 38 = .ok (.aaload, 1) := dk_50 (dk_at dksX6_next_2_1 16 rfl rfl)
theorem dX6_next_2_39 : decode cX6_next_2 39 = .ok (.areturn, 1) := dk_176 (dk_at dksX6_next_2_1 17 rfl rfl)
def dkwX7_copy_0 : List UInt8 := [187, 0, 2, 89, 42, 180, 0, 12, 42, 180, 0, 16, 42, 180, 0, 20, 42, 180, 0, 23, 183, 0, 1, 176]
abbrev dktX7_copy_0 : List UInt8 := dkwX7_copy_0 ++ []
theorem dksX7_copy_0 : cX7_copy.data.toList.drop 0 = dktX7_copy_0 := by decide +kernel
theorem dX7_copy_0 : decode cX7_copy 0 = .ok (.new 2, 3) := dk_187 0 2 (dk_at dksX7_copy_0 0 rfl rfl)
theorem dX7_copy_3 : decode cX7_copy 3 = .ok (.dup, 1) := dk_89 (dk_at dksX7_copy_0 3 rfl rfl)
theorem dX7_copy_4 : decode cX7_copy 4 = .ok (.aload_n 0, 1) := dk_42 (dk_at dksX7_copy_0 4 rfl rfl)
theorem dX7_copy_5 : decode cX7_copy 5 = .ok (.getfield 12, 3) := dk_180 0 12 (dk_at dksX7_copy_0 5 rfl rfl)
theorem dX7_copy_8 : decode cX7_copy 8 = .ok (.aload_n 0, 1) := dk_42 (dk_at dksX7_copy_0 8 rfl rfl)
theorem dX7_copy_9 : decode cX7_copy 9 = .ok (.getfield 16, 3) := dk_180 0 16 (dk_at dksX7_copy_0 9 rfl rfl)
theorem dX7_copy_12 : decode cX7_copy 12 = .ok (.aload_n 0, 1) := dk_42 (dk_at dksX7_copy_0 12 rfl rfl)
theorem dX7_copy_13 : decode cX7_copy 13 = .ok (.getfield 20, 3) := dk_180 0 20 (dk_at dksX7_copy_0 13 rfl rfl)
theorem dX7_copy_16 : decode cX7_copy 16 = .ok (.aload_n 0, 1) := dk_42 (dk_at dksX7_copy_0 16 rfl rfl)
theorem dX7_copy_17 : decode cX7_copy 17 = .ok (.getfield 23, 3) := dk_180 0 23 (dk_at dksX7_copy_0 17 rfl rfl)
theorem dX7_copy_20 : decode cX7_copy 20 = .ok (.invokespecial 1, 3) := dk_183 0 1 (dk_at dksX7_copy_0 20 rfl rfl)
theorem dX7_copy_23 : decode cX7_copy 23 = .ok (.areturn, 1) := dk_176 (dk_at dksX7_copy_0 23 rfl rfl)
def dkwX7_init_1 : List UInt8 := [181, 0, 23, 177]
abbrev dktX7_init_1 : List UInt8 := dkwX7_init_1 ++ []
def dkwX7_init_0 : List UInt8 := [42, 183, 0, 7, 42, 27, 181, 0, 12, 42, 44, 181, 0, 16, 42, 29, 181, 0, 20, 42, 21, 4]
abbrev dktX7_init_0 : List UInt8 := dkwX7_init_0 ++ dktX7_init_1
theorem dksX7_init_0 : cX7_init.data.toList.drop 0 = dktX7_init_0 := by decide +kernel
theorem dksX7_init_1 : cX7_init.data.toList.drop 22 = dktX7_init_1 := dk_seg dksX7_init_0 22 rfl rfl
theorem dX7_init_0 : decode cX7_init 0 = .ok (.aload_n 0, 1) := dk_42 (dk_at dksX7_init_0 0 rfl rfl)
theorem dX7_init_1 : decode cX7_init 1 = .ok (.invokespecial 7, 3) := dk_183 0 7 (dk_at dksX7_init_0 1 rfl rfl)
theorem dX7_init_4 : decode cX7_init 4 = .ok (.aload_n 0, 1) := dk_42 (dk_at dksX7_init_0 4 rfl rfl)
theorem dX7_init_5 : decode cX7_init 5 = .ok (.iload_n 1, 1) := dk_27 (dk_at dksX7_init_0 5 rfl rfl)
theorem dX7_init_6 : decode cX7_init 6 = .ok (.putfield 12, 3) := dk_181 0 12 (dk_at dksX7_init_0 6 rfl rfl)
theorem dX7_init_9 : decode cX7_init 9 = .ok (.aload_n 0, 1) := dk_42 (dk_at dksX7_init_0 9 rfl rfl)
theorem dX7_init_10 : decode cX7_init 10 = .ok (.aload_n 2, 1) := dk_44 (dk_at dksX7_init_0 10 rfl rfl)
theorem dX7_init_11 : decode cX7_init 11 = .ok (.putfield 16, 3) := dk_181 0 16 (dk_at dksX7_init_0 11 rfl rfl)
theorem dX7_init_14 : decode cX7_init 14 = .ok (.aload_n 0, 1) := dk_42 (dk_at dksX7_init_0 14 rfl rfl)
theorem dX7_init_15 : decode cX7_init 15 = .ok (.iload_n 3, 1) := dk_29 (dk_at dksX7_init_0 15 rfl rfl)
theorem dX7_init_16 : decode cX7_init 16 = .ok (.putfield 20, 3) := dk_181 0 20 (dk_at dksX7_init_0 16 rfl rfl)
theorem dX7_init_19 : decode cX7_init 19 = .ok (.aload_n 0, 1) := dk_42 (dk_at dksX7_init_0 19 rfl rfl)
theorem dX7_init_20 : decode cX7_init 20 = .ok (.iload 4, 2) := dk_21 4 (dk_at dksX7_init_0 20 rfl rfl)
theorem dX7_init_22 : decode cX7_init 22 = .ok (.putfield 23, 3) := dk_181 0 23 (dk_at dksX7_init_1 0 rfl rfl)
theorem dX7_init_25 : decode cX7_init 25 = .ok (.return_, 1) := dk_177 (dk_at dksX7_init_1 3 rfl rfl)
def dkwX7_init_2_0 : List UInt8 := [42, 27, 44, 29, 3, 183, 0, 1, 177]
abbrev dktX7_init_2_0 : List UInt8 := dkwX7_init_2_0 ++ []
theorem dksX7_init_2_0 : cX7_init_2.data.toList.drop 0 = dktX7_init_2_0 := by decide +kernel
theorem dX7_init_2_0 : decode cX7_init_2 0 = .ok (.aload_n 0, 1) := dk_42 (dk_at dksX7_init_2_0 0 rfl rfl)
theorem dX7_init_2_1 : decode cX7_init_2 1 = .ok (.iload_n 1, 1) := dk_27 (dk_at dksX7_init_2_0 1 rfl rfl)
theorem dX7_init_2_2 : decode cX7_init_2 2 = .ok (.aload_n 2, 1) := dk_44 (dk_at dksX7_init_2_0 2 rfl rfl)
theorem dX7_init_2_3 : decode cX7_init_2 3 = .ok (.iload_n 3, 1) := dk_29 (dk_at dksX7_init_2_0 3 rfl rfl)
theorem dX7_init_2_4 : decode cX7_init_2 4 = .ok (.iconst 0, 1) := dk_3 (dk_at dksX7_init_2_0 4 rfl rfl)
theorem dX7_init_2_5 : decode cX7_init_2 5 = .ok (.invokespecial 1, 3) := dk_183 0 1 (dk_at dksX7_init_2_0 5 rfl rfl)
theorem dX7_init_2_8 : decode cX7_init_2 8 = .ok (.return_, 1) := dk_177 (dk_at dksX7_init_2_0 8 rfl rfl)
def dkwX7_passDay_1 : List UInt8 := [180, 0, 16, 182, 0, 26, 154, 0, 14, 42, 42, 180, 0, 16, 182, 0, 32, 181, 0, 16, 177]
abbrev dktX7_passDay_1 : List UInt8 := dkwX7_passDay_1 ++ []
def dkwX7_passDay_0 : List UInt8 := [42, 89, 180, 0, 23, 4, 96, 181, 0, 23, 42, 180, 0, 23, 42, 180, 0, 20, 112, 154, 0, 24, 42]
abbrev dktX7_passDay_0 : List UInt8 := dkwX7_passDay_0 ++ dktX7_passDay_1
theorem dksX7_passDay_0 : cX7_passDay.data.toList.drop 0 = dktX7_passDay_0 := by decide +kernel
theorem dksX7_passDay_1 : cX7_passDay.data.toList.drop 23 = dktX7_passDay_1 := dk_seg dksX7_passDay_0 23 rfl rfl
theorem dX7_passDay_0 : decode cX7_passDay 0 = .ok (.aload_n 0, 1) := dk_42 (dk_at dksX7_passDay_0 0 rfl rfl)
theorem dX7_passDay_1 : decode cX7_passDay 1 = .ok (.dup, 1) := dk_89 (dk_at dksX7_passDay_0 1 rfl rfl)
theorem dX7_passDay_2 : decode cX7_passDay 2 = .ok (.getfield 23, 3) := dk_180 0 23 (dk_at dksX7_passDay_0 2 rfl rfl)
theorem dX7_passDay_5 : decode cX7_passDay 5 = .ok (.iconst 1, 1) := dk_4 (dk_at dksX7_passDay_0 5 rfl rfl)
theorem dX7_passDay_6 : decode cX7_passDay 6 = .ok (.iadd, 1) := dk_96 (dk_at dksX7_passDay_0 6 rfl rfl)
theorem dX7_passDay_7 : decode cX7_passDay 7 = .ok (.putfield 23, 3) := dk_181 0 23 (dk_at dksX7_passDay_0 7 rfl rfl)
theorem dX7_passDay_10 : decode cX7_passDay 10 = .ok (.aload_n 0, 1) := dk_42 (dk_at dksX7_passDay_0 10 rfl rfl)
theorem dX7_passDay_11 : decode cX7_passDay 11 = .ok (.getfield 23, 3) := dk_180 0 23 (dk_at dksX7_passDay_0 11 rfl rfl)
theorem dX7_passDay_14 : decode cX7_passDay 14 = .ok (.aload_n 0, 1) := dk_42 (dk_at dksX7_passDay_0 14 rfl rfl)
theorem dX7_passDay_15 : decode cX7_passDay 15 = .ok (.getfield 20, 3) := dk_180 0 20 (dk_at dksX7_passDay_0 15 rfl rfl)
theorem dX7_passDay_18 : decode cX7_passDay 18 = .ok (.irem, 1) := dk_112 (dk_at dksX7_passDay_0 18 rfl rfl)
theorem dX7_passDay_19 : decode cX7_passDay 19 = .ok (.ifCond .ne 24, 3) := dk_154 0 24 (dk_at dksX7_passDay_0 19 rfl rfl)
theorem dX7_passDay_22 : decode cX7_passDay 22 = .ok (.aload_n 0, 1) := dk_42 (dk_at dksX7_passDay_0 22 rfl rfl)
theorem dX7_passDay_23 : decode cX7_passDay 23 = .ok (.getfield 16, 3) := dk_180 0 16 (dk_at dksX7_passDay_1 0 rfl rfl)
theorem dX7_passDay_26 : decode cX7_passDay 26 = .ok (.invokevirtual 26, 3) := dk_182 0 26 (dk_at dksX7_passDay_1 3 rfl rfl)
theorem dX7_passDay_29 : decode cX7_passDay 29 = .ok (.ifCond .ne 14, 3) := dk_154 0 14 (dk_at dksX7_passDay_1 6 rfl rfl)
theorem dX7_passDay_32 : decode cX7_passDay 32 = .ok (.aload_n 0, 1) := dk_42 (dk_at dksX7_passDay_1 9 rfl rfl)
theorem dX7_passDay_33 : decode cX7_passDay 33 = .ok (.aload_n 0, 1) := dk_42 (dk_at dksX7_passDay_1 10 rfl rfl)
theorem dX7_passDay_34 : decode cX7_passDay 34 = .ok (.getfield 16, 3) := dk_180 0 16 (dk_at dksX7_passDay_1 11 rfl rfl)
theorem dX7_passDay_37 : decode cX7_passDay 37 = .ok (.invokevirtual 32, 3) := dk_182 0 32 (dk_at dksX7_passDay_1 14 rfl rfl)
theorem dX7_passDay_40 : decode cX7_passDay 40 = .ok (.putfield 16, 3) := dk_181 0 16 (dk_at dksX7_passDay_1 17 rfl rfl)
theorem dX7_passDay_43 : decode cX7_passDay 43 = .ok (.return_, 1) := dk_177 (dk_at dksX7_passDay_1 20 rfl rfl)
def dkwX7_daysUntilGrey_1 : List UInt8 := [108, 27, 96, 42, 180, 0, 20, 104, 42, 180, 0, 23, 100, 172]
abbrev dktX7_daysUntilGrey_1 : List UInt8 := dkwX7_daysUntilGrey_1 ++ []
def dkwX7_daysUntilGrey_0 : List UInt8 := [42, 180, 0, 16, 182, 0, 36, 60, 27, 154, 0, 7, 3, 167, 0, 24, 42, 180, 0, 23, 42, 180, 0, 20]
abbrev dktX7_daysUntilGrey_0 : List UInt8 := dkwX7_daysUntilGrey_0 ++ dktX7_daysUntilGrey_1
theorem dksX7_daysUntilGrey_0 : cX7_daysUntilGrey.data.toList.drop 0 = dktX7_daysUntilGrey_0 := by decide +kernel
theorem dksX7_daysUntilGrey_1 : cX7_daysUntilGrey.data.toList.drop 24 = dktX7_daysUntilGrey_1 := dk_seg dksX7_daysUntilGrey_0 24 rfl rfl
theorem dX7_daysUntilGrey_0 : decode cX7_daysUntilGrey 0 = .ok (.aload_n 0, 1) := dk_42 (dk_at dksX7_daysUntilGrey_0 0 rfl rfl)
theorem dX7_daysUntilGrey_1 : decode cX7_daysUntilGrey 1 = .ok (.getfield 16, 3) := dk_180 0 16 (dk_at dksX7_daysUntilGrey_0 1 rfl rfl)
theorem dX7_daysUntilGrey_4 : decode cX7_daysUntilGrey 4 = .ok (.invokevirtual 36, 3) := dk_182 0 36 (dk_at dksX7_daysUntilGrey_0 4 rfl rfl)
theorem dX7_daysUntilGrey_7 : decode cX7_daysUntilGrey 7 = .ok (.istore_n 1, 1) := dk_60 (dk_at dksX7_daysUntilGrey_0 7 rfl rfl)
theorem dX7_daysUntilGrey_8 : decode cX7_daysUntilGrey 8 = .ok (.iload_n 1, 1) := dk_27 (dk_at dksX7_daysUntilGrey_0 8 rfl rfl)
theorem dX7_daysUntilGrey_9 : decode cX7_daysUntilGrey 9 = .ok (.ifCond .ne 7, 3) := dk_154 0 7 (dk_at dksX7_daysUntilGrey_0 9 rfl rfl)
theorem dX7_daysUntilGrey_12 : decode cX7_daysUntilGrey 12 = .ok (.iconst 0, 1) := dk_3 (dk_at dksX7_daysUntilGrey_0 12 rfl rfl)
theorem dX7_daysUntilGrey_13 : decode cX7_daysUntilGrey 13 = .ok (.goto 24, 3) := dk_167 0 24 (dk_at dksX7_daysUntilGrey_0 13 rfl rfl)
theorem dX7_daysUntilGrey_16 : decode cX7_daysUntilGrey 16 = .ok (.aload_n 0, 1) := dk_42 (dk_at dksX7_daysUntilGrey_0 16 rfl rfl)
theorem dX7_daysUntilGrey_17 : decode cX7_daysUntilGrey 17 = .ok (.getfield 23, 3) := dk_180 0 23 (dk_at dksX7_daysUntilGrey_0 17 rfl rfl)
theorem dX7_daysUntilGrey_20 : decode cX7_daysUntilGrey 20 = .ok (.aload_n 0, 1) := dk_42 (dk_at dksX7_daysUntilGrey_0 20 rfl rfl)
theorem dX7_daysUntilGrey_21 : decode cX7_daysUntilGrey 21 = .ok (.getfield 20, 3) := dk_180 0 20 (dk_at dksX7_daysUntilGrey_0 21 rfl rfl)
theorem dX7_daysUntilGrey_24 : decode cX7_daysUntilGrey 24 = .ok (.idiv, 1) := dk_108 (dk_at dksX7_daysUntilGrey_1 0 rfl rfl)
theorem dX7_daysUntilGrey_25 : decode cX7_daysUntilGrey 25 = .ok (.iload_n 1, 1) := dk_27 (dk_at dksX7_daysUntilGrey_1 1 rfl rfl)
theorem dX7_daysUntilGrey_26 : decode cX7_daysUntilGrey 26 = .ok (.iadd, 1) := dk_96 (dk_at dksX7_daysUntilGrey_1 2 rfl rfl)
theorem dX7_daysUntilGrey_27 : decode cX7_daysUntilGrey 27 = .ok (.aload_n 0, 1) := dk_42 (dk_at dksX7_daysUntilGrey_1 3 rfl rfl)
theorem dX7_daysUntilGrey_28 : decode cX7_daysUntilGrey 28 = .ok (.getfield 20, 3) := dk_180 0 20 (dk_at dksX7_daysUntilGrey_1 4 rfl rfl)
theorem dX7_daysUntilGrey_31 : decode cX7_daysUntilGrey 31 = .ok (.imul, 1) := dk_104 (dk_at dksX7_daysUntilGrey_1 7 rfl rfl)
theorem dX7_daysUntilGrey_32 : decode cX7_daysUntilGrey 32 = .ok (.aload_n 0, 1) := dk_42 (dk_at dksX7_daysUntilGrey_1 8 rfl rfl)
theorem dX7_daysUntilGrey_33 : decode cX7_daysUntilGrey 33 = .ok (.getfield 23, 3) := dk_180 0 23 (dk_at dksX7_daysUntilGrey_1 9 rfl rfl)
theorem dX7_daysUntilGrey_36 : decode cX7_daysUntilGrey 36 = .ok (.isub, 1) := dk_100 (dk_at dksX7_daysUntilGrey_1 12 rfl rfl)
theorem dX7_daysUntilGrey_37 : decode cX7_daysUntilGrey 37 = .ok (.ireturn, 1) := dk_172 (dk_at dksX7_daysUntilGrey_1 13 rfl rfl)
def dkwX7_toString_3 : List UInt8 := [182, 0, 49, 182, 0, 64, 176]
abbrev dktX7_toString_3 : List UInt8 := dkwX7_toString_3 ++ []
def dkwX7_toString_2 : List UInt8 := [180, 0, 23, 182, 0, 43, 42, 180, 0, 16, 182, 0, 26, 153, 0, 8, 18, 60, 167, 0, 5, 18, 62]
abbrev dktX7_toString_2 : List UInt8 := dkwX7_toString_2 ++ dktX7_toString_3
def dkwX7_toString_1 : List UInt8 := [182, 0, 52, 182, 0, 49, 18, 56, 182, 0, 49, 42, 180, 0, 20, 182, 0, 43, 18, 58, 182, 0, 49, 42]
abbrev dktX7_toString_1 : List UInt8 := dkwX7_toString_1 ++ dktX7_toString_2
def dkwX7_toString_0 : List UInt8 := [187, 0, 40, 89, 183, 0, 42, 42, 180, 0, 12, 182, 0, 43, 18, 47, 182, 0, 49, 42, 180, 0, 16]
abbrev dktX7_toString_0 : List UInt8 := dkwX7_toString_0 ++ dktX7_toString_1
theorem dksX7_toString_0 : cX7_toString.data.toList.drop 0 = dktX7_toString_0 := by decide +kernel
theorem dksX7_toString_1 : cX7_toString.data.toList.drop 23 = dktX7_toString_1 := dk_seg dksX7_toString_0 23 rfl rfl
theorem dksX7_toString_2 : cX7_toString.data.toList.drop 47 = dktX7_toString_2 := dk_seg dksX7_toString_1 24 rfl rfl
theorem dksX7_toString_3 : cX7_toString.data.toList.drop 70 = dktX7_toString_3 := dk_seg dksX7_toString_2 23 rfl rfl
theorem dX7_toString_0 : decode cX7_toString 0 = .ok (.new 40, 3) := dk_187 0 40 (dk_at dksX7_toString_0 0 rfl rfl)
theorem dX7_toString_3 : decode cX7_toString 3 = .ok (.dup, 1) := dk_89 (dk_at dksX7_toString_0 3 rfl rfl)
theorem dX7_toString_4 : decode cX7_toString 4 = .ok (.invokespecial 42, 3) := dk_183 0 42 (dk_at dksX7_toString_0 4 rfl rfl)
theorem dX7_toString_7 : decode cX7_toString 7 = .ok (.aload_n 0, 1) := dk_42 (dk_at dksX7_toString_0 7 rfl rfl)
theorem dX7_toString_8 : decode cX7_toString 8 = .ok (.getfield 12, 3) := dk_180 0 12 (dk_at dksX7_toString_0 8 rfl rfl)
theorem dX7_toString_11 : decode cX7_toString 11 = .ok (.invokevirtual 43, 3) := dk_182 0 43 (dk_at dksX7_toString_0 11 rfl rfl)
theorem dX7_toString_14 : decode cX7_toString 14 = .ok (.ldc 47, 2) := dk_18 47 (dk_at dksX7_toString_0 14 rfl rfl)
theorem dX7_toString_16 : decode cX7_toString 16 = .ok (.invokevirtual 49, 3) := dk_182 0 49 (dk_at dksX7_toString_0 16 rfl rfl)
theorem dX7_toString_19 : decode cX7_toString 19 = .ok (.aload_n 0, 1) := dk_42 (dk_at dksX7_toString_0 19 rfl rfl)
theorem dX7_toString_20 : decode cX7_toString 20 = .ok (.getfield 16, 3) := dk_180 0 16 (dk_at dksX7_toString_0 20 rfl rfl)
theorem dX7_toString_23 : decode cX7_toString 23 = .ok (.invokevirtual 52, 3) := dk_182 0 52 (dk_at dksX7_toString_1 0 rfl rfl)
theorem dX7_toString_26 : decode cX7_toString 26 = .ok (.invokevirtual 49, 3) := dk_182 0 49 (dk_at dksX7_toString_1 3 rfl rfl)
theorem dX7_toString_29 : decode cX7_toString 29 = .ok (.ldc 56, 2) := dk_18 56 (dk_at dksX7_toString_1 6 rfl rfl)
theorem dX7_toString_31 : decode cX7_toString 31 = .ok (.invokevirtual 49, 3) := dk_182 0 49 (dk_at dksX7_toString_1 8 rfl rfl)
theorem dX7_toString_34 : decode cX7_toString 34 = .ok (.aload_n 0, 1) := dk_42 (dk_at dksX7_toString_1 11 rfl rfl)
theorem dX7_toString_35 : decode cX7_toString 35 = .ok (.getfield 20, 3) := dk_180 0 20 (dk_at dksX7_toString_1 12 rfl rfl)
theorem dX7_toString_38 : decode cX7_toString 38 = .ok (.invokevirtual 43, 3) := dk_182 0 43 (dk_at dksX7_toString_1 15 rfl rfl)
theorem dX7_toString_41 : decode cX7_toString 41 = .ok (.ldc 58, 2) := dk_18 58 (dk_at dksX7_toString_1 18 rfl rfl)
theorem dX7_toString_43 : decode cX7_toString 43 = .ok (.invokevirtual 49, 3) := dk_182 0 49 (dk_at dksX7_toString_1 20 rfl rfl)
theorem dX7_toString_46 : decode cX7_toString 46 = .ok (.aload_n 0, 1) := dk_42 (dk_at dksX7_toString_1 23 rfl rfl)
theorem dX7_toString_47 : decode cX7_toString 47 = .ok (.getfield 23, 3) := dk_180 0 23 (dk_at dksX7_toString_2 0 rfl rfl)
theorem dX7_toString_50 : decode cX7_toString 50 = .ok (.invokevirtual 43, 3) := dk_182 0 43 (dk_at dksX7_toString_2 3 rfl rfl)
theorem dX7_toString_53 : decode cX7_toString 53 = .ok (.aload_n 0, 1) := dk_42 (dk_at dksX7_toString_2 6 rfl rfl)
theorem dX7_toString_54 : decode cX7_toString 54 = .ok (.getfield 16, 3) := dk_180 0 16 (dk_at dksX7_toString_2 7 rfl rfl)
theorem dX7_toString_57 : decode cX7_toString 57 = .ok (.invokevirtual 26, 3) := dk_182 0 26 (dk_at dksX7_toString_2 10 rfl rfl)
theorem dX7_toString_60 : decode cX7_toString 60 = .ok (.ifCond .eq 8, 3) := dk_153 0 8 (dk_at dksX7_toString_2 13 rfl rfl)
theorem dX7_toString_63 : decode cX7_toString 63 = .ok (.ldc 60, 2) := dk_18 60 (dk_at dksX7_toString_2 16 rfl rfl)
theorem dX7_toString_65 : decode cX7_toString 65 = .ok (.goto 5, 3) := dk_167 0 5 (dk_at dksX7_toString_2 18 rfl rfl)
theorem dX7_toString_68 : decode cX7_toString 68 = .ok (.ldc 62, 2) := dk_18 62 (dk_at dksX7_toString_2 21 rfl rfl)
theorem dX7_toString_70 : decode cX7_toString 70 = .ok (.invokevirtual 49, 3) := dk_182 0 49 (dk_at dksX7_toString_3 0 rfl rfl)
theorem dX7_toString_73 : decode cX7_toString 73 = .ok (.invokevirtual 64, 3) := dk_182 0 64 (dk_at dksX7_toString_3 3 rfl rfl)
theorem dX7_toString_76 : decode cX7_toString 76 = .ok (.areturn, 1) := dk_176 (dk_at dksX7_toString_3 6 rfl rfl)
def dkwX8_init_0 : List UInt8 := [42, 183, 0, 1, 42, 43, 181, 0, 7, 42, 44, 181, 0, 13, 177]
abbrev dktX8_init_0 : List UInt8 := dkwX8_init_0 ++ []
theorem dksX8_init_0 : cX8_init.data.toList.drop 0 = dktX8_init_0 := by decide +kernel
theorem dX8_init_0 : decode cX8_init 0 = .ok (.aload_n 0, 1) := dk_42 (dk_at dksX8_init_0 0 rfl rfl)
theorem dX8_init_1 : decode cX8_init 1 = .ok (.invokespecial 1, 3) := dk_183 0 1 (dk_at dksX8_init_0 1 rfl rfl)
theorem dX8_init_4 : decode cX8_init 4 = .ok (.aload_n 0, 1) := dk_42 (dk_at dksX8_init_0 4 rfl rfl)
theorem dX8_init_5 : decode cX8_init 5 = .ok (.aload_n 1, 1) := dk_43 (dk_at dksX8_init_0 5 rfl rfl)
theorem dX8_init_6 : decode cX8_init 6 = .ok (.putfield 7, 3) := dk_181 0 7 (dk_at dksX8_init_0 6 rfl rfl)
theorem dX8_init_9 : decode cX8_init 9 = .ok (.aload_n 0, 1) := dk_42 (dk_at dksX8_init_0 9 rfl rfl)
theorem dX8_init_10 : decode cX8_init 10 = .ok (.aload_n 2, 1) := dk_44 (dk_at dksX8_init_0 10 rfl rfl)
theorem dX8_init_11 : decode cX8_init 11 = .ok (.putfield 13, 3) := dk_181 0 13 (dk_at dksX8_init_0 11 rfl rfl)
theorem dX8_init_14 : decode cX8_init 14 = .ok (.return_, 1) := dk_177 (dk_at dksX8_init_0 14 rfl rfl)
def dkwX8_applyTo_14 : List UInt8 := [43, 42, 3, 182, 0, 43, 182, 0, 79, 172]
abbrev dktX8_applyTo_14 : List UInt8 := dkwX8_applyTo_14 ++ []
def dkwX8_applyTo_13 : List UInt8 := [182, 0, 71, 172, 43, 182, 0, 75, 172, 43, 42, 3, 182, 0, 43, 42, 4, 182, 0, 43, 182, 0, 77, 172]
abbrev dktX8_applyTo_13 : List UInt8 := dkwX8_applyTo_13 ++ dktX8_applyTo_14
def dkwX8_applyTo_12 : List UInt8 := [43, 42, 3, 182, 0, 43, 146, 182, 0, 67, 172, 43, 42, 3, 182, 0, 43, 42, 4, 182, 0, 43]
abbrev dktX8_applyTo_12 : List UInt8 := dkwX8_applyTo_12 ++ dktX8_applyTo_13
def dkwX8_applyTo_11 : List UInt8 := [182, 0, 58, 172, 43, 42, 3, 182, 0, 43, 182, 0, 62, 172, 43, 42, 3, 182, 0, 43, 182, 0, 65, 172]
abbrev dktX8_applyTo_11 : List UInt8 := dkwX8_applyTo_11 ++ dktX8_applyTo_12
def dkwX8_applyTo_10 : List UInt8 := [79, 89, 5, 42, 5, 182, 0, 43, 79, 183, 0, 55, 42, 6, 182, 0, 43, 42, 7, 182, 0, 43]
abbrev dktX8_applyTo_10 : List UInt8 := dkwX8_applyTo_10 ++ dktX8_applyTo_11
def dkwX8_applyTo_9 : List UInt8 := [172, 43, 187, 0, 53, 89, 6, 188, 10, 89, 3, 42, 3, 182, 0, 43, 79, 89, 4, 42, 4, 182, 0, 43]
abbrev dktX8_applyTo_9 : List UInt8 := dkwX8_applyTo_9 ++ dktX8_applyTo_10
def dkwX8_applyTo_8 : List UInt8 := [43, 42, 3, 182, 0, 43, 42, 4, 182, 0, 43, 42, 5, 182, 0, 43, 42, 6, 182, 0, 43, 182, 0, 47]
abbrev dktX8_applyTo_8 : List UInt8 := dkwX8_applyTo_8 ++ dktX8_applyTo_9
def dkwX8_applyTo_7 : List UInt8 := [170, 0, 0, 0, 0, 0, 0, 188, 0, 0, 0, 0, 0, 0, 0, 7, 0, 0, 0, 48, 0, 0, 0, 73, 0, 0, 0, 122, 0, 0, 0, 132, 0, 0, 0, 142, 0, 0, 0, 153, 0, 0, 0, 168, 0, 0, 0, 173]
abbrev dktX8_applyTo_7 : List UInt8 := dkwX8_applyTo_7 ++ dktX8_applyTo_8
def dkwX8_applyTo_6 : List UInt8 := [62, 167, 0, 15, 44, 18, 41, 182, 0, 25, 153, 0, 6, 16, 7, 62, 29]
abbrev dktX8_applyTo_6 : List UInt8 := dkwX8_applyTo_6 ++ dktX8_applyTo_7
def dkwX8_applyTo_5 : List UInt8 := [18, 37, 182, 0, 25, 153, 0, 35, 8, 62, 167, 0, 30, 44, 18, 39, 182, 0, 25, 153, 0, 21, 16, 6]
abbrev dktX8_applyTo_5 : List UInt8 := dkwX8_applyTo_5 ++ dktX8_applyTo_6
def dkwX8_applyTo_4 : List UInt8 := [153, 0, 63, 6, 62, 167, 0, 58, 44, 18, 35, 182, 0, 25, 153, 0, 49, 7, 62, 167, 0, 44, 44]
abbrev dktX8_applyTo_4 : List UInt8 := dkwX8_applyTo_4 ++ dktX8_applyTo_5
def dkwX8_applyTo_3 : List UInt8 := [62, 167, 0, 86, 44, 18, 31, 182, 0, 25, 153, 0, 77, 5, 62, 167, 0, 72, 44, 18, 33, 182, 0, 25]
abbrev dktX8_applyTo_3 : List UInt8 := dkwX8_applyTo_3 ++ dktX8_applyTo_4
def dkwX8_applyTo_2 : List UInt8 := [44, 18, 23, 182, 0, 25, 153, 0, 105, 3, 62, 167, 0, 100, 44, 18, 29, 182, 0, 25, 153, 0, 91, 4]
abbrev dktX8_applyTo_2 : List UInt8 := dkwX8_applyTo_2 ++ dktX8_applyTo_3
def dkwX8_applyTo_1 : List UInt8 := [171, 0, 0, 0, 184, 0, 0, 0, 8, 191, 197, 245, 176, 0, 0, 0, 129, 200, 76, 85, 52, 0, 0, 0, 87, 200, 78, 61, 48, 0, 0, 0, 143, 202, 3, 17, 75, 0, 0, 0, 157, 0, 1, 166, 92, 0, 0, 0, 172, 0, 47, 46, 239, 0, 0, 0, 101, 0, 47, 245, 185, 0, 0, 0, 73, 99, 159, 8, 158, 0, 0, 0, 115]
abbrev dktX8_applyTo_1 : List UInt8 := dkwX8_applyTo_1 ++ dktX8_applyTo_2
def dkwX8_applyTo_0 : List UInt8 := [42, 180, 0, 7, 77, 2, 62, 44, 182, 0, 17]
abbrev dktX8_applyTo_0 : List UInt8 := dkwX8_applyTo_0 ++ dktX8_applyTo_1
theorem dksX8_applyTo_0 : cX8_applyTo.data.toList.drop 0 = dktX8_applyTo_0 := by decide +kernel
theorem dksX8_applyTo_1 : cX8_applyTo.data.toList.drop 11 = dktX8_applyTo_1 := dk_seg dksX8_applyTo_0 11 rfl rfl
theorem dksX8_applyTo_2 : cX8_applyTo.data.toList.drop 84 = dktX8_applyTo_2 := dk_seg dksX8_applyTo_1 73 rfl rfl
theorem dksX8_applyTo_3 : cX8_applyTo.data.toList.drop 108 = dktX8_applyTo_3 := dk_seg dksX8_applyTo_2 24 rfl rfl
theorem dksX8_applyTo_4 : cX8_applyTo.data.toList.drop 132 = dktX8_applyTo_4 := dk_seg dksX8_applyTo_3 24 rfl rfl
theorem dksX8_applyTo_5 : cX8_applyTo.data.toList.drop 155 = dktX8_applyTo_5 := dk_seg dksX8_applyTo_4 23 rfl rfl
theorem dksX8_applyTo_6 : cX8_applyTo.data.toList.drop 179 = dktX8_applyTo_6 := dk_seg dksX8_applyTo_5 24 rfl rfl
theorem dksX8_applyTo_7 : cX8_applyTo.data.toList.drop 196 = dktX8_applyTo_7 := dk_seg dksX8_applyTo_6 17 rfl rfl
theorem dksX8_applyTo_8 : cX8_applyTo.data.toList.drop 244 = dktX8_applyTo_8 := dk_seg dksX8_applyTo_7 48 rfl rfl
theorem dksX8_applyTo_9 : cX8_applyTo.data.toList.drop 268 = dktX8_applyTo_9 := dk_seg dksX8_applyTo_8 24 rfl rfl
theorem dksX8_applyTo_10 : cX8_applyTo.data.toList.drop 292 = dktX8_applyTo_10 := dk_seg dksX8_applyTo_9 24 rfl rfl
theorem dksX8_applyTo_11 : cX8_applyTo.data.toList.drop 314 = dktX8_applyTo_11 := dk_seg dksX8_applyTo_10 22 rfl rfl
theorem dksX8_applyTo_12 : cX8_applyTo.data.toList.drop 338 = dktX8_applyTo_12 := dk_seg dksX8_applyTo_11 24 rfl rfl
theorem dksX8_applyTo_13 : cX8_applyTo.data.toList.drop 360 = dktX8_applyTo_13 := dk_seg dksX8_applyTo_12 22 rfl rfl
theorem dksX8_applyTo_14 : cX8_applyTo.data.toList.drop 384 = dktX8_applyTo_14 := dk_seg dksX8_applyTo_13 24 rfl rfl
theorem dX8_applyTo_0 : decode cX8_applyTo 0 = .ok (.aload_n 0, 1) := dk_42 (dk_at dksX8_applyTo_0 0 rfl rfl)
theorem dX8_applyTo_1 : decode cX8_applyTo 1 = .ok (.getfield 7, 3) := dk_180 0 7 (dk_at dksX8_applyTo_0 1 rfl rfl)
theorem dX8_applyTo_4 : decode cX8_applyTo 4 = .ok (.astore_n 2, 1) := dk_77 (dk_at dksX8_applyTo_0 4 rfl rfl)
theorem dX8_applyTo_5 : decode cX8_applyTo 5 = .ok (.iconst (-1), 1) := dk_2 (dk_at dksX8_applyTo_0 5 rfl rfl)
theorem dX8_applyTo_6 : decode cX8_applyTo 6 = .ok (.istore_n 3, 1) := dk_62 (dk_at dksX8_applyTo_0 6 rfl rfl)
theorem dX8_applyTo_7 : decode cX8_applyTo 7 = .ok (.aload_n 2, 1) := dk_44 (dk_at dksX8_applyTo_0 7 rfl rfl)
theorem dX8_applyTo_8 : decode cX8_applyTo 8 = .ok (.invokevirtual 17, 3) := dk_182 0 17 (dk_at dksX8_applyTo_0 8 rfl rfl)
theorem dX8_applyTo_11 : decode cX8_applyTo 11 = .ok (.lookupswitch 184 #[(-1077545552, 129), (-934521548, 87), (-934396624, 143), (-905768629, 157), (108124, 172), (3092207, 101), (3143097, 73), (1671366814, 115)], 73) := by decide +kernel
theorem dX8_applyTo_84 : decode cX8_applyTo 84 = .ok (.aload_n 2, 1) := dk_44 (dk_at dksX8_applyTo_2 0 rfl rfl)
theorem dX8_applyTo_85 : decode cX8_applyTo 85 = .ok (.ldc 23, 2) := dk_18 23 (dk_at dksX8_applyTo_2 1 rfl rfl)
theorem dX8_applyTo_87 : decode cX8_applyTo 87 = .ok (.invokevirtual 25, 3) := dk_182 0 25 (dk_at dksX8_applyTo_2 3 rfl rfl)
theorem dX8_applyTo_90 : decode cX8_applyTo 90 = .ok (.ifCond .eq 105, 3) := dk_153 0 105 (dk_at dksX8_applyTo_2 6 rfl rfl)
theorem dX8_applyTo_93 : decode cX8_applyTo 93 = .ok (.iconst 0, 1) := dk_3 (dk_at dksX8_applyTo_2 9 rfl rfl)
theorem dX8_applyTo_94 : decode cX8_applyTo 94 = .ok (.istore_n 3, 1) := dk_62 (dk_at dksX8_applyTo_2 10 rfl rfl)
theorem dX8_applyTo_95 : decode cX8_applyTo 95 = .ok (.goto 100, 3) := dk_167 0 100 (dk_at dksX8_applyTo_2 11 rfl rfl)
theorem dX8_applyTo_98 : decode cX8_applyTo 98 = .ok (.aload_n 2, 1) := dk_44 (dk_at dksX8_applyTo_2 14 rfl rfl)
theorem dX8_applyTo_99 : decode cX8_applyTo 99 = .ok (.ldc 29, 2) := dk_18 29 (dk_at dksX8_applyTo_2 15 rfl rfl)
theorem dX8_applyTo_101 : decode cX8_applyTo 101 = .ok (.invokevirtual 25, 3) := dk_182 0 25 (dk_at dksX8_applyTo_2 17 rfl rfl)
theorem dX8_applyTo_104 : decode cX8_applyTo 104 = .ok (.ifCond .eq 91, 3) := dk_153 0 91 (dk_at dksX8_applyTo_2 20 rfl rfl)
theorem dX8_applyTo_107 : decode cX8_applyTo 107 = .ok (.iconst 1, 1) := dk_4 (dk_at dksX8_applyTo_2 23 rfl rfl)
theorem dX8_applyTo_108 : decode cX8_applyTo 108 = .ok (.istore_n 3, 1) := dk_62 (dk_at dksX8_applyTo_3 0 rfl rfl)
theorem dX8_applyTo_109 : decode cX8_applyTo 109 = .ok (.goto 86, 3) := dk_167 0 86 (dk_at dksX8_applyTo_3 1 rfl rfl)
theorem dX8_applyTo_112 : decode cX8_applyTo 112 = .ok (.aload_n 2, 1) := dk_44 (dk_at dksX8_applyTo_3 4 rfl rfl)
theorem dX8_applyTo_113 : decode cX8_applyTo 113 = .ok (.ldc 31, 2) := dk_18 31 (dk_at dksX8_applyTo_3 5 rfl rfl)
theorem dX8_applyTo_115 : decode cX8_applyTo 115 = .ok (.invokevirtual 25, 3) := dk_182 0 25 (dk_at dksX8_applyTo_3 7 rfl rfl)
theorem dX8_applyTo_118 : decode cX8_applyTo 118 = .ok (.ifCond .eq 77, 3) := dk_153 0 77 (dk_at dksX8_applyTo_3 10 rfl rfl)
theorem dX8_applyTo_121 : decode cX8_applyTo 121 = .ok (.iconst 2, 1) := dk_5 (dk_at dksX8_applyTo_3 13 rfl rfl)
theorem dX8_applyTo_122 : decode cX8_applyTo 122 = .ok (.istore_n 3, 1) := dk_62 (dk_at dksX8_applyTo_3 14 rfl rfl)
theorem dX8_applyTo_123 : decode cX8_applyTo 123 = .ok (.goto 72, 3) := dk_167 0 72 (dk_at dksX8_applyTo_3 15 rfl rfl)
theorem dX8_applyTo_126 : decode cX8_applyTo 126 = .ok (.aload_n 2, 1) := dk_44 (dk_at dksX8_applyTo_3 18 rfl rfl)
theorem dX8_applyTo_127 : decode cX8_applyTo 127 = .ok (.ldc 33, 2) := dk_18 33 (dk_at dksX8_applyTo_3 19 rfl rfl)
theorem dX8_applyTo_129 : decode cX8_applyTo 129 = .ok (.invokevirtual 25, 3) := dk_182 0 25 (dk_at dksX8_applyTo_3 21 rfl rfl)
theorem dX8_applyTo_132 : decode cX8_applyTo 132 = .ok (.ifCond .eq 63, 3) := dk_153 0 63 (dk_at dksX8_applyTo_4 0 rfl rfl)
theorem dX8_applyTo_135 : decode cX8_applyTo 135 = .ok (.iconst 3, 1) := dk_6 (dk_at dksX8_applyTo_4 3 rfl rfl)
theorem dX8_applyTo_136 : decode cX8_applyTo 136 = .ok (.istore_n 3, 1) := dk_62 (dk_at dksX8_applyTo_4 4 rfl rfl)
theorem dX8_applyTo_137 : decode cX8_applyTo 137 = .ok (.goto 58, 3) := dk_167 0 58 (dk_at dksX8_applyTo_4 5 rfl rfl)
theorem dX8_applyTo_140 : decode cX8_applyTo 140 = .ok (.aload_n 2, 1) := dk_44 (dk_at dksX8_applyTo_4 8 rfl rfl)
theorem dX8_applyTo_141 : decode cX8_applyTo 141 = .ok (.ldc 35, 2) := dk_18 35 (dk_at dksX8_applyTo_4 9 rfl rfl)
theorem dX8_applyTo_143 : decode cX8_applyTo 143 = .ok (.invokevirtual 25, 3) := dk_182 0 25 (dk_at dksX8_applyTo_4 11 rfl rfl)
theorem dX8_applyTo_146 : decode cX8_applyTo 146 = .ok (.ifCond .eq 49, 3) := dk_153 0 49 (dk_at dksX8_applyTo_4 14 rfl rfl)
theorem dX8_applyTo_149 : decode cX8_applyTo 149 = .ok (.iconst 4, 1) := dk_7 (dk_at dksX8_applyTo_4 17 rfl rfl)
theorem dX8_applyTo_150 : decode cX8_applyTo 150 = .ok (.istore_n 3, 1) := dk_62 (dk_at dksX8_applyTo_4 18 rfl rfl)
theorem dX8_applyTo_151 : decode cX8_applyTo 151 = .ok (.goto 44, 3) := dk_167 0 44 (dk_at dksX8_applyTo_4 19 rfl rfl)
theorem dX8_applyTo_154 : decode cX8_applyTo 154 = .ok (.aload_n 2, 1) := dk_44 (dk_at dksX8_applyTo_4 22 rfl rfl)
theorem dX8_applyTo_155 : decode cX8_applyTo 155 = .ok (.ldc 37, 2) := dk_18 37 (dk_at dksX8_applyTo_5 0 rfl rfl)
theorem dX8_applyTo_157 : decode cX8_applyTo 157 = .ok (.invokevirtual 25, 3) := dk_182 0 25 (dk_at dksX8_applyTo_5 2 rfl rfl)
theorem dX8_applyTo_160 : decode cX8_applyTo 160 = .ok (.ifCond .eq 35, 3) := dk_153 0 35 (dk_at dksX8_applyTo_5 5 rfl rfl)
theorem dX8_applyTo_163 : decode cX8_applyTo 163 = .ok (.iconst 5, 1) := dk_8 (dk_at dksX8_applyTo_5 8 rfl rfl)
theorem dX8_applyTo_164 : decode cX8_applyTo 164 = .ok (.istore_n 3, 1) := dk_62 (dk_at dksX8_applyTo_5 9 rfl rfl)
theorem dX8_applyTo_165 : decode cX8_applyTo 165 = .ok (.goto 30, 3) := dk_167 0 30 (dk_at dksX8_applyTo_5 10 rfl rfl)
theorem dX8_applyTo_168 : decode cX8_applyTo 168 = .ok (.aload_n 2, 1) := dk_44 (dk_at dksX8_applyTo_5 13 rfl rfl)
theorem dX8_applyTo_169 : decode cX8_applyTo 169 = .ok (.ldc 39, 2) := dk_18 39 (dk_at dksX8_applyTo_5 14 rfl rfl)
theorem dX8_applyTo_171 : decode cX8_applyTo 171 = .ok (.invokevirtual 25, 3) := dk_182 0 25 (dk_at dksX8_applyTo_5 16 rfl rfl)
theorem dX8_applyTo_174 : decode cX8_applyTo 174 = .ok (.ifCond .eq 21, 3) := dk_153 0 21 (dk_at dksX8_applyTo_5 19 rfl rfl)
theorem dX8_applyTo_177 : decode cX8_applyTo 177 = .ok (.bipush 6, 2) := dk_16 6 (dk_at dksX8_applyTo_5 22 rfl rfl)
theorem dX8_applyTo_179 : decode cX8_applyTo 179 = .ok (.istore_n 3, 1) := dk_62 (dk_at dksX8_applyTo_6 0 rfl rfl)
theorem dX8_applyTo_180 : decode cX8_applyTo 180 = .ok (.goto 15, 3) := dk_167 0 15 (dk_at dksX8_applyTo_6 1 rfl rfl)
theorem dX8_applyTo_183 : decode cX8_applyTo 183 = .ok (.aload_n 2, 1) := dk_44 (dk_at dksX8_applyTo_6 4 rfl rfl)
theorem dX8_applyTo_184 : decode cX8_applyTo 184 = .ok (.ldc 41, 2) := dk_18 41 (dk_at dksX8_applyTo_6 5 rfl rfl)
theorem dX8_applyTo_186 : decode cX8_applyTo 186 = .ok (.invokevirtual 25, 3) := dk_182 0 25 (dk_at dksX8_applyTo_6 7 rfl rfl)
theorem dX8_applyTo_189 : decode cX8_applyTo 189 = .ok (.ifCond .eq 6, 3) := dk_153 0 6 (dk_at dksX8_applyTo_6 10 rfl rfl)
theorem dX8_applyTo_192 : decode cX8_applyTo 192 = .ok (.bipush 7, 2) := dk_16 7 (dk_at dksX8_applyTo_6 13 rfl rfl)
theorem dX8_applyTo_194 : decode cX8_applyTo 194 = .ok (.istore_n 3, 1) := dk_62 (dk_at dksX8_applyTo_6 15 rfl rfl)
theorem dX8_applyTo_195 : decode cX8_applyTo 195 = .ok (.iload_n 3, 1) := dk_29 (dk_at dksX8_applyTo_6 16 rfl rfl)
theorem dX8_applyTo_196 : decode cX8_applyTo 196 = .ok (.tableswitch 188 0 7 #[48, 73, 122, 132, 142, 153, 168, 173], 48) := by decide +kernel
theorem dX8_applyTo_244 : decode cX8_applyTo 244 = .ok (.aload_n 1, 1) := dk_43 (dk_at dksX8_applyTo_8 0 rfl rfl)
theorem dX8_applyTo_245 : decode cX8_applyTo 245 = .ok (.aload_n 0, 1) := dk_42 (dk_at dksX8_applyTo_8 1 rfl rfl)
theorem dX8_applyTo_246 : decode cX8_applyTo 246 = .ok (.iconst 0, 1) := dk_3 (dk_at dksX8_applyTo_8 2 rfl rfl)
theorem dX8_applyTo_247 : decode cX8_applyTo 247 = .ok (.invokevirtual 43, 3) := dk_182 0 43 (dk_at dksX8_applyTo_8 3 rfl rfl)
theorem dX8_applyTo_250 : decode cX8_applyTo 250 = .ok (.aload_n 0, 1) := dk_42 (dk_at dksX8_applyTo_8 6 rfl rfl)
theorem dX8_applyTo_251 : decode cX8_applyTo 251 = .ok (.iconst 1, 1) := dk_4 (dk_at dksX8_applyTo_8 7 rfl rfl)
theorem dX8_applyTo_252 : decode cX8_applyTo 252 = .ok (.invokevirtual 43, 3) := dk_182 0 43 (dk_at dksX8_applyTo_8 8 rfl rfl)
theorem dX8_applyTo_255 : decode cX8_applyTo 255 = .ok (.aload_n 0, 1) := dk_42 (dk_at dksX8_applyTo_8 11 rfl rfl)
theorem dX8_applyTo_256 : decode cX8_applyTo 256 = .ok (.iconst 2, 1) := dk_5 (dk_at dksX8_applyTo_8 12 rfl rfl)
theorem dX8_applyTo_257 : decode cX8_applyTo 257 = .ok (.invokevirtual 43, 3) := dk_182 0 43 (dk_at dksX8_applyTo_8 13 rfl rfl)
theorem dX8_applyTo_260 : decode cX8_applyTo 260 = .ok (.aload_n 0, 1) := dk_42 (dk_at dksX8_applyTo_8 16 rfl rfl)
theorem dX8_applyTo_261 : decode cX8_applyTo 261 = .ok (.iconst 3, 1) := dk_6 (dk_at dksX8_applyTo_8 17 rfl rfl)
theorem dX8_applyTo_262 : decode cX8_applyTo 262 = .ok (.invokevirtual 43, 3) := dk_182 0 43 (dk_at dksX8_applyTo_8 18 rfl rfl)
theorem dX8_applyTo_265 : decode cX8_applyTo 265 = .ok (.invokevirtual 47, 3) := dk_182 0 47 (dk_at dksX8_applyTo_8 21 rfl rfl)
theorem dX8_applyTo_268 : decode cX8_applyTo 268 = .ok (.ireturn, 1) := dk_172 (dk_at dksX8_applyTo_9 0 rfl rfl)
theorem dX8_applyTo_269 : decode cX8_applyTo 269 = .ok (.aload_n 1, 1) := dk_43 (dk_at dksX8_applyTo_9 1 rfl rfl)
theorem dX8_applyTo_270 : decode cX8_applyTo 270 = .ok (.new 53, 3) := dk_187 0 53 (dk_at dksX8_applyTo_9 2 rfl rfl)
theorem dX8_applyTo_273 : decode cX8_applyTo 273 = .ok (.dup, 1) := dk_89 (dk_at dksX8_applyTo_9 5 rfl rfl)
theorem dX8_applyTo_274 : decode cX8_applyTo 274 = .ok (.iconst 3, 1) := dk_6 (dk_at dksX8_applyTo_9 6 rfl rfl)
theorem dX8_applyTo_275 : decode cX8_applyTo 275 = .ok (.newarray .int, 2) := dk_188_10 (dk_at dksX8_applyTo_9 7 rfl rfl)
theorem dX8_applyTo_277 : decode cX8_applyTo 277 = .ok (.dup, 1) := dk_89 (dk_at dksX8_applyTo_9 9 rfl rfl)
theorem dX8_applyTo_278 : decode cX8_applyTo 278 = .ok (.iconst 0, 1) := dk_3 (dk_at dksX8_applyTo_9 10 rfl rfl)
theorem dX8_applyTo_279 : decode cX8_applyTo 279 = .ok (.aload_n 0, 1) := dk_42 (dk_at dksX8_applyTo_9 11 rfl rfl)
theorem dX8_applyTo_280 : decode cX8_applyTo 280 = .ok (.iconst 0, 1) := dk_3 (dk_at dksX8_applyTo_9 12 rfl rfl)
theorem dX8_applyTo_281 : decode cX8_applyTo 281 = .ok (.invokevirtual 43, 3) := dk_182 0 43 (dk_at dksX8_applyTo_9 13 rfl rfl)
theorem dX8_applyTo_284 : decode cX8_applyTo 284 = .ok (.iastore, 1) := dk_79 (dk_at dksX8_applyTo_9 16 rfl rfl)
theorem dX8_applyTo_285 : decode cX8_applyTo 285 = .ok (.dup, 1) := dk_89 (dk_at dksX8_applyTo_9 17 rfl rfl)
theorem dX8_applyTo_286 : decode cX8_applyTo 286 = .ok (.iconst 1, 1) := dk_4 (dk_at dksX8_applyTo_9 18 rfl rfl)
theorem dX8_applyTo_287 : decode cX8_applyTo 287 = .ok (.aload_n 0, 1) := dk_42 (dk_at dksX8_applyTo_9 19 rfl rfl)
theorem dX8_applyTo_288 : decode cX8_applyTo 288 = .ok (.iconst 1, 1) := dk_4 (dk_at dksX8_applyTo_9 20 rfl rfl)
theorem dX8_applyTo_289 : decode cX8_applyTo 289 = .ok (.invokevirtual 43, 3) := dk_182 0 43 (dk_at dksX8_applyTo_9 21 rfl rfl)
theorem dX8_applyTo_292 : decode cX8_applyTo 292 = .ok (.iastore, 1) := dk_79 (dk_at dksX8_applyTo_10 0 rfl rfl)
theorem dX8_applyTo_293 : decode cX8_applyTo 293 = .ok (.dup, 1) := dk_89 (dk_at dksX8_applyTo_10 1 rfl rfl)
theorem dX8_applyTo_294 : decode cX8_applyTo 294 = .ok (.iconst 2, 1) := dk_5 (dk_at dksX8_applyTo_10 2 rfl rfl)
theorem dX8_applyTo_295 : decode cX8_applyTo 295 = .ok (.aload_n 0, 1) := dk_42 (dk_at dksX8_applyTo_10 3 rfl rfl)
theorem dX8_applyTo_296 : decode cX8_applyTo 296 = .ok (.iconst 2, 1) := dk_5 (dk_at dksX8_applyTo_10 4 rfl rfl)
theorem dX8_applyTo_297 : decode cX8_applyTo 297 = .ok (.invokevirtual 43, 3) := dk_182 0 43 (dk_at dksX8_applyTo_10 5 rfl rfl)
theorem dX8_applyTo_300 : decode cX8_applyTo 300 = .ok (.iastore, 1) := dk_79 (dk_at dksX8_applyTo_10 8 rfl rfl)
theorem dX8_applyTo_301 : decode cX8_applyTo 301 = .ok (.invokespecial 55, 3) := dk_183 0 55 (dk_at dksX8_applyTo_10 9 rfl rfl)
theorem dX8_applyTo_304 : decode cX8_applyTo 304 = .ok (.aload_n 0, 1) := dk_42 (dk_at dksX8_applyTo_10 12 rfl rfl)
theorem dX8_applyTo_305 : decode cX8_applyTo 305 = .ok (.iconst 3, 1) := dk_6 (dk_at dksX8_applyTo_10 13 rfl rfl)
theorem dX8_applyTo_306 : decode cX8_applyTo 306 = .ok (.invokevirtual 43, 3) := dk_182 0 43 (dk_at dksX8_applyTo_10 14 rfl rfl)
theorem dX8_applyTo_309 : decode cX8_applyTo 309 = .ok (.aload_n 0, 1) := dk_42 (dk_at dksX8_applyTo_10 17 rfl rfl)
theorem dX8_applyTo_310 : decode cX8_applyTo 310 = .ok (.iconst 4, 1) := dk_7 (dk_at dksX8_applyTo_10 18 rfl rfl)
theorem dX8_applyTo_311 : decode cX8_applyTo 311 = .ok (.invokevirtual 43, 3) := dk_182 0 43 (dk_at dksX8_applyTo_10 19 rfl rfl)
theorem dX8_applyTo_314 : decode cX8_applyTo 314 = .ok (.invokevirtual 58, 3) := dk_182 0 58 (dk_at dksX8_applyTo_11 0 rfl rfl)
theorem dX8_applyTo_317 : decode cX8_applyTo 317 = .ok (.ireturn, 1) := dk_172 (dk_at dksX8_applyTo_11 3 rfl rfl)
theorem dX8_applyTo_318 : decode cX8_applyTo 318 = .ok (.aload_n 1, 1) := dk_43 (dk_at dksX8_applyTo_11 4 rfl rfl)
theorem dX8_applyTo_319 : decode cX8_applyTo 319 = .ok (.aload_n 0, 1) := dk_42 (dk_at dksX8_applyTo_11 5 rfl rfl)
theorem dX8_applyTo_320 : decode cX8_applyTo 320 = .ok (.iconst 0, 1) := dk_3 (dk_at dksX8_applyTo_11 6 rfl rfl)
theorem dX8_applyTo_321 : decode cX8_applyTo 321 = .ok (.invokevirtual 43, 3) := dk_182 0 43 (dk_at dksX8_applyTo_11 7 rfl rfl)
theorem dX8_applyTo_324 : decode cX8_applyTo 324 = .ok (.invokevirtual 62, 3) := dk_182 0 62 (dk_at dksX8_applyTo_11 10 rfl rfl)
theorem dX8_applyTo_327 : decode cX8_applyTo 327 = .ok (.ireturn, 1) := dk_172 (dk_at dksX8_applyTo_11 13 rfl rfl)
theorem dX8_applyTo_328 : decode cX8_applyTo 328 = .ok (.aload_n 1, 1) := dk_43 (dk_at dksX8_applyTo_11 14 rfl rfl)
theorem dX8_applyTo_329 : decode cX8_applyTo 329 = .ok (.aload_n 0, 1) := dk_42 (dk_at dksX8_applyTo_11 15 rfl rfl)
theorem dX8_applyTo_330 : decode cX8_applyTo 330 = .ok (.iconst 0, 1) := dk_3 (dk_at dksX8_applyTo_11 16 rfl rfl)
theorem dX8_applyTo_331 : decode cX8_applyTo 331 = .ok (.invokevirtual 43, 3) := dk_182 0 43 (dk_at dksX8_applyTo_11 17 rfl rfl)
theorem dX8_applyTo_334 : decode cX8_applyTo 334 = .ok (.invokevirtual 65, 3) := dk_182 0 65 (dk_at dksX8_applyTo_11 20 rfl rfl)
theorem dX8_applyTo_337 : decode cX8_applyTo 337 = .ok (.ireturn, 1) := dk_172 (dk_at dksX8_applyTo_11 23 rfl rfl)
theorem dX8_applyTo_338 : decode cX8_applyTo 338 = .ok (.aload_n 1, 1) := dk_43 (dk_at dksX8_applyTo_12 0 rfl rfl)
theorem dX8_applyTo_339 : decode cX8_applyTo 339 = .ok (.aload_n 0, 1) := dk_42 (dk_at dksX8_applyTo_12 1 rfl rfl)
theorem dX8_applyTo_340 : decode cX8_applyTo 340 = .ok (.iconst 0, 1) := dk_3 (dk_at dksX8_applyTo_12 2 rfl rfl)
theorem dX8_applyTo_341 : decode cX8_applyTo 341 = .ok (.invokevirtual 43, 3) := dk_182 0 43 (dk_at dksX8_applyTo_12 3 rfl rfl)
theorem dX8_applyTo_344 : decode cX8_applyTo 344 = .ok (.i2c, 1) := dk_146 (dk_at dksX8_applyTo_12 6 rfl rfl)
theorem dX8_applyTo_345 : decode cX8_applyTo 345 = .ok (.invokevirtual 67, 3) := dk_182 0 67 (dk_at dksX8_applyTo_12 7 rfl rfl)
theorem dX8_applyTo_348 : decode cX8_applyTo 348 = .ok (.ireturn, 1) := dk_172 (dk_at dksX8_applyTo_12 10 rfl rfl)
theorem dX8_applyTo_349 : decode cX8_applyTo 349 = .ok (.aload_n 1, 1) := dk_43 (dk_at dksX8_applyTo_12 11 rfl rfl)
theorem dX8_applyTo_350 : decode cX8_applyTo 350 = .ok (.aload_n 0, 1) := dk_42 (dk_at dksX8_applyTo_12 12 rfl rfl)
theorem dX8_applyTo_351 : decode cX8_applyTo 351 = .ok (.iconst 0, 1) := dk_3 (dk_at dksX8_applyTo_12 13 rfl rfl)
theorem dX8_applyTo_352 : decode cX8_applyTo 352 = .ok (.invokevirtual 43, 3) := dk_182 0 43 (dk_at dksX8_applyTo_12 14 rfl rfl)
theorem dX8_applyTo_355 : decode cX8_applyTo 355 = .ok (.aload_n 0, 1) := dk_42 (dk_at dksX8_applyTo_12 17 rfl rfl)
theorem dX8_applyTo_356 : decode cX8_applyTo 356 = .ok (.iconst 1, 1) := dk_4 (dk_at dksX8_applyTo_12 18 rfl rfl)
theorem dX8_applyTo_357 : decode cX8_applyTo 357 = .ok (.invokevirtual 43, 3) := dk_182 0 43 (dk_at dksX8_applyTo_12 19 rfl rfl)
theorem dX8_applyTo_360 : decode cX8_applyTo 360 = .ok (.invokevirtual 71, 3) := dk_182 0 71 (dk_at dksX8_applyTo_13 0 rfl rfl)
theorem dX8_applyTo_363 : decode cX8_applyTo 363 = .ok (.ireturn, 1) := dk_172 (dk_at dksX8_applyTo_13 3 rfl rfl)
theorem dX8_applyTo_364 : decode cX8_applyTo 364 = .ok (.aload_n 1, 1) := dk_43 (dk_at dksX8_applyTo_13 4 rfl rfl)
theorem dX8_applyTo_365 : decode cX8_applyTo 365 = .ok (.invokevirtual 75, 3) := dk_182 0 75 (dk_at dksX8_applyTo_13 5 rfl rfl)
theorem dX8_applyTo_368 : decode cX8_applyTo 368 = .ok (.ireturn, 1) := dk_172 (dk_at dksX8_applyTo_13 8 rfl rfl)
theorem dX8_applyTo_369 : decode cX8_applyTo 369 = .ok (.aload_n 1, 1) := dk_43 (dk_at dksX8_applyTo_13 9 rfl rfl)
theorem dX8_applyTo_370 : decode cX8_applyTo 370 = .ok (.aload_n 0, 1) := dk_42 (dk_at dksX8_applyTo_13 10 rfl rfl)
theorem dX8_applyTo_371 : decode cX8_applyTo 371 = .ok (.iconst 0, 1) := dk_3 (dk_at dksX8_applyTo_13 11 rfl rfl)
theorem dX8_applyTo_372 : decode cX8_applyTo 372 = .ok (.invokevirtual 43, 3) := dk_182 0 43 (dk_at dksX8_applyTo_13 12 rfl rfl)
theorem dX8_applyTo_375 : decode cX8_applyTo 375 = .ok (.aload_n 0, 1) := dk_42 (dk_at dksX8_applyTo_13 15 rfl rfl)
theorem dX8_applyTo_376 : decode cX8_applyTo 376 = .ok (.iconst 1, 1) := dk_4 (dk_at dksX8_applyTo_13 16 rfl rfl)
theorem dX8_applyTo_377 : decode cX8_applyTo 377 = .ok (.invokevirtual 43, 3) := dk_182 0 43 (dk_at dksX8_applyTo_13 17 rfl rfl)
theorem dX8_applyTo_380 : decode cX8_applyTo 380 = .ok (.invokevirtual 77, 3) := dk_182 0 77 (dk_at dksX8_applyTo_13 20 rfl rfl)
theorem dX8_applyTo_383 : decode cX8_applyTo 383 = .ok (.ireturn, 1) := dk_172 (dk_at dksX8_applyTo_13 23 rfl rfl)
theorem dX8_applyTo_384 : decode cX8_applyTo 384 = .ok (.aload_n 1, 1) := dk_43 (dk_at dksX8_applyTo_14 0 rfl rfl)
theorem dX8_applyTo_385 : decode cX8_applyTo 385 = .ok (.aload_n 0, 1) := dk_42 (dk_at dksX8_applyTo_14 1 rfl rfl)
theorem dX8_applyTo_386 : decode cX8_applyTo 386 = .ok (.iconst 0, 1) := dk_3 (dk_at dksX8_applyTo_14 2 rfl rfl)
theorem dX8_applyTo_387 : decode cX8_applyTo 387 = .ok (.invokevirtual 43, 3) := dk_182 0 43 (dk_at dksX8_applyTo_14 3 rfl rfl)
theorem dX8_applyTo_390 : decode cX8_applyTo 390 = .ok (.invokevirtual 79, 3) := dk_182 0 79 (dk_at dksX8_applyTo_14 6 rfl rfl)
theorem dX8_applyTo_393 : decode cX8_applyTo 393 = .ok (.ireturn, 1) := dk_172 (dk_at dksX8_applyTo_14 9 rfl rfl)
def dkwX8_at_0 : List UInt8 := [42, 180, 0, 13, 27, 46, 172]
abbrev dktX8_at_0 : List UInt8 := dkwX8_at_0 ++ []
theorem dksX8_at_0 : cX8_at.data.toList.drop 0 = dktX8_at_0 := by decide +kernel
theorem dX8_at_0 : decode cX8_at 0 = .ok (.aload_n 0, 1) := dk_42 (dk_at dksX8_at_0 0 rfl rfl)
theorem dX8_at_1 : decode cX8_at 1 = .ok (.getfield 13, 3) := dk_180 0 13 (dk_at dksX8_at_0 1 rfl rfl)
theorem dX8_at_4 : decode cX8_at 4 = .ok (.iload_n 1, 1) := dk_27 (dk_at dksX8_at_0 4 rfl rfl)
theorem dX8_at_5 : decode cX8_at 5 = .ok (.iaload, 1) := dk_46 (dk_at dksX8_at_0 5 rfl rfl)
theorem dX8_at_6 : decode cX8_at 6 = .ok (.ireturn, 1) := dk_172 (dk_at dksX8_at_0 6 rfl rfl)
def dkwX9_init_0 : List UInt8 := [42, 1, 43, 183, 0, 1, 177]
abbrev dktX9_init_0 : List UInt8 := dkwX9_init_0 ++ []
theorem dksX9_init_0 : cX9_init.data.toList.drop 0 = dktX9_init_0 := by decide +kernel
theorem dX9_init_0 : decode cX9_init 0 = .ok (.aload_n 0, 1) := dk_42 (dk_at dksX9_init_0 0 rfl rfl)
theorem dX9_init_1 : decode cX9_init 1 = .ok (.aconst_null, 1) := dk_1 (dk_at dksX9_init_0 1 rfl rfl)
theorem dX9_init_2 : decode cX9_init 2 = .ok (.aload_n 1, 1) := dk_43 (dk_at dksX9_init_0 2 rfl rfl)
theorem dX9_init_3 : decode cX9_init 3 = .ok (.invokespecial 1, 3) := dk_183 0 1 (dk_at dksX9_init_0 3 rfl rfl)
theorem dX9_init_6 : decode cX9_init 6 = .ok (.return_, 1) := dk_177 (dk_at dksX9_init_0 6 rfl rfl)
def dkwX10_init_0 : List UInt8 := [42, 1, 183, 0, 1, 42, 27, 181, 0, 7, 177]
abbrev dktX10_init_0 : List UInt8 := dkwX10_init_0 ++ []
theorem dksX10_init_0 : cX10_init.data.toList.drop 0 = dktX10_init_0 := by decide +kernel
theorem dX10_init_0 : decode cX10_init 0 = .ok (.aload_n 0, 1) := dk_42 (dk_at dksX10_init_0 0 rfl rfl)
theorem dX10_init_1 : decode cX10_init 1 = .ok (.aconst_null, 1) := dk_1 (dk_at dksX10_init_0 1 rfl rfl)
theorem dX10_init_2 : decode cX10_init 2 = .ok (.invokespecial 1, 3) := dk_183 0 1 (dk_at dksX10_init_0 2 rfl rfl)
theorem dX10_init_5 : decode cX10_init 5 = .ok (.aload_n 0, 1) := dk_42 (dk_at dksX10_init_0 5 rfl rfl)
theorem dX10_init_6 : decode cX10_init 6 = .ok (.iload_n 1, 1) := dk_27 (dk_at dksX10_init_0 6 rfl rfl)
theorem dX10_init_7 : decode cX10_init 7 = .ok (.putfield 7, 3) := dk_181 0 7 (dk_at dksX10_init_0 7 rfl rfl)
theorem dX10_init_10 : decode cX10_init 10 = .ok (.return_, 1) := dk_177 (dk_at dksX10_init_0 10 rfl rfl)
def dkwX10_asPublicException_3 : List UInt8 := [187, 0, 24, 89, 183, 0, 26, 176]
abbrev dktX10_asPublicException_3 : List UInt8 := dkwX10_asPublicException_3 ++ []
def dkwX10_asPublicException_2 : List UInt8 := [187, 0, 13, 89, 183, 0, 15, 176, 187, 0, 18, 89, 183, 0, 20, 176, 187, 0, 21, 89, 183, 0, 23, 176]
abbrev dktX10_asPublicException_2 : List UInt8 := dkwX10_asPublicException_2 ++ dktX10_asPublicException_3
def dkwX10_asPublicException_1 : List UInt8 := [171, 0, 0, 0, 0, 0, 0, 60, 0, 0, 0, 3, 0, 0, 0, 97, 0, 0, 0, 36, 0, 0, 0, 101, 0, 0, 0, 52, 0, 0, 0, 115, 0, 0, 0, 44]
abbrev dktX10_asPublicException_1 : List UInt8 := dkwX10_asPublicException_1 ++ dktX10_asPublicException_2
def dkwX10_asPublicException_0 : List UInt8 := [42, 180, 0, 7]
abbrev dktX10_asPublicException_0 : List UInt8 := dkwX10_asPublicException_0 ++ dktX10_asPublicException_1
theorem dksX10_asPublicException_0 : cX10_asPublicException.data.toList.drop 0 = dktX10_asPublicException_0 := by decide +kernel
theorem dksX10_asPublicException_1 : cX10_asPublicException.data.toList.drop 4 = dktX10_asPublicException_1 := dk_seg dksX10_asPublicException_0 4 rfl rfl
theorem dksX10_asPublicException_2 : cX10_asPublicException.data.toList.drop 40 = dktX10_asPublicException_2 := dk_seg dksX10_asPublicException_1 36 rfl rfl
theorem dksX10_asPublicException_3 : cX10_asPublicException.data.toList.drop 64 = dktX10_asPublicException_3 := dk_seg dksX10_asPublicException_2 24 rfl rfl
theorem dX10_asPublicException_0 : decode cX10_asPublicException 0 = .ok (.aload_n 0, 1) := dk_42 (dk_at dksX10_asPublicException_0 0 rfl rfl)
theorem dX10_asPublicException_1 : decode cX10_asPublicException 1 = .ok (.getfield 7, 3) := dk_180 0 7 (dk_at dksX10_asPublicException_0 1 rfl rfl)
theorem dX10_asPublicException_4 : decode cX10_asPublicException 4 = .ok (.lookupswitch 60 #[(97, 36), (101, 52), (115, 44)], 36) := by decide +kernel
theorem dX10_asPublicException_40 : decode cX10_asPublicException 40 = .ok (.new 13, 3) := dk_187 0 13 (dk_at dksX10_asPublicException_2 0 rfl rfl)
theorem dX10_asPublicException_43 : decode cX10_asPublicException 43 = .ok (.dup, 1) := dk_89 (dk_at dksX10_asPublicException_2 3 rfl rfl)
theorem dX10_asPublicException_44 : decode cX10_asPublicException 44 = .ok (.invokespecial 15, 3) := dk_183 0 15 (dk_at dksX10_asPublicException_2 4 rfl rfl)
theorem dX10_asPublicException_47 : decode cX10_asPublicException 47 = .ok (.areturn, 1) := dk_176 (dk_at dksX10_asPublicException_2 7 rfl rfl)
theorem dX10_asPublicException_48 : decode cX10_asPublicException 48 = .ok (.new 18, 3) := dk_187 0 18 (dk_at dksX10_asPublicException_2 8 rfl rfl)
theorem dX10_asPublicException_51 : decode cX10_asPublicException 51 = .ok (.dup, 1) := dk_89 (dk_at dksX10_asPublicException_2 11 rfl rfl)
theorem dX10_asPublicException_52 : decode cX10_asPublicException 52 = .ok (.invokespecial 20, 3) := dk_183 0 20 (dk_at dksX10_asPublicException_2 12 rfl rfl)
theorem dX10_asPublicException_55 : decode cX10_asPublicException 55 = .ok (.areturn, 1) := dk_176 (dk_at dksX10_asPublicException_2 15 rfl rfl)
theorem dX10_asPublicException_56 : decode cX10_asPublicException 56 = .ok (.new 21, 3) := dk_187 0 21 (dk_at dksX10_asPublicException_2 16 rfl rfl)
theorem dX10_asPublicException_59 : decode cX10_asPublicException 59 = .ok (.dup, 1) := dk_89 (dk_at dksX10_asPublicException_2 19 rfl rfl)
theorem dX10_asPublicException_60 : decode cX10_asPublicException 60 = .ok (.invokespecial 23, 3) := dk_183 0 23 (dk_at dksX10_asPublicException_2 20 rfl rfl)
theorem dX10_asPublicException_63 : decode cX10_asPublicException 63 = .ok (.areturn, 1) := dk_176 (dk_at dksX10_asPublicException_2 23 rfl rfl)
theorem dX10_asPublicException_64 : decode cX10_asPublicException 64 = .ok (.new 24, 3) := dk_187 0 24 (dk_at dksX10_asPublicException_3 0 rfl rfl)
theorem dX10_asPublicException_67 : decode cX10_asPublicException 67 = .ok (.dup, 1) := dk_89 (dk_at dksX10_asPublicException_3 3 rfl rfl)
theorem dX10_asPublicException_68 : decode cX10_asPublicException 68 = .ok (.invokespecial 26, 3) := dk_183 0 26 (dk_at dksX10_asPublicException_3 4 rfl rfl)
theorem dX10_asPublicException_71 : decode cX10_asPublicException 71 = .ok (.areturn, 1) := dk_176 (dk_at dksX10_asPublicException_3 7 rfl rfl)
theorem dX10_kind_0 : decode cX10_kind 0 = .ok (.aload_n 0, 1) := by decide +kernel
theorem dX10_kind_1 : decode cX10_kind 1 = .ok (.getfield 7, 3) := by decide +kernel
theorem dX10_kind_4 : decode cX10_kind 4 = .ok (.ireturn, 1) := by decide +kernel
def dkwX11_init_0 : List UInt8 := [42, 183, 0, 3, 42, 43, 181, 0, 9, 177]
abbrev dktX11_init_0 : List UInt8 := dkwX11_init_0 ++ []
theorem dksX11_init_0 : cX11_init.data.toList.drop 0 = dktX11_init_0 := by decide +kernel
theorem dX11_init_0 : decode cX11_init 0 = .ok (.aload_n 0, 1) := dk_42 (dk_at dksX11_init_0 0 rfl rfl)
theorem dX11_init_1 : decode cX11_init 1 = .ok (.invokespecial 3, 3) := dk_183 0 3 (dk_at dksX11_init_0 1 rfl rfl)
theorem dX11_init_4 : decode cX11_init 4 = .ok (.aload_n 0, 1) := dk_42 (dk_at dksX11_init_0 4 rfl rfl)
theorem dX11_init_5 : decode cX11_init 5 = .ok (.aload_n 1, 1) := dk_43 (dk_at dksX11_init_0 5 rfl rfl)
theorem dX11_init_6 : decode cX11_init 6 = .ok (.putfield 9, 3) := dk_181 0 9 (dk_at dksX11_init_0 6 rfl rfl)
theorem dX11_init_9 : decode cX11_init 9 = .ok (.return_, 1) := dk_177 (dk_at dksX11_init_0 9 rfl rfl)
def dkwX11_part_0 : List UInt8 := [42, 180, 0, 9, 27, 46, 172]
abbrev dktX11_part_0 : List UInt8 := dkwX11_part_0 ++ []
theorem dksX11_part_0 : cX11_part.data.toList.drop 0 = dktX11_part_0 := by decide +kernel
theorem dX11_part_0 : decode cX11_part 0 = .ok (.aload_n 0, 1) := dk_42 (dk_at dksX11_part_0 0 rfl rfl)
theorem dX11_part_1 : decode cX11_part 1 = .ok (.getfield 9, 3) := dk_180 0 9 (dk_at dksX11_part_0 1 rfl rfl)
theorem dX11_part_4 : decode cX11_part 4 = .ok (.iload_n 1, 1) := dk_27 (dk_at dksX11_part_0 4 rfl rfl)
theorem dX11_part_5 : decode cX11_part 5 = .ok (.iaload, 1) := dk_46 (dk_at dksX11_part_0 5 rfl rfl)
theorem dX11_part_6 : decode cX11_part 6 = .ok (.ireturn, 1) := dk_172 (dk_at dksX11_part_0 6 rfl rfl)
def dkwX11_difference_0 : List UInt8 := [42, 180, 0, 9, 28, 46, 43, 180, 0, 9, 28, 46, 100, 184, 0, 15, 172]
abbrev dktX11_difference_0 : List UInt8 := dkwX11_difference_0 ++ []
theorem dksX11_difference_0 : cX11_difference.data.toList.drop 0 = dktX11_difference_0 := by decide +kernel
theorem dX11_difference_0 : decode cX11_difference 0 = .ok (.aload_n 0, 1) := dk_42 (dk_at dksX11_difference_0 0 rfl rfl)
theorem dX11_difference_1 : decode cX11_difference 1 = .ok (.getfield 9, 3) := dk_180 0 9 (dk_at dksX11_difference_0 1 rfl rfl)
theorem dX11_difference_4 : decode cX11_difference 4 = .ok (.iload_n 2, 1) := dk_28 (dk_at dksX11_difference_0 4 rfl rfl)
theorem dX11_difference_5 : decode cX11_difference 5 = .ok (.iaload, 1) := dk_46 (dk_at dksX11_difference_0 5 rfl rfl)
theorem dX11_difference_6 : decode cX11_difference 6 = .ok (.aload_n 1, 1) := dk_43 (dk_at dksX11_difference_0 6 rfl rfl)
theorem dX11_difference_7 : decode cX11_difference 7 = .ok (.getfield 9, 3) := dk_180 0 9 (dk_at dksX11_difference_0 7 rfl rfl)
theorem dX11_difference_10 : decode cX11_difference 10 = .ok (.iload_n 2, 1) := dk_28 (dk_at dksX11_difference_0 10 rfl rfl)
theorem dX11_difference_11 : decode cX11_difference 11 = .ok (.iaload, 1) := dk_46 (dk_at dksX11_difference_0 11 rfl rfl)
theorem dX11_difference_12 : decode cX11_difference 12 = .ok (.isub, 1) := dk_100 (dk_at dksX11_difference_0 12 rfl rfl)
theorem dX11_difference_13 : decode cX11_difference 13 = .ok (.invokestatic 15, 3) := dk_184 0 15 (dk_at dksX11_difference_0 13 rfl rfl)
theorem dX11_difference_16 : decode cX11_difference 16 = .ok (.ireturn, 1) := dk_172 (dk_at dksX11_difference_0 16 rfl rfl)
def dkwX11_mixedWith_2 : List UInt8 := [176]
abbrev dktX11_mixedWith_2 : List UInt8 := dkwX11_mixedWith_2 ++ []
def dkwX11_mixedWith_1 : List UInt8 := [43, 180, 0, 9, 29, 46, 96, 5, 108, 79, 132, 3, 1, 167, 255, 232, 187, 0, 10, 89, 44, 183, 0, 28]
abbrev dktX11_mixedWith_1 : List UInt8 := dkwX11_mixedWith_1 ++ dktX11_mixedWith_2
def dkwX11_mixedWith_0 : List UInt8 := [42, 180, 0, 9, 182, 0, 31, 192, 0, 32, 77, 3, 62, 29, 44, 190, 162, 0, 24, 44, 29, 44, 29, 46]
abbrev dktX11_mixedWith_0 : List UInt8 := dkwX11_mixedWith_0 ++ dktX11_mixedWith_1
theorem dksX11_mixedWith_0 : cX11_mixedWith.data.toList.drop 0 = dktX11_mixedWith_0 := by decide +kernel
theorem dksX11_mixedWith_1 : cX11_mixedWith.data.toList.drop 24 = dktX11_mixedWith_1 := dk_seg dksX11_mixedWith_0 24 rfl rfl
theorem dksX11_mixedWith_2 : cX11_mixedWith.data.toList.drop 48 = dktX11_mixedWith_2 := dk_seg dksX11_mixedWith_1 24 rfl rfl
theorem dX11_mixedWith_0 : decode cX11_mixedWith 0 = .ok (.aload_n 0, 1) := dk_42 (dk_at dksX11_mixedWith_0 0 rfl rfl)
theorem dX11_mixedWith_1 : decode cX11_mixedWith 1 = .ok (.getfield 9, 3) := dk_180 0 9 (dk_at dksX11_mixedWith_0 1 rfl rfl)
theorem dX11_mixedWith_4 : decode cX11_mixedWith 4 = .ok (.invokevirtual 31, 3) := dk_182 0 31 (dk_at dksX11_mixedWith_0 4 rfl rfl)
theorem dX11_mixedWith_7 : decode cX11_mixedWith 7 = .ok (.checkcast 32, 3) := dk_192 0 32 (dk_at dksX11_mixedWith_0 7 rfl rfl)
theorem dX11_mixedWith_10 : decode cX11_mixedWith 10 = .ok (.astore_n 2, 1) := dk_77 (dk_at dksX11_mixedWith_0 10 rfl rfl)
theorem dX11_mixedWith_11 : decode cX11_mixedWith 11 = .ok (.iconst 0, 1) := dk_3 (dk_at dksX11_mixedWith_0 11 rfl rfl)
theorem dX11_mixedWith_12 : decode cX11_mixedWith 12 = .ok (.istore_n 3, 1) := dk_62 (dk_at dksX11_mixedWith_0 12 rfl rfl)
theorem dX11_mixedWith_13 : decode cX11_mixedWith 13 = .ok (.iload_n 3, 1) := dk_29 (dk_at dksX11_mixedWith_0 13 rfl rfl)
theorem dX11_mixedWith_14 : decode cX11_mixedWith 14 = .ok (.aload_n 2, 1) := dk_44 (dk_at dksX11_mixedWith_0 14 rfl rfl)
theorem dX11_mixedWith_15 : decode cX11_mixedWith 15 = .ok (.arraylength, 1) := dk_190 (dk_at dksX11_mixedWith_0 15 rfl rfl)
theorem dX11_mixedWith_16 : decode cX11_mixedWith 16 = .ok (.if_icmp .ge 24, 3) := dk_162 0 24 (dk_at dksX11_mixedWith_0 16 rfl rfl)
theorem dX11_mixedWith_19 : decode cX11_mixedWith 19 = .ok (.aload_n 2, 1) := dk_44 (dk_at dksX11_mixedWith_0 19 rfl rfl)
theorem dX11_mixedWith_20 : decode cX11_mixedWith 20 = .ok (.iload_n 3, 1) := dk_29 (dk_at dksX11_mixedWith_0 20 rfl rfl)
theorem dX11_mixedWith_21 : decode cX11_mixedWith 21 = .ok (.aload_n 2, 1) := dk_44 (dk_at dksX11_mixedWith_0 21 rfl rfl)
theorem dX11_mixedWith_22 : decode cX11_mixedWith 22 = .ok (.iload_n 3, 1) := dk_29 (dk_at dksX11_mixedWith_0 22 rfl rfl)
theorem dX11_mixedWith_23 : decode cX11_mixedWith 23 = .ok (.iaload, 1) := dk_46 (dk_at dksX11_mixedWith_0 23 rfl rfl)
theorem dX11_mixedWith_24 : decode cX11_mixedWith 24 = .ok (.aload_n 1, 1) := dk_43 (dk_at dksX11_mixedWith_1 0 rfl rfl)
theorem dX11_mixedWith_25 : decode cX11_mixedWith 25 = .ok (.getfield 9, 3) := dk_180 0 9 (dk_at dksX11_mixedWith_1 1 rfl rfl)
theorem dX11_mixedWith_28 : decode cX11_mixedWith 28 = .ok (.iload_n 3, 1) := dk_29 (dk_at dksX11_mixedWith_1 4 rfl rfl)
theorem dX11_mixedWith_29 : decode cX11_mixedWith 29 = .ok (.iaload, 1) := dk_46 (dk_at dksX11_mixedWith_1 5 rfl rfl)
theorem dX11_mixedWith_30 : decode cX11_mixedWith 30 = .ok (.iadd, 1) := dk_96 (dk_at dksX11_mixedWith_1 6 rfl rfl)
theorem dX11_mixedWith_31 : decode cX11_mixedWith 31 = .ok (.iconst 2, 1) := dk_5 (dk_at dksX11_mixedWith_1 7 rfl rfl)
theorem dX11_mixedWith_32 : decode cX11_mixedWith 32 = .ok (.idiv, 1) := dk_108 (dk_at dksX11_mixedWith_1 8 rfl rfl)
theorem dX11_mixedWith_33 : decode cX11_mixedWith 33 = .ok (.iastore, 1) := dk_79 (dk_at dksX11_mixedWith_1 9 rfl rfl)
theorem dX11_mixedWith_34 : decode cX11_mixedWith 34 = .ok (.iinc 3 1, 3) := dk_132 3 1 (dk_at dksX11_mixedWith_1 10 rfl rfl)
theorem dX11_mixedWith_37 : decode cX11_mixedWith 37 = .ok (.goto (-24), 3) := dk_167 255 232 (dk_at dksX11_mixedWith_1 13 rfl rfl)
theorem dX11_mixedWith_40 : decode cX11_mixedWith 40 = .ok (.new 10, 3) := dk_187 0 10 (dk_at dksX11_mixedWith_1 16 rfl rfl)
theorem dX11_mixedWith_43 : decode cX11_mixedWith 43 = .ok (.dup, 1) := dk_89 (dk_at dksX11_mixedWith_1 19 rfl rfl)
theorem dX11_mixedWith_44 : decode cX11_mixedWith 44 = .ok (.aload_n 2, 1) := dk_44 (dk_at dksX11_mixedWith_1 20 rfl rfl)
theorem dX11_mixedWith_45 : decode cX11_mixedWith 45 = .ok (.invokespecial 28, 3) := dk_183 0 28 (dk_at dksX11_mixedWith_1 21 rfl rfl)
theorem dX11_mixedWith_48 : decode cX11_mixedWith 48 = .ok (.areturn, 1) := dk_176 (dk_at dksX11_mixedWith_2 0 rfl rfl)
def dkwX11_isGrey_1 : List UInt8 := [180, 0, 9, 5, 46, 16, 50, 160, 0, 7, 4, 167, 0, 4, 3, 172]
abbrev dktX11_isGrey_1 : List UInt8 := dkwX11_isGrey_1 ++ []
def dkwX11_isGrey_0 : List UInt8 := [42, 180, 0, 9, 3, 46, 16, 50, 160, 0, 29, 42, 180, 0, 9, 4, 46, 16, 50, 160, 0, 18, 42]
abbrev dktX11_isGrey_0 : List UInt8 := dkwX11_isGrey_0 ++ dktX11_isGrey_1
theorem dksX11_isGrey_0 : cX11_isGrey.data.toList.drop 0 = dktX11_isGrey_0 := by decide +kernel
theorem dksX11_isGrey_1 : cX11_isGrey.data.toList.drop 23 = dktX11_isGrey_1 := dk_seg dksX11_isGrey_0 23 rfl rfl
theorem dX11_isGrey_0 : decode cX11_isGrey 0 = .ok (.aload_n 0, 1) := dk_42 (dk_at dksX11_isGrey_0 0 rfl rfl)
theorem dX11_isGrey_1 : decode cX11_isGrey 1 = .ok (.getfield 9, 3) := dk_180 0 9 (dk_at dksX11_isGrey_0 1 rfl rfl)
theorem dX11_isGrey_4 : decode cX11_isGrey 4 = .ok (.iconst 0, 1) := dk_3 (dk_at dksX11_isGrey_0 4 rfl rfl)
theorem dX11_isGrey_5 : decode cX11_isGrey 5 = .ok (.iaload, 1) := dk_46 (dk_at dksX11_isGrey_0 5 rfl rfl)
theorem dX11_isGrey_6 : decode cX11_isGrey 6 = .ok (.bipush 50, 2) := dk_16 50 (dk_at dksX11_isGrey_0 6 rfl rfl)
theorem dX11_isGrey_8 : decode cX11_isGrey 8 = .ok (.if_icmp .ne 29, 3) := dk_160 0 29 (dk_at dksX11_isGrey_0 8 rfl rfl)
theorem dX11_isGrey_11 : decode cX11_isGrey 11 = .ok (.aload_n 0, 1) := dk_42 (dk_at dksX11_isGrey_0 11 rfl rfl)
theorem dX11_isGrey_12 : decode cX11_isGrey 12 = .ok (.getfield 9, 3) := dk_180 0 9 (dk_at dksX11_isGrey_0 12 rfl rfl)
theorem dX11_isGrey_15 : decode cX11_isGrey 15 = .ok (.iconst 1, 1) := dk_4 (dk_at dksX11_isGrey_0 15 rfl rfl)
theorem dX11_isGrey_16 : decode cX11_isGrey 16 = .ok (.iaload, 1) := dk_46 (dk_at dksX11_isGrey_0 16 rfl rfl)
theorem dX11_isGrey_17 : decode cX11_isGrey 17 = .ok (.bipush 50, 2) := dk_16 50 (dk_at dksX11_isGrey_0 17 rfl rfl)
theorem dX11_isGrey_19 : decode cX11_isGrey 19 = .ok (.if_icmp .ne 18, 3) := dk_160 0 18 (dk_at dksX11_isGrey_0 19 rfl rfl)
theorem dX11_isGrey_22 : decode cX11_isGrey 22 = .ok (.aload_n 0, 1) := dk_42 (dk_at dksX11_isGrey_0 22 rfl rfl)
theorem dX11_isGrey_23 : decode cX11_isGrey 23 = .ok (.getfield 9, 3) := dk_180 0 9 (dk_at dksX11_isGrey_1 0 rfl rfl)
theorem dX11_isGrey_26 : decode cX11_isGrey 26 = .ok (.iconst 2, 1) := dk_5 (dk_at dksX11_isGrey_1 3 rfl rfl)
theorem dX11_isGrey_27 : decode cX11_isGrey 27 = .ok (.iaload, 1) := dk_46 (dk_at dksX11_isGrey_1 4 rfl rfl)
theorem dX11_isGrey_28 : decode cX11_isGrey 28 = .ok (.bipush 50, 2) := dk_16 50 (dk_at dksX11_isGrey_1 5 rfl rfl)
theorem dX11_isGrey_30 : decode cX11_isGrey 30 = .ok (.if_icmp .ne 7, 3) := dk_160 0 7 (dk_at dksX11_isGrey_1 7 rfl rfl)
theorem dX11_isGrey_33 : decode cX11_isGrey 33 = .ok (.iconst 1, 1) := dk_4 (dk_at dksX11_isGrey_1 10 rfl rfl)
theorem dX11_isGrey_34 : decode cX11_isGrey 34 = .ok (.goto 4, 3) := dk_167 0 4 (dk_at dksX11_isGrey_1 11 rfl rfl)
theorem dX11_isGrey_37 : decode cX11_isGrey 37 = .ok (.iconst 0, 1) := dk_3 (dk_at dksX11_isGrey_1 14 rfl rfl)
theorem dX11_isGrey_38 : decode cX11_isGrey 38 = .ok (.ireturn, 1) := dk_172 (dk_at dksX11_isGrey_1 15 rfl rfl)
def dkwX11_faded_2 : List UInt8 := [176]
abbrev dktX11_faded_2 : List UInt8 := dkwX11_faded_2 ++ []
def dkwX11_faded_1 : List UInt8 := [180, 0, 9, 4, 46, 184, 0, 25, 79, 89, 5, 42, 180, 0, 9, 5, 46, 184, 0, 25, 79, 183, 0, 28]
abbrev dktX11_faded_1 : List UInt8 := dkwX11_faded_1 ++ dktX11_faded_2
def dkwX11_faded_0 : List UInt8 := [187, 0, 10, 89, 6, 188, 10, 89, 3, 42, 180, 0, 9, 3, 46, 184, 0, 25, 79, 89, 4, 42]
abbrev dktX11_faded_0 : List UInt8 := dkwX11_faded_0 ++ dktX11_faded_1
theorem dksX11_faded_0 : cX11_faded.data.toList.drop 0 = dktX11_faded_0 := by decide +kernel
theorem dksX11_faded_1 : cX11_faded.data.toList.drop 22 = dktX11_faded_1 := dk_seg dksX11_faded_0 22 rfl rfl
theorem dksX11_faded_2 : cX11_faded.data.toList.drop 46 = dktX11_faded_2 := dk_seg dksX11_faded_1 24 rfl rfl
theorem dX11_faded_0 : decode cX11_faded 0 = .ok (.new 10, 3) := dk_187 0 10 (dk_at dksX11_faded_0 0 rfl rfl)
theorem dX11_faded_3 : decode cX11_faded 3 = .ok (.dup, 1) := dk_89 (dk_at dksX11_faded_0 3 rfl rfl)
theorem dX11_faded_4 : decode cX11_faded 4 = .ok (.iconst 3, 1) := dk_6 (dk_at dksX11_faded_0 4 rfl rfl)
theorem dX11_faded_5 : decode cX11_faded 5 = .ok (.newarray .int, 2) := dk_188_10 (dk_at dksX11_faded_0 5 rfl rfl)
theorem dX11_faded_7 : decode cX11_faded 7 = .ok (.dup, 1) := dk_89 (dk_at dksX11_faded_0 7 rfl rfl)
theorem dX11_faded_8 : decode cX11_faded 8 = .ok (.iconst 0, 1) := dk_3 (dk_at dksX11_faded_0 8 rfl rfl)
theorem dX11_faded_9 : decode cX11_faded 9 = .ok (.aload_n 0, 1) := dk_42 (dk_at dksX11_faded_0 9 rfl rfl)
theorem dX11_faded_10 : decode cX11_faded 10 = .ok (.getfield 9, 3) := dk_180 0 9 (dk_at dksX11_faded_0 10 rfl rfl)
theorem dX11_faded_13 : decode cX11_faded 13 = .ok (.iconst 0, 1) := dk_3 (dk_at dksX11_faded_0 13 rfl rfl)
theorem dX11_faded_14 : decode cX11_faded 14 = .ok (.iaload, 1) := dk_46 (dk_at dksX11_faded_0 14 rfl rfl)
theorem dX11_faded_15 : decode cX11_faded 15 = .ok (.invokestatic 25, 3) := dk_184 0 25 (dk_at dksX11_faded_0 15 rfl rfl)
theorem dX11_faded_18 : decode cX11_faded 18 = .ok (.iastore, 1) := dk_79 (dk_at dksX11_faded_0 18 rfl rfl)
theorem dX11_faded_19 : decode cX11_faded 19 = .ok (.dup, 1) := dk_89 (dk_at dksX11_faded_0 19 rfl rfl)
theorem dX11_faded_20 : decode cX11_faded 20 = .ok (.iconst 1, 1) := dk_4 (dk_at dksX11_faded_0 20 rfl rfl)
theorem dX11_faded_21 : decode cX11_faded 21 = .ok (.aload_n 0, 1) := dk_42 (dk_at dksX11_faded_0 21 rfl rfl)
theorem dX11_faded_22 : decode cX11_faded 22 = .ok (.getfield 9, 3) := dk_180 0 9 (dk_at dksX11_faded_1 0 rfl rfl)
theorem dX11_faded_25 : decode cX11_faded 25 = .ok (.iconst 1, 1) := dk_4 (dk_at dksX11_faded_1 3 rfl rfl)
theorem dX11_faded_26 : decode cX11_faded 26 = .ok (.iaload, 1) := dk_46 (dk_at dksX11_faded_1 4 rfl rfl)
theorem dX11_faded_27 : decode cX11_faded 27 = .ok (.invokestatic 25, 3) := dk_184 0 25 (dk_at dksX11_faded_1 5 rfl rfl)
theorem dX11_faded_30 : decode cX11_faded 30 = .ok (.iastore, 1) := dk_79 (dk_at dksX11_faded_1 8 rfl rfl)
theorem dX11_faded_31 : decode cX11_faded 31 = .ok (.dup, 1) := dk_89 (dk_at dksX11_faded_1 9 rfl rfl)
theorem dX11_faded_32 : decode cX11_faded 32 = .ok (.iconst 2, 1) := dk_5 (dk_at dksX11_faded_1 10 rfl rfl)
theorem dX11_faded_33 : decode cX11_faded 33 = .ok (.aload_n 0, 1) := dk_42 (dk_at dksX11_faded_1 11 rfl rfl)
theorem dX11_faded_34 : decode cX11_faded 34 = .ok (.getfield 9, 3) := dk_180 0 9 (dk_at dksX11_faded_1 12 rfl rfl)
theorem dX11_faded_37 : decode cX11_faded 37 = .ok (.iconst 2, 1) := dk_5 (dk_at dksX11_faded_1 15 rfl rfl)
theorem dX11_faded_38 : decode cX11_faded 38 = .ok (.iaload, 1) := dk_46 (dk_at dksX11_faded_1 16 rfl rfl)
theorem dX11_faded_39 : decode cX11_faded 39 = .ok (.invokestatic 25, 3) := dk_184 0 25 (dk_at dksX11_faded_1 17 rfl rfl)
theorem dX11_faded_42 : decode cX11_faded 42 = .ok (.iastore, 1) := dk_79 (dk_at dksX11_faded_1 20 rfl rfl)
theorem dX11_faded_43 : decode cX11_faded 43 = .ok (.invokespecial 28, 3) := dk_183 0 28 (dk_at dksX11_faded_1 21 rfl rfl)
theorem dX11_faded_46 : decode cX11_faded 46 = .ok (.areturn, 1) := dk_176 (dk_at dksX11_faded_2 0 rfl rfl)
def dkwX11_faded_2_1 : List UInt8 := [26, 172]
abbrev dktX11_faded_2_1 : List UInt8 := dkwX11_faded_2_1 ++ []
def dkwX11_faded_2_0 : List UInt8 := [26, 16, 50, 164, 0, 9, 26, 4, 100, 167, 0, 16, 26, 16, 50, 162, 0, 9, 26, 4, 96, 167, 0, 4]
abbrev dktX11_faded_2_0 : List UInt8 := dkwX11_faded_2_0 ++ dktX11_faded_2_1
theorem dksX11_faded_2_0 : cX11_faded_2.data.toList.drop 0 = dktX11_faded_2_0 := by decide +kernel
theorem dksX11_faded_2_1 : cX11_faded_2.data.toList.drop 24 = dktX11_faded_2_1 := dk_seg dksX11_faded_2_0 24 rfl rfl
theorem dX11_faded_2_0 : decode cX11_faded_2 0 = .ok (.iload_n 0, 1) := dk_26 (dk_at dksX11_faded_2_0 0 rfl rfl)
theorem dX11_faded_2_1 : decode cX11_faded_2 1 = .ok (.bipush 50, 2) := dk_16 50 (dk_at dksX11_faded_2_0 1 rfl rfl)
theorem dX11_faded_2_3 : decode cX11_faded_2 3 = .ok (.if_icmp .le 9, 3) := dk_164 0 9 (dk_at dksX11_faded_2_0 3 rfl rfl)
theorem dX11_faded_2_6 : decode cX11_faded_2 6 = .ok (.iload_n 0, 1) := dk_26 (dk_at dksX11_faded_2_0 6 rfl rfl)
theorem dX11_faded_2_7 : decode cX11_faded_2 7 = .ok (.iconst 1, 1) := dk_4 (dk_at dksX11_faded_2_0 7 rfl rfl)
theorem dX11_faded_2_8 : decode cX11_faded_2 8 = .ok (.isub, 1) := dk_100 (dk_at dksX11_faded_2_0 8 rfl rfl)
theorem dX11_faded_2_9 : decode cX11_faded_2 9 = .ok (.goto 16, 3) := dk_167 0 16 (dk_at dksX11_faded_2_0 9 rfl rfl)
theorem dX11_faded_2_12 : decode cX11_faded_2 12 = .ok (.iload_n 0, 1) := dk_26 (dk_at dksX11_faded_2_0 12 rfl rfl)
theorem dX11_faded_2_13 : decode cX11_faded_2 13 = .ok (.bipush 50, 2) := dk_16 50 (dk_at dksX11_faded_2_0 13 rfl rfl)
theorem dX11_faded_2_15 : decode cX11_faded_2 15 = .ok (.if_icmp .ge 9, 3) := dk_162 0 9 (dk_at dksX11_faded_2_0 15 rfl rfl)
theorem dX11_faded_2_18 : decode cX11_faded_2 18 = .ok (.iload_n 0, 1) := dk_26 (dk_at dksX11_faded_2_0 18 rfl rfl)
theorem dX11_faded_2_19 : decode cX11_faded_2 19 = .ok (.iconst 1, 1) := dk_4 (dk_at dksX11_faded_2_0 19 rfl rfl)
theorem dX11_faded_2_20 : decode cX11_faded_2 20 = .ok (.iadd, 1) := dk_96 (dk_at dksX11_faded_2_0 20 rfl rfl)
theorem dX11_faded_2_21 : decode cX11_faded_2 21 = .ok (.goto 4, 3) := dk_167 0 4 (dk_at dksX11_faded_2_0 21 rfl rfl)
theorem dX11_faded_2_24 : decode cX11_faded_2 24 = .ok (.iload_n 0, 1) := dk_26 (dk_at dksX11_faded_2_1 0 rfl rfl)
theorem dX11_faded_2_25 : decode cX11_faded_2 25 = .ok (.ireturn, 1) := dk_172 (dk_at dksX11_faded_2_1 1 rfl rfl)
def dkwX11_stepsToGrey_1 : List UInt8 := [54, 5, 27, 21, 5, 16, 50, 100, 184, 0, 15, 184, 0, 21, 60, 132, 4, 1, 167, 255, 228, 27, 172]
abbrev dktX11_stepsToGrey_1 : List UInt8 := dkwX11_stepsToGrey_1 ++ []
def dkwX11_stepsToGrey_0 : List UInt8 := [3, 60, 42, 180, 0, 9, 77, 44, 190, 62, 3, 54, 4, 21, 4, 29, 162, 0, 28, 44, 21, 4, 46]
abbrev dktX11_stepsToGrey_0 : List UInt8 := dkwX11_stepsToGrey_0 ++ dktX11_stepsToGrey_1
theorem dksX11_stepsToGrey_0 : cX11_stepsToGrey.data.toList.drop 0 = dktX11_stepsToGrey_0 := by decide +kernel
theorem dksX11_stepsToGrey_1 : cX11_stepsToGrey.data.toList.drop 23 = dktX11_stepsToGrey_1 := dk_seg dksX11_stepsToGrey_0 23 rfl rfl
theorem dX11_stepsToGrey_0 : decode cX11_stepsToGrey 0 = .ok (.iconst 0, 1) := dk_3 (dk_at dksX11_stepsToGrey_0 0 rfl rfl)
theorem dX11_stepsToGrey_1 : decode cX11_stepsToGrey 1 = .ok (.istore_n 1, 1) := dk_60 (dk_at dksX11_stepsToGrey_0 1 rfl rfl)
theorem dX11_stepsToGrey_2 : decode cX11_stepsToGrey 2 = .ok (.aload_n 0, 1) := dk_42 (dk_at dksX11_stepsToGrey_0 2 rfl rfl)
theorem dX11_stepsToGrey_3 : decode cX11_stepsToGrey 3 = .ok (.getfield 9, 3) := dk_180 0 9 (dk_at dksX11_stepsToGrey_0 3 rfl rfl)
theorem dX11_stepsToGrey_6 : decode cX11_stepsToGrey 6 = .ok (.astore_n 2, 1) := dk_77 (dk_at dksX11_stepsToGrey_0 6 rfl rfl)
theorem dX11_stepsToGrey_7 : decode cX11_stepsToGrey 7 = .ok (.aload_n 2, 1) := dk_44 (dk_at dksX11_stepsToGrey_0 7 rfl rfl)
theorem dX11_stepsToGrey_8 : decode cX11_stepsToGrey 8 = .ok (.arraylength, 1) := dk_190 (dk_at dksX11_stepsToGrey_0 8 rfl rfl)
theorem dX11_stepsToGrey_9 : decode cX11_stepsToGrey 9 = .ok (.istore_n 3, 1) := dk_62 (dk_at dksX11_stepsToGrey_0 9 rfl rfl)
theorem dX11_stepsToGrey_10 : decode cX11_stepsToGrey 10 = .ok (.iconst 0, 1) := dk_3 (dk_at dksX11_stepsToGrey_0 10 rfl rfl)
theorem dX11_stepsToGrey_11 : decode cX11_stepsToGrey 11 = .ok (.istore 4, 2) := dk_54 4 (dk_at dksX11_stepsToGrey_0 11 rfl rfl)
theorem dX11_stepsToGrey_13 : decode cX11_stepsToGrey 13 = .ok (.iload 4, 2) := dk_21 4 (dk_at dksX11_stepsToGrey_0 13 rfl rfl)
theorem dX11_stepsToGrey_15 : decode cX11_stepsToGrey 15 = .ok (.iload_n 3, 1) := dk_29 (dk_at dksX11_stepsToGrey_0 15 rfl rfl)
theorem dX11_stepsToGrey_16 : decode cX11_stepsToGrey 16 = .ok (.if_icmp .ge 28, 3) := dk_162 0 28 (dk_at dksX11_stepsToGrey_0 16 rfl rfl)
theorem dX11_stepsToGrey_19 : decode cX11_stepsToGrey 19 = .ok (.aload_n 2, 1) := dk_44 (dk_at dksX11_stepsToGrey_0 19 rfl rfl)
theorem dX11_stepsToGrey_20 : decode cX11_stepsToGrey 20 = .ok (.iload 4, 2) := dk_21 4 (dk_at dksX11_stepsToGrey_0 20 rfl rfl)
theorem dX11_stepsToGrey_22 : decode cX11_stepsToGrey 22 = .ok (.iaload, 1) := dk_46 (dk_at dksX11_stepsToGrey_0 22 rfl rfl)
theorem dX11_stepsToGrey_23 : decode cX11_stepsToGrey 23 = .ok (.istore 5, 2) := dk_54 5 (dk_at dksX11_stepsToGrey_1 0 rfl rfl)
theorem dX11_stepsToGrey_25 : decode cX11_stepsToGrey 25 = .ok (.iload_n 1, 1) := dk_27 (dk_at dksX11_stepsToGrey_1 2 rfl rfl)
theorem dX11_stepsToGrey_26 : decode cX11_stepsToGrey 26 = .ok (.iload 5, 2) := dk_21 5 (dk_at dksX11_stepsToGrey_1 3 rfl rfl)
theorem dX11_stepsToGrey_28 : decode cX11_stepsToGrey 28 = .ok (.bipush 50, 2) := dk_16 50 (dk_at dksX11_stepsToGrey_1 5 rfl rfl)
theorem dX11_stepsToGrey_30 : decode cX11_stepsToGrey 30 = .ok (.isub, 1) := dk_100 (dk_at dksX11_stepsToGrey_1 7 rfl rfl)
theorem dX11_stepsToGrey_31 : decode cX11_stepsToGrey 31 = .ok (.invokestatic 15, 3) := dk_184 0 15 (dk_at dksX11_stepsToGrey_1 8 rfl rfl)
theorem dX11_stepsToGrey_34 : decode cX11_stepsToGrey 34 = .ok (.invokestatic 21, 3) := dk_184 0 21 (dk_at dksX11_stepsToGrey_1 11 rfl rfl)
theorem dX11_stepsToGrey_37 : decode cX11_stepsToGrey 37 = .ok (.istore_n 1, 1) := dk_60 (dk_at dksX11_stepsToGrey_1 14 rfl rfl)
theorem dX11_stepsToGrey_38 : decode cX11_stepsToGrey 38 = .ok (.iinc 4 1, 3) := dk_132 4 1 (dk_at dksX11_stepsToGrey_1 15 rfl rfl)
theorem dX11_stepsToGrey_41 : decode cX11_stepsToGrey 41 = .ok (.goto (-28), 3) := dk_167 255 228 (dk_at dksX11_stepsToGrey_1 18 rfl rfl)
theorem dX11_stepsToGrey_44 : decode cX11_stepsToGrey 44 = .ok (.iload_n 1, 1) := dk_27 (dk_at dksX11_stepsToGrey_1 21 rfl rfl)
theorem dX11_stepsToGrey_45 : decode cX11_stepsToGrey 45 = .ok (.ireturn, 1) := dk_172 (dk_at dksX11_stepsToGrey_1 22 rfl rfl)
def dkwX11_sum_0 : List UInt8 := [42, 180, 0, 9, 3, 46, 42, 180, 0, 9, 4, 46, 96, 42, 180, 0, 9, 5, 46, 96, 172]
abbrev dktX11_sum_0 : List UInt8 := dkwX11_sum_0 ++ []
theorem dksX11_sum_0 : cX11_sum.data.toList.drop 0 = dktX11_sum_0 := by decide +kernel
theorem dX11_sum_0 : decode cX11_sum 0 = .ok (.aload_n 0, 1) := dk_42 (dk_at dksX11_sum_0 0 rfl rfl)
theorem dX11_sum_1 : decode cX11_sum 1 = .ok (.getfield 9, 3) := dk_180 0 9 (dk_at dksX11_sum_0 1 rfl rfl)
theorem dX11_sum_4 : decode cX11_sum 4 = .ok (.iconst 0, 1) := dk_3 (dk_at dksX11_sum_0 4 rfl rfl)
theorem dX11_sum_5 : decode cX11_sum 5 = .ok (.iaload, 1) := dk_46 (dk_at dksX11_sum_0 5 rfl rfl)
theorem dX11_sum_6 : decode cX11_sum 6 = .ok (.aload_n 0, 1) := dk_42 (dk_at dksX11_sum_0 6 rfl rfl)
theorem dX11_sum_7 : decode cX11_sum 7 = .ok (.getfield 9, 3) := dk_180 0 9 (dk_at dksX11_sum_0 7 rfl rfl)
theorem dX11_sum_10 : decode cX11_sum 10 = .ok (.iconst 1, 1) := dk_4 (dk_at dksX11_sum_0 10 rfl rfl)
theorem dX11_sum_11 : decode cX11_sum 11 = .ok (.iaload, 1) := dk_46 (dk_at dksX11_sum_0 11 rfl rfl)
theorem dX11_sum_12 : decode cX11_sum 12 = .ok (.iadd, 1) := dk_96 (dk_at dksX11_sum_0 12 rfl rfl)
theorem dX11_sum_13 : decode cX11_sum 13 = .ok (.aload_n 0, 1) := dk_42 (dk_at dksX11_sum_0 13 rfl rfl)
theorem dX11_sum_14 : decode cX11_sum 14 = .ok (.getfield 9, 3) := dk_180 0 9 (dk_at dksX11_sum_0 14 rfl rfl)
theorem dX11_sum_17 : decode cX11_sum 17 = .ok (.iconst 2, 1) := dk_5 (dk_at dksX11_sum_0 17 rfl rfl)
theorem dX11_sum_18 : decode cX11_sum 18 = .ok (.iaload, 1) := dk_46 (dk_at dksX11_sum_0 18 rfl rfl)
theorem dX11_sum_19 : decode cX11_sum 19 = .ok (.iadd, 1) := dk_96 (dk_at dksX11_sum_0 19 rfl rfl)
theorem dX11_sum_20 : decode cX11_sum 20 = .ok (.ireturn, 1) := dk_172 (dk_at dksX11_sum_0 20 rfl rfl)
def dkwX11_toString_2 : List UInt8 := [182, 0, 48, 176]
abbrev dktX11_toString_2 : List UInt8 := dkwX11_toString_2 ++ []
def dkwX11_toString_1 : List UInt8 := [180, 0, 9, 4, 46, 182, 0, 39, 18, 43, 182, 0, 45, 42, 180, 0, 9, 5, 46, 182, 0, 39]
abbrev dktX11_toString_1 : List UInt8 := dkwX11_toString_1 ++ dktX11_toString_2
def dkwX11_toString_0 : List UInt8 := [187, 0, 36, 89, 183, 0, 38, 42, 180, 0, 9, 3, 46, 182, 0, 39, 18, 43, 182, 0, 45, 42]
abbrev dktX11_toString_0 : List UInt8 := dkwX11_toString_0 ++ dktX11_toString_1
theorem dksX11_toString_0 : cX11_toString.data.toList.drop 0 = dktX11_toString_0 := by decide +kernel
theorem dksX11_toString_1 : cX11_toString.data.toList.drop 22 = dktX11_toString_1 := dk_seg dksX11_toString_0 22 rfl rfl
theorem dksX11_toString_2 : cX11_toString.data.toList.drop 44 = dktX11_toString_2 := dk_seg dksX11_toString_1 22 rfl rfl
theorem dX11_toString_0 : decode cX11_toString 0 = .ok (.new 36, 3) := dk_187 0 36 (dk_at dksX11_toString_0 0 rfl rfl)
theorem dX11_toString_3 : decode cX11_toString 3 = .ok (.dup, 1) := dk_89 (dk_at dksX11_toString_0 3 rfl rfl)
theorem dX11_toString_4 : decode cX11_toString 4 = .ok (.invokespecial 38, 3) := dk_183 0 38 (dk_at dksX11_toString_0 4 rfl rfl)
theorem dX11_toString_7 : decode cX11_toString 7 = .ok (.aload_n 0, 1) := dk_42 (dk_at dksX11_toString_0 7 rfl rfl)
theorem dX11_toString_8 : decode cX11_toString 8 = .ok (.getfield 9, 3) := dk_180 0 9 (dk_at dksX11_toString_0 8 rfl rfl)
theorem dX11_toString_11 : decode cX11_toString 11 = .ok (.iconst 0, 1) := dk_3 (dk_at dksX11_toString_0 11 rfl rfl)
theorem dX11_toString_12 : decode cX11_toString 12 = .ok (.iaload, 1) := dk_46 (dk_at dksX11_toString_0 12 rfl rfl)
theorem dX11_toString_13 : decode cX11_toString 13 = .ok (.invokevirtual 39, 3) := dk_182 0 39 (dk_at dksX11_toString_0 13 rfl rfl)
theorem dX11_toString_16 : decode cX11_toString 16 = .ok (.ldc 43, 2) := dk_18 43 (dk_at dksX11_toString_0 16 rfl rfl)
theorem dX11_toString_18 : decode cX11_toString 18 = .ok (.invokevirtual 45, 3) := dk_182 0 45 (dk_at dksX11_toString_0 18 rfl rfl)
theorem dX11_toString_21 : decode cX11_toString 21 = .ok (.aload_n 0, 1) := dk_42 (dk_at dksX11_toString_0 21 rfl rfl)
theorem dX11_toString_22 : decode cX11_toString 22 = .ok (.getfield 9, 3) := dk_180 0 9 (dk_at dksX11_toString_1 0 rfl rfl)
theorem dX11_toString_25 : decode cX11_toString 25 = .ok (.iconst 1, 1) := dk_4 (dk_at dksX11_toString_1 3 rfl rfl)
theorem dX11_toString_26 : decode cX11_toString 26 = .ok (.iaload, 1) := dk_46 (dk_at dksX11_toString_1 4 rfl rfl)
theorem dX11_toString_27 : decode cX11_toString 27 = .ok (.invokevirtual 39, 3) := dk_182 0 39 (dk_at dksX11_toString_1 5 rfl rfl)
theorem dX11_toString_30 : decode cX11_toString 30 = .ok (.ldc 43, 2) := dk_18 43 (dk_at dksX11_toString_1 8 rfl rfl)
theorem dX11_toString_32 : decode cX11_toString 32 = .ok (.invokevirtual 45, 3) := dk_182 0 45 (dk_at dksX11_toString_1 10 rfl rfl)
theorem dX11_toString_35 : decode cX11_toString 35 = .ok (.aload_n 0, 1) := dk_42 (dk_at dksX11_toString_1 13 rfl rfl)
theorem dX11_toString_36 : decode cX11_toString 36 = .ok (.getfield 9, 3) := dk_180 0 9 (dk_at dksX11_toString_1 14 rfl rfl)
theorem dX11_toString_39 : decode cX11_toString 39 = .ok (.iconst 2, 1) := dk_5 (dk_at dksX11_toString_1 17 rfl rfl)
theorem dX11_toString_40 : decode cX11_toString 40 = .ok (.iaload, 1) := dk_46 (dk_at dksX11_toString_1 18 rfl rfl)
theorem dX11_toString_41 : decode cX11_toString 41 = .ok (.invokevirtual 39, 3) := dk_182 0 39 (dk_at dksX11_toString_1 19 rfl rfl)
theorem dX11_toString_44 : decode cX11_toString 44 = .ok (.invokevirtual 48, 3) := dk_182 0 48 (dk_at dksX11_toString_2 0 rfl rfl)
theorem dX11_toString_47 : decode cX11_toString 47 = .ok (.areturn, 1) := dk_176 (dk_at dksX11_toString_2 3 rfl rfl)
def dkwX12_init_1 : List UInt8 := [181, 0, 20, 177]
abbrev dktX12_init_1 : List UInt8 := dkwX12_init_1 ++ []
def dkwX12_init_0 : List UInt8 := [42, 183, 0, 1, 42, 27, 181, 0, 7, 42, 44, 181, 0, 13, 42, 29, 181, 0, 17, 42, 21, 4]
abbrev dktX12_init_0 : List UInt8 := dkwX12_init_0 ++ dktX12_init_1
theorem dksX12_init_0 : cX12_init.data.toList.drop 0 = dktX12_init_0 := by decide +kernel
theorem dksX12_init_1 : cX12_init.data.toList.drop 22 = dktX12_init_1 := dk_seg dksX12_init_0 22 rfl rfl
theorem dX12_init_0 : decode cX12_init 0 = .ok (.aload_n 0, 1) := dk_42 (dk_at dksX12_init_0 0 rfl rfl)
theorem dX12_init_1 : decode cX12_init 1 = .ok (.invokespecial 1, 3) := dk_183 0 1 (dk_at dksX12_init_0 1 rfl rfl)
theorem dX12_init_4 : decode cX12_init 4 = .ok (.aload_n 0, 1) := dk_42 (dk_at dksX12_init_0 4 rfl rfl)
theorem dX12_init_5 : decode cX12_init 5 = .ok (.iload_n 1, 1) := dk_27 (dk_at dksX12_init_0 5 rfl rfl)
theorem dX12_init_6 : decode cX12_init 6 = .ok (.putfield 7, 3) := dk_181 0 7 (dk_at dksX12_init_0 6 rfl rfl)
theorem dX12_init_9 : decode cX12_init 9 = .ok (.aload_n 0, 1) := dk_42 (dk_at dksX12_init_0 9 rfl rfl)
theorem dX12_init_10 : decode cX12_init 10 = .ok (.aload_n 2, 1) := dk_44 (dk_at dksX12_init_0 10 rfl rfl)
theorem dX12_init_11 : decode cX12_init 11 = .ok (.putfield 13, 3) := dk_181 0 13 (dk_at dksX12_init_0 11 rfl rfl)
theorem dX12_init_14 : decode cX12_init 14 = .ok (.aload_n 0, 1) := dk_42 (dk_at dksX12_init_0 14 rfl rfl)
theorem dX12_init_15 : decode cX12_init 15 = .ok (.iload_n 3, 1) := dk_29 (dk_at dksX12_init_0 15 rfl rfl)
theorem dX12_init_16 : decode cX12_init 16 = .ok (.putfield 17, 3) := dk_181 0 17 (dk_at dksX12_init_0 16 rfl rfl)
theorem dX12_init_19 : decode cX12_init 19 = .ok (.aload_n 0, 1) := dk_42 (dk_at dksX12_init_0 19 rfl rfl)
theorem dX12_init_20 : decode cX12_init 20 = .ok (.iload 4, 2) := dk_21 4 (dk_at dksX12_init_0 20 rfl rfl)
theorem dX12_init_22 : decode cX12_init 22 = .ok (.putfield 20, 3) := dk_181 0 20 (dk_at dksX12_init_1 0 rfl rfl)
theorem dX12_init_25 : decode cX12_init 25 = .ok (.return_, 1) := dk_177 (dk_at dksX12_init_1 3 rfl rfl)
def dkwX12_toString_2 : List UInt8 := [180, 0, 20, 182, 0, 26, 182, 0, 45, 176]
abbrev dktX12_toString_2 : List UInt8 := dkwX12_toString_2 ++ []
def dkwX12_toString_1 : List UInt8 := [182, 0, 35, 182, 0, 32, 18, 41, 182, 0, 32, 42, 180, 0, 17, 182, 0, 26, 18, 43, 182, 0, 32, 42]
abbrev dktX12_toString_1 : List UInt8 := dkwX12_toString_1 ++ dktX12_toString_2
def dkwX12_toString_0 : List UInt8 := [187, 0, 23, 89, 183, 0, 25, 42, 180, 0, 7, 182, 0, 26, 18, 30, 182, 0, 32, 42, 180, 0, 13]
abbrev dktX12_toString_0 : List UInt8 := dkwX12_toString_0 ++ dktX12_toString_1
theorem dksX12_toString_0 : cX12_toString.data.toList.drop 0 = dktX12_toString_0 := by decide +kernel
theorem dksX12_toString_1 : cX12_toString.data.toList.drop 23 = dktX12_toString_1 := dk_seg dksX12_toString_0 23 rfl rfl
theorem dksX12_toString_2 : cX12_toString.data.toList.drop 47 = dktX12_toString_2 := dk_seg dksX12_toString_1 24 rfl rfl
theorem dX12_toString_0 : decode cX12_toString 0 = .ok (.new 23, 3) := dk_187 0 23 (dk_at dksX12_toString_0 0 rfl rfl)
theorem dX12_toString_3 : decode cX12_toString 3 = .ok (.dup, 1) := dk_89 (dk_at dksX12_toString_0 3 rfl rfl)
theorem dX12_toString_4 : decode cX12_toString 4 = .ok (.invokespecial 25, 3) := dk_183 0 25 (dk_at dksX12_toString_0 4 rfl rfl)
theorem dX12_toString_7 : decode cX12_toString 7 = .ok (.aload_n 0, 1) := dk_42 (dk_at dksX12_toString_0 7 rfl rfl)
theorem dX12_toString_8 : decode cX12_toString 8 = .ok (.getfield 7, 3) := dk_180 0 7 (dk_at dksX12_toString_0 8 rfl rfl)
theorem dX12_toString_11 : decode cX12_toString 11 = .ok (.invokevirtual 26, 3) := dk_182 0 26 (dk_at dksX12_toString_0 11 rfl rfl)
theorem dX12_toString_14 : decode cX12_toString 14 = .ok (.ldc 30, 2) := dk_18 30 (dk_at dksX12_toString_0 14 rfl rfl)
theorem dX12_toString_16 : decode cX12_toString 16 = .ok (.invokevirtual 32, 3) := dk_182 0 32 (dk_at dksX12_toString_0 16 rfl rfl)
theorem dX12_toString_19 : decode cX12_toString 19 = .ok (.aload_n 0, 1) := dk_42 (dk_at dksX12_toString_0 19 rfl rfl)
theorem dX12_toString_20 : decode cX12_toString 20 = .ok (.getfield 13, 3) := dk_180 0 13 (dk_at dksX12_toString_0 20 rfl rfl)
theorem dX12_toString_23 : decode cX12_toString 23 = .ok (.invokevirtual 35, 3) := dk_182 0 35 (dk_at dksX12_toString_1 0 rfl rfl)
theorem dX12_toString_26 : decode cX12_toString 26 = .ok (.invokevirtual 32, 3) := dk_182 0 32 (dk_at dksX12_toString_1 3 rfl rfl)
theorem dX12_toString_29 : decode cX12_toString 29 = .ok (.ldc 41, 2) := dk_18 41 (dk_at dksX12_toString_1 6 rfl rfl)
theorem dX12_toString_31 : decode cX12_toString 31 = .ok (.invokevirtual 32, 3) := dk_182 0 32 (dk_at dksX12_toString_1 8 rfl rfl)
theorem dX12_toString_34 : decode cX12_toString 34 = .ok (.aload_n 0, 1) := dk_42 (dk_at dksX12_toString_1 11 rfl rfl)
theorem dX12_toString_35 : decode cX12_toString 35 = .ok (.getfield 17, 3) := dk_180 0 17 (dk_at dksX12_toString_1 12 rfl rfl)
theorem dX12_toString_38 : decode cX12_toString 38 = .ok (.invokevirtual 26, 3) := dk_182 0 26 (dk_at dksX12_toString_1 15 rfl rfl)
theorem dX12_toString_41 : decode cX12_toString 41 = .ok (.ldc 43, 2) := dk_18 43 (dk_at dksX12_toString_1 18 rfl rfl)
theorem dX12_toString_43 : decode cX12_toString 43 = .ok (.invokevirtual 32, 3) := dk_182 0 32 (dk_at dksX12_toString_1 20 rfl rfl)
theorem dX12_toString_46 : decode cX12_toString 46 = .ok (.aload_n 0, 1) := dk_42 (dk_at dksX12_toString_1 23 rfl rfl)
theorem dX12_toString_47 : decode cX12_toString 47 = .ok (.getfield 20, 3) := dk_180 0 20 (dk_at dksX12_toString_2 0 rfl rfl)
theorem dX12_toString_50 : decode cX12_toString 50 = .ok (.invokevirtual 26, 3) := dk_182 0 26 (dk_at dksX12_toString_2 3 rfl rfl)
theorem dX12_toString_53 : decode cX12_toString 53 = .ok (.invokevirtual 45, 3) := dk_182 0 45 (dk_at dksX12_toString_2 6 rfl rfl)
theorem dX12_toString_56 : decode cX12_toString 56 = .ok (.areturn, 1) := dk_176 (dk_at dksX12_toString_2 9 rfl rfl)
def dkwX13_init_3 : List UInt8 := [42, 45, 181, 0, 44, 177]
abbrev dktX13_init_3 : List UInt8 := dkwX13_init_3 ++ []
def dkwX13_init_2 : List UInt8 := [187, 0, 35, 89, 42, 25, 5, 3, 183, 0, 37, 78, 167, 0, 9, 45, 25, 5, 182, 0, 40, 167, 255, 209]
abbrev dktX13_init_2 : List UInt8 := dkwX13_init_2 ++ dktX13_init_3
def dkwX13_init_1 : List UInt8 := [185, 0, 23, 1, 0, 153, 0, 43, 25, 4, 185, 0, 29, 1, 0, 192, 0, 33, 58, 5, 45, 199, 0, 18]
abbrev dktX13_init_1 : List UInt8 := dkwX13_init_1 ++ dktX13_init_2
def dkwX13_init_0 : List UInt8 := [42, 183, 0, 1, 42, 43, 181, 0, 7, 42, 44, 181, 0, 13, 1, 78, 43, 182, 0, 17, 58, 4, 25, 4]
abbrev dktX13_init_0 : List UInt8 := dkwX13_init_0 ++ dktX13_init_1
theorem dksX13_init_0 : cX13_init.data.toList.drop 0 = dktX13_init_0 := by decide +kernel
theorem dksX13_init_1 : cX13_init.data.toList.drop 24 = dktX13_init_1 := dk_seg dksX13_init_0 24 rfl rfl
theorem dksX13_init_2 : cX13_init.data.toList.drop 48 = dktX13_init_2 := dk_seg dksX13_init_1 24 rfl rfl
theorem dksX13_init_3 : cX13_init.data.toList.drop 72 = dktX13_init_3 := dk_seg dksX13_init_2 24 rfl rfl
theorem dX13_init_0 : decode cX13_init 0 = .ok (.aload_n 0, 1) := dk_42 (dk_at dksX13_init_0 0 rfl rfl)
theorem dX13_init_1 : decode cX13_init 1 = .ok (.invokespecial 1, 3) := dk_183 0 1 (dk_at dksX13_init_0 1 rfl rfl)
theorem dX13_init_4 : decode cX13_init 4 = .ok (.aload_n 0, 1) := dk_42 (dk_at dksX13_init_0 4 rfl rfl)
theorem dX13_init_5 : decode cX13_init 5 = .ok (.aload_n 1, 1) := dk_43 (dk_at dksX13_init_0 5 rfl rfl)
theorem dX13_init_6 : decode cX13_init 6 = .ok (.putfield 7, 3) := dk_181 0 7 (dk_at dksX13_init_0 6 rfl rfl)
theorem dX13_init_9 : decode cX13_init 9 = .ok (.aload_n 0, 1) := dk_42 (dk_at dksX13_init_0 9 rfl rfl)
theorem dX13_init_10 : decode cX13_init 10 = .ok (.aload_n 2, 1) := dk_44 (dk_at dksX13_init_0 10 rfl rfl)
theorem dX13_init_11 : decode cX13_init 11 = .ok (.putfield 13, 3) := dk_181 0 13 (dk_at dksX13_init_0 11 rfl rfl)
theorem dX13_init_14 : decode cX13_init 14 = .ok (.aconst_null, 1) := dk_1 (dk_at dksX13_init_0 14 rfl rfl)
theorem dX13_init_15 : decode cX13_init 15 = .ok (.astore_n 3, 1) := dk_78 (dk_at dksX13_init_0 15 rfl rfl)
theorem dX13_init_16 : decode cX13_init 16 = .ok (.aload_n 1, 1) := dk_43 (dk_at dksX13_init_0 16 rfl rfl)
theorem dX13_init_17 : decode cX13_init 17 = .ok (.invokevirtual 17, 3) := dk_182 0 17 (dk_at dksX13_init_0 17 rfl rfl)
theorem dX13_init_20 : decode cX13_init 20 = .ok (.astore 4, 2) := dk_58 4 (dk_at dksX13_init_0 20 rfl rfl)
theorem dX13_init_22 : decode cX13_init 22 = .ok (.aload 4, 2) := dk_25 4 (dk_at dksX13_init_0 22 rfl rfl)
theorem dX13_init_24 : decode cX13_init 24 = .ok (.invokeinterface 23 1, 5) := by decide +kernel
theorem dX13_init_29 : decode cX13_init 29 = .ok (.ifCond .eq 43, 3) := dk_153 0 43 (dk_at dksX13_init_1 5 rfl rfl)
theorem dX13_init_32 : decode cX13_init 32 = .ok (.aload 4, 2) := dk_25 4 (dk_at dksX13_init_1 8 rfl rfl)
theorem dX13_init_34 : decode cX13_init 34 = .ok (.invokeinterface 29 1, 5) := by decide +kernel
theorem dX13_init_39 : decode cX13_init 39 = .ok (.checkcast 33, 3) := dk_192 0 33 (dk_at dksX13_init_1 15 rfl rfl)
theorem dX13_init_42 : decode cX13_init 42 = .ok (.astore 5, 2) := dk_58 5 (dk_at dksX13_init_1 18 rfl rfl)
theorem dX13_init_44 : decode cX13_init 44 = .ok (.aload_n 3, 1) := dk_45 (dk_at dksX13_init_1 20 rfl rfl)
theorem dX13_init_45 : decode cX13_init 45 = .ok (.ifnonnull 18, 3) := dk_199 0 18 (dk_at dksX13_init_1 21 rfl rfl)
theorem dX13_init_48 : decode cX13_init 48 = .ok (.new 35, 3) := dk_187 0 35 (dk_at dksX13_init_2 0 rfl rfl)
theorem dX13_init_51 : decode cX13_init 51 = .ok (.dup, 1) := dk_89 (dk_at dksX13_init_2 3 rfl rfl)
theorem dX13_init_52 : decode cX13_init 52 = .ok (.aload_n 0, 1) := dk_42 (dk_at dksX13_init_2 4 rfl rfl)
theorem dX13_init_53 : decode cX13_init 53 = .ok (.aload 5, 2) := dk_25 5 (dk_at dksX13_init_2 5 rfl rfl)
theorem dX13_init_55 : decode cX13_init 55 = .ok (.iconst 0, 1) := dk_3 (dk_at dksX13_init_2 7 rfl rfl)
theorem dX13_init_56 : decode cX13_init 56 = .ok (.invokespecial 37, 3) := dk_183 0 37 (dk_at dksX13_init_2 8 rfl rfl)
theorem dX13_init_59 : decode cX13_init 59 = .ok (.astore_n 3, 1) := dk_78 (dk_at dksX13_init_2 11 rfl rfl)
theorem dX13_init_60 : decode cX13_init 60 = .ok (.goto 9, 3) := dk_167 0 9 (dk_at dksX13_init_2 12 rfl rfl)
theorem dX13_init_63 : decode cX13_init 63 = .ok (.aload_n 3, 1) := dk_45 (dk_at dksX13_init_2 15 rfl rfl)
theorem dX13_init_64 : decode cX13_init 64 = .ok (.aload 5, 2) := dk_25 5 (dk_at dksX13_init_2 16 rfl rfl)
theorem dX13_init_66 : decode cX13_init 66 = .ok (.invokevirtual 40, 3) := dk_182 0 40 (dk_at dksX13_init_2 18 rfl rfl)
theorem dX13_init_69 : decode cX13_init 69 = .ok (.goto (-47), 3) := dk_167 255 209 (dk_at dksX13_init_2 21 rfl rfl)
theorem dX13_init_72 : decode cX13_init 72 = .ok (.aload_n 0, 1) := dk_42 (dk_at dksX13_init_3 0 rfl rfl)
theorem dX13_init_73 : decode cX13_init 73 = .ok (.aload_n 3, 1) := dk_45 (dk_at dksX13_init_3 1 rfl rfl)
theorem dX13_init_74 : decode cX13_init 74 = .ok (.putfield 44, 3) := dk_181 0 44 (dk_at dksX13_init_3 2 rfl rfl)
theorem dX13_init_77 : decode cX13_init 77 = .ok (.return_, 1) := dk_177 (dk_at dksX13_init_3 5 rfl rfl)
def dkwX13_nearest_1 : List UInt8 := [43, 182, 0, 72, 184, 0, 76, 176]
abbrev dktX13_nearest_1 : List UInt8 := dkwX13_nearest_1 ++ []
def dkwX13_nearest_0 : List UInt8 := [42, 180, 0, 44, 199, 0, 9, 184, 0, 62, 167, 0, 21, 42, 180, 0, 44, 42, 180, 0, 44, 180, 0, 68]
abbrev dktX13_nearest_0 : List UInt8 := dkwX13_nearest_0 ++ dktX13_nearest_1
theorem dksX13_nearest_0 : cX13_nearest.data.toList.drop 0 = dktX13_nearest_0 := by decide +kernel
theorem dksX13_nearest_1 : cX13_nearest.data.toList.drop 24 = dktX13_nearest_1 := dk_seg dksX13_nearest_0 24 rfl rfl
theorem dX13_nearest_0 : decode cX13_nearest 0 = .ok (.aload_n 0, 1) := dk_42 (dk_at dksX13_nearest_0 0 rfl rfl)
theorem dX13_nearest_1 : decode cX13_nearest 1 = .ok (.getfield 44, 3) := dk_180 0 44 (dk_at dksX13_nearest_0 1 rfl rfl)
theorem dX13_nearest_4 : decode cX13_nearest 4 = .ok (.ifnonnull 9, 3) := dk_199 0 9 (dk_at dksX13_nearest_0 4 rfl rfl)
theorem dX13_nearest_7 : decode cX13_nearest 7 = .ok (.invokestatic 62, 3) := dk_184 0 62 (dk_at dksX13_nearest_0 7 rfl rfl)
theorem dX13_nearest_10 : decode cX13_nearest 10 = .ok (.goto 21, 3) := dk_167 0 21 (dk_at dksX13_nearest_0 10 rfl rfl)
theorem dX13_nearest_13 : decode cX13_nearest 13 = .ok (.aload_n 0, 1) := dk_42 (dk_at dksX13_nearest_0 13 rfl rfl)
theorem dX13_nearest_14 : decode cX13_nearest 14 = .ok (.getfield 44, 3) := dk_180 0 44 (dk_at dksX13_nearest_0 14 rfl rfl)
theorem dX13_nearest_17 : decode cX13_nearest 17 = .ok (.aload_n 0, 1) := dk_42 (dk_at dksX13_nearest_0 17 rfl rfl)
theorem dX13_nearest_18 : decode cX13_nearest 18 = .ok (.getfield 44, 3) := dk_180 0 44 (dk_at dksX13_nearest_0 18 rfl rfl)
theorem dX13_nearest_21 : decode cX13_nearest 21 = .ok (.getfield 68, 3) := dk_180 0 68 (dk_at dksX13_nearest_0 21 rfl rfl)
theorem dX13_nearest_24 : decode cX13_nearest 24 = .ok (.aload_n 1, 1) := dk_43 (dk_at dksX13_nearest_1 0 rfl rfl)
theorem dX13_nearest_25 : decode cX13_nearest 25 = .ok (.invokevirtual 72, 3) := dk_182 0 72 (dk_at dksX13_nearest_1 1 rfl rfl)
theorem dX13_nearest_28 : decode cX13_nearest 28 = .ok (.invokestatic 76, 3) := dk_184 0 76 (dk_at dksX13_nearest_1 4 rfl rfl)
theorem dX13_nearest_31 : decode cX13_nearest 31 = .ok (.areturn, 1) := dk_176 (dk_at dksX13_nearest_1 7 rfl rfl)
def dkwX13_isNearer_2 : List UInt8 := [4, 167, 0, 4, 3, 172]
abbrev dktX13_isNearer_2 : List UInt8 := dkwX13_isNearer_2 ++ []
def dkwX13_isNearer_1 : List UInt8 := [100, 54, 4, 21, 4, 155, 0, 19, 21, 4, 154, 0, 18, 43, 180, 0, 58, 44, 180, 0, 58, 162, 0, 7]
abbrev dktX13_isNearer_1 : List UInt8 := dkwX13_isNearer_1 ++ dktX13_isNearer_2
def dkwX13_isNearer_0 : List UInt8 := [42, 180, 0, 13, 45, 43, 180, 0, 48, 184, 0, 52, 42, 180, 0, 13, 45, 44, 180, 0, 48, 184, 0, 52]
abbrev dktX13_isNearer_0 : List UInt8 := dkwX13_isNearer_0 ++ dktX13_isNearer_1
theorem dksX13_isNearer_0 : cX13_isNearer.data.toList.drop 0 = dktX13_isNearer_0 := by decide +kernel
theorem dksX13_isNearer_1 : cX13_isNearer.data.toList.drop 24 = dktX13_isNearer_1 := dk_seg dksX13_isNearer_0 24 rfl rfl
theorem dksX13_isNearer_2 : cX13_isNearer.data.toList.drop 48 = dktX13_isNearer_2 := dk_seg dksX13_isNearer_1 24 rfl rfl
theorem dX13_isNearer_0 : decode cX13_isNearer 0 = .ok (.aload_n 0, 1) := dk_42 (dk_at dksX13_isNearer_0 0 rfl rfl)
theorem dX13_isNearer_1 : decode cX13_isNearer 1 = .ok (.getfield 13, 3) := dk_180 0 13 (dk_at dksX13_isNearer_0 1 rfl rfl)
theorem dX13_isNearer_4 : decode cX13_isNearer 4 = .ok (.aload_n 3, 1) := dk_45 (dk_at dksX13_isNearer_0 4 rfl rfl)
theorem dX13_isNearer_5 : decode cX13_isNearer 5 = .ok (.aload_n 1, 1) := dk_43 (dk_at dksX13_isNearer_0 5 rfl rfl)
theorem dX13_isNearer_6 : decode cX13_isNearer 6 = .ok (.getfield 48, 3) := dk_180 0 48 (dk_at dksX13_isNearer_0 6 rfl rfl)
theorem dX13_isNearer_9 : decode cX13_isNearer 9 = .ok (.invokestatic 52, 3) := dk_184 0 52 (dk_at dksX13_isNearer_0 9 rfl rfl)
theorem dX13_isNearer_12 : decode cX13_isNearer 12 = .ok (.aload_n 0, 1) := dk_42 (dk_at dksX13_isNearer_0 12 rfl rfl)
theorem dX13_isNearer_13 : decode cX13_isNearer 13 = .ok (.getfield 13, 3) := dk_180 0 13 (dk_at dksX13_isNearer_0 13 rfl rfl)
theorem dX13_isNearer_16 : decode cX13_isNearer 16 = .ok (.aload_n 3, 1) := dk_45 (dk_at dksX13_isNearer_0 16 rfl rfl)
theorem dX13_isNearer_17 : decode cX13_isNearer 17 = .ok (.aload_n 2, 1) := dk_44 (dk_at dksX13_isNearer_0 17 rfl rfl)
theorem dX13_isNearer_18 : decode cX13_isNearer 18 = .ok (.getfield 48, 3) := dk_180 0 48 (dk_at dksX13_isNearer_0 18 rfl rfl)
theorem dX13_isNearer_21 : decode cX13_isNearer 21 = .ok (.invokestatic 52, 3) := dk_184 0 52 (dk_at dksX13_isNearer_0 21 rfl rfl)
theorem dX13_isNearer_24 : decode cX13_isNearer 24 = .ok (.isub, 1) := dk_100 (dk_at dksX13_isNearer_1 0 rfl rfl)
theorem dX13_isNearer_25 : decode cX13_isNearer 25 = .ok (.istore 4, 2) := dk_54 4 (dk_at dksX13_isNearer_1 1 rfl rfl)
theorem dX13_isNearer_27 : decode cX13_isNearer 27 = .ok (.iload 4, 2) := dk_21 4 (dk_at dksX13_isNearer_1 3 rfl rfl)
theorem dX13_isNearer_29 : decode cX13_isNearer 29 = .ok (.ifCond .lt 19, 3) := dk_155 0 19 (dk_at dksX13_isNearer_1 5 rfl rfl)
theorem dX13_isNearer_32 : decode cX13_isNearer 32 = .ok (.iload 4, 2) := dk_21 4 (dk_at dksX13_isNearer_1 8 rfl rfl)
theorem dX13_isNearer_34 : decode cX13_isNearer 34 = .ok (.ifCond .ne 18, 3) := dk_154 0 18 (dk_at dksX13_isNearer_1 10 rfl rfl)
theorem dX13_isNearer_37 : decode cX13_isNearer 37 = .ok (.aload_n 1, 1) := dk_43 (dk_at dksX13_isNearer_1 13 rfl rfl)
theorem dX13_isNearer_38 : decode cX13_isNearer 38 = .ok (.getfield 58, 3) := dk_180 0 58 (dk_at dksX13_isNearer_1 14 rfl rfl)
theorem dX13_isNearer_41 : decode cX13_isNearer 41 = .ok (.aload_n 2, 1) := dk_44 (dk_at dksX13_isNearer_1 17 rfl rfl)
theorem dX13_isNearer_42 : decode cX13_isNearer 42 = .ok (.getfield 58, 3) := dk_180 0 58 (dk_at dksX13_isNearer_1 18 rfl rfl)
theorem dX13_isNearer_45 : decode cX13_isNearer 45 = .ok (.if_icmp .ge 7, 3) := dk_162 0 7 (dk_at dksX13_isNearer_1 21 rfl rfl)
theorem dX13_isNearer_48 : decode cX13_isNearer 48 = .ok (.iconst 1, 1) := dk_4 (dk_at dksX13_isNearer_2 0 rfl rfl)
theorem dX13_isNearer_49 : decode cX13_isNearer 49 = .ok (.goto 4, 3) := dk_167 0 4 (dk_at dksX13_isNearer_2 1 rfl rfl)
theorem dX13_isNearer_52 : decode cX13_isNearer 52 = .ok (.iconst 0, 1) := dk_3 (dk_at dksX13_isNearer_2 4 rfl rfl)
theorem dX13_isNearer_53 : decode cX13_isNearer 53 = .ok (.ireturn, 1) := dk_172 (dk_at dksX13_isNearer_2 5 rfl rfl)
def dkwX13_nearestByLooking_2 : List UInt8 := [192, 0, 33, 43, 182, 0, 86, 153, 0, 9, 25, 4, 184, 0, 76, 77, 167, 255, 206, 44, 176]
abbrev dktX13_nearestByLooking_2 : List UInt8 := dkwX13_nearestByLooking_2 ++ []
def dkwX13_nearestByLooking_1 : List UInt8 := [185, 0, 29, 1, 0, 192, 0, 33, 58, 4, 44, 182, 0, 80, 153, 0, 20, 42, 25, 4, 44, 182, 0, 83]
abbrev dktX13_nearestByLooking_1 : List UInt8 := dkwX13_nearestByLooking_1 ++ dktX13_nearestByLooking_2
def dkwX13_nearestByLooking_0 : List UInt8 := [184, 0, 62, 77, 42, 180, 0, 7, 182, 0, 17, 78, 45, 185, 0, 23, 1, 0, 153, 0, 47, 45]
abbrev dktX13_nearestByLooking_0 : List UInt8 := dkwX13_nearestByLooking_0 ++ dktX13_nearestByLooking_1
theorem dksX13_nearestByLooking_0 : cX13_nearestByLooking.data.toList.drop 0 = dktX13_nearestByLooking_0 := by decide +kernel
theorem dksX13_nearestByLooking_1 : cX13_nearestByLooking.data.toList.drop 22 = dktX13_nearestByLooking_1 := dk_seg dksX13_nearestByLooking_0 22 rfl rfl
theorem dksX13_nearestByLooking_2 : cX13_nearestByLooking.data.toList.drop 46 = dktX13_nearestByLooking_2 := dk_seg dksX13_nearestByLooking_1 24 rfl rfl
theorem dX13_nearestByLooking_0 : decode cX13_nearestByLooking 0 = .ok (.invokestatic 62, 3) := dk_184 0 62 (dk_at dksX13_nearestByLooking_0 0 rfl rfl)
theorem dX13_nearestByLooking_3 : decode cX13_nearestByLooking 3 = .ok (.astore_n 2, 1) := dk_77 (dk_at dksX13_nearestByLooking_0 3 rfl rfl)
theorem dX13_nearestByLooking_4 : decode cX13_nearestByLooking 4 = .ok (.aload_n 0, 1) := dk_42 (dk_at dksX13_nearestByLooking_0 4 rfl rfl)
theorem dX13_nearestByLooking_5 : decode cX13_nearestByLooking 5 = .ok (.getfield 7, 3) := dk_180 0 7 (dk_at dksX13_nearestByLooking_0 5 rfl rfl)
theorem dX13_nearestByLooking_8 : decode cX13_nearestByLooking 8 = .ok (.invokevirtual 17, 3) := dk_182 0 17 (dk_at dksX13_nearestByLooking_0 8 rfl rfl)
theorem dX13_nearestByLooking_11 : decode cX13_nearestByLooking 11 = .ok (.astore_n 3, 1) := dk_78 (dk_at dksX13_nearestByLooking_0 11 rfl rfl)
theorem dX13_nearestByLooking_12 : decode cX13_nearestByLooking 12 = .ok (.aload_n 3, 1) := dk_45 (dk_at dksX13_nearestByLooking_0 12 rfl rfl)
theorem dX13_nearestByLooking_13 : decode cX13_nearestByLooking 13 = .ok (.invokeinterface 23 1, 5) := by decide +kernel
theorem dX13_nearestByLooking_18 : decode cX13_nearestByLooking 18 = .ok (.ifCond .eq 47, 3) := dk_153 0 47 (dk_at dksX13_nearestByLooking_0 18 rfl rfl)
theorem dX13_nearestByLooking_21 : decode cX13_nearestByLooking 21 = .ok (.aload_n 3, 1) := dk_45 (dk_at dksX13_nearestByLooking_0 21 rfl rfl)
theorem dX13_nearestByLooking_22 : decode cX13_nearestByLooking 22 = .ok (.invokeinterface 29 1, 5) := by decide +kernel
theorem dX13_nearestByLooking_27 : decode cX13_nearestByLooking 27 = .ok (.checkcast 33, 3) := dk_192 0 33 (dk_at dksX13_nearestByLooking_1 5 rfl rfl)
theorem dX13_nearestByLooking_30 : decode cX13_nearestByLooking 30 = .ok (.astore 4, 2) := dk_58 4 (dk_at dksX13_nearestByLooking_1 8 rfl rfl)
theorem dX13_nearestByLooking_32 : decode cX13_nearestByLooking 32 = .ok (.aload_n 2, 1) := dk_44 (dk_at dksX13_nearestByLooking_1 10 rfl rfl)
theorem dX13_nearestByLooking_33 : decode cX13_nearestByLooking 33 = .ok (.invokevirtual 80, 3) := dk_182 0 80 (dk_at dksX13_nearestByLooking_1 11 rfl rfl)
theorem dX13_nearestByLooking_36 : decode cX13_nearestByLooking 36 = .ok (.ifCond .eq 20, 3) := dk_153 0 20 (dk_at dksX13_nearestByLooking_1 14 rfl rfl)
theorem dX13_nearestByLooking_39 : decode cX13_nearestByLooking 39 = .ok (.aload_n 0, 1) := dk_42 (dk_at dksX13_nearestByLooking_1 17 rfl rfl)
theorem dX13_nearestByLooking_40 : decode cX13_nearestByLooking 40 = .ok (.aload 4, 2) := dk_25 4 (dk_at dksX13_nearestByLooking_1 18 rfl rfl)
theorem dX13_nearestByLooking_42 : decode cX13_nearestByLooking 42 = .ok (.aload_n 2, 1) := dk_44 (dk_at dksX13_nearestByLooking_1 20 rfl rfl)
theorem dX13_nearestByLooking_43 : decode cX13_nearestByLooking 43 = .ok (.invokevirtual 83, 3) := dk_182 0 83 (dk_at dksX13_nearestByLooking_1 21 rfl rfl)
theorem dX13_nearestByLooking_46 : decode cX13_nearestByLooking 46 = .ok (.checkcast 33, 3) := dk_192 0 33 (dk_at dksX13_nearestByLooking_2 0 rfl rfl)
theorem dX13_nearestByLooking_49 : decode cX13_nearestByLooking 49 = .ok (.aload_n 1, 1) := dk_43 (dk_at dksX13_nearestByLooking_2 3 rfl rfl)
theorem dX13_nearestByLooking_50 : decode cX13_nearestByLooking 50 = .ok (.invokevirtual 86, 3) := dk_182 0 86 (dk_at dksX13_nearestByLooking_2 4 rfl rfl)
theorem dX13_nearestByLooking_53 : decode cX13_nearestByLooking 53 = .ok (.ifCond .eq 9, 3) := dk_153 0 9 (dk_at dksX13_nearestByLooking_2 7 rfl rfl)
theorem dX13_nearestByLooking_56 : decode cX13_nearestByLooking 56 = .ok (.aload 4, 2) := dk_25 4 (dk_at dksX13_nearestByLooking_2 10 rfl rfl)
theorem dX13_nearestByLooking_58 : decode cX13_nearestByLooking 58 = .ok (.invokestatic 76, 3) := dk_184 0 76 (dk_at dksX13_nearestByLooking_2 12 rfl rfl)
theorem dX13_nearestByLooking_61 : decode cX13_nearestByLooking 61 = .ok (.astore_n 2, 1) := dk_77 (dk_at dksX13_nearestByLooking_2 15 rfl rfl)
theorem dX13_nearestByLooking_62 : decode cX13_nearestByLooking 62 = .ok (.goto (-50), 3) := dk_167 255 206 (dk_at dksX13_nearestByLooking_2 16 rfl rfl)
theorem dX13_nearestByLooking_65 : decode cX13_nearestByLooking 65 = .ok (.aload_n 2, 1) := dk_44 (dk_at dksX13_nearestByLooking_2 19 rfl rfl)
theorem dX13_nearestByLooking_66 : decode cX13_nearestByLooking 66 = .ok (.areturn, 1) := dk_176 (dk_at dksX13_nearestByLooking_2 20 rfl rfl)
def dkwX14_init_0 : List UInt8 := [42, 43, 181, 0, 1, 42, 183, 0, 7, 42, 44, 181, 0, 13, 42, 29, 181, 0, 17, 177]
abbrev dktX14_init_0 : List UInt8 := dkwX14_init_0 ++ []
theorem dksX14_init_0 : cX14_init.data.toList.drop 0 = dktX14_init_0 := by decide +kernel
theorem dX14_init_0 : decode cX14_init 0 = .ok (.aload_n 0, 1) := dk_42 (dk_at dksX14_init_0 0 rfl rfl)
theorem dX14_init_1 : decode cX14_init 1 = .ok (.aload_n 1, 1) := dk_43 (dk_at dksX14_init_0 1 rfl rfl)
theorem dX14_init_2 : decode cX14_init 2 = .ok (.putfield 1, 3) := dk_181 0 1 (dk_at dksX14_init_0 2 rfl rfl)
theorem dX14_init_5 : decode cX14_init 5 = .ok (.aload_n 0, 1) := dk_42 (dk_at dksX14_init_0 5 rfl rfl)
theorem dX14_init_6 : decode cX14_init 6 = .ok (.invokespecial 7, 3) := dk_183 0 7 (dk_at dksX14_init_0 6 rfl rfl)
theorem dX14_init_9 : decode cX14_init 9 = .ok (.aload_n 0, 1) := dk_42 (dk_at dksX14_init_0 9 rfl rfl)
theorem dX14_init_10 : decode cX14_init 10 = .ok (.aload_n 2, 1) := dk_44 (dk_at dksX14_init_0 10 rfl rfl)
theorem dX14_init_11 : decode cX14_init 11 = .ok (.putfield 13, 3) := dk_181 0 13 (dk_at dksX14_init_0 11 rfl rfl)
theorem dX14_init_14 : decode cX14_init 14 = .ok (.aload_n 0, 1) := dk_42 (dk_at dksX14_init_0 14 rfl rfl)
theorem dX14_init_15 : decode cX14_init 15 = .ok (.iload_n 3, 1) := dk_29 (dk_at dksX14_init_0 15 rfl rfl)
theorem dX14_init_16 : decode cX14_init 16 = .ok (.putfield 17, 3) := dk_181 0 17 (dk_at dksX14_init_0 16 rfl rfl)
theorem dX14_init_19 : decode cX14_init 19 = .ok (.return_, 1) := dk_177 (dk_at dksX14_init_0 19 rfl rfl)
def dkwX14_insert_4 : List UInt8 := [181, 0, 41, 177]
abbrev dktX14_insert_4 : List UInt8 := dkwX14_insert_4 ++ []
def dkwX14_insert_3 : List UInt8 := [167, 0, 27, 42, 187, 0, 2, 89, 42, 180, 0, 1, 43, 42, 180, 0, 17, 4, 96, 6, 112, 183, 0, 48]
abbrev dktX14_insert_3 : List UInt8 := dkwX14_insert_3 ++ dktX14_insert_4
def dkwX14_insert_2 : List UInt8 := [187, 0, 2, 89, 42, 180, 0, 1, 43, 42, 180, 0, 17, 4, 96, 6, 112, 183, 0, 48, 181, 0, 37]
abbrev dktX14_insert_2 : List UInt8 := dkwX14_insert_2 ++ dktX14_insert_3
def dkwX14_insert_1 : List UInt8 := [198, 0, 11, 44, 43, 182, 0, 44, 167, 0, 65, 42, 43, 180, 0, 27, 182, 0, 33, 153, 0, 30, 42]
abbrev dktX14_insert_1 : List UInt8 := dkwX14_insert_1 ++ dktX14_insert_2
def dkwX14_insert_0 : List UInt8 := [42, 43, 180, 0, 27, 182, 0, 33, 153, 0, 10, 42, 180, 0, 37, 167, 0, 7, 42, 180, 0, 41, 77, 44]
abbrev dktX14_insert_0 : List UInt8 := dkwX14_insert_0 ++ dktX14_insert_1
theorem dksX14_insert_0 : cX14_insert.data.toList.drop 0 = dktX14_insert_0 := by decide +kernel
theorem dksX14_insert_1 : cX14_insert.data.toList.drop 24 = dktX14_insert_1 := dk_seg dksX14_insert_0 24 rfl rfl
theorem dksX14_insert_2 : cX14_insert.data.toList.drop 47 = dktX14_insert_2 := dk_seg dksX14_insert_1 23 rfl rfl
theorem dksX14_insert_3 : cX14_insert.data.toList.drop 70 = dktX14_insert_3 := dk_seg dksX14_insert_2 23 rfl rfl
theorem dksX14_insert_4 : cX14_insert.data.toList.drop 94 = dktX14_insert_4 := dk_seg dksX14_insert_3 24 rfl rfl
theorem dX14_insert_0 : decode cX14_insert 0 = .ok (.aload_n 0, 1) := dk_42 (dk_at dksX14_insert_0 0 rfl rfl)
theorem dX14_insert_1 : decode cX14_insert 1 = .ok (.aload_n 1, 1) := dk_43 (dk_at dksX14_insert_0 1 rfl rfl)
theorem dX14_insert_2 : decode cX14_insert 2 = .ok (.getfield 27, 3) := dk_180 0 27 (dk_at dksX14_insert_0 2 rfl rfl)
theorem dX14_insert_5 : decode cX14_insert 5 = .ok (.invokevirtual 33, 3) := dk_182 0 33 (dk_at dksX14_insert_0 5 rfl rfl)
theorem dX14_insert_8 : decode cX14_insert 8 = .ok (.ifCond .eq 10, 3) := dk_153 0 10 (dk_at dksX14_insert_0 8 rfl rfl)
theorem dX14_insert_11 : decode cX14_insert 11 = .ok (.aload_n 0, 1) := dk_42 (dk_at dksX14_insert_0 11 rfl rfl)
theorem dX14_insert_12 : decode cX14_insert 12 = .ok (.getfield 37, 3) := dk_180 0 37 (dk_at dksX14_insert_0 12 rfl rfl)
theorem dX14_insert_15 : decode cX14_insert 15 = .ok (.goto 7, 3) := dk_167 0 7 (dk_at dksX14_insert_0 15 rfl rfl)
theorem dX14_insert_18 : decode cX14_insert 18 = .ok (.aload_n 0, 1) := dk_42 (dk_at dksX14_insert_0 18 rfl rfl)
theorem dX14_insert_19 : decode cX14_insert 19 = .ok (.getfield 41, 3) := dk_180 0 41 (dk_at dksX14_insert_0 19 rfl rfl)
theorem dX14_insert_22 : decode cX14_insert 22 = .ok (.astore_n 2, 1) := dk_77 (dk_at dksX14_insert_0 22 rfl rfl)
theorem dX14_insert_23 : decode cX14_insert 23 = .ok (.aload_n 2, 1) := dk_44 (dk_at dksX14_insert_0 23 rfl rfl)
theorem dX14_insert_24 : decode cX14_insert 24 = .ok (.ifnull 11, 3) := dk_198 0 11 (dk_at dksX14_insert_1 0 rfl rfl)
theorem dX14_insert_27 : decode cX14_insert 27 = .ok (.aload_n 2, 1) := dk_44 (dk_at dksX14_insert_1 3 rfl rfl)
theorem dX14_insert_28 : decode cX14_insert 28 = .ok (.aload_n 1, 1) := dk_43 (dk_at dksX14_insert_1 4 rfl rfl)
theorem dX14_insert_29 : decode cX14_insert 29 = .ok (.invokevirtual 44, 3) := dk_182 0 44 (dk_at dksX14_insert_1 5 rfl rfl)
theorem dX14_insert_32 : decode cX14_insert 32 = .ok (.goto 65, 3) := dk_167 0 65 (dk_at dksX14_insert_1 8 rfl rfl)
theorem dX14_insert_35 : decode cX14_insert 35 = .ok (.aload_n 0, 1) := dk_42 (dk_at dksX14_insert_1 11 rfl rfl)
theorem dX14_insert_36 : decode cX14_insert 36 = .ok (.aload_n 1, 1) := dk_43 (dk_at dksX14_insert_1 12 rfl rfl)
theorem dX14_insert_37 : decode cX14_insert 37 = .ok (.getfield 27, 3) := dk_180 0 27 (dk_at dksX14_insert_1 13 rfl rfl)
theorem dX14_insert_40 : decode cX14_insert 40 = .ok (.invokevirtual 33, 3) := dk_182 0 33 (dk_at dksX14_insert_1 16 rfl rfl)
theorem dX14_insert_43 : decode cX14_insert 43 = .ok (.ifCond .eq 30, 3) := dk_153 0 30 (dk_at dksX14_insert_1 19 rfl rfl)
theorem dX14_insert_46 : decode cX14_insert 46 = .ok (.aload_n 0, 1) := dk_42 (dk_at dksX14_insert_1 22 rfl rfl)
theorem dX14_insert_47 : decode cX14_insert 47 = .ok (.new 2, 3) := dk_187 0 2 (dk_at dksX14_insert_2 0 rfl rfl)
theorem dX14_insert_50 : decode cX14_insert 50 = .ok (.dup, 1) := dk_89 (dk_at dksX14_insert_2 3 rfl rfl)
theorem dX14_insert_51 : decode cX14_insert 51 = .ok (.aload_n 0, 1) := dk_42 (dk_at dksX14_insert_2 4 rfl rfl)
theorem dX14_insert_52 : decode cX14_insert 52 = .ok (.getfield 1, 3) := dk_180 0 1 (dk_at dksX14_insert_2 5 rfl rfl)
theorem dX14_insert_55 : decode cX14_insert 55 = .ok (.aload_n 1, 1) := dk_43 (dk_at dksX14_insert_2 8 rfl rfl)
theorem dX14_insert_56 : decode cX14_insert 56 = .ok (.aload_n 0, 1) := dk_42 (dk_at dksX14_insert_2 9 rfl rfl)
theorem dX14_insert_57 : decode cX14_insert 57 = .ok (.getfield 17, 3) := dk_180 0 17 (dk_at dksX14_insert_2 10 rfl rfl)
theorem dX14_insert_60 : decode cX14_insert 60 = .ok (.iconst 1, 1) := dk_4 (dk_at dksX14_insert_2 13 rfl rfl)
theorem dX14_insert_61 : decode cX14_insert 61 = .ok (.iadd, 1) := dk_96 (dk_at dksX14_insert_2 14 rfl rfl)
theorem dX14_insert_62 : decode cX14_insert 62 = .ok (.iconst 3, 1) := dk_6 (dk_at dksX14_insert_2 15 rfl rfl)
theorem dX14_insert_63 : decode cX14_insert 63 = .ok (.irem, 1) := dk_112 (dk_at dksX14_insert_2 16 rfl rfl)
theorem dX14_insert_64 : decode cX14_insert 64 = .ok (.invokespecial 48, 3) := dk_183 0 48 (dk_at dksX14_insert_2 17 rfl rfl)
theorem dX14_insert_67 : decode cX14_insert 67 = .ok (.putfield 37, 3) := dk_181 0 37 (dk_at dksX14_insert_2 20 rfl rfl)
theorem dX14_insert_70 : decode cX14_insert 70 = .ok (.goto 27, 3) := dk_167 0 27 (dk_at dksX14_insert_3 0 rfl rfl)
theorem dX14_insert_73 : decode cX14_insert 73 = .ok (.aload_n 0, 1) := dk_42 (dk_at dksX14_insert_3 3 rfl rfl)
theorem dX14_insert_74 : decode cX14_insert 74 = .ok (.new 2, 3) := dk_187 0 2 (dk_at dksX14_insert_3 4 rfl rfl)
theorem dX14_insert_77 : decode cX14_insert 77 = .ok (.dup, 1) := dk_89 (dk_at dksX14_insert_3 7 rfl rfl)
theorem dX14_insert_78 : decode cX14_insert 78 = .ok (.aload_n 0, 1) := dk_42 (dk_at dksX14_insert_3 8 rfl rfl)
theorem dX14_insert_79 : decode cX14_insert 79 = .ok (.getfield 1, 3) := dk_180 0 1 (dk_at dksX14_insert_3 9 rfl rfl)
theorem dX14_insert_82 : decode cX14_insert 82 = .ok (.aload_n 1, 1) := dk_43 (dk_at dksX14_insert_3 12 rfl rfl)
theorem dX14_insert_83 : decode cX14_insert 83 = .ok (.aload_n 0, 1) := dk_42 (dk_at dksX14_insert_3 13 rfl rfl)
theorem dX14_insert_84 : decode cX14_insert 84 = .ok (.getfield 17, 3) := dk_180 0 17 (dk_at dksX14_insert_3 14 rfl rfl)
theorem dX14_insert_87 : decode cX14_insert 87 = .ok (.iconst 1, 1) := dk_4 (dk_at dksX14_insert_3 17 rfl rfl)
theorem dX14_insert_88 : decode cX14_insert 88 = .ok (.iadd, 1) := dk_96 (dk_at dksX14_insert_3 18 rfl rfl)
theorem dX14_insert_89 : decode cX14_insert 89 = .ok (.iconst 3, 1) := dk_6 (dk_at dksX14_insert_3 19 rfl rfl)
theorem dX14_insert_90 : decode cX14_insert 90 = .ok (.irem, 1) := dk_112 (dk_at dksX14_insert_3 20 rfl rfl)
theorem dX14_insert_91 : decode cX14_insert 91 = .ok (.invokespecial 48, 3) := dk_183 0 48 (dk_at dksX14_insert_3 21 rfl rfl)
theorem dX14_insert_94 : decode cX14_insert 94 = .ok (.putfield 41, 3) := dk_181 0 41 (dk_at dksX14_insert_4 0 rfl rfl)
theorem dX14_insert_97 : decode cX14_insert 97 = .ok (.return_, 1) := dk_177 (dk_at dksX14_insert_4 3 rfl rfl)
def dkwX14_isLeft_1 : List UInt8 := [163, 0, 7, 4, 167, 0, 4, 3, 172]
abbrev dktX14_isLeft_1 : List UInt8 := dkwX14_isLeft_1 ++ []
def dkwX14_isLeft_0 : List UInt8 := [43, 42, 180, 0, 17, 182, 0, 21, 42, 180, 0, 13, 180, 0, 27, 42, 180, 0, 17, 182, 0, 21]
abbrev dktX14_isLeft_0 : List UInt8 := dkwX14_isLeft_0 ++ dktX14_isLeft_1
theorem dksX14_isLeft_0 : cX14_isLeft.data.toList.drop 0 = dktX14_isLeft_0 := by decide +kernel
theorem dksX14_isLeft_1 : cX14_isLeft.data.toList.drop 22 = dktX14_isLeft_1 := dk_seg dksX14_isLeft_0 22 rfl rfl
theorem dX14_isLeft_0 : decode cX14_isLeft 0 = .ok (.aload_n 1, 1) := dk_43 (dk_at dksX14_isLeft_0 0 rfl rfl)
theorem dX14_isLeft_1 : decode cX14_isLeft 1 = .ok (.aload_n 0, 1) := dk_42 (dk_at dksX14_isLeft_0 1 rfl rfl)
theorem dX14_isLeft_2 : decode cX14_isLeft 2 = .ok (.getfield 17, 3) := dk_180 0 17 (dk_at dksX14_isLeft_0 2 rfl rfl)
theorem dX14_isLeft_5 : decode cX14_isLeft 5 = .ok (.invokevirtual 21, 3) := dk_182 0 21 (dk_at dksX14_isLeft_0 5 rfl rfl)
theorem dX14_isLeft_8 : decode cX14_isLeft 8 = .ok (.aload_n 0, 1) := dk_42 (dk_at dksX14_isLeft_0 8 rfl rfl)
theorem dX14_isLeft_9 : decode cX14_isLeft 9 = .ok (.getfield 13, 3) := dk_180 0 13 (dk_at dksX14_isLeft_0 9 rfl rfl)
theorem dX14_isLeft_12 : decode cX14_isLeft 12 = .ok (.getfield 27, 3) := dk_180 0 27 (dk_at dksX14_isLeft_0 12 rfl rfl)
theorem dX14_isLeft_15 : decode cX14_isLeft 15 = .ok (.aload_n 0, 1) := dk_42 (dk_at dksX14_isLeft_0 15 rfl rfl)
theorem dX14_isLeft_16 : decode cX14_isLeft 16 = .ok (.getfield 17, 3) := dk_180 0 17 (dk_at dksX14_isLeft_0 16 rfl rfl)
theorem dX14_isLeft_19 : decode cX14_isLeft 19 = .ok (.invokevirtual 21, 3) := dk_182 0 21 (dk_at dksX14_isLeft_0 19 rfl rfl)
theorem dX14_isLeft_22 : decode cX14_isLeft 22 = .ok (.if_icmp .gt 7, 3) := dk_163 0 7 (dk_at dksX14_isLeft_1 0 rfl rfl)
theorem dX14_isLeft_25 : decode cX14_isLeft 25 = .ok (.iconst 1, 1) := dk_4 (dk_at dksX14_isLeft_1 3 rfl rfl)
theorem dX14_isLeft_26 : decode cX14_isLeft 26 = .ok (.goto 4, 3) := dk_167 0 4 (dk_at dksX14_isLeft_1 4 rfl rfl)
theorem dX14_isLeft_29 : decode cX14_isLeft 29 = .ok (.iconst 0, 1) := dk_3 (dk_at dksX14_isLeft_1 7 rfl rfl)
theorem dX14_isLeft_30 : decode cX14_isLeft 30 = .ok (.ireturn, 1) := dk_172 (dk_at dksX14_isLeft_1 8 rfl rfl)
def dkwX14_nearer_4 : List UInt8 := [180, 0, 55, 44, 45, 180, 0, 27, 184, 0, 79, 163, 0, 11, 25, 5, 45, 44, 182, 0, 71, 78, 45, 176]
abbrev dktX14_nearer_4 : List UInt8 := dkwX14_nearer_4 ++ []
def dkwX14_nearer_3 : List UInt8 := [25, 4, 45, 44, 182, 0, 71, 78, 25, 5, 198, 0, 34, 42, 44, 182, 0, 75, 42, 180, 0, 1]
abbrev dktX14_nearer_3 : List UInt8 := dkwX14_nearer_3 ++ dktX14_nearer_4
def dkwX14_nearer_2 : List UInt8 := [182, 0, 33, 153, 0, 10, 42, 180, 0, 41, 167, 0, 7, 42, 180, 0, 37, 58, 5, 25, 4, 198, 0, 11]
abbrev dktX14_nearer_2 : List UInt8 := dkwX14_nearer_2 ++ dktX14_nearer_3
def dkwX14_nearer_1 : List UInt8 := [78, 42, 44, 182, 0, 33, 153, 0, 10, 42, 180, 0, 37, 167, 0, 7, 42, 180, 0, 41, 58, 4, 42, 44]
abbrev dktX14_nearer_1 : List UInt8 := dkwX14_nearer_1 ++ dktX14_nearer_2
def dkwX14_nearer_0 : List UInt8 := [42, 180, 0, 1, 42, 180, 0, 13, 43, 44, 182, 0, 67, 153, 0, 10, 42, 180, 0, 13, 167, 0, 4, 43]
abbrev dktX14_nearer_0 : List UInt8 := dkwX14_nearer_0 ++ dktX14_nearer_1
theorem dksX14_nearer_0 : cX14_nearer.data.toList.drop 0 = dktX14_nearer_0 := by decide +kernel
theorem dksX14_nearer_1 : cX14_nearer.data.toList.drop 24 = dktX14_nearer_1 := dk_seg dksX14_nearer_0 24 rfl rfl
theorem dksX14_nearer_2 : cX14_nearer.data.toList.drop 48 = dktX14_nearer_2 := dk_seg dksX14_nearer_1 24 rfl rfl
theorem dksX14_nearer_3 : cX14_nearer.data.toList.drop 72 = dktX14_nearer_3 := dk_seg dksX14_nearer_2 24 rfl rfl
theorem dksX14_nearer_4 : cX14_nearer.data.toList.drop 94 = dktX14_nearer_4 := dk_seg dksX14_nearer_3 22 rfl rfl
theorem dX14_nearer_0 : decode cX14_nearer 0 = .ok (.aload_n 0, 1) := dk_42 (dk_at dksX14_nearer_0 0 rfl rfl)
theorem dX14_nearer_1 : decode cX14_nearer 1 = .ok (.getfield 1, 3) := dk_180 0 1 (dk_at dksX14_nearer_0 1 rfl rfl)
theorem dX14_nearer_4 : decode cX14_nearer 4 = .ok (.aload_n 0, 1) := dk_42 (dk_at dksX14_nearer_0 4 rfl rfl)
theorem dX14_nearer_5 : decode cX14_nearer 5 = .ok (.getfield 13, 3) := dk_180 0 13 (dk_at dksX14_nearer_0 5 rfl rfl)
theorem dX14_nearer_8 : decode cX14_nearer 8 = .ok (.aload_n 1, 1) := dk_43 (dk_at dksX14_nearer_0 8 rfl rfl)
theorem dX14_nearer_9 : decode cX14_nearer 9 = .ok (.aload_n 2, 1) := dk_44 (dk_at dksX14_nearer_0 9 rfl rfl)
theorem dX14_nearer_10 : decode cX14_nearer 10 = .ok (.invokevirtual 67, 3) := dk_182 0 67 (dk_at dksX14_nearer_0 10 rfl rfl)
theorem dX14_nearer_13 : decode cX14_nearer 13 = .ok (.ifCond .eq 10, 3) := dk_153 0 10 (dk_at dksX14_nearer_0 13 rfl rfl)
theorem dX14_nearer_16 : decode cX14_nearer 16 = .ok (.aload_n 0, 1) := dk_42 (dk_at dksX14_nearer_0 16 rfl rfl)
theorem dX14_nearer_17 : decode cX14_nearer 17 = .ok (.getfield 13, 3) := dk_180 0 13 (dk_at dksX14_nearer_0 17 rfl rfl)
theorem dX14_nearer_20 : decode cX14_nearer 20 = .ok (.goto 4, 3) := dk_167 0 4 (dk_at dksX14_nearer_0 20 rfl rfl)
theorem dX14_nearer_23 : decode cX14_nearer 23 = .ok (.aload_n 1, 1) := dk_43 (dk_at dksX14_nearer_0 23 rfl rfl)
theorem dX14_nearer_24 : decode cX14_nearer 24 = .ok (.astore_n 3, 1) := dk_78 (dk_at dksX14_nearer_1 0 rfl rfl)
theorem dX14_nearer_25 : decode cX14_nearer 25 = .ok (.aload_n 0, 1) := dk_42 (dk_at dksX14_nearer_1 1 rfl rfl)
theorem dX14_nearer_26 : decode cX14_nearer 26 = .ok (.aload_n 2, 1) := dk_44 (dk_at dksX14_nearer_1 2 rfl rfl)
theorem dX14_nearer_27 : decode cX14_nearer 27 = .ok (.invokevirtual 33, 3) := dk_182 0 33 (dk_at dksX14_nearer_1 3 rfl rfl)
theorem dX14_nearer_30 : decode cX14_nearer 30 = .ok (.ifCond .eq 10, 3) := dk_153 0 10 (dk_at dksX14_nearer_1 6 rfl rfl)
theorem dX14_nearer_33 : decode cX14_nearer 33 = .ok (.aload_n 0, 1) := dk_42 (dk_at dksX14_nearer_1 9 rfl rfl)
theorem dX14_nearer_34 : decode cX14_nearer 34 = .ok (.getfield 37, 3) := dk_180 0 37 (dk_at dksX14_nearer_1 10 rfl rfl)
theorem dX14_nearer_37 : decode cX14_nearer 37 = .ok (.goto 7, 3) := dk_167 0 7 (dk_at dksX14_nearer_1 13 rfl rfl)
theorem dX14_nearer_40 : decode cX14_nearer 40 = .ok (.aload_n 0, 1) := dk_42 (dk_at dksX14_nearer_1 16 rfl rfl)
theorem dX14_nearer_41 : decode cX14_nearer 41 = .ok (.getfield 41, 3) := dk_180 0 41 (dk_at dksX14_nearer_1 17 rfl rfl)
theorem dX14_nearer_44 : decode cX14_nearer 44 = .ok (.astore 4, 2) := dk_58 4 (dk_at dksX14_nearer_1 20 rfl rfl)
theorem dX14_nearer_46 : decode cX14_nearer 46 = .ok (.aload_n 0, 1) := dk_42 (dk_at dksX14_nearer_1 22 rfl rfl)
theorem dX14_nearer_47 : decode cX14_nearer 47 = .ok (.aload_n 2, 1) := dk_44 (dk_at dksX14_nearer_1 23 rfl rfl)
theorem dX14_nearer_48 : decode cX14_nearer 48 = .ok (.invokevirtual 33, 3) := dk_182 0 33 (dk_at dksX14_nearer_2 0 rfl rfl)
theorem dX14_nearer_51 : decode cX14_nearer 51 = .ok (.ifCond .eq 10, 3) := dk_153 0 10 (dk_at dksX14_nearer_2 3 rfl rfl)
theorem dX14_nearer_54 : decode cX14_nearer 54 = .ok (.aload_n 0, 1) := dk_42 (dk_at dksX14_nearer_2 6 rfl rfl)
theorem dX14_nearer_55 : decode cX14_nearer 55 = .ok (.getfield 41, 3) := dk_180 0 41 (dk_at dksX14_nearer_2 7 rfl rfl)
theorem dX14_nearer_58 : decode cX14_nearer 58 = .ok (.goto 7, 3) := dk_167 0 7 (dk_at dksX14_nearer_2 10 rfl rfl)
theorem dX14_nearer_61 : decode cX14_nearer 61 = .ok (.aload_n 0, 1) := dk_42 (dk_at dksX14_nearer_2 13 rfl rfl)
theorem dX14_nearer_62 : decode cX14_nearer 62 = .ok (.getfield 37, 3) := dk_180 0 37 (dk_at dksX14_nearer_2 14 rfl rfl)
theorem dX14_nearer_65 : decode cX14_nearer 65 = .ok (.astore 5, 2) := dk_58 5 (dk_at dksX14_nearer_2 17 rfl rfl)
theorem dX14_nearer_67 : decode cX14_nearer 67 = .ok (.aload 4, 2) := dk_25 4 (dk_at dksX14_nearer_2 19 rfl rfl)
theorem dX14_nearer_69 : decode cX14_nearer 69 = .ok (.ifnull 11, 3) := dk_198 0 11 (dk_at dksX14_nearer_2 21 rfl rfl)
theorem dX14_nearer_72 : decode cX14_nearer 72 = .ok (.aload 4, 2) := dk_25 4 (dk_at dksX14_nearer_3 0 rfl rfl)
theorem dX14_nearer_74 : decode cX14_nearer 74 = .ok (.aload_n 3, 1) := dk_45 (dk_at dksX14_nearer_3 2 rfl rfl)
theorem dX14_nearer_75 : decode cX14_nearer 75 = .ok (.aload_n 2, 1) := dk_44 (dk_at dksX14_nearer_3 3 rfl rfl)
theorem dX14_nearer_76 : decode cX14_nearer 76 = .ok (.invokevirtual 71, 3) := dk_182 0 71 (dk_at dksX14_nearer_3 4 rfl rfl)
theorem dX14_nearer_79 : decode cX14_nearer 79 = .ok (.astore_n 3, 1) := dk_78 (dk_at dksX14_nearer_3 7 rfl rfl)
theorem dX14_nearer_80 : decode cX14_nearer 80 = .ok (.aload 5, 2) := dk_25 5 (dk_at dksX14_nearer_3 8 rfl rfl)
theorem dX14_nearer_82 : decode cX14_nearer 82 = .ok (.ifnull 34, 3) := dk_198 0 34 (dk_at dksX14_nearer_3 10 rfl rfl)
theorem dX14_nearer_85 : decode cX14_nearer 85 = .ok (.aload_n 0, 1) := dk_42 (dk_at dksX14_nearer_3 13 rfl rfl)
theorem dX14_nearer_86 : decode cX14_nearer 86 = .ok (.aload_n 2, 1) := dk_44 (dk_at dksX14_nearer_3 14 rfl rfl)
theorem dX14_nearer_87 : decode cX14_nearer 87 = .ok (.invokevirtual 75, 3) := dk_182 0 75 (dk_at dksX14_nearer_3 15 rfl rfl)
theorem dX14_nearer_90 : decode cX14_nearer 90 = .ok (.aload_n 0, 1) := dk_42 (dk_at dksX14_nearer_3 18 rfl rfl)
theorem dX14_nearer_91 : decode cX14_nearer 91 = .ok (.getfield 1, 3) := dk_180 0 1 (dk_at dksX14_nearer_3 19 rfl rfl)
theorem dX14_nearer_94 : decode cX14_nearer 94 = .ok (.getfield 55, 3) := dk_180 0 55 (dk_at dksX14_nearer_4 0 rfl rfl)
theorem dX14_nearer_97 : decode cX14_nearer 97 = .ok (.aload_n 2, 1) := dk_44 (dk_at dksX14_nearer_4 3 rfl rfl)
theorem dX14_nearer_98 : decode cX14_nearer 98 = .ok (.aload_n 3, 1) := dk_45 (dk_at dksX14_nearer_4 4 rfl rfl)
theorem dX14_nearer_99 : decode cX14_nearer 99 = .ok (.getfield 27, 3) := dk_180 0 27 (dk_at dksX14_nearer_4 5 rfl rfl)
theorem dX14_nearer_102 : decode cX14_nearer 102 = .ok (.invokestatic 79, 3) := dk_184 0 79 (dk_at dksX14_nearer_4 8 rfl rfl)
theorem dX14_nearer_105 : decode cX14_nearer 105 = .ok (.if_icmp .gt 11, 3) := dk_163 0 11 (dk_at dksX14_nearer_4 11 rfl rfl)
theorem dX14_nearer_108 : decode cX14_nearer 108 = .ok (.aload 5, 2) := dk_25 5 (dk_at dksX14_nearer_4 14 rfl rfl)
theorem dX14_nearer_110 : decode cX14_nearer 110 = .ok (.aload_n 3, 1) := dk_45 (dk_at dksX14_nearer_4 16 rfl rfl)
theorem dX14_nearer_111 : decode cX14_nearer 111 = .ok (.aload_n 2, 1) := dk_44 (dk_at dksX14_nearer_4 17 rfl rfl)
theorem dX14_nearer_112 : decode cX14_nearer 112 = .ok (.invokevirtual 71, 3) := dk_182 0 71 (dk_at dksX14_nearer_4 18 rfl rfl)
theorem dX14_nearer_115 : decode cX14_nearer 115 = .ok (.astore_n 3, 1) := dk_78 (dk_at dksX14_nearer_4 21 rfl rfl)
theorem dX14_nearer_116 : decode cX14_nearer 116 = .ok (.aload_n 3, 1) := dk_45 (dk_at dksX14_nearer_4 22 rfl rfl)
theorem dX14_nearer_117 : decode cX14_nearer 117 = .ok (.areturn, 1) := dk_176 (dk_at dksX14_nearer_4 23 rfl rfl)
def dkwX14_bound_1 : List UInt8 := [3, 3, 185, 0, 61, 4, 0, 172]
abbrev dktX14_bound_1 : List UInt8 := dkwX14_bound_1 ++ []
def dkwX14_bound_0 : List UInt8 := [43, 42, 180, 0, 13, 180, 0, 27, 42, 180, 0, 17, 182, 0, 51, 61, 42, 180, 0, 1, 180, 0, 55, 28]
abbrev dktX14_bound_0 : List UInt8 := dkwX14_bound_0 ++ dktX14_bound_1
theorem dksX14_bound_0 : cX14_bound.data.toList.drop 0 = dktX14_bound_0 := by decide +kernel
theorem dksX14_bound_1 : cX14_bound.data.toList.drop 24 = dktX14_bound_1 := dk_seg dksX14_bound_0 24 rfl rfl
theorem dX14_bound_0 : decode cX14_bound 0 = .ok (.aload_n 1, 1) := dk_43 (dk_at dksX14_bound_0 0 rfl rfl)
theorem dX14_bound_1 : decode cX14_bound 1 = .ok (.aload_n 0, 1) := dk_42 (dk_at dksX14_bound_0 1 rfl rfl)
theorem dX14_bound_2 : decode cX14_bound 2 = .ok (.getfield 13, 3) := dk_180 0 13 (dk_at dksX14_bound_0 2 rfl rfl)
theorem dX14_bound_5 : decode cX14_bound 5 = .ok (.getfield 27, 3) := dk_180 0 27 (dk_at dksX14_bound_0 5 rfl rfl)
theorem dX14_bound_8 : decode cX14_bound 8 = .ok (.aload_n 0, 1) := dk_42 (dk_at dksX14_bound_0 8 rfl rfl)
theorem dX14_bound_9 : decode cX14_bound 9 = .ok (.getfield 17, 3) := dk_180 0 17 (dk_at dksX14_bound_0 9 rfl rfl)
theorem dX14_bound_12 : decode cX14_bound 12 = .ok (.invokevirtual 51, 3) := dk_182 0 51 (dk_at dksX14_bound_0 12 rfl rfl)
theorem dX14_bound_15 : decode cX14_bound 15 = .ok (.istore_n 2, 1) := dk_61 (dk_at dksX14_bound_0 15 rfl rfl)
theorem dX14_bound_16 : decode cX14_bound 16 = .ok (.aload_n 0, 1) := dk_42 (dk_at dksX14_bound_0 16 rfl rfl)
theorem dX14_bound_17 : decode cX14_bound 17 = .ok (.getfield 1, 3) := dk_180 0 1 (dk_at dksX14_bound_0 17 rfl rfl)
theorem dX14_bound_20 : decode cX14_bound 20 = .ok (.getfield 55, 3) := dk_180 0 55 (dk_at dksX14_bound_0 20 rfl rfl)
theorem dX14_bound_23 : decode cX14_bound 23 = .ok (.iload_n 2, 1) := dk_28 (dk_at dksX14_bound_0 23 rfl rfl)
theorem dX14_bound_24 : decode cX14_bound 24 = .ok (.iconst 0, 1) := dk_3 (dk_at dksX14_bound_1 0 rfl rfl)
theorem dX14_bound_25 : decode cX14_bound 25 = .ok (.iconst 0, 1) := dk_3 (dk_at dksX14_bound_1 1 rfl rfl)
theorem dX14_bound_26 : decode cX14_bound 26 = .ok (.invokeinterface 61 4, 5) := by decide +kernel
theorem dX14_bound_31 : decode cX14_bound 31 = .ok (.ireturn, 1) := dk_172 (dk_at dksX14_bound_1 7 rfl rfl)
def dkwX15_init_7 : List UInt8 := [180, 0, 60, 79, 132, 4, 1, 167, 255, 223, 177]
abbrev dktX15_init_7 : List UInt8 := dkwX15_init_7 ++ []
def dkwX15_init_6 : List UInt8 := [180, 0, 15, 162, 0, 30, 42, 180, 0, 29, 21, 4, 43, 21, 4, 185, 0, 36, 2, 0, 192, 0, 40]
abbrev dktX15_init_6 : List UInt8 := dkwX15_init_6 ++ dktX15_init_7
def dkwX15_init_5 : List UInt8 := [163, 0, 8, 21, 6, 167, 0, 4, 2, 79, 132, 4, 1, 167, 255, 177, 3, 54, 4, 21, 4, 42]
abbrev dktX15_init_5 : List UInt8 := dkwX15_init_5 ++ dktX15_init_6
def dkwX15_init_4 : List UInt8 := [182, 0, 46, 180, 0, 50, 184, 0, 53, 54, 6, 42, 180, 0, 33, 21, 4, 21, 6, 25, 5, 180, 0, 57]
abbrev dktX15_init_4 : List UInt8 := dkwX15_init_4 ++ dktX15_init_5
def dkwX15_init_3 : List UInt8 := [185, 0, 36, 2, 0, 192, 0, 40, 58, 5, 45, 25, 5, 180, 0, 42, 44, 21, 4, 42, 180, 0, 26, 112]
abbrev dktX15_init_3 : List UInt8 := dkwX15_init_3 ++ dktX15_init_4
def dkwX15_init_2 : List UInt8 := [54, 4, 21, 4, 42, 180, 0, 33, 190, 162, 0, 75, 43, 21, 4, 42, 180, 0, 26, 108]
abbrev dktX15_init_2 : List UInt8 := dkwX15_init_2 ++ dktX15_init_3
def dkwX15_init_1 : List UInt8 := [180, 0, 15, 188, 10, 181, 0, 29, 42, 42, 180, 0, 15, 42, 180, 0, 26, 104, 188, 10, 181, 0, 33, 3]
abbrev dktX15_init_1 : List UInt8 := dkwX15_init_1 ++ dktX15_init_2
def dkwX15_init_0 : List UInt8 := [42, 183, 0, 3, 42, 43, 185, 0, 9, 1, 0, 181, 0, 15, 42, 44, 182, 0, 21, 181, 0, 26, 42, 42]
abbrev dktX15_init_0 : List UInt8 := dkwX15_init_0 ++ dktX15_init_1
theorem dksX15_init_0 : cX15_init.data.toList.drop 0 = dktX15_init_0 := by decide +kernel
theorem dksX15_init_1 : cX15_init.data.toList.drop 24 = dktX15_init_1 := dk_seg dksX15_init_0 24 rfl rfl
theorem dksX15_init_2 : cX15_init.data.toList.drop 48 = dktX15_init_2 := dk_seg dksX15_init_1 24 rfl rfl
theorem dksX15_init_3 : cX15_init.data.toList.drop 68 = dktX15_init_3 := dk_seg dksX15_init_2 20 rfl rfl
theorem dksX15_init_4 : cX15_init.data.toList.drop 92 = dktX15_init_4 := dk_seg dksX15_init_3 24 rfl rfl
theorem dksX15_init_5 : cX15_init.data.toList.drop 116 = dktX15_init_5 := dk_seg dksX15_init_4 24 rfl rfl
theorem dksX15_init_6 : cX15_init.data.toList.drop 138 = dktX15_init_6 := dk_seg dksX15_init_5 22 rfl rfl
theorem dksX15_init_7 : cX15_init.data.toList.drop 161 = dktX15_init_7 := dk_seg dksX15_init_6 23 rfl rfl
theorem dX15_init_0 : decode cX15_init 0 = .ok (.aload_n 0, 1) := dk_42 (dk_at dksX15_init_0 0 rfl rfl)
theorem dX15_init_1 : decode cX15_init 1 = .ok (.invokespecial 3, 3) := dk_183 0 3 (dk_at dksX15_init_0 1 rfl rfl)
theorem dX15_init_4 : decode cX15_init 4 = .ok (.aload_n 0, 1) := dk_42 (dk_at dksX15_init_0 4 rfl rfl)
theorem dX15_init_5 : decode cX15_init 5 = .ok (.aload_n 1, 1) := dk_43 (dk_at dksX15_init_0 5 rfl rfl)
theorem dX15_init_6 : decode cX15_init 6 = .ok (.invokeinterface 9 1, 5) := by decide +kernel
theorem dX15_init_11 : decode cX15_init 11 = .ok (.putfield 15, 3) := dk_181 0 15 (dk_at dksX15_init_0 11 rfl rfl)
theorem dX15_init_14 : decode cX15_init 14 = .ok (.aload_n 0, 1) := dk_42 (dk_at dksX15_init_0 14 rfl rfl)
theorem dX15_init_15 : decode cX15_init 15 = .ok (.aload_n 2, 1) := dk_44 (dk_at dksX15_init_0 15 rfl rfl)
theorem dX15_init_16 : decode cX15_init 16 = .ok (.invokevirtual 21, 3) := dk_182 0 21 (dk_at dksX15_init_0 16 rfl rfl)
theorem dX15_init_19 : decode cX15_init 19 = .ok (.putfield 26, 3) := dk_181 0 26 (dk_at dksX15_init_0 19 rfl rfl)
theorem dX15_init_22 : decode cX15_init 22 = .ok (.aload_n 0, 1) := dk_42 (dk_at dksX15_init_0 22 rfl rfl)
theorem dX15_init_23 : decode cX15_init 23 = .ok (.aload_n 0, 1) := dk_42 (dk_at dksX15_init_0 23 rfl rfl)
theorem dX15_init_24 : decode cX15_init 24 = .ok (.getfield 15, 3) := dk_180 0 15 (dk_at dksX15_init_1 0 rfl rfl)
theorem dX15_init_27 : decode cX15_init 27 = .ok (.newarray .int, 2) := dk_188_10 (dk_at dksX15_init_1 3 rfl rfl)
theorem dX15_init_29 : decode cX15_init 29 = .ok (.putfield 29, 3) := dk_181 0 29 (dk_at dksX15_init_1 5 rfl rfl)
theorem dX15_init_32 : decode cX15_init 32 = .ok (.aload_n 0, 1) := dk_42 (dk_at dksX15_init_1 8 rfl rfl)
theorem dX15_init_33 : decode cX15_init 33 = .ok (.aload_n 0, 1) := dk_42 (dk_at dksX15_init_1 9 rfl rfl)
theorem dX15_init_34 : decode cX15_init 34 = .ok (.getfield 15, 3) := dk_180 0 15 (dk_at dksX15_init_1 10 rfl rfl)
theorem dX15_init_37 : decode cX15_init 37 = .ok (.aload_n 0, 1) := dk_42 (dk_at dksX15_init_1 13 rfl rfl)
theorem dX15_init_38 : decode cX15_init 38 = .ok (.getfield 26, 3) := dk_180 0 26 (dk_at dksX15_init_1 14 rfl rfl)
theorem dX15_init_41 : decode cX15_init 41 = .ok (.imul, 1) := dk_104 (dk_at dksX15_init_1 17 rfl rfl)
theorem dX15_init_42 : decode cX15_init 42 = .ok (.newarray .int, 2) := dk_188_10 (dk_at dksX15_init_1 18 rfl rfl)
theorem dX15_init_44 : decode cX15_init 44 = .ok (.putfield 33, 3) := dk_181 0 33 (dk_at dksX15_init_1 20 rfl rfl)
theorem dX15_init_47 : decode cX15_init 47 = .ok (.iconst 0, 1) := dk_3 (dk_at dksX15_init_1 23 rfl rfl)
theorem dX15_init_48 : decode cX15_init 48 = .ok (.istore 4, 2) := dk_54 4 (dk_at dksX15_init_2 0 rfl rfl)
theorem dX15_init_50 : decode cX15_init 50 = .ok (.iload 4, 2) := dk_21 4 (dk_at dksX15_init_2 2 rfl rfl)
theorem dX15_init_52 : decode cX15_init 52 = .ok (.aload_n 0, 1) := dk_42 (dk_at dksX15_init_2 4 rfl rfl)
theorem dX15_init_53 : decode cX15_init 53 = .ok (.getfield 33, 3) := dk_180 0 33 (dk_at dksX15_init_2 5 rfl rfl)
theorem dX15_init_56 : decode cX15_init 56 = .ok (.arraylength, 1) := dk_190 (dk_at dksX15_init_2 8 rfl rfl)
theorem dX15_init_57 : decode cX15_init 57 = .ok (.if_icmp .ge 75, 3) := dk_162 0 75 (dk_at dksX15_init_2 9 rfl rfl)
theorem dX15_init_60 : decode cX15_init 60 = .ok (.aload_n 1, 1) := dk_43 (dk_at dksX15_init_2 12 rfl rfl)
theorem dX15_init_61 : decode cX15_init 61 = .ok (.iload 4, 2) := dk_21 4 (dk_at dksX15_init_2 13 rfl rfl)
theorem dX15_init_63 : decode cX15_init 63 = .ok (.aload_n 0, 1) := dk_42 (dk_at dksX15_init_2 15 rfl rfl)
theorem dX15_init_64 : decode cX15_init 64 = .ok (.getfield 26, 3) := dk_180 0 26 (dk_at dksX15_init_2 16 rfl rfl)
theorem dX15_init_67 : decode cX15_init 67 = .ok (.idiv, 1) := dk_108 (dk_at dksX15_init_2 19 rfl rfl)
theorem dX15_init_68 : decode cX15_init 68 = .ok (.invokeinterface 36 2, 5) := by decide +kernel
theorem dX15_init_73 : decode cX15_init 73 = .ok (.checkcast 40, 3) := dk_192 0 40 (dk_at dksX15_init_3 5 rfl rfl)
theorem dX15_init_76 : decode cX15_init 76 = .ok (.astore 5, 2) := dk_58 5 (dk_at dksX15_init_3 8 rfl rfl)
theorem dX15_init_78 : decode cX15_init 78 = .ok (.aload_n 3, 1) := dk_45 (dk_at dksX15_init_3 10 rfl rfl)
theorem dX15_init_79 : decode cX15_init 79 = .ok (.aload 5, 2) := dk_25 5 (dk_at dksX15_init_3 11 rfl rfl)
theorem dX15_init_81 : decode cX15_init 81 = .ok (.getfield 42, 3) := dk_180 0 42 (dk_at dksX15_init_3 13 rfl rfl)
theorem dX15_init_84 : decode cX15_init 84 = .ok (.aload_n 2, 1) := dk_44 (dk_at dksX15_init_3 16 rfl rfl)
theorem dX15_init_85 : decode cX15_init 85 = .ok (.iload 4, 2) := dk_21 4 (dk_at dksX15_init_3 17 rfl rfl)
theorem dX15_init_87 : decode cX15_init 87 = .ok (.aload_n 0, 1) := dk_42 (dk_at dksX15_init_3 19 rfl rfl)
theorem dX15_init_88 : decode cX15_init 88 = .ok (.getfield 26, 3) := dk_180 0 26 (dk_at dksX15_init_3 20 rfl rfl)
theorem dX15_init_91 : decode cX15_init 91 = .ok (.irem, 1) := dk_112 (dk_at dksX15_init_3 23 rfl rfl)
theorem dX15_init_92 : decode cX15_init 92 = .ok (.invokevirtual 46, 3) := dk_182 0 46 (dk_at dksX15_init_4 0 rfl rfl)
theorem dX15_init_95 : decode cX15_init 95 = .ok (.getfield 50, 3) := dk_180 0 50 (dk_at dksX15_init_4 3 rfl rfl)
theorem dX15_init_98 : decode cX15_init 98 = .ok (.invokestatic 53, 3) := dk_184 0 53 (dk_at dksX15_init_4 6 rfl rfl)
theorem dX15_init_101 : decode cX15_init 101 = .ok (.istore 6, 2) := dk_54 6 (dk_at dksX15_init_4 9 rfl rfl)
theorem dX15_init_103 : decode cX15_init 103 = .ok (.aload_n 0, 1) := dk_42 (dk_at dksX15_init_4 11 rfl rfl)
theorem dX15_init_104 : decode cX15_init 104 = .ok (.getfield 33, 3) := dk_180 0 33 (dk_at dksX15_init_4 12 rfl rfl)
theorem dX15_init_107 : decode cX15_init 107 = .ok (.iload 4, 2) := dk_21 4 (dk_at dksX15_init_4 15 rfl rfl)
theorem dX15_init_109 : decode cX15_init 109 = .ok (.iload 6, 2) := dk_21 6 (dk_at dksX15_init_4 17 rfl rfl)
theorem dX15_init_111 : decode cX15_init 111 = .ok (.aload 5, 2) := dk_25 5 (dk_at dksX15_init_4 19 rfl rfl)
theorem dX15_init_113 : decode cX15_init 113 = .ok (.getfield 57, 3) := dk_180 0 57 (dk_at dksX15_init_4 21 rfl rfl)
theorem dX15_init_116 : decode cX15_init 116 = .ok (.if_icmp .gt 8, 3) := dk_163 0 8 (dk_at dksX15_init_5 0 rfl rfl)
theorem dX15_init_119 : decode cX15_init 119 = .ok (.iload 6, 2) := dk_21 6 (dk_at dksX15_init_5 3 rfl rfl)
theorem dX15_init_121 : decode cX15_init 121 = .ok (.goto 4, 3) := dk_167 0 4 (dk_at dksX15_init_5 5 rfl rfl)
theorem dX15_init_124 : decode cX15_init 124 = .ok (.iconst (-1), 1) := dk_2 (dk_at dksX15_init_5 8 rfl rfl)
theorem dX15_init_125 : decode cX15_init 125 = .ok (.iastore, 1) := dk_79 (dk_at dksX15_init_5 9 rfl rfl)
theorem dX15_init_126 : decode cX15_init 126 = .ok (.iinc 4 1, 3) := dk_132 4 1 (dk_at dksX15_init_5 10 rfl rfl)
theorem dX15_init_129 : decode cX15_init 129 = .ok (.goto (-79), 3) := dk_167 255 177 (dk_at dksX15_init_5 13 rfl rfl)
theorem dX15_init_132 : decode cX15_init 132 = .ok (.iconst 0, 1) := dk_3 (dk_at dksX15_init_5 16 rfl rfl)
theorem dX15_init_133 : decode cX15_init 133 = .ok (.istore 4, 2) := dk_54 4 (dk_at dksX15_init_5 17 rfl rfl)
theorem dX15_init_135 : decode cX15_init 135 = .ok (.iload 4, 2) := dk_21 4 (dk_at dksX15_init_5 19 rfl rfl)
theorem dX15_init_137 : decode cX15_init 137 = .ok (.aload_n 0, 1) := dk_42 (dk_at dksX15_init_5 21 rfl rfl)
theorem dX15_init_138 : decode cX15_init 138 = .ok (.getfield 15, 3) := dk_180 0 15 (dk_at dksX15_init_6 0 rfl rfl)
theorem dX15_init_141 : decode cX15_init 141 = .ok (.if_icmp .ge 30, 3) := dk_162 0 30 (dk_at dksX15_init_6 3 rfl rfl)
theorem dX15_init_144 : decode cX15_init 144 = .ok (.aload_n 0, 1) := dk_42 (dk_at dksX15_init_6 6 rfl rfl)
theorem dX15_init_145 : decode cX15_init 145 = .ok (.getfield 29, 3) := dk_180 0 29 (dk_at dksX15_init_6 7 rfl rfl)
theorem dX15_init_148 : decode cX15_init 148 = .ok (.iload 4, 2) := dk_21 4 (dk_at dksX15_init_6 10 rfl rfl)
theorem dX15_init_150 : decode cX15_init 150 = .ok (.aload_n 1, 1) := dk_43 (dk_at dksX15_init_6 12 rfl rfl)
theorem dX15_init_151 : decode cX15_init 151 = .ok (.iload 4, 2) := dk_21 4 (dk_at dksX15_init_6 13 rfl rfl)
theorem dX15_init_153 : decode cX15_init 153 = .ok (.invokeinterface 36 2, 5) := by decide +kernel
theorem dX15_init_158 : decode cX15_init 158 = .ok (.checkcast 40, 3) := dk_192 0 40 (dk_at dksX15_init_6 20 rfl rfl)
theorem dX15_init_161 : decode cX15_init 161 = .ok (.getfield 60, 3) := dk_180 0 60 (dk_at dksX15_init_7 0 rfl rfl)
theorem dX15_init_164 : decode cX15_init 164 = .ok (.iastore, 1) := dk_79 (dk_at dksX15_init_7 3 rfl rfl)
theorem dX15_init_165 : decode cX15_init 165 = .ok (.iinc 4 1, 3) := dk_132 4 1 (dk_at dksX15_init_7 4 rfl rfl)
theorem dX15_init_168 : decode cX15_init 168 = .ok (.goto (-33), 3) := dk_167 255 223 (dk_at dksX15_init_7 7 rfl rfl)
theorem dX15_init_171 : decode cX15_init 171 = .ok (.return_, 1) := dk_177 (dk_at dksX15_init_7 10 rfl rfl)
def dkwX15_colours_7 : List UInt8 := [21, 5, 46, 120, 128, 61, 132, 5, 1, 167, 255, 100, 43, 176]
abbrev dktX15_colours_7 : List UInt8 := dkwX15_colours_7 ++ []
def dkwX15_colours_6 : List UInt8 := [21, 5, 46, 2, 159, 0, 25, 33, 42, 21, 5, 43, 21, 5, 46, 182, 0, 79, 101, 66, 28, 4, 43]
abbrev dktX15_colours_6 : List UInt8 := dkwX15_colours_6 ++ dktX15_colours_7
def dkwX15_colours_5 : List UInt8 := [21, 5, 21, 9, 153, 0, 8, 21, 7, 167, 0, 7, 43, 21, 5, 46, 79, 132, 7, 255, 167, 255, 168, 43]
abbrev dktX15_colours_5 : List UInt8 := dkwX15_colours_5 ++ dktX15_colours_6
def dkwX15_colours_4 : List UInt8 := [25, 6, 28, 4, 21, 7, 120, 128, 47, 97, 33, 148, 154, 0, 7, 4, 167, 0, 4, 3, 54, 9, 43]
abbrev dktX15_colours_4 : List UInt8 := dkwX15_colours_4 ++ dktX15_colours_5
def dkwX15_colours_3 : List UInt8 := [153, 0, 7, 4, 167, 0, 4, 3, 54, 8, 21, 8, 153, 0, 30, 42, 21, 5, 21, 7, 182, 0, 79]
abbrev dktX15_colours_3 : List UInt8 := dkwX15_colours_3 ++ dktX15_colours_4
def dkwX15_colours_2 : List UInt8 := [54, 7, 21, 7, 155, 0, 89, 28, 21, 7, 122, 4, 126, 154, 0, 18, 42, 21, 5, 21, 7, 182, 0, 75]
abbrev dktX15_colours_2 : List UInt8 := dkwX15_colours_2 ++ dktX15_colours_3
def dkwX15_colours_1 : List UInt8 := [162, 0, 153, 42, 21, 5, 4, 96, 182, 0, 83, 58, 6, 43, 21, 5, 2, 79, 42, 180, 0, 26, 4, 100]
abbrev dktX15_colours_1 : List UInt8 := dkwX15_colours_1 ++ dktX15_colours_2
def dkwX15_colours_0 : List UInt8 := [42, 180, 0, 15, 188, 10, 76, 3, 61, 42, 182, 0, 94, 66, 3, 54, 5, 21, 5, 42, 180, 0, 15]
abbrev dktX15_colours_0 : List UInt8 := dkwX15_colours_0 ++ dktX15_colours_1
theorem dksX15_colours_0 : cX15_colours.data.toList.drop 0 = dktX15_colours_0 := by decide +kernel
theorem dksX15_colours_1 : cX15_colours.data.toList.drop 23 = dktX15_colours_1 := dk_seg dksX15_colours_0 23 rfl rfl
theorem dksX15_colours_2 : cX15_colours.data.toList.drop 47 = dktX15_colours_2 := dk_seg dksX15_colours_1 24 rfl rfl
theorem dksX15_colours_3 : cX15_colours.data.toList.drop 71 = dktX15_colours_3 := dk_seg dksX15_colours_2 24 rfl rfl
theorem dksX15_colours_4 : cX15_colours.data.toList.drop 94 = dktX15_colours_4 := dk_seg dksX15_colours_3 23 rfl rfl
theorem dksX15_colours_5 : cX15_colours.data.toList.drop 117 = dktX15_colours_5 := dk_seg dksX15_colours_4 23 rfl rfl
theorem dksX15_colours_6 : cX15_colours.data.toList.drop 141 = dktX15_colours_6 := dk_seg dksX15_colours_5 24 rfl rfl
theorem dksX15_colours_7 : cX15_colours.data.toList.drop 164 = dktX15_colours_7 := dk_seg dksX15_colours_6 23 rfl rfl
theorem dX15_colours_0 : decode cX15_colours 0 = .ok (.aload_n 0, 1) := dk_42 (dk_at dksX15_colours_0 0 rfl rfl)
theorem dX15_colours_1 : decode cX15_colours 1 = .ok (.getfield 15, 3) := dk_180 0 15 (dk_at dksX15_colours_0 1 rfl rfl)
theorem dX15_colours_4 : decode cX15_colours 4 = .ok (.newarray .int, 2) := dk_188_10 (dk_at dksX15_colours_0 4 rfl rfl)
theorem dX15_colours_6 : decode cX15_colours 6 = .ok (.astore_n 1, 1) := dk_76 (dk_at dksX15_colours_0 6 rfl rfl)
theorem dX15_colours_7 : decode cX15_colours 7 = .ok (.iconst 0, 1) := dk_3 (dk_at dksX15_colours_0 7 rfl rfl)
theorem dX15_colours_8 : decode cX15_colours 8 = .ok (.istore_n 2, 1) := dk_61 (dk_at dksX15_colours_0 8 rfl rfl)
theorem dX15_colours_9 : decode cX15_colours 9 = .ok (.aload_n 0, 1) := dk_42 (dk_at dksX15_colours_0 9 rfl rfl)
theorem dX15_colours_10 : decode cX15_colours 10 = .ok (.invokevirtual 94, 3) := dk_182 0 94 (dk_at dksX15_colours_0 10 rfl rfl)
theorem dX15_colours_13 : decode cX15_colours 13 = .ok (.lstore_n 3, 1) := dk_66 (dk_at dksX15_colours_0 13 rfl rfl)
theorem dX15_colours_14 : decode cX15_colours 14 = .ok (.iconst 0, 1) := dk_3 (dk_at dksX15_colours_0 14 rfl rfl)
theorem dX15_colours_15 : decode cX15_colours 15 = .ok (.istore 5, 2) := dk_54 5 (dk_at dksX15_colours_0 15 rfl rfl)
theorem dX15_colours_17 : decode cX15_colours 17 = .ok (.iload 5, 2) := dk_21 5 (dk_at dksX15_colours_0 17 rfl rfl)
theorem dX15_colours_19 : decode cX15_colours 19 = .ok (.aload_n 0, 1) := dk_42 (dk_at dksX15_colours_0 19 rfl rfl)
theorem dX15_colours_20 : decode cX15_colours 20 = .ok (.getfield 15, 3) := dk_180 0 15 (dk_at dksX15_colours_0 20 rfl rfl)
theorem dX15_colours_23 : decode cX15_colours 23 = .ok (.if_icmp .ge 153, 3) := dk_162 0 153 (dk_at dksX15_colours_1 0 rfl rfl)
theorem dX15_colours_26 : decode cX15_colours 26 = .ok (.aload_n 0, 1) := dk_42 (dk_at dksX15_colours_1 3 rfl rfl)
theorem dX15_colours_27 : decode cX15_colours 27 = .ok (.iload 5, 2) := dk_21 5 (dk_at dksX15_colours_1 4 rfl rfl)
theorem dX15_colours_29 : decode cX15_colours 29 = .ok (.iconst 1, 1) := dk_4 (dk_at dksX15_colours_1 6 rfl rfl)
theorem dX15_colours_30 : decode cX15_colours 30 = .ok (.iadd, 1) := dk_96 (dk_at dksX15_colours_1 7 rfl rfl)
theorem dX15_colours_31 : decode cX15_colours 31 = .ok (.invokevirtual 83, 3) := dk_182 0 83 (dk_at dksX15_colours_1 8 rfl rfl)
theorem dX15_colours_34 : decode cX15_colours 34 = .ok (.astore 6, 2) := dk_58 6 (dk_at dksX15_colours_1 11 rfl rfl)
theorem dX15_colours_36 : decode cX15_colours 36 = .ok (.aload_n 1, 1) := dk_43 (dk_at dksX15_colours_1 13 rfl rfl)
theorem dX15_colours_37 : decode cX15_colours 37 = .ok (.iload 5, 2) := dk_21 5 (dk_at dksX15_colours_1 14 rfl rfl)
theorem dX15_colours_39 : decode cX15_colours 39 = .ok (.iconst (-1), 1) := dk_2 (dk_at dksX15_colours_1 16 rfl rfl)
theorem dX15_colours_40 : decode cX15_colours 40 = .ok (.iastore, 1) := dk_79 (dk_at dksX15_colours_1 17 rfl rfl)
theorem dX15_colours_41 : decode cX15_colours 41 = .ok (.aload_n 0, 1) := dk_42 (dk_at dksX15_colours_1 18 rfl rfl)
theorem dX15_colours_42 : decode cX15_colours 42 = .ok (.getfield 26, 3) := dk_180 0 26 (dk_at dksX15_colours_1 19 rfl rfl)
theorem dX15_colours_45 : decode cX15_colours 45 = .ok (.iconst 1, 1) := dk_4 (dk_at dksX15_colours_1 22 rfl rfl)
theorem dX15_colours_46 : decode cX15_colours 46 = .ok (.isub, 1) := dk_100 (dk_at dksX15_colours_1 23 rfl rfl)
theorem dX15_colours_47 : decode cX15_colours 47 = .ok (.istore 7, 2) := dk_54 7 (dk_at dksX15_colours_2 0 rfl rfl)
theorem dX15_colours_49 : decode cX15_colours 49 = .ok (.iload 7, 2) := dk_21 7 (dk_at dksX15_colours_2 2 rfl rfl)
theorem dX15_colours_51 : decode cX15_colours 51 = .ok (.ifCond .lt 89, 3) := dk_155 0 89 (dk_at dksX15_colours_2 4 rfl rfl)
theorem dX15_colours_54 : decode cX15_colours 54 = .ok (.iload_n 2, 1) := dk_28 (dk_at dksX15_colours_2 7 rfl rfl)
theorem dX15_colours_55 : decode cX15_colours 55 = .ok (.iload 7, 2) := dk_21 7 (dk_at dksX15_colours_2 8 rfl rfl)
theorem dX15_colours_57 : decode cX15_colours 57 = .ok (.ishr, 1) := dk_122 (dk_at dksX15_colours_2 10 rfl rfl)
theorem dX15_colours_58 : decode cX15_colours 58 = .ok (.iconst 1, 1) := dk_4 (dk_at dksX15_colours_2 11 rfl rfl)
theorem dX15_colours_59 : decode cX15_colours 59 = .ok (.iand, 1) := dk_126 (dk_at dksX15_colours_2 12 rfl rfl)
theorem dX15_colours_60 : decode cX15_colours 60 = .ok (.ifCond .ne 18, 3) := dk_154 0 18 (dk_at dksX15_colours_2 13 rfl rfl)
theorem dX15_colours_63 : decode cX15_colours 63 = .ok (.aload_n 0, 1) := dk_42 (dk_at dksX15_colours_2 16 rfl rfl)
theorem dX15_colours_64 : decode cX15_colours 64 = .ok (.iload 5, 2) := dk_21 5 (dk_at dksX15_colours_2 17 rfl rfl)
theorem dX15_colours_66 : decode cX15_colours 66 = .ok (.iload 7, 2) := dk_21 7 (dk_at dksX15_colours_2 19 rfl rfl)
theorem dX15_colours_68 : decode cX15_colours 68 = .ok (.invokevirtual 75, 3) := dk_182 0 75 (dk_at dksX15_colours_2 21 rfl rfl)
theorem dX15_colours_71 : decode cX15_colours 71 = .ok (.ifCond .eq 7, 3) := dk_153 0 7 (dk_at dksX15_colours_3 0 rfl rfl)
theorem dX15_colours_74 : decode cX15_colours 74 = .ok (.iconst 1, 1) := dk_4 (dk_at dksX15_colours_3 3 rfl rfl)
theorem dX15_colours_75 : decode cX15_colours 75 = .ok (.goto 4, 3) := dk_167 0 4 (dk_at dksX15_colours_3 4 rfl rfl)
theorem dX15_colours_78 : decode cX15_colours 78 = .ok (.iconst 0, 1) := dk_3 (dk_at dksX15_colours_3 7 rfl rfl)
theorem dX15_colours_79 : decode cX15_colours 79 = .ok (.istore 8, 2) := dk_54 8 (dk_at dksX15_colours_3 8 rfl rfl)
theorem dX15_colours_81 : decode cX15_colours 81 = .ok (.iload 8, 2) := dk_21 8 (dk_at dksX15_colours_3 10 rfl rfl)
theorem dX15_colours_83 : decode cX15_colours 83 = .ok (.ifCond .eq 30, 3) := dk_153 0 30 (dk_at dksX15_colours_3 12 rfl rfl)
theorem dX15_colours_86 : decode cX15_colours 86 = .ok (.aload_n 0, 1) := dk_42 (dk_at dksX15_colours_3 15 rfl rfl)
theorem dX15_colours_87 : decode cX15_colours 87 = .ok (.iload 5, 2) := dk_21 5 (dk_at dksX15_colours_3 16 rfl rfl)
theorem dX15_colours_89 : decode cX15_colours 89 = .ok (.iload 7, 2) := dk_21 7 (dk_at dksX15_colours_3 18 rfl rfl)
theorem dX15_colours_91 : decode cX15_colours 91 = .ok (.invokevirtual 79, 3) := dk_182 0 79 (dk_at dksX15_colours_3 20 rfl rfl)
theorem dX15_colours_94 : decode cX15_colours 94 = .ok (.aload 6, 2) := dk_25 6 (dk_at dksX15_colours_4 0 rfl rfl)
theorem dX15_colours_96 : decode cX15_colours 96 = .ok (.iload_n 2, 1) := dk_28 (dk_at dksX15_colours_4 2 rfl rfl)
theorem dX15_colours_97 : decode cX15_colours 97 = .ok (.iconst 1, 1) := dk_4 (dk_at dksX15_colours_4 3 rfl rfl)
theorem dX15_colours_98 : decode cX15_colours 98 = .ok (.iload 7, 2) := dk_21 7 (dk_at dksX15_colours_4 4 rfl rfl)
theorem dX15_colours_100 : decode cX15_colours 100 = .ok (.ishl, 1) := dk_120 (dk_at dksX15_colours_4 6 rfl rfl)
theorem dX15_colours_101 : decode cX15_colours 101 = .ok (.ior, 1) := dk_128 (dk_at dksX15_colours_4 7 rfl rfl)
theorem dX15_colours_102 : decode cX15_colours 102 = .ok (.laload, 1) := dk_47 (dk_at dksX15_colours_4 8 rfl rfl)
theorem dX15_colours_103 : decode cX15_colours 103 = .ok (.ladd, 1) := dk_97 (dk_at dksX15_colours_4 9 rfl rfl)
theorem dX15_colours_104 : decode cX15_colours 104 = .ok (.lload_n 3, 1) := dk_33 (dk_at dksX15_colours_4 10 rfl rfl)
theorem dX15_colours_105 : decode cX15_colours 105 = .ok (.lcmp, 1) := dk_148 (dk_at dksX15_colours_4 11 rfl rfl)
theorem dX15_colours_106 : decode cX15_colours 106 = .ok (.ifCond .ne 7, 3) := dk_154 0 7 (dk_at dksX15_colours_4 12 rfl rfl)
theorem dX15_colours_109 : decode cX15_colours 109 = .ok (.iconst 1, 1) := dk_4 (dk_at dksX15_colours_4 15 rfl rfl)
theorem dX15_colours_110 : decode cX15_colours 110 = .ok (.goto 4, 3) := dk_167 0 4 (dk_at dksX15_colours_4 16 rfl rfl)
theorem dX15_colours_113 : decode cX15_colours 113 = .ok (.iconst 0, 1) := dk_3 (dk_at dksX15_colours_4 19 rfl rfl)
theorem dX15_colours_114 : decode cX15_colours 114 = .ok (.istore 9, 2) := dk_54 9 (dk_at dksX15_colours_4 20 rfl rfl)
theorem dX15_colours_116 : decode cX15_colours 116 = .ok (.aload_n 1, 1) := dk_43 (dk_at dksX15_colours_4 22 rfl rfl)
theorem dX15_colours_117 : decode cX15_colours 117 = .ok (.iload 5, 2) := dk_21 5 (dk_at dksX15_colours_5 0 rfl rfl)
theorem dX15_colours_119 : decode cX15_colours 119 = .ok (.iload 9, 2) := dk_21 9 (dk_at dksX15_colours_5 2 rfl rfl)
theorem dX15_colours_121 : decode cX15_colours 121 = .ok (.ifCond .eq 8, 3) := dk_153 0 8 (dk_at dksX15_colours_5 4 rfl rfl)
theorem dX15_colours_124 : decode cX15_colours 124 = .ok (.iload 7, 2) := dk_21 7 (dk_at dksX15_colours_5 7 rfl rfl)
theorem dX15_colours_126 : decode cX15_colours 126 = .ok (.goto 7, 3) := dk_167 0 7 (dk_at dksX15_colours_5 9 rfl rfl)
theorem dX15_colours_129 : decode cX15_colours 129 = .ok (.aload_n 1, 1) := dk_43 (dk_at dksX15_colours_5 12 rfl rfl)
theorem dX15_colours_130 : decode cX15_colours 130 = .ok (.iload 5, 2) := dk_21 5 (dk_at dksX15_colours_5 13 rfl rfl)
theorem dX15_colours_132 : decode cX15_colours 132 = .ok (.iaload, 1) := dk_46 (dk_at dksX15_colours_5 15 rfl rfl)
theorem dX15_colours_133 : decode cX15_colours 133 = .ok (.iastore, 1) := dk_79 (dk_at dksX15_colours_5 16 rfl rfl)
theorem dX15_colours_134 : decode cX15_colours 134 = .ok (.iinc 7 (-1), 3) := dk_132 7 255 (dk_at dksX15_colours_5 17 rfl rfl)
theorem dX15_colours_137 : decode cX15_colours 137 = .ok (.goto (-88), 3) := dk_167 255 168 (dk_at dksX15_colours_5 20 rfl rfl)
theorem dX15_colours_140 : decode cX15_colours 140 = .ok (.aload_n 1, 1) := dk_43 (dk_at dksX15_colours_5 23 rfl rfl)
theorem dX15_colours_141 : decode cX15_colours 141 = .ok (.iload 5, 2) := dk_21 5 (dk_at dksX15_colours_6 0 rfl rfl)
theorem dX15_colours_143 : decode cX15_colours 143 = .ok (.iaload, 1) := dk_46 (dk_at dksX15_colours_6 2 rfl rfl)
theorem dX15_colours_144 : decode cX15_colours 144 = .ok (.iconst (-1), 1) := dk_2 (dk_at dksX15_colours_6 3 rfl rfl)
theorem dX15_colours_145 : decode cX15_colours 145 = .ok (.if_icmp .eq 25, 3) := dk_159 0 25 (dk_at dksX15_colours_6 4 rfl rfl)
theorem dX15_colours_148 : decode cX15_colours 148 = .ok (.lload_n 3, 1) := dk_33 (dk_at dksX15_colours_6 7 rfl rfl)
theorem dX15_colours_149 : decode cX15_colours 149 = .ok (.aload_n 0, 1) := dk_42 (dk_at dksX15_colours_6 8 rfl rfl)
theorem dX15_colours_150 : decode cX15_colours 150 = .ok (.iload 5, 2) := dk_21 5 (dk_at dksX15_colours_6 9 rfl rfl)
theorem dX15_colours_152 : decode cX15_colours 152 = .ok (.aload_n 1, 1) := dk_43 (dk_at dksX15_colours_6 11 rfl rfl)
theorem dX15_colours_153 : decode cX15_colours 153 = .ok (.iload 5, 2) := dk_21 5 (dk_at dksX15_colours_6 12 rfl rfl)
theorem dX15_colours_155 : decode cX15_colours 155 = .ok (.iaload, 1) := dk_46 (dk_at dksX15_colours_6 14 rfl rfl)
theorem dX15_colours_156 : decode cX15_colours 156 = .ok (.invokevirtual 79, 3) := dk_182 0 79 (dk_at dksX15_colours_6 15 rfl rfl)
theorem dX15_colours_159 : decode cX15_colours 159 = .ok (.lsub, 1) := dk_101 (dk_at dksX15_colours_6 18 rfl rfl)
theorem dX15_colours_160 : decode cX15_colours 160 = .ok (.lstore_n 3, 1) := dk_66 (dk_at dksX15_colours_6 19 rfl rfl)
theorem dX15_colours_161 : decode cX15_colours 161 = .ok (.iload_n 2, 1) := dk_28 (dk_at dksX15_colours_6 20 rfl rfl)
theorem dX15_colours_162 : decode cX15_colours 162 = .ok (.iconst 1, 1) := dk_4 (dk_at dksX15_colours_6 21 rfl rfl)
theorem dX15_colours_163 : decode cX15_colours 163 = .ok (.aload_n 1, 1) := dk_43 (dk_at dksX15_colours_6 22 rfl rfl)
theorem dX15_colours_164 : decode cX15_colours 164 = .ok (.iload 5, 2) := dk_21 5 (dk_at dksX15_colours_7 0 rfl rfl)
theorem dX15_colours_166 : decode cX15_colours 166 = .ok (.iaload, 1) := dk_46 (dk_at dksX15_colours_7 2 rfl rfl)
theorem dX15_colours_167 : decode cX15_colours 167 = .ok (.ishl, 1) := dk_120 (dk_at dksX15_colours_7 3 rfl rfl)
theorem dX15_colours_168 : decode cX15_colours 168 = .ok (.ior, 1) := dk_128 (dk_at dksX15_colours_7 4 rfl rfl)
theorem dX15_colours_169 : decode cX15_colours 169 = .ok (.istore_n 2, 1) := dk_61 (dk_at dksX15_colours_7 5 rfl rfl)
theorem dX15_colours_170 : decode cX15_colours 170 = .ok (.iinc 5 1, 3) := dk_132 5 1 (dk_at dksX15_colours_7 6 rfl rfl)
theorem dX15_colours_173 : decode cX15_colours 173 = .ok (.goto (-156), 3) := dk_167 255 100 (dk_at dksX15_colours_7 9 rfl rfl)
theorem dX15_colours_176 : decode cX15_colours 176 = .ok (.aload_n 1, 1) := dk_43 (dk_at dksX15_colours_7 12 rfl rfl)
theorem dX15_colours_177 : decode cX15_colours 177 = .ok (.areturn, 1) := dk_176 (dk_at dksX15_colours_7 13 rfl rfl)
def dkwX15_best_0 : List UInt8 := [42, 3, 182, 0, 83, 3, 47, 173]
abbrev dktX15_best_0 : List UInt8 := dkwX15_best_0 ++ []
theorem dksX15_best_0 : cX15_best.data.toList.drop 0 = dktX15_best_0 := by decide +kernel
theorem dX15_best_0 : decode cX15_best 0 = .ok (.aload_n 0, 1) := dk_42 (dk_at dksX15_best_0 0 rfl rfl)
theorem dX15_best_1 : decode cX15_best 1 = .ok (.iconst 0, 1) := dk_3 (dk_at dksX15_best_0 1 rfl rfl)
theorem dX15_best_2 : decode cX15_best 2 = .ok (.invokevirtual 83, 3) := dk_182 0 83 (dk_at dksX15_best_0 2 rfl rfl)
theorem dX15_best_5 : decode cX15_best 5 = .ok (.iconst 0, 1) := dk_3 (dk_at dksX15_best_0 5 rfl rfl)
theorem dX15_best_6 : decode cX15_best 6 = .ok (.laload, 1) := dk_47 (dk_at dksX15_best_0 6 rfl rfl)
theorem dX15_best_7 : decode cX15_best 7 = .ok (.lreturn, 1) := dk_173 (dk_at dksX15_best_0 7 rfl rfl)
def dkwX15_worthsFrom_2 : List UInt8 := [184, 0, 69, 80, 132, 4, 1, 167, 255, 227, 132, 3, 255, 167, 255, 213, 44, 176]
abbrev dktX15_worthsFrom_2 : List UInt8 := dkwX15_worthsFrom_2 ++ []
def dkwX15_worthsFrom_1 : List UInt8 := [21, 4, 44, 190, 162, 0, 28, 44, 21, 4, 44, 21, 4, 47, 42, 44, 29, 21, 4, 182, 0, 65]
abbrev dktX15_worthsFrom_1 : List UInt8 := dkwX15_worthsFrom_1 ++ dktX15_worthsFrom_2
def dkwX15_worthsFrom_0 : List UInt8 := [4, 42, 180, 0, 26, 120, 188, 11, 77, 42, 180, 0, 15, 4, 100, 62, 29, 27, 161, 0, 44, 3, 54, 4]
abbrev dktX15_worthsFrom_0 : List UInt8 := dkwX15_worthsFrom_0 ++ dktX15_worthsFrom_1
theorem dksX15_worthsFrom_0 : cX15_worthsFrom.data.toList.drop 0 = dktX15_worthsFrom_0 := by decide +kernel
theorem dksX15_worthsFrom_1 : cX15_worthsFrom.data.toList.drop 24 = dktX15_worthsFrom_1 := dk_seg dksX15_worthsFrom_0 24 rfl rfl
theorem dksX15_worthsFrom_2 : cX15_worthsFrom.data.toList.drop 46 = dktX15_worthsFrom_2 := dk_seg dksX15_worthsFrom_1 22 rfl rfl
theorem dX15_worthsFrom_0 : decode cX15_worthsFrom 0 = .ok (.iconst 1, 1) := dk_4 (dk_at dksX15_worthsFrom_0 0 rfl rfl)
theorem dX15_worthsFrom_1 : decode cX15_worthsFrom 1 = .ok (.aload_n 0, 1) := dk_42 (dk_at dksX15_worthsFrom_0 1 rfl rfl)
theorem dX15_worthsFrom_2 : decode cX15_worthsFrom 2 = .ok (.getfield 26, 3) := dk_180 0 26 (dk_at dksX15_worthsFrom_0 2 rfl rfl)
theorem dX15_worthsFrom_5 : decode cX15_worthsFrom 5 = .ok (.ishl, 1) := dk_120 (dk_at dksX15_worthsFrom_0 5 rfl rfl)
theorem dX15_worthsFrom_6 : decode cX15_worthsFrom 6 = .ok (.newarray .long, 2) := dk_188_11 (dk_at dksX15_worthsFrom_0 6 rfl rfl)
theorem dX15_worthsFrom_8 : decode cX15_worthsFrom 8 = .ok (.astore_n 2, 1) := dk_77 (dk_at dksX15_worthsFrom_0 8 rfl rfl)
theorem dX15_worthsFrom_9 : decode cX15_worthsFrom 9 = .ok (.aload_n 0, 1) := dk_42 (dk_at dksX15_worthsFrom_0 9 rfl rfl)
theorem dX15_worthsFrom_10 : decode cX15_worthsFrom 10 = .ok (.getfield 15, 3) := dk_180 0 15 (dk_at dksX15_worthsFrom_0 10 rfl rfl)
theorem dX15_worthsFrom_13 : decode cX15_worthsFrom 13 = .ok (.iconst 1, 1) := dk_4 (dk_at dksX15_worthsFrom_0 13 rfl rfl)
theorem dX15_worthsFrom_14 : decode cX15_worthsFrom 14 = .ok (.isub, 1) := dk_100 (dk_at dksX15_worthsFrom_0 14 rfl rfl)
theorem dX15_worthsFrom_15 : decode cX15_worthsFrom 15 = .ok (.istore_n 3, 1) := dk_62 (dk_at dksX15_worthsFrom_0 15 rfl rfl)
theorem dX15_worthsFrom_16 : decode cX15_worthsFrom 16 = .ok (.iload_n 3, 1) := dk_29 (dk_at dksX15_worthsFrom_0 16 rfl rfl)
theorem dX15_worthsFrom_17 : decode cX15_worthsFrom 17 = .ok (.iload_n 1, 1) := dk_27 (dk_at dksX15_worthsFrom_0 17 rfl rfl)
theorem dX15_worthsFrom_18 : decode cX15_worthsFrom 18 = .ok (.if_icmp .lt 44, 3) := dk_161 0 44 (dk_at dksX15_worthsFrom_0 18 rfl rfl)
theorem dX15_worthsFrom_21 : decode cX15_worthsFrom 21 = .ok (.iconst 0, 1) := dk_3 (dk_at dksX15_worthsFrom_0 21 rfl rfl)
theorem dX15_worthsFrom_22 : decode cX15_worthsFrom 22 = .ok (.istore 4, 2) := dk_54 4 (dk_at dksX15_worthsFrom_0 22 rfl rfl)
theorem dX15_worthsFrom_24 : decode cX15_worthsFrom 24 = .ok (.iload 4, 2) := dk_21 4 (dk_at dksX15_worthsFrom_1 0 rfl rfl)
theorem dX15_worthsFrom_26 : decode cX15_worthsFrom 26 = .ok (.aload_n 2, 1) := dk_44 (dk_at dksX15_worthsFrom_1 2 rfl rfl)
theorem dX15_worthsFrom_27 : decode cX15_worthsFrom 27 = .ok (.arraylength, 1) := dk_190 (dk_at dksX15_worthsFrom_1 3 rfl rfl)
theorem dX15_worthsFrom_28 : decode cX15_worthsFrom 28 = .ok (.if_icmp .ge 28, 3) := dk_162 0 28 (dk_at dksX15_worthsFrom_1 4 rfl rfl)
theorem dX15_worthsFrom_31 : decode cX15_worthsFrom 31 = .ok (.aload_n 2, 1) := dk_44 (dk_at dksX15_worthsFrom_1 7 rfl rfl)
theorem dX15_worthsFrom_32 : decode cX15_worthsFrom 32 = .ok (.iload 4, 2) := dk_21 4 (dk_at dksX15_worthsFrom_1 8 rfl rfl)
theorem dX15_worthsFrom_34 : decode cX15_worthsFrom 34 = .ok (.aload_n 2, 1) := dk_44 (dk_at dksX15_worthsFrom_1 10 rfl rfl)
theorem dX15_worthsFrom_35 : decode cX15_worthsFrom 35 = .ok (.iload 4, 2) := dk_21 4 (dk_at dksX15_worthsFrom_1 11 rfl rfl)
theorem dX15_worthsFrom_37 : decode cX15_worthsFrom 37 = .ok (.laload, 1) := dk_47 (dk_at dksX15_worthsFrom_1 13 rfl rfl)
theorem dX15_worthsFrom_38 : decode cX15_worthsFrom 38 = .ok (.aload_n 0, 1) := dk_42 (dk_at dksX15_worthsFrom_1 14 rfl rfl)
theorem dX15_worthsFrom_39 : decode cX15_worthsFrom 39 = .ok (.aload_n 2, 1) := dk_44 (dk_at dksX15_worthsFrom_1 15 rfl rfl)
theorem dX15_worthsFrom_40 : decode cX15_worthsFrom 40 = .ok (.iload_n 3, 1) := dk_29 (dk_at dksX15_worthsFrom_1 16 rfl rfl)
theorem dX15_worthsFrom_41 : decode cX15_worthsFrom 41 = .ok (.iload 4, 2) := dk_21 4 (dk_at dksX15_worthsFrom_1 17 rfl rfl)
theorem dX15_worthsFrom_43 : decode cX15_worthsFrom 43 = .ok (.invokevirtual 65, 3) := dk_182 0 65 (dk_at dksX15_worthsFrom_1 19 rfl rfl)
theorem dX15_worthsFrom_46 : decode cX15_worthsFrom 46 = .ok (.invokestatic 69, 3) := dk_184 0 69 (dk_at dksX15_worthsFrom_2 0 rfl rfl)
theorem dX15_worthsFrom_49 : decode cX15_worthsFrom 49 = .ok (.lastore, 1) := dk_80 (dk_at dksX15_worthsFrom_2 3 rfl rfl)
theorem dX15_worthsFrom_50 : decode cX15_worthsFrom 50 = .ok (.iinc 4 1, 3) := dk_132 4 1 (dk_at dksX15_worthsFrom_2 4 rfl rfl)
theorem dX15_worthsFrom_53 : decode cX15_worthsFrom 53 = .ok (.goto (-29), 3) := dk_167 255 227 (dk_at dksX15_worthsFrom_2 7 rfl rfl)
theorem dX15_worthsFrom_56 : decode cX15_worthsFrom 56 = .ok (.iinc 3 (-1), 3) := dk_132 3 255 (dk_at dksX15_worthsFrom_2 10 rfl rfl)
theorem dX15_worthsFrom_59 : decode cX15_worthsFrom 59 = .ok (.goto (-43), 3) := dk_167 255 213 (dk_at dksX15_worthsFrom_2 13 rfl rfl)
theorem dX15_worthsFrom_62 : decode cX15_worthsFrom 62 = .ok (.aload_n 2, 1) := dk_44 (dk_at dksX15_worthsFrom_2 16 rfl rfl)
theorem dX15_worthsFrom_63 : decode cX15_worthsFrom 63 = .ok (.areturn, 1) := dk_176 (dk_at dksX15_worthsFrom_2 17 rfl rfl)
def dkwX15_bestWith_2 : List UInt8 := [120, 128, 47, 97, 184, 0, 69, 55, 4, 132, 6, 1, 167, 255, 202, 22, 4, 173]
abbrev dktX15_bestWith_2 : List UInt8 := dkwX15_bestWith_2 ++ []
def dkwX15_bestWith_1 : List UInt8 := [42, 28, 21, 6, 182, 0, 75, 153, 0, 26, 22, 4, 42, 28, 21, 6, 182, 0, 79, 43, 29, 4, 21, 6]
abbrev dktX15_bestWith_1 : List UInt8 := dkwX15_bestWith_1 ++ dktX15_bestWith_2
def dkwX15_bestWith_0 : List UInt8 := [9, 55, 4, 3, 54, 6, 21, 6, 42, 180, 0, 26, 162, 0, 51, 29, 21, 6, 122, 4, 126, 154, 0, 36]
abbrev dktX15_bestWith_0 : List UInt8 := dkwX15_bestWith_0 ++ dktX15_bestWith_1
theorem dksX15_bestWith_0 : cX15_bestWith.data.toList.drop 0 = dktX15_bestWith_0 := by decide +kernel
theorem dksX15_bestWith_1 : cX15_bestWith.data.toList.drop 24 = dktX15_bestWith_1 := dk_seg dksX15_bestWith_0 24 rfl rfl
theorem dksX15_bestWith_2 : cX15_bestWith.data.toList.drop 48 = dktX15_bestWith_2 := dk_seg dksX15_bestWith_1 24 rfl rfl
theorem dX15_bestWith_0 : decode cX15_bestWith 0 = .ok (.lconst 0, 1) := dk_9 (dk_at dksX15_bestWith_0 0 rfl rfl)
theorem dX15_bestWith_1 : decode cX15_bestWith 1 = .ok (.lstore 4, 2) := dk_55 4 (dk_at dksX15_bestWith_0 1 rfl rfl)
theorem dX15_bestWith_3 : decode cX15_bestWith 3 = .ok (.iconst 0, 1) := dk_3 (dk_at dksX15_bestWith_0 3 rfl rfl)
theorem dX15_bestWith_4 : decode cX15_bestWith 4 = .ok (.istore 6, 2) := dk_54 6 (dk_at dksX15_bestWith_0 4 rfl rfl)
theorem dX15_bestWith_6 : decode cX15_bestWith 6 = .ok (.iload 6, 2) := dk_21 6 (dk_at dksX15_bestWith_0 6 rfl rfl)
theorem dX15_bestWith_8 : decode cX15_bestWith 8 = .ok (.aload_n 0, 1) := dk_42 (dk_at dksX15_bestWith_0 8 rfl rfl)
theorem dX15_bestWith_9 : decode cX15_bestWith 9 = .ok (.getfield 26, 3) := dk_180 0 26 (dk_at dksX15_bestWith_0 9 rfl rfl)
theorem dX15_bestWith_12 : decode cX15_bestWith 12 = .ok (.if_icmp .ge 51, 3) := dk_162 0 51 (dk_at dksX15_bestWith_0 12 rfl rfl)
theorem dX15_bestWith_15 : decode cX15_bestWith 15 = .ok (.iload_n 3, 1) := dk_29 (dk_at dksX15_bestWith_0 15 rfl rfl)
theorem dX15_bestWith_16 : decode cX15_bestWith 16 = .ok (.iload 6, 2) := dk_21 6 (dk_at dksX15_bestWith_0 16 rfl rfl)
theorem dX15_bestWith_18 : decode cX15_bestWith 18 = .ok (.ishr, 1) := dk_122 (dk_at dksX15_bestWith_0 18 rfl rfl)
theorem dX15_bestWith_19 : decode cX15_bestWith 19 = .ok (.iconst 1, 1) := dk_4 (dk_at dksX15_bestWith_0 19 rfl rfl)
theorem dX15_bestWith_20 : decode cX15_bestWith 20 = .ok (.iand, 1) := dk_126 (dk_at dksX15_bestWith_0 20 rfl rfl)
theorem dX15_bestWith_21 : decode cX15_bestWith 21 = .ok (.ifCond .ne 36, 3) := dk_154 0 36 (dk_at dksX15_bestWith_0 21 rfl rfl)
theorem dX15_bestWith_24 : decode cX15_bestWith 24 = .ok (.aload_n 0, 1) := dk_42 (dk_at dksX15_bestWith_1 0 rfl rfl)
theorem dX15_bestWith_25 : decode cX15_bestWith 25 = .ok (.iload_n 2, 1) := dk_28 (dk_at dksX15_bestWith_1 1 rfl rfl)
theorem dX15_bestWith_26 : decode cX15_bestWith 26 = .ok (.iload 6, 2) := dk_21 6 (dk_at dksX15_bestWith_1 2 rfl rfl)
theorem dX15_bestWith_28 : decode cX15_bestWith 28 = .ok (.invokevirtual 75, 3) := dk_182 0 75 (dk_at dksX15_bestWith_1 4 rfl rfl)
theorem dX15_bestWith_31 : decode cX15_bestWith 31 = .ok (.ifCond .eq 26, 3) := dk_153 0 26 (dk_at dksX15_bestWith_1 7 rfl rfl)
theorem dX15_bestWith_34 : decode cX15_bestWith 34 = .ok (.lload 4, 2) := dk_22 4 (dk_at dksX15_bestWith_1 10 rfl rfl)
theorem dX15_bestWith_36 : decode cX15_bestWith 36 = .ok (.aload_n 0, 1) := dk_42 (dk_at dksX15_bestWith_1 12 rfl rfl)
theorem dX15_bestWith_37 : decode cX15_bestWith 37 = .ok (.iload_n 2, 1) := dk_28 (dk_at dksX15_bestWith_1 13 rfl rfl)
theorem dX15_bestWith_38 : decode cX15_bestWith 38 = .ok (.iload 6, 2) := dk_21 6 (dk_at dksX15_bestWith_1 14 rfl rfl)
theorem dX15_bestWith_40 : decode cX15_bestWith 40 = .ok (.invokevirtual 79, 3) := dk_182 0 79 (dk_at dksX15_bestWith_1 16 rfl rfl)
theorem dX15_bestWith_43 : decode cX15_bestWith 43 = .ok (.aload_n 1, 1) := dk_43 (dk_at dksX15_bestWith_1 19 rfl rfl)
theorem dX15_bestWith_44 : decode cX15_bestWith 44 = .ok (.iload_n 3, 1) := dk_29 (dk_at dksX15_bestWith_1 20 rfl rfl)
theorem dX15_bestWith_45 : decode cX15_bestWith 45 = .ok (.iconst 1, 1) := dk_4 (dk_at dksX15_bestWith_1 21 rfl rfl)
theorem dX15_bestWith_46 : decode cX15_bestWith 46 = .ok (.iload 6, 2) := dk_21 6 (dk_at dksX15_bestWith_1 22 rfl rfl)
theorem dX15_bestWith_48 : decode cX15_bestWith 48 = .ok (.ishl, 1) := dk_120 (dk_at dksX15_bestWith_2 0 rfl rfl)
theorem dX15_bestWith_49 : decode cX15_bestWith 49 = .ok (.ior, 1) := dk_128 (dk_at dksX15_bestWith_2 1 rfl rfl)
theorem dX15_bestWith_50 : decode cX15_bestWith 50 = .ok (.laload, 1) := dk_47 (dk_at dksX15_bestWith_2 2 rfl rfl)
theorem dX15_bestWith_51 : decode cX15_bestWith 51 = .ok (.ladd, 1) := dk_97 (dk_at dksX15_bestWith_2 3 rfl rfl)
theorem dX15_bestWith_52 : decode cX15_bestWith 52 = .ok (.invokestatic 69, 3) := dk_184 0 69 (dk_at dksX15_bestWith_2 4 rfl rfl)
theorem dX15_bestWith_55 : decode cX15_bestWith 55 = .ok (.lstore 4, 2) := dk_55 4 (dk_at dksX15_bestWith_2 7 rfl rfl)
theorem dX15_bestWith_57 : decode cX15_bestWith 57 = .ok (.iinc 6 1, 3) := dk_132 6 1 (dk_at dksX15_bestWith_2 9 rfl rfl)
theorem dX15_bestWith_60 : decode cX15_bestWith 60 = .ok (.goto (-54), 3) := dk_167 255 202 (dk_at dksX15_bestWith_2 12 rfl rfl)
theorem dX15_bestWith_63 : decode cX15_bestWith 63 = .ok (.lload 4, 2) := dk_22 4 (dk_at dksX15_bestWith_2 15 rfl rfl)
theorem dX15_bestWith_65 : decode cX15_bestWith 65 = .ok (.lreturn, 1) := dk_173 (dk_at dksX15_bestWith_2 17 rfl rfl)
def dkwX15_fits_0 : List UInt8 := [42, 180, 0, 33, 42, 180, 0, 26, 27, 104, 28, 96, 46, 2, 159, 0, 7, 4, 167, 0, 4, 3, 172]
abbrev dktX15_fits_0 : List UInt8 := dkwX15_fits_0 ++ []
theorem dksX15_fits_0 : cX15_fits.data.toList.drop 0 = dktX15_fits_0 := by decide +kernel
theorem dX15_fits_0 : decode cX15_fits 0 = .ok (.aload_n 0, 1) := dk_42 (dk_at dksX15_fits_0 0 rfl rfl)
theorem dX15_fits_1 : decode cX15_fits 1 = .ok (.getfield 33, 3) := dk_180 0 33 (dk_at dksX15_fits_0 1 rfl rfl)
theorem dX15_fits_4 : decode cX15_fits 4 = .ok (.aload_n 0, 1) := dk_42 (dk_at dksX15_fits_0 4 rfl rfl)
theorem dX15_fits_5 : decode cX15_fits 5 = .ok (.getfield 26, 3) := dk_180 0 26 (dk_at dksX15_fits_0 5 rfl rfl)
theorem dX15_fits_8 : decode cX15_fits 8 = .ok (.iload_n 1, 1) := dk_27 (dk_at dksX15_fits_0 8 rfl rfl)
theorem dX15_fits_9 : decode cX15_fits 9 = .ok (.imul, 1) := dk_104 (dk_at dksX15_fits_0 9 rfl rfl)
theorem dX15_fits_10 : decode cX15_fits 10 = .ok (.iload_n 2, 1) := dk_28 (dk_at dksX15_fits_0 10 rfl rfl)
theorem dX15_fits_11 : decode cX15_fits 11 = .ok (.iadd, 1) := dk_96 (dk_at dksX15_fits_0 11 rfl rfl)
theorem dX15_fits_12 : decode cX15_fits 12 = .ok (.iaload, 1) := dk_46 (dk_at dksX15_fits_0 12 rfl rfl)
theorem dX15_fits_13 : decode cX15_fits 13 = .ok (.iconst (-1), 1) := dk_2 (dk_at dksX15_fits_0 13 rfl rfl)
theorem dX15_fits_14 : decode cX15_fits 14 = .ok (.if_icmp .eq 7, 3) := dk_159 0 7 (dk_at dksX15_fits_0 14 rfl rfl)
theorem dX15_fits_17 : decode cX15_fits 17 = .ok (.iconst 1, 1) := dk_4 (dk_at dksX15_fits_0 17 rfl rfl)
theorem dX15_fits_18 : decode cX15_fits 18 = .ok (.goto 4, 3) := dk_167 0 4 (dk_at dksX15_fits_0 18 rfl rfl)
theorem dX15_fits_21 : decode cX15_fits 21 = .ok (.iconst 0, 1) := dk_3 (dk_at dksX15_fits_0 21 rfl rfl)
theorem dX15_fits_22 : decode cX15_fits 22 = .ok (.ireturn, 1) := dk_172 (dk_at dksX15_fits_0 22 rfl rfl)
def dkwX15_worth_1 : List UInt8 := [133, 101, 173]
abbrev dktX15_worth_1 : List UInt8 := dkwX15_worth_1 ++ []
def dkwX15_worth_0 : List UInt8 := [20, 0, 63, 42, 180, 0, 29, 27, 46, 133, 105, 42, 180, 0, 33, 42, 180, 0, 26, 27, 104, 28, 96, 46]
abbrev dktX15_worth_0 : List UInt8 := dkwX15_worth_0 ++ dktX15_worth_1
theorem dksX15_worth_0 : cX15_worth.data.toList.drop 0 = dktX15_worth_0 := by decide +kernel
theorem dksX15_worth_1 : cX15_worth.data.toList.drop 24 = dktX15_worth_1 := dk_seg dksX15_worth_0 24 rfl rfl
theorem dX15_worth_0 : decode cX15_worth 0 = .ok (.ldc2_w 63, 3) := dk_20 0 63 (dk_at dksX15_worth_0 0 rfl rfl)
theorem dX15_worth_3 : decode cX15_worth 3 = .ok (.aload_n 0, 1) := dk_42 (dk_at dksX15_worth_0 3 rfl rfl)
theorem dX15_worth_4 : decode cX15_worth 4 = .ok (.getfield 29, 3) := dk_180 0 29 (dk_at dksX15_worth_0 4 rfl rfl)
theorem dX15_worth_7 : decode cX15_worth 7 = .ok (.iload_n 1, 1) := dk_27 (dk_at dksX15_worth_0 7 rfl rfl)
theorem dX15_worth_8 : decode cX15_worth 8 = .ok (.iaload, 1) := dk_46 (dk_at dksX15_worth_0 8 rfl rfl)
theorem dX15_worth_9 : decode cX15_worth 9 = .ok (.i2l, 1) := dk_133 (dk_at dksX15_worth_0 9 rfl rfl)
theorem dX15_worth_10 : decode cX15_worth 10 = .ok (.lmul, 1) := dk_105 (dk_at dksX15_worth_0 10 rfl rfl)
theorem dX15_worth_11 : decode cX15_worth 11 = .ok (.aload_n 0, 1) := dk_42 (dk_at dksX15_worth_0 11 rfl rfl)
theorem dX15_worth_12 : decode cX15_worth 12 = .ok (.getfield 33, 3) := dk_180 0 33 (dk_at dksX15_worth_0 12 rfl rfl)
theorem dX15_worth_15 : decode cX15_worth 15 = .ok (.aload_n 0, 1) := dk_42 (dk_at dksX15_worth_0 15 rfl rfl)
theorem dX15_worth_16 : decode cX15_worth 16 = .ok (.getfield 26, 3) := dk_180 0 26 (dk_at dksX15_worth_0 16 rfl rfl)
theorem dX15_worth_19 : decode cX15_worth 19 = .ok (.iload_n 1, 1) := dk_27 (dk_at dksX15_worth_0 19 rfl rfl)
theorem dX15_worth_20 : decode cX15_worth 20 = .ok (.imul, 1) := dk_104 (dk_at dksX15_worth_0 20 rfl rfl)
theorem dX15_worth_21 : decode cX15_worth 21 = .ok (.iload_n 2, 1) := dk_28 (dk_at dksX15_worth_0 21 rfl rfl)
theorem dX15_worth_22 : decode cX15_worth 22 = .ok (.iadd, 1) := dk_96 (dk_at dksX15_worth_0 22 rfl rfl)
theorem dX15_worth_23 : decode cX15_worth 23 = .ok (.iaload, 1) := dk_46 (dk_at dksX15_worth_0 23 rfl rfl)
theorem dX15_worth_24 : decode cX15_worth 24 = .ok (.i2l, 1) := dk_133 (dk_at dksX15_worth_1 0 rfl rfl)
theorem dX15_worth_25 : decode cX15_worth 25 = .ok (.lsub, 1) := dk_101 (dk_at dksX15_worth_1 1 rfl rfl)
theorem dX15_worth_26 : decode cX15_worth 26 = .ok (.lreturn, 1) := dk_173 (dk_at dksX15_worth_1 2 rfl rfl)
def dkwX15_rewardOf_0 : List UInt8 := [30, 20, 0, 63, 97, 10, 101, 20, 0, 63, 109, 136, 172]
abbrev dktX15_rewardOf_0 : List UInt8 := dkwX15_rewardOf_0 ++ []
theorem dksX15_rewardOf_0 : cX15_rewardOf.data.toList.drop 0 = dktX15_rewardOf_0 := by decide +kernel
theorem dX15_rewardOf_0 : decode cX15_rewardOf 0 = .ok (.lload_n 0, 1) := dk_30 (dk_at dksX15_rewardOf_0 0 rfl rfl)
theorem dX15_rewardOf_1 : decode cX15_rewardOf 1 = .ok (.ldc2_w 63, 3) := dk_20 0 63 (dk_at dksX15_rewardOf_0 1 rfl rfl)
theorem dX15_rewardOf_4 : decode cX15_rewardOf 4 = .ok (.ladd, 1) := dk_97 (dk_at dksX15_rewardOf_0 4 rfl rfl)
theorem dX15_rewardOf_5 : decode cX15_rewardOf 5 = .ok (.lconst 1, 1) := dk_10 (dk_at dksX15_rewardOf_0 5 rfl rfl)
theorem dX15_rewardOf_6 : decode cX15_rewardOf 6 = .ok (.lsub, 1) := dk_101 (dk_at dksX15_rewardOf_0 6 rfl rfl)
theorem dX15_rewardOf_7 : decode cX15_rewardOf 7 = .ok (.ldc2_w 63, 3) := dk_20 0 63 (dk_at dksX15_rewardOf_0 7 rfl rfl)
theorem dX15_rewardOf_10 : decode cX15_rewardOf 10 = .ok (.ldiv, 1) := dk_109 (dk_at dksX15_rewardOf_0 10 rfl rfl)
theorem dX15_rewardOf_11 : decode cX15_rewardOf 11 = .ok (.l2i, 1) := dk_136 (dk_at dksX15_rewardOf_0 11 rfl rfl)
theorem dX15_rewardOf_12 : decode cX15_rewardOf 12 = .ok (.ireturn, 1) := dk_172 (dk_at dksX15_rewardOf_0 12 rfl rfl)
def dkwX15_bestByTrying_3 : List UInt8 := [97, 184, 0, 69, 66, 132, 5, 1, 167, 255, 199, 33, 173]
abbrev dktX15_bestByTrying_3 : List UInt8 := dkwX15_bestByTrying_3 ++ []
def dkwX15_bestByTrying_2 : List UInt8 := [153, 0, 29, 33, 42, 27, 21, 5, 182, 0, 79, 42, 27, 4, 96, 28, 4, 21, 5, 120, 128, 182, 0, 87]
abbrev dktX15_bestByTrying_2 : List UInt8 := dkwX15_bestByTrying_2 ++ dktX15_bestByTrying_3
def dkwX15_bestByTrying_1 : List UInt8 := [42, 180, 0, 26, 162, 0, 54, 28, 21, 5, 122, 4, 126, 154, 0, 39, 42, 27, 21, 5, 182, 0, 75]
abbrev dktX15_bestByTrying_1 : List UInt8 := dkwX15_bestByTrying_1 ++ dktX15_bestByTrying_2
def dkwX15_bestByTrying_0 : List UInt8 := [27, 42, 180, 0, 15, 160, 0, 5, 9, 173, 42, 27, 4, 96, 28, 182, 0, 87, 66, 3, 54, 5, 21, 5]
abbrev dktX15_bestByTrying_0 : List UInt8 := dkwX15_bestByTrying_0 ++ dktX15_bestByTrying_1
theorem dksX15_bestByTrying_0 : cX15_bestByTrying.data.toList.drop 0 = dktX15_bestByTrying_0 := by decide +kernel
theorem dksX15_bestByTrying_1 : cX15_bestByTrying.data.toList.drop 24 = dktX15_bestByTrying_1 := dk_seg dksX15_bestByTrying_0 24 rfl rfl
theorem dksX15_bestByTrying_2 : cX15_bestByTrying.data.toList.drop 47 = dktX15_bestByTrying_2 := dk_seg dksX15_bestByTrying_1 23 rfl rfl
theorem dksX15_bestByTrying_3 : cX15_bestByTrying.data.toList.drop 71 = dktX15_bestByTrying_3 := dk_seg dksX15_bestByTrying_2 24 rfl rfl
theorem dX15_bestByTrying_0 : decode cX15_bestByTrying 0 = .ok (.iload_n 1, 1) := dk_27 (dk_at dksX15_bestByTrying_0 0 rfl rfl)
theorem dX15_bestByTrying_1 : decode cX15_bestByTrying 1 = .ok (.aload_n 0, 1) := dk_42 (dk_at dksX15_bestByTrying_0 1 rfl rfl)
theorem dX15_bestByTrying_2 : decode cX15_bestByTrying 2 = .ok (.getfield 15, 3) := dk_180 0 15 (dk_at dksX15_bestByTrying_0 2 rfl rfl)
theorem dX15_bestByTrying_5 : decode cX15_bestByTrying 5 = .ok (.if_icmp .ne 5, 3) := dk_160 0 5 (dk_at dksX15_bestByTrying_0 5 rfl rfl)
theorem dX15_bestByTrying_8 : decode cX15_bestByTrying 8 = .ok (.lconst 0, 1) := dk_9 (dk_at dksX15_bestByTrying_0 8 rfl rfl)
theorem dX15_bestByTrying_9 : decode cX15_bestByTrying 9 = .ok (.lreturn, 1) := dk_173 (dk_at dksX15_bestByTrying_0 9 rfl rfl)
theorem dX15_bestByTrying_10 : decode cX15_bestByTrying 10 = .ok (.aload_n 0, 1) := dk_42 (dk_at dksX15_bestByTrying_0 10 rfl rfl)
theorem dX15_bestByTrying_11 : decode cX15_bestByTrying 11 = .ok (.iload_n 1, 1) := dk_27 (dk_at dksX15_bestByTrying_0 11 rfl rfl)
theorem dX15_bestByTrying_12 : decode cX15_bestByTrying 12 = .ok (.iconst 1, 1) := dk_4 (dk_at dksX15_bestByTrying_0 12 rfl rfl)
theorem dX15_bestByTrying_13 : decode cX15_bestByTrying 13 = .ok (.iadd, 1) := dk_96 (dk_at dksX15_bestByTrying_0 13 rfl rfl)
theorem dX15_bestByTrying_14 : decode cX15_bestByTrying 14 = .ok (.iload_n 2, 1) := dk_28 (dk_at dksX15_bestByTrying_0 14 rfl rfl)
theorem dX15_bestByTrying_15 : decode cX15_bestByTrying 15 = .ok (.invokevirtual 87, 3) := dk_182 0 87 (dk_at dksX15_bestByTrying_0 15 rfl rfl)
theorem dX15_bestByTrying_18 : decode cX15_bestByTrying 18 = .ok (.lstore_n 3, 1) := dk_66 (dk_at dksX15_bestByTrying_0 18 rfl rfl)
theorem dX15_bestByTrying_19 : decode cX15_bestByTrying 19 = .ok (.iconst 0, 1) := dk_3 (dk_at dksX15_bestByTrying_0 19 rfl rfl)
theorem dX15_bestByTrying_20 : decode cX15_bestByTrying 20 = .ok (.istore 5, 2) := dk_54 5 (dk_at dksX15_bestByTrying_0 20 rfl rfl)
theorem dX15_bestByTrying_22 : decode cX15_bestByTrying 22 = .ok (.iload 5, 2) := dk_21 5 (dk_at dksX15_bestByTrying_0 22 rfl rfl)
theorem dX15_bestByTrying_24 : decode cX15_bestByTrying 24 = .ok (.aload_n 0, 1) := dk_42 (dk_at dksX15_bestByTrying_1 0 rfl rfl)
theorem dX15_bestByTrying_25 : decode cX15_bestByTrying 25 = .ok (.getfield 26, 3) := dk_180 0 26 (dk_at dksX15_bestByTrying_1 1 rfl rfl)
theorem dX15_bestByTrying_28 : decode cX15_bestByTrying 28 = .ok (.if_icmp .ge 54, 3) := dk_162 0 54 (dk_at dksX15_bestByTrying_1 4 rfl rfl)
theorem dX15_bestByTrying_31 : decode cX15_bestByTrying 31 = .ok (.iload_n 2, 1) := dk_28 (dk_at dksX15_bestByTrying_1 7 rfl rfl)
theorem dX15_bestByTrying_32 : decode cX15_bestByTrying 32 = .ok (.iload 5, 2) := dk_21 5 (dk_at dksX15_bestByTrying_1 8 rfl rfl)
theorem dX15_bestByTrying_34 : decode cX15_bestByTrying 34 = .ok (.ishr, 1) := dk_122 (dk_at dksX15_bestByTrying_1 10 rfl rfl)
theorem dX15_bestByTrying_35 : decode cX15_bestByTrying 35 = .ok (.iconst 1, 1) := dk_4 (dk_at dksX15_bestByTrying_1 11 rfl rfl)
theorem dX15_bestByTrying_36 : decode cX15_bestByTrying 36 = .ok (.iand, 1) := dk_126 (dk_at dksX15_bestByTrying_1 12 rfl rfl)
theorem dX15_bestByTrying_37 : decode cX15_bestByTrying 37 = .ok (.ifCond .ne 39, 3) := dk_154 0 39 (dk_at dksX15_bestByTrying_1 13 rfl rfl)
theorem dX15_bestByTrying_40 : decode cX15_bestByTrying 40 = .ok (.aload_n 0, 1) := dk_42 (dk_at dksX15_bestByTrying_1 16 rfl rfl)
theorem dX15_bestByTrying_41 : decode cX15_bestByTrying 41 = .ok (.iload_n 1, 1) := dk_27 (dk_at dksX15_bestByTrying_1 17 rfl rfl)
theorem dX15_bestByTrying_42 : decode cX15_bestByTrying 42 = .ok (.iload 5, 2) := dk_21 5 (dk_at dksX15_bestByTrying_1 18 rfl rfl)
theorem dX15_bestByTrying_44 : decode cX15_bestByTrying 44 = .ok (.invokevirtual 75, 3) := dk_182 0 75 (dk_at dksX15_bestByTrying_1 20 rfl rfl)
theorem dX15_bestByTrying_47 : decode cX15_bestByTrying 47 = .ok (.ifCond .eq 29, 3) := dk_153 0 29 (dk_at dksX15_bestByTrying_2 0 rfl rfl)
theorem dX15_bestByTrying_50 : decode cX15_bestByTrying 50 = .ok (.lload_n 3, 1) := dk_33 (dk_at dksX15_bestByTrying_2 3 rfl rfl)
theorem dX15_bestByTrying_51 : decode cX15_bestByTrying 51 = .ok (.aload_n 0, 1) := dk_42 (dk_at dksX15_bestByTrying_2 4 rfl rfl)
theorem dX15_bestByTrying_52 : decode cX15_bestByTrying 52 = .ok (.iload_n 1, 1) := dk_27 (dk_at dksX15_bestByTrying_2 5 rfl rfl)
theorem dX15_bestByTrying_53 : decode cX15_bestByTrying 53 = .ok (.iload 5, 2) := dk_21 5 (dk_at dksX15_bestByTrying_2 6 rfl rfl)
theorem dX15_bestByTrying_55 : decode cX15_bestByTrying 55 = .ok (.invokevirtual 79, 3) := dk_182 0 79 (dk_at dksX15_bestByTrying_2 8 rfl rfl)
theorem dX15_bestByTrying_58 : decode cX15_bestByTrying 58 = .ok (.aload_n 0, 1) := dk_42 (dk_at dksX15_bestByTrying_2 11 rfl rfl)
theorem dX15_bestByTrying_59 : decode cX15_bestByTrying 59 = .ok (.iload_n 1, 1) := dk_27 (dk_at dksX15_bestByTrying_2 12 rfl rfl)
theorem dX15_bestByTrying_60 : decode cX15_bestByTrying 60 = .ok (.iconst 1, 1) := dk_4 (dk_at dksX15_bestByTrying_2 13 rfl rfl)
theorem dX15_bestByTrying_61 : decode cX15_bestByTrying 61 = .ok (.iadd, 1) := dk_96 (dk_at dksX15_bestByTrying_2 14 rfl rfl)
theorem dX15_bestByTrying_62 : decode cX15_bestByTrying 62 = .ok (.iload_n 2, 1) := dk_28 (dk_at dksX15_bestByTrying_2 15 rfl rfl)
theorem dX15_bestByTrying_63 : decode cX15_bestByTrying 63 = .ok (.iconst 1, 1) := dk_4 (dk_at dksX15_bestByTrying_2 16 rfl rfl)
theorem dX15_bestByTrying_64 : decode cX15_bestByTrying 64 = .ok (.iload 5, 2) := dk_21 5 (dk_at dksX15_bestByTrying_2 17 rfl rfl)
theorem dX15_bestByTrying_66 : decode cX15_bestByTrying 66 = .ok (.ishl, 1) := dk_120 (dk_at dksX15_bestByTrying_2 19 rfl rfl)
theorem dX15_bestByTrying_67 : decode cX15_bestByTrying 67 = .ok (.ior, 1) := dk_128 (dk_at dksX15_bestByTrying_2 20 rfl rfl)
theorem dX15_bestByTrying_68 : decode cX15_bestByTrying 68 = .ok (.invokevirtual 87, 3) := dk_182 0 87 (dk_at dksX15_bestByTrying_2 21 rfl rfl)
theorem dX15_bestByTrying_71 : decode cX15_bestByTrying 71 = .ok (.ladd, 1) := dk_97 (dk_at dksX15_bestByTrying_3 0 rfl rfl)
theorem dX15_bestByTrying_72 : decode cX15_bestByTrying 72 = .ok (.invokestatic 69, 3) := dk_184 0 69 (dk_at dksX15_bestByTrying_3 1 rfl rfl)
theorem dX15_bestByTrying_75 : decode cX15_bestByTrying 75 = .ok (.lstore_n 3, 1) := dk_66 (dk_at dksX15_bestByTrying_3 4 rfl rfl)
theorem dX15_bestByTrying_76 : decode cX15_bestByTrying 76 = .ok (.iinc 5 1, 3) := dk_132 5 1 (dk_at dksX15_bestByTrying_3 5 rfl rfl)
theorem dX15_bestByTrying_79 : decode cX15_bestByTrying 79 = .ok (.goto (-57), 3) := dk_167 255 199 (dk_at dksX15_bestByTrying_3 8 rfl rfl)
theorem dX15_bestByTrying_82 : decode cX15_bestByTrying 82 = .ok (.lload_n 3, 1) := dk_33 (dk_at dksX15_bestByTrying_3 11 rfl rfl)
theorem dX15_bestByTrying_83 : decode cX15_bestByTrying 83 = .ok (.lreturn, 1) := dk_173 (dk_at dksX15_bestByTrying_3 12 rfl rfl)
def dkwX15_differenceOf_0 : List UInt8 := [20, 0, 63, 30, 184, 0, 90, 133, 105, 30, 101, 136, 172]
abbrev dktX15_differenceOf_0 : List UInt8 := dkwX15_differenceOf_0 ++ []
theorem dksX15_differenceOf_0 : cX15_differenceOf.data.toList.drop 0 = dktX15_differenceOf_0 := by decide +kernel
theorem dX15_differenceOf_0 : decode cX15_differenceOf 0 = .ok (.ldc2_w 63, 3) := dk_20 0 63 (dk_at dksX15_differenceOf_0 0 rfl rfl)
theorem dX15_differenceOf_3 : decode cX15_differenceOf 3 = .ok (.lload_n 0, 1) := dk_30 (dk_at dksX15_differenceOf_0 3 rfl rfl)
theorem dX15_differenceOf_4 : decode cX15_differenceOf 4 = .ok (.invokestatic 90, 3) := dk_184 0 90 (dk_at dksX15_differenceOf_0 4 rfl rfl)
theorem dX15_differenceOf_7 : decode cX15_differenceOf 7 = .ok (.i2l, 1) := dk_133 (dk_at dksX15_differenceOf_0 7 rfl rfl)
theorem dX15_differenceOf_8 : decode cX15_differenceOf 8 = .ok (.lmul, 1) := dk_105 (dk_at dksX15_differenceOf_0 8 rfl rfl)
theorem dX15_differenceOf_9 : decode cX15_differenceOf 9 = .ok (.lload_n 0, 1) := dk_30 (dk_at dksX15_differenceOf_0 9 rfl rfl)
theorem dX15_differenceOf_10 : decode cX15_differenceOf 10 = .ok (.lsub, 1) := dk_101 (dk_at dksX15_differenceOf_0 10 rfl rfl)
theorem dX15_differenceOf_11 : decode cX15_differenceOf 11 = .ok (.l2i, 1) := dk_136 (dk_at dksX15_differenceOf_0 11 rfl rfl)
theorem dX15_differenceOf_12 : decode cX15_differenceOf 12 = .ok (.ireturn, 1) := dk_172 (dk_at dksX15_differenceOf_0 12 rfl rfl)
def dkwX16_init_0 : List UInt8 := [42, 43, 181, 0, 1, 42, 183, 0, 7, 42, 187, 0, 13, 89, 183, 0, 15, 181, 0, 16, 177]
abbrev dktX16_init_0 : List UInt8 := dkwX16_init_0 ++ []
theorem dksX16_init_0 : cX16_init.data.toList.drop 0 = dktX16_init_0 := by decide +kernel
theorem dX16_init_0 : decode cX16_init 0 = .ok (.aload_n 0, 1) := dk_42 (dk_at dksX16_init_0 0 rfl rfl)
theorem dX16_init_1 : decode cX16_init 1 = .ok (.aload_n 1, 1) := dk_43 (dk_at dksX16_init_0 1 rfl rfl)
theorem dX16_init_2 : decode cX16_init 2 = .ok (.putfield 1, 3) := dk_181 0 1 (dk_at dksX16_init_0 2 rfl rfl)
theorem dX16_init_5 : decode cX16_init 5 = .ok (.aload_n 0, 1) := dk_42 (dk_at dksX16_init_0 5 rfl rfl)
theorem dX16_init_6 : decode cX16_init 6 = .ok (.invokespecial 7, 3) := dk_183 0 7 (dk_at dksX16_init_0 6 rfl rfl)
theorem dX16_init_9 : decode cX16_init 9 = .ok (.aload_n 0, 1) := dk_42 (dk_at dksX16_init_0 9 rfl rfl)
theorem dX16_init_10 : decode cX16_init 10 = .ok (.new 13, 3) := dk_187 0 13 (dk_at dksX16_init_0 10 rfl rfl)
theorem dX16_init_13 : decode cX16_init 13 = .ok (.dup, 1) := dk_89 (dk_at dksX16_init_0 13 rfl rfl)
theorem dX16_init_14 : decode cX16_init 14 = .ok (.invokespecial 15, 3) := dk_183 0 15 (dk_at dksX16_init_0 14 rfl rfl)
theorem dX16_init_17 : decode cX16_init 17 = .ok (.putfield 16, 3) := dk_181 0 16 (dk_at dksX16_init_0 17 rfl rfl)
theorem dX16_init_20 : decode cX16_init 20 = .ok (.return_, 1) := dk_177 (dk_at dksX16_init_0 20 rfl rfl)
def dkwX16_insert_2 : List UInt8 := [167, 255, 215, 42, 180, 0, 16, 28, 43, 185, 0, 36, 3, 0, 177]
abbrev dktX16_insert_2 : List UInt8 := dkwX16_insert_2 ++ []
def dkwX16_insert_1 : List UInt8 := [185, 0, 26, 2, 0, 192, 0, 30, 3, 182, 0, 32, 43, 3, 182, 0, 32, 163, 0, 9, 132, 2, 1]
abbrev dktX16_insert_1 : List UInt8 := dkwX16_insert_1 ++ dktX16_insert_2
def dkwX16_insert_0 : List UInt8 := [3, 61, 28, 42, 180, 0, 16, 185, 0, 20, 1, 0, 162, 0, 34, 42, 180, 0, 16, 28]
abbrev dktX16_insert_0 : List UInt8 := dkwX16_insert_0 ++ dktX16_insert_1
theorem dksX16_insert_0 : cX16_insert.data.toList.drop 0 = dktX16_insert_0 := by decide +kernel
theorem dksX16_insert_1 : cX16_insert.data.toList.drop 20 = dktX16_insert_1 := dk_seg dksX16_insert_0 20 rfl rfl
theorem dksX16_insert_2 : cX16_insert.data.toList.drop 43 = dktX16_insert_2 := dk_seg dksX16_insert_1 23 rfl rfl
theorem dX16_insert_0 : decode cX16_insert 0 = .ok (.iconst 0, 1) := dk_3 (dk_at dksX16_insert_0 0 rfl rfl)
theorem dX16_insert_1 : decode cX16_insert 1 = .ok (.istore_n 2, 1) := dk_61 (dk_at dksX16_insert_0 1 rfl rfl)
theorem dX16_insert_2 : decode cX16_insert 2 = .ok (.iload_n 2, 1) := dk_28 (dk_at dksX16_insert_0 2 rfl rfl)
theorem dX16_insert_3 : decode cX16_insert 3 = .ok (.aload_n 0, 1) := dk_42 (dk_at dksX16_insert_0 3 rfl rfl)
theorem dX16_insert_4 : decode cX16_insert 4 = .ok (.getfield 16, 3) := dk_180 0 16 (dk_at dksX16_insert_0 4 rfl rfl)
theorem dX16_insert_7 : decode cX16_insert 7 = .ok (.invokeinterface 20 1, 5) := by decide +kernel
theorem dX16_insert_12 : decode cX16_insert 12 = .ok (.if_icmp .ge 34, 3) := dk_162 0 34 (dk_at dksX16_insert_0 12 rfl rfl)
theorem dX16_insert_15 : decode cX16_insert 15 = .ok (.aload_n 0, 1) := dk_42 (dk_at dksX16_insert_0 15 rfl rfl)
theorem dX16_insert_16 : decode cX16_insert 16 = .ok (.getfield 16, 3) := dk_180 0 16 (dk_at dksX16_insert_0 16 rfl rfl)
theorem dX16_insert_19 : decode cX16_insert 19 = .ok (.iload_n 2, 1) := dk_28 (dk_at dksX16_insert_0 19 rfl rfl)
theorem dX16_insert_20 : decode cX16_insert 20 = .ok (.invokeinterface 26 2, 5) := by decide +kernel
theorem dX16_insert_25 : decode cX16_insert 25 = .ok (.checkcast 30, 3) := dk_192 0 30 (dk_at dksX16_insert_1 5 rfl rfl)
theorem dX16_insert_28 : decode cX16_insert 28 = .ok (.iconst 0, 1) := dk_3 (dk_at dksX16_insert_1 8 rfl rfl)
theorem dX16_insert_29 : decode cX16_insert 29 = .ok (.invokevirtual 32, 3) := dk_182 0 32 (dk_at dksX16_insert_1 9 rfl rfl)
theorem dX16_insert_32 : decode cX16_insert 32 = .ok (.aload_n 1, 1) := dk_43 (dk_at dksX16_insert_1 12 rfl rfl)
theorem dX16_insert_33 : decode cX16_insert 33 = .ok (.iconst 0, 1) := dk_3 (dk_at dksX16_insert_1 13 rfl rfl)
theorem dX16_insert_34 : decode cX16_insert 34 = .ok (.invokevirtual 32, 3) := dk_182 0 32 (dk_at dksX16_insert_1 14 rfl rfl)
theorem dX16_insert_37 : decode cX16_insert 37 = .ok (.if_icmp .gt 9, 3) := dk_163 0 9 (dk_at dksX16_insert_1 17 rfl rfl)
theorem dX16_insert_40 : decode cX16_insert 40 = .ok (.iinc 2 1, 3) := dk_132 2 1 (dk_at dksX16_insert_1 20 rfl rfl)
theorem dX16_insert_43 : decode cX16_insert 43 = .ok (.goto (-41), 3) := dk_167 255 215 (dk_at dksX16_insert_2 0 rfl rfl)
theorem dX16_insert_46 : decode cX16_insert 46 = .ok (.aload_n 0, 1) := dk_42 (dk_at dksX16_insert_2 3 rfl rfl)
theorem dX16_insert_47 : decode cX16_insert 47 = .ok (.getfield 16, 3) := dk_180 0 16 (dk_at dksX16_insert_2 4 rfl rfl)
theorem dX16_insert_50 : decode cX16_insert 50 = .ok (.iload_n 2, 1) := dk_28 (dk_at dksX16_insert_2 7 rfl rfl)
theorem dX16_insert_51 : decode cX16_insert 51 = .ok (.aload_n 1, 1) := dk_43 (dk_at dksX16_insert_2 8 rfl rfl)
theorem dX16_insert_52 : decode cX16_insert 52 = .ok (.invokeinterface 36 3, 5) := by decide +kernel
theorem dX16_insert_57 : decode cX16_insert 57 = .ok (.return_, 1) := dk_177 (dk_at dksX16_insert_2 14 rfl rfl)
def dkwX17_init_3 : List UInt8 := [184, 0, 34, 79, 132, 3, 1, 167, 255, 208, 177]
abbrev dktX17_init_3 : List UInt8 := dkwX17_init_3 ++ []
def dkwX17_init_2 : List UInt8 := [180, 0, 15, 108, 182, 0, 24, 180, 0, 28, 43, 29, 42, 180, 0, 15, 112, 182, 0, 24, 180, 0, 28]
abbrev dktX17_init_2 : List UInt8 := dkwX17_init_2 ++ dktX17_init_3
def dkwX17_init_1 : List UInt8 := [181, 0, 20, 3, 62, 29, 42, 180, 0, 20, 190, 162, 0, 45, 42, 180, 0, 20, 29, 44, 43, 29, 42]
abbrev dktX17_init_1 : List UInt8 := dkwX17_init_1 ++ dktX17_init_2
def dkwX17_init_0 : List UInt8 := [42, 183, 0, 3, 42, 43, 182, 0, 9, 181, 0, 15, 42, 42, 180, 0, 15, 42, 180, 0, 15, 104, 188, 10]
abbrev dktX17_init_0 : List UInt8 := dkwX17_init_0 ++ dktX17_init_1
theorem dksX17_init_0 : cX17_init.data.toList.drop 0 = dktX17_init_0 := by decide +kernel
theorem dksX17_init_1 : cX17_init.data.toList.drop 24 = dktX17_init_1 := dk_seg dksX17_init_0 24 rfl rfl
theorem dksX17_init_2 : cX17_init.data.toList.drop 47 = dktX17_init_2 := dk_seg dksX17_init_1 23 rfl rfl
theorem dksX17_init_3 : cX17_init.data.toList.drop 70 = dktX17_init_3 := dk_seg dksX17_init_2 23 rfl rfl
theorem dX17_init_0 : decode cX17_init 0 = .ok (.aload_n 0, 1) := dk_42 (dk_at dksX17_init_0 0 rfl rfl)
theorem dX17_init_1 : decode cX17_init 1 = .ok (.invokespecial 3, 3) := dk_183 0 3 (dk_at dksX17_init_0 1 rfl rfl)
theorem dX17_init_4 : decode cX17_init 4 = .ok (.aload_n 0, 1) := dk_42 (dk_at dksX17_init_0 4 rfl rfl)
theorem dX17_init_5 : decode cX17_init 5 = .ok (.aload_n 1, 1) := dk_43 (dk_at dksX17_init_0 5 rfl rfl)
theorem dX17_init_6 : decode cX17_init 6 = .ok (.invokevirtual 9, 3) := dk_182 0 9 (dk_at dksX17_init_0 6 rfl rfl)
theorem dX17_init_9 : decode cX17_init 9 = .ok (.putfield 15, 3) := dk_181 0 15 (dk_at dksX17_init_0 9 rfl rfl)
theorem dX17_init_12 : decode cX17_init 12 = .ok (.aload_n 0, 1) := dk_42 (dk_at dksX17_init_0 12 rfl rfl)
theorem dX17_init_13 : decode cX17_init 13 = .ok (.aload_n 0, 1) := dk_42 (dk_at dksX17_init_0 13 rfl rfl)
theorem dX17_init_14 : decode cX17_init 14 = .ok (.getfield 15, 3) := dk_180 0 15 (dk_at dksX17_init_0 14 rfl rfl)
theorem dX17_init_17 : decode cX17_init 17 = .ok (.aload_n 0, 1) := dk_42 (dk_at dksX17_init_0 17 rfl rfl)
theorem dX17_init_18 : decode cX17_init 18 = .ok (.getfield 15, 3) := dk_180 0 15 (dk_at dksX17_init_0 18 rfl rfl)
theorem dX17_init_21 : decode cX17_init 21 = .ok (.imul, 1) := dk_104 (dk_at dksX17_init_0 21 rfl rfl)
theorem dX17_init_22 : decode cX17_init 22 = .ok (.newarray .int, 2) := dk_188_10 (dk_at dksX17_init_0 22 rfl rfl)
theorem dX17_init_24 : decode cX17_init 24 = .ok (.putfield 20, 3) := dk_181 0 20 (dk_at dksX17_init_1 0 rfl rfl)
theorem dX17_init_27 : decode cX17_init 27 = .ok (.iconst 0, 1) := dk_3 (dk_at dksX17_init_1 3 rfl rfl)
theorem dX17_init_28 : decode cX17_init 28 = .ok (.istore_n 3, 1) := dk_62 (dk_at dksX17_init_1 4 rfl rfl)
theorem dX17_init_29 : decode cX17_init 29 = .ok (.iload_n 3, 1) := dk_29 (dk_at dksX17_init_1 5 rfl rfl)
theorem dX17_init_30 : decode cX17_init 30 = .ok (.aload_n 0, 1) := dk_42 (dk_at dksX17_init_1 6 rfl rfl)
theorem dX17_init_31 : decode cX17_init 31 = .ok (.getfield 20, 3) := dk_180 0 20 (dk_at dksX17_init_1 7 rfl rfl)
theorem dX17_init_34 : decode cX17_init 34 = .ok (.arraylength, 1) := dk_190 (dk_at dksX17_init_1 10 rfl rfl)
theorem dX17_init_35 : decode cX17_init 35 = .ok (.if_icmp .ge 45, 3) := dk_162 0 45 (dk_at dksX17_init_1 11 rfl rfl)
theorem dX17_init_38 : decode cX17_init 38 = .ok (.aload_n 0, 1) := dk_42 (dk_at dksX17_init_1 14 rfl rfl)
theorem dX17_init_39 : decode cX17_init 39 = .ok (.getfield 20, 3) := dk_180 0 20 (dk_at dksX17_init_1 15 rfl rfl)
theorem dX17_init_42 : decode cX17_init 42 = .ok (.iload_n 3, 1) := dk_29 (dk_at dksX17_init_1 18 rfl rfl)
theorem dX17_init_43 : decode cX17_init 43 = .ok (.aload_n 2, 1) := dk_44 (dk_at dksX17_init_1 19 rfl rfl)
theorem dX17_init_44 : decode cX17_init 44 = .ok (.aload_n 1, 1) := dk_43 (dk_at dksX17_init_1 20 rfl rfl)
theorem dX17_init_45 : decode cX17_init 45 = .ok (.iload_n 3, 1) := dk_29 (dk_at dksX17_init_1 21 rfl rfl)
theorem dX17_init_46 : decode cX17_init 46 = .ok (.aload_n 0, 1) := dk_42 (dk_at dksX17_init_1 22 rfl rfl)
theorem dX17_init_47 : decode cX17_init 47 = .ok (.getfield 15, 3) := dk_180 0 15 (dk_at dksX17_init_2 0 rfl rfl)
theorem dX17_init_50 : decode cX17_init 50 = .ok (.idiv, 1) := dk_108 (dk_at dksX17_init_2 3 rfl rfl)
theorem dX17_init_51 : decode cX17_init 51 = .ok (.invokevirtual 24, 3) := dk_182 0 24 (dk_at dksX17_init_2 4 rfl rfl)
theorem dX17_init_54 : decode cX17_init 54 = .ok (.getfield 28, 3) := dk_180 0 28 (dk_at dksX17_init_2 7 rfl rfl)
theorem dX17_init_57 : decode cX17_init 57 = .ok (.aload_n 1, 1) := dk_43 (dk_at dksX17_init_2 10 rfl rfl)
theorem dX17_init_58 : decode cX17_init 58 = .ok (.iload_n 3, 1) := dk_29 (dk_at dksX17_init_2 11 rfl rfl)
theorem dX17_init_59 : decode cX17_init 59 = .ok (.aload_n 0, 1) := dk_42 (dk_at dksX17_init_2 12 rfl rfl)
theorem dX17_init_60 : decode cX17_init 60 = .ok (.getfield 15, 3) := dk_180 0 15 (dk_at dksX17_init_2 13 rfl rfl)
theorem dX17_init_63 : decode cX17_init 63 = .ok (.irem, 1) := dk_112 (dk_at dksX17_init_2 16 rfl rfl)
theorem dX17_init_64 : decode cX17_init 64 = .ok (.invokevirtual 24, 3) := dk_182 0 24 (dk_at dksX17_init_2 17 rfl rfl)
theorem dX17_init_67 : decode cX17_init 67 = .ok (.getfield 28, 3) := dk_180 0 28 (dk_at dksX17_init_2 20 rfl rfl)
theorem dX17_init_70 : decode cX17_init 70 = .ok (.invokestatic 34, 3) := dk_184 0 34 (dk_at dksX17_init_3 0 rfl rfl)
theorem dX17_init_73 : decode cX17_init 73 = .ok (.iastore, 1) := dk_79 (dk_at dksX17_init_3 3 rfl rfl)
theorem dX17_init_74 : decode cX17_init 74 = .ok (.iinc 3 1, 3) := dk_132 3 1 (dk_at dksX17_init_3 4 rfl rfl)
theorem dX17_init_77 : decode cX17_init 77 = .ok (.goto (-48), 3) := dk_167 255 208 (dk_at dksX17_init_3 7 rfl rfl)
theorem dX17_init_80 : decode cX17_init 80 = .ok (.return_, 1) := dk_177 (dk_at dksX17_init_3 10 rfl rfl)
def dkwX17_best_4 : List UInt8 := [62, 132, 4, 1, 167, 255, 165, 28, 172]
abbrev dktX17_best_4 : List UInt8 := dkwX17_best_4 ++ []
def dkwX17_best_3 : List UInt8 := [167, 0, 4, 3, 54, 6, 21, 6, 153, 0, 8, 21, 4, 167, 0, 4, 28, 61, 29, 21, 5, 184, 0, 39]
abbrev dktX17_best_3 : List UInt8 := dkwX17_best_3 ++ dktX17_best_4
def dkwX17_best_2 : List UInt8 := [21, 5, 29, 160, 0, 23, 21, 5, 18, 38, 162, 0, 16, 21, 4, 28, 184, 0, 55, 153, 0, 7, 4]
abbrev dktX17_best_2 : List UInt8 := dkwX17_best_2 ++ dktX17_best_3
def dkwX17_best_1 : List UInt8 := [46, 27, 160, 0, 12, 42, 21, 4, 182, 0, 51, 167, 0, 5, 18, 38, 54, 5, 21, 5, 29, 161, 0, 25]
abbrev dktX17_best_1 : List UInt8 := dkwX17_best_1 ++ dktX17_best_2
def dkwX17_best_0 : List UInt8 := [3, 61, 18, 38, 62, 4, 54, 4, 21, 4, 4, 42, 180, 0, 15, 120, 162, 0, 86, 178, 0, 48, 21, 4]
abbrev dktX17_best_0 : List UInt8 := dkwX17_best_0 ++ dktX17_best_1
theorem dksX17_best_0 : cX17_best.data.toList.drop 0 = dktX17_best_0 := by decide +kernel
theorem dksX17_best_1 : cX17_best.data.toList.drop 24 = dktX17_best_1 := dk_seg dksX17_best_0 24 rfl rfl
theorem dksX17_best_2 : cX17_best.data.toList.drop 48 = dktX17_best_2 := dk_seg dksX17_best_1 24 rfl rfl
theorem dksX17_best_3 : cX17_best.data.toList.drop 71 = dktX17_best_3 := dk_seg dksX17_best_2 23 rfl rfl
theorem dksX17_best_4 : cX17_best.data.toList.drop 95 = dktX17_best_4 := dk_seg dksX17_best_3 24 rfl rfl
theorem dX17_best_0 : decode cX17_best 0 = .ok (.iconst 0, 1) := dk_3 (dk_at dksX17_best_0 0 rfl rfl)
theorem dX17_best_1 : decode cX17_best 1 = .ok (.istore_n 2, 1) := dk_61 (dk_at dksX17_best_0 1 rfl rfl)
theorem dX17_best_2 : decode cX17_best 2 = .ok (.ldc 38, 2) := dk_18 38 (dk_at dksX17_best_0 2 rfl rfl)
theorem dX17_best_4 : decode cX17_best 4 = .ok (.istore_n 3, 1) := dk_62 (dk_at dksX17_best_0 4 rfl rfl)
theorem dX17_best_5 : decode cX17_best 5 = .ok (.iconst 1, 1) := dk_4 (dk_at dksX17_best_0 5 rfl rfl)
theorem dX17_best_6 : decode cX17_best 6 = .ok (.istore 4, 2) := dk_54 4 (dk_at dksX17_best_0 6 rfl rfl)
theorem dX17_best_8 : decode cX17_best 8 = .ok (.iload 4, 2) := dk_21 4 (dk_at dksX17_best_0 8 rfl rfl)
theorem dX17_best_10 : decode cX17_best 10 = .ok (.iconst 1, 1) := dk_4 (dk_at dksX17_best_0 10 rfl rfl)
theorem dX17_best_11 : decode cX17_best 11 = .ok (.aload_n 0, 1) := dk_42 (dk_at dksX17_best_0 11 rfl rfl)
theorem dX17_best_12 : decode cX17_best 12 = .ok (.getfield 15, 3) := dk_180 0 15 (dk_at dksX17_best_0 12 rfl rfl)
theorem dX17_best_15 : decode cX17_best 15 = .ok (.ishl, 1) := dk_120 (dk_at dksX17_best_0 15 rfl rfl)
theorem dX17_best_16 : decode cX17_best 16 = .ok (.if_icmp .ge 86, 3) := dk_162 0 86 (dk_at dksX17_best_0 16 rfl rfl)
theorem dX17_best_19 : decode cX17_best 19 = .ok (.getstatic 48, 3) := dk_178 0 48 (dk_at dksX17_best_0 19 rfl rfl)
theorem dX17_best_22 : decode cX17_best 22 = .ok (.iload 4, 2) := dk_21 4 (dk_at dksX17_best_0 22 rfl rfl)
theorem dX17_best_24 : decode cX17_best 24 = .ok (.iaload, 1) := dk_46 (dk_at dksX17_best_1 0 rfl rfl)
theorem dX17_best_25 : decode cX17_best 25 = .ok (.iload_n 1, 1) := dk_27 (dk_at dksX17_best_1 1 rfl rfl)
theorem dX17_best_26 : decode cX17_best 26 = .ok (.if_icmp .ne 12, 3) := dk_160 0 12 (dk_at dksX17_best_1 2 rfl rfl)
theorem dX17_best_29 : decode cX17_best 29 = .ok (.aload_n 0, 1) := dk_42 (dk_at dksX17_best_1 5 rfl rfl)
theorem dX17_best_30 : decode cX17_best 30 = .ok (.iload 4, 2) := dk_21 4 (dk_at dksX17_best_1 6 rfl rfl)
theorem dX17_best_32 : decode cX17_best 32 = .ok (.invokevirtual 51, 3) := dk_182 0 51 (dk_at dksX17_best_1 8 rfl rfl)
theorem dX17_best_35 : decode cX17_best 35 = .ok (.goto 5, 3) := dk_167 0 5 (dk_at dksX17_best_1 11 rfl rfl)
theorem dX17_best_38 : decode cX17_best 38 = .ok (.ldc 38, 2) := dk_18 38 (dk_at dksX17_best_1 14 rfl rfl)
theorem dX17_best_40 : decode cX17_best 40 = .ok (.istore 5, 2) := dk_54 5 (dk_at dksX17_best_1 16 rfl rfl)
theorem dX17_best_42 : decode cX17_best 42 = .ok (.iload 5, 2) := dk_21 5 (dk_at dksX17_best_1 18 rfl rfl)
theorem dX17_best_44 : decode cX17_best 44 = .ok (.iload_n 3, 1) := dk_29 (dk_at dksX17_best_1 20 rfl rfl)
theorem dX17_best_45 : decode cX17_best 45 = .ok (.if_icmp .lt 25, 3) := dk_161 0 25 (dk_at dksX17_best_1 21 rfl rfl)
theorem dX17_best_48 : decode cX17_best 48 = .ok (.iload 5, 2) := dk_21 5 (dk_at dksX17_best_2 0 rfl rfl)
theorem dX17_best_50 : decode cX17_best 50 = .ok (.iload_n 3, 1) := dk_29 (dk_at dksX17_best_2 2 rfl rfl)
theorem dX17_best_51 : decode cX17_best 51 = .ok (.if_icmp .ne 23, 3) := dk_160 0 23 (dk_at dksX17_best_2 3 rfl rfl)
theorem dX17_best_54 : decode cX17_best 54 = .ok (.iload 5, 2) := dk_21 5 (dk_at dksX17_best_2 6 rfl rfl)
theorem dX17_best_56 : decode cX17_best 56 = .ok (.ldc 38, 2) := dk_18 38 (dk_at dksX17_best_2 8 rfl rfl)
theorem dX17_best_58 : decode cX17_best 58 = .ok (.if_icmp .ge 16, 3) := dk_162 0 16 (dk_at dksX17_best_2 10 rfl rfl)
theorem dX17_best_61 : decode cX17_best 61 = .ok (.iload 4, 2) := dk_21 4 (dk_at dksX17_best_2 13 rfl rfl)
theorem dX17_best_63 : decode cX17_best 63 = .ok (.iload_n 2, 1) := dk_28 (dk_at dksX17_best_2 15 rfl rfl)
theorem dX17_best_64 : decode cX17_best 64 = .ok (.invokestatic 55, 3) := dk_184 0 55 (dk_at dksX17_best_2 16 rfl rfl)
theorem dX17_best_67 : decode cX17_best 67 = .ok (.ifCond .eq 7, 3) := dk_153 0 7 (dk_at dksX17_best_2 19 rfl rfl)
theorem dX17_best_70 : decode cX17_best 70 = .ok (.iconst 1, 1) := dk_4 (dk_at dksX17_best_2 22 rfl rfl)
theorem dX17_best_71 : decode cX17_best 71 = .ok (.goto 4, 3) := dk_167 0 4 (dk_at dksX17_best_3 0 rfl rfl)
theorem dX17_best_74 : decode cX17_best 74 = .ok (.iconst 0, 1) := dk_3 (dk_at dksX17_best_3 3 rfl rfl)
theorem dX17_best_75 : decode cX17_best 75 = .ok (.istore 6, 2) := dk_54 6 (dk_at dksX17_best_3 4 rfl rfl)
theorem dX17_best_77 : decode cX17_best 77 = .ok (.iload 6, 2) := dk_21 6 (dk_at dksX17_best_3 6 rfl rfl)
theorem dX17_best_79 : decode cX17_best 79 = .ok (.ifCond .eq 8, 3) := dk_153 0 8 (dk_at dksX17_best_3 8 rfl rfl)
theorem dX17_best_82 : decode cX17_best 82 = .ok (.iload 4, 2) := dk_21 4 (dk_at dksX17_best_3 11 rfl rfl)
theorem dX17_best_84 : decode cX17_best 84 = .ok (.goto 4, 3) := dk_167 0 4 (dk_at dksX17_best_3 13 rfl rfl)
theorem dX17_best_87 : decode cX17_best 87 = .ok (.iload_n 2, 1) := dk_28 (dk_at dksX17_best_3 16 rfl rfl)
theorem dX17_best_88 : decode cX17_best 88 = .ok (.istore_n 2, 1) := dk_61 (dk_at dksX17_best_3 17 rfl rfl)
theorem dX17_best_89 : decode cX17_best 89 = .ok (.iload_n 3, 1) := dk_29 (dk_at dksX17_best_3 18 rfl rfl)
theorem dX17_best_90 : decode cX17_best 90 = .ok (.iload 5, 2) := dk_21 5 (dk_at dksX17_best_3 19 rfl rfl)
theorem dX17_best_92 : decode cX17_best 92 = .ok (.invokestatic 39, 3) := dk_184 0 39 (dk_at dksX17_best_3 21 rfl rfl)
theorem dX17_best_95 : decode cX17_best 95 = .ok (.istore_n 3, 1) := dk_62 (dk_at dksX17_best_4 0 rfl rfl)
theorem dX17_best_96 : decode cX17_best 96 = .ok (.iinc 4 1, 3) := dk_132 4 1 (dk_at dksX17_best_4 1 rfl rfl)
theorem dX17_best_99 : decode cX17_best 99 = .ok (.goto (-91), 3) := dk_167 255 165 (dk_at dksX17_best_4 4 rfl rfl)
theorem dX17_best_102 : decode cX17_best 102 = .ok (.iload_n 2, 1) := dk_28 (dk_at dksX17_best_4 7 rfl rfl)
theorem dX17_best_103 : decode cX17_best 103 = .ok (.ireturn, 1) := dk_172 (dk_at dksX17_best_4 8 rfl rfl)
def dkwX17_error_1 : List UInt8 := [167, 255, 236, 28, 172]
abbrev dktX17_error_1 : List UInt8 := dkwX17_error_1 ++ []
def dkwX17_error_0 : List UInt8 := [3, 61, 3, 62, 29, 42, 180, 0, 15, 162, 0, 18, 28, 42, 27, 29, 182, 0, 45, 96, 61, 132, 3, 1]
abbrev dktX17_error_0 : List UInt8 := dkwX17_error_0 ++ dktX17_error_1
theorem dksX17_error_0 : cX17_error.data.toList.drop 0 = dktX17_error_0 := by decide +kernel
theorem dksX17_error_1 : cX17_error.data.toList.drop 24 = dktX17_error_1 := dk_seg dksX17_error_0 24 rfl rfl
theorem dX17_error_0 : decode cX17_error 0 = .ok (.iconst 0, 1) := dk_3 (dk_at dksX17_error_0 0 rfl rfl)
theorem dX17_error_1 : decode cX17_error 1 = .ok (.istore_n 2, 1) := dk_61 (dk_at dksX17_error_0 1 rfl rfl)
theorem dX17_error_2 : decode cX17_error 2 = .ok (.iconst 0, 1) := dk_3 (dk_at dksX17_error_0 2 rfl rfl)
theorem dX17_error_3 : decode cX17_error 3 = .ok (.istore_n 3, 1) := dk_62 (dk_at dksX17_error_0 3 rfl rfl)
theorem dX17_error_4 : decode cX17_error 4 = .ok (.iload_n 3, 1) := dk_29 (dk_at dksX17_error_0 4 rfl rfl)
theorem dX17_error_5 : decode cX17_error 5 = .ok (.aload_n 0, 1) := dk_42 (dk_at dksX17_error_0 5 rfl rfl)
theorem dX17_error_6 : decode cX17_error 6 = .ok (.getfield 15, 3) := dk_180 0 15 (dk_at dksX17_error_0 6 rfl rfl)
theorem dX17_error_9 : decode cX17_error 9 = .ok (.if_icmp .ge 18, 3) := dk_162 0 18 (dk_at dksX17_error_0 9 rfl rfl)
theorem dX17_error_12 : decode cX17_error 12 = .ok (.iload_n 2, 1) := dk_28 (dk_at dksX17_error_0 12 rfl rfl)
theorem dX17_error_13 : decode cX17_error 13 = .ok (.aload_n 0, 1) := dk_42 (dk_at dksX17_error_0 13 rfl rfl)
theorem dX17_error_14 : decode cX17_error 14 = .ok (.iload_n 1, 1) := dk_27 (dk_at dksX17_error_0 14 rfl rfl)
theorem dX17_error_15 : decode cX17_error 15 = .ok (.iload_n 3, 1) := dk_29 (dk_at dksX17_error_0 15 rfl rfl)
theorem dX17_error_16 : decode cX17_error 16 = .ok (.invokevirtual 45, 3) := dk_182 0 45 (dk_at dksX17_error_0 16 rfl rfl)
theorem dX17_error_19 : decode cX17_error 19 = .ok (.iadd, 1) := dk_96 (dk_at dksX17_error_0 19 rfl rfl)
theorem dX17_error_20 : decode cX17_error 20 = .ok (.istore_n 2, 1) := dk_61 (dk_at dksX17_error_0 20 rfl rfl)
theorem dX17_error_21 : decode cX17_error 21 = .ok (.iinc 3 1, 3) := dk_132 3 1 (dk_at dksX17_error_0 21 rfl rfl)
theorem dX17_error_24 : decode cX17_error 24 = .ok (.goto (-20), 3) := dk_167 255 236 (dk_at dksX17_error_1 0 rfl rfl)
theorem dX17_error_27 : decode cX17_error 27 = .ok (.iload_n 2, 1) := dk_28 (dk_at dksX17_error_1 3 rfl rfl)
theorem dX17_error_28 : decode cX17_error 28 = .ok (.ireturn, 1) := dk_172 (dk_at dksX17_error_1 4 rfl rfl)
def dkwX17_distanceTo_2 : List UInt8 := [29, 62, 132, 4, 1, 167, 255, 211, 29, 172]
abbrev dktX17_distanceTo_2 : List UInt8 := dkwX17_distanceTo_2 ++ []
def dkwX17_distanceTo_1 : List UInt8 := [160, 0, 24, 29, 42, 180, 0, 20, 42, 180, 0, 15, 28, 104, 21, 4, 96, 46, 184, 0, 39, 167, 0, 4]
abbrev dktX17_distanceTo_1 : List UInt8 := dkwX17_distanceTo_1 ++ dktX17_distanceTo_2
def dkwX17_distanceTo_0 : List UInt8 := [18, 38, 62, 3, 54, 4, 21, 4, 42, 180, 0, 15, 162, 0, 42, 27, 21, 4, 122, 4, 126, 4]
abbrev dktX17_distanceTo_0 : List UInt8 := dkwX17_distanceTo_0 ++ dktX17_distanceTo_1
theorem dksX17_distanceTo_0 : cX17_distanceTo.data.toList.drop 0 = dktX17_distanceTo_0 := by decide +kernel
theorem dksX17_distanceTo_1 : cX17_distanceTo.data.toList.drop 22 = dktX17_distanceTo_1 := dk_seg dksX17_distanceTo_0 22 rfl rfl
theorem dksX17_distanceTo_2 : cX17_distanceTo.data.toList.drop 46 = dktX17_distanceTo_2 := dk_seg dksX17_distanceTo_1 24 rfl rfl
theorem dX17_distanceTo_0 : decode cX17_distanceTo 0 = .ok (.ldc 38, 2) := dk_18 38 (dk_at dksX17_distanceTo_0 0 rfl rfl)
theorem dX17_distanceTo_2 : decode cX17_distanceTo 2 = .ok (.istore_n 3, 1) := dk_62 (dk_at dksX17_distanceTo_0 2 rfl rfl)
theorem dX17_distanceTo_3 : decode cX17_distanceTo 3 = .ok (.iconst 0, 1) := dk_3 (dk_at dksX17_distanceTo_0 3 rfl rfl)
theorem dX17_distanceTo_4 : decode cX17_distanceTo 4 = .ok (.istore 4, 2) := dk_54 4 (dk_at dksX17_distanceTo_0 4 rfl rfl)
theorem dX17_distanceTo_6 : decode cX17_distanceTo 6 = .ok (.iload 4, 2) := dk_21 4 (dk_at dksX17_distanceTo_0 6 rfl rfl)
theorem dX17_distanceTo_8 : decode cX17_distanceTo 8 = .ok (.aload_n 0, 1) := dk_42 (dk_at dksX17_distanceTo_0 8 rfl rfl)
theorem dX17_distanceTo_9 : decode cX17_distanceTo 9 = .ok (.getfield 15, 3) := dk_180 0 15 (dk_at dksX17_distanceTo_0 9 rfl rfl)
theorem dX17_distanceTo_12 : decode cX17_distanceTo 12 = .ok (.if_icmp .ge 42, 3) := dk_162 0 42 (dk_at dksX17_distanceTo_0 12 rfl rfl)
theorem dX17_distanceTo_15 : decode cX17_distanceTo 15 = .ok (.iload_n 1, 1) := dk_27 (dk_at dksX17_distanceTo_0 15 rfl rfl)
theorem dX17_distanceTo_16 : decode cX17_distanceTo 16 = .ok (.iload 4, 2) := dk_21 4 (dk_at dksX17_distanceTo_0 16 rfl rfl)
theorem dX17_distanceTo_18 : decode cX17_distanceTo 18 = .ok (.ishr, 1) := dk_122 (dk_at dksX17_distanceTo_0 18 rfl rfl)
theorem dX17_distanceTo_19 : decode cX17_distanceTo 19 = .ok (.iconst 1, 1) := dk_4 (dk_at dksX17_distanceTo_0 19 rfl rfl)
theorem dX17_distanceTo_20 : decode cX17_distanceTo 20 = .ok (.iand, 1) := dk_126 (dk_at dksX17_distanceTo_0 20 rfl rfl)
theorem dX17_distanceTo_21 : decode cX17_distanceTo 21 = .ok (.iconst 1, 1) := dk_4 (dk_at dksX17_distanceTo_0 21 rfl rfl)
theorem dX17_distanceTo_22 : decode cX17_distanceTo 22 = .ok (.if_icmp .ne 24, 3) := dk_160 0 24 (dk_at dksX17_distanceTo_1 0 rfl rfl)
theorem dX17_distanceTo_25 : decode cX17_distanceTo 25 = .ok (.iload_n 3, 1) := dk_29 (dk_at dksX17_distanceTo_1 3 rfl rfl)
theorem dX17_distanceTo_26 : decode cX17_distanceTo 26 = .ok (.aload_n 0, 1) := dk_42 (dk_at dksX17_distanceTo_1 4 rfl rfl)
theorem dX17_distanceTo_27 : decode cX17_distanceTo 27 = .ok (.getfield 20, 3) := dk_180 0 20 (dk_at dksX17_distanceTo_1 5 rfl rfl)
theorem dX17_distanceTo_30 : decode cX17_distanceTo 30 = .ok (.aload_n 0, 1) := dk_42 (dk_at dksX17_distanceTo_1 8 rfl rfl)
theorem dX17_distanceTo_31 : decode cX17_distanceTo 31 = .ok (.getfield 15, 3) := dk_180 0 15 (dk_at dksX17_distanceTo_1 9 rfl rfl)
theorem dX17_distanceTo_34 : decode cX17_distanceTo 34 = .ok (.iload_n 2, 1) := dk_28 (dk_at dksX17_distanceTo_1 12 rfl rfl)
theorem dX17_distanceTo_35 : decode cX17_distanceTo 35 = .ok (.imul, 1) := dk_104 (dk_at dksX17_distanceTo_1 13 rfl rfl)
theorem dX17_distanceTo_36 : decode cX17_distanceTo 36 = .ok (.iload 4, 2) := dk_21 4 (dk_at dksX17_distanceTo_1 14 rfl rfl)
theorem dX17_distanceTo_38 : decode cX17_distanceTo 38 = .ok (.iadd, 1) := dk_96 (dk_at dksX17_distanceTo_1 16 rfl rfl)
theorem dX17_distanceTo_39 : decode cX17_distanceTo 39 = .ok (.iaload, 1) := dk_46 (dk_at dksX17_distanceTo_1 17 rfl rfl)
theorem dX17_distanceTo_40 : decode cX17_distanceTo 40 = .ok (.invokestatic 39, 3) := dk_184 0 39 (dk_at dksX17_distanceTo_1 18 rfl rfl)
theorem dX17_distanceTo_43 : decode cX17_distanceTo 43 = .ok (.goto 4, 3) := dk_167 0 4 (dk_at dksX17_distanceTo_1 21 rfl rfl)
theorem dX17_distanceTo_46 : decode cX17_distanceTo 46 = .ok (.iload_n 3, 1) := dk_29 (dk_at dksX17_distanceTo_2 0 rfl rfl)
theorem dX17_distanceTo_47 : decode cX17_distanceTo 47 = .ok (.istore_n 3, 1) := dk_62 (dk_at dksX17_distanceTo_2 1 rfl rfl)
theorem dX17_distanceTo_48 : decode cX17_distanceTo 48 = .ok (.iinc 4 1, 3) := dk_132 4 1 (dk_at dksX17_distanceTo_2 2 rfl rfl)
theorem dX17_distanceTo_51 : decode cX17_distanceTo 51 = .ok (.goto (-45), 3) := dk_167 255 211 (dk_at dksX17_distanceTo_2 5 rfl rfl)
theorem dX17_distanceTo_54 : decode cX17_distanceTo 54 = .ok (.iload_n 3, 1) := dk_29 (dk_at dksX17_distanceTo_2 8 rfl rfl)
theorem dX17_distanceTo_55 : decode cX17_distanceTo 55 = .ok (.ireturn, 1) := dk_172 (dk_at dksX17_distanceTo_2 9 rfl rfl)
def dkwX17_hasLowest_0 : List UInt8 := [26, 27, 130, 61, 26, 28, 126, 28, 116, 126, 153, 0, 7, 4, 167, 0, 4, 3, 172]
abbrev dktX17_hasLowest_0 : List UInt8 := dkwX17_hasLowest_0 ++ []
theorem dksX17_hasLowest_0 : cX17_hasLowest.data.toList.drop 0 = dktX17_hasLowest_0 := by decide +kernel
theorem dX17_hasLowest_0 : decode cX17_hasLowest 0 = .ok (.iload_n 0, 1) := dk_26 (dk_at dksX17_hasLowest_0 0 rfl rfl)
theorem dX17_hasLowest_1 : decode cX17_hasLowest 1 = .ok (.iload_n 1, 1) := dk_27 (dk_at dksX17_hasLowest_0 1 rfl rfl)
theorem dX17_hasLowest_2 : decode cX17_hasLowest 2 = .ok (.ixor, 1) := dk_130 (dk_at dksX17_hasLowest_0 2 rfl rfl)
theorem dX17_hasLowest_3 : decode cX17_hasLowest 3 = .ok (.istore_n 2, 1) := dk_61 (dk_at dksX17_hasLowest_0 3 rfl rfl)
theorem dX17_hasLowest_4 : decode cX17_hasLowest 4 = .ok (.iload_n 0, 1) := dk_26 (dk_at dksX17_hasLowest_0 4 rfl rfl)
theorem dX17_hasLowest_5 : decode cX17_hasLowest 5 = .ok (.iload_n 2, 1) := dk_28 (dk_at dksX17_hasLowest_0 5 rfl rfl)
theorem dX17_hasLowest_6 : decode cX17_hasLowest 6 = .ok (.iand, 1) := dk_126 (dk_at dksX17_hasLowest_0 6 rfl rfl)
theorem dX17_hasLowest_7 : decode cX17_hasLowest 7 = .ok (.iload_n 2, 1) := dk_28 (dk_at dksX17_hasLowest_0 7 rfl rfl)
theorem dX17_hasLowest_8 : decode cX17_hasLowest 8 = .ok (.ineg, 1) := dk_116 (dk_at dksX17_hasLowest_0 8 rfl rfl)
theorem dX17_hasLowest_9 : decode cX17_hasLowest 9 = .ok (.iand, 1) := dk_126 (dk_at dksX17_hasLowest_0 9 rfl rfl)
theorem dX17_hasLowest_10 : decode cX17_hasLowest 10 = .ok (.ifCond .eq 7, 3) := dk_153 0 7 (dk_at dksX17_hasLowest_0 10 rfl rfl)
theorem dX17_hasLowest_13 : decode cX17_hasLowest 13 = .ok (.iconst 1, 1) := dk_4 (dk_at dksX17_hasLowest_0 13 rfl rfl)
theorem dX17_hasLowest_14 : decode cX17_hasLowest 14 = .ok (.goto 4, 3) := dk_167 0 4 (dk_at dksX17_hasLowest_0 14 rfl rfl)
theorem dX17_hasLowest_17 : decode cX17_hasLowest 17 = .ok (.iconst 0, 1) := dk_3 (dk_at dksX17_hasLowest_0 17 rfl rfl)
theorem dX17_hasLowest_18 : decode cX17_hasLowest 18 = .ok (.ireturn, 1) := dk_172 (dk_at dksX17_hasLowest_0 18 rfl rfl)
def dkwX17_leastError_0 : List UInt8 := [42, 18, 38, 181, 0, 59, 42, 3, 3, 27, 182, 0, 62, 42, 180, 0, 59, 172]
abbrev dktX17_leastError_0 : List UInt8 := dkwX17_leastError_0 ++ []
theorem dksX17_leastError_0 : cX17_leastError.data.toList.drop 0 = dktX17_leastError_0 := by decide +kernel
theorem dX17_leastError_0 : decode cX17_leastError 0 = .ok (.aload_n 0, 1) := dk_42 (dk_at dksX17_leastError_0 0 rfl rfl)
theorem dX17_leastError_1 : decode cX17_leastError 1 = .ok (.ldc 38, 2) := dk_18 38 (dk_at dksX17_leastError_0 1 rfl rfl)
theorem dX17_leastError_3 : decode cX17_leastError 3 = .ok (.putfield 59, 3) := dk_181 0 59 (dk_at dksX17_leastError_0 3 rfl rfl)
theorem dX17_leastError_6 : decode cX17_leastError 6 = .ok (.aload_n 0, 1) := dk_42 (dk_at dksX17_leastError_0 6 rfl rfl)
theorem dX17_leastError_7 : decode cX17_leastError 7 = .ok (.iconst 0, 1) := dk_3 (dk_at dksX17_leastError_0 7 rfl rfl)
theorem dX17_leastError_8 : decode cX17_leastError 8 = .ok (.iconst 0, 1) := dk_3 (dk_at dksX17_leastError_0 8 rfl rfl)
theorem dX17_leastError_9 : decode cX17_leastError 9 = .ok (.iload_n 1, 1) := dk_27 (dk_at dksX17_leastError_0 9 rfl rfl)
theorem dX17_leastError_10 : decode cX17_leastError 10 = .ok (.invokevirtual 62, 3) := dk_182 0 62 (dk_at dksX17_leastError_0 10 rfl rfl)
theorem dX17_leastError_13 : decode cX17_leastError 13 = .ok (.aload_n 0, 1) := dk_42 (dk_at dksX17_leastError_0 13 rfl rfl)
theorem dX17_leastError_14 : decode cX17_leastError 14 = .ok (.getfield 59, 3) := dk_180 0 59 (dk_at dksX17_leastError_0 14 rfl rfl)
theorem dX17_leastError_17 : decode cX17_leastError 17 = .ok (.ireturn, 1) := dk_172 (dk_at dksX17_leastError_0 17 rfl rfl)
def dkwX17_search_2 : List UInt8 := [4, 96, 28, 4, 27, 120, 128, 29, 4, 100, 182, 0, 62, 42, 27, 4, 96, 28, 29, 182, 0, 62, 177]
abbrev dktX17_search_2 : List UInt8 := dkwX17_search_2 ++ []
def dkwX17_search_1 : List UInt8 := [180, 0, 15, 27, 100, 29, 161, 0, 40, 42, 27, 28, 182, 0, 66, 42, 180, 0, 59, 162, 0, 27, 42, 27]
abbrev dktX17_search_1 : List UInt8 := dkwX17_search_1 ++ dktX17_search_2
def dkwX17_search_0 : List UInt8 := [29, 154, 0, 22, 42, 42, 180, 0, 59, 42, 28, 182, 0, 51, 184, 0, 39, 181, 0, 59, 167, 0, 50, 42]
abbrev dktX17_search_0 : List UInt8 := dkwX17_search_0 ++ dktX17_search_1
theorem dksX17_search_0 : cX17_search.data.toList.drop 0 = dktX17_search_0 := by decide +kernel
theorem dksX17_search_1 : cX17_search.data.toList.drop 24 = dktX17_search_1 := dk_seg dksX17_search_0 24 rfl rfl
theorem dksX17_search_2 : cX17_search.data.toList.drop 48 = dktX17_search_2 := dk_seg dksX17_search_1 24 rfl rfl
theorem dX17_search_0 : decode cX17_search 0 = .ok (.iload_n 3, 1) := dk_29 (dk_at dksX17_search_0 0 rfl rfl)
theorem dX17_search_1 : decode cX17_search 1 = .ok (.ifCond .ne 22, 3) := dk_154 0 22 (dk_at dksX17_search_0 1 rfl rfl)
theorem dX17_search_4 : decode cX17_search 4 = .ok (.aload_n 0, 1) := dk_42 (dk_at dksX17_search_0 4 rfl rfl)
theorem dX17_search_5 : decode cX17_search 5 = .ok (.aload_n 0, 1) := dk_42 (dk_at dksX17_search_0 5 rfl rfl)
theorem dX17_search_6 : decode cX17_search 6 = .ok (.getfield 59, 3) := dk_180 0 59 (dk_at dksX17_search_0 6 rfl rfl)
theorem dX17_search_9 : decode cX17_search 9 = .ok (.aload_n 0, 1) := dk_42 (dk_at dksX17_search_0 9 rfl rfl)
theorem dX17_search_10 : decode cX17_search 10 = .ok (.iload_n 2, 1) := dk_28 (dk_at dksX17_search_0 10 rfl rfl)
theorem dX17_search_11 : decode cX17_search 11 = .ok (.invokevirtual 51, 3) := dk_182 0 51 (dk_at dksX17_search_0 11 rfl rfl)
theorem dX17_search_14 : decode cX17_search 14 = .ok (.invokestatic 39, 3) := dk_184 0 39 (dk_at dksX17_search_0 14 rfl rfl)
theorem dX17_search_17 : decode cX17_search 17 = .ok (.putfield 59, 3) := dk_181 0 59 (dk_at dksX17_search_0 17 rfl rfl)
theorem dX17_search_20 : decode cX17_search 20 = .ok (.goto 50, 3) := dk_167 0 50 (dk_at dksX17_search_0 20 rfl rfl)
theorem dX17_search_23 : decode cX17_search 23 = .ok (.aload_n 0, 1) := dk_42 (dk_at dksX17_search_0 23 rfl rfl)
theorem dX17_search_24 : decode cX17_search 24 = .ok (.getfield 15, 3) := dk_180 0 15 (dk_at dksX17_search_1 0 rfl rfl)
theorem dX17_search_27 : decode cX17_search 27 = .ok (.iload_n 1, 1) := dk_27 (dk_at dksX17_search_1 3 rfl rfl)
theorem dX17_search_28 : decode cX17_search 28 = .ok (.isub, 1) := dk_100 (dk_at dksX17_search_1 4 rfl rfl)
theorem dX17_search_29 : decode cX17_search 29 = .ok (.iload_n 3, 1) := dk_29 (dk_at dksX17_search_1 5 rfl rfl)
theorem dX17_search_30 : decode cX17_search 30 = .ok (.if_icmp .lt 40, 3) := dk_161 0 40 (dk_at dksX17_search_1 6 rfl rfl)
theorem dX17_search_33 : decode cX17_search 33 = .ok (.aload_n 0, 1) := dk_42 (dk_at dksX17_search_1 9 rfl rfl)
theorem dX17_search_34 : decode cX17_search 34 = .ok (.iload_n 1, 1) := dk_27 (dk_at dksX17_search_1 10 rfl rfl)
theorem dX17_search_35 : decode cX17_search 35 = .ok (.iload_n 2, 1) := dk_28 (dk_at dksX17_search_1 11 rfl rfl)
theorem dX17_search_36 : decode cX17_search 36 = .ok (.invokevirtual 66, 3) := dk_182 0 66 (dk_at dksX17_search_1 12 rfl rfl)
theorem dX17_search_39 : decode cX17_search 39 = .ok (.aload_n 0, 1) := dk_42 (dk_at dksX17_search_1 15 rfl rfl)
theorem dX17_search_40 : decode cX17_search 40 = .ok (.getfield 59, 3) := dk_180 0 59 (dk_at dksX17_search_1 16 rfl rfl)
theorem dX17_search_43 : decode cX17_search 43 = .ok (.if_icmp .ge 27, 3) := dk_162 0 27 (dk_at dksX17_search_1 19 rfl rfl)
theorem dX17_search_46 : decode cX17_search 46 = .ok (.aload_n 0, 1) := dk_42 (dk_at dksX17_search_1 22 rfl rfl)
theorem dX17_search_47 : decode cX17_search 47 = .ok (.iload_n 1, 1) := dk_27 (dk_at dksX17_search_1 23 rfl rfl)
theorem dX17_search_48 : decode cX17_search 48 = .ok (.iconst 1, 1) := dk_4 (dk_at dksX17_search_2 0 rfl rfl)
theorem dX17_search_49 : decode cX17_search 49 = .ok (.iadd, 1) := dk_96 (dk_at dksX17_search_2 1 rfl rfl)
theorem dX17_search_50 : decode cX17_search 50 = .ok (.iload_n 2, 1) := dk_28 (dk_at dksX17_search_2 2 rfl rfl)
theorem dX17_search_51 : decode cX17_search 51 = .ok (.iconst 1, 1) := dk_4 (dk_at dksX17_search_2 3 rfl rfl)
theorem dX17_search_52 : decode cX17_search 52 = .ok (.iload_n 1, 1) := dk_27 (dk_at dksX17_search_2 4 rfl rfl)
theorem dX17_search_53 : decode cX17_search 53 = .ok (.ishl, 1) := dk_120 (dk_at dksX17_search_2 5 rfl rfl)
theorem dX17_search_54 : decode cX17_search 54 = .ok (.ior, 1) := dk_128 (dk_at dksX17_search_2 6 rfl rfl)
theorem dX17_search_55 : decode cX17_search 55 = .ok (.iload_n 3, 1) := dk_29 (dk_at dksX17_search_2 7 rfl rfl)
theorem dX17_search_56 : decode cX17_search 56 = .ok (.iconst 1, 1) := dk_4 (dk_at dksX17_search_2 8 rfl rfl)
theorem dX17_search_57 : decode cX17_search 57 = .ok (.isub, 1) := dk_100 (dk_at dksX17_search_2 9 rfl rfl)
theorem dX17_search_58 : decode cX17_search 58 = .ok (.invokevirtual 62, 3) := dk_182 0 62 (dk_at dksX17_search_2 10 rfl rfl)
theorem dX17_search_61 : decode cX17_search 61 = .ok (.aload_n 0, 1) := dk_42 (dk_at dksX17_search_2 13 rfl rfl)
theorem dX17_search_62 : decode cX17_search 62 = .ok (.iload_n 1, 1) := dk_27 (dk_at dksX17_search_2 14 rfl rfl)
theorem dX17_search_63 : decode cX17_search 63 = .ok (.iconst 1, 1) := dk_4 (dk_at dksX17_search_2 15 rfl rfl)
theorem dX17_search_64 : decode cX17_search 64 = .ok (.iadd, 1) := dk_96 (dk_at dksX17_search_2 16 rfl rfl)
theorem dX17_search_65 : decode cX17_search 65 = .ok (.iload_n 2, 1) := dk_28 (dk_at dksX17_search_2 17 rfl rfl)
theorem dX17_search_66 : decode cX17_search 66 = .ok (.iload_n 3, 1) := dk_29 (dk_at dksX17_search_2 18 rfl rfl)
theorem dX17_search_67 : decode cX17_search 67 = .ok (.invokevirtual 62, 3) := dk_182 0 62 (dk_at dksX17_search_2 19 rfl rfl)
theorem dX17_search_70 : decode cX17_search 70 = .ok (.return_, 1) := dk_177 (dk_at dksX17_search_2 22 rfl rfl)
def dkwX17_bound_0 : List UInt8 := [28, 4, 42, 180, 0, 15, 120, 4, 27, 120, 100, 128, 62, 42, 29, 182, 0, 51, 172]
abbrev dktX17_bound_0 : List UInt8 := dkwX17_bound_0 ++ []
theorem dksX17_bound_0 : cX17_bound.data.toList.drop 0 = dktX17_bound_0 := by decide +kernel
theorem dX17_bound_0 : decode cX17_bound 0 = .ok (.iload_n 2, 1) := dk_28 (dk_at dksX17_bound_0 0 rfl rfl)
theorem dX17_bound_1 : decode cX17_bound 1 = .ok (.iconst 1, 1) := dk_4 (dk_at dksX17_bound_0 1 rfl rfl)
theorem dX17_bound_2 : decode cX17_bound 2 = .ok (.aload_n 0, 1) := dk_42 (dk_at dksX17_bound_0 2 rfl rfl)
theorem dX17_bound_3 : decode cX17_bound 3 = .ok (.getfield 15, 3) := dk_180 0 15 (dk_at dksX17_bound_0 3 rfl rfl)
theorem dX17_bound_6 : decode cX17_bound 6 = .ok (.ishl, 1) := dk_120 (dk_at dksX17_bound_0 6 rfl rfl)
theorem dX17_bound_7 : decode cX17_bound 7 = .ok (.iconst 1, 1) := dk_4 (dk_at dksX17_bound_0 7 rfl rfl)
theorem dX17_bound_8 : decode cX17_bound 8 = .ok (.iload_n 1, 1) := dk_27 (dk_at dksX17_bound_0 8 rfl rfl)
theorem dX17_bound_9 : decode cX17_bound 9 = .ok (.ishl, 1) := dk_120 (dk_at dksX17_bound_0 9 rfl rfl)
theorem dX17_bound_10 : decode cX17_bound 10 = .ok (.isub, 1) := dk_100 (dk_at dksX17_bound_0 10 rfl rfl)
theorem dX17_bound_11 : decode cX17_bound 11 = .ok (.ior, 1) := dk_128 (dk_at dksX17_bound_0 11 rfl rfl)
theorem dX17_bound_12 : decode cX17_bound 12 = .ok (.istore_n 3, 1) := dk_62 (dk_at dksX17_bound_0 12 rfl rfl)
theorem dX17_bound_13 : decode cX17_bound 13 = .ok (.aload_n 0, 1) := dk_42 (dk_at dksX17_bound_0 13 rfl rfl)
theorem dX17_bound_14 : decode cX17_bound 14 = .ok (.iload_n 3, 1) := dk_29 (dk_at dksX17_bound_0 14 rfl rfl)
theorem dX17_bound_15 : decode cX17_bound 15 = .ok (.invokevirtual 51, 3) := dk_182 0 51 (dk_at dksX17_bound_0 15 rfl rfl)
theorem dX17_bound_18 : decode cX17_bound 18 = .ok (.ireturn, 1) := dk_172 (dk_at dksX17_bound_0 18 rfl rfl)
def dkwX18_init_0 : List UInt8 := [42, 183, 0, 3, 42, 43, 181, 0, 9, 177]
abbrev dktX18_init_0 : List UInt8 := dkwX18_init_0 ++ []
theorem dksX18_init_0 : cX18_init.data.toList.drop 0 = dktX18_init_0 := by decide +kernel
theorem dX18_init_0 : decode cX18_init 0 = .ok (.aload_n 0, 1) := dk_42 (dk_at dksX18_init_0 0 rfl rfl)
theorem dX18_init_1 : decode cX18_init 1 = .ok (.invokespecial 3, 3) := dk_183 0 3 (dk_at dksX18_init_0 1 rfl rfl)
theorem dX18_init_4 : decode cX18_init 4 = .ok (.aload_n 0, 1) := dk_42 (dk_at dksX18_init_0 4 rfl rfl)
theorem dX18_init_5 : decode cX18_init 5 = .ok (.aload_n 1, 1) := dk_43 (dk_at dksX18_init_0 5 rfl rfl)
theorem dX18_init_6 : decode cX18_init 6 = .ok (.putfield 9, 3) := dk_181 0 9 (dk_at dksX18_init_0 6 rfl rfl)
theorem dX18_init_9 : decode cX18_init 9 = .ok (.return_, 1) := dk_177 (dk_at dksX18_init_0 9 rfl rfl)
def dkwX18_commands_3 : List UInt8 := [167, 255, 203, 43, 176]
abbrev dktX18_commands_3 : List UInt8 := dkwX18_commands_3 ++ []
def dkwX18_commands_2 : List UInt8 := [182, 0, 38, 42, 89, 180, 0, 15, 4, 96, 181, 0, 15, 43, 42, 182, 0, 121, 185, 0, 125, 2, 0, 87]
abbrev dktX18_commands_2 : List UInt8 := dkwX18_commands_2 ++ dktX18_commands_3
def dkwX18_commands_1 : List UInt8 := [180, 0, 9, 182, 0, 19, 162, 0, 45, 42, 42, 182, 0, 34, 16, 59, 160, 0, 7, 4, 167, 0, 4, 3]
abbrev dktX18_commands_1 : List UInt8 := dkwX18_commands_1 ++ dktX18_commands_2
def dkwX18_commands_0 : List UInt8 := [187, 0, 118, 89, 183, 0, 120, 76, 43, 42, 182, 0, 121, 185, 0, 125, 2, 0, 87, 42, 180, 0, 15, 42]
abbrev dktX18_commands_0 : List UInt8 := dkwX18_commands_0 ++ dktX18_commands_1
theorem dksX18_commands_0 : cX18_commands.data.toList.drop 0 = dktX18_commands_0 := by decide +kernel
theorem dksX18_commands_1 : cX18_commands.data.toList.drop 24 = dktX18_commands_1 := dk_seg dksX18_commands_0 24 rfl rfl
theorem dksX18_commands_2 : cX18_commands.data.toList.drop 48 = dktX18_commands_2 := dk_seg dksX18_commands_1 24 rfl rfl
theorem dksX18_commands_3 : cX18_commands.data.toList.drop 72 = dktX18_commands_3 := dk_seg dksX18_commands_2 24 rfl rfl
theorem dX18_commands_0 : decode cX18_commands 0 = .ok (.new 118, 3) := dk_187 0 118 (dk_at dksX18_commands_0 0 rfl rfl)
theorem dX18_commands_3 : decode cX18_commands 3 = .ok (.dup, 1) := dk_89 (dk_at dksX18_commands_0 3 rfl rfl)
theorem dX18_commands_4 : decode cX18_commands 4 = .ok (.invokespecial 120, 3) := dk_183 0 120 (dk_at dksX18_commands_0 4 rfl rfl)
theorem dX18_commands_7 : decode cX18_commands 7 = .ok (.astore_n 1, 1) := dk_76 (dk_at dksX18_commands_0 7 rfl rfl)
theorem dX18_commands_8 : decode cX18_commands 8 = .ok (.aload_n 1, 1) := dk_43 (dk_at dksX18_commands_0 8 rfl rfl)
theorem dX18_commands_9 : decode cX18_commands 9 = .ok (.aload_n 0, 1) := dk_42 (dk_at dksX18_commands_0 9 rfl rfl)
theorem dX18_commands_10 : decode cX18_commands 10 = .ok (.invokevirtual 121, 3) := dk_182 0 121 (dk_at dksX18_commands_0 10 rfl rfl)
theorem dX18_commands_13 : decode cX18_commands 13 = .ok (.invokeinterface 125 2, 5) := by decide +kernel
theorem dX18_commands_18 : decode cX18_commands 18 = .ok (.pop, 1) := dk_87 (dk_at dksX18_commands_0 18 rfl rfl)
theorem dX18_commands_19 : decode cX18_commands 19 = .ok (.aload_n 0, 1) := dk_42 (dk_at dksX18_commands_0 19 rfl rfl)
theorem dX18_commands_20 : decode cX18_commands 20 = .ok (.getfield 15, 3) := dk_180 0 15 (dk_at dksX18_commands_0 20 rfl rfl)
theorem dX18_commands_23 : decode cX18_commands 23 = .ok (.aload_n 0, 1) := dk_42 (dk_at dksX18_commands_0 23 rfl rfl)
theorem dX18_commands_24 : decode cX18_commands 24 = .ok (.getfield 9, 3) := dk_180 0 9 (dk_at dksX18_commands_1 0 rfl rfl)
theorem dX18_commands_27 : decode cX18_commands 27 = .ok (.invokevirtual 19, 3) := dk_182 0 19 (dk_at dksX18_commands_1 3 rfl rfl)
theorem dX18_commands_30 : decode cX18_commands 30 = .ok (.if_icmp .ge 45, 3) := dk_162 0 45 (dk_at dksX18_commands_1 6 rfl rfl)
theorem dX18_commands_33 : decode cX18_commands 33 = .ok (.aload_n 0, 1) := dk_42 (dk_at dksX18_commands_1 9 rfl rfl)
theorem dX18_commands_34 : decode cX18_commands 34 = .ok (.aload_n 0, 1) := dk_42 (dk_at dksX18_commands_1 10 rfl rfl)
theorem dX18_commands_35 : decode cX18_commands 35 = .ok (.invokevirtual 34, 3) := dk_182 0 34 (dk_at dksX18_commands_1 11 rfl rfl)
theorem dX18_commands_38 : decode cX18_commands 38 = .ok (.bipush 59, 2) := dk_16 59 (dk_at dksX18_commands_1 14 rfl rfl)
theorem dX18_commands_40 : decode cX18_commands 40 = .ok (.if_icmp .ne 7, 3) := dk_160 0 7 (dk_at dksX18_commands_1 16 rfl rfl)
theorem dX18_commands_43 : decode cX18_commands 43 = .ok (.iconst 1, 1) := dk_4 (dk_at dksX18_commands_1 19 rfl rfl)
theorem dX18_commands_44 : decode cX18_commands 44 = .ok (.goto 4, 3) := dk_167 0 4 (dk_at dksX18_commands_1 20 rfl rfl)
theorem dX18_commands_47 : decode cX18_commands 47 = .ok (.iconst 0, 1) := dk_3 (dk_at dksX18_commands_1 23 rfl rfl)
theorem dX18_commands_48 : decode cX18_commands 48 = .ok (.invokevirtual 38, 3) := dk_182 0 38 (dk_at dksX18_commands_2 0 rfl rfl)
theorem dX18_commands_51 : decode cX18_commands 51 = .ok (.aload_n 0, 1) := dk_42 (dk_at dksX18_commands_2 3 rfl rfl)
theorem dX18_commands_52 : decode cX18_commands 52 = .ok (.dup, 1) := dk_89 (dk_at dksX18_commands_2 4 rfl rfl)
theorem dX18_commands_53 : decode cX18_commands 53 = .ok (.getfield 15, 3) := dk_180 0 15 (dk_at dksX18_commands_2 5 rfl rfl)
theorem dX18_commands_56 : decode cX18_commands 56 = .ok (.iconst 1, 1) := dk_4 (dk_at dksX18_commands_2 8 rfl rfl)
theorem dX18_commands_57 : decode cX18_commands 57 = .ok (.iadd, 1) := dk_96 (dk_at dksX18_commands_2 9 rfl rfl)
theorem dX18_commands_58 : decode cX18_commands 58 = .ok (.putfield 15, 3) := dk_181 0 15 (dk_at dksX18_commands_2 10 rfl rfl)
theorem dX18_commands_61 : decode cX18_commands 61 = .ok (.aload_n 1, 1) := dk_43 (dk_at dksX18_commands_2 13 rfl rfl)
theorem dX18_commands_62 : decode cX18_commands 62 = .ok (.aload_n 0, 1) := dk_42 (dk_at dksX18_commands_2 14 rfl rfl)
theorem dX18_commands_63 : decode cX18_commands 63 = .ok (.invokevirtual 121, 3) := dk_182 0 121 (dk_at dksX18_commands_2 15 rfl rfl)
theorem dX18_commands_66 : decode cX18_commands 66 = .ok (.invokeinterface 125 2, 5) := by decide +kernel
theorem dX18_commands_71 : decode cX18_commands 71 = .ok (.pop, 1) := dk_87 (dk_at dksX18_commands_2 23 rfl rfl)
theorem dX18_commands_72 : decode cX18_commands 72 = .ok (.goto (-53), 3) := dk_167 255 203 (dk_at dksX18_commands_3 0 rfl rfl)
theorem dX18_commands_75 : decode cX18_commands 75 = .ok (.aload_n 1, 1) := dk_43 (dk_at dksX18_commands_3 3 rfl rfl)
theorem dX18_commands_76 : decode cX18_commands 76 = .ok (.areturn, 1) := dk_176 (dk_at dksX18_commands_3 4 rfl rfl)
def dkwX18_command_17 : List UInt8 := [188, 10, 89, 3, 42, 16, 32, 182, 0, 46, 79, 183, 0, 112, 176]
abbrev dktX18_command_17 : List UInt8 := dkwX18_command_17 ++ []
def dkwX18_command_16 : List UInt8 := [160, 0, 12, 42, 16, 32, 182, 0, 46, 167, 0, 4, 4, 79, 183, 0, 112, 176, 187, 0, 110, 89, 43, 4]
abbrev dktX18_command_16 : List UInt8 := dkwX18_command_16 ++ dktX18_command_17
def dkwX18_command_15 : List UInt8 := [43, 3, 188, 10, 183, 0, 112, 176, 187, 0, 110, 89, 43, 4, 188, 10, 89, 3, 42, 182, 0, 34, 16, 32]
abbrev dktX18_command_15 : List UInt8 := dkwX18_command_15 ++ dktX18_command_16
def dkwX18_command_14 : List UInt8 := [188, 10, 89, 3, 21, 7, 79, 89, 4, 42, 16, 32, 182, 0, 46, 79, 183, 0, 112, 176, 187, 0, 110, 89]
abbrev dktX18_command_14 : List UInt8 := dkwX18_command_14 ++ dktX18_command_15
def dkwX18_command_13 : List UInt8 := [42, 182, 0, 115, 79, 183, 0, 112, 176, 42, 16, 32, 182, 0, 46, 54, 7, 187, 0, 110, 89, 43, 5]
abbrev dktX18_command_13 : List UInt8 := dkwX18_command_13 ++ dktX18_command_14
def dkwX18_command_12 : List UInt8 := [79, 89, 7, 42, 16, 32, 182, 0, 46, 79, 183, 0, 112, 176, 187, 0, 110, 89, 43, 4, 188, 10, 89, 3]
abbrev dktX18_command_12 : List UInt8 := dkwX18_command_12 ++ dktX18_command_13
def dkwX18_command_11 : List UInt8 := [3, 25, 5, 3, 46, 79, 89, 4, 25, 5, 4, 46, 79, 89, 5, 25, 5, 5, 46, 79, 89, 6, 21, 6]
abbrev dktX18_command_11 : List UInt8 := dkwX18_command_11 ++ dktX18_command_12
def dkwX18_command_10 : List UInt8 := [176, 42, 182, 0, 106, 58, 5, 42, 16, 32, 182, 0, 46, 54, 6, 187, 0, 110, 89, 43, 8, 188, 10, 89]
abbrev dktX18_command_10 : List UInt8 := dkwX18_command_10 ++ dktX18_command_11
def dkwX18_command_9 : List UInt8 := [25, 4, 4, 46, 79, 89, 5, 25, 4, 5, 46, 79, 89, 6, 42, 16, 32, 182, 0, 46, 79, 183, 0, 112]
abbrev dktX18_command_9 : List UInt8 := dkwX18_command_9 ++ dktX18_command_10
def dkwX18_command_8 : List UInt8 := [42, 182, 0, 106, 58, 4, 187, 0, 110, 89, 43, 7, 188, 10, 89, 3, 25, 4, 3, 46, 79, 89, 4]
abbrev dktX18_command_8 : List UInt8 := dkwX18_command_8 ++ dktX18_command_9
def dkwX18_command_7 : List UInt8 := [170, 0, 0, 0, 0, 0, 251, 0, 0, 0, 0, 0, 0, 0, 6, 0, 0, 0, 43, 0, 0, 0, 91, 0, 0, 0, 152, 0, 0, 0, 171, 0, 0, 0, 171, 0, 0, 0, 205, 0, 0, 0, 217]
abbrev dktX18_command_7 : List UInt8 := dkwX18_command_7 ++ dktX18_command_8
def dkwX18_command_6 : List UInt8 := [62, 29]
abbrev dktX18_command_6 : List UInt8 := dkwX18_command_6 ++ dktX18_command_7
def dkwX18_command_5 : List UInt8 := [18, 102, 182, 0, 90, 153, 0, 20, 8, 62, 167, 0, 15, 44, 18, 104, 182, 0, 90, 153, 0, 6, 16, 6]
abbrev dktX18_command_5 : List UInt8 := dkwX18_command_5 ++ dktX18_command_6
def dkwX18_command_4 : List UInt8 := [153, 0, 48, 6, 62, 167, 0, 43, 44, 18, 100, 182, 0, 90, 153, 0, 34, 7, 62, 167, 0, 29, 44]
abbrev dktX18_command_4 : List UInt8 := dkwX18_command_4 ++ dktX18_command_5
def dkwX18_command_3 : List UInt8 := [62, 167, 0, 71, 44, 18, 96, 182, 0, 90, 153, 0, 62, 5, 62, 167, 0, 57, 44, 18, 98, 182, 0, 90]
abbrev dktX18_command_3 : List UInt8 := dkwX18_command_3 ++ dktX18_command_4
def dkwX18_command_2 : List UInt8 := [44, 18, 88, 182, 0, 90, 153, 0, 90, 3, 62, 167, 0, 85, 44, 18, 94, 182, 0, 90, 153, 0, 76, 4]
abbrev dktX18_command_2 : List UInt8 := dkwX18_command_2 ++ dktX18_command_3
def dkwX18_command_1 : List UInt8 := [171, 0, 0, 0, 0, 0, 163, 0, 0, 0, 7, 191, 197, 245, 176, 0, 0, 0, 95, 200, 76, 85, 52, 0, 0, 0, 81, 200, 78, 61, 48, 0, 0, 0, 109, 202, 3, 17, 75, 0, 0, 0, 137, 0, 1, 131, 156, 0, 0, 0, 151, 0, 1, 166, 92, 0, 0, 0, 123, 0, 47, 245, 185, 0, 0, 0, 67]
abbrev dktX18_command_1 : List UInt8 := dkwX18_command_1 ++ dktX18_command_2
def dkwX18_command_0 : List UInt8 := [42, 182, 0, 82, 76, 43, 77, 2, 62, 44, 182, 0, 85]
abbrev dktX18_command_0 : List UInt8 := dkwX18_command_0 ++ dktX18_command_1
theorem dksX18_command_0 : cX18_command.data.toList.drop 0 = dktX18_command_0 := by decide +kernel
theorem dksX18_command_1 : cX18_command.data.toList.drop 13 = dktX18_command_1 := dk_seg dksX18_command_0 13 rfl rfl
theorem dksX18_command_2 : cX18_command.data.toList.drop 80 = dktX18_command_2 := dk_seg dksX18_command_1 67 rfl rfl
theorem dksX18_command_3 : cX18_command.data.toList.drop 104 = dktX18_command_3 := dk_seg dksX18_command_2 24 rfl rfl
theorem dksX18_command_4 : cX18_command.data.toList.drop 128 = dktX18_command_4 := dk_seg dksX18_command_3 24 rfl rfl
theorem dksX18_command_5 : cX18_command.data.toList.drop 151 = dktX18_command_5 := dk_seg dksX18_command_4 23 rfl rfl
theorem dksX18_command_6 : cX18_command.data.toList.drop 175 = dktX18_command_6 := dk_seg dksX18_command_5 24 rfl rfl
theorem dksX18_command_7 : cX18_command.data.toList.drop 177 = dktX18_command_7 := dk_seg dksX18_command_6 2 rfl rfl
theorem dksX18_command_8 : cX18_command.data.toList.drop 220 = dktX18_command_8 := dk_seg dksX18_command_7 43 rfl rfl
theorem dksX18_command_9 : cX18_command.data.toList.drop 243 = dktX18_command_9 := dk_seg dksX18_command_8 23 rfl rfl
theorem dksX18_command_10 : cX18_command.data.toList.drop 267 = dktX18_command_10 := dk_seg dksX18_command_9 24 rfl rfl
theorem dksX18_command_11 : cX18_command.data.toList.drop 291 = dktX18_command_11 := dk_seg dksX18_command_10 24 rfl rfl
theorem dksX18_command_12 : cX18_command.data.toList.drop 315 = dktX18_command_12 := dk_seg dksX18_command_11 24 rfl rfl
theorem dksX18_command_13 : cX18_command.data.toList.drop 339 = dktX18_command_13 := dk_seg dksX18_command_12 24 rfl rfl
theorem dksX18_command_14 : cX18_command.data.toList.drop 362 = dktX18_command_14 := dk_seg dksX18_command_13 23 rfl rfl
theorem dksX18_command_15 : cX18_command.data.toList.drop 386 = dktX18_command_15 := dk_seg dksX18_command_14 24 rfl rfl
theorem dksX18_command_16 : cX18_command.data.toList.drop 410 = dktX18_command_16 := dk_seg dksX18_command_15 24 rfl rfl
theorem dksX18_command_17 : cX18_command.data.toList.drop 434 = dktX18_command_17 := dk_seg dksX18_command_16 24 rfl rfl
theorem dX18_command_0 : decode cX18_command 0 = .ok (.aload_n 0, 1) := dk_42 (dk_at dksX18_command_0 0 rfl rfl)
theorem dX18_command_1 : decode cX18_command 1 = .ok (.invokevirtual 82, 3) := dk_182 0 82 (dk_at dksX18_command_0 1 rfl rfl)
theorem dX18_command_4 : decode cX18_command 4 = .ok (.astore_n 1, 1) := dk_76 (dk_at dksX18_command_0 4 rfl rfl)
theorem dX18_command_5 : decode cX18_command 5 = .ok (.aload_n 1, 1) := dk_43 (dk_at dksX18_command_0 5 rfl rfl)
theorem dX18_command_6 : decode cX18_command 6 = .ok (.astore_n 2, 1) := dk_77 (dk_at dksX18_command_0 6 rfl rfl)
theorem dX18_command_7 : decode cX18_command 7 = .ok (.iconst (-1), 1) := dk_2 (dk_at dksX18_command_0 7 rfl rfl)
theorem dX18_command_8 : decode cX18_command 8 = .ok (.istore_n 3, 1) := dk_62 (dk_at dksX18_command_0 8 rfl rfl)
theorem dX18_command_9 : decode cX18_command 9 = .ok (.aload_n 2, 1) := dk_44 (dk_at dksX18_command_0 9 rfl rfl)
theorem dX18_command_10 : decode cX18_command 10 = .ok (.invokevirtual 85, 3) := dk_182 0 85 (dk_at dksX18_command_0 10 rfl rfl)
theorem dX18_command_13 : decode cX18_command 13 = .ok (.lookupswitch 163 #[(-1077545552, 95), (-934521548, 81), (-934396624, 109), (-905768629, 137), (99228, 151), (108124, 123), (3143097, 67)], 67) := by decide +kernel
theorem dX18_command_80 : decode cX18_command 80 = .ok (.aload_n 2, 1) := dk_44 (dk_at dksX18_command_2 0 rfl rfl)
theorem dX18_command_81 : decode cX18_command 81 = .ok (.ldc 88, 2) := dk_18 88 (dk_at dksX18_command_2 1 rfl rfl)
theorem dX18_command_83 : decode cX18_command 83 = .ok (.invokevirtual 90, 3) := dk_182 0 90 (dk_at dksX18_command_2 3 rfl rfl)
theorem dX18_command_86 : decode cX18_command 86 = .ok (.ifCond .eq 90, 3) := dk_153 0 90 (dk_at dksX18_command_2 6 rfl rfl)
theorem dX18_command_89 : decode cX18_command 89 = .ok (.iconst 0, 1) := dk_3 (dk_at dksX18_command_2 9 rfl rfl)
theorem dX18_command_90 : decode cX18_command 90 = .ok (.istore_n 3, 1) := dk_62 (dk_at dksX18_command_2 10 rfl rfl)
theorem dX18_command_91 : decode cX18_command 91 = .ok (.goto 85, 3) := dk_167 0 85 (dk_at dksX18_command_2 11 rfl rfl)
theorem dX18_command_94 : decode cX18_command 94 = .ok (.aload_n 2, 1) := dk_44 (dk_at dksX18_command_2 14 rfl rfl)
theorem dX18_command_95 : decode cX18_command 95 = .ok (.ldc 94, 2) := dk_18 94 (dk_at dksX18_command_2 15 rfl rfl)
theorem dX18_command_97 : decode cX18_command 97 = .ok (.invokevirtual 90, 3) := dk_182 0 90 (dk_at dksX18_command_2 17 rfl rfl)
theorem dX18_command_100 : decode cX18_command 100 = .ok (.ifCond .eq 76, 3) := dk_153 0 76 (dk_at dksX18_command_2 20 rfl rfl)
theorem dX18_command_103 : decode cX18_command 103 = .ok (.iconst 1, 1) := dk_4 (dk_at dksX18_command_2 23 rfl rfl)
theorem dX18_command_104 : decode cX18_command 104 = .ok (.istore_n 3, 1) := dk_62 (dk_at dksX18_command_3 0 rfl rfl)
theorem dX18_command_105 : decode cX18_command 105 = .ok (.goto 71, 3) := dk_167 0 71 (dk_at dksX18_command_3 1 rfl rfl)
theorem dX18_command_108 : decode cX18_command 108 = .ok (.aload_n 2, 1) := dk_44 (dk_at dksX18_command_3 4 rfl rfl)
theorem dX18_command_109 : decode cX18_command 109 = .ok (.ldc 96, 2) := dk_18 96 (dk_at dksX18_command_3 5 rfl rfl)
theorem dX18_command_111 : decode cX18_command 111 = .ok (.invokevirtual 90, 3) := dk_182 0 90 (dk_at dksX18_command_3 7 rfl rfl)
theorem dX18_command_114 : decode cX18_command 114 = .ok (.ifCond .eq 62, 3) := dk_153 0 62 (dk_at dksX18_command_3 10 rfl rfl)
theorem dX18_command_117 : decode cX18_command 117 = .ok (.iconst 2, 1) := dk_5 (dk_at dksX18_command_3 13 rfl rfl)
theorem dX18_command_118 : decode cX18_command 118 = .ok (.istore_n 3, 1) := dk_62 (dk_at dksX18_command_3 14 rfl rfl)
theorem dX18_command_119 : decode cX18_command 119 = .ok (.goto 57, 3) := dk_167 0 57 (dk_at dksX18_command_3 15 rfl rfl)
theorem dX18_command_122 : decode cX18_command 122 = .ok (.aload_n 2, 1) := dk_44 (dk_at dksX18_command_3 18 rfl rfl)
theorem dX18_command_123 : decode cX18_command 123 = .ok (.ldc 98, 2) := dk_18 98 (dk_at dksX18_command_3 19 rfl rfl)
theorem dX18_command_125 : decode cX18_command 125 = .ok (.invokevirtual 90, 3) := dk_182 0 90 (dk_at dksX18_command_3 21 rfl rfl)
theorem dX18_command_128 : decode cX18_command 128 = .ok (.ifCond .eq 48, 3) := dk_153 0 48 (dk_at dksX18_command_4 0 rfl rfl)
theorem dX18_command_131 : decode cX18_command 131 = .ok (.iconst 3, 1) := dk_6 (dk_at dksX18_command_4 3 rfl rfl)
theorem dX18_command_132 : decode cX18_command 132 = .ok (.istore_n 3, 1) := dk_62 (dk_at dksX18_command_4 4 rfl rfl)
theorem dX18_command_133 : decode cX18_command 133 = .ok (.goto 43, 3) := dk_167 0 43 (dk_at dksX18_command_4 5 rfl rfl)
theorem dX18_command_136 : decode cX18_command 136 = .ok (.aload_n 2, 1) := dk_44 (dk_at dksX18_command_4 8 rfl rfl)
theorem dX18_command_137 : decode cX18_command 137 = .ok (.ldc 100, 2) := dk_18 100 (dk_at dksX18_command_4 9 rfl rfl)
theorem dX18_command_139 : decode cX18_command 139 = .ok (.invokevirtual 90, 3) := dk_182 0 90 (dk_at dksX18_command_4 11 rfl rfl)
theorem dX18_command_142 : decode cX18_command 142 = .ok (.ifCond .eq 34, 3) := dk_153 0 34 (dk_at dksX18_command_4 14 rfl rfl)
theorem dX18_command_145 : decode cX18_command 145 = .ok (.iconst 4, 1) := dk_7 (dk_at dksX18_command_4 17 rfl rfl)
theorem dX18_command_146 : decode cX18_command 146 = .ok (.istore_n 3, 1) := dk_62 (dk_at dksX18_command_4 18 rfl rfl)
theorem dX18_command_147 : decode cX18_command 147 = .ok (.goto 29, 3) := dk_167 0 29 (dk_at dksX18_command_4 19 rfl rfl)
theorem dX18_command_150 : decode cX18_command 150 = .ok (.aload_n 2, 1) := dk_44 (dk_at dksX18_command_4 22 rfl rfl)
theorem dX18_command_151 : decode cX18_command 151 = .ok (.ldc 102, 2) := dk_18 102 (dk_at dksX18_command_5 0 rfl rfl)
theorem dX18_command_153 : decode cX18_command 153 = .ok (.invokevirtual 90, 3) := dk_182 0 90 (dk_at dksX18_command_5 2 rfl rfl)
theorem dX18_command_156 : decode cX18_command 156 = .ok (.ifCond .eq 20, 3) := dk_153 0 20 (dk_at dksX18_command_5 5 rfl rfl)
theorem dX18_command_159 : decode cX18_command 159 = .ok (.iconst 5, 1) := dk_8 (dk_at dksX18_command_5 8 rfl rfl)
theorem dX18_command_160 : decode cX18_command 160 = .ok (.istore_n 3, 1) := dk_62 (dk_at dksX18_command_5 9 rfl rfl)
theorem dX18_command_161 : decode cX18_command 161 = .ok (.goto 15, 3) := dk_167 0 15 (dk_at dksX18_command_5 10 rfl rfl)
theorem dX18_command_164 : decode cX18_command 164 = .ok (.aload_n 2, 1) := dk_44 (dk_at dksX18_command_5 13 rfl rfl)
theorem dX18_command_165 : decode cX18_command 165 = .ok (.ldc 104, 2) := dk_18 104 (dk_at dksX18_command_5 14 rfl rfl)
theorem dX18_command_167 : decode cX18_command 167 = .ok (.invokevirtual 90, 3) := dk_182 0 90 (dk_at dksX18_command_5 16 rfl rfl)
theorem dX18_command_170 : decode cX18_command 170 = .ok (.ifCond .eq 6, 3) := dk_153 0 6 (dk_at dksX18_command_5 19 rfl rfl)
theorem dX18_command_173 : decode cX18_command 173 = .ok (.bipush 6, 2) := dk_16 6 (dk_at dksX18_command_5 22 rfl rfl)
theorem dX18_command_175 : decode cX18_command 175 = .ok (.istore_n 3, 1) := dk_62 (dk_at dksX18_command_6 0 rfl rfl)
theorem dX18_command_176 : decode cX18_command 176 = .ok (.iload_n 3, 1) := dk_29 (dk_at dksX18_command_6 1 rfl rfl)
theorem dX18_command_177 : decode cX18_command 177 = .ok (.tableswitch 251 0 6 #[43, 91, 152, 171, 171, 205, 217], 43) := by decide +kernel
theorem dX18_command_220 : decode cX18_command 220 = .ok (.aload_n 0, 1) := dk_42 (dk_at dksX18_command_8 0 rfl rfl)
theorem dX18_command_221 : decode cX18_command 221 = .ok (.invokevirtual 106, 3) := dk_182 0 106 (dk_at dksX18_command_8 1 rfl rfl)
theorem dX18_command_224 : decode cX18_command 224 = .ok (.astore 4, 2) := dk_58 4 (dk_at dksX18_command_8 4 rfl rfl)
theorem dX18_command_226 : decode cX18_command 226 = .ok (.new 110, 3) := dk_187 0 110 (dk_at dksX18_command_8 6 rfl rfl)
theorem dX18_command_229 : decode cX18_command 229 = .ok (.dup, 1) := dk_89 (dk_at dksX18_command_8 9 rfl rfl)
theorem dX18_command_230 : decode cX18_command 230 = .ok (.aload_n 1, 1) := dk_43 (dk_at dksX18_command_8 10 rfl rfl)
theorem dX18_command_231 : decode cX18_command 231 = .ok (.iconst 4, 1) := dk_7 (dk_at dksX18_command_8 11 rfl rfl)
theorem dX18_command_232 : decode cX18_command 232 = .ok (.newarray .int, 2) := dk_188_10 (dk_at dksX18_command_8 12 rfl rfl)
theorem dX18_command_234 : decode cX18_command 234 = .ok (.dup, 1) := dk_89 (dk_at dksX18_command_8 14 rfl rfl)
theorem dX18_command_235 : decode cX18_command 235 = .ok (.iconst 0, 1) := dk_3 (dk_at dksX18_command_8 15 rfl rfl)
theorem dX18_command_236 : decode cX18_command 236 = .ok (.aload 4, 2) := dk_25 4 (dk_at dksX18_command_8 16 rfl rfl)
theorem dX18_command_238 : decode cX18_command 238 = .ok (.iconst 0, 1) := dk_3 (dk_at dksX18_command_8 18 rfl rfl)
theorem dX18_command_239 : decode cX18_command 239 = .ok (.iaload, 1) := dk_46 (dk_at dksX18_command_8 19 rfl rfl)
theorem dX18_command_240 : decode cX18_command 240 = .ok (.iastore, 1) := dk_79 (dk_at dksX18_command_8 20 rfl rfl)
theorem dX18_command_241 : decode cX18_command 241 = .ok (.dup, 1) := dk_89 (dk_at dksX18_command_8 21 rfl rfl)
theorem dX18_command_242 : decode cX18_command 242 = .ok (.iconst 1, 1) := dk_4 (dk_at dksX18_command_8 22 rfl rfl)
theorem dX18_command_243 : decode cX18_command 243 = .ok (.aload 4, 2) := dk_25 4 (dk_at dksX18_command_9 0 rfl rfl)
theorem dX18_command_245 : decode cX18_command 245 = .ok (.iconst 1, 1) := dk_4 (dk_at dksX18_command_9 2 rfl rfl)
theorem dX18_command_246 : decode cX18_command 246 = .ok (.iaload, 1) := dk_46 (dk_at dksX18_command_9 3 rfl rfl)
theorem dX18_command_247 : decode cX18_command 247 = .ok (.iastore, 1) := dk_79 (dk_at dksX18_command_9 4 rfl rfl)
theorem dX18_command_248 : decode cX18_command 248 = .ok (.dup, 1) := dk_89 (dk_at dksX18_command_9 5 rfl rfl)
theorem dX18_command_249 : decode cX18_command 249 = .ok (.iconst 2, 1) := dk_5 (dk_at dksX18_command_9 6 rfl rfl)
theorem dX18_command_250 : decode cX18_command 250 = .ok (.aload 4, 2) := dk_25 4 (dk_at dksX18_command_9 7 rfl rfl)
theorem dX18_command_252 : decode cX18_command 252 = .ok (.iconst 2, 1) := dk_5 (dk_at dksX18_command_9 9 rfl rfl)
theorem dX18_command_253 : decode cX18_command 253 = .ok (.iaload, 1) := dk_46 (dk_at dksX18_command_9 10 rfl rfl)
theorem dX18_command_254 : decode cX18_command 254 = .ok (.iastore, 1) := dk_79 (dk_at dksX18_command_9 11 rfl rfl)
theorem dX18_command_255 : decode cX18_command 255 = .ok (.dup, 1) := dk_89 (dk_at dksX18_command_9 12 rfl rfl)
theorem dX18_command_256 : decode cX18_command 256 = .ok (.iconst 3, 1) := dk_6 (dk_at dksX18_command_9 13 rfl rfl)
theorem dX18_command_257 : decode cX18_command 257 = .ok (.aload_n 0, 1) := dk_42 (dk_at dksX18_command_9 14 rfl rfl)
theorem dX18_command_258 : decode cX18_command 258 = .ok (.bipush 32, 2) := dk_16 32 (dk_at dksX18_command_9 15 rfl rfl)
theorem dX18_command_260 : decode cX18_command 260 = .ok (.invokevirtual 46, 3) := dk_182 0 46 (dk_at dksX18_command_9 17 rfl rfl)
theorem dX18_command_263 : decode cX18_command 263 = .ok (.iastore, 1) := dk_79 (dk_at dksX18_command_9 20 rfl rfl)
theorem dX18_command_264 : decode cX18_command 264 = .ok (.invokespecial 112, 3) := dk_183 0 112 (dk_at dksX18_command_9 21 rfl rfl)
theorem dX18_command_267 : decode cX18_command 267 = .ok (.areturn, 1) := dk_176 (dk_at dksX18_command_10 0 rfl rfl)
theorem dX18_command_268 : decode cX18_command 268 = .ok (.aload_n 0, 1) := dk_42 (dk_at dksX18_command_10 1 rfl rfl)
theorem dX18_command_269 : decode cX18_command 269 = .ok (.invokevirtual 106, 3) := dk_182 0 106 (dk_at dksX18_command_10 2 rfl rfl)
theorem dX18_command_272 : decode cX18_command 272 = .ok (.astore 5, 2) := dk_58 5 (dk_at dksX18_command_10 5 rfl rfl)
theorem dX18_command_274 : decode cX18_command 274 = .ok (.aload_n 0, 1) := dk_42 (dk_at dksX18_command_10 7 rfl rfl)
theorem dX18_command_275 : decode cX18_command 275 = .ok (.bipush 32, 2) := dk_16 32 (dk_at dksX18_command_10 8 rfl rfl)
theorem dX18_command_277 : decode cX18_command 277 = .ok (.invokevirtual 46, 3) := dk_182 0 46 (dk_at dksX18_command_10 10 rfl rfl)
theorem dX18_command_280 : decode cX18_command 280 = .ok (.istore 6, 2) := dk_54 6 (dk_at dksX18_command_10 13 rfl rfl)
theorem dX18_command_282 : decode cX18_command 282 = .ok (.new 110, 3) := dk_187 0 110 (dk_at dksX18_command_10 15 rfl rfl)
theorem dX18_command_285 : decode cX18_command 285 = .ok (.dup, 1) := dk_89 (dk_at dksX18_command_10 18 rfl rfl)
theorem dX18_command_286 : decode cX18_command 286 = .ok (.aload_n 1, 1) := dk_43 (dk_at dksX18_command_10 19 rfl rfl)
theorem dX18_command_287 : decode cX18_command 287 = .ok (.iconst 5, 1) := dk_8 (dk_at dksX18_command_10 20 rfl rfl)
theorem dX18_command_288 : decode cX18_command 288 = .ok (.newarray .int, 2) := dk_188_10 (dk_at dksX18_command_10 21 rfl rfl)
theorem dX18_command_290 : decode cX18_command 290 = .ok (.dup, 1) := dk_89 (dk_at dksX18_command_10 23 rfl rfl)
theorem dX18_command_291 : decode cX18_command 291 = .ok (.iconst 0, 1) := dk_3 (dk_at dksX18_command_11 0 rfl rfl)
theorem dX18_command_292 : decode cX18_command 292 = .ok (.aload 5, 2) := dk_25 5 (dk_at dksX18_command_11 1 rfl rfl)
theorem dX18_command_294 : decode cX18_command 294 = .ok (.iconst 0, 1) := dk_3 (dk_at dksX18_command_11 3 rfl rfl)
theorem dX18_command_295 : decode cX18_command 295 = .ok (.iaload, 1) := dk_46 (dk_at dksX18_command_11 4 rfl rfl)
theorem dX18_command_296 : decode cX18_command 296 = .ok (.iastore, 1) := dk_79 (dk_at dksX18_command_11 5 rfl rfl)
theorem dX18_command_297 : decode cX18_command 297 = .ok (.dup, 1) := dk_89 (dk_at dksX18_command_11 6 rfl rfl)
theorem dX18_command_298 : decode cX18_command 298 = .ok (.iconst 1, 1) := dk_4 (dk_at dksX18_command_11 7 rfl rfl)
theorem dX18_command_299 : decode cX18_command 299 = .ok (.aload 5, 2) := dk_25 5 (dk_at dksX18_command_11 8 rfl rfl)
theorem dX18_command_301 : decode cX18_command 301 = .ok (.iconst 1, 1) := dk_4 (dk_at dksX18_command_11 10 rfl rfl)
theorem dX18_command_302 : decode cX18_command 302 = .ok (.iaload, 1) := dk_46 (dk_at dksX18_command_11 11 rfl rfl)
theorem dX18_command_303 : decode cX18_command 303 = .ok (.iastore, 1) := dk_79 (dk_at dksX18_command_11 12 rfl rfl)
theorem dX18_command_304 : decode cX18_command 304 = .ok (.dup, 1) := dk_89 (dk_at dksX18_command_11 13 rfl rfl)
theorem dX18_command_305 : decode cX18_command 305 = .ok (.iconst 2, 1) := dk_5 (dk_at dksX18_command_11 14 rfl rfl)
theorem dX18_command_306 : decode cX18_command 306 = .ok (.aload 5, 2) := dk_25 5 (dk_at dksX18_command_11 15 rfl rfl)
theorem dX18_command_308 : decode cX18_command 308 = .ok (.iconst 2, 1) := dk_5 (dk_at dksX18_command_11 17 rfl rfl)
theorem dX18_command_309 : decode cX18_command 309 = .ok (.iaload, 1) := dk_46 (dk_at dksX18_command_11 18 rfl rfl)
theorem dX18_command_310 : decode cX18_command 310 = .ok (.iastore, 1) := dk_79 (dk_at dksX18_command_11 19 rfl rfl)
theorem dX18_command_311 : decode cX18_command 311 = .ok (.dup, 1) := dk_89 (dk_at dksX18_command_11 20 rfl rfl)
theorem dX18_command_312 : decode cX18_command 312 = .ok (.iconst 3, 1) := dk_6 (dk_at dksX18_command_11 21 rfl rfl)
theorem dX18_command_313 : decode cX18_command 313 = .ok (.iload 6, 2) := dk_21 6 (dk_at dksX18_command_11 22 rfl rfl)
theorem dX18_command_315 : decode cX18_command 315 = .ok (.iastore, 1) := dk_79 (dk_at dksX18_command_12 0 rfl rfl)
theorem dX18_command_316 : decode cX18_command 316 = .ok (.dup, 1) := dk_89 (dk_at dksX18_command_12 1 rfl rfl)
theorem dX18_command_317 : decode cX18_command 317 = .ok (.iconst 4, 1) := dk_7 (dk_at dksX18_command_12 2 rfl rfl)
theorem dX18_command_318 : decode cX18_command 318 = .ok (.aload_n 0, 1) := dk_42 (dk_at dksX18_command_12 3 rfl rfl)
theorem dX18_command_319 : decode cX18_command 319 = .ok (.bipush 32, 2) := dk_16 32 (dk_at dksX18_command_12 4 rfl rfl)
theorem dX18_command_321 : decode cX18_command 321 = .ok (.invokevirtual 46, 3) := dk_182 0 46 (dk_at dksX18_command_12 6 rfl rfl)
theorem dX18_command_324 : decode cX18_command 324 = .ok (.iastore, 1) := dk_79 (dk_at dksX18_command_12 9 rfl rfl)
theorem dX18_command_325 : decode cX18_command 325 = .ok (.invokespecial 112, 3) := dk_183 0 112 (dk_at dksX18_command_12 10 rfl rfl)
theorem dX18_command_328 : decode cX18_command 328 = .ok (.areturn, 1) := dk_176 (dk_at dksX18_command_12 13 rfl rfl)
theorem dX18_command_329 : decode cX18_command 329 = .ok (.new 110, 3) := dk_187 0 110 (dk_at dksX18_command_12 14 rfl rfl)
theorem dX18_command_332 : decode cX18_command 332 = .ok (.dup, 1) := dk_89 (dk_at dksX18_command_12 17 rfl rfl)
theorem dX18_command_333 : decode cX18_command 333 = .ok (.aload_n 1, 1) := dk_43 (dk_at dksX18_command_12 18 rfl rfl)
theorem dX18_command_334 : decode cX18_command 334 = .ok (.iconst 1, 1) := dk_4 (dk_at dksX18_command_12 19 rfl rfl)
theorem dX18_command_335 : decode cX18_command 335 = .ok (.newarray .int, 2) := dk_188_10 (dk_at dksX18_command_12 20 rfl rfl)
theorem dX18_command_337 : decode cX18_command 337 = .ok (.dup, 1) := dk_89 (dk_at dksX18_command_12 22 rfl rfl)
theorem dX18_command_338 : decode cX18_command 338 = .ok (.iconst 0, 1) := dk_3 (dk_at dksX18_command_12 23 rfl rfl)
theorem dX18_command_339 : decode cX18_command 339 = .ok (.aload_n 0, 1) := dk_42 (dk_at dksX18_command_13 0 rfl rfl)
theorem dX18_command_340 : decode cX18_command 340 = .ok (.invokevirtual 115, 3) := dk_182 0 115 (dk_at dksX18_command_13 1 rfl rfl)
theorem dX18_command_343 : decode cX18_command 343 = .ok (.iastore, 1) := dk_79 (dk_at dksX18_command_13 4 rfl rfl)
theorem dX18_command_344 : decode cX18_command 344 = .ok (.invokespecial 112, 3) := dk_183 0 112 (dk_at dksX18_command_13 5 rfl rfl)
theorem dX18_command_347 : decode cX18_command 347 = .ok (.areturn, 1) := dk_176 (dk_at dksX18_command_13 8 rfl rfl)
theorem dX18_command_348 : decode cX18_command 348 = .ok (.aload_n 0, 1) := dk_42 (dk_at dksX18_command_13 9 rfl rfl)
theorem dX18_command_349 : decode cX18_command 349 = .ok (.bipush 32, 2) := dk_16 32 (dk_at dksX18_command_13 10 rfl rfl)
theorem dX18_command_351 : decode cX18_command 351 = .ok (.invokevirtual 46, 3) := dk_182 0 46 (dk_at dksX18_command_13 12 rfl rfl)
theorem dX18_command_354 : decode cX18_command 354 = .ok (.istore 7, 2) := dk_54 7 (dk_at dksX18_command_13 15 rfl rfl)
theorem dX18_command_356 : decode cX18_command 356 = .ok (.new 110, 3) := dk_187 0 110 (dk_at dksX18_command_13 17 rfl rfl)
theorem dX18_command_359 : decode cX18_command 359 = .ok (.dup, 1) := dk_89 (dk_at dksX18_command_13 20 rfl rfl)
theorem dX18_command_360 : decode cX18_command 360 = .ok (.aload_n 1, 1) := dk_43 (dk_at dksX18_command_13 21 rfl rfl)
theorem dX18_command_361 : decode cX18_command 361 = .ok (.iconst 2, 1) := dk_5 (dk_at dksX18_command_13 22 rfl rfl)
theorem dX18_command_362 : decode cX18_command 362 = .ok (.newarray .int, 2) := dk_188_10 (dk_at dksX18_command_14 0 rfl rfl)
theorem dX18_command_364 : decode cX18_command 364 = .ok (.dup, 1) := dk_89 (dk_at dksX18_command_14 2 rfl rfl)
theorem dX18_command_365 : decode cX18_command 365 = .ok (.iconst 0, 1) := dk_3 (dk_at dksX18_command_14 3 rfl rfl)
theorem dX18_command_366 : decode cX18_command 366 = .ok (.iload 7, 2) := dk_21 7 (dk_at dksX18_command_14 4 rfl rfl)
theorem dX18_command_368 : decode cX18_command 368 = .ok (.iastore, 1) := dk_79 (dk_at dksX18_command_14 6 rfl rfl)
theorem dX18_command_369 : decode cX18_command 369 = .ok (.dup, 1) := dk_89 (dk_at dksX18_command_14 7 rfl rfl)
theorem dX18_command_370 : decode cX18_command 370 = .ok (.iconst 1, 1) := dk_4 (dk_at dksX18_command_14 8 rfl rfl)
theorem dX18_command_371 : decode cX18_command 371 = .ok (.aload_n 0, 1) := dk_42 (dk_at dksX18_command_14 9 rfl rfl)
theorem dX18_command_372 : decode cX18_command 372 = .ok (.bipush 32, 2) := dk_16 32 (dk_at dksX18_command_14 10 rfl rfl)
theorem dX18_command_374 : decode cX18_command 374 = .ok (.invokevirtual 46, 3) := dk_182 0 46 (dk_at dksX18_command_14 12 rfl rfl)
theorem dX18_command_377 : decode cX18_command 377 = .ok (.iastore, 1) := dk_79 (dk_at dksX18_command_14 15 rfl rfl)
theorem dX18_command_378 : decode cX18_command 378 = .ok (.invokespecial 112, 3) := dk_183 0 112 (dk_at dksX18_command_14 16 rfl rfl)
theorem dX18_command_381 : decode cX18_command 381 = .ok (.areturn, 1) := dk_176 (dk_at dksX18_command_14 19 rfl rfl)
theorem dX18_command_382 : decode cX18_command 382 = .ok (.new 110, 3) := dk_187 0 110 (dk_at dksX18_command_14 20 rfl rfl)
theorem dX18_command_385 : decode cX18_command 385 = .ok (.dup, 1) := dk_89 (dk_at dksX18_command_14 23 rfl rfl)
theorem dX18_command_386 : decode cX18_command 386 = .ok (.aload_n 1, 1) := dk_43 (dk_at dksX18_command_15 0 rfl rfl)
theorem dX18_command_387 : decode cX18_command 387 = .ok (.iconst 0, 1) := dk_3 (dk_at dksX18_command_15 1 rfl rfl)
theorem dX18_command_388 : decode cX18_command 388 = .ok (.newarray .int, 2) := dk_188_10 (dk_at dksX18_command_15 2 rfl rfl)
theorem dX18_command_390 : decode cX18_command 390 = .ok (.invokespecial 112, 3) := dk_183 0 112 (dk_at dksX18_command_15 4 rfl rfl)
theorem dX18_command_393 : decode cX18_command 393 = .ok (.areturn, 1) := dk_176 (dk_at dksX18_command_15 7 rfl rfl)
theorem dX18_command_394 : decode cX18_command 394 = .ok (.new 110, 3) := dk_187 0 110 (dk_at dksX18_command_15 8 rfl rfl)
theorem dX18_command_397 : decode cX18_command 397 = .ok (.dup, 1) := dk_89 (dk_at dksX18_command_15 11 rfl rfl)
theorem dX18_command_398 : decode cX18_command 398 = .ok (.aload_n 1, 1) := dk_43 (dk_at dksX18_command_15 12 rfl rfl)
theorem dX18_command_399 : decode cX18_command 399 = .ok (.iconst 1, 1) := dk_4 (dk_at dksX18_command_15 13 rfl rfl)
theorem dX18_command_400 : decode cX18_command 400 = .ok (.newarray .int, 2) := dk_188_10 (dk_at dksX18_command_15 14 rfl rfl)
theorem dX18_command_402 : decode cX18_command 402 = .ok (.dup, 1) := dk_89 (dk_at dksX18_command_15 16 rfl rfl)
theorem dX18_command_403 : decode cX18_command 403 = .ok (.iconst 0, 1) := dk_3 (dk_at dksX18_command_15 17 rfl rfl)
theorem dX18_command_404 : decode cX18_command 404 = .ok (.aload_n 0, 1) := dk_42 (dk_at dksX18_command_15 18 rfl rfl)
theorem dX18_command_405 : decode cX18_command 405 = .ok (.invokevirtual 34, 3) := dk_182 0 34 (dk_at dksX18_command_15 19 rfl rfl)
theorem dX18_command_408 : decode cX18_command 408 = .ok (.bipush 32, 2) := dk_16 32 (dk_at dksX18_command_15 22 rfl rfl)
theorem dX18_command_410 : decode cX18_command 410 = .ok (.if_icmp .ne 12, 3) := dk_160 0 12 (dk_at dksX18_command_16 0 rfl rfl)
theorem dX18_command_413 : decode cX18_command 413 = .ok (.aload_n 0, 1) := dk_42 (dk_at dksX18_command_16 3 rfl rfl)
theorem dX18_command_414 : decode cX18_command 414 = .ok (.bipush 32, 2) := dk_16 32 (dk_at dksX18_command_16 4 rfl rfl)
theorem dX18_command_416 : decode cX18_command 416 = .ok (.invokevirtual 46, 3) := dk_182 0 46 (dk_at dksX18_command_16 6 rfl rfl)
theorem dX18_command_419 : decode cX18_command 419 = .ok (.goto 4, 3) := dk_167 0 4 (dk_at dksX18_command_16 9 rfl rfl)
theorem dX18_command_422 : decode cX18_command 422 = .ok (.iconst 1, 1) := dk_4 (dk_at dksX18_command_16 12 rfl rfl)
theorem dX18_command_423 : decode cX18_command 423 = .ok (.iastore, 1) := dk_79 (dk_at dksX18_command_16 13 rfl rfl)
theorem dX18_command_424 : decode cX18_command 424 = .ok (.invokespecial 112, 3) := dk_183 0 112 (dk_at dksX18_command_16 14 rfl rfl)
theorem dX18_command_427 : decode cX18_command 427 = .ok (.areturn, 1) := dk_176 (dk_at dksX18_command_16 17 rfl rfl)
theorem dX18_command_428 : decode cX18_command 428 = .ok (.new 110, 3) := dk_187 0 110 (dk_at dksX18_command_16 18 rfl rfl)
theorem dX18_command_431 : decode cX18_command 431 = .ok (.dup, 1) := dk_89 (dk_at dksX18_command_16 21 rfl rfl)
theorem dX18_command_432 : decode cX18_command 432 = .ok (.aload_n 1, 1) := dk_43 (dk_at dksX18_command_16 22 rfl rfl)
theorem dX18_command_433 : decode cX18_command 433 = .ok (.iconst 1, 1) := dk_4 (dk_at dksX18_command_16 23 rfl rfl)
theorem dX18_command_434 : decode cX18_command 434 = .ok (.newarray .int, 2) := dk_188_10 (dk_at dksX18_command_17 0 rfl rfl)
theorem dX18_command_436 : decode cX18_command 436 = .ok (.dup, 1) := dk_89 (dk_at dksX18_command_17 2 rfl rfl)
theorem dX18_command_437 : decode cX18_command 437 = .ok (.iconst 0, 1) := dk_3 (dk_at dksX18_command_17 3 rfl rfl)
theorem dX18_command_438 : decode cX18_command 438 = .ok (.aload_n 0, 1) := dk_42 (dk_at dksX18_command_17 4 rfl rfl)
theorem dX18_command_439 : decode cX18_command 439 = .ok (.bipush 32, 2) := dk_16 32 (dk_at dksX18_command_17 5 rfl rfl)
theorem dX18_command_441 : decode cX18_command 441 = .ok (.invokevirtual 46, 3) := dk_182 0 46 (dk_at dksX18_command_17 7 rfl rfl)
theorem dX18_command_444 : decode cX18_command 444 = .ok (.iastore, 1) := dk_79 (dk_at dksX18_command_17 10 rfl rfl)
theorem dX18_command_445 : decode cX18_command 445 = .ok (.invokespecial 112, 3) := dk_183 0 112 (dk_at dksX18_command_17 11 rfl rfl)
theorem dX18_command_448 : decode cX18_command 448 = .ok (.areturn, 1) := dk_176 (dk_at dksX18_command_17 14 rfl rfl)
def dkwX18_word_5 : List UInt8 := [182, 0, 77, 153, 0, 7, 4, 167, 0, 4, 3, 182, 0, 38, 43, 182, 0, 73, 176]
abbrev dktX18_word_5 : List UInt8 := dkwX18_word_5 ++ []
def dkwX18_word_4 : List UInt8 := [187, 0, 56, 89, 183, 0, 58, 18, 61, 182, 0, 63, 43, 182, 0, 67, 18, 61, 182, 0, 63, 182, 0, 73]
abbrev dktX18_word_4 : List UInt8 := dkwX18_word_4 ++ dktX18_word_5
def dkwX18_word_3 : List UInt8 := [42, 89, 180, 0, 15, 4, 96, 181, 0, 15, 167, 255, 184, 42, 43, 182, 0, 81, 158, 0, 39, 18, 59]
abbrev dktX18_word_3 : List UInt8 := dkwX18_word_3 ++ dktX18_word_4
def dkwX18_word_2 : List UInt8 := [182, 0, 34, 182, 0, 70, 182, 0, 73, 182, 0, 77, 182, 0, 38, 43, 42, 182, 0, 34, 182, 0, 70, 87]
abbrev dktX18_word_2 : List UInt8 := dkwX18_word_2 ++ dktX18_word_3
def dkwX18_word_1 : List UInt8 := [163, 0, 60, 42, 18, 59, 187, 0, 56, 89, 183, 0, 58, 18, 61, 182, 0, 63, 43, 182, 0, 67, 42]
abbrev dktX18_word_1 : List UInt8 := dkwX18_word_1 ++ dktX18_word_2
def dkwX18_word_0 : List UInt8 := [187, 0, 56, 89, 183, 0, 58, 76, 42, 182, 0, 34, 16, 97, 161, 0, 69, 42, 182, 0, 34, 16, 122]
abbrev dktX18_word_0 : List UInt8 := dkwX18_word_0 ++ dktX18_word_1
theorem dksX18_word_0 : cX18_word.data.toList.drop 0 = dktX18_word_0 := by decide +kernel
theorem dksX18_word_1 : cX18_word.data.toList.drop 23 = dktX18_word_1 := dk_seg dksX18_word_0 23 rfl rfl
theorem dksX18_word_2 : cX18_word.data.toList.drop 46 = dktX18_word_2 := dk_seg dksX18_word_1 23 rfl rfl
theorem dksX18_word_3 : cX18_word.data.toList.drop 70 = dktX18_word_3 := dk_seg dksX18_word_2 24 rfl rfl
theorem dksX18_word_4 : cX18_word.data.toList.drop 93 = dktX18_word_4 := dk_seg dksX18_word_3 23 rfl rfl
theorem dksX18_word_5 : cX18_word.data.toList.drop 117 = dktX18_word_5 := dk_seg dksX18_word_4 24 rfl rfl
theorem dX18_word_0 : decode cX18_word 0 = .ok (.new 56, 3) := dk_187 0 56 (dk_at dksX18_word_0 0 rfl rfl)
theorem dX18_word_3 : decode cX18_word 3 = .ok (.dup, 1) := dk_89 (dk_at dksX18_word_0 3 rfl rfl)
theorem dX18_word_4 : decode cX18_word 4 = .ok (.invokespecial 58, 3) := dk_183 0 58 (dk_at dksX18_word_0 4 rfl rfl)
theorem dX18_word_7 : decode cX18_word 7 = .ok (.astore_n 1, 1) := dk_76 (dk_at dksX18_word_0 7 rfl rfl)
theorem dX18_word_8 : decode cX18_word 8 = .ok (.aload_n 0, 1) := dk_42 (dk_at dksX18_word_0 8 rfl rfl)
theorem dX18_word_9 : decode cX18_word 9 = .ok (.invokevirtual 34, 3) := dk_182 0 34 (dk_at dksX18_word_0 9 rfl rfl)
theorem dX18_word_12 : decode cX18_word 12 = .ok (.bipush 97, 2) := dk_16 97 (dk_at dksX18_word_0 12 rfl rfl)
theorem dX18_word_14 : decode cX18_word 14 = .ok (.if_icmp .lt 69, 3) := dk_161 0 69 (dk_at dksX18_word_0 14 rfl rfl)
theorem dX18_word_17 : decode cX18_word 17 = .ok (.aload_n 0, 1) := dk_42 (dk_at dksX18_word_0 17 rfl rfl)
theorem dX18_word_18 : decode cX18_word 18 = .ok (.invokevirtual 34, 3) := dk_182 0 34 (dk_at dksX18_word_0 18 rfl rfl)
theorem dX18_word_21 : decode cX18_word 21 = .ok (.bipush 122, 2) := dk_16 122 (dk_at dksX18_word_0 21 rfl rfl)
theorem dX18_word_23 : decode cX18_word 23 = .ok (.if_icmp .gt 60, 3) := dk_163 0 60 (dk_at dksX18_word_1 0 rfl rfl)
theorem dX18_word_26 : decode cX18_word 26 = .ok (.aload_n 0, 1) := dk_42 (dk_at dksX18_word_1 3 rfl rfl)
theorem dX18_word_27 : decode cX18_word 27 = .ok (.ldc 59, 2) := dk_18 59 (dk_at dksX18_word_1 4 rfl rfl)
theorem dX18_word_29 : decode cX18_word 29 = .ok (.new 56, 3) := dk_187 0 56 (dk_at dksX18_word_1 6 rfl rfl)
theorem dX18_word_32 : decode cX18_word 32 = .ok (.dup, 1) := dk_89 (dk_at dksX18_word_1 9 rfl rfl)
theorem dX18_word_33 : decode cX18_word 33 = .ok (.invokespecial 58, 3) := dk_183 0 58 (dk_at dksX18_word_1 10 rfl rfl)
theorem dX18_word_36 : decode cX18_word 36 = .ok (.ldc 61, 2) := dk_18 61 (dk_at dksX18_word_1 13 rfl rfl)
theorem dX18_word_38 : decode cX18_word 38 = .ok (.invokevirtual 63, 3) := dk_182 0 63 (dk_at dksX18_word_1 15 rfl rfl)
theorem dX18_word_41 : decode cX18_word 41 = .ok (.aload_n 1, 1) := dk_43 (dk_at dksX18_word_1 18 rfl rfl)
theorem dX18_word_42 : decode cX18_word 42 = .ok (.invokevirtual 67, 3) := dk_182 0 67 (dk_at dksX18_word_1 19 rfl rfl)
theorem dX18_word_45 : decode cX18_word 45 = .ok (.aload_n 0, 1) := dk_42 (dk_at dksX18_word_1 22 rfl rfl)
theorem dX18_word_46 : decode cX18_word 46 = .ok (.invokevirtual 34, 3) := dk_182 0 34 (dk_at dksX18_word_2 0 rfl rfl)
theorem dX18_word_49 : decode cX18_word 49 = .ok (.invokevirtual 70, 3) := dk_182 0 70 (dk_at dksX18_word_2 3 rfl rfl)
theorem dX18_word_52 : decode cX18_word 52 = .ok (.invokevirtual 73, 3) := dk_182 0 73 (dk_at dksX18_word_2 6 rfl rfl)
theorem dX18_word_55 : decode cX18_word 55 = .ok (.invokevirtual 77, 3) := dk_182 0 77 (dk_at dksX18_word_2 9 rfl rfl)
theorem dX18_word_58 : decode cX18_word 58 = .ok (.invokevirtual 38, 3) := dk_182 0 38 (dk_at dksX18_word_2 12 rfl rfl)
theorem dX18_word_61 : decode cX18_word 61 = .ok (.aload_n 1, 1) := dk_43 (dk_at dksX18_word_2 15 rfl rfl)
theorem dX18_word_62 : decode cX18_word 62 = .ok (.aload_n 0, 1) := dk_42 (dk_at dksX18_word_2 16 rfl rfl)
theorem dX18_word_63 : decode cX18_word 63 = .ok (.invokevirtual 34, 3) := dk_182 0 34 (dk_at dksX18_word_2 17 rfl rfl)
theorem dX18_word_66 : decode cX18_word 66 = .ok (.invokevirtual 70, 3) := dk_182 0 70 (dk_at dksX18_word_2 20 rfl rfl)
theorem dX18_word_69 : decode cX18_word 69 = .ok (.pop, 1) := dk_87 (dk_at dksX18_word_2 23 rfl rfl)
theorem dX18_word_70 : decode cX18_word 70 = .ok (.aload_n 0, 1) := dk_42 (dk_at dksX18_word_3 0 rfl rfl)
theorem dX18_word_71 : decode cX18_word 71 = .ok (.dup, 1) := dk_89 (dk_at dksX18_word_3 1 rfl rfl)
theorem dX18_word_72 : decode cX18_word 72 = .ok (.getfield 15, 3) := dk_180 0 15 (dk_at dksX18_word_3 2 rfl rfl)
theorem dX18_word_75 : decode cX18_word 75 = .ok (.iconst 1, 1) := dk_4 (dk_at dksX18_word_3 5 rfl rfl)
theorem dX18_word_76 : decode cX18_word 76 = .ok (.iadd, 1) := dk_96 (dk_at dksX18_word_3 6 rfl rfl)
theorem dX18_word_77 : decode cX18_word 77 = .ok (.putfield 15, 3) := dk_181 0 15 (dk_at dksX18_word_3 7 rfl rfl)
theorem dX18_word_80 : decode cX18_word 80 = .ok (.goto (-72), 3) := dk_167 255 184 (dk_at dksX18_word_3 10 rfl rfl)
theorem dX18_word_83 : decode cX18_word 83 = .ok (.aload_n 0, 1) := dk_42 (dk_at dksX18_word_3 13 rfl rfl)
theorem dX18_word_84 : decode cX18_word 84 = .ok (.aload_n 1, 1) := dk_43 (dk_at dksX18_word_3 14 rfl rfl)
theorem dX18_word_85 : decode cX18_word 85 = .ok (.invokevirtual 81, 3) := dk_182 0 81 (dk_at dksX18_word_3 15 rfl rfl)
theorem dX18_word_88 : decode cX18_word 88 = .ok (.ifCond .le 39, 3) := dk_158 0 39 (dk_at dksX18_word_3 18 rfl rfl)
theorem dX18_word_91 : decode cX18_word 91 = .ok (.ldc 59, 2) := dk_18 59 (dk_at dksX18_word_3 21 rfl rfl)
theorem dX18_word_93 : decode cX18_word 93 = .ok (.new 56, 3) := dk_187 0 56 (dk_at dksX18_word_4 0 rfl rfl)
theorem dX18_word_96 : decode cX18_word 96 = .ok (.dup, 1) := dk_89 (dk_at dksX18_word_4 3 rfl rfl)
theorem dX18_word_97 : decode cX18_word 97 = .ok (.invokespecial 58, 3) := dk_183 0 58 (dk_at dksX18_word_4 4 rfl rfl)
theorem dX18_word_100 : decode cX18_word 100 = .ok (.ldc 61, 2) := dk_18 61 (dk_at dksX18_word_4 7 rfl rfl)
theorem dX18_word_102 : decode cX18_word 102 = .ok (.invokevirtual 63, 3) := dk_182 0 63 (dk_at dksX18_word_4 9 rfl rfl)
theorem dX18_word_105 : decode cX18_word 105 = .ok (.aload_n 1, 1) := dk_43 (dk_at dksX18_word_4 12 rfl rfl)
theorem dX18_word_106 : decode cX18_word 106 = .ok (.invokevirtual 67, 3) := dk_182 0 67 (dk_at dksX18_word_4 13 rfl rfl)
theorem dX18_word_109 : decode cX18_word 109 = .ok (.ldc 61, 2) := dk_18 61 (dk_at dksX18_word_4 16 rfl rfl)
theorem dX18_word_111 : decode cX18_word 111 = .ok (.invokevirtual 63, 3) := dk_182 0 63 (dk_at dksX18_word_4 18 rfl rfl)
theorem dX18_word_114 : decode cX18_word 114 = .ok (.invokevirtual 73, 3) := dk_182 0 73 (dk_at dksX18_word_4 21 rfl rfl)
theorem dX18_word_117 : decode cX18_word 117 = .ok (.invokevirtual 77, 3) := dk_182 0 77 (dk_at dksX18_word_5 0 rfl rfl)
theorem dX18_word_120 : decode cX18_word 120 = .ok (.ifCond .eq 7, 3) := dk_153 0 7 (dk_at dksX18_word_5 3 rfl rfl)
theorem dX18_word_123 : decode cX18_word 123 = .ok (.iconst 1, 1) := dk_4 (dk_at dksX18_word_5 6 rfl rfl)
theorem dX18_word_124 : decode cX18_word 124 = .ok (.goto 4, 3) := dk_167 0 4 (dk_at dksX18_word_5 7 rfl rfl)
theorem dX18_word_127 : decode cX18_word 127 = .ok (.iconst 0, 1) := dk_3 (dk_at dksX18_word_5 10 rfl rfl)
theorem dX18_word_128 : decode cX18_word 128 = .ok (.invokevirtual 38, 3) := dk_182 0 38 (dk_at dksX18_word_5 11 rfl rfl)
theorem dX18_word_131 : decode cX18_word 131 = .ok (.aload_n 1, 1) := dk_43 (dk_at dksX18_word_5 14 rfl rfl)
theorem dX18_word_132 : decode cX18_word 132 = .ok (.invokevirtual 73, 3) := dk_182 0 73 (dk_at dksX18_word_5 15 rfl rfl)
theorem dX18_word_135 : decode cX18_word 135 = .ok (.areturn, 1) := dk_176 (dk_at dksX18_word_5 18 rfl rfl)
def dkwX18_current_1 : List UInt8 := [182, 0, 25, 167, 0, 5, 16, 10, 172]
abbrev dktX18_current_1 : List UInt8 := dkwX18_current_1 ++ []
def dkwX18_current_0 : List UInt8 := [42, 180, 0, 15, 42, 180, 0, 9, 182, 0, 19, 162, 0, 17, 42, 180, 0, 9, 42, 180, 0, 15]
abbrev dktX18_current_0 : List UInt8 := dkwX18_current_0 ++ dktX18_current_1
theorem dksX18_current_0 : cX18_current.data.toList.drop 0 = dktX18_current_0 := by decide +kernel
theorem dksX18_current_1 : cX18_current.data.toList.drop 22 = dktX18_current_1 := dk_seg dksX18_current_0 22 rfl rfl
theorem dX18_current_0 : decode cX18_current 0 = .ok (.aload_n 0, 1) := dk_42 (dk_at dksX18_current_0 0 rfl rfl)
theorem dX18_current_1 : decode cX18_current 1 = .ok (.getfield 15, 3) := dk_180 0 15 (dk_at dksX18_current_0 1 rfl rfl)
theorem dX18_current_4 : decode cX18_current 4 = .ok (.aload_n 0, 1) := dk_42 (dk_at dksX18_current_0 4 rfl rfl)
theorem dX18_current_5 : decode cX18_current 5 = .ok (.getfield 9, 3) := dk_180 0 9 (dk_at dksX18_current_0 5 rfl rfl)
theorem dX18_current_8 : decode cX18_current 8 = .ok (.invokevirtual 19, 3) := dk_182 0 19 (dk_at dksX18_current_0 8 rfl rfl)
theorem dX18_current_11 : decode cX18_current 11 = .ok (.if_icmp .ge 17, 3) := dk_162 0 17 (dk_at dksX18_current_0 11 rfl rfl)
theorem dX18_current_14 : decode cX18_current 14 = .ok (.aload_n 0, 1) := dk_42 (dk_at dksX18_current_0 14 rfl rfl)
theorem dX18_current_15 : decode cX18_current 15 = .ok (.getfield 9, 3) := dk_180 0 9 (dk_at dksX18_current_0 15 rfl rfl)
theorem dX18_current_18 : decode cX18_current 18 = .ok (.aload_n 0, 1) := dk_42 (dk_at dksX18_current_0 18 rfl rfl)
theorem dX18_current_19 : decode cX18_current 19 = .ok (.getfield 15, 3) := dk_180 0 15 (dk_at dksX18_current_0 19 rfl rfl)
theorem dX18_current_22 : decode cX18_current 22 = .ok (.invokevirtual 25, 3) := dk_182 0 25 (dk_at dksX18_current_1 0 rfl rfl)
theorem dX18_current_25 : decode cX18_current 25 = .ok (.goto 5, 3) := dk_167 0 5 (dk_at dksX18_current_1 3 rfl rfl)
theorem dX18_current_28 : decode cX18_current 28 = .ok (.bipush 10, 2) := dk_16 10 (dk_at dksX18_current_1 6 rfl rfl)
theorem dX18_current_30 : decode cX18_current 30 = .ok (.ireturn, 1) := dk_172 (dk_at dksX18_current_1 8 rfl rfl)
def dkwX18_require_0 : List UInt8 := [27, 154, 0, 15, 187, 0, 29, 89, 42, 180, 0, 15, 183, 0, 31, 191, 177]
abbrev dktX18_require_0 : List UInt8 := dkwX18_require_0 ++ []
theorem dksX18_require_0 : cX18_require.data.toList.drop 0 = dktX18_require_0 := by decide +kernel
theorem dX18_require_0 : decode cX18_require 0 = .ok (.iload_n 1, 1) := dk_27 (dk_at dksX18_require_0 0 rfl rfl)
theorem dX18_require_1 : decode cX18_require 1 = .ok (.ifCond .ne 15, 3) := dk_154 0 15 (dk_at dksX18_require_0 1 rfl rfl)
theorem dX18_require_4 : decode cX18_require 4 = .ok (.new 29, 3) := dk_187 0 29 (dk_at dksX18_require_0 4 rfl rfl)
theorem dX18_require_7 : decode cX18_require 7 = .ok (.dup, 1) := dk_89 (dk_at dksX18_require_0 7 rfl rfl)
theorem dX18_require_8 : decode cX18_require 8 = .ok (.aload_n 0, 1) := dk_42 (dk_at dksX18_require_0 8 rfl rfl)
theorem dX18_require_9 : decode cX18_require 9 = .ok (.getfield 15, 3) := dk_180 0 15 (dk_at dksX18_require_0 9 rfl rfl)
theorem dX18_require_12 : decode cX18_require 12 = .ok (.invokespecial 31, 3) := dk_183 0 31 (dk_at dksX18_require_0 12 rfl rfl)
theorem dX18_require_15 : decode cX18_require 15 = .ok (.athrow, 1) := dk_191 (dk_at dksX18_require_0 15 rfl rfl)
theorem dX18_require_16 : decode cX18_require 16 = .ok (.return_, 1) := dk_177 (dk_at dksX18_require_0 16 rfl rfl)
def dkwX18_colour_1 : List UInt8 := [42, 16, 47, 182, 0, 46, 79, 43, 176]
abbrev dktX18_colour_1 : List UInt8 := dkwX18_colour_1 ++ []
def dkwX18_colour_0 : List UInt8 := [6, 188, 10, 76, 43, 3, 42, 16, 32, 182, 0, 46, 79, 43, 4, 42, 16, 47, 182, 0, 46, 79, 43, 5]
abbrev dktX18_colour_0 : List UInt8 := dkwX18_colour_0 ++ dktX18_colour_1
theorem dksX18_colour_0 : cX18_colour.data.toList.drop 0 = dktX18_colour_0 := by decide +kernel
theorem dksX18_colour_1 : cX18_colour.data.toList.drop 24 = dktX18_colour_1 := dk_seg dksX18_colour_0 24 rfl rfl
theorem dX18_colour_0 : decode cX18_colour 0 = .ok (.iconst 3, 1) := dk_6 (dk_at dksX18_colour_0 0 rfl rfl)
theorem dX18_colour_1 : decode cX18_colour 1 = .ok (.newarray .int, 2) := dk_188_10 (dk_at dksX18_colour_0 1 rfl rfl)
theorem dX18_colour_3 : decode cX18_colour 3 = .ok (.astore_n 1, 1) := dk_76 (dk_at dksX18_colour_0 3 rfl rfl)
theorem dX18_colour_4 : decode cX18_colour 4 = .ok (.aload_n 1, 1) := dk_43 (dk_at dksX18_colour_0 4 rfl rfl)
theorem dX18_colour_5 : decode cX18_colour 5 = .ok (.iconst 0, 1) := dk_3 (dk_at dksX18_colour_0 5 rfl rfl)
theorem dX18_colour_6 : decode cX18_colour 6 = .ok (.aload_n 0, 1) := dk_42 (dk_at dksX18_colour_0 6 rfl rfl)
theorem dX18_colour_7 : decode cX18_colour 7 = .ok (.bipush 32, 2) := dk_16 32 (dk_at dksX18_colour_0 7 rfl rfl)
theorem dX18_colour_9 : decode cX18_colour 9 = .ok (.invokevirtual 46, 3) := dk_182 0 46 (dk_at dksX18_colour_0 9 rfl rfl)
theorem dX18_colour_12 : decode cX18_colour 12 = .ok (.iastore, 1) := dk_79 (dk_at dksX18_colour_0 12 rfl rfl)
theorem dX18_colour_13 : decode cX18_colour 13 = .ok (.aload_n 1, 1) := dk_43 (dk_at dksX18_colour_0 13 rfl rfl)
theorem dX18_colour_14 : decode cX18_colour 14 = .ok (.iconst 1, 1) := dk_4 (dk_at dksX18_colour_0 14 rfl rfl)
theorem dX18_colour_15 : decode cX18_colour 15 = .ok (.aload_n 0, 1) := dk_42 (dk_at dksX18_colour_0 15 rfl rfl)
theorem dX18_colour_16 : decode cX18_colour 16 = .ok (.bipush 47, 2) := dk_16 47 (dk_at dksX18_colour_0 16 rfl rfl)
theorem dX18_colour_18 : decode cX18_colour 18 = .ok (.invokevirtual 46, 3) := dk_182 0 46 (dk_at dksX18_colour_0 18 rfl rfl)
theorem dX18_colour_21 : decode cX18_colour 21 = .ok (.iastore, 1) := dk_79 (dk_at dksX18_colour_0 21 rfl rfl)
theorem dX18_colour_22 : decode cX18_colour 22 = .ok (.aload_n 1, 1) := dk_43 (dk_at dksX18_colour_0 22 rfl rfl)
theorem dX18_colour_23 : decode cX18_colour 23 = .ok (.iconst 2, 1) := dk_5 (dk_at dksX18_colour_0 23 rfl rfl)
theorem dX18_colour_24 : decode cX18_colour 24 = .ok (.aload_n 0, 1) := dk_42 (dk_at dksX18_colour_1 0 rfl rfl)
theorem dX18_colour_25 : decode cX18_colour 25 = .ok (.bipush 47, 2) := dk_16 47 (dk_at dksX18_colour_1 1 rfl rfl)
theorem dX18_colour_27 : decode cX18_colour 27 = .ok (.invokevirtual 46, 3) := dk_182 0 46 (dk_at dksX18_colour_1 3 rfl rfl)
theorem dX18_colour_30 : decode cX18_colour 30 = .ok (.iastore, 1) := dk_79 (dk_at dksX18_colour_1 6 rfl rfl)
theorem dX18_colour_31 : decode cX18_colour 31 = .ok (.aload_n 1, 1) := dk_43 (dk_at dksX18_colour_1 7 rfl rfl)
theorem dX18_colour_32 : decode cX18_colour 32 = .ok (.areturn, 1) := dk_176 (dk_at dksX18_colour_1 8 rfl rfl)
def dkwX18_numberAfter_3 : List UInt8 := [89, 180, 0, 15, 4, 96, 181, 0, 15, 132, 3, 1, 167, 255, 211, 28, 172]
abbrev dktX18_numberAfter_3 : List UInt8 := dkwX18_numberAfter_3 ++ []
def dkwX18_numberAfter_2 : List UInt8 := [153, 0, 39, 16, 10, 28, 104, 42, 180, 0, 9, 42, 180, 0, 15, 182, 0, 25, 96, 16, 48, 100, 61, 42]
abbrev dktX18_numberAfter_2 : List UInt8 := dkwX18_numberAfter_2 ++ dktX18_numberAfter_3
def dkwX18_numberAfter_1 : List UInt8 := [181, 0, 15, 42, 42, 182, 0, 42, 182, 0, 38, 3, 61, 3, 62, 29, 7, 162, 0, 46, 42, 182, 0, 42]
abbrev dktX18_numberAfter_1 : List UInt8 := dkwX18_numberAfter_1 ++ dktX18_numberAfter_2
def dkwX18_numberAfter_0 : List UInt8 := [42, 42, 182, 0, 34, 27, 160, 0, 7, 4, 167, 0, 4, 3, 182, 0, 38, 42, 89, 180, 0, 15, 4, 96]
abbrev dktX18_numberAfter_0 : List UInt8 := dkwX18_numberAfter_0 ++ dktX18_numberAfter_1
theorem dksX18_numberAfter_0 : cX18_numberAfter.data.toList.drop 0 = dktX18_numberAfter_0 := by decide +kernel
theorem dksX18_numberAfter_1 : cX18_numberAfter.data.toList.drop 24 = dktX18_numberAfter_1 := dk_seg dksX18_numberAfter_0 24 rfl rfl
theorem dksX18_numberAfter_2 : cX18_numberAfter.data.toList.drop 48 = dktX18_numberAfter_2 := dk_seg dksX18_numberAfter_1 24 rfl rfl
theorem dksX18_numberAfter_3 : cX18_numberAfter.data.toList.drop 72 = dktX18_numberAfter_3 := dk_seg dksX18_numberAfter_2 24 rfl rfl
theorem dX18_numberAfter_0 : decode cX18_numberAfter 0 = .ok (.aload_n 0, 1) := dk_42 (dk_at dksX18_numberAfter_0 0 rfl rfl)
theorem dX18_numberAfter_1 : decode cX18_numberAfter 1 = .ok (.aload_n 0, 1) := dk_42 (dk_at dksX18_numberAfter_0 1 rfl rfl)
theorem dX18_numberAfter_2 : decode cX18_numberAfter 2 = .ok (.invokevirtual 34, 3) := dk_182 0 34 (dk_at dksX18_numberAfter_0 2 rfl rfl)
theorem dX18_numberAfter_5 : decode cX18_numberAfter 5 = .ok (.iload_n 1, 1) := dk_27 (dk_at dksX18_numberAfter_0 5 rfl rfl)
theorem dX18_numberAfter_6 : decode cX18_numberAfter 6 = .ok (.if_icmp .ne 7, 3) := dk_160 0 7 (dk_at dksX18_numberAfter_0 6 rfl rfl)
theorem dX18_numberAfter_9 : decode cX18_numberAfter 9 = .ok (.iconst 1, 1) := dk_4 (dk_at dksX18_numberAfter_0 9 rfl rfl)
theorem dX18_numberAfter_10 : decode cX18_numberAfter 10 = .ok (.goto 4, 3) := dk_167 0 4 (dk_at dksX18_numberAfter_0 10 rfl rfl)
theorem dX18_numberAfter_13 : decode cX18_numberAfter 13 = .ok (.iconst 0, 1) := dk_3 (dk_at dksX18_numberAfter_0 13 rfl rfl)
theorem dX18_numberAfter_14 : decode cX18_numberAfter 14 = .ok (.invokevirtual 38, 3) := dk_182 0 38 (dk_at dksX18_numberAfter_0 14 rfl rfl)
theorem dX18_numberAfter_17 : decode cX18_numberAfter 17 = .ok (.aload_n 0, 1) := dk_42 (dk_at dksX18_numberAfter_0 17 rfl rfl)
theorem dX18_numberAfter_18 : decode cX18_numberAfter 18 = .ok (.dup, 1) := dk_89 (dk_at dksX18_numberAfter_0 18 rfl rfl)
theorem dX18_numberAfter_19 : decode cX18_numberAfter 19 = .ok (.getfield 15, 3) := dk_180 0 15 (dk_at dksX18_numberAfter_0 19 rfl rfl)
theorem dX18_numberAfter_22 : decode cX18_numberAfter 22 = .ok (.iconst 1, 1) := dk_4 (dk_at dksX18_numberAfter_0 22 rfl rfl)
theorem dX18_numberAfter_23 : decode cX18_numberAfter 23 = .ok (.iadd, 1) := dk_96 (dk_at dksX18_numberAfter_0 23 rfl rfl)
theorem dX18_numberAfter_24 : decode cX18_numberAfter 24 = .ok (.putfield 15, 3) := dk_181 0 15 (dk_at dksX18_numberAfter_1 0 rfl rfl)
theorem dX18_numberAfter_27 : decode cX18_numberAfter 27 = .ok (.aload_n 0, 1) := dk_42 (dk_at dksX18_numberAfter_1 3 rfl rfl)
theorem dX18_numberAfter_28 : decode cX18_numberAfter 28 = .ok (.aload_n 0, 1) := dk_42 (dk_at dksX18_numberAfter_1 4 rfl rfl)
theorem dX18_numberAfter_29 : decode cX18_numberAfter 29 = .ok (.invokevirtual 42, 3) := dk_182 0 42 (dk_at dksX18_numberAfter_1 5 rfl rfl)
theorem dX18_numberAfter_32 : decode cX18_numberAfter 32 = .ok (.invokevirtual 38, 3) := dk_182 0 38 (dk_at dksX18_numberAfter_1 8 rfl rfl)
theorem dX18_numberAfter_35 : decode cX18_numberAfter 35 = .ok (.iconst 0, 1) := dk_3 (dk_at dksX18_numberAfter_1 11 rfl rfl)
theorem dX18_numberAfter_36 : decode cX18_numberAfter 36 = .ok (.istore_n 2, 1) := dk_61 (dk_at dksX18_numberAfter_1 12 rfl rfl)
theorem dX18_numberAfter_37 : decode cX18_numberAfter 37 = .ok (.iconst 0, 1) := dk_3 (dk_at dksX18_numberAfter_1 13 rfl rfl)
theorem dX18_numberAfter_38 : decode cX18_numberAfter 38 = .ok (.istore_n 3, 1) := dk_62 (dk_at dksX18_numberAfter_1 14 rfl rfl)
theorem dX18_numberAfter_39 : decode cX18_numberAfter 39 = .ok (.iload_n 3, 1) := dk_29 (dk_at dksX18_numberAfter_1 15 rfl rfl)
theorem dX18_numberAfter_40 : decode cX18_numberAfter 40 = .ok (.iconst 4, 1) := dk_7 (dk_at dksX18_numberAfter_1 16 rfl rfl)
theorem dX18_numberAfter_41 : decode cX18_numberAfter 41 = .ok (.if_icmp .ge 46, 3) := dk_162 0 46 (dk_at dksX18_numberAfter_1 17 rfl rfl)
theorem dX18_numberAfter_44 : decode cX18_numberAfter 44 = .ok (.aload_n 0, 1) := dk_42 (dk_at dksX18_numberAfter_1 20 rfl rfl)
theorem dX18_numberAfter_45 : decode cX18_numberAfter 45 = .ok (.invokevirtual 42, 3) := dk_182 0 42 (dk_at dksX18_numberAfter_1 21 rfl rfl)
theorem dX18_numberAfter_48 : decode cX18_numberAfter 48 = .ok (.ifCond .eq 39, 3) := dk_153 0 39 (dk_at dksX18_numberAfter_2 0 rfl rfl)
theorem dX18_numberAfter_51 : decode cX18_numberAfter 51 = .ok (.bipush 10, 2) := dk_16 10 (dk_at dksX18_numberAfter_2 3 rfl rfl)
theorem dX18_numberAfter_53 : decode cX18_numberAfter 53 = .ok (.iload_n 2, 1) := dk_28 (dk_at dksX18_numberAfter_2 5 rfl rfl)
theorem dX18_numberAfter_54 : decode cX18_numberAfter 54 = .ok (.imul, 1) := dk_104 (dk_at dksX18_numberAfter_2 6 rfl rfl)
theorem dX18_numberAfter_55 : decode cX18_numberAfter 55 = .ok (.aload_n 0, 1) := dk_42 (dk_at dksX18_numberAfter_2 7 rfl rfl)
theorem dX18_numberAfter_56 : decode cX18_numberAfter 56 = .ok (.getfield 9, 3) := dk_180 0 9 (dk_at dksX18_numberAfter_2 8 rfl rfl)
theorem dX18_numberAfter_59 : decode cX18_numberAfter 59 = .ok (.aload_n 0, 1) := dk_42 (dk_at dksX18_numberAfter_2 11 rfl rfl)
theorem dX18_numberAfter_60 : decode cX18_numberAfter 60 = .ok (.getfield 15, 3) := dk_180 0 15 (dk_at dksX18_numberAfter_2 12 rfl rfl)
theorem dX18_numberAfter_63 : decode cX18_numberAfter 63 = .ok (.invokevirtual 25, 3) := dk_182 0 25 (dk_at dksX18_numberAfter_2 15 rfl rfl)
theorem dX18_numberAfter_66 : decode cX18_numberAfter 66 = .ok (.iadd, 1) := dk_96 (dk_at dksX18_numberAfter_2 18 rfl rfl)
theorem dX18_numberAfter_67 : decode cX18_numberAfter 67 = .ok (.bipush 48, 2) := dk_16 48 (dk_at dksX18_numberAfter_2 19 rfl rfl)
theorem dX18_numberAfter_69 : decode cX18_numberAfter 69 = .ok (.isub, 1) := dk_100 (dk_at dksX18_numberAfter_2 21 rfl rfl)
theorem dX18_numberAfter_70 : decode cX18_numberAfter 70 = .ok (.istore_n 2, 1) := dk_61 (dk_at dksX18_numberAfter_2 22 rfl rfl)
theorem dX18_numberAfter_71 : decode cX18_numberAfter 71 = .ok (.aload_n 0, 1) := dk_42 (dk_at dksX18_numberAfter_2 23 rfl rfl)
theorem dX18_numberAfter_72 : decode cX18_numberAfter 72 = .ok (.dup, 1) := dk_89 (dk_at dksX18_numberAfter_3 0 rfl rfl)
theorem dX18_numberAfter_73 : decode cX18_numberAfter 73 = .ok (.getfield 15, 3) := dk_180 0 15 (dk_at dksX18_numberAfter_3 1 rfl rfl)
theorem dX18_numberAfter_76 : decode cX18_numberAfter 76 = .ok (.iconst 1, 1) := dk_4 (dk_at dksX18_numberAfter_3 4 rfl rfl)
theorem dX18_numberAfter_77 : decode cX18_numberAfter 77 = .ok (.iadd, 1) := dk_96 (dk_at dksX18_numberAfter_3 5 rfl rfl)
theorem dX18_numberAfter_78 : decode cX18_numberAfter 78 = .ok (.putfield 15, 3) := dk_181 0 15 (dk_at dksX18_numberAfter_3 6 rfl rfl)
theorem dX18_numberAfter_81 : decode cX18_numberAfter 81 = .ok (.iinc 3 1, 3) := dk_132 3 1 (dk_at dksX18_numberAfter_3 9 rfl rfl)
theorem dX18_numberAfter_84 : decode cX18_numberAfter 84 = .ok (.goto (-45), 3) := dk_167 255 211 (dk_at dksX18_numberAfter_3 12 rfl rfl)
theorem dX18_numberAfter_87 : decode cX18_numberAfter 87 = .ok (.iload_n 2, 1) := dk_28 (dk_at dksX18_numberAfter_3 15 rfl rfl)
theorem dX18_numberAfter_88 : decode cX18_numberAfter 88 = .ok (.ireturn, 1) := dk_172 (dk_at dksX18_numberAfter_3 16 rfl rfl)
def dkwX18_isAtDigit_0 : List UInt8 := [42, 182, 0, 34, 16, 48, 161, 0, 16, 42, 182, 0, 34, 16, 57, 163, 0, 7, 4, 167, 0, 4, 3, 172]
abbrev dktX18_isAtDigit_0 : List UInt8 := dkwX18_isAtDigit_0 ++ []
theorem dksX18_isAtDigit_0 : cX18_isAtDigit.data.toList.drop 0 = dktX18_isAtDigit_0 := by decide +kernel
theorem dX18_isAtDigit_0 : decode cX18_isAtDigit 0 = .ok (.aload_n 0, 1) := dk_42 (dk_at dksX18_isAtDigit_0 0 rfl rfl)
theorem dX18_isAtDigit_1 : decode cX18_isAtDigit 1 = .ok (.invokevirtual 34, 3) := dk_182 0 34 (dk_at dksX18_isAtDigit_0 1 rfl rfl)
theorem dX18_isAtDigit_4 : decode cX18_isAtDigit 4 = .ok (.bipush 48, 2) := dk_16 48 (dk_at dksX18_isAtDigit_0 4 rfl rfl)
theorem dX18_isAtDigit_6 : decode cX18_isAtDigit 6 = .ok (.if_icmp .lt 16, 3) := dk_161 0 16 (dk_at dksX18_isAtDigit_0 6 rfl rfl)
theorem dX18_isAtDigit_9 : decode cX18_isAtDigit 9 = .ok (.aload_n 0, 1) := dk_42 (dk_at dksX18_isAtDigit_0 9 rfl rfl)
theorem dX18_isAtDigit_10 : decode cX18_isAtDigit 10 = .ok (.invokevirtual 34, 3) := dk_182 0 34 (dk_at dksX18_isAtDigit_0 10 rfl rfl)
theorem dX18_isAtDigit_13 : decode cX18_isAtDigit 13 = .ok (.bipush 57, 2) := dk_16 57 (dk_at dksX18_isAtDigit_0 13 rfl rfl)
theorem dX18_isAtDigit_15 : decode cX18_isAtDigit 15 = .ok (.if_icmp .gt 7, 3) := dk_163 0 7 (dk_at dksX18_isAtDigit_0 15 rfl rfl)
theorem dX18_isAtDigit_18 : decode cX18_isAtDigit 18 = .ok (.iconst 1, 1) := dk_4 (dk_at dksX18_isAtDigit_0 18 rfl rfl)
theorem dX18_isAtDigit_19 : decode cX18_isAtDigit 19 = .ok (.goto 4, 3) := dk_167 0 4 (dk_at dksX18_isAtDigit_0 19 rfl rfl)
theorem dX18_isAtDigit_22 : decode cX18_isAtDigit 22 = .ok (.iconst 0, 1) := dk_3 (dk_at dksX18_isAtDigit_0 22 rfl rfl)
theorem dX18_isAtDigit_23 : decode cX18_isAtDigit 23 = .ok (.ireturn, 1) := dk_172 (dk_at dksX18_isAtDigit_0 23 rfl rfl)
def dkwX18_metricName_3 : List UInt8 := [182, 0, 25, 172]
abbrev dktX18_metricName_3 : List UInt8 := dkwX18_metricName_3 ++ []
def dkwX18_metricName_2 : List UInt8 := [182, 0, 38, 42, 89, 180, 0, 15, 4, 96, 181, 0, 15, 42, 180, 0, 9, 42, 180, 0, 15, 4, 100]
abbrev dktX18_metricName_2 : List UInt8 := dkwX18_metricName_2 ++ dktX18_metricName_3
def dkwX18_metricName_1 : List UInt8 := [96, 181, 0, 15, 42, 18, 50, 42, 182, 0, 34, 182, 0, 52, 155, 0, 7, 4, 167, 0, 4, 3]
abbrev dktX18_metricName_1 : List UInt8 := dkwX18_metricName_1 ++ dktX18_metricName_2
def dkwX18_metricName_0 : List UInt8 := [42, 42, 182, 0, 34, 16, 32, 160, 0, 7, 4, 167, 0, 4, 3, 182, 0, 38, 42, 89, 180, 0, 15, 4]
abbrev dktX18_metricName_0 : List UInt8 := dkwX18_metricName_0 ++ dktX18_metricName_1
theorem dksX18_metricName_0 : cX18_metricName.data.toList.drop 0 = dktX18_metricName_0 := by decide +kernel
theorem dksX18_metricName_1 : cX18_metricName.data.toList.drop 24 = dktX18_metricName_1 := dk_seg dksX18_metricName_0 24 rfl rfl
theorem dksX18_metricName_2 : cX18_metricName.data.toList.drop 46 = dktX18_metricName_2 := dk_seg dksX18_metricName_1 22 rfl rfl
theorem dksX18_metricName_3 : cX18_metricName.data.toList.drop 69 = dktX18_metricName_3 := dk_seg dksX18_metricName_2 23 rfl rfl
theorem dX18_metricName_0 : decode cX18_metricName 0 = .ok (.aload_n 0, 1) := dk_42 (dk_at dksX18_metricName_0 0 rfl rfl)
theorem dX18_metricName_1 : decode cX18_metricName 1 = .ok (.aload_n 0, 1) := dk_42 (dk_at dksX18_metricName_0 1 rfl rfl)
theorem dX18_metricName_2 : decode cX18_metricName 2 = .ok (.invokevirtual 34, 3) := dk_182 0 34 (dk_at dksX18_metricName_0 2 rfl rfl)
theorem dX18_metricName_5 : decode cX18_metricName 5 = .ok (.bipush 32, 2) := dk_16 32 (dk_at dksX18_metricName_0 5 rfl rfl)
theorem dX18_metricName_7 : decode cX18_metricName 7 = .ok (.if_icmp .ne 7, 3) := dk_160 0 7 (dk_at dksX18_metricName_0 7 rfl rfl)
theorem dX18_metricName_10 : decode cX18_metricName 10 = .ok (.iconst 1, 1) := dk_4 (dk_at dksX18_metricName_0 10 rfl rfl)
theorem dX18_metricName_11 : decode cX18_metricName 11 = .ok (.goto 4, 3) := dk_167 0 4 (dk_at dksX18_metricName_0 11 rfl rfl)
theorem dX18_metricName_14 : decode cX18_metricName 14 = .ok (.iconst 0, 1) := dk_3 (dk_at dksX18_metricName_0 14 rfl rfl)
theorem dX18_metricName_15 : decode cX18_metricName 15 = .ok (.invokevirtual 38, 3) := dk_182 0 38 (dk_at dksX18_metricName_0 15 rfl rfl)
theorem dX18_metricName_18 : decode cX18_metricName 18 = .ok (.aload_n 0, 1) := dk_42 (dk_at dksX18_metricName_0 18 rfl rfl)
theorem dX18_metricName_19 : decode cX18_metricName 19 = .ok (.dup, 1) := dk_89 (dk_at dksX18_metricName_0 19 rfl rfl)
theorem dX18_metricName_20 : decode cX18_metricName 20 = .ok (.getfield 15, 3) := dk_180 0 15 (dk_at dksX18_metricName_0 20 rfl rfl)
theorem dX18_metricName_23 : decode cX18_metricName 23 = .ok (.iconst 1, 1) := dk_4 (dk_at dksX18_metricName_0 23 rfl rfl)
theorem dX18_metricName_24 : decode cX18_metricName 24 = .ok (.iadd, 1) := dk_96 (dk_at dksX18_metricName_1 0 rfl rfl)
theorem dX18_metricName_25 : decode cX18_metricName 25 = .ok (.putfield 15, 3) := dk_181 0 15 (dk_at dksX18_metricName_1 1 rfl rfl)
theorem dX18_metricName_28 : decode cX18_metricName 28 = .ok (.aload_n 0, 1) := dk_42 (dk_at dksX18_metricName_1 4 rfl rfl)
theorem dX18_metricName_29 : decode cX18_metricName 29 = .ok (.ldc 50, 2) := dk_18 50 (dk_at dksX18_metricName_1 5 rfl rfl)
theorem dX18_metricName_31 : decode cX18_metricName 31 = .ok (.aload_n 0, 1) := dk_42 (dk_at dksX18_metricName_1 7 rfl rfl)
theorem dX18_metricName_32 : decode cX18_metricName 32 = .ok (.invokevirtual 34, 3) := dk_182 0 34 (dk_at dksX18_metricName_1 8 rfl rfl)
theorem dX18_metricName_35 : decode cX18_metricName 35 = .ok (.invokevirtual 52, 3) := dk_182 0 52 (dk_at dksX18_metricName_1 11 rfl rfl)
theorem dX18_metricName_38 : decode cX18_metricName 38 = .ok (.ifCond .lt 7, 3) := dk_155 0 7 (dk_at dksX18_metricName_1 14 rfl rfl)
theorem dX18_metricName_41 : decode cX18_metricName 41 = .ok (.iconst 1, 1) := dk_4 (dk_at dksX18_metricName_1 17 rfl rfl)
theorem dX18_metricName_42 : decode cX18_metricName 42 = .ok (.goto 4, 3) := dk_167 0 4 (dk_at dksX18_metricName_1 18 rfl rfl)
theorem dX18_metricName_45 : decode cX18_metricName 45 = .ok (.iconst 0, 1) := dk_3 (dk_at dksX18_metricName_1 21 rfl rfl)
theorem dX18_metricName_46 : decode cX18_metricName 46 = .ok (.invokevirtual 38, 3) := dk_182 0 38 (dk_at dksX18_metricName_2 0 rfl rfl)
theorem dX18_metricName_49 : decode cX18_metricName 49 = .ok (.aload_n 0, 1) := dk_42 (dk_at dksX18_metricName_2 3 rfl rfl)
theorem dX18_metricName_50 : decode cX18_metricName 50 = .ok (.dup, 1) := dk_89 (dk_at dksX18_metricName_2 4 rfl rfl)
theorem dX18_metricName_51 : decode cX18_metricName 51 = .ok (.getfield 15, 3) := dk_180 0 15 (dk_at dksX18_metricName_2 5 rfl rfl)
theorem dX18_metricName_54 : decode cX18_metricName 54 = .ok (.iconst 1, 1) := dk_4 (dk_at dksX18_metricName_2 8 rfl rfl)
theorem dX18_metricName_55 : decode cX18_metricName 55 = .ok (.iadd, 1) := dk_96 (dk_at dksX18_metricName_2 9 rfl rfl)
theorem dX18_metricName_56 : decode cX18_metricName 56 = .ok (.putfield 15, 3) := dk_181 0 15 (dk_at dksX18_metricName_2 10 rfl rfl)
theorem dX18_metricName_59 : decode cX18_metricName 59 = .ok (.aload_n 0, 1) := dk_42 (dk_at dksX18_metricName_2 13 rfl rfl)
theorem dX18_metricName_60 : decode cX18_metricName 60 = .ok (.getfield 9, 3) := dk_180 0 9 (dk_at dksX18_metricName_2 14 rfl rfl)
theorem dX18_metricName_63 : decode cX18_metricName 63 = .ok (.aload_n 0, 1) := dk_42 (dk_at dksX18_metricName_2 17 rfl rfl)
theorem dX18_metricName_64 : decode cX18_metricName 64 = .ok (.getfield 15, 3) := dk_180 0 15 (dk_at dksX18_metricName_2 18 rfl rfl)
theorem dX18_metricName_67 : decode cX18_metricName 67 = .ok (.iconst 1, 1) := dk_4 (dk_at dksX18_metricName_2 21 rfl rfl)
theorem dX18_metricName_68 : decode cX18_metricName 68 = .ok (.isub, 1) := dk_100 (dk_at dksX18_metricName_2 22 rfl rfl)
theorem dX18_metricName_69 : decode cX18_metricName 69 = .ok (.invokevirtual 25, 3) := dk_182 0 25 (dk_at dksX18_metricName_3 0 rfl rfl)
theorem dX18_metricName_72 : decode cX18_metricName 72 = .ok (.ireturn, 1) := dk_172 (dk_at dksX18_metricName_3 3 rfl rfl)
def dkwX19_init_0 : List UInt8 := [42, 1, 183, 0, 1, 42, 27, 181, 0, 7, 177]
abbrev dktX19_init_0 : List UInt8 := dkwX19_init_0 ++ []
theorem dksX19_init_0 : cX19_init.data.toList.drop 0 = dktX19_init_0 := by decide +kernel
theorem dX19_init_0 : decode cX19_init 0 = .ok (.aload_n 0, 1) := dk_42 (dk_at dksX19_init_0 0 rfl rfl)
theorem dX19_init_1 : decode cX19_init 1 = .ok (.aconst_null, 1) := dk_1 (dk_at dksX19_init_0 1 rfl rfl)
theorem dX19_init_2 : decode cX19_init 2 = .ok (.invokespecial 1, 3) := dk_183 0 1 (dk_at dksX19_init_0 2 rfl rfl)
theorem dX19_init_5 : decode cX19_init 5 = .ok (.aload_n 0, 1) := dk_42 (dk_at dksX19_init_0 5 rfl rfl)
theorem dX19_init_6 : decode cX19_init 6 = .ok (.iload_n 1, 1) := dk_27 (dk_at dksX19_init_0 6 rfl rfl)
theorem dX19_init_7 : decode cX19_init 7 = .ok (.putfield 7, 3) := dk_181 0 7 (dk_at dksX19_init_0 7 rfl rfl)
theorem dX19_init_10 : decode cX19_init 10 = .ok (.return_, 1) := dk_177 (dk_at dksX19_init_0 10 rfl rfl)
theorem dX19_position_0 : decode cX19_position 0 = .ok (.aload_n 0, 1) := by decide +kernel
theorem dX19_position_1 : decode cX19_position 1 = .ok (.getfield 7, 3) := by decide +kernel
theorem dX19_position_4 : decode cX19_position 4 = .ok (.ireturn, 1) := by decide +kernel
def dkwX19_asPublicException_0 : List UInt8 := [187, 0, 13, 89, 183, 0, 15, 176]
abbrev dktX19_asPublicException_0 : List UInt8 := dkwX19_asPublicException_0 ++ []
theorem dksX19_asPublicException_0 : cX19_asPublicException.data.toList.drop 0 = dktX19_asPublicException_0 := by decide +kernel
theorem dX19_asPublicException_0 : decode cX19_asPublicException 0 = .ok (.new 13, 3) := dk_187 0 13 (dk_at dksX19_asPublicException_0 0 rfl rfl)
theorem dX19_asPublicException_3 : decode cX19_asPublicException 3 = .ok (.dup, 1) := dk_89 (dk_at dksX19_asPublicException_0 3 rfl rfl)
theorem dX19_asPublicException_4 : decode cX19_asPublicException 4 = .ok (.invokespecial 15, 3) := dk_183 0 15 (dk_at dksX19_asPublicException_0 4 rfl rfl)
theorem dX19_asPublicException_7 : decode cX19_asPublicException 7 = .ok (.areturn, 1) := dk_176 (dk_at dksX19_asPublicException_0 7 rfl rfl)
def dkwX20_init_0 : List UInt8 := [42, 44, 183, 0, 1, 42, 27, 181, 0, 7, 177]
abbrev dktX20_init_0 : List UInt8 := dkwX20_init_0 ++ []
theorem dksX20_init_0 : cX20_init.data.toList.drop 0 = dktX20_init_0 := by decide +kernel
theorem dX20_init_0 : decode cX20_init 0 = .ok (.aload_n 0, 1) := dk_42 (dk_at dksX20_init_0 0 rfl rfl)
theorem dX20_init_1 : decode cX20_init 1 = .ok (.aload_n 2, 1) := dk_44 (dk_at dksX20_init_0 1 rfl rfl)
theorem dX20_init_2 : decode cX20_init 2 = .ok (.invokespecial 1, 3) := dk_183 0 1 (dk_at dksX20_init_0 2 rfl rfl)
theorem dX20_init_5 : decode cX20_init 5 = .ok (.aload_n 0, 1) := dk_42 (dk_at dksX20_init_0 5 rfl rfl)
theorem dX20_init_6 : decode cX20_init 6 = .ok (.iload_n 1, 1) := dk_27 (dk_at dksX20_init_0 6 rfl rfl)
theorem dX20_init_7 : decode cX20_init 7 = .ok (.putfield 7, 3) := dk_181 0 7 (dk_at dksX20_init_0 7 rfl rfl)
theorem dX20_init_10 : decode cX20_init 10 = .ok (.return_, 1) := dk_177 (dk_at dksX20_init_0 10 rfl rfl)
theorem dX20_index_0 : decode cX20_index 0 = .ok (.aload_n 0, 1) := by decide +kernel
theorem dX20_index_1 : decode cX20_index 1 = .ok (.getfield 7, 3) := by decide +kernel
theorem dX20_index_4 : decode cX20_index 4 = .ok (.ireturn, 1) := by decide +kernel
def dkwX20_kind_1 : List UInt8 := [16, 32, 172]
abbrev dktX20_kind_1 : List UInt8 := dkwX20_kind_1 ++ []
def dkwX20_kind_0 : List UInt8 := [42, 182, 0, 13, 77, 44, 193, 0, 17, 153, 0, 15, 44, 192, 0, 17, 76, 43, 182, 0, 19, 167, 0, 5]
abbrev dktX20_kind_0 : List UInt8 := dkwX20_kind_0 ++ dktX20_kind_1
theorem dksX20_kind_0 : cX20_kind.data.toList.drop 0 = dktX20_kind_0 := by decide +kernel
theorem dksX20_kind_1 : cX20_kind.data.toList.drop 24 = dktX20_kind_1 := dk_seg dksX20_kind_0 24 rfl rfl
theorem dX20_kind_0 : decode cX20_kind 0 = .ok (.aload_n 0, 1) := dk_42 (dk_at dksX20_kind_0 0 rfl rfl)
theorem dX20_kind_1 : decode cX20_kind 1 = .ok (.invokevirtual 13, 3) := dk_182 0 13 (dk_at dksX20_kind_0 1 rfl rfl)
theorem dX20_kind_4 : decode cX20_kind 4 = .ok (.astore_n 2, 1) := dk_77 (dk_at dksX20_kind_0 4 rfl rfl)
theorem dX20_kind_5 : decode cX20_kind 5 = .ok (.aload_n 2, 1) := dk_44 (dk_at dksX20_kind_0 5 rfl rfl)
theorem dX20_kind_6 : decode cX20_kind 6 = .ok (.instanceof 17, 3) := dk_193 0 17 (dk_at dksX20_kind_0 6 rfl rfl)
theorem dX20_kind_9 : decode cX20_kind 9 = .ok (.ifCond .eq 15, 3) := dk_153 0 15 (dk_at dksX20_kind_0 9 rfl rfl)
theorem dX20_kind_12 : decode cX20_kind 12 = .ok (.aload_n 2, 1) := dk_44 (dk_at dksX20_kind_0 12 rfl rfl)
theorem dX20_kind_13 : decode cX20_kind 13 = .ok (.checkcast 17, 3) := dk_192 0 17 (dk_at dksX20_kind_0 13 rfl rfl)
theorem dX20_kind_16 : decode cX20_kind 16 = .ok (.astore_n 1, 1) := dk_76 (dk_at dksX20_kind_0 16 rfl rfl)
theorem dX20_kind_17 : decode cX20_kind 17 = .ok (.aload_n 1, 1) := dk_43 (dk_at dksX20_kind_0 17 rfl rfl)
theorem dX20_kind_18 : decode cX20_kind 18 = .ok (.invokevirtual 19, 3) := dk_182 0 19 (dk_at dksX20_kind_0 18 rfl rfl)
theorem dX20_kind_21 : decode cX20_kind 21 = .ok (.goto 5, 3) := dk_167 0 5 (dk_at dksX20_kind_0 21 rfl rfl)
theorem dX20_kind_24 : decode cX20_kind 24 = .ok (.bipush 32, 2) := dk_16 32 (dk_at dksX20_kind_1 0 rfl rfl)
theorem dX20_kind_26 : decode cX20_kind 26 = .ok (.ireturn, 1) := dk_172 (dk_at dksX20_kind_1 2 rfl rfl)
def dkwX20_asPublicException_0 : List UInt8 := [187, 0, 23, 89, 183, 0, 25, 176]
abbrev dktX20_asPublicException_0 : List UInt8 := dkwX20_asPublicException_0 ++ []
theorem dksX20_asPublicException_0 : cX20_asPublicException.data.toList.drop 0 = dktX20_asPublicException_0 := by decide +kernel
theorem dX20_asPublicException_0 : decode cX20_asPublicException 0 = .ok (.new 23, 3) := dk_187 0 23 (dk_at dksX20_asPublicException_0 0 rfl rfl)
theorem dX20_asPublicException_3 : decode cX20_asPublicException 3 = .ok (.dup, 1) := dk_89 (dk_at dksX20_asPublicException_0 3 rfl rfl)
theorem dX20_asPublicException_4 : decode cX20_asPublicException 4 = .ok (.invokespecial 25, 3) := dk_183 0 25 (dk_at dksX20_asPublicException_0 4 rfl rfl)
theorem dX20_asPublicException_7 : decode cX20_asPublicException 7 = .ok (.areturn, 1) := dk_176 (dk_at dksX20_asPublicException_0 7 rfl rfl)
