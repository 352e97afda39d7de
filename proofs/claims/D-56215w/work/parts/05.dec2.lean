set_option maxRecDepth 100000
def dkwX1_init_2 : List UInt8 := [42, 18, 63, 181, 0, 65, 177]
abbrev dktX1_init_2 : List UInt8 := dkwX1_init_2 ++ []
def dkwX1_init_1 : List UInt8 := [181, 0, 45, 42, 187, 0, 49, 89, 183, 0, 51, 181, 0, 52, 42, 2, 181, 0, 56, 42, 2, 181, 0, 60]
abbrev dktX1_init_1 : List UInt8 := dkwX1_init_1 ++ dktX1_init_2
def dkwX1_init_0 : List UInt8 := [42, 183, 0, 30, 42, 187, 0, 35, 89, 183, 0, 37, 181, 0, 38, 42, 187, 0, 42, 89, 183, 0, 44]
abbrev dktX1_init_0 : List UInt8 := dkwX1_init_0 ++ dktX1_init_1
theorem dksX1_init_0 : cX1_init.data.toList.drop 0 = dktX1_init_0 := by decide +kernel
theorem dksX1_init_1 : cX1_init.data.toList.drop 23 = dktX1_init_1 := dk_seg dksX1_init_0 23 rfl rfl
theorem dksX1_init_2 : cX1_init.data.toList.drop 47 = dktX1_init_2 := dk_seg dksX1_init_1 24 rfl rfl
theorem dX1_init_0 : decode cX1_init 0 = .ok (.aload_n 0, 1) := dk_42 (dk_at dksX1_init_0 0 rfl rfl)
theorem dX1_init_1 : decode cX1_init 1 = .ok (.invokespecial 30, 3) := dk_183 0 30 (dk_at dksX1_init_0 1 rfl rfl)
theorem dX1_init_4 : decode cX1_init 4 = .ok (.aload_n 0, 1) := dk_42 (dk_at dksX1_init_0 4 rfl rfl)
theorem dX1_init_5 : decode cX1_init 5 = .ok (.new 35, 3) := dk_187 0 35 (dk_at dksX1_init_0 5 rfl rfl)
theorem dX1_init_8 : decode cX1_init 8 = .ok (.dup, 1) := dk_89 (dk_at dksX1_init_0 8 rfl rfl)
theorem dX1_init_9 : decode cX1_init 9 = .ok (.invokespecial 37, 3) := dk_183 0 37 (dk_at dksX1_init_0 9 rfl rfl)
theorem dX1_init_12 : decode cX1_init 12 = .ok (.putfield 38, 3) := dk_181 0 38 (dk_at dksX1_init_0 12 rfl rfl)
theorem dX1_init_15 : decode cX1_init 15 = .ok (.aload_n 0, 1) := dk_42 (dk_at dksX1_init_0 15 rfl rfl)
theorem dX1_init_16 : decode cX1_init 16 = .ok (.new 42, 3) := dk_187 0 42 (dk_at dksX1_init_0 16 rfl rfl)
theorem dX1_init_19 : decode cX1_init 19 = .ok (.dup, 1) := dk_89 (dk_at dksX1_init_0 19 rfl rfl)
theorem dX1_init_20 : decode cX1_init 20 = .ok (.invokespecial 44, 3) := dk_183 0 44 (dk_at dksX1_init_0 20 rfl rfl)
theorem dX1_init_23 : decode cX1_init 23 = .ok (.putfield 45, 3) := dk_181 0 45 (dk_at dksX1_init_1 0 rfl rfl)
theorem dX1_init_26 : decode cX1_init 26 = .ok (.aload_n 0, 1) := dk_42 (dk_at dksX1_init_1 3 rfl rfl)
theorem dX1_init_27 : decode cX1_init 27 = .ok (.new 49, 3) := dk_187 0 49 (dk_at dksX1_init_1 4 rfl rfl)
theorem dX1_init_30 : decode cX1_init 30 = .ok (.dup, 1) := dk_89 (dk_at dksX1_init_1 7 rfl rfl)
theorem dX1_init_31 : decode cX1_init 31 = .ok (.invokespecial 51, 3) := dk_183 0 51 (dk_at dksX1_init_1 8 rfl rfl)
theorem dX1_init_34 : decode cX1_init 34 = .ok (.putfield 52, 3) := dk_181 0 52 (dk_at dksX1_init_1 11 rfl rfl)
theorem dX1_init_37 : decode cX1_init 37 = .ok (.aload_n 0, 1) := dk_42 (dk_at dksX1_init_1 14 rfl rfl)
theorem dX1_init_38 : decode cX1_init 38 = .ok (.iconst (-1), 1) := dk_2 (dk_at dksX1_init_1 15 rfl rfl)
theorem dX1_init_39 : decode cX1_init 39 = .ok (.putfield 56, 3) := dk_181 0 56 (dk_at dksX1_init_1 16 rfl rfl)
theorem dX1_init_42 : decode cX1_init 42 = .ok (.aload_n 0, 1) := dk_42 (dk_at dksX1_init_1 19 rfl rfl)
theorem dX1_init_43 : decode cX1_init 43 = .ok (.iconst (-1), 1) := dk_2 (dk_at dksX1_init_1 20 rfl rfl)
theorem dX1_init_44 : decode cX1_init 44 = .ok (.putfield 60, 3) := dk_181 0 60 (dk_at dksX1_init_1 21 rfl rfl)
theorem dX1_init_47 : decode cX1_init 47 = .ok (.aload_n 0, 1) := dk_42 (dk_at dksX1_init_2 0 rfl rfl)
theorem dX1_init_48 : decode cX1_init 48 = .ok (.ldc 63, 2) := dk_18 63 (dk_at dksX1_init_2 1 rfl rfl)
theorem dX1_init_50 : decode cX1_init 50 = .ok (.putfield 65, 3) := dk_181 0 65 (dk_at dksX1_init_2 3 rfl rfl)
theorem dX1_init_53 : decode cX1_init 53 = .ok (.return_, 1) := dk_177 (dk_at dksX1_init_2 6 rfl rfl)
def dkwX1_settle_0 : List UInt8 := [42, 18, 110, 3, 188, 10, 182, 0, 96, 172]
abbrev dktX1_settle_0 : List UInt8 := dkwX1_settle_0 ++ []
theorem dksX1_settle_0 : cX1_settle.data.toList.drop 0 = dktX1_settle_0 := by decide +kernel
theorem dX1_settle_0 : decode cX1_settle 0 = .ok (.aload_n 0, 1) := dk_42 (dk_at dksX1_settle_0 0 rfl rfl)
theorem dX1_settle_1 : decode cX1_settle 1 = .ok (.ldc 110, 2) := dk_18 110 (dk_at dksX1_settle_0 1 rfl rfl)
theorem dX1_settle_3 : decode cX1_settle 3 = .ok (.iconst 0, 1) := dk_3 (dk_at dksX1_settle_0 3 rfl rfl)
theorem dX1_settle_4 : decode cX1_settle 4 = .ok (.newarray .int, 2) := dk_188_10 (dk_at dksX1_settle_0 4 rfl rfl)
theorem dX1_settle_6 : decode cX1_settle 6 = .ok (.invokevirtual 96, 3) := dk_182 0 96 (dk_at dksX1_settle_0 6 rfl rfl)
theorem dX1_settle_9 : decode cX1_settle 9 = .ok (.ireturn, 1) := dk_172 (dk_at dksX1_settle_0 9 rfl rfl)
def dkwX1_change_1 : List UInt8 := [182, 0, 86, 172, 58, 4, 25, 4, 182, 0, 90, 191]
abbrev dktX1_change_1 : List UInt8 := dkwX1_change_1 ++ []
def dkwX1_change_0 : List UInt8 := [42, 180, 0, 38, 182, 0, 73, 78, 42, 45, 187, 0, 77, 89, 43, 44, 183, 0, 79, 45, 182, 0, 82]
abbrev dktX1_change_0 : List UInt8 := dkwX1_change_0 ++ dktX1_change_1
theorem dksX1_change_0 : cX1_change.data.toList.drop 0 = dktX1_change_0 := by decide +kernel
theorem dksX1_change_1 : cX1_change.data.toList.drop 23 = dktX1_change_1 := dk_seg dksX1_change_0 23 rfl rfl
theorem dX1_change_0 : decode cX1_change 0 = .ok (.aload_n 0, 1) := dk_42 (dk_at dksX1_change_0 0 rfl rfl)
theorem dX1_change_1 : decode cX1_change 1 = .ok (.getfield 38, 3) := dk_180 0 38 (dk_at dksX1_change_0 1 rfl rfl)
theorem dX1_change_4 : decode cX1_change 4 = .ok (.invokevirtual 73, 3) := dk_182 0 73 (dk_at dksX1_change_0 4 rfl rfl)
theorem dX1_change_7 : decode cX1_change 7 = .ok (.astore_n 3, 1) := dk_78 (dk_at dksX1_change_0 7 rfl rfl)
theorem dX1_change_8 : decode cX1_change 8 = .ok (.aload_n 0, 1) := dk_42 (dk_at dksX1_change_0 8 rfl rfl)
theorem dX1_change_9 : decode cX1_change 9 = .ok (.aload_n 3, 1) := dk_45 (dk_at dksX1_change_0 9 rfl rfl)
theorem dX1_change_10 : decode cX1_change 10 = .ok (.new 77, 3) := dk_187 0 77 (dk_at dksX1_change_0 10 rfl rfl)
theorem dX1_change_13 : decode cX1_change 13 = .ok (.dup, 1) := dk_89 (dk_at dksX1_change_0 13 rfl rfl)
theorem dX1_change_14 : decode cX1_change 14 = .ok (.aload_n 1, 1) := dk_43 (dk_at dksX1_change_0 14 rfl rfl)
theorem dX1_change_15 : decode cX1_change 15 = .ok (.aload_n 2, 1) := dk_44 (dk_at dksX1_change_0 15 rfl rfl)
theorem dX1_change_16 : decode cX1_change 16 = .ok (.invokespecial 79, 3) := dk_183 0 79 (dk_at dksX1_change_0 16 rfl rfl)
theorem dX1_change_19 : decode cX1_change 19 = .ok (.aload_n 3, 1) := dk_45 (dk_at dksX1_change_0 19 rfl rfl)
theorem dX1_change_20 : decode cX1_change 20 = .ok (.invokevirtual 82, 3) := dk_182 0 82 (dk_at dksX1_change_0 20 rfl rfl)
theorem dX1_change_23 : decode cX1_change 23 = .ok (.invokevirtual 86, 3) := dk_182 0 86 (dk_at dksX1_change_1 0 rfl rfl)
theorem dX1_change_26 : decode cX1_change 26 = .ok (.ireturn, 1) := dk_172 (dk_at dksX1_change_1 3 rfl rfl)
theorem dX1_change_27 : decode cX1_change 27 = .ok (.astore 4, 2) := dk_58 4 (dk_at dksX1_change_1 4 rfl rfl)
theorem dX1_change_29 : decode cX1_change 29 = .ok (.aload 4, 2) := dk_25 4 (dk_at dksX1_change_1 6 rfl rfl)
theorem dX1_change_31 : decode cX1_change 31 = .ok (.invokevirtual 90, 3) := dk_182 0 90 (dk_at dksX1_change_1 8 rfl rfl)
theorem dX1_change_34 : decode cX1_change 34 = .ok (.athrow, 1) := dk_191 (dk_at dksX1_change_1 11 rfl rfl)
def dkwX1_areParts_2 : List UInt8 := [167, 255, 220, 27, 172]
abbrev dktX1_areParts_2 : List UInt8 := dkwX1_areParts_2 ++ []
def dkwX1_areParts_1 : List UInt8 := [153, 0, 18, 21, 5, 3, 16, 99, 184, 0, 9, 153, 0, 7, 4, 167, 0, 4, 3, 60, 132, 4, 1]
abbrev dktX1_areParts_1 : List UInt8 := dkwX1_areParts_1 ++ dktX1_areParts_2
def dkwX1_areParts_0 : List UInt8 := [4, 60, 42, 77, 44, 190, 62, 3, 54, 4, 21, 4, 29, 162, 0, 36, 44, 21, 4, 46, 54, 5, 27]
abbrev dktX1_areParts_0 : List UInt8 := dkwX1_areParts_0 ++ dktX1_areParts_1
theorem dksX1_areParts_0 : cX1_areParts.data.toList.drop 0 = dktX1_areParts_0 := by decide +kernel
theorem dksX1_areParts_1 : cX1_areParts.data.toList.drop 23 = dktX1_areParts_1 := dk_seg dksX1_areParts_0 23 rfl rfl
theorem dksX1_areParts_2 : cX1_areParts.data.toList.drop 46 = dktX1_areParts_2 := dk_seg dksX1_areParts_1 23 rfl rfl
theorem dX1_areParts_0 : decode cX1_areParts 0 = .ok (.iconst 1, 1) := dk_4 (dk_at dksX1_areParts_0 0 rfl rfl)
theorem dX1_areParts_1 : decode cX1_areParts 1 = .ok (.istore_n 1, 1) := dk_60 (dk_at dksX1_areParts_0 1 rfl rfl)
theorem dX1_areParts_2 : decode cX1_areParts 2 = .ok (.aload_n 0, 1) := dk_42 (dk_at dksX1_areParts_0 2 rfl rfl)
theorem dX1_areParts_3 : decode cX1_areParts 3 = .ok (.astore_n 2, 1) := dk_77 (dk_at dksX1_areParts_0 3 rfl rfl)
theorem dX1_areParts_4 : decode cX1_areParts 4 = .ok (.aload_n 2, 1) := dk_44 (dk_at dksX1_areParts_0 4 rfl rfl)
theorem dX1_areParts_5 : decode cX1_areParts 5 = .ok (.arraylength, 1) := dk_190 (dk_at dksX1_areParts_0 5 rfl rfl)
theorem dX1_areParts_6 : decode cX1_areParts 6 = .ok (.istore_n 3, 1) := dk_62 (dk_at dksX1_areParts_0 6 rfl rfl)
theorem dX1_areParts_7 : decode cX1_areParts 7 = .ok (.iconst 0, 1) := dk_3 (dk_at dksX1_areParts_0 7 rfl rfl)
theorem dX1_areParts_8 : decode cX1_areParts 8 = .ok (.istore 4, 2) := dk_54 4 (dk_at dksX1_areParts_0 8 rfl rfl)
theorem dX1_areParts_10 : decode cX1_areParts 10 = .ok (.iload 4, 2) := dk_21 4 (dk_at dksX1_areParts_0 10 rfl rfl)
theorem dX1_areParts_12 : decode cX1_areParts 12 = .ok (.iload_n 3, 1) := dk_29 (dk_at dksX1_areParts_0 12 rfl rfl)
theorem dX1_areParts_13 : decode cX1_areParts 13 = .ok (.if_icmp .ge 36, 3) := dk_162 0 36 (dk_at dksX1_areParts_0 13 rfl rfl)
theorem dX1_areParts_16 : decode cX1_areParts 16 = .ok (.aload_n 2, 1) := dk_44 (dk_at dksX1_areParts_0 16 rfl rfl)
theorem dX1_areParts_17 : decode cX1_areParts 17 = .ok (.iload 4, 2) := dk_21 4 (dk_at dksX1_areParts_0 17 rfl rfl)
theorem dX1_areParts_19 : decode cX1_areParts 19 = .ok (.iaload, 1) := dk_46 (dk_at dksX1_areParts_0 19 rfl rfl)
theorem dX1_areParts_20 : decode cX1_areParts 20 = .ok (.istore 5, 2) := dk_54 5 (dk_at dksX1_areParts_0 20 rfl rfl)
theorem dX1_areParts_22 : decode cX1_areParts 22 = .ok (.iload_n 1, 1) := dk_27 (dk_at dksX1_areParts_0 22 rfl rfl)
theorem dX1_areParts_23 : decode cX1_areParts 23 = .ok (.ifCond .eq 18, 3) := dk_153 0 18 (dk_at dksX1_areParts_1 0 rfl rfl)
theorem dX1_areParts_26 : decode cX1_areParts 26 = .ok (.iload 5, 2) := dk_21 5 (dk_at dksX1_areParts_1 3 rfl rfl)
theorem dX1_areParts_28 : decode cX1_areParts 28 = .ok (.iconst 0, 1) := dk_3 (dk_at dksX1_areParts_1 5 rfl rfl)
theorem dX1_areParts_29 : decode cX1_areParts 29 = .ok (.bipush 99, 2) := dk_16 99 (dk_at dksX1_areParts_1 6 rfl rfl)
theorem dX1_areParts_31 : decode cX1_areParts 31 = .ok (.invokestatic 9, 3) := dk_184 0 9 (dk_at dksX1_areParts_1 8 rfl rfl)
theorem dX1_areParts_34 : decode cX1_areParts 34 = .ok (.ifCond .eq 7, 3) := dk_153 0 7 (dk_at dksX1_areParts_1 11 rfl rfl)
theorem dX1_areParts_37 : decode cX1_areParts 37 = .ok (.iconst 1, 1) := dk_4 (dk_at dksX1_areParts_1 14 rfl rfl)
theorem dX1_areParts_38 : decode cX1_areParts 38 = .ok (.goto 4, 3) := dk_167 0 4 (dk_at dksX1_areParts_1 15 rfl rfl)
theorem dX1_areParts_41 : decode cX1_areParts 41 = .ok (.iconst 0, 1) := dk_3 (dk_at dksX1_areParts_1 18 rfl rfl)
theorem dX1_areParts_42 : decode cX1_areParts 42 = .ok (.istore_n 1, 1) := dk_60 (dk_at dksX1_areParts_1 19 rfl rfl)
theorem dX1_areParts_43 : decode cX1_areParts 43 = .ok (.iinc 4 1, 3) := dk_132 4 1 (dk_at dksX1_areParts_1 20 rfl rfl)
theorem dX1_areParts_46 : decode cX1_areParts 46 = .ok (.goto (-36), 3) := dk_167 255 220 (dk_at dksX1_areParts_2 0 rfl rfl)
theorem dX1_areParts_49 : decode cX1_areParts 49 = .ok (.iload_n 1, 1) := dk_27 (dk_at dksX1_areParts_2 3 rfl rfl)
theorem dX1_areParts_50 : decode cX1_areParts 50 = .ok (.ireturn, 1) := dk_172 (dk_at dksX1_areParts_2 4 rfl rfl)
def dkwX1_isBetween_0 : List UInt8 := [26, 27, 161, 0, 12, 26, 28, 163, 0, 7, 4, 167, 0, 4, 3, 172]
abbrev dktX1_isBetween_0 : List UInt8 := dkwX1_isBetween_0 ++ []
theorem dksX1_isBetween_0 : cX1_isBetween.data.toList.drop 0 = dktX1_isBetween_0 := by decide +kernel
theorem dX1_isBetween_0 : decode cX1_isBetween 0 = .ok (.iload_n 0, 1) := dk_26 (dk_at dksX1_isBetween_0 0 rfl rfl)
theorem dX1_isBetween_1 : decode cX1_isBetween 1 = .ok (.iload_n 1, 1) := dk_27 (dk_at dksX1_isBetween_0 1 rfl rfl)
theorem dX1_isBetween_2 : decode cX1_isBetween 2 = .ok (.if_icmp .lt 12, 3) := dk_161 0 12 (dk_at dksX1_isBetween_0 2 rfl rfl)
theorem dX1_isBetween_5 : decode cX1_isBetween 5 = .ok (.iload_n 0, 1) := dk_26 (dk_at dksX1_isBetween_0 5 rfl rfl)
theorem dX1_isBetween_6 : decode cX1_isBetween 6 = .ok (.iload_n 2, 1) := dk_28 (dk_at dksX1_isBetween_0 6 rfl rfl)
theorem dX1_isBetween_7 : decode cX1_isBetween 7 = .ok (.if_icmp .gt 7, 3) := dk_163 0 7 (dk_at dksX1_isBetween_0 7 rfl rfl)
theorem dX1_isBetween_10 : decode cX1_isBetween 10 = .ok (.iconst 1, 1) := dk_4 (dk_at dksX1_isBetween_0 10 rfl rfl)
theorem dX1_isBetween_11 : decode cX1_isBetween 11 = .ok (.goto 4, 3) := dk_167 0 4 (dk_at dksX1_isBetween_0 11 rfl rfl)
theorem dX1_isBetween_14 : decode cX1_isBetween 14 = .ok (.iconst 0, 1) := dk_3 (dk_at dksX1_isBetween_0 14 rfl rfl)
theorem dX1_isBetween_15 : decode cX1_isBetween 15 = .ok (.ireturn, 1) := dk_172 (dk_at dksX1_isBetween_0 15 rfl rfl)
def dkwX1_demand_0 : List UInt8 := [26, 154, 0, 12, 187, 0, 1, 89, 27, 183, 0, 3, 191, 177]
abbrev dktX1_demand_0 : List UInt8 := dkwX1_demand_0 ++ []
theorem dksX1_demand_0 : cX1_demand.data.toList.drop 0 = dktX1_demand_0 := by decide +kernel
theorem dX1_demand_0 : decode cX1_demand 0 = .ok (.iload_n 0, 1) := dk_26 (dk_at dksX1_demand_0 0 rfl rfl)
theorem dX1_demand_1 : decode cX1_demand 1 = .ok (.ifCond .ne 12, 3) := dk_154 0 12 (dk_at dksX1_demand_0 1 rfl rfl)
theorem dX1_demand_4 : decode cX1_demand 4 = .ok (.new 1, 3) := dk_187 0 1 (dk_at dksX1_demand_0 4 rfl rfl)
theorem dX1_demand_7 : decode cX1_demand 7 = .ok (.dup, 1) := dk_89 (dk_at dksX1_demand_0 7 rfl rfl)
theorem dX1_demand_8 : decode cX1_demand 8 = .ok (.iload_n 1, 1) := dk_27 (dk_at dksX1_demand_0 8 rfl rfl)
theorem dX1_demand_9 : decode cX1_demand 9 = .ok (.invokespecial 3, 3) := dk_183 0 3 (dk_at dksX1_demand_0 9 rfl rfl)
theorem dX1_demand_12 : decode cX1_demand 12 = .ok (.athrow, 1) := dk_191 (dk_at dksX1_demand_0 12 rfl rfl)
theorem dX1_demand_13 : decode cX1_demand 13 = .ok (.return_, 1) := dk_177 (dk_at dksX1_demand_0 13 rfl rfl)
def dkwX1_metricOf_2 : List UInt8 := [186, 0, 13, 0, 0, 176, 186, 0, 17, 0, 0, 176, 186, 0, 18, 0, 0, 176]
abbrev dktX1_metricOf_2 : List UInt8 := dkwX1_metricOf_2 ++ []
def dkwX1_metricOf_1 : List UInt8 := [171, 0, 0, 0, 0, 0, 39, 0, 0, 0, 2, 0, 0, 0, 109, 0, 0, 0, 27, 0, 0, 0, 115, 0, 0, 0, 33]
abbrev dktX1_metricOf_1 : List UInt8 := dkwX1_metricOf_1 ++ dktX1_metricOf_2
def dkwX1_metricOf_0 : List UInt8 := [26]
abbrev dktX1_metricOf_0 : List UInt8 := dkwX1_metricOf_0 ++ dktX1_metricOf_1
theorem dksX1_metricOf_0 : cX1_metricOf.data.toList.drop 0 = dktX1_metricOf_0 := by decide +kernel
theorem dksX1_metricOf_1 : cX1_metricOf.data.toList.drop 1 = dktX1_metricOf_1 := dk_seg dksX1_metricOf_0 1 rfl rfl
theorem dksX1_metricOf_2 : cX1_metricOf.data.toList.drop 28 = dktX1_metricOf_2 := dk_seg dksX1_metricOf_1 27 rfl rfl
theorem dX1_metricOf_0 : decode cX1_metricOf 0 = .ok (.iload_n 0, 1) := dk_26 (dk_at dksX1_metricOf_0 0 rfl rfl)
theorem dX1_metricOf_1 : decode cX1_metricOf 1 = .ok (.lookupswitch 39 #[(109, 27), (115, 33)], 27) := by decide +kernel
theorem dX1_metricOf_28 : decode cX1_metricOf 28 = .ok (.invokedynamic 13, 5) := by decide +kernel
theorem dX1_metricOf_33 : decode cX1_metricOf 33 = .ok (.areturn, 1) := dk_176 (dk_at dksX1_metricOf_2 5 rfl rfl)
theorem dX1_metricOf_34 : decode cX1_metricOf 34 = .ok (.invokedynamic 17, 5) := by decide +kernel
theorem dX1_metricOf_39 : decode cX1_metricOf 39 = .ok (.areturn, 1) := dk_176 (dk_at dksX1_metricOf_2 11 rfl rfl)
theorem dX1_metricOf_40 : decode cX1_metricOf 40 = .ok (.invokedynamic 18, 5) := by decide +kernel
theorem dX1_metricOf_45 : decode cX1_metricOf 45 = .ok (.areturn, 1) := dk_176 (dk_at dksX1_metricOf_2 17 rfl rfl)
def dkwX1_lambda_metricOf_0_0 : List UInt8 := [26, 27, 96, 28, 96, 172]
abbrev dktX1_lambda_metricOf_0_0 : List UInt8 := dkwX1_lambda_metricOf_0_0 ++ []
theorem dksX1_lambda_metricOf_0_0 : cX1_lambda_metricOf_0.data.toList.drop 0 = dktX1_lambda_metricOf_0_0 := by decide +kernel
theorem dX1_lambda_metricOf_0_0 : decode cX1_lambda_metricOf_0 0 = .ok (.iload_n 0, 1) := dk_26 (dk_at dksX1_lambda_metricOf_0_0 0 rfl rfl)
theorem dX1_lambda_metricOf_0_1 : decode cX1_lambda_metricOf_0 1 = .ok (.iload_n 1, 1) := dk_27 (dk_at dksX1_lambda_metricOf_0_0 1 rfl rfl)
theorem dX1_lambda_metricOf_0_2 : decode cX1_lambda_metricOf_0 2 = .ok (.iadd, 1) := dk_96 (dk_at dksX1_lambda_metricOf_0_0 2 rfl rfl)
theorem dX1_lambda_metricOf_0_3 : decode cX1_lambda_metricOf_0 3 = .ok (.iload_n 2, 1) := dk_28 (dk_at dksX1_lambda_metricOf_0_0 3 rfl rfl)
theorem dX1_lambda_metricOf_0_4 : decode cX1_lambda_metricOf_0 4 = .ok (.iadd, 1) := dk_96 (dk_at dksX1_lambda_metricOf_0_0 4 rfl rfl)
theorem dX1_lambda_metricOf_0_5 : decode cX1_lambda_metricOf_0 5 = .ok (.ireturn, 1) := dk_172 (dk_at dksX1_lambda_metricOf_0_0 5 rfl rfl)
def dkwX1_lambda_metricOf_1_0 : List UInt8 := [26, 26, 104, 27, 27, 104, 96, 28, 28, 104, 96, 172]
abbrev dktX1_lambda_metricOf_1_0 : List UInt8 := dkwX1_lambda_metricOf_1_0 ++ []
theorem dksX1_lambda_metricOf_1_0 : cX1_lambda_metricOf_1.data.toList.drop 0 = dktX1_lambda_metricOf_1_0 := by decide +kernel
theorem dX1_lambda_metricOf_1_0 : decode cX1_lambda_metricOf_1 0 = .ok (.iload_n 0, 1) := dk_26 (dk_at dksX1_lambda_metricOf_1_0 0 rfl rfl)
theorem dX1_lambda_metricOf_1_1 : decode cX1_lambda_metricOf_1 1 = .ok (.iload_n 0, 1) := dk_26 (dk_at dksX1_lambda_metricOf_1_0 1 rfl rfl)
theorem dX1_lambda_metricOf_1_2 : decode cX1_lambda_metricOf_1 2 = .ok (.imul, 1) := dk_104 (dk_at dksX1_lambda_metricOf_1_0 2 rfl rfl)
theorem dX1_lambda_metricOf_1_3 : decode cX1_lambda_metricOf_1 3 = .ok (.iload_n 1, 1) := dk_27 (dk_at dksX1_lambda_metricOf_1_0 3 rfl rfl)
theorem dX1_lambda_metricOf_1_4 : decode cX1_lambda_metricOf_1 4 = .ok (.iload_n 1, 1) := dk_27 (dk_at dksX1_lambda_metricOf_1_0 4 rfl rfl)
theorem dX1_lambda_metricOf_1_5 : decode cX1_lambda_metricOf_1 5 = .ok (.imul, 1) := dk_104 (dk_at dksX1_lambda_metricOf_1_0 5 rfl rfl)
theorem dX1_lambda_metricOf_1_6 : decode cX1_lambda_metricOf_1 6 = .ok (.iadd, 1) := dk_96 (dk_at dksX1_lambda_metricOf_1_0 6 rfl rfl)
theorem dX1_lambda_metricOf_1_7 : decode cX1_lambda_metricOf_1 7 = .ok (.iload_n 2, 1) := dk_28 (dk_at dksX1_lambda_metricOf_1_0 7 rfl rfl)
theorem dX1_lambda_metricOf_1_8 : decode cX1_lambda_metricOf_1 8 = .ok (.iload_n 2, 1) := dk_28 (dk_at dksX1_lambda_metricOf_1_0 8 rfl rfl)
theorem dX1_lambda_metricOf_1_9 : decode cX1_lambda_metricOf_1 9 = .ok (.imul, 1) := dk_104 (dk_at dksX1_lambda_metricOf_1_0 9 rfl rfl)
theorem dX1_lambda_metricOf_1_10 : decode cX1_lambda_metricOf_1 10 = .ok (.iadd, 1) := dk_96 (dk_at dksX1_lambda_metricOf_1_0 10 rfl rfl)
theorem dX1_lambda_metricOf_1_11 : decode cX1_lambda_metricOf_1 11 = .ok (.ireturn, 1) := dk_172 (dk_at dksX1_lambda_metricOf_1_0 11 rfl rfl)
def dkwX1_lambda_metricOf_2_0 : List UInt8 := [26, 27, 28, 184, 1, 180, 184, 1, 180, 172]
abbrev dktX1_lambda_metricOf_2_0 : List UInt8 := dkwX1_lambda_metricOf_2_0 ++ []
theorem dksX1_lambda_metricOf_2_0 : cX1_lambda_metricOf_2.data.toList.drop 0 = dktX1_lambda_metricOf_2_0 := by decide +kernel
theorem dX1_lambda_metricOf_2_0 : decode cX1_lambda_metricOf_2 0 = .ok (.iload_n 0, 1) := dk_26 (dk_at dksX1_lambda_metricOf_2_0 0 rfl rfl)
theorem dX1_lambda_metricOf_2_1 : decode cX1_lambda_metricOf_2 1 = .ok (.iload_n 1, 1) := dk_27 (dk_at dksX1_lambda_metricOf_2_0 1 rfl rfl)
theorem dX1_lambda_metricOf_2_2 : decode cX1_lambda_metricOf_2 2 = .ok (.iload_n 2, 1) := dk_28 (dk_at dksX1_lambda_metricOf_2_0 2 rfl rfl)
theorem dX1_lambda_metricOf_2_3 : decode cX1_lambda_metricOf_2 3 = .ok (.invokestatic 436, 3) := dk_184 1 180 (dk_at dksX1_lambda_metricOf_2_0 3 rfl rfl)
theorem dX1_lambda_metricOf_2_6 : decode cX1_lambda_metricOf_2 6 = .ok (.invokestatic 436, 3) := dk_184 1 180 (dk_at dksX1_lambda_metricOf_2_0 6 rfl rfl)
theorem dX1_lambda_metricOf_2_9 : decode cX1_lambda_metricOf_2 9 = .ok (.ireturn, 1) := dk_172 (dk_at dksX1_lambda_metricOf_2_0 9 rfl rfl)
def dkwX1_distance_1 : List UInt8 := [172]
abbrev dktX1_distance_1 : List UInt8 := dkwX1_distance_1 ++ []
def dkwX1_distance_0 : List UInt8 := [42, 43, 44, 3, 182, 0, 19, 43, 44, 4, 182, 0, 19, 43, 44, 5, 182, 0, 19, 185, 0, 25, 4, 0]
abbrev dktX1_distance_0 : List UInt8 := dkwX1_distance_0 ++ dktX1_distance_1
theorem dksX1_distance_0 : cX1_distance.data.toList.drop 0 = dktX1_distance_0 := by decide +kernel
theorem dksX1_distance_1 : cX1_distance.data.toList.drop 24 = dktX1_distance_1 := dk_seg dksX1_distance_0 24 rfl rfl
theorem dX1_distance_0 : decode cX1_distance 0 = .ok (.aload_n 0, 1) := dk_42 (dk_at dksX1_distance_0 0 rfl rfl)
theorem dX1_distance_1 : decode cX1_distance 1 = .ok (.aload_n 1, 1) := dk_43 (dk_at dksX1_distance_0 1 rfl rfl)
theorem dX1_distance_2 : decode cX1_distance 2 = .ok (.aload_n 2, 1) := dk_44 (dk_at dksX1_distance_0 2 rfl rfl)
theorem dX1_distance_3 : decode cX1_distance 3 = .ok (.iconst 0, 1) := dk_3 (dk_at dksX1_distance_0 3 rfl rfl)
theorem dX1_distance_4 : decode cX1_distance 4 = .ok (.invokevirtual 19, 3) := dk_182 0 19 (dk_at dksX1_distance_0 4 rfl rfl)
theorem dX1_distance_7 : decode cX1_distance 7 = .ok (.aload_n 1, 1) := dk_43 (dk_at dksX1_distance_0 7 rfl rfl)
theorem dX1_distance_8 : decode cX1_distance 8 = .ok (.aload_n 2, 1) := dk_44 (dk_at dksX1_distance_0 8 rfl rfl)
theorem dX1_distance_9 : decode cX1_distance 9 = .ok (.iconst 1, 1) := dk_4 (dk_at dksX1_distance_0 9 rfl rfl)
theorem dX1_distance_10 : decode cX1_distance 10 = .ok (.invokevirtual 19, 3) := dk_182 0 19 (dk_at dksX1_distance_0 10 rfl rfl)
theorem dX1_distance_13 : decode cX1_distance 13 = .ok (.aload_n 1, 1) := dk_43 (dk_at dksX1_distance_0 13 rfl rfl)
theorem dX1_distance_14 : decode cX1_distance 14 = .ok (.aload_n 2, 1) := dk_44 (dk_at dksX1_distance_0 14 rfl rfl)
theorem dX1_distance_15 : decode cX1_distance 15 = .ok (.iconst 2, 1) := dk_5 (dk_at dksX1_distance_0 15 rfl rfl)
theorem dX1_distance_16 : decode cX1_distance 16 = .ok (.invokevirtual 19, 3) := dk_182 0 19 (dk_at dksX1_distance_0 16 rfl rfl)
theorem dX1_distance_19 : decode cX1_distance 19 = .ok (.invokeinterface 25 4, 5) := by decide +kernel
theorem dX1_distance_24 : decode cX1_distance 24 = .ok (.ireturn, 1) := dk_172 (dk_at dksX1_distance_1 0 rfl rfl)
def dkwX1_commit_0 : List UInt8 := [42, 180, 0, 45, 42, 180, 0, 38, 182, 0, 69, 42, 43, 181, 0, 38, 28, 172]
abbrev dktX1_commit_0 : List UInt8 := dkwX1_commit_0 ++ []
theorem dksX1_commit_0 : cX1_commit.data.toList.drop 0 = dktX1_commit_0 := by decide +kernel
theorem dX1_commit_0 : decode cX1_commit 0 = .ok (.aload_n 0, 1) := dk_42 (dk_at dksX1_commit_0 0 rfl rfl)
theorem dX1_commit_1 : decode cX1_commit 1 = .ok (.getfield 45, 3) := dk_180 0 45 (dk_at dksX1_commit_0 1 rfl rfl)
theorem dX1_commit_4 : decode cX1_commit 4 = .ok (.aload_n 0, 1) := dk_42 (dk_at dksX1_commit_0 4 rfl rfl)
theorem dX1_commit_5 : decode cX1_commit 5 = .ok (.getfield 38, 3) := dk_180 0 38 (dk_at dksX1_commit_0 5 rfl rfl)
theorem dX1_commit_8 : decode cX1_commit 8 = .ok (.invokevirtual 69, 3) := dk_182 0 69 (dk_at dksX1_commit_0 8 rfl rfl)
theorem dX1_commit_11 : decode cX1_commit 11 = .ok (.aload_n 0, 1) := dk_42 (dk_at dksX1_commit_0 11 rfl rfl)
theorem dX1_commit_12 : decode cX1_commit 12 = .ok (.aload_n 1, 1) := dk_43 (dk_at dksX1_commit_0 12 rfl rfl)
theorem dX1_commit_13 : decode cX1_commit 13 = .ok (.putfield 38, 3) := dk_181 0 38 (dk_at dksX1_commit_0 13 rfl rfl)
theorem dX1_commit_16 : decode cX1_commit 16 = .ok (.iload_n 2, 1) := dk_28 (dk_at dksX1_commit_0 16 rfl rfl)
theorem dX1_commit_17 : decode cX1_commit 17 = .ok (.ireturn, 1) := dk_172 (dk_at dksX1_commit_0 17 rfl rfl)
def dkwX1_colourCount_0 : List UInt8 := [42, 180, 0, 38, 180, 0, 140, 182, 0, 144, 172]
abbrev dktX1_colourCount_0 : List UInt8 := dkwX1_colourCount_0 ++ []
theorem dksX1_colourCount_0 : cX1_colourCount.data.toList.drop 0 = dktX1_colourCount_0 := by decide +kernel
theorem dX1_colourCount_0 : decode cX1_colourCount 0 = .ok (.aload_n 0, 1) := dk_42 (dk_at dksX1_colourCount_0 0 rfl rfl)
theorem dX1_colourCount_1 : decode cX1_colourCount 1 = .ok (.getfield 38, 3) := dk_180 0 38 (dk_at dksX1_colourCount_0 1 rfl rfl)
theorem dX1_colourCount_4 : decode cX1_colourCount 4 = .ok (.getfield 140, 3) := dk_180 0 140 (dk_at dksX1_colourCount_0 4 rfl rfl)
theorem dX1_colourCount_7 : decode cX1_colourCount 7 = .ok (.invokevirtual 144, 3) := dk_182 0 144 (dk_at dksX1_colourCount_0 7 rfl rfl)
theorem dX1_colourCount_10 : decode cX1_colourCount 10 = .ok (.ireturn, 1) := dk_172 (dk_at dksX1_colourCount_0 10 rfl rfl)
def dkwX1_reportCount_0 : List UInt8 := [42, 180, 0, 38, 180, 0, 193, 185, 0, 197, 1, 0, 172]
abbrev dktX1_reportCount_0 : List UInt8 := dkwX1_reportCount_0 ++ []
theorem dksX1_reportCount_0 : cX1_reportCount.data.toList.drop 0 = dktX1_reportCount_0 := by decide +kernel
theorem dX1_reportCount_0 : decode cX1_reportCount 0 = .ok (.aload_n 0, 1) := dk_42 (dk_at dksX1_reportCount_0 0 rfl rfl)
theorem dX1_reportCount_1 : decode cX1_reportCount 1 = .ok (.getfield 38, 3) := dk_180 0 38 (dk_at dksX1_reportCount_0 1 rfl rfl)
theorem dX1_reportCount_4 : decode cX1_reportCount 4 = .ok (.getfield 193, 3) := dk_180 0 193 (dk_at dksX1_reportCount_0 4 rfl rfl)
theorem dX1_reportCount_7 : decode cX1_reportCount 7 = .ok (.invokeinterface 197 1, 5) := by decide +kernel
theorem dX1_reportCount_12 : decode cX1_reportCount 12 = .ok (.ireturn, 1) := dk_172 (dk_at dksX1_reportCount_0 12 rfl rfl)
def dkwX1_bestReward_0 : List UInt8 := [42, 180, 0, 38, 182, 1, 22, 182, 1, 26, 184, 1, 32, 172]
abbrev dktX1_bestReward_0 : List UInt8 := dkwX1_bestReward_0 ++ []
theorem dksX1_bestReward_0 : cX1_bestReward.data.toList.drop 0 = dktX1_bestReward_0 := by decide +kernel
theorem dX1_bestReward_0 : decode cX1_bestReward 0 = .ok (.aload_n 0, 1) := dk_42 (dk_at dksX1_bestReward_0 0 rfl rfl)
theorem dX1_bestReward_1 : decode cX1_bestReward 1 = .ok (.getfield 38, 3) := dk_180 0 38 (dk_at dksX1_bestReward_0 1 rfl rfl)
theorem dX1_bestReward_4 : decode cX1_bestReward 4 = .ok (.invokevirtual 278, 3) := dk_182 1 22 (dk_at dksX1_bestReward_0 4 rfl rfl)
theorem dX1_bestReward_7 : decode cX1_bestReward 7 = .ok (.invokevirtual 282, 3) := dk_182 1 26 (dk_at dksX1_bestReward_0 7 rfl rfl)
theorem dX1_bestReward_10 : decode cX1_bestReward 10 = .ok (.invokestatic 288, 3) := dk_184 1 32 (dk_at dksX1_bestReward_0 10 rfl rfl)
theorem dX1_bestReward_13 : decode cX1_bestReward 13 = .ok (.ireturn, 1) := dk_172 (dk_at dksX1_bestReward_0 13 rfl rfl)
def dkwX1_bestRewardByTrying_0 : List UInt8 := [42, 180, 0, 38, 182, 1, 22, 3, 3, 182, 1, 36, 184, 1, 32, 172]
abbrev dktX1_bestRewardByTrying_0 : List UInt8 := dkwX1_bestRewardByTrying_0 ++ []
theorem dksX1_bestRewardByTrying_0 : cX1_bestRewardByTrying.data.toList.drop 0 = dktX1_bestRewardByTrying_0 := by decide +kernel
theorem dX1_bestRewardByTrying_0 : decode cX1_bestRewardByTrying 0 = .ok (.aload_n 0, 1) := dk_42 (dk_at dksX1_bestRewardByTrying_0 0 rfl rfl)
theorem dX1_bestRewardByTrying_1 : decode cX1_bestRewardByTrying 1 = .ok (.getfield 38, 3) := dk_180 0 38 (dk_at dksX1_bestRewardByTrying_0 1 rfl rfl)
theorem dX1_bestRewardByTrying_4 : decode cX1_bestRewardByTrying 4 = .ok (.invokevirtual 278, 3) := dk_182 1 22 (dk_at dksX1_bestRewardByTrying_0 4 rfl rfl)
theorem dX1_bestRewardByTrying_7 : decode cX1_bestRewardByTrying 7 = .ok (.iconst 0, 1) := dk_3 (dk_at dksX1_bestRewardByTrying_0 7 rfl rfl)
theorem dX1_bestRewardByTrying_8 : decode cX1_bestRewardByTrying 8 = .ok (.iconst 0, 1) := dk_3 (dk_at dksX1_bestRewardByTrying_0 8 rfl rfl)
theorem dX1_bestRewardByTrying_9 : decode cX1_bestRewardByTrying 9 = .ok (.invokevirtual 292, 3) := dk_182 1 36 (dk_at dksX1_bestRewardByTrying_0 9 rfl rfl)
theorem dX1_bestRewardByTrying_12 : decode cX1_bestRewardByTrying 12 = .ok (.invokestatic 288, 3) := dk_184 1 32 (dk_at dksX1_bestRewardByTrying_0 12 rfl rfl)
theorem dX1_bestRewardByTrying_15 : decode cX1_bestRewardByTrying 15 = .ok (.ireturn, 1) := dk_172 (dk_at dksX1_bestRewardByTrying_0 15 rfl rfl)
def dkwX1_bestDifference_0 : List UInt8 := [42, 180, 0, 38, 182, 1, 22, 182, 1, 26, 184, 1, 40, 172]
abbrev dktX1_bestDifference_0 : List UInt8 := dkwX1_bestDifference_0 ++ []
theorem dksX1_bestDifference_0 : cX1_bestDifference.data.toList.drop 0 = dktX1_bestDifference_0 := by decide +kernel
theorem dX1_bestDifference_0 : decode cX1_bestDifference 0 = .ok (.aload_n 0, 1) := dk_42 (dk_at dksX1_bestDifference_0 0 rfl rfl)
theorem dX1_bestDifference_1 : decode cX1_bestDifference 1 = .ok (.getfield 38, 3) := dk_180 0 38 (dk_at dksX1_bestDifference_0 1 rfl rfl)
theorem dX1_bestDifference_4 : decode cX1_bestDifference 4 = .ok (.invokevirtual 278, 3) := dk_182 1 22 (dk_at dksX1_bestDifference_0 4 rfl rfl)
theorem dX1_bestDifference_7 : decode cX1_bestDifference 7 = .ok (.invokevirtual 282, 3) := dk_182 1 26 (dk_at dksX1_bestDifference_0 7 rfl rfl)
theorem dX1_bestDifference_10 : decode cX1_bestDifference 10 = .ok (.invokestatic 296, 3) := dk_184 1 40 (dk_at dksX1_bestDifference_0 10 rfl rfl)
theorem dX1_bestDifference_13 : decode cX1_bestDifference 13 = .ok (.ireturn, 1) := dk_172 (dk_at dksX1_bestDifference_0 13 rfl rfl)
def dkwX1_day_0 : List UInt8 := [42, 180, 0, 38, 180, 1, 67, 172]
abbrev dktX1_day_0 : List UInt8 := dkwX1_day_0 ++ []
theorem dksX1_day_0 : cX1_day.data.toList.drop 0 = dktX1_day_0 := by decide +kernel
theorem dX1_day_0 : decode cX1_day 0 = .ok (.aload_n 0, 1) := dk_42 (dk_at dksX1_day_0 0 rfl rfl)
theorem dX1_day_1 : decode cX1_day 1 = .ok (.getfield 38, 3) := dk_180 0 38 (dk_at dksX1_day_0 1 rfl rfl)
theorem dX1_day_4 : decode cX1_day 4 = .ok (.getfield 323, 3) := dk_180 1 67 (dk_at dksX1_day_0 4 rfl rfl)
theorem dX1_day_7 : decode cX1_day 7 = .ok (.ireturn, 1) := dk_172 (dk_at dksX1_day_0 7 rfl rfl)
def dkwX1_metric_0 : List UInt8 := [42, 180, 0, 38, 180, 1, 69, 172]
abbrev dktX1_metric_0 : List UInt8 := dkwX1_metric_0 ++ []
theorem dksX1_metric_0 : cX1_metric.data.toList.drop 0 = dktX1_metric_0 := by decide +kernel
theorem dX1_metric_0 : decode cX1_metric 0 = .ok (.aload_n 0, 1) := dk_42 (dk_at dksX1_metric_0 0 rfl rfl)
theorem dX1_metric_1 : decode cX1_metric 1 = .ok (.getfield 38, 3) := dk_180 0 38 (dk_at dksX1_metric_0 1 rfl rfl)
theorem dX1_metric_4 : decode cX1_metric 4 = .ok (.getfield 325, 3) := dk_180 1 69 (dk_at dksX1_metric_0 4 rfl rfl)
theorem dX1_metric_7 : decode cX1_metric 7 = .ok (.ireturn, 1) := dk_172 (dk_at dksX1_metric_0 7 rfl rfl)
def dkwX1_coins_0 : List UInt8 := [42, 180, 0, 38, 180, 1, 72, 172]
abbrev dktX1_coins_0 : List UInt8 := dkwX1_coins_0 ++ []
theorem dksX1_coins_0 : cX1_coins.data.toList.drop 0 = dktX1_coins_0 := by decide +kernel
theorem dX1_coins_0 : decode cX1_coins 0 = .ok (.aload_n 0, 1) := dk_42 (dk_at dksX1_coins_0 0 rfl rfl)
theorem dX1_coins_1 : decode cX1_coins 1 = .ok (.getfield 38, 3) := dk_180 0 38 (dk_at dksX1_coins_0 1 rfl rfl)
theorem dX1_coins_4 : decode cX1_coins 4 = .ok (.getfield 328, 3) := dk_180 1 72 (dk_at dksX1_coins_0 4 rfl rfl)
theorem dX1_coins_7 : decode cX1_coins 7 = .ok (.ireturn, 1) := dk_172 (dk_at dksX1_coins_0 7 rfl rfl)
def dkwX1_coinsByAccounts_0 : List UInt8 := [42, 180, 0, 38, 182, 1, 75, 172]
abbrev dktX1_coinsByAccounts_0 : List UInt8 := dkwX1_coinsByAccounts_0 ++ []
theorem dksX1_coinsByAccounts_0 : cX1_coinsByAccounts.data.toList.drop 0 = dktX1_coinsByAccounts_0 := by decide +kernel
theorem dX1_coinsByAccounts_0 : decode cX1_coinsByAccounts 0 = .ok (.aload_n 0, 1) := dk_42 (dk_at dksX1_coinsByAccounts_0 0 rfl rfl)
theorem dX1_coinsByAccounts_1 : decode cX1_coinsByAccounts 1 = .ok (.getfield 38, 3) := dk_180 0 38 (dk_at dksX1_coinsByAccounts_0 1 rfl rfl)
theorem dX1_coinsByAccounts_4 : decode cX1_coinsByAccounts 4 = .ok (.invokevirtual 331, 3) := dk_182 1 75 (dk_at dksX1_coinsByAccounts_0 4 rfl rfl)
theorem dX1_coinsByAccounts_7 : decode cX1_coinsByAccounts 7 = .ok (.ireturn, 1) := dk_172 (dk_at dksX1_coinsByAccounts_0 7 rfl rfl)
def dkwX1_returnedTotal_0 : List UInt8 := [42, 180, 0, 38, 180, 1, 78, 172]
abbrev dktX1_returnedTotal_0 : List UInt8 := dkwX1_returnedTotal_0 ++ []
theorem dksX1_returnedTotal_0 : cX1_returnedTotal.data.toList.drop 0 = dktX1_returnedTotal_0 := by decide +kernel
theorem dX1_returnedTotal_0 : decode cX1_returnedTotal 0 = .ok (.aload_n 0, 1) := dk_42 (dk_at dksX1_returnedTotal_0 0 rfl rfl)
theorem dX1_returnedTotal_1 : decode cX1_returnedTotal 1 = .ok (.getfield 38, 3) := dk_180 0 38 (dk_at dksX1_returnedTotal_0 1 rfl rfl)
theorem dX1_returnedTotal_4 : decode cX1_returnedTotal 4 = .ok (.getfield 334, 3) := dk_180 1 78 (dk_at dksX1_returnedTotal_0 4 rfl rfl)
theorem dX1_returnedTotal_7 : decode cX1_returnedTotal 7 = .ok (.ireturn, 1) := dk_172 (dk_at dksX1_returnedTotal_0 7 rfl rfl)
def dkwX1_isConsistent_0 : List UInt8 := [42, 180, 0, 38, 182, 1, 93, 172]
abbrev dktX1_isConsistent_0 : List UInt8 := dkwX1_isConsistent_0 ++ []
theorem dksX1_isConsistent_0 : cX1_isConsistent.data.toList.drop 0 = dktX1_isConsistent_0 := by decide +kernel
theorem dX1_isConsistent_0 : decode cX1_isConsistent 0 = .ok (.aload_n 0, 1) := dk_42 (dk_at dksX1_isConsistent_0 0 rfl rfl)
theorem dX1_isConsistent_1 : decode cX1_isConsistent 1 = .ok (.getfield 38, 3) := dk_180 0 38 (dk_at dksX1_isConsistent_0 1 rfl rfl)
theorem dX1_isConsistent_4 : decode cX1_isConsistent 4 = .ok (.invokevirtual 349, 3) := dk_182 1 93 (dk_at dksX1_isConsistent_0 4 rfl rfl)
theorem dX1_isConsistent_7 : decode cX1_isConsistent 7 = .ok (.ireturn, 1) := dk_172 (dk_at dksX1_isConsistent_0 7 rfl rfl)
def dkwX1_save_0 : List UInt8 := [42, 42, 180, 0, 38, 181, 1, 174, 42, 182, 0, 150, 172]
abbrev dktX1_save_0 : List UInt8 := dkwX1_save_0 ++ []
theorem dksX1_save_0 : cX1_save.data.toList.drop 0 = dktX1_save_0 := by decide +kernel
theorem dX1_save_0 : decode cX1_save 0 = .ok (.aload_n 0, 1) := dk_42 (dk_at dksX1_save_0 0 rfl rfl)
theorem dX1_save_1 : decode cX1_save 1 = .ok (.aload_n 0, 1) := dk_42 (dk_at dksX1_save_0 1 rfl rfl)
theorem dX1_save_2 : decode cX1_save 2 = .ok (.getfield 38, 3) := dk_180 0 38 (dk_at dksX1_save_0 2 rfl rfl)
theorem dX1_save_5 : decode cX1_save 5 = .ok (.putfield 430, 3) := dk_181 1 174 (dk_at dksX1_save_0 5 rfl rfl)
theorem dX1_save_8 : decode cX1_save 8 = .ok (.aload_n 0, 1) := dk_42 (dk_at dksX1_save_0 8 rfl rfl)
theorem dX1_save_9 : decode cX1_save 9 = .ok (.invokevirtual 150, 3) := dk_182 0 150 (dk_at dksX1_save_0 9 rfl rfl)
theorem dX1_save_12 : decode cX1_save 12 = .ok (.ireturn, 1) := dk_172 (dk_at dksX1_save_0 12 rfl rfl)
def dkwX1_addColour_1 : List UInt8 := [182, 0, 96, 172]
abbrev dktX1_addColour_1 : List UInt8 := dkwX1_addColour_1 ++ []
def dkwX1_addColour_0 : List UInt8 := [42, 18, 94, 7, 188, 10, 89, 3, 27, 79, 89, 4, 28, 79, 89, 5, 29, 79, 89, 6, 21, 4, 79]
abbrev dktX1_addColour_0 : List UInt8 := dkwX1_addColour_0 ++ dktX1_addColour_1
theorem dksX1_addColour_0 : cX1_addColour.data.toList.drop 0 = dktX1_addColour_0 := by decide +kernel
theorem dksX1_addColour_1 : cX1_addColour.data.toList.drop 23 = dktX1_addColour_1 := dk_seg dksX1_addColour_0 23 rfl rfl
theorem dX1_addColour_0 : decode cX1_addColour 0 = .ok (.aload_n 0, 1) := dk_42 (dk_at dksX1_addColour_0 0 rfl rfl)
theorem dX1_addColour_1 : decode cX1_addColour 1 = .ok (.ldc 94, 2) := dk_18 94 (dk_at dksX1_addColour_0 1 rfl rfl)
theorem dX1_addColour_3 : decode cX1_addColour 3 = .ok (.iconst 4, 1) := dk_7 (dk_at dksX1_addColour_0 3 rfl rfl)
theorem dX1_addColour_4 : decode cX1_addColour 4 = .ok (.newarray .int, 2) := dk_188_10 (dk_at dksX1_addColour_0 4 rfl rfl)
theorem dX1_addColour_6 : decode cX1_addColour 6 = .ok (.dup, 1) := dk_89 (dk_at dksX1_addColour_0 6 rfl rfl)
theorem dX1_addColour_7 : decode cX1_addColour 7 = .ok (.iconst 0, 1) := dk_3 (dk_at dksX1_addColour_0 7 rfl rfl)
theorem dX1_addColour_8 : decode cX1_addColour 8 = .ok (.iload_n 1, 1) := dk_27 (dk_at dksX1_addColour_0 8 rfl rfl)
theorem dX1_addColour_9 : decode cX1_addColour 9 = .ok (.iastore, 1) := dk_79 (dk_at dksX1_addColour_0 9 rfl rfl)
theorem dX1_addColour_10 : decode cX1_addColour 10 = .ok (.dup, 1) := dk_89 (dk_at dksX1_addColour_0 10 rfl rfl)
theorem dX1_addColour_11 : decode cX1_addColour 11 = .ok (.iconst 1, 1) := dk_4 (dk_at dksX1_addColour_0 11 rfl rfl)
theorem dX1_addColour_12 : decode cX1_addColour 12 = .ok (.iload_n 2, 1) := dk_28 (dk_at dksX1_addColour_0 12 rfl rfl)
theorem dX1_addColour_13 : decode cX1_addColour 13 = .ok (.iastore, 1) := dk_79 (dk_at dksX1_addColour_0 13 rfl rfl)
theorem dX1_addColour_14 : decode cX1_addColour 14 = .ok (.dup, 1) := dk_89 (dk_at dksX1_addColour_0 14 rfl rfl)
theorem dX1_addColour_15 : decode cX1_addColour 15 = .ok (.iconst 2, 1) := dk_5 (dk_at dksX1_addColour_0 15 rfl rfl)
theorem dX1_addColour_16 : decode cX1_addColour 16 = .ok (.iload_n 3, 1) := dk_29 (dk_at dksX1_addColour_0 16 rfl rfl)
theorem dX1_addColour_17 : decode cX1_addColour 17 = .ok (.iastore, 1) := dk_79 (dk_at dksX1_addColour_0 17 rfl rfl)
theorem dX1_addColour_18 : decode cX1_addColour 18 = .ok (.dup, 1) := dk_89 (dk_at dksX1_addColour_0 18 rfl rfl)
theorem dX1_addColour_19 : decode cX1_addColour 19 = .ok (.iconst 3, 1) := dk_6 (dk_at dksX1_addColour_0 19 rfl rfl)
theorem dX1_addColour_20 : decode cX1_addColour 20 = .ok (.iload 4, 2) := dk_21 4 (dk_at dksX1_addColour_0 20 rfl rfl)
theorem dX1_addColour_22 : decode cX1_addColour 22 = .ok (.iastore, 1) := dk_79 (dk_at dksX1_addColour_0 22 rfl rfl)
theorem dX1_addColour_23 : decode cX1_addColour 23 = .ok (.invokevirtual 96, 3) := dk_182 0 96 (dk_at dksX1_addColour_1 0 rfl rfl)
theorem dX1_addColour_26 : decode cX1_addColour 26 = .ok (.ireturn, 1) := dk_172 (dk_at dksX1_addColour_1 3 rfl rfl)
def dkwX1_report_1 : List UInt8 := [7, 21, 5, 79, 182, 0, 96, 172]
abbrev dktX1_report_1 : List UInt8 := dkwX1_report_1 ++ []
def dkwX1_report_0 : List UInt8 := [42, 18, 100, 8, 188, 10, 89, 3, 27, 79, 89, 4, 28, 79, 89, 5, 29, 79, 89, 6, 21, 4, 79, 89]
abbrev dktX1_report_0 : List UInt8 := dkwX1_report_0 ++ dktX1_report_1
theorem dksX1_report_0 : cX1_report.data.toList.drop 0 = dktX1_report_0 := by decide +kernel
theorem dksX1_report_1 : cX1_report.data.toList.drop 24 = dktX1_report_1 := dk_seg dksX1_report_0 24 rfl rfl
theorem dX1_report_0 : decode cX1_report 0 = .ok (.aload_n 0, 1) := dk_42 (dk_at dksX1_report_0 0 rfl rfl)
theorem dX1_report_1 : decode cX1_report 1 = .ok (.ldc 100, 2) := dk_18 100 (dk_at dksX1_report_0 1 rfl rfl)
theorem dX1_report_3 : decode cX1_report 3 = .ok (.iconst 5, 1) := dk_8 (dk_at dksX1_report_0 3 rfl rfl)
theorem dX1_report_4 : decode cX1_report 4 = .ok (.newarray .int, 2) := dk_188_10 (dk_at dksX1_report_0 4 rfl rfl)
theorem dX1_report_6 : decode cX1_report 6 = .ok (.dup, 1) := dk_89 (dk_at dksX1_report_0 6 rfl rfl)
theorem dX1_report_7 : decode cX1_report 7 = .ok (.iconst 0, 1) := dk_3 (dk_at dksX1_report_0 7 rfl rfl)
theorem dX1_report_8 : decode cX1_report 8 = .ok (.iload_n 1, 1) := dk_27 (dk_at dksX1_report_0 8 rfl rfl)
theorem dX1_report_9 : decode cX1_report 9 = .ok (.iastore, 1) := dk_79 (dk_at dksX1_report_0 9 rfl rfl)
theorem dX1_report_10 : decode cX1_report 10 = .ok (.dup, 1) := dk_89 (dk_at dksX1_report_0 10 rfl rfl)
theorem dX1_report_11 : decode cX1_report 11 = .ok (.iconst 1, 1) := dk_4 (dk_at dksX1_report_0 11 rfl rfl)
theorem dX1_report_12 : decode cX1_report 12 = .ok (.iload_n 2, 1) := dk_28 (dk_at dksX1_report_0 12 rfl rfl)
theorem dX1_report_13 : decode cX1_report 13 = .ok (.iastore, 1) := dk_79 (dk_at dksX1_report_0 13 rfl rfl)
theorem dX1_report_14 : decode cX1_report 14 = .ok (.dup, 1) := dk_89 (dk_at dksX1_report_0 14 rfl rfl)
theorem dX1_report_15 : decode cX1_report 15 = .ok (.iconst 2, 1) := dk_5 (dk_at dksX1_report_0 15 rfl rfl)
theorem dX1_report_16 : decode cX1_report 16 = .ok (.iload_n 3, 1) := dk_29 (dk_at dksX1_report_0 16 rfl rfl)
theorem dX1_report_17 : decode cX1_report 17 = .ok (.iastore, 1) := dk_79 (dk_at dksX1_report_0 17 rfl rfl)
theorem dX1_report_18 : decode cX1_report 18 = .ok (.dup, 1) := dk_89 (dk_at dksX1_report_0 18 rfl rfl)
theorem dX1_report_19 : decode cX1_report 19 = .ok (.iconst 3, 1) := dk_6 (dk_at dksX1_report_0 19 rfl rfl)
theorem dX1_report_20 : decode cX1_report 20 = .ok (.iload 4, 2) := dk_21 4 (dk_at dksX1_report_0 20 rfl rfl)
theorem dX1_report_22 : decode cX1_report 22 = .ok (.iastore, 1) := dk_79 (dk_at dksX1_report_0 22 rfl rfl)
theorem dX1_report_23 : decode cX1_report 23 = .ok (.dup, 1) := dk_89 (dk_at dksX1_report_0 23 rfl rfl)
theorem dX1_report_24 : decode cX1_report 24 = .ok (.iconst 4, 1) := dk_7 (dk_at dksX1_report_1 0 rfl rfl)
theorem dX1_report_25 : decode cX1_report 25 = .ok (.iload 5, 2) := dk_21 5 (dk_at dksX1_report_1 1 rfl rfl)
theorem dX1_report_27 : decode cX1_report 27 = .ok (.iastore, 1) := dk_79 (dk_at dksX1_report_1 3 rfl rfl)
theorem dX1_report_28 : decode cX1_report 28 = .ok (.invokevirtual 96, 3) := dk_182 0 96 (dk_at dksX1_report_1 4 rfl rfl)
theorem dX1_report_31 : decode cX1_report 31 = .ok (.ireturn, 1) := dk_172 (dk_at dksX1_report_1 7 rfl rfl)
def dkwX1_withdraw_0 : List UInt8 := [42, 18, 102, 4, 188, 10, 89, 3, 27, 79, 182, 0, 96, 172]
abbrev dktX1_withdraw_0 : List UInt8 := dkwX1_withdraw_0 ++ []
theorem dksX1_withdraw_0 : cX1_withdraw.data.toList.drop 0 = dktX1_withdraw_0 := by decide +kernel
theorem dX1_withdraw_0 : decode cX1_withdraw 0 = .ok (.aload_n 0, 1) := dk_42 (dk_at dksX1_withdraw_0 0 rfl rfl)
theorem dX1_withdraw_1 : decode cX1_withdraw 1 = .ok (.ldc 102, 2) := dk_18 102 (dk_at dksX1_withdraw_0 1 rfl rfl)
theorem dX1_withdraw_3 : decode cX1_withdraw 3 = .ok (.iconst 1, 1) := dk_4 (dk_at dksX1_withdraw_0 3 rfl rfl)
theorem dX1_withdraw_4 : decode cX1_withdraw 4 = .ok (.newarray .int, 2) := dk_188_10 (dk_at dksX1_withdraw_0 4 rfl rfl)
theorem dX1_withdraw_6 : decode cX1_withdraw 6 = .ok (.dup, 1) := dk_89 (dk_at dksX1_withdraw_0 6 rfl rfl)
theorem dX1_withdraw_7 : decode cX1_withdraw 7 = .ok (.iconst 0, 1) := dk_3 (dk_at dksX1_withdraw_0 7 rfl rfl)
theorem dX1_withdraw_8 : decode cX1_withdraw 8 = .ok (.iload_n 1, 1) := dk_27 (dk_at dksX1_withdraw_0 8 rfl rfl)
theorem dX1_withdraw_9 : decode cX1_withdraw 9 = .ok (.iastore, 1) := dk_79 (dk_at dksX1_withdraw_0 9 rfl rfl)
theorem dX1_withdraw_10 : decode cX1_withdraw 10 = .ok (.invokevirtual 96, 3) := dk_182 0 96 (dk_at dksX1_withdraw_0 10 rfl rfl)
theorem dX1_withdraw_13 : decode cX1_withdraw 13 = .ok (.ireturn, 1) := dk_172 (dk_at dksX1_withdraw_0 13 rfl rfl)
def dkwX1_discard_0 : List UInt8 := [42, 18, 104, 4, 188, 10, 89, 3, 27, 79, 182, 0, 96, 172]
abbrev dktX1_discard_0 : List UInt8 := dkwX1_discard_0 ++ []
theorem dksX1_discard_0 : cX1_discard.data.toList.drop 0 = dktX1_discard_0 := by decide +kernel
theorem dX1_discard_0 : decode cX1_discard 0 = .ok (.aload_n 0, 1) := dk_42 (dk_at dksX1_discard_0 0 rfl rfl)
theorem dX1_discard_1 : decode cX1_discard 1 = .ok (.ldc 104, 2) := dk_18 104 (dk_at dksX1_discard_0 1 rfl rfl)
theorem dX1_discard_3 : decode cX1_discard 3 = .ok (.iconst 1, 1) := dk_4 (dk_at dksX1_discard_0 3 rfl rfl)
theorem dX1_discard_4 : decode cX1_discard 4 = .ok (.newarray .int, 2) := dk_188_10 (dk_at dksX1_discard_0 4 rfl rfl)
theorem dX1_discard_6 : decode cX1_discard 6 = .ok (.dup, 1) := dk_89 (dk_at dksX1_discard_0 6 rfl rfl)
theorem dX1_discard_7 : decode cX1_discard 7 = .ok (.iconst 0, 1) := dk_3 (dk_at dksX1_discard_0 7 rfl rfl)
theorem dX1_discard_8 : decode cX1_discard 8 = .ok (.iload_n 1, 1) := dk_27 (dk_at dksX1_discard_0 8 rfl rfl)
theorem dX1_discard_9 : decode cX1_discard 9 = .ok (.iastore, 1) := dk_79 (dk_at dksX1_discard_0 9 rfl rfl)
theorem dX1_discard_10 : decode cX1_discard 10 = .ok (.invokevirtual 96, 3) := dk_182 0 96 (dk_at dksX1_discard_0 10 rfl rfl)
theorem dX1_discard_13 : decode cX1_discard 13 = .ok (.ireturn, 1) := dk_172 (dk_at dksX1_discard_0 13 rfl rfl)
def dkwX1_setMetric_0 : List UInt8 := [42, 18, 106, 4, 188, 10, 89, 3, 27, 79, 182, 0, 96, 146, 172]
abbrev dktX1_setMetric_0 : List UInt8 := dkwX1_setMetric_0 ++ []
theorem dksX1_setMetric_0 : cX1_setMetric.data.toList.drop 0 = dktX1_setMetric_0 := by decide +kernel
theorem dX1_setMetric_0 : decode cX1_setMetric 0 = .ok (.aload_n 0, 1) := dk_42 (dk_at dksX1_setMetric_0 0 rfl rfl)
theorem dX1_setMetric_1 : decode cX1_setMetric 1 = .ok (.ldc 106, 2) := dk_18 106 (dk_at dksX1_setMetric_0 1 rfl rfl)
theorem dX1_setMetric_3 : decode cX1_setMetric 3 = .ok (.iconst 1, 1) := dk_4 (dk_at dksX1_setMetric_0 3 rfl rfl)
theorem dX1_setMetric_4 : decode cX1_setMetric 4 = .ok (.newarray .int, 2) := dk_188_10 (dk_at dksX1_setMetric_0 4 rfl rfl)
theorem dX1_setMetric_6 : decode cX1_setMetric 6 = .ok (.dup, 1) := dk_89 (dk_at dksX1_setMetric_0 6 rfl rfl)
theorem dX1_setMetric_7 : decode cX1_setMetric 7 = .ok (.iconst 0, 1) := dk_3 (dk_at dksX1_setMetric_0 7 rfl rfl)
theorem dX1_setMetric_8 : decode cX1_setMetric 8 = .ok (.iload_n 1, 1) := dk_27 (dk_at dksX1_setMetric_0 8 rfl rfl)
theorem dX1_setMetric_9 : decode cX1_setMetric 9 = .ok (.iastore, 1) := dk_79 (dk_at dksX1_setMetric_0 9 rfl rfl)
theorem dX1_setMetric_10 : decode cX1_setMetric 10 = .ok (.invokevirtual 96, 3) := dk_182 0 96 (dk_at dksX1_setMetric_0 10 rfl rfl)
theorem dX1_setMetric_13 : decode cX1_setMetric 13 = .ok (.i2c, 1) := dk_146 (dk_at dksX1_setMetric_0 13 rfl rfl)
theorem dX1_setMetric_14 : decode cX1_setMetric 14 = .ok (.ireturn, 1) := dk_172 (dk_at dksX1_setMetric_0 14 rfl rfl)
def dkwX1_giveBack_0 : List UInt8 := [42, 18, 108, 5, 188, 10, 89, 3, 27, 79, 89, 4, 28, 79, 182, 0, 96, 172]
abbrev dktX1_giveBack_0 : List UInt8 := dkwX1_giveBack_0 ++ []
theorem dksX1_giveBack_0 : cX1_giveBack.data.toList.drop 0 = dktX1_giveBack_0 := by decide +kernel
theorem dX1_giveBack_0 : decode cX1_giveBack 0 = .ok (.aload_n 0, 1) := dk_42 (dk_at dksX1_giveBack_0 0 rfl rfl)
theorem dX1_giveBack_1 : decode cX1_giveBack 1 = .ok (.ldc 108, 2) := dk_18 108 (dk_at dksX1_giveBack_0 1 rfl rfl)
theorem dX1_giveBack_3 : decode cX1_giveBack 3 = .ok (.iconst 2, 1) := dk_5 (dk_at dksX1_giveBack_0 3 rfl rfl)
theorem dX1_giveBack_4 : decode cX1_giveBack 4 = .ok (.newarray .int, 2) := dk_188_10 (dk_at dksX1_giveBack_0 4 rfl rfl)
theorem dX1_giveBack_6 : decode cX1_giveBack 6 = .ok (.dup, 1) := dk_89 (dk_at dksX1_giveBack_0 6 rfl rfl)
theorem dX1_giveBack_7 : decode cX1_giveBack 7 = .ok (.iconst 0, 1) := dk_3 (dk_at dksX1_giveBack_0 7 rfl rfl)
theorem dX1_giveBack_8 : decode cX1_giveBack 8 = .ok (.iload_n 1, 1) := dk_27 (dk_at dksX1_giveBack_0 8 rfl rfl)
theorem dX1_giveBack_9 : decode cX1_giveBack 9 = .ok (.iastore, 1) := dk_79 (dk_at dksX1_giveBack_0 9 rfl rfl)
theorem dX1_giveBack_10 : decode cX1_giveBack 10 = .ok (.dup, 1) := dk_89 (dk_at dksX1_giveBack_0 10 rfl rfl)
theorem dX1_giveBack_11 : decode cX1_giveBack 11 = .ok (.iconst 1, 1) := dk_4 (dk_at dksX1_giveBack_0 11 rfl rfl)
theorem dX1_giveBack_12 : decode cX1_giveBack 12 = .ok (.iload_n 2, 1) := dk_28 (dk_at dksX1_giveBack_0 12 rfl rfl)
theorem dX1_giveBack_13 : decode cX1_giveBack 13 = .ok (.iastore, 1) := dk_79 (dk_at dksX1_giveBack_0 13 rfl rfl)
theorem dX1_giveBack_14 : decode cX1_giveBack 14 = .ok (.invokevirtual 96, 3) := dk_182 0 96 (dk_at dksX1_giveBack_0 14 rfl rfl)
theorem dX1_giveBack_17 : decode cX1_giveBack 17 = .ok (.ireturn, 1) := dk_172 (dk_at dksX1_giveBack_0 17 rfl rfl)
def dkwX1_mix_0 : List UInt8 := [42, 18, 112, 5, 188, 10, 89, 3, 27, 79, 89, 4, 28, 79, 182, 0, 96, 172]
abbrev dktX1_mix_0 : List UInt8 := dkwX1_mix_0 ++ []
theorem dksX1_mix_0 : cX1_mix.data.toList.drop 0 = dktX1_mix_0 := by decide +kernel
theorem dX1_mix_0 : decode cX1_mix 0 = .ok (.aload_n 0, 1) := dk_42 (dk_at dksX1_mix_0 0 rfl rfl)
theorem dX1_mix_1 : decode cX1_mix 1 = .ok (.ldc 112, 2) := dk_18 112 (dk_at dksX1_mix_0 1 rfl rfl)
theorem dX1_mix_3 : decode cX1_mix 3 = .ok (.iconst 2, 1) := dk_5 (dk_at dksX1_mix_0 3 rfl rfl)
theorem dX1_mix_4 : decode cX1_mix 4 = .ok (.newarray .int, 2) := dk_188_10 (dk_at dksX1_mix_0 4 rfl rfl)
theorem dX1_mix_6 : decode cX1_mix 6 = .ok (.dup, 1) := dk_89 (dk_at dksX1_mix_0 6 rfl rfl)
theorem dX1_mix_7 : decode cX1_mix 7 = .ok (.iconst 0, 1) := dk_3 (dk_at dksX1_mix_0 7 rfl rfl)
theorem dX1_mix_8 : decode cX1_mix 8 = .ok (.iload_n 1, 1) := dk_27 (dk_at dksX1_mix_0 8 rfl rfl)
theorem dX1_mix_9 : decode cX1_mix 9 = .ok (.iastore, 1) := dk_79 (dk_at dksX1_mix_0 9 rfl rfl)
theorem dX1_mix_10 : decode cX1_mix 10 = .ok (.dup, 1) := dk_89 (dk_at dksX1_mix_0 10 rfl rfl)
theorem dX1_mix_11 : decode cX1_mix 11 = .ok (.iconst 1, 1) := dk_4 (dk_at dksX1_mix_0 11 rfl rfl)
theorem dX1_mix_12 : decode cX1_mix 12 = .ok (.iload_n 2, 1) := dk_28 (dk_at dksX1_mix_0 12 rfl rfl)
theorem dX1_mix_13 : decode cX1_mix 13 = .ok (.iastore, 1) := dk_79 (dk_at dksX1_mix_0 13 rfl rfl)
theorem dX1_mix_14 : decode cX1_mix 14 = .ok (.invokevirtual 96, 3) := dk_182 0 96 (dk_at dksX1_mix_0 14 rfl rfl)
theorem dX1_mix_17 : decode cX1_mix 17 = .ok (.ireturn, 1) := dk_172 (dk_at dksX1_mix_0 17 rfl rfl)
def dkwX1_passDays_0 : List UInt8 := [42, 18, 114, 4, 188, 10, 89, 3, 27, 79, 182, 0, 96, 172]
abbrev dktX1_passDays_0 : List UInt8 := dkwX1_passDays_0 ++ []
theorem dksX1_passDays_0 : cX1_passDays.data.toList.drop 0 = dktX1_passDays_0 := by decide +kernel
theorem dX1_passDays_0 : decode cX1_passDays 0 = .ok (.aload_n 0, 1) := dk_42 (dk_at dksX1_passDays_0 0 rfl rfl)
theorem dX1_passDays_1 : decode cX1_passDays 1 = .ok (.ldc 114, 2) := dk_18 114 (dk_at dksX1_passDays_0 1 rfl rfl)
theorem dX1_passDays_3 : decode cX1_passDays 3 = .ok (.iconst 1, 1) := dk_4 (dk_at dksX1_passDays_0 3 rfl rfl)
theorem dX1_passDays_4 : decode cX1_passDays 4 = .ok (.newarray .int, 2) := dk_188_10 (dk_at dksX1_passDays_0 4 rfl rfl)
theorem dX1_passDays_6 : decode cX1_passDays 6 = .ok (.dup, 1) := dk_89 (dk_at dksX1_passDays_0 6 rfl rfl)
theorem dX1_passDays_7 : decode cX1_passDays 7 = .ok (.iconst 0, 1) := dk_3 (dk_at dksX1_passDays_0 7 rfl rfl)
theorem dX1_passDays_8 : decode cX1_passDays 8 = .ok (.iload_n 1, 1) := dk_27 (dk_at dksX1_passDays_0 8 rfl rfl)
theorem dX1_passDays_9 : decode cX1_passDays 9 = .ok (.iastore, 1) := dk_79 (dk_at dksX1_passDays_0 9 rfl rfl)
theorem dX1_passDays_10 : decode cX1_passDays 10 = .ok (.invokevirtual 96, 3) := dk_182 0 96 (dk_at dksX1_passDays_0 10 rfl rfl)
theorem dX1_passDays_13 : decode cX1_passDays 13 = .ok (.ireturn, 1) := dk_172 (dk_at dksX1_passDays_0 13 rfl rfl)
def dkwX1_colourAt_1 : List UInt8 := [182, 0, 153, 180, 0, 156, 172]
abbrev dktX1_colourAt_1 : List UInt8 := dkwX1_colourAt_1 ++ []
def dkwX1_colourAt_0 : List UInt8 := [27, 3, 42, 182, 0, 150, 4, 100, 184, 0, 9, 184, 0, 128, 42, 180, 0, 38, 180, 0, 140, 27]
abbrev dktX1_colourAt_0 : List UInt8 := dkwX1_colourAt_0 ++ dktX1_colourAt_1
theorem dksX1_colourAt_0 : cX1_colourAt.data.toList.drop 0 = dktX1_colourAt_0 := by decide +kernel
theorem dksX1_colourAt_1 : cX1_colourAt.data.toList.drop 22 = dktX1_colourAt_1 := dk_seg dksX1_colourAt_0 22 rfl rfl
theorem dX1_colourAt_0 : decode cX1_colourAt 0 = .ok (.iload_n 1, 1) := dk_27 (dk_at dksX1_colourAt_0 0 rfl rfl)
theorem dX1_colourAt_1 : decode cX1_colourAt 1 = .ok (.iconst 0, 1) := dk_3 (dk_at dksX1_colourAt_0 1 rfl rfl)
theorem dX1_colourAt_2 : decode cX1_colourAt 2 = .ok (.aload_n 0, 1) := dk_42 (dk_at dksX1_colourAt_0 2 rfl rfl)
theorem dX1_colourAt_3 : decode cX1_colourAt 3 = .ok (.invokevirtual 150, 3) := dk_182 0 150 (dk_at dksX1_colourAt_0 3 rfl rfl)
theorem dX1_colourAt_6 : decode cX1_colourAt 6 = .ok (.iconst 1, 1) := dk_4 (dk_at dksX1_colourAt_0 6 rfl rfl)
theorem dX1_colourAt_7 : decode cX1_colourAt 7 = .ok (.isub, 1) := dk_100 (dk_at dksX1_colourAt_0 7 rfl rfl)
theorem dX1_colourAt_8 : decode cX1_colourAt 8 = .ok (.invokestatic 9, 3) := dk_184 0 9 (dk_at dksX1_colourAt_0 8 rfl rfl)
theorem dX1_colourAt_11 : decode cX1_colourAt 11 = .ok (.invokestatic 128, 3) := dk_184 0 128 (dk_at dksX1_colourAt_0 11 rfl rfl)
theorem dX1_colourAt_14 : decode cX1_colourAt 14 = .ok (.aload_n 0, 1) := dk_42 (dk_at dksX1_colourAt_0 14 rfl rfl)
theorem dX1_colourAt_15 : decode cX1_colourAt 15 = .ok (.getfield 38, 3) := dk_180 0 38 (dk_at dksX1_colourAt_0 15 rfl rfl)
theorem dX1_colourAt_18 : decode cX1_colourAt 18 = .ok (.getfield 140, 3) := dk_180 0 140 (dk_at dksX1_colourAt_0 18 rfl rfl)
theorem dX1_colourAt_21 : decode cX1_colourAt 21 = .ok (.iload_n 1, 1) := dk_27 (dk_at dksX1_colourAt_0 21 rfl rfl)
theorem dX1_colourAt_22 : decode cX1_colourAt 22 = .ok (.invokevirtual 153, 3) := dk_182 0 153 (dk_at dksX1_colourAt_1 0 rfl rfl)
theorem dX1_colourAt_25 : decode cX1_colourAt 25 = .ok (.getfield 156, 3) := dk_180 0 156 (dk_at dksX1_colourAt_1 3 rfl rfl)
theorem dX1_colourAt_28 : decode cX1_colourAt 28 = .ok (.ireturn, 1) := dk_172 (dk_at dksX1_colourAt_1 6 rfl rfl)
def dkwX1_checkElement_0 : List UInt8 := [26, 154, 0, 11, 187, 0, 122, 89, 183, 0, 124, 191, 177]
abbrev dktX1_checkElement_0 : List UInt8 := dkwX1_checkElement_0 ++ []
theorem dksX1_checkElement_0 : cX1_checkElement.data.toList.drop 0 = dktX1_checkElement_0 := by decide +kernel
theorem dX1_checkElement_0 : decode cX1_checkElement 0 = .ok (.iload_n 0, 1) := dk_26 (dk_at dksX1_checkElement_0 0 rfl rfl)
theorem dX1_checkElement_1 : decode cX1_checkElement 1 = .ok (.ifCond .ne 11, 3) := dk_154 0 11 (dk_at dksX1_checkElement_0 1 rfl rfl)
theorem dX1_checkElement_4 : decode cX1_checkElement 4 = .ok (.new 122, 3) := dk_187 0 122 (dk_at dksX1_checkElement_0 4 rfl rfl)
theorem dX1_checkElement_7 : decode cX1_checkElement 7 = .ok (.dup, 1) := dk_89 (dk_at dksX1_checkElement_0 7 rfl rfl)
theorem dX1_checkElement_8 : decode cX1_checkElement 8 = .ok (.invokespecial 124, 3) := dk_183 0 124 (dk_at dksX1_checkElement_0 8 rfl rfl)
theorem dX1_checkElement_11 : decode cX1_checkElement 11 = .ok (.athrow, 1) := dk_191 (dk_at dksX1_checkElement_0 11 rfl rfl)
theorem dX1_checkElement_12 : decode cX1_checkElement 12 = .ok (.return_, 1) := dk_177 (dk_at dksX1_checkElement_0 12 rfl rfl)
def dkwX1_red_0 : List UInt8 := [42, 27, 182, 0, 161, 180, 0, 164, 3, 182, 0, 168, 172]
abbrev dktX1_red_0 : List UInt8 := dkwX1_red_0 ++ []
theorem dksX1_red_0 : cX1_red.data.toList.drop 0 = dktX1_red_0 := by decide +kernel
theorem dX1_red_0 : decode cX1_red 0 = .ok (.aload_n 0, 1) := dk_42 (dk_at dksX1_red_0 0 rfl rfl)
theorem dX1_red_1 : decode cX1_red 1 = .ok (.iload_n 1, 1) := dk_27 (dk_at dksX1_red_0 1 rfl rfl)
theorem dX1_red_2 : decode cX1_red 2 = .ok (.invokevirtual 161, 3) := dk_182 0 161 (dk_at dksX1_red_0 2 rfl rfl)
theorem dX1_red_5 : decode cX1_red 5 = .ok (.getfield 164, 3) := dk_180 0 164 (dk_at dksX1_red_0 5 rfl rfl)
theorem dX1_red_8 : decode cX1_red 8 = .ok (.iconst 0, 1) := dk_3 (dk_at dksX1_red_0 8 rfl rfl)
theorem dX1_red_9 : decode cX1_red 9 = .ok (.invokevirtual 168, 3) := dk_182 0 168 (dk_at dksX1_red_0 9 rfl rfl)
theorem dX1_red_12 : decode cX1_red 12 = .ok (.ireturn, 1) := dk_172 (dk_at dksX1_red_0 12 rfl rfl)
def dkwX1_colourWith_0 : List UInt8 := [42, 180, 0, 38, 27, 182, 0, 132, 184, 0, 128, 42, 180, 0, 38, 27, 182, 0, 136, 176]
abbrev dktX1_colourWith_0 : List UInt8 := dkwX1_colourWith_0 ++ []
theorem dksX1_colourWith_0 : cX1_colourWith.data.toList.drop 0 = dktX1_colourWith_0 := by decide +kernel
theorem dX1_colourWith_0 : decode cX1_colourWith 0 = .ok (.aload_n 0, 1) := dk_42 (dk_at dksX1_colourWith_0 0 rfl rfl)
theorem dX1_colourWith_1 : decode cX1_colourWith 1 = .ok (.getfield 38, 3) := dk_180 0 38 (dk_at dksX1_colourWith_0 1 rfl rfl)
theorem dX1_colourWith_4 : decode cX1_colourWith 4 = .ok (.iload_n 1, 1) := dk_27 (dk_at dksX1_colourWith_0 4 rfl rfl)
theorem dX1_colourWith_5 : decode cX1_colourWith 5 = .ok (.invokevirtual 132, 3) := dk_182 0 132 (dk_at dksX1_colourWith_0 5 rfl rfl)
theorem dX1_colourWith_8 : decode cX1_colourWith 8 = .ok (.invokestatic 128, 3) := dk_184 0 128 (dk_at dksX1_colourWith_0 8 rfl rfl)
theorem dX1_colourWith_11 : decode cX1_colourWith 11 = .ok (.aload_n 0, 1) := dk_42 (dk_at dksX1_colourWith_0 11 rfl rfl)
theorem dX1_colourWith_12 : decode cX1_colourWith 12 = .ok (.getfield 38, 3) := dk_180 0 38 (dk_at dksX1_colourWith_0 12 rfl rfl)
theorem dX1_colourWith_15 : decode cX1_colourWith 15 = .ok (.iload_n 1, 1) := dk_27 (dk_at dksX1_colourWith_0 15 rfl rfl)
theorem dX1_colourWith_16 : decode cX1_colourWith 16 = .ok (.invokevirtual 136, 3) := dk_182 0 136 (dk_at dksX1_colourWith_0 16 rfl rfl)
theorem dX1_colourWith_19 : decode cX1_colourWith 19 = .ok (.areturn, 1) := dk_176 (dk_at dksX1_colourWith_0 19 rfl rfl)
def dkwX1_green_0 : List UInt8 := [42, 27, 182, 0, 161, 180, 0, 164, 4, 182, 0, 168, 172]
abbrev dktX1_green_0 : List UInt8 := dkwX1_green_0 ++ []
theorem dksX1_green_0 : cX1_green.data.toList.drop 0 = dktX1_green_0 := by decide +kernel
theorem dX1_green_0 : decode cX1_green 0 = .ok (.aload_n 0, 1) := dk_42 (dk_at dksX1_green_0 0 rfl rfl)
theorem dX1_green_1 : decode cX1_green 1 = .ok (.iload_n 1, 1) := dk_27 (dk_at dksX1_green_0 1 rfl rfl)
theorem dX1_green_2 : decode cX1_green 2 = .ok (.invokevirtual 161, 3) := dk_182 0 161 (dk_at dksX1_green_0 2 rfl rfl)
theorem dX1_green_5 : decode cX1_green 5 = .ok (.getfield 164, 3) := dk_180 0 164 (dk_at dksX1_green_0 5 rfl rfl)
theorem dX1_green_8 : decode cX1_green 8 = .ok (.iconst 1, 1) := dk_4 (dk_at dksX1_green_0 8 rfl rfl)
theorem dX1_green_9 : decode cX1_green 9 = .ok (.invokevirtual 168, 3) := dk_182 0 168 (dk_at dksX1_green_0 9 rfl rfl)
theorem dX1_green_12 : decode cX1_green 12 = .ok (.ireturn, 1) := dk_172 (dk_at dksX1_green_0 12 rfl rfl)
def dkwX1_blue_0 : List UInt8 := [42, 27, 182, 0, 161, 180, 0, 164, 5, 182, 0, 168, 172]
abbrev dktX1_blue_0 : List UInt8 := dkwX1_blue_0 ++ []
theorem dksX1_blue_0 : cX1_blue.data.toList.drop 0 = dktX1_blue_0 := by decide +kernel
theorem dX1_blue_0 : decode cX1_blue 0 = .ok (.aload_n 0, 1) := dk_42 (dk_at dksX1_blue_0 0 rfl rfl)
theorem dX1_blue_1 : decode cX1_blue 1 = .ok (.iload_n 1, 1) := dk_27 (dk_at dksX1_blue_0 1 rfl rfl)
theorem dX1_blue_2 : decode cX1_blue 2 = .ok (.invokevirtual 161, 3) := dk_182 0 161 (dk_at dksX1_blue_0 2 rfl rfl)
theorem dX1_blue_5 : decode cX1_blue 5 = .ok (.getfield 164, 3) := dk_180 0 164 (dk_at dksX1_blue_0 5 rfl rfl)
theorem dX1_blue_8 : decode cX1_blue 8 = .ok (.iconst 2, 1) := dk_5 (dk_at dksX1_blue_0 8 rfl rfl)
theorem dX1_blue_9 : decode cX1_blue 9 = .ok (.invokevirtual 168, 3) := dk_182 0 168 (dk_at dksX1_blue_0 9 rfl rfl)
theorem dX1_blue_12 : decode cX1_blue 12 = .ok (.ireturn, 1) := dk_172 (dk_at dksX1_blue_0 12 rfl rfl)
def dkwX1_fastness_0 : List UInt8 := [42, 27, 182, 0, 161, 180, 0, 172, 172]
abbrev dktX1_fastness_0 : List UInt8 := dkwX1_fastness_0 ++ []
theorem dksX1_fastness_0 : cX1_fastness.data.toList.drop 0 = dktX1_fastness_0 := by decide +kernel
theorem dX1_fastness_0 : decode cX1_fastness 0 = .ok (.aload_n 0, 1) := dk_42 (dk_at dksX1_fastness_0 0 rfl rfl)
theorem dX1_fastness_1 : decode cX1_fastness 1 = .ok (.iload_n 1, 1) := dk_27 (dk_at dksX1_fastness_0 1 rfl rfl)
theorem dX1_fastness_2 : decode cX1_fastness 2 = .ok (.invokevirtual 161, 3) := dk_182 0 161 (dk_at dksX1_fastness_0 2 rfl rfl)
theorem dX1_fastness_5 : decode cX1_fastness 5 = .ok (.getfield 172, 3) := dk_180 0 172 (dk_at dksX1_fastness_0 5 rfl rfl)
theorem dX1_fastness_8 : decode cX1_fastness 8 = .ok (.ireturn, 1) := dk_172 (dk_at dksX1_fastness_0 8 rfl rfl)
def dkwX1_age_0 : List UInt8 := [42, 27, 182, 0, 161, 180, 0, 175, 172]
abbrev dktX1_age_0 : List UInt8 := dkwX1_age_0 ++ []
theorem dksX1_age_0 : cX1_age.data.toList.drop 0 = dktX1_age_0 := by decide +kernel
theorem dX1_age_0 : decode cX1_age 0 = .ok (.aload_n 0, 1) := dk_42 (dk_at dksX1_age_0 0 rfl rfl)
theorem dX1_age_1 : decode cX1_age 1 = .ok (.iload_n 1, 1) := dk_27 (dk_at dksX1_age_0 1 rfl rfl)
theorem dX1_age_2 : decode cX1_age 2 = .ok (.invokevirtual 161, 3) := dk_182 0 161 (dk_at dksX1_age_0 2 rfl rfl)
theorem dX1_age_5 : decode cX1_age 5 = .ok (.getfield 175, 3) := dk_180 0 175 (dk_at dksX1_age_0 5 rfl rfl)
theorem dX1_age_8 : decode cX1_age 8 = .ok (.ireturn, 1) := dk_172 (dk_at dksX1_age_0 8 rfl rfl)
def dkwX1_daysUntilGrey_0 : List UInt8 := [42, 27, 182, 0, 161, 182, 0, 178, 172]
abbrev dktX1_daysUntilGrey_0 : List UInt8 := dkwX1_daysUntilGrey_0 ++ []
theorem dksX1_daysUntilGrey_0 : cX1_daysUntilGrey.data.toList.drop 0 = dktX1_daysUntilGrey_0 := by decide +kernel
theorem dX1_daysUntilGrey_0 : decode cX1_daysUntilGrey 0 = .ok (.aload_n 0, 1) := dk_42 (dk_at dksX1_daysUntilGrey_0 0 rfl rfl)
theorem dX1_daysUntilGrey_1 : decode cX1_daysUntilGrey 1 = .ok (.iload_n 1, 1) := dk_27 (dk_at dksX1_daysUntilGrey_0 1 rfl rfl)
theorem dX1_daysUntilGrey_2 : decode cX1_daysUntilGrey 2 = .ok (.invokevirtual 161, 3) := dk_182 0 161 (dk_at dksX1_daysUntilGrey_0 2 rfl rfl)
theorem dX1_daysUntilGrey_5 : decode cX1_daysUntilGrey 5 = .ok (.invokevirtual 178, 3) := dk_182 0 178 (dk_at dksX1_daysUntilGrey_0 5 rfl rfl)
theorem dX1_daysUntilGrey_8 : decode cX1_daysUntilGrey 8 = .ok (.ireturn, 1) := dk_172 (dk_at dksX1_daysUntilGrey_0 8 rfl rfl)
def dkwX1_colourByBrightness_0 : List UInt8 := [42, 180, 0, 38, 27, 182, 0, 181, 184, 0, 184, 172]
abbrev dktX1_colourByBrightness_0 : List UInt8 := dkwX1_colourByBrightness_0 ++ []
theorem dksX1_colourByBrightness_0 : cX1_colourByBrightness.data.toList.drop 0 = dktX1_colourByBrightness_0 := by decide +kernel
theorem dX1_colourByBrightness_0 : decode cX1_colourByBrightness 0 = .ok (.aload_n 0, 1) := dk_42 (dk_at dksX1_colourByBrightness_0 0 rfl rfl)
theorem dX1_colourByBrightness_1 : decode cX1_colourByBrightness 1 = .ok (.getfield 38, 3) := dk_180 0 38 (dk_at dksX1_colourByBrightness_0 1 rfl rfl)
theorem dX1_colourByBrightness_4 : decode cX1_colourByBrightness 4 = .ok (.iload_n 1, 1) := dk_27 (dk_at dksX1_colourByBrightness_0 4 rfl rfl)
theorem dX1_colourByBrightness_5 : decode cX1_colourByBrightness 5 = .ok (.invokevirtual 181, 3) := dk_182 0 181 (dk_at dksX1_colourByBrightness_0 5 rfl rfl)
theorem dX1_colourByBrightness_8 : decode cX1_colourByBrightness 8 = .ok (.invokestatic 184, 3) := dk_184 0 184 (dk_at dksX1_colourByBrightness_0 8 rfl rfl)
theorem dX1_colourByBrightness_11 : decode cX1_colourByBrightness 11 = .ok (.ireturn, 1) := dk_172 (dk_at dksX1_colourByBrightness_0 11 rfl rfl)
def dkwX1_found_0 : List UInt8 := [26, 2, 159, 0, 7, 4, 167, 0, 4, 3, 184, 0, 128, 26, 172]
abbrev dktX1_found_0 : List UInt8 := dkwX1_found_0 ++ []
theorem dksX1_found_0 : cX1_found.data.toList.drop 0 = dktX1_found_0 := by decide +kernel
theorem dX1_found_0 : decode cX1_found 0 = .ok (.iload_n 0, 1) := dk_26 (dk_at dksX1_found_0 0 rfl rfl)
theorem dX1_found_1 : decode cX1_found 1 = .ok (.iconst (-1), 1) := dk_2 (dk_at dksX1_found_0 1 rfl rfl)
theorem dX1_found_2 : decode cX1_found 2 = .ok (.if_icmp .eq 7, 3) := dk_159 0 7 (dk_at dksX1_found_0 2 rfl rfl)
theorem dX1_found_5 : decode cX1_found 5 = .ok (.iconst 1, 1) := dk_4 (dk_at dksX1_found_0 5 rfl rfl)
theorem dX1_found_6 : decode cX1_found 6 = .ok (.goto 4, 3) := dk_167 0 4 (dk_at dksX1_found_0 6 rfl rfl)
theorem dX1_found_9 : decode cX1_found 9 = .ok (.iconst 0, 1) := dk_3 (dk_at dksX1_found_0 9 rfl rfl)
theorem dX1_found_10 : decode cX1_found 10 = .ok (.invokestatic 128, 3) := dk_184 0 128 (dk_at dksX1_found_0 10 rfl rfl)
theorem dX1_found_13 : decode cX1_found 13 = .ok (.iload_n 0, 1) := dk_26 (dk_at dksX1_found_0 13 rfl rfl)
theorem dX1_found_14 : decode cX1_found 14 = .ok (.ireturn, 1) := dk_172 (dk_at dksX1_found_0 14 rfl rfl)
def dkwX1_reportAt_1 : List UInt8 := [185, 0, 205, 2, 0, 192, 0, 209, 180, 0, 211, 172]
abbrev dktX1_reportAt_1 : List UInt8 := dkwX1_reportAt_1 ++ []
def dkwX1_reportAt_0 : List UInt8 := [27, 3, 42, 182, 0, 202, 4, 100, 184, 0, 9, 184, 0, 128, 42, 180, 0, 38, 180, 0, 193, 27]
abbrev dktX1_reportAt_0 : List UInt8 := dkwX1_reportAt_0 ++ dktX1_reportAt_1
theorem dksX1_reportAt_0 : cX1_reportAt.data.toList.drop 0 = dktX1_reportAt_0 := by decide +kernel
theorem dksX1_reportAt_1 : cX1_reportAt.data.toList.drop 22 = dktX1_reportAt_1 := dk_seg dksX1_reportAt_0 22 rfl rfl
theorem dX1_reportAt_0 : decode cX1_reportAt 0 = .ok (.iload_n 1, 1) := dk_27 (dk_at dksX1_reportAt_0 0 rfl rfl)
theorem dX1_reportAt_1 : decode cX1_reportAt 1 = .ok (.iconst 0, 1) := dk_3 (dk_at dksX1_reportAt_0 1 rfl rfl)
theorem dX1_reportAt_2 : decode cX1_reportAt 2 = .ok (.aload_n 0, 1) := dk_42 (dk_at dksX1_reportAt_0 2 rfl rfl)
theorem dX1_reportAt_3 : decode cX1_reportAt 3 = .ok (.invokevirtual 202, 3) := dk_182 0 202 (dk_at dksX1_reportAt_0 3 rfl rfl)
theorem dX1_reportAt_6 : decode cX1_reportAt 6 = .ok (.iconst 1, 1) := dk_4 (dk_at dksX1_reportAt_0 6 rfl rfl)
theorem dX1_reportAt_7 : decode cX1_reportAt 7 = .ok (.isub, 1) := dk_100 (dk_at dksX1_reportAt_0 7 rfl rfl)
theorem dX1_reportAt_8 : decode cX1_reportAt 8 = .ok (.invokestatic 9, 3) := dk_184 0 9 (dk_at dksX1_reportAt_0 8 rfl rfl)
theorem dX1_reportAt_11 : decode cX1_reportAt 11 = .ok (.invokestatic 128, 3) := dk_184 0 128 (dk_at dksX1_reportAt_0 11 rfl rfl)
theorem dX1_reportAt_14 : decode cX1_reportAt 14 = .ok (.aload_n 0, 1) := dk_42 (dk_at dksX1_reportAt_0 14 rfl rfl)
theorem dX1_reportAt_15 : decode cX1_reportAt 15 = .ok (.getfield 38, 3) := dk_180 0 38 (dk_at dksX1_reportAt_0 15 rfl rfl)
theorem dX1_reportAt_18 : decode cX1_reportAt 18 = .ok (.getfield 193, 3) := dk_180 0 193 (dk_at dksX1_reportAt_0 18 rfl rfl)
theorem dX1_reportAt_21 : decode cX1_reportAt 21 = .ok (.iload_n 1, 1) := dk_27 (dk_at dksX1_reportAt_0 21 rfl rfl)
theorem dX1_reportAt_22 : decode cX1_reportAt 22 = .ok (.invokeinterface 205 2, 5) := by decide +kernel
theorem dX1_reportAt_27 : decode cX1_reportAt 27 = .ok (.checkcast 209, 3) := dk_192 0 209 (dk_at dksX1_reportAt_1 5 rfl rfl)
theorem dX1_reportAt_30 : decode cX1_reportAt 30 = .ok (.getfield 211, 3) := dk_180 0 211 (dk_at dksX1_reportAt_1 8 rfl rfl)
theorem dX1_reportAt_33 : decode cX1_reportAt 33 = .ok (.ireturn, 1) := dk_172 (dk_at dksX1_reportAt_1 11 rfl rfl)
def dkwX1_toleranceOf_0 : List UInt8 := [42, 27, 182, 0, 212, 180, 0, 215, 172]
abbrev dktX1_toleranceOf_0 : List UInt8 := dkwX1_toleranceOf_0 ++ []
theorem dksX1_toleranceOf_0 : cX1_toleranceOf.data.toList.drop 0 = dktX1_toleranceOf_0 := by decide +kernel
theorem dX1_toleranceOf_0 : decode cX1_toleranceOf 0 = .ok (.aload_n 0, 1) := dk_42 (dk_at dksX1_toleranceOf_0 0 rfl rfl)
theorem dX1_toleranceOf_1 : decode cX1_toleranceOf 1 = .ok (.iload_n 1, 1) := dk_27 (dk_at dksX1_toleranceOf_0 1 rfl rfl)
theorem dX1_toleranceOf_2 : decode cX1_toleranceOf 2 = .ok (.invokevirtual 212, 3) := dk_182 0 212 (dk_at dksX1_toleranceOf_0 2 rfl rfl)
theorem dX1_toleranceOf_5 : decode cX1_toleranceOf 5 = .ok (.getfield 215, 3) := dk_180 0 215 (dk_at dksX1_toleranceOf_0 5 rfl rfl)
theorem dX1_toleranceOf_8 : decode cX1_toleranceOf 8 = .ok (.ireturn, 1) := dk_172 (dk_at dksX1_toleranceOf_0 8 rfl rfl)
def dkwX1_reportWith_0 : List UInt8 := [42, 180, 0, 38, 27, 182, 0, 187, 184, 0, 128, 42, 180, 0, 38, 27, 182, 0, 190, 176]
abbrev dktX1_reportWith_0 : List UInt8 := dkwX1_reportWith_0 ++ []
theorem dksX1_reportWith_0 : cX1_reportWith.data.toList.drop 0 = dktX1_reportWith_0 := by decide +kernel
theorem dX1_reportWith_0 : decode cX1_reportWith 0 = .ok (.aload_n 0, 1) := dk_42 (dk_at dksX1_reportWith_0 0 rfl rfl)
theorem dX1_reportWith_1 : decode cX1_reportWith 1 = .ok (.getfield 38, 3) := dk_180 0 38 (dk_at dksX1_reportWith_0 1 rfl rfl)
theorem dX1_reportWith_4 : decode cX1_reportWith 4 = .ok (.iload_n 1, 1) := dk_27 (dk_at dksX1_reportWith_0 4 rfl rfl)
theorem dX1_reportWith_5 : decode cX1_reportWith 5 = .ok (.invokevirtual 187, 3) := dk_182 0 187 (dk_at dksX1_reportWith_0 5 rfl rfl)
theorem dX1_reportWith_8 : decode cX1_reportWith 8 = .ok (.invokestatic 128, 3) := dk_184 0 128 (dk_at dksX1_reportWith_0 8 rfl rfl)
theorem dX1_reportWith_11 : decode cX1_reportWith 11 = .ok (.aload_n 0, 1) := dk_42 (dk_at dksX1_reportWith_0 11 rfl rfl)
theorem dX1_reportWith_12 : decode cX1_reportWith 12 = .ok (.getfield 38, 3) := dk_180 0 38 (dk_at dksX1_reportWith_0 12 rfl rfl)
theorem dX1_reportWith_15 : decode cX1_reportWith 15 = .ok (.iload_n 1, 1) := dk_27 (dk_at dksX1_reportWith_0 15 rfl rfl)
theorem dX1_reportWith_16 : decode cX1_reportWith 16 = .ok (.invokevirtual 190, 3) := dk_182 0 190 (dk_at dksX1_reportWith_0 16 rfl rfl)
theorem dX1_reportWith_19 : decode cX1_reportWith 19 = .ok (.areturn, 1) := dk_176 (dk_at dksX1_reportWith_0 19 rfl rfl)
def dkwX1_rewardOf_0 : List UInt8 := [42, 27, 182, 0, 212, 180, 0, 218, 172]
abbrev dktX1_rewardOf_0 : List UInt8 := dkwX1_rewardOf_0 ++ []
theorem dksX1_rewardOf_0 : cX1_rewardOf.data.toList.drop 0 = dktX1_rewardOf_0 := by decide +kernel
theorem dX1_rewardOf_0 : decode cX1_rewardOf 0 = .ok (.aload_n 0, 1) := dk_42 (dk_at dksX1_rewardOf_0 0 rfl rfl)
theorem dX1_rewardOf_1 : decode cX1_rewardOf 1 = .ok (.iload_n 1, 1) := dk_27 (dk_at dksX1_rewardOf_0 1 rfl rfl)
theorem dX1_rewardOf_2 : decode cX1_rewardOf 2 = .ok (.invokevirtual 212, 3) := dk_182 0 212 (dk_at dksX1_rewardOf_0 2 rfl rfl)
theorem dX1_rewardOf_5 : decode cX1_rewardOf 5 = .ok (.getfield 218, 3) := dk_180 0 218 (dk_at dksX1_rewardOf_0 5 rfl rfl)
theorem dX1_rewardOf_8 : decode cX1_rewardOf 8 = .ok (.ireturn, 1) := dk_172 (dk_at dksX1_rewardOf_0 8 rfl rfl)
def dkwX1_distanceFor_1 : List UInt8 := [167, 0, 4, 3, 184, 0, 128, 42, 180, 0, 38, 27, 28, 182, 0, 221, 172]
abbrev dktX1_distanceFor_1 : List UInt8 := dkwX1_distanceFor_1 ++ []
def dkwX1_distanceFor_0 : List UInt8 := [42, 180, 0, 38, 27, 182, 0, 187, 153, 0, 18, 42, 180, 0, 38, 28, 182, 0, 132, 153, 0, 7, 4]
abbrev dktX1_distanceFor_0 : List UInt8 := dkwX1_distanceFor_0 ++ dktX1_distanceFor_1
theorem dksX1_distanceFor_0 : cX1_distanceFor.data.toList.drop 0 = dktX1_distanceFor_0 := by decide +kernel
theorem dksX1_distanceFor_1 : cX1_distanceFor.data.toList.drop 23 = dktX1_distanceFor_1 := dk_seg dksX1_distanceFor_0 23 rfl rfl
theorem dX1_distanceFor_0 : decode cX1_distanceFor 0 = .ok (.aload_n 0, 1) := dk_42 (dk_at dksX1_distanceFor_0 0 rfl rfl)
theorem dX1_distanceFor_1 : decode cX1_distanceFor 1 = .ok (.getfield 38, 3) := dk_180 0 38 (dk_at dksX1_distanceFor_0 1 rfl rfl)
theorem dX1_distanceFor_4 : decode cX1_distanceFor 4 = .ok (.iload_n 1, 1) := dk_27 (dk_at dksX1_distanceFor_0 4 rfl rfl)
theorem dX1_distanceFor_5 : decode cX1_distanceFor 5 = .ok (.invokevirtual 187, 3) := dk_182 0 187 (dk_at dksX1_distanceFor_0 5 rfl rfl)
theorem dX1_distanceFor_8 : decode cX1_distanceFor 8 = .ok (.ifCond .eq 18, 3) := dk_153 0 18 (dk_at dksX1_distanceFor_0 8 rfl rfl)
theorem dX1_distanceFor_11 : decode cX1_distanceFor 11 = .ok (.aload_n 0, 1) := dk_42 (dk_at dksX1_distanceFor_0 11 rfl rfl)
theorem dX1_distanceFor_12 : decode cX1_distanceFor 12 = .ok (.getfield 38, 3) := dk_180 0 38 (dk_at dksX1_distanceFor_0 12 rfl rfl)
theorem dX1_distanceFor_15 : decode cX1_distanceFor 15 = .ok (.iload_n 2, 1) := dk_28 (dk_at dksX1_distanceFor_0 15 rfl rfl)
theorem dX1_distanceFor_16 : decode cX1_distanceFor 16 = .ok (.invokevirtual 132, 3) := dk_182 0 132 (dk_at dksX1_distanceFor_0 16 rfl rfl)
theorem dX1_distanceFor_19 : decode cX1_distanceFor 19 = .ok (.ifCond .eq 7, 3) := dk_153 0 7 (dk_at dksX1_distanceFor_0 19 rfl rfl)
theorem dX1_distanceFor_22 : decode cX1_distanceFor 22 = .ok (.iconst 1, 1) := dk_4 (dk_at dksX1_distanceFor_0 22 rfl rfl)
theorem dX1_distanceFor_23 : decode cX1_distanceFor 23 = .ok (.goto 4, 3) := dk_167 0 4 (dk_at dksX1_distanceFor_1 0 rfl rfl)
theorem dX1_distanceFor_26 : decode cX1_distanceFor 26 = .ok (.iconst 0, 1) := dk_3 (dk_at dksX1_distanceFor_1 3 rfl rfl)
theorem dX1_distanceFor_27 : decode cX1_distanceFor 27 = .ok (.invokestatic 128, 3) := dk_184 0 128 (dk_at dksX1_distanceFor_1 4 rfl rfl)
theorem dX1_distanceFor_30 : decode cX1_distanceFor 30 = .ok (.aload_n 0, 1) := dk_42 (dk_at dksX1_distanceFor_1 7 rfl rfl)
theorem dX1_distanceFor_31 : decode cX1_distanceFor 31 = .ok (.getfield 38, 3) := dk_180 0 38 (dk_at dksX1_distanceFor_1 8 rfl rfl)
theorem dX1_distanceFor_34 : decode cX1_distanceFor 34 = .ok (.iload_n 1, 1) := dk_27 (dk_at dksX1_distanceFor_1 11 rfl rfl)
theorem dX1_distanceFor_35 : decode cX1_distanceFor 35 = .ok (.iload_n 2, 1) := dk_28 (dk_at dksX1_distanceFor_1 12 rfl rfl)
theorem dX1_distanceFor_36 : decode cX1_distanceFor 36 = .ok (.invokevirtual 221, 3) := dk_182 0 221 (dk_at dksX1_distanceFor_1 13 rfl rfl)
theorem dX1_distanceFor_39 : decode cX1_distanceFor 39 = .ok (.ireturn, 1) := dk_172 (dk_at dksX1_distanceFor_1 16 rfl rfl)
def dkwX1_fits_1 : List UInt8 := [167, 0, 4, 3, 184, 0, 128, 42, 180, 0, 38, 27, 28, 182, 0, 225, 172]
abbrev dktX1_fits_1 : List UInt8 := dkwX1_fits_1 ++ []
def dkwX1_fits_0 : List UInt8 := [42, 180, 0, 38, 27, 182, 0, 187, 153, 0, 18, 42, 180, 0, 38, 28, 182, 0, 132, 153, 0, 7, 4]
abbrev dktX1_fits_0 : List UInt8 := dkwX1_fits_0 ++ dktX1_fits_1
theorem dksX1_fits_0 : cX1_fits.data.toList.drop 0 = dktX1_fits_0 := by decide +kernel
theorem dksX1_fits_1 : cX1_fits.data.toList.drop 23 = dktX1_fits_1 := dk_seg dksX1_fits_0 23 rfl rfl
theorem dX1_fits_0 : decode cX1_fits 0 = .ok (.aload_n 0, 1) := dk_42 (dk_at dksX1_fits_0 0 rfl rfl)
theorem dX1_fits_1 : decode cX1_fits 1 = .ok (.getfield 38, 3) := dk_180 0 38 (dk_at dksX1_fits_0 1 rfl rfl)
theorem dX1_fits_4 : decode cX1_fits 4 = .ok (.iload_n 1, 1) := dk_27 (dk_at dksX1_fits_0 4 rfl rfl)
theorem dX1_fits_5 : decode cX1_fits 5 = .ok (.invokevirtual 187, 3) := dk_182 0 187 (dk_at dksX1_fits_0 5 rfl rfl)
theorem dX1_fits_8 : decode cX1_fits 8 = .ok (.ifCond .eq 18, 3) := dk_153 0 18 (dk_at dksX1_fits_0 8 rfl rfl)
theorem dX1_fits_11 : decode cX1_fits 11 = .ok (.aload_n 0, 1) := dk_42 (dk_at dksX1_fits_0 11 rfl rfl)
theorem dX1_fits_12 : decode cX1_fits 12 = .ok (.getfield 38, 3) := dk_180 0 38 (dk_at dksX1_fits_0 12 rfl rfl)
theorem dX1_fits_15 : decode cX1_fits 15 = .ok (.iload_n 2, 1) := dk_28 (dk_at dksX1_fits_0 15 rfl rfl)
theorem dX1_fits_16 : decode cX1_fits 16 = .ok (.invokevirtual 132, 3) := dk_182 0 132 (dk_at dksX1_fits_0 16 rfl rfl)
theorem dX1_fits_19 : decode cX1_fits 19 = .ok (.ifCond .eq 7, 3) := dk_153 0 7 (dk_at dksX1_fits_0 19 rfl rfl)
theorem dX1_fits_22 : decode cX1_fits 22 = .ok (.iconst 1, 1) := dk_4 (dk_at dksX1_fits_0 22 rfl rfl)
theorem dX1_fits_23 : decode cX1_fits 23 = .ok (.goto 4, 3) := dk_167 0 4 (dk_at dksX1_fits_1 0 rfl rfl)
theorem dX1_fits_26 : decode cX1_fits 26 = .ok (.iconst 0, 1) := dk_3 (dk_at dksX1_fits_1 3 rfl rfl)
theorem dX1_fits_27 : decode cX1_fits 27 = .ok (.invokestatic 128, 3) := dk_184 0 128 (dk_at dksX1_fits_1 4 rfl rfl)
theorem dX1_fits_30 : decode cX1_fits 30 = .ok (.aload_n 0, 1) := dk_42 (dk_at dksX1_fits_1 7 rfl rfl)
theorem dX1_fits_31 : decode cX1_fits 31 = .ok (.getfield 38, 3) := dk_180 0 38 (dk_at dksX1_fits_1 8 rfl rfl)
theorem dX1_fits_34 : decode cX1_fits 34 = .ok (.iload_n 1, 1) := dk_27 (dk_at dksX1_fits_1 11 rfl rfl)
theorem dX1_fits_35 : decode cX1_fits 35 = .ok (.iload_n 2, 1) := dk_28 (dk_at dksX1_fits_1 12 rfl rfl)
theorem dX1_fits_36 : decode cX1_fits 36 = .ok (.invokevirtual 225, 3) := dk_182 0 225 (dk_at dksX1_fits_1 13 rfl rfl)
theorem dX1_fits_39 : decode cX1_fits 39 = .ok (.ireturn, 1) := dk_172 (dk_at dksX1_fits_1 16 rfl rfl)
def dkwX1_nearestFor_0 : List UInt8 := [42, 180, 0, 38, 182, 0, 238, 42, 27, 182, 0, 212, 180, 0, 242, 182, 0, 243, 184, 0, 249, 172]
abbrev dktX1_nearestFor_0 : List UInt8 := dkwX1_nearestFor_0 ++ []
theorem dksX1_nearestFor_0 : cX1_nearestFor.data.toList.drop 0 = dktX1_nearestFor_0 := by decide +kernel
theorem dX1_nearestFor_0 : decode cX1_nearestFor 0 = .ok (.aload_n 0, 1) := dk_42 (dk_at dksX1_nearestFor_0 0 rfl rfl)
theorem dX1_nearestFor_1 : decode cX1_nearestFor 1 = .ok (.getfield 38, 3) := dk_180 0 38 (dk_at dksX1_nearestFor_0 1 rfl rfl)
theorem dX1_nearestFor_4 : decode cX1_nearestFor 4 = .ok (.invokevirtual 238, 3) := dk_182 0 238 (dk_at dksX1_nearestFor_0 4 rfl rfl)
theorem dX1_nearestFor_7 : decode cX1_nearestFor 7 = .ok (.aload_n 0, 1) := dk_42 (dk_at dksX1_nearestFor_0 7 rfl rfl)
theorem dX1_nearestFor_8 : decode cX1_nearestFor 8 = .ok (.iload_n 1, 1) := dk_27 (dk_at dksX1_nearestFor_0 8 rfl rfl)
theorem dX1_nearestFor_9 : decode cX1_nearestFor 9 = .ok (.invokevirtual 212, 3) := dk_182 0 212 (dk_at dksX1_nearestFor_0 9 rfl rfl)
theorem dX1_nearestFor_12 : decode cX1_nearestFor 12 = .ok (.getfield 242, 3) := dk_180 0 242 (dk_at dksX1_nearestFor_0 12 rfl rfl)
theorem dX1_nearestFor_15 : decode cX1_nearestFor 15 = .ok (.invokevirtual 243, 3) := dk_182 0 243 (dk_at dksX1_nearestFor_0 15 rfl rfl)
theorem dX1_nearestFor_18 : decode cX1_nearestFor 18 = .ok (.invokestatic 249, 3) := dk_184 0 249 (dk_at dksX1_nearestFor_0 18 rfl rfl)
theorem dX1_nearestFor_21 : decode cX1_nearestFor 21 = .ok (.ireturn, 1) := dk_172 (dk_at dksX1_nearestFor_0 21 rfl rfl)
def dkwX1_idOf_0 : List UInt8 := [42, 182, 0, 229, 184, 0, 128, 42, 182, 0, 235, 192, 0, 157, 180, 0, 156, 172]
abbrev dktX1_idOf_0 : List UInt8 := dkwX1_idOf_0 ++ []
theorem dksX1_idOf_0 : cX1_idOf.data.toList.drop 0 = dktX1_idOf_0 := by decide +kernel
theorem dX1_idOf_0 : decode cX1_idOf 0 = .ok (.aload_n 0, 1) := dk_42 (dk_at dksX1_idOf_0 0 rfl rfl)
theorem dX1_idOf_1 : decode cX1_idOf 1 = .ok (.invokevirtual 229, 3) := dk_182 0 229 (dk_at dksX1_idOf_0 1 rfl rfl)
theorem dX1_idOf_4 : decode cX1_idOf 4 = .ok (.invokestatic 128, 3) := dk_184 0 128 (dk_at dksX1_idOf_0 4 rfl rfl)
theorem dX1_idOf_7 : decode cX1_idOf 7 = .ok (.aload_n 0, 1) := dk_42 (dk_at dksX1_idOf_0 7 rfl rfl)
theorem dX1_idOf_8 : decode cX1_idOf 8 = .ok (.invokevirtual 235, 3) := dk_182 0 235 (dk_at dksX1_idOf_0 8 rfl rfl)
theorem dX1_idOf_11 : decode cX1_idOf 11 = .ok (.checkcast 157, 3) := dk_192 0 157 (dk_at dksX1_idOf_0 11 rfl rfl)
theorem dX1_idOf_14 : decode cX1_idOf 14 = .ok (.getfield 156, 3) := dk_180 0 156 (dk_at dksX1_idOf_0 14 rfl rfl)
theorem dX1_idOf_17 : decode cX1_idOf 17 = .ok (.ireturn, 1) := dk_172 (dk_at dksX1_idOf_0 17 rfl rfl)
def dkwX1_distance_2_1 : List UInt8 := [184, 0, 255, 172]
abbrev dktX1_distance_2_1 : List UInt8 := dkwX1_distance_2_1 ++ []
def dkwX1_distance_2_0 : List UInt8 := [42, 180, 0, 38, 182, 0, 253, 42, 27, 182, 0, 161, 180, 0, 164, 42, 28, 182, 0, 161, 180, 0, 164]
abbrev dktX1_distance_2_0 : List UInt8 := dkwX1_distance_2_0 ++ dktX1_distance_2_1
theorem dksX1_distance_2_0 : cX1_distance_2.data.toList.drop 0 = dktX1_distance_2_0 := by decide +kernel
theorem dksX1_distance_2_1 : cX1_distance_2.data.toList.drop 23 = dktX1_distance_2_1 := dk_seg dksX1_distance_2_0 23 rfl rfl
theorem dX1_distance_2_0 : decode cX1_distance_2 0 = .ok (.aload_n 0, 1) := dk_42 (dk_at dksX1_distance_2_0 0 rfl rfl)
theorem dX1_distance_2_1 : decode cX1_distance_2 1 = .ok (.getfield 38, 3) := dk_180 0 38 (dk_at dksX1_distance_2_0 1 rfl rfl)
theorem dX1_distance_2_4 : decode cX1_distance_2 4 = .ok (.invokevirtual 253, 3) := dk_182 0 253 (dk_at dksX1_distance_2_0 4 rfl rfl)
theorem dX1_distance_2_7 : decode cX1_distance_2 7 = .ok (.aload_n 0, 1) := dk_42 (dk_at dksX1_distance_2_0 7 rfl rfl)
theorem dX1_distance_2_8 : decode cX1_distance_2 8 = .ok (.iload_n 1, 1) := dk_27 (dk_at dksX1_distance_2_0 8 rfl rfl)
theorem dX1_distance_2_9 : decode cX1_distance_2 9 = .ok (.invokevirtual 161, 3) := dk_182 0 161 (dk_at dksX1_distance_2_0 9 rfl rfl)
theorem dX1_distance_2_12 : decode cX1_distance_2 12 = .ok (.getfield 164, 3) := dk_180 0 164 (dk_at dksX1_distance_2_0 12 rfl rfl)
theorem dX1_distance_2_15 : decode cX1_distance_2 15 = .ok (.aload_n 0, 1) := dk_42 (dk_at dksX1_distance_2_0 15 rfl rfl)
theorem dX1_distance_2_16 : decode cX1_distance_2 16 = .ok (.iload_n 2, 1) := dk_28 (dk_at dksX1_distance_2_0 16 rfl rfl)
theorem dX1_distance_2_17 : decode cX1_distance_2 17 = .ok (.invokevirtual 161, 3) := dk_182 0 161 (dk_at dksX1_distance_2_0 17 rfl rfl)
theorem dX1_distance_2_20 : decode cX1_distance_2 20 = .ok (.getfield 164, 3) := dk_180 0 164 (dk_at dksX1_distance_2_0 20 rfl rfl)
theorem dX1_distance_2_23 : decode cX1_distance_2 23 = .ok (.invokestatic 255, 3) := dk_184 0 255 (dk_at dksX1_distance_2_1 0 rfl rfl)
theorem dX1_distance_2_26 : decode cX1_distance_2 26 = .ok (.ireturn, 1) := dk_172 (dk_at dksX1_distance_2_1 3 rfl rfl)
def dkwX1_nearest_2 : List UInt8 := [79, 183, 1, 10, 182, 0, 243, 184, 0, 249, 172]
abbrev dktX1_nearest_2 : List UInt8 := dkwX1_nearest_2 ++ []
def dkwX1_nearest_1 : List UInt8 := [180, 0, 38, 182, 0, 238, 187, 0, 20, 89, 6, 188, 10, 89, 3, 27, 79, 89, 4, 28, 79, 89, 5, 29]
abbrev dktX1_nearest_1 : List UInt8 := dkwX1_nearest_1 ++ dktX1_nearest_2
def dkwX1_nearest_0 : List UInt8 := [6, 188, 10, 89, 3, 27, 79, 89, 4, 28, 79, 89, 5, 29, 79, 184, 1, 3, 184, 1, 7, 42]
abbrev dktX1_nearest_0 : List UInt8 := dkwX1_nearest_0 ++ dktX1_nearest_1
theorem dksX1_nearest_0 : cX1_nearest.data.toList.drop 0 = dktX1_nearest_0 := by decide +kernel
theorem dksX1_nearest_1 : cX1_nearest.data.toList.drop 22 = dktX1_nearest_1 := dk_seg dksX1_nearest_0 22 rfl rfl
theorem dksX1_nearest_2 : cX1_nearest.data.toList.drop 46 = dktX1_nearest_2 := dk_seg dksX1_nearest_1 24 rfl rfl
theorem dX1_nearest_0 : decode cX1_nearest 0 = .ok (.iconst 3, 1) := dk_6 (dk_at dksX1_nearest_0 0 rfl rfl)
theorem dX1_nearest_1 : decode cX1_nearest 1 = .ok (.newarray .int, 2) := dk_188_10 (dk_at dksX1_nearest_0 1 rfl rfl)
theorem dX1_nearest_3 : decode cX1_nearest 3 = .ok (.dup, 1) := dk_89 (dk_at dksX1_nearest_0 3 rfl rfl)
theorem dX1_nearest_4 : decode cX1_nearest 4 = .ok (.iconst 0, 1) := dk_3 (dk_at dksX1_nearest_0 4 rfl rfl)
theorem dX1_nearest_5 : decode cX1_nearest 5 = .ok (.iload_n 1, 1) := dk_27 (dk_at dksX1_nearest_0 5 rfl rfl)
theorem dX1_nearest_6 : decode cX1_nearest 6 = .ok (.iastore, 1) := dk_79 (dk_at dksX1_nearest_0 6 rfl rfl)
theorem dX1_nearest_7 : decode cX1_nearest 7 = .ok (.dup, 1) := dk_89 (dk_at dksX1_nearest_0 7 rfl rfl)
theorem dX1_nearest_8 : decode cX1_nearest 8 = .ok (.iconst 1, 1) := dk_4 (dk_at dksX1_nearest_0 8 rfl rfl)
theorem dX1_nearest_9 : decode cX1_nearest 9 = .ok (.iload_n 2, 1) := dk_28 (dk_at dksX1_nearest_0 9 rfl rfl)
theorem dX1_nearest_10 : decode cX1_nearest 10 = .ok (.iastore, 1) := dk_79 (dk_at dksX1_nearest_0 10 rfl rfl)
theorem dX1_nearest_11 : decode cX1_nearest 11 = .ok (.dup, 1) := dk_89 (dk_at dksX1_nearest_0 11 rfl rfl)
theorem dX1_nearest_12 : decode cX1_nearest 12 = .ok (.iconst 2, 1) := dk_5 (dk_at dksX1_nearest_0 12 rfl rfl)
theorem dX1_nearest_13 : decode cX1_nearest 13 = .ok (.iload_n 3, 1) := dk_29 (dk_at dksX1_nearest_0 13 rfl rfl)
theorem dX1_nearest_14 : decode cX1_nearest 14 = .ok (.iastore, 1) := dk_79 (dk_at dksX1_nearest_0 14 rfl rfl)
theorem dX1_nearest_15 : decode cX1_nearest 15 = .ok (.invokestatic 259, 3) := dk_184 1 3 (dk_at dksX1_nearest_0 15 rfl rfl)
theorem dX1_nearest_18 : decode cX1_nearest 18 = .ok (.invokestatic 263, 3) := dk_184 1 7 (dk_at dksX1_nearest_0 18 rfl rfl)
theorem dX1_nearest_21 : decode cX1_nearest 21 = .ok (.aload_n 0, 1) := dk_42 (dk_at dksX1_nearest_0 21 rfl rfl)
theorem dX1_nearest_22 : decode cX1_nearest 22 = .ok (.getfield 38, 3) := dk_180 0 38 (dk_at dksX1_nearest_1 0 rfl rfl)
theorem dX1_nearest_25 : decode cX1_nearest 25 = .ok (.invokevirtual 238, 3) := dk_182 0 238 (dk_at dksX1_nearest_1 3 rfl rfl)
theorem dX1_nearest_28 : decode cX1_nearest 28 = .ok (.new 20, 3) := dk_187 0 20 (dk_at dksX1_nearest_1 6 rfl rfl)
theorem dX1_nearest_31 : decode cX1_nearest 31 = .ok (.dup, 1) := dk_89 (dk_at dksX1_nearest_1 9 rfl rfl)
theorem dX1_nearest_32 : decode cX1_nearest 32 = .ok (.iconst 3, 1) := dk_6 (dk_at dksX1_nearest_1 10 rfl rfl)
theorem dX1_nearest_33 : decode cX1_nearest 33 = .ok (.newarray .int, 2) := dk_188_10 (dk_at dksX1_nearest_1 11 rfl rfl)
theorem dX1_nearest_35 : decode cX1_nearest 35 = .ok (.dup, 1) := dk_89 (dk_at dksX1_nearest_1 13 rfl rfl)
theorem dX1_nearest_36 : decode cX1_nearest 36 = .ok (.iconst 0, 1) := dk_3 (dk_at dksX1_nearest_1 14 rfl rfl)
theorem dX1_nearest_37 : decode cX1_nearest 37 = .ok (.iload_n 1, 1) := dk_27 (dk_at dksX1_nearest_1 15 rfl rfl)
theorem dX1_nearest_38 : decode cX1_nearest 38 = .ok (.iastore, 1) := dk_79 (dk_at dksX1_nearest_1 16 rfl rfl)
theorem dX1_nearest_39 : decode cX1_nearest 39 = .ok (.dup, 1) := dk_89 (dk_at dksX1_nearest_1 17 rfl rfl)
theorem dX1_nearest_40 : decode cX1_nearest 40 = .ok (.iconst 1, 1) := dk_4 (dk_at dksX1_nearest_1 18 rfl rfl)
theorem dX1_nearest_41 : decode cX1_nearest 41 = .ok (.iload_n 2, 1) := dk_28 (dk_at dksX1_nearest_1 19 rfl rfl)
theorem dX1_nearest_42 : decode cX1_nearest 42 = .ok (.iastore, 1) := dk_79 (dk_at dksX1_nearest_1 20 rfl rfl)
theorem dX1_nearest_43 : decode cX1_nearest 43 = .ok (.dup, 1) := dk_89 (dk_at dksX1_nearest_1 21 rfl rfl)
theorem dX1_nearest_44 : decode cX1_nearest 44 = .ok (.iconst 2, 1) := dk_5 (dk_at dksX1_nearest_1 22 rfl rfl)
theorem dX1_nearest_45 : decode cX1_nearest 45 = .ok (.iload_n 3, 1) := dk_29 (dk_at dksX1_nearest_1 23 rfl rfl)
theorem dX1_nearest_46 : decode cX1_nearest 46 = .ok (.iastore, 1) := dk_79 (dk_at dksX1_nearest_2 0 rfl rfl)
theorem dX1_nearest_47 : decode cX1_nearest 47 = .ok (.invokespecial 266, 3) := dk_183 1 10 (dk_at dksX1_nearest_2 1 rfl rfl)
theorem dX1_nearest_50 : decode cX1_nearest 50 = .ok (.invokevirtual 243, 3) := dk_182 0 243 (dk_at dksX1_nearest_2 4 rfl rfl)
theorem dX1_nearest_53 : decode cX1_nearest 53 = .ok (.invokestatic 249, 3) := dk_184 0 249 (dk_at dksX1_nearest_2 7 rfl rfl)
theorem dX1_nearest_56 : decode cX1_nearest 56 = .ok (.ireturn, 1) := dk_172 (dk_at dksX1_nearest_2 10 rfl rfl)
def dkwX1_checkArgument_0 : List UInt8 := [26, 154, 0, 11, 187, 0, 119, 89, 183, 0, 121, 191, 177]
abbrev dktX1_checkArgument_0 : List UInt8 := dkwX1_checkArgument_0 ++ []
theorem dksX1_checkArgument_0 : cX1_checkArgument.data.toList.drop 0 = dktX1_checkArgument_0 := by decide +kernel
theorem dX1_checkArgument_0 : decode cX1_checkArgument 0 = .ok (.iload_n 0, 1) := dk_26 (dk_at dksX1_checkArgument_0 0 rfl rfl)
theorem dX1_checkArgument_1 : decode cX1_checkArgument 1 = .ok (.ifCond .ne 11, 3) := dk_154 0 11 (dk_at dksX1_checkArgument_0 1 rfl rfl)
theorem dX1_checkArgument_4 : decode cX1_checkArgument 4 = .ok (.new 119, 3) := dk_187 0 119 (dk_at dksX1_checkArgument_0 4 rfl rfl)
theorem dX1_checkArgument_7 : decode cX1_checkArgument 7 = .ok (.dup, 1) := dk_89 (dk_at dksX1_checkArgument_0 7 rfl rfl)
theorem dX1_checkArgument_8 : decode cX1_checkArgument 8 = .ok (.invokespecial 121, 3) := dk_183 0 121 (dk_at dksX1_checkArgument_0 8 rfl rfl)
theorem dX1_checkArgument_11 : decode cX1_checkArgument 11 = .ok (.athrow, 1) := dk_191 (dk_at dksX1_checkArgument_0 11 rfl rfl)
theorem dX1_checkArgument_12 : decode cX1_checkArgument 12 = .ok (.return_, 1) := dk_177 (dk_at dksX1_checkArgument_0 12 rfl rfl)
def dkwX1_nearestByLooking_2 : List UInt8 := [79, 183, 1, 10, 182, 1, 13, 184, 0, 249, 172]
abbrev dktX1_nearestByLooking_2 : List UInt8 := dkwX1_nearestByLooking_2 ++ []
def dkwX1_nearestByLooking_1 : List UInt8 := [180, 0, 38, 182, 0, 238, 187, 0, 20, 89, 6, 188, 10, 89, 3, 27, 79, 89, 4, 28, 79, 89, 5, 29]
abbrev dktX1_nearestByLooking_1 : List UInt8 := dkwX1_nearestByLooking_1 ++ dktX1_nearestByLooking_2
def dkwX1_nearestByLooking_0 : List UInt8 := [6, 188, 10, 89, 3, 27, 79, 89, 4, 28, 79, 89, 5, 29, 79, 184, 1, 3, 184, 1, 7, 42]
abbrev dktX1_nearestByLooking_0 : List UInt8 := dkwX1_nearestByLooking_0 ++ dktX1_nearestByLooking_1
theorem dksX1_nearestByLooking_0 : cX1_nearestByLooking.data.toList.drop 0 = dktX1_nearestByLooking_0 := by decide +kernel
theorem dksX1_nearestByLooking_1 : cX1_nearestByLooking.data.toList.drop 22 = dktX1_nearestByLooking_1 := dk_seg dksX1_nearestByLooking_0 22 rfl rfl
theorem dksX1_nearestByLooking_2 : cX1_nearestByLooking.data.toList.drop 46 = dktX1_nearestByLooking_2 := dk_seg dksX1_nearestByLooking_1 24 rfl rfl
theorem dX1_nearestByLooking_0 : decode cX1_nearestByLooking 0 = .ok (.iconst 3, 1) := dk_6 (dk_at dksX1_nearestByLooking_0 0 rfl rfl)
theorem dX1_nearestByLooking_1 : decode cX1_nearestByLooking 1 = .ok (.newarray .int, 2) := dk_188_10 (dk_at dksX1_nearestByLooking_0 1 rfl rfl)
theorem dX1_nearestByLooking_3 : decode cX1_nearestByLooking 3 = .ok (.dup, 1) := dk_89 (dk_at dksX1_nearestByLooking_0 3 rfl rfl)
theorem dX1_nearestByLooking_4 : decode cX1_nearestByLooking 4 = .ok (.iconst 0, 1) := dk_3 (dk_at dksX1_nearestByLooking_0 4 rfl rfl)
theorem dX1_nearestByLooking_5 : decode cX1_nearestByLooking 5 = .ok (.iload_n 1, 1) := dk_27 (dk_at dksX1_nearestByLooking_0 5 rfl rfl)
theorem dX1_nearestByLooking_6 : decode cX1_nearestByLooking 6 = .ok (.iastore, 1) := dk_79 (dk_at dksX1_nearestByLooking_0 6 rfl rfl)
theorem dX1_nearestByLooking_7 : decode cX1_nearestByLooking 7 = .ok (.dup, 1) := dk_89 (dk_at dksX1_nearestByLooking_0 7 rfl rfl)
theorem dX1_nearestByLooking_8 : decode cX1_nearestByLooking 8 = .ok (.iconst 1, 1) := dk_4 (dk_at dksX1_nearestByLooking_0 8 rfl rfl)
theorem dX1_nearestByLooking_9 : decode cX1_nearestByLooking 9 = .ok (.iload_n 2, 1) := dk_28 (dk_at dksX1_nearestByLooking_0 9 rfl rfl)
theorem dX1_nearestByLooking_10 : decode cX1_nearestByLooking 10 = .ok (.iastore, 1) := dk_79 (dk_at dksX1_nearestByLooking_0 10 rfl rfl)
theorem dX1_nearestByLooking_11 : decode cX1_nearestByLooking 11 = .ok (.dup, 1) := dk_89 (dk_at dksX1_nearestByLooking_0 11 rfl rfl)
theorem dX1_nearestByLooking_12 : decode cX1_nearestByLooking 12 = .ok (.iconst 2, 1) := dk_5 (dk_at dksX1_nearestByLooking_0 12 rfl rfl)
theorem dX1_nearestByLooking_13 : decode cX1_nearestByLooking 13 = .ok (.iload_n 3, 1) := dk_29 (dk_at dksX1_nearestByLooking_0 13 rfl rfl)
theorem dX1_nearestByLooking_14 : decode cX1_nearestByLooking 14 = .ok (.iastore, 1) := dk_79 (dk_at dksX1_nearestByLooking_0 14 rfl rfl)
theorem dX1_nearestByLooking_15 : decode cX1_nearestByLooking 15 = .ok (.invokestatic 259, 3) := dk_184 1 3 (dk_at dksX1_nearestByLooking_0 15 rfl rfl)
theorem dX1_nearestByLooking_18 : decode cX1_nearestByLooking 18 = .ok (.invokestatic 263, 3) := dk_184 1 7 (dk_at dksX1_nearestByLooking_0 18 rfl rfl)
theorem dX1_nearestByLooking_21 : decode cX1_nearestByLooking 21 = .ok (.aload_n 0, 1) := dk_42 (dk_at dksX1_nearestByLooking_0 21 rfl rfl)
theorem dX1_nearestByLooking_22 : decode cX1_nearestByLooking 22 = .ok (.getfield 38, 3) := dk_180 0 38 (dk_at dksX1_nearestByLooking_1 0 rfl rfl)
theorem dX1_nearestByLooking_25 : decode cX1_nearestByLooking 25 = .ok (.invokevirtual 238, 3) := dk_182 0 238 (dk_at dksX1_nearestByLooking_1 3 rfl rfl)
theorem dX1_nearestByLooking_28 : decode cX1_nearestByLooking 28 = .ok (.new 20, 3) := dk_187 0 20 (dk_at dksX1_nearestByLooking_1 6 rfl rfl)
theorem dX1_nearestByLooking_31 : decode cX1_nearestByLooking 31 = .ok (.dup, 1) := dk_89 (dk_at dksX1_nearestByLooking_1 9 rfl rfl)
theorem dX1_nearestByLooking_32 : decode cX1_nearestByLooking 32 = .ok (.iconst 3, 1) := dk_6 (dk_at dksX1_nearestByLooking_1 10 rfl rfl)
theorem dX1_nearestByLooking_33 : decode cX1_nearestByLooking 33 = .ok (.newarray .int, 2) := dk_188_10 (dk_at dksX1_nearestByLooking_1 11 rfl rfl)
theorem dX1_nearestByLooking_35 : decode cX1_nearestByLooking 35 = .ok (.dup, 1) := dk_89 (dk_at dksX1_nearestByLooking_1 13 rfl rfl)
theorem dX1_nearestByLooking_36 : decode cX1_nearestByLooking 36 = .ok (.iconst 0, 1) := dk_3 (dk_at dksX1_nearestByLooking_1 14 rfl rfl)
theorem dX1_nearestByLooking_37 : decode cX1_nearestByLooking 37 = .ok (.iload_n 1, 1) := dk_27 (dk_at dksX1_nearestByLooking_1 15 rfl rfl)
theorem dX1_nearestByLooking_38 : decode cX1_nearestByLooking 38 = .ok (.iastore, 1) := dk_79 (dk_at dksX1_nearestByLooking_1 16 rfl rfl)
theorem dX1_nearestByLooking_39 : decode cX1_nearestByLooking 39 = .ok (.dup, 1) := dk_89 (dk_at dksX1_nearestByLooking_1 17 rfl rfl)
theorem dX1_nearestByLooking_40 : decode cX1_nearestByLooking 40 = .ok (.iconst 1, 1) := dk_4 (dk_at dksX1_nearestByLooking_1 18 rfl rfl)
theorem dX1_nearestByLooking_41 : decode cX1_nearestByLooking 41 = .ok (.iload_n 2, 1) := dk_28 (dk_at dksX1_nearestByLooking_1 19 rfl rfl)
theorem dX1_nearestByLooking_42 : decode cX1_nearestByLooking 42 = .ok (.iastore, 1) := dk_79 (dk_at dksX1_nearestByLooking_1 20 rfl rfl)
theorem dX1_nearestByLooking_43 : decode cX1_nearestByLooking 43 = .ok (.dup, 1) := dk_89 (dk_at dksX1_nearestByLooking_1 21 rfl rfl)
theorem dX1_nearestByLooking_44 : decode cX1_nearestByLooking 44 = .ok (.iconst 2, 1) := dk_5 (dk_at dksX1_nearestByLooking_1 22 rfl rfl)
theorem dX1_nearestByLooking_45 : decode cX1_nearestByLooking 45 = .ok (.iload_n 3, 1) := dk_29 (dk_at dksX1_nearestByLooking_1 23 rfl rfl)
theorem dX1_nearestByLooking_46 : decode cX1_nearestByLooking 46 = .ok (.iastore, 1) := dk_79 (dk_at dksX1_nearestByLooking_2 0 rfl rfl)
theorem dX1_nearestByLooking_47 : decode cX1_nearestByLooking 47 = .ok (.invokespecial 266, 3) := dk_183 1 10 (dk_at dksX1_nearestByLooking_2 1 rfl rfl)
theorem dX1_nearestByLooking_50 : decode cX1_nearestByLooking 50 = .ok (.invokevirtual 269, 3) := dk_182 1 13 (dk_at dksX1_nearestByLooking_2 4 rfl rfl)
theorem dX1_nearestByLooking_53 : decode cX1_nearestByLooking 53 = .ok (.invokestatic 249, 3) := dk_184 0 249 (dk_at dksX1_nearestByLooking_2 7 rfl rfl)
theorem dX1_nearestByLooking_56 : decode cX1_nearestByLooking 56 = .ok (.ireturn, 1) := dk_172 (dk_at dksX1_nearestByLooking_2 10 rfl rfl)
def dkwX1_closestDistance_0 : List UInt8 := [42, 182, 0, 150, 4, 164, 0, 7, 4, 167, 0, 4, 3, 184, 0, 128, 42, 180, 0, 38, 182, 1, 16, 172]
abbrev dktX1_closestDistance_0 : List UInt8 := dkwX1_closestDistance_0 ++ []
theorem dksX1_closestDistance_0 : cX1_closestDistance.data.toList.drop 0 = dktX1_closestDistance_0 := by decide +kernel
theorem dX1_closestDistance_0 : decode cX1_closestDistance 0 = .ok (.aload_n 0, 1) := dk_42 (dk_at dksX1_closestDistance_0 0 rfl rfl)
theorem dX1_closestDistance_1 : decode cX1_closestDistance 1 = .ok (.invokevirtual 150, 3) := dk_182 0 150 (dk_at dksX1_closestDistance_0 1 rfl rfl)
theorem dX1_closestDistance_4 : decode cX1_closestDistance 4 = .ok (.iconst 1, 1) := dk_4 (dk_at dksX1_closestDistance_0 4 rfl rfl)
theorem dX1_closestDistance_5 : decode cX1_closestDistance 5 = .ok (.if_icmp .le 7, 3) := dk_164 0 7 (dk_at dksX1_closestDistance_0 5 rfl rfl)
theorem dX1_closestDistance_8 : decode cX1_closestDistance 8 = .ok (.iconst 1, 1) := dk_4 (dk_at dksX1_closestDistance_0 8 rfl rfl)
theorem dX1_closestDistance_9 : decode cX1_closestDistance 9 = .ok (.goto 4, 3) := dk_167 0 4 (dk_at dksX1_closestDistance_0 9 rfl rfl)
theorem dX1_closestDistance_12 : decode cX1_closestDistance 12 = .ok (.iconst 0, 1) := dk_3 (dk_at dksX1_closestDistance_0 12 rfl rfl)
theorem dX1_closestDistance_13 : decode cX1_closestDistance 13 = .ok (.invokestatic 128, 3) := dk_184 0 128 (dk_at dksX1_closestDistance_0 13 rfl rfl)
theorem dX1_closestDistance_16 : decode cX1_closestDistance 16 = .ok (.aload_n 0, 1) := dk_42 (dk_at dksX1_closestDistance_0 16 rfl rfl)
theorem dX1_closestDistance_17 : decode cX1_closestDistance 17 = .ok (.getfield 38, 3) := dk_180 0 38 (dk_at dksX1_closestDistance_0 17 rfl rfl)
theorem dX1_closestDistance_20 : decode cX1_closestDistance 20 = .ok (.invokevirtual 272, 3) := dk_182 1 16 (dk_at dksX1_closestDistance_0 20 rfl rfl)
theorem dX1_closestDistance_23 : decode cX1_closestDistance 23 = .ok (.ireturn, 1) := dk_172 (dk_at dksX1_closestDistance_0 23 rfl rfl)
def dkwX1_closestDistanceBySorting_0 : List UInt8 := [42, 182, 0, 150, 4, 164, 0, 7, 4, 167, 0, 4, 3, 184, 0, 128, 42, 180, 0, 38, 182, 1, 19, 172]
abbrev dktX1_closestDistanceBySorting_0 : List UInt8 := dkwX1_closestDistanceBySorting_0 ++ []
theorem dksX1_closestDistanceBySorting_0 : cX1_closestDistanceBySorting.data.toList.drop 0 = dktX1_closestDistanceBySorting_0 := by decide +kernel
theorem dX1_closestDistanceBySorting_0 : decode cX1_closestDistanceBySorting 0 = .ok (.aload_n 0, 1) := dk_42 (dk_at dksX1_closestDistanceBySorting_0 0 rfl rfl)
theorem dX1_closestDistanceBySorting_1 : decode cX1_closestDistanceBySorting 1 = .ok (.invokevirtual 150, 3) := dk_182 0 150 (dk_at dksX1_closestDistanceBySorting_0 1 rfl rfl)
theorem dX1_closestDistanceBySorting_4 : decode cX1_closestDistanceBySorting 4 = .ok (.iconst 1, 1) := dk_4 (dk_at dksX1_closestDistanceBySorting_0 4 rfl rfl)
theorem dX1_closestDistanceBySorting_5 : decode cX1_closestDistanceBySorting 5 = .ok (.if_icmp .le 7, 3) := dk_164 0 7 (dk_at dksX1_closestDistanceBySorting_0 5 rfl rfl)
theorem dX1_closestDistanceBySorting_8 : decode cX1_closestDistanceBySorting 8 = .ok (.iconst 1, 1) := dk_4 (dk_at dksX1_closestDistanceBySorting_0 8 rfl rfl)
theorem dX1_closestDistanceBySorting_9 : decode cX1_closestDistanceBySorting 9 = .ok (.goto 4, 3) := dk_167 0 4 (dk_at dksX1_closestDistanceBySorting_0 9 rfl rfl)
theorem dX1_closestDistanceBySorting_12 : decode cX1_closestDistanceBySorting 12 = .ok (.iconst 0, 1) := dk_3 (dk_at dksX1_closestDistanceBySorting_0 12 rfl rfl)
theorem dX1_closestDistanceBySorting_13 : decode cX1_closestDistanceBySorting 13 = .ok (.invokestatic 128, 3) := dk_184 0 128 (dk_at dksX1_closestDistanceBySorting_0 13 rfl rfl)
theorem dX1_closestDistanceBySorting_16 : decode cX1_closestDistanceBySorting 16 = .ok (.aload_n 0, 1) := dk_42 (dk_at dksX1_closestDistanceBySorting_0 16 rfl rfl)
theorem dX1_closestDistanceBySorting_17 : decode cX1_closestDistanceBySorting 17 = .ok (.getfield 38, 3) := dk_180 0 38 (dk_at dksX1_closestDistanceBySorting_0 17 rfl rfl)
theorem dX1_closestDistanceBySorting_20 : decode cX1_closestDistanceBySorting 20 = .ok (.invokevirtual 275, 3) := dk_182 1 19 (dk_at dksX1_closestDistanceBySorting_0 20 rfl rfl)
theorem dX1_closestDistanceBySorting_23 : decode cX1_closestDistanceBySorting 23 = .ok (.ireturn, 1) := dk_172 (dk_at dksX1_closestDistanceBySorting_0 23 rfl rfl)
def dkwX1_settlementFor_1 : List UInt8 := [46, 184, 0, 184, 61, 42, 180, 0, 38, 180, 0, 140, 28, 182, 0, 153, 180, 0, 156, 172]
abbrev dktX1_settlementFor_1 : List UInt8 := dkwX1_settlementFor_1 ++ []
def dkwX1_settlementFor_0 : List UInt8 := [42, 27, 182, 0, 212, 87, 42, 180, 0, 38, 182, 1, 22, 182, 1, 43, 42, 180, 0, 38, 27, 182, 1, 47]
abbrev dktX1_settlementFor_0 : List UInt8 := dkwX1_settlementFor_0 ++ dktX1_settlementFor_1
theorem dksX1_settlementFor_0 : cX1_settlementFor.data.toList.drop 0 = dktX1_settlementFor_0 := by decide +kernel
theorem dksX1_settlementFor_1 : cX1_settlementFor.data.toList.drop 24 = dktX1_settlementFor_1 := dk_seg dksX1_settlementFor_0 24 rfl rfl
theorem dX1_settlementFor_0 : decode cX1_settlementFor 0 = .ok (.aload_n 0, 1) := dk_42 (dk_at dksX1_settlementFor_0 0 rfl rfl)
theorem dX1_settlementFor_1 : decode cX1_settlementFor 1 = .ok (.iload_n 1, 1) := dk_27 (dk_at dksX1_settlementFor_0 1 rfl rfl)
theorem dX1_settlementFor_2 : decode cX1_settlementFor 2 = .ok (.invokevirtual 212, 3) := dk_182 0 212 (dk_at dksX1_settlementFor_0 2 rfl rfl)
theorem dX1_settlementFor_5 : decode cX1_settlementFor 5 = .ok (.pop, 1) := dk_87 (dk_at dksX1_settlementFor_0 5 rfl rfl)
theorem dX1_settlementFor_6 : decode cX1_settlementFor 6 = .ok (.aload_n 0, 1) := dk_42 (dk_at dksX1_settlementFor_0 6 rfl rfl)
theorem dX1_settlementFor_7 : decode cX1_settlementFor 7 = .ok (.getfield 38, 3) := dk_180 0 38 (dk_at dksX1_settlementFor_0 7 rfl rfl)
theorem dX1_settlementFor_10 : decode cX1_settlementFor 10 = .ok (.invokevirtual 278, 3) := dk_182 1 22 (dk_at dksX1_settlementFor_0 10 rfl rfl)
theorem dX1_settlementFor_13 : decode cX1_settlementFor 13 = .ok (.invokevirtual 299, 3) := dk_182 1 43 (dk_at dksX1_settlementFor_0 13 rfl rfl)
theorem dX1_settlementFor_16 : decode cX1_settlementFor 16 = .ok (.aload_n 0, 1) := dk_42 (dk_at dksX1_settlementFor_0 16 rfl rfl)
theorem dX1_settlementFor_17 : decode cX1_settlementFor 17 = .ok (.getfield 38, 3) := dk_180 0 38 (dk_at dksX1_settlementFor_0 17 rfl rfl)
theorem dX1_settlementFor_20 : decode cX1_settlementFor 20 = .ok (.iload_n 1, 1) := dk_27 (dk_at dksX1_settlementFor_0 20 rfl rfl)
theorem dX1_settlementFor_21 : decode cX1_settlementFor 21 = .ok (.invokevirtual 303, 3) := dk_182 1 47 (dk_at dksX1_settlementFor_0 21 rfl rfl)
theorem dX1_settlementFor_24 : decode cX1_settlementFor 24 = .ok (.iaload, 1) := dk_46 (dk_at dksX1_settlementFor_1 0 rfl rfl)
theorem dX1_settlementFor_25 : decode cX1_settlementFor 25 = .ok (.invokestatic 184, 3) := dk_184 0 184 (dk_at dksX1_settlementFor_1 1 rfl rfl)
theorem dX1_settlementFor_28 : decode cX1_settlementFor 28 = .ok (.istore_n 2, 1) := dk_61 (dk_at dksX1_settlementFor_1 4 rfl rfl)
theorem dX1_settlementFor_29 : decode cX1_settlementFor 29 = .ok (.aload_n 0, 1) := dk_42 (dk_at dksX1_settlementFor_1 5 rfl rfl)
theorem dX1_settlementFor_30 : decode cX1_settlementFor 30 = .ok (.getfield 38, 3) := dk_180 0 38 (dk_at dksX1_settlementFor_1 6 rfl rfl)
theorem dX1_settlementFor_33 : decode cX1_settlementFor 33 = .ok (.getfield 140, 3) := dk_180 0 140 (dk_at dksX1_settlementFor_1 9 rfl rfl)
theorem dX1_settlementFor_36 : decode cX1_settlementFor 36 = .ok (.iload_n 2, 1) := dk_28 (dk_at dksX1_settlementFor_1 12 rfl rfl)
theorem dX1_settlementFor_37 : decode cX1_settlementFor 37 = .ok (.invokevirtual 153, 3) := dk_182 0 153 (dk_at dksX1_settlementFor_1 13 rfl rfl)
theorem dX1_settlementFor_40 : decode cX1_settlementFor 40 = .ok (.getfield 156, 3) := dk_180 0 156 (dk_at dksX1_settlementFor_1 16 rfl rfl)
theorem dX1_settlementFor_43 : decode cX1_settlementFor 43 = .ok (.ireturn, 1) := dk_172 (dk_at dksX1_settlementFor_1 19 rfl rfl)
def dkwX1_paletteError_0 : List UInt8 := [42, 27, 182, 1, 55, 77, 44, 44, 27, 182, 1, 59, 182, 1, 61, 172]
abbrev dktX1_paletteError_0 : List UInt8 := dkwX1_paletteError_0 ++ []
theorem dksX1_paletteError_0 : cX1_paletteError.data.toList.drop 0 = dktX1_paletteError_0 := by decide +kernel
theorem dX1_paletteError_0 : decode cX1_paletteError 0 = .ok (.aload_n 0, 1) := dk_42 (dk_at dksX1_paletteError_0 0 rfl rfl)
theorem dX1_paletteError_1 : decode cX1_paletteError 1 = .ok (.iload_n 1, 1) := dk_27 (dk_at dksX1_paletteError_0 1 rfl rfl)
theorem dX1_paletteError_2 : decode cX1_paletteError 2 = .ok (.invokevirtual 311, 3) := dk_182 1 55 (dk_at dksX1_paletteError_0 2 rfl rfl)
theorem dX1_paletteError_5 : decode cX1_paletteError 5 = .ok (.astore_n 2, 1) := dk_77 (dk_at dksX1_paletteError_0 5 rfl rfl)
theorem dX1_paletteError_6 : decode cX1_paletteError 6 = .ok (.aload_n 2, 1) := dk_44 (dk_at dksX1_paletteError_0 6 rfl rfl)
theorem dX1_paletteError_7 : decode cX1_paletteError 7 = .ok (.aload_n 2, 1) := dk_44 (dk_at dksX1_paletteError_0 7 rfl rfl)
theorem dX1_paletteError_8 : decode cX1_paletteError 8 = .ok (.iload_n 1, 1) := dk_27 (dk_at dksX1_paletteError_0 8 rfl rfl)
theorem dX1_paletteError_9 : decode cX1_paletteError 9 = .ok (.invokevirtual 315, 3) := dk_182 1 59 (dk_at dksX1_paletteError_0 9 rfl rfl)
theorem dX1_paletteError_12 : decode cX1_paletteError 12 = .ok (.invokevirtual 317, 3) := dk_182 1 61 (dk_at dksX1_paletteError_0 12 rfl rfl)
theorem dX1_paletteError_15 : decode cX1_paletteError 15 = .ok (.ireturn, 1) := dk_172 (dk_at dksX1_paletteError_0 15 rfl rfl)
def dkwX1_palettes_1 : List UInt8 := [180, 0, 38, 182, 0, 253, 183, 1, 52, 176]
abbrev dktX1_palettes_1 : List UInt8 := dkwX1_palettes_1 ++ []
def dkwX1_palettes_0 : List UInt8 := [27, 4, 42, 182, 0, 150, 184, 0, 9, 184, 1, 7, 187, 1, 50, 89, 42, 180, 0, 38, 180, 0, 140, 42]
abbrev dktX1_palettes_0 : List UInt8 := dkwX1_palettes_0 ++ dktX1_palettes_1
theorem dksX1_palettes_0 : cX1_palettes.data.toList.drop 0 = dktX1_palettes_0 := by decide +kernel
theorem dksX1_palettes_1 : cX1_palettes.data.toList.drop 24 = dktX1_palettes_1 := dk_seg dksX1_palettes_0 24 rfl rfl
theorem dX1_palettes_0 : decode cX1_palettes 0 = .ok (.iload_n 1, 1) := dk_27 (dk_at dksX1_palettes_0 0 rfl rfl)
theorem dX1_palettes_1 : decode cX1_palettes 1 = .ok (.iconst 1, 1) := dk_4 (dk_at dksX1_palettes_0 1 rfl rfl)
theorem dX1_palettes_2 : decode cX1_palettes 2 = .ok (.aload_n 0, 1) := dk_42 (dk_at dksX1_palettes_0 2 rfl rfl)
theorem dX1_palettes_3 : decode cX1_palettes 3 = .ok (.invokevirtual 150, 3) := dk_182 0 150 (dk_at dksX1_palettes_0 3 rfl rfl)
theorem dX1_palettes_6 : decode cX1_palettes 6 = .ok (.invokestatic 9, 3) := dk_184 0 9 (dk_at dksX1_palettes_0 6 rfl rfl)
theorem dX1_palettes_9 : decode cX1_palettes 9 = .ok (.invokestatic 263, 3) := dk_184 1 7 (dk_at dksX1_palettes_0 9 rfl rfl)
theorem dX1_palettes_12 : decode cX1_palettes 12 = .ok (.new 306, 3) := dk_187 1 50 (dk_at dksX1_palettes_0 12 rfl rfl)
theorem dX1_palettes_15 : decode cX1_palettes 15 = .ok (.dup, 1) := dk_89 (dk_at dksX1_palettes_0 15 rfl rfl)
theorem dX1_palettes_16 : decode cX1_palettes 16 = .ok (.aload_n 0, 1) := dk_42 (dk_at dksX1_palettes_0 16 rfl rfl)
theorem dX1_palettes_17 : decode cX1_palettes 17 = .ok (.getfield 38, 3) := dk_180 0 38 (dk_at dksX1_palettes_0 17 rfl rfl)
theorem dX1_palettes_20 : decode cX1_palettes 20 = .ok (.getfield 140, 3) := dk_180 0 140 (dk_at dksX1_palettes_0 20 rfl rfl)
theorem dX1_palettes_23 : decode cX1_palettes 23 = .ok (.aload_n 0, 1) := dk_42 (dk_at dksX1_palettes_0 23 rfl rfl)
theorem dX1_palettes_24 : decode cX1_palettes 24 = .ok (.getfield 38, 3) := dk_180 0 38 (dk_at dksX1_palettes_1 0 rfl rfl)
theorem dX1_palettes_27 : decode cX1_palettes 27 = .ok (.invokevirtual 253, 3) := dk_182 0 253 (dk_at dksX1_palettes_1 3 rfl rfl)
theorem dX1_palettes_30 : decode cX1_palettes 30 = .ok (.invokespecial 308, 3) := dk_183 1 52 (dk_at dksX1_palettes_1 6 rfl rfl)
theorem dX1_palettes_33 : decode cX1_palettes 33 = .ok (.areturn, 1) := dk_176 (dk_at dksX1_palettes_1 9 rfl rfl)
def dkwX1_paletteErrorBySearch_0 : List UInt8 := [42, 27, 182, 1, 55, 27, 182, 1, 64, 172]
abbrev dktX1_paletteErrorBySearch_0 : List UInt8 := dkwX1_paletteErrorBySearch_0 ++ []
theorem dksX1_paletteErrorBySearch_0 : cX1_paletteErrorBySearch.data.toList.drop 0 = dktX1_paletteErrorBySearch_0 := by decide +kernel
theorem dX1_paletteErrorBySearch_0 : decode cX1_paletteErrorBySearch 0 = .ok (.aload_n 0, 1) := dk_42 (dk_at dksX1_paletteErrorBySearch_0 0 rfl rfl)
theorem dX1_paletteErrorBySearch_1 : decode cX1_paletteErrorBySearch 1 = .ok (.iload_n 1, 1) := dk_27 (dk_at dksX1_paletteErrorBySearch_0 1 rfl rfl)
theorem dX1_paletteErrorBySearch_2 : decode cX1_paletteErrorBySearch 2 = .ok (.invokevirtual 311, 3) := dk_182 1 55 (dk_at dksX1_paletteErrorBySearch_0 2 rfl rfl)
theorem dX1_paletteErrorBySearch_5 : decode cX1_paletteErrorBySearch 5 = .ok (.iload_n 1, 1) := dk_27 (dk_at dksX1_paletteErrorBySearch_0 5 rfl rfl)
theorem dX1_paletteErrorBySearch_6 : decode cX1_paletteErrorBySearch 6 = .ok (.invokevirtual 320, 3) := dk_182 1 64 (dk_at dksX1_paletteErrorBySearch_0 6 rfl rfl)
theorem dX1_paletteErrorBySearch_9 : decode cX1_paletteErrorBySearch 9 = .ok (.ireturn, 1) := dk_172 (dk_at dksX1_paletteErrorBySearch_0 9 rfl rfl)
def dkwX1_paletteColour_2 : List UInt8 := [167, 255, 236, 42, 180, 0, 38, 180, 0, 140, 21, 5, 182, 0, 153, 180, 0, 156, 172]
abbrev dktX1_paletteColour_2 : List UInt8 := dkwX1_paletteColour_2 ++ []
def dkwX1_paletteColour_1 : List UInt8 := [2, 54, 5, 21, 4, 28, 162, 0, 20, 132, 5, 1, 21, 4, 29, 21, 5, 122, 4, 126, 96, 54, 4]
abbrev dktX1_paletteColour_1 : List UInt8 := dkwX1_paletteColour_1 ++ dktX1_paletteColour_2
def dkwX1_paletteColour_0 : List UInt8 := [42, 27, 182, 1, 55, 27, 182, 1, 59, 62, 28, 3, 27, 4, 100, 184, 0, 9, 184, 0, 128, 2, 54, 4]
abbrev dktX1_paletteColour_0 : List UInt8 := dkwX1_paletteColour_0 ++ dktX1_paletteColour_1
theorem dksX1_paletteColour_0 : cX1_paletteColour.data.toList.drop 0 = dktX1_paletteColour_0 := by decide +kernel
theorem dksX1_paletteColour_1 : cX1_paletteColour.data.toList.drop 24 = dktX1_paletteColour_1 := dk_seg dksX1_paletteColour_0 24 rfl rfl
theorem dksX1_paletteColour_2 : cX1_paletteColour.data.toList.drop 47 = dktX1_paletteColour_2 := dk_seg dksX1_paletteColour_1 23 rfl rfl
theorem dX1_paletteColour_0 : decode cX1_paletteColour 0 = .ok (.aload_n 0, 1) := dk_42 (dk_at dksX1_paletteColour_0 0 rfl rfl)
theorem dX1_paletteColour_1 : decode cX1_paletteColour 1 = .ok (.iload_n 1, 1) := dk_27 (dk_at dksX1_paletteColour_0 1 rfl rfl)
theorem dX1_paletteColour_2 : decode cX1_paletteColour 2 = .ok (.invokevirtual 311, 3) := dk_182 1 55 (dk_at dksX1_paletteColour_0 2 rfl rfl)
theorem dX1_paletteColour_5 : decode cX1_paletteColour 5 = .ok (.iload_n 1, 1) := dk_27 (dk_at dksX1_paletteColour_0 5 rfl rfl)
theorem dX1_paletteColour_6 : decode cX1_paletteColour 6 = .ok (.invokevirtual 315, 3) := dk_182 1 59 (dk_at dksX1_paletteColour_0 6 rfl rfl)
theorem dX1_paletteColour_9 : decode cX1_paletteColour 9 = .ok (.istore_n 3, 1) := dk_62 (dk_at dksX1_paletteColour_0 9 rfl rfl)
theorem dX1_paletteColour_10 : decode cX1_paletteColour 10 = .ok (.iload_n 2, 1) := dk_28 (dk_at dksX1_paletteColour_0 10 rfl rfl)
theorem dX1_paletteColour_11 : decode cX1_paletteColour 11 = .ok (.iconst 0, 1) := dk_3 (dk_at dksX1_paletteColour_0 11 rfl rfl)
theorem dX1_paletteColour_12 : decode cX1_paletteColour 12 = .ok (.iload_n 1, 1) := dk_27 (dk_at dksX1_paletteColour_0 12 rfl rfl)
theorem dX1_paletteColour_13 : decode cX1_paletteColour 13 = .ok (.iconst 1, 1) := dk_4 (dk_at dksX1_paletteColour_0 13 rfl rfl)
theorem dX1_paletteColour_14 : decode cX1_paletteColour 14 = .ok (.isub, 1) := dk_100 (dk_at dksX1_paletteColour_0 14 rfl rfl)
theorem dX1_paletteColour_15 : decode cX1_paletteColour 15 = .ok (.invokestatic 9, 3) := dk_184 0 9 (dk_at dksX1_paletteColour_0 15 rfl rfl)
theorem dX1_paletteColour_18 : decode cX1_paletteColour 18 = .ok (.invokestatic 128, 3) := dk_184 0 128 (dk_at dksX1_paletteColour_0 18 rfl rfl)
theorem dX1_paletteColour_21 : decode cX1_paletteColour 21 = .ok (.iconst (-1), 1) := dk_2 (dk_at dksX1_paletteColour_0 21 rfl rfl)
theorem dX1_paletteColour_22 : decode cX1_paletteColour 22 = .ok (.istore 4, 2) := dk_54 4 (dk_at dksX1_paletteColour_0 22 rfl rfl)
theorem dX1_paletteColour_24 : decode cX1_paletteColour 24 = .ok (.iconst (-1), 1) := dk_2 (dk_at dksX1_paletteColour_1 0 rfl rfl)
theorem dX1_paletteColour_25 : decode cX1_paletteColour 25 = .ok (.istore 5, 2) := dk_54 5 (dk_at dksX1_paletteColour_1 1 rfl rfl)
theorem dX1_paletteColour_27 : decode cX1_paletteColour 27 = .ok (.iload 4, 2) := dk_21 4 (dk_at dksX1_paletteColour_1 3 rfl rfl)
theorem dX1_paletteColour_29 : decode cX1_paletteColour 29 = .ok (.iload_n 2, 1) := dk_28 (dk_at dksX1_paletteColour_1 5 rfl rfl)
theorem dX1_paletteColour_30 : decode cX1_paletteColour 30 = .ok (.if_icmp .ge 20, 3) := dk_162 0 20 (dk_at dksX1_paletteColour_1 6 rfl rfl)
theorem dX1_paletteColour_33 : decode cX1_paletteColour 33 = .ok (.iinc 5 1, 3) := dk_132 5 1 (dk_at dksX1_paletteColour_1 9 rfl rfl)
theorem dX1_paletteColour_36 : decode cX1_paletteColour 36 = .ok (.iload 4, 2) := dk_21 4 (dk_at dksX1_paletteColour_1 12 rfl rfl)
theorem dX1_paletteColour_38 : decode cX1_paletteColour 38 = .ok (.iload_n 3, 1) := dk_29 (dk_at dksX1_paletteColour_1 14 rfl rfl)
theorem dX1_paletteColour_39 : decode cX1_paletteColour 39 = .ok (.iload 5, 2) := dk_21 5 (dk_at dksX1_paletteColour_1 15 rfl rfl)
theorem dX1_paletteColour_41 : decode cX1_paletteColour 41 = .ok (.ishr, 1) := dk_122 (dk_at dksX1_paletteColour_1 17 rfl rfl)
theorem dX1_paletteColour_42 : decode cX1_paletteColour 42 = .ok (.iconst 1, 1) := dk_4 (dk_at dksX1_paletteColour_1 18 rfl rfl)
theorem dX1_paletteColour_43 : decode cX1_paletteColour 43 = .ok (.iand, 1) := dk_126 (dk_at dksX1_paletteColour_1 19 rfl rfl)
theorem dX1_paletteColour_44 : decode cX1_paletteColour 44 = .ok (.iadd, 1) := dk_96 (dk_at dksX1_paletteColour_1 20 rfl rfl)
theorem dX1_paletteColour_45 : decode cX1_paletteColour 45 = .ok (.istore 4, 2) := dk_54 4 (dk_at dksX1_paletteColour_1 21 rfl rfl)
theorem dX1_paletteColour_47 : decode cX1_paletteColour 47 = .ok (.goto (-20), 3) := dk_167 255 236 (dk_at dksX1_paletteColour_2 0 rfl rfl)
theorem dX1_paletteColour_50 : decode cX1_paletteColour 50 = .ok (.aload_n 0, 1) := dk_42 (dk_at dksX1_paletteColour_2 3 rfl rfl)
theorem dX1_paletteColour_51 : decode cX1_paletteColour 51 = .ok (.getfield 38, 3) := dk_180 0 38 (dk_at dksX1_paletteColour_2 4 rfl rfl)
theorem dX1_paletteColour_54 : decode cX1_paletteColour 54 = .ok (.getfield 140, 3) := dk_180 0 140 (dk_at dksX1_paletteColour_2 7 rfl rfl)
theorem dX1_paletteColour_57 : decode cX1_paletteColour 57 = .ok (.iload 5, 2) := dk_21 5 (dk_at dksX1_paletteColour_2 10 rfl rfl)
theorem dX1_paletteColour_59 : decode cX1_paletteColour 59 = .ok (.invokevirtual 153, 3) := dk_182 0 153 (dk_at dksX1_paletteColour_2 12 rfl rfl)
theorem dX1_paletteColour_62 : decode cX1_paletteColour 62 = .ok (.getfield 156, 3) := dk_180 0 156 (dk_at dksX1_paletteColour_2 15 rfl rfl)
theorem dX1_paletteColour_65 : decode cX1_paletteColour 65 = .ok (.ireturn, 1) := dk_172 (dk_at dksX1_paletteColour_2 18 rfl rfl)
def dkwX1_meanBrightness_0 : List UInt8 := [6, 42, 182, 1, 84, 104, 60, 42, 180, 0, 38, 182, 1, 87, 135, 27, 135, 111, 175]
abbrev dktX1_meanBrightness_0 : List UInt8 := dkwX1_meanBrightness_0 ++ []
theorem dksX1_meanBrightness_0 : cX1_meanBrightness.data.toList.drop 0 = dktX1_meanBrightness_0 := by decide +kernel
theorem dX1_meanBrightness_0 : decode cX1_meanBrightness 0 = .ok (.iconst 3, 1) := dk_6 (dk_at dksX1_meanBrightness_0 0 rfl rfl)
theorem dX1_meanBrightness_1 : decode cX1_meanBrightness 1 = .ok (.aload_n 0, 1) := dk_42 (dk_at dksX1_meanBrightness_0 1 rfl rfl)
theorem dX1_meanBrightness_2 : decode cX1_meanBrightness 2 = .ok (.invokevirtual 340, 3) := dk_182 1 84 (dk_at dksX1_meanBrightness_0 2 rfl rfl)
theorem dX1_meanBrightness_5 : decode cX1_meanBrightness 5 = .ok (.imul, 1) := dk_104 (dk_at dksX1_meanBrightness_0 5 rfl rfl)
theorem dX1_meanBrightness_6 : decode cX1_meanBrightness 6 = .ok (.istore_n 1, 1) := dk_60 (dk_at dksX1_meanBrightness_0 6 rfl rfl)
theorem dX1_meanBrightness_7 : decode cX1_meanBrightness 7 = .ok (.aload_n 0, 1) := dk_42 (dk_at dksX1_meanBrightness_0 7 rfl rfl)
theorem dX1_meanBrightness_8 : decode cX1_meanBrightness 8 = .ok (.getfield 38, 3) := dk_180 0 38 (dk_at dksX1_meanBrightness_0 8 rfl rfl)
theorem dX1_meanBrightness_11 : decode cX1_meanBrightness 11 = .ok (.invokevirtual 343, 3) := dk_182 1 87 (dk_at dksX1_meanBrightness_0 11 rfl rfl)
theorem dX1_meanBrightness_14 : decode cX1_meanBrightness 14 = .ok (.i2d, 1) := dk_135 (dk_at dksX1_meanBrightness_0 14 rfl rfl)
theorem dX1_meanBrightness_15 : decode cX1_meanBrightness 15 = .ok (.iload_n 1, 1) := dk_27 (dk_at dksX1_meanBrightness_0 15 rfl rfl)
theorem dX1_meanBrightness_16 : decode cX1_meanBrightness 16 = .ok (.i2d, 1) := dk_135 (dk_at dksX1_meanBrightness_0 16 rfl rfl)
theorem dX1_meanBrightness_17 : decode cX1_meanBrightness 17 = .ok (.ddiv, 1) := dk_111 (dk_at dksX1_meanBrightness_0 17 rfl rfl)
theorem dX1_meanBrightness_18 : decode cX1_meanBrightness 18 = .ok (.dreturn, 1) := dk_175 (dk_at dksX1_meanBrightness_0 18 rfl rfl)
def dkwX1_coloursAsDivisor_0 : List UInt8 := [42, 182, 0, 150, 154, 0, 11, 187, 1, 81, 89, 183, 1, 83, 191, 42, 182, 0, 150, 172]
abbrev dktX1_coloursAsDivisor_0 : List UInt8 := dkwX1_coloursAsDivisor_0 ++ []
theorem dksX1_coloursAsDivisor_0 : cX1_coloursAsDivisor.data.toList.drop 0 = dktX1_coloursAsDivisor_0 := by decide +kernel
theorem dX1_coloursAsDivisor_0 : decode cX1_coloursAsDivisor 0 = .ok (.aload_n 0, 1) := dk_42 (dk_at dksX1_coloursAsDivisor_0 0 rfl rfl)
theorem dX1_coloursAsDivisor_1 : decode cX1_coloursAsDivisor 1 = .ok (.invokevirtual 150, 3) := dk_182 0 150 (dk_at dksX1_coloursAsDivisor_0 1 rfl rfl)
theorem dX1_coloursAsDivisor_4 : decode cX1_coloursAsDivisor 4 = .ok (.ifCond .ne 11, 3) := dk_154 0 11 (dk_at dksX1_coloursAsDivisor_0 4 rfl rfl)
theorem dX1_coloursAsDivisor_7 : decode cX1_coloursAsDivisor 7 = .ok (.new 337, 3) := dk_187 1 81 (dk_at dksX1_coloursAsDivisor_0 7 rfl rfl)
theorem dX1_coloursAsDivisor_10 : decode cX1_coloursAsDivisor 10 = .ok (.dup, 1) := dk_89 (dk_at dksX1_coloursAsDivisor_0 10 rfl rfl)
theorem dX1_coloursAsDivisor_11 : decode cX1_coloursAsDivisor 11 = .ok (.invokespecial 339, 3) := dk_183 1 83 (dk_at dksX1_coloursAsDivisor_0 11 rfl rfl)
theorem dX1_coloursAsDivisor_14 : decode cX1_coloursAsDivisor 14 = .ok (.athrow, 1) := dk_191 (dk_at dksX1_coloursAsDivisor_0 14 rfl rfl)
theorem dX1_coloursAsDivisor_15 : decode cX1_coloursAsDivisor 15 = .ok (.aload_n 0, 1) := dk_42 (dk_at dksX1_coloursAsDivisor_0 15 rfl rfl)
theorem dX1_coloursAsDivisor_16 : decode cX1_coloursAsDivisor 16 = .ok (.invokevirtual 150, 3) := dk_182 0 150 (dk_at dksX1_coloursAsDivisor_0 16 rfl rfl)
theorem dX1_coloursAsDivisor_19 : decode cX1_coloursAsDivisor 19 = .ok (.ireturn, 1) := dk_172 (dk_at dksX1_coloursAsDivisor_0 19 rfl rfl)
def dkwX1_greyShare_0 : List UInt8 := [42, 182, 1, 84, 60, 42, 180, 0, 38, 182, 1, 90, 134, 27, 134, 110, 174]
abbrev dktX1_greyShare_0 : List UInt8 := dkwX1_greyShare_0 ++ []
theorem dksX1_greyShare_0 : cX1_greyShare.data.toList.drop 0 = dktX1_greyShare_0 := by decide +kernel
theorem dX1_greyShare_0 : decode cX1_greyShare 0 = .ok (.aload_n 0, 1) := dk_42 (dk_at dksX1_greyShare_0 0 rfl rfl)
theorem dX1_greyShare_1 : decode cX1_greyShare 1 = .ok (.invokevirtual 340, 3) := dk_182 1 84 (dk_at dksX1_greyShare_0 1 rfl rfl)
theorem dX1_greyShare_4 : decode cX1_greyShare 4 = .ok (.istore_n 1, 1) := dk_60 (dk_at dksX1_greyShare_0 4 rfl rfl)
theorem dX1_greyShare_5 : decode cX1_greyShare 5 = .ok (.aload_n 0, 1) := dk_42 (dk_at dksX1_greyShare_0 5 rfl rfl)
theorem dX1_greyShare_6 : decode cX1_greyShare 6 = .ok (.getfield 38, 3) := dk_180 0 38 (dk_at dksX1_greyShare_0 6 rfl rfl)
theorem dX1_greyShare_9 : decode cX1_greyShare 9 = .ok (.invokevirtual 346, 3) := dk_182 1 90 (dk_at dksX1_greyShare_0 9 rfl rfl)
theorem dX1_greyShare_12 : decode cX1_greyShare 12 = .ok (.i2f, 1) := dk_134 (dk_at dksX1_greyShare_0 12 rfl rfl)
theorem dX1_greyShare_13 : decode cX1_greyShare 13 = .ok (.iload_n 1, 1) := dk_27 (dk_at dksX1_greyShare_0 13 rfl rfl)
theorem dX1_greyShare_14 : decode cX1_greyShare 14 = .ok (.i2f, 1) := dk_134 (dk_at dksX1_greyShare_0 14 rfl rfl)
theorem dX1_greyShare_15 : decode cX1_greyShare 15 = .ok (.fdiv, 1) := dk_110 (dk_at dksX1_greyShare_0 15 rfl rfl)
theorem dX1_greyShare_16 : decode cX1_greyShare 16 = .ok (.freturn, 1) := dk_174 (dk_at dksX1_greyShare_0 16 rfl rfl)
def dkwX1_renderColour_0 : List UInt8 := [42, 42, 27, 182, 0, 161, 182, 1, 101, 182, 1, 105, 172]
abbrev dktX1_renderColour_0 : List UInt8 := dkwX1_renderColour_0 ++ []
theorem dksX1_renderColour_0 : cX1_renderColour.data.toList.drop 0 = dktX1_renderColour_0 := by decide +kernel
theorem dX1_renderColour_0 : decode cX1_renderColour 0 = .ok (.aload_n 0, 1) := dk_42 (dk_at dksX1_renderColour_0 0 rfl rfl)
theorem dX1_renderColour_1 : decode cX1_renderColour 1 = .ok (.aload_n 0, 1) := dk_42 (dk_at dksX1_renderColour_0 1 rfl rfl)
theorem dX1_renderColour_2 : decode cX1_renderColour 2 = .ok (.iload_n 1, 1) := dk_27 (dk_at dksX1_renderColour_0 2 rfl rfl)
theorem dX1_renderColour_3 : decode cX1_renderColour 3 = .ok (.invokevirtual 161, 3) := dk_182 0 161 (dk_at dksX1_renderColour_0 3 rfl rfl)
theorem dX1_renderColour_6 : decode cX1_renderColour 6 = .ok (.invokevirtual 357, 3) := dk_182 1 101 (dk_at dksX1_renderColour_0 6 rfl rfl)
theorem dX1_renderColour_9 : decode cX1_renderColour 9 = .ok (.invokevirtual 361, 3) := dk_182 1 105 (dk_at dksX1_renderColour_0 9 rfl rfl)
theorem dX1_renderColour_12 : decode cX1_renderColour 12 = .ok (.ireturn, 1) := dk_172 (dk_at dksX1_renderColour_0 12 rfl rfl)
def dkwX1_write_0 : List UInt8 := [42, 43, 181, 0, 65, 42, 180, 0, 65, 182, 1, 96, 172]
abbrev dktX1_write_0 : List UInt8 := dkwX1_write_0 ++ []
theorem dksX1_write_0 : cX1_write.data.toList.drop 0 = dktX1_write_0 := by decide +kernel
theorem dX1_write_0 : decode cX1_write 0 = .ok (.aload_n 0, 1) := dk_42 (dk_at dksX1_write_0 0 rfl rfl)
theorem dX1_write_1 : decode cX1_write 1 = .ok (.aload_n 1, 1) := dk_43 (dk_at dksX1_write_0 1 rfl rfl)
theorem dX1_write_2 : decode cX1_write 2 = .ok (.putfield 65, 3) := dk_181 0 65 (dk_at dksX1_write_0 2 rfl rfl)
theorem dX1_write_5 : decode cX1_write 5 = .ok (.aload_n 0, 1) := dk_42 (dk_at dksX1_write_0 5 rfl rfl)
theorem dX1_write_6 : decode cX1_write 6 = .ok (.getfield 65, 3) := dk_180 0 65 (dk_at dksX1_write_0 6 rfl rfl)
theorem dX1_write_9 : decode cX1_write 9 = .ok (.invokevirtual 352, 3) := dk_182 1 96 (dk_at dksX1_write_0 9 rfl rfl)
theorem dX1_write_12 : decode cX1_write 12 = .ok (.ireturn, 1) := dk_172 (dk_at dksX1_write_0 12 rfl rfl)
def dkwX1_renderReport_0 : List UInt8 := [42, 42, 27, 182, 0, 212, 182, 1, 109, 182, 1, 105, 172]
abbrev dktX1_renderReport_0 : List UInt8 := dkwX1_renderReport_0 ++ []
theorem dksX1_renderReport_0 : cX1_renderReport.data.toList.drop 0 = dktX1_renderReport_0 := by decide +kernel
theorem dX1_renderReport_0 : decode cX1_renderReport 0 = .ok (.aload_n 0, 1) := dk_42 (dk_at dksX1_renderReport_0 0 rfl rfl)
theorem dX1_renderReport_1 : decode cX1_renderReport 1 = .ok (.aload_n 0, 1) := dk_42 (dk_at dksX1_renderReport_0 1 rfl rfl)
theorem dX1_renderReport_2 : decode cX1_renderReport 2 = .ok (.iload_n 1, 1) := dk_27 (dk_at dksX1_renderReport_0 2 rfl rfl)
theorem dX1_renderReport_3 : decode cX1_renderReport 3 = .ok (.invokevirtual 212, 3) := dk_182 0 212 (dk_at dksX1_renderReport_0 3 rfl rfl)
theorem dX1_renderReport_6 : decode cX1_renderReport 6 = .ok (.invokevirtual 365, 3) := dk_182 1 109 (dk_at dksX1_renderReport_0 6 rfl rfl)
theorem dX1_renderReport_9 : decode cX1_renderReport 9 = .ok (.invokevirtual 361, 3) := dk_182 1 105 (dk_at dksX1_renderReport_0 9 rfl rfl)
theorem dX1_renderReport_12 : decode cX1_renderReport 12 = .ok (.ireturn, 1) := dk_172 (dk_at dksX1_renderReport_0 12 rfl rfl)
def dkwX1_outputAt_1 : List UInt8 := [182, 1, 113, 172]
abbrev dktX1_outputAt_1 : List UInt8 := dkwX1_outputAt_1 ++ []
def dkwX1_outputAt_0 : List UInt8 := [27, 3, 42, 180, 0, 65, 182, 1, 96, 4, 100, 184, 0, 9, 184, 1, 110, 42, 180, 0, 65, 27]
abbrev dktX1_outputAt_0 : List UInt8 := dkwX1_outputAt_0 ++ dktX1_outputAt_1
theorem dksX1_outputAt_0 : cX1_outputAt.data.toList.drop 0 = dktX1_outputAt_0 := by decide +kernel
theorem dksX1_outputAt_1 : cX1_outputAt.data.toList.drop 22 = dktX1_outputAt_1 := dk_seg dksX1_outputAt_0 22 rfl rfl
theorem dX1_outputAt_0 : decode cX1_outputAt 0 = .ok (.iload_n 1, 1) := dk_27 (dk_at dksX1_outputAt_0 0 rfl rfl)
theorem dX1_outputAt_1 : decode cX1_outputAt 1 = .ok (.iconst 0, 1) := dk_3 (dk_at dksX1_outputAt_0 1 rfl rfl)
theorem dX1_outputAt_2 : decode cX1_outputAt 2 = .ok (.aload_n 0, 1) := dk_42 (dk_at dksX1_outputAt_0 2 rfl rfl)
theorem dX1_outputAt_3 : decode cX1_outputAt 3 = .ok (.getfield 65, 3) := dk_180 0 65 (dk_at dksX1_outputAt_0 3 rfl rfl)
theorem dX1_outputAt_6 : decode cX1_outputAt 6 = .ok (.invokevirtual 352, 3) := dk_182 1 96 (dk_at dksX1_outputAt_0 6 rfl rfl)
theorem dX1_outputAt_9 : decode cX1_outputAt 9 = .ok (.iconst 1, 1) := dk_4 (dk_at dksX1_outputAt_0 9 rfl rfl)
theorem dX1_outputAt_10 : decode cX1_outputAt 10 = .ok (.isub, 1) := dk_100 (dk_at dksX1_outputAt_0 10 rfl rfl)
theorem dX1_outputAt_11 : decode cX1_outputAt 11 = .ok (.invokestatic 9, 3) := dk_184 0 9 (dk_at dksX1_outputAt_0 11 rfl rfl)
theorem dX1_outputAt_14 : decode cX1_outputAt 14 = .ok (.invokestatic 366, 3) := dk_184 1 110 (dk_at dksX1_outputAt_0 14 rfl rfl)
theorem dX1_outputAt_17 : decode cX1_outputAt 17 = .ok (.aload_n 0, 1) := dk_42 (dk_at dksX1_outputAt_0 17 rfl rfl)
theorem dX1_outputAt_18 : decode cX1_outputAt 18 = .ok (.getfield 65, 3) := dk_180 0 65 (dk_at dksX1_outputAt_0 18 rfl rfl)
theorem dX1_outputAt_21 : decode cX1_outputAt 21 = .ok (.iload_n 1, 1) := dk_27 (dk_at dksX1_outputAt_0 21 rfl rfl)
theorem dX1_outputAt_22 : decode cX1_outputAt 22 = .ok (.invokevirtual 369, 3) := dk_182 1 113 (dk_at dksX1_outputAt_1 0 rfl rfl)
theorem dX1_outputAt_25 : decode cX1_outputAt 25 = .ok (.ireturn, 1) := dk_172 (dk_at dksX1_outputAt_1 3 rfl rfl)
def dkwX1_checkIndex_0 : List UInt8 := [26, 154, 0, 11, 187, 0, 116, 89, 183, 0, 118, 191, 177]
abbrev dktX1_checkIndex_0 : List UInt8 := dkwX1_checkIndex_0 ++ []
theorem dksX1_checkIndex_0 : cX1_checkIndex.data.toList.drop 0 = dktX1_checkIndex_0 := by decide +kernel
theorem dX1_checkIndex_0 : decode cX1_checkIndex 0 = .ok (.iload_n 0, 1) := dk_26 (dk_at dksX1_checkIndex_0 0 rfl rfl)
theorem dX1_checkIndex_1 : decode cX1_checkIndex 1 = .ok (.ifCond .ne 11, 3) := dk_154 0 11 (dk_at dksX1_checkIndex_0 1 rfl rfl)
theorem dX1_checkIndex_4 : decode cX1_checkIndex 4 = .ok (.new 116, 3) := dk_187 0 116 (dk_at dksX1_checkIndex_0 4 rfl rfl)
theorem dX1_checkIndex_7 : decode cX1_checkIndex 7 = .ok (.dup, 1) := dk_89 (dk_at dksX1_checkIndex_0 7 rfl rfl)
theorem dX1_checkIndex_8 : decode cX1_checkIndex 8 = .ok (.invokespecial 118, 3) := dk_183 0 118 (dk_at dksX1_checkIndex_0 8 rfl rfl)
theorem dX1_checkIndex_11 : decode cX1_checkIndex 11 = .ok (.athrow, 1) := dk_191 (dk_at dksX1_checkIndex_0 11 rfl rfl)
theorem dX1_checkIndex_12 : decode cX1_checkIndex 12 = .ok (.return_, 1) := dk_177 (dk_at dksX1_checkIndex_0 12 rfl rfl)
def dkwX1_type_1 : List UInt8 := [167, 0, 4, 3, 184, 1, 118, 42, 180, 0, 52, 27, 182, 1, 121, 87, 42, 180, 0, 52, 182, 1, 117, 172]
abbrev dktX1_type_1 : List UInt8 := dkwX1_type_1 ++ []
def dkwX1_type_0 : List UInt8 := [27, 16, 32, 16, 126, 184, 0, 9, 184, 1, 7, 42, 180, 0, 52, 182, 1, 117, 16, 60, 162, 0, 7, 4]
abbrev dktX1_type_0 : List UInt8 := dkwX1_type_0 ++ dktX1_type_1
theorem dksX1_type_0 : cX1_type.data.toList.drop 0 = dktX1_type_0 := by decide +kernel
theorem dksX1_type_1 : cX1_type.data.toList.drop 24 = dktX1_type_1 := dk_seg dksX1_type_0 24 rfl rfl
theorem dX1_type_0 : decode cX1_type 0 = .ok (.iload_n 1, 1) := dk_27 (dk_at dksX1_type_0 0 rfl rfl)
theorem dX1_type_1 : decode cX1_type 1 = .ok (.bipush 32, 2) := dk_16 32 (dk_at dksX1_type_0 1 rfl rfl)
theorem dX1_type_3 : decode cX1_type 3 = .ok (.bipush 126, 2) := dk_16 126 (dk_at dksX1_type_0 3 rfl rfl)
theorem dX1_type_5 : decode cX1_type 5 = .ok (.invokestatic 9, 3) := dk_184 0 9 (dk_at dksX1_type_0 5 rfl rfl)
theorem dX1_type_8 : decode cX1_type 8 = .ok (.invokestatic 263, 3) := dk_184 1 7 (dk_at dksX1_type_0 8 rfl rfl)
theorem dX1_type_11 : decode cX1_type 11 = .ok (.aload_n 0, 1) := dk_42 (dk_at dksX1_type_0 11 rfl rfl)
theorem dX1_type_12 : decode cX1_type 12 = .ok (.getfield 52, 3) := dk_180 0 52 (dk_at dksX1_type_0 12 rfl rfl)
theorem dX1_type_15 : decode cX1_type 15 = .ok (.invokevirtual 373, 3) := dk_182 1 117 (dk_at dksX1_type_0 15 rfl rfl)
theorem dX1_type_18 : decode cX1_type 18 = .ok (.bipush 60, 2) := dk_16 60 (dk_at dksX1_type_0 18 rfl rfl)
theorem dX1_type_20 : decode cX1_type 20 = .ok (.if_icmp .ge 7, 3) := dk_162 0 7 (dk_at dksX1_type_0 20 rfl rfl)
theorem dX1_type_23 : decode cX1_type 23 = .ok (.iconst 1, 1) := dk_4 (dk_at dksX1_type_0 23 rfl rfl)
theorem dX1_type_24 : decode cX1_type 24 = .ok (.goto 4, 3) := dk_167 0 4 (dk_at dksX1_type_1 0 rfl rfl)
theorem dX1_type_27 : decode cX1_type 27 = .ok (.iconst 0, 1) := dk_3 (dk_at dksX1_type_1 3 rfl rfl)
theorem dX1_type_28 : decode cX1_type 28 = .ok (.invokestatic 374, 3) := dk_184 1 118 (dk_at dksX1_type_1 4 rfl rfl)
theorem dX1_type_31 : decode cX1_type 31 = .ok (.aload_n 0, 1) := dk_42 (dk_at dksX1_type_1 7 rfl rfl)
theorem dX1_type_32 : decode cX1_type 32 = .ok (.getfield 52, 3) := dk_180 0 52 (dk_at dksX1_type_1 8 rfl rfl)
theorem dX1_type_35 : decode cX1_type 35 = .ok (.iload_n 1, 1) := dk_27 (dk_at dksX1_type_1 11 rfl rfl)
theorem dX1_type_36 : decode cX1_type 36 = .ok (.invokevirtual 377, 3) := dk_182 1 121 (dk_at dksX1_type_1 12 rfl rfl)
theorem dX1_type_39 : decode cX1_type 39 = .ok (.pop, 1) := dk_87 (dk_at dksX1_type_1 15 rfl rfl)
theorem dX1_type_40 : decode cX1_type 40 = .ok (.aload_n 0, 1) := dk_42 (dk_at dksX1_type_1 16 rfl rfl)
theorem dX1_type_41 : decode cX1_type 41 = .ok (.getfield 52, 3) := dk_180 0 52 (dk_at dksX1_type_1 17 rfl rfl)
theorem dX1_type_44 : decode cX1_type 44 = .ok (.invokevirtual 373, 3) := dk_182 1 117 (dk_at dksX1_type_1 20 rfl rfl)
theorem dX1_type_47 : decode cX1_type 47 = .ok (.ireturn, 1) := dk_172 (dk_at dksX1_type_1 23 rfl rfl)
def dkwX1_checkState_0 : List UInt8 := [26, 154, 0, 11, 187, 0, 125, 89, 183, 0, 127, 191, 177]
abbrev dktX1_checkState_0 : List UInt8 := dkwX1_checkState_0 ++ []
theorem dksX1_checkState_0 : cX1_checkState.data.toList.drop 0 = dktX1_checkState_0 := by decide +kernel
theorem dX1_checkState_0 : decode cX1_checkState 0 = .ok (.iload_n 0, 1) := dk_26 (dk_at dksX1_checkState_0 0 rfl rfl)
theorem dX1_checkState_1 : decode cX1_checkState 1 = .ok (.ifCond .ne 11, 3) := dk_154 0 11 (dk_at dksX1_checkState_0 1 rfl rfl)
theorem dX1_checkState_4 : decode cX1_checkState 4 = .ok (.new 125, 3) := dk_187 0 125 (dk_at dksX1_checkState_0 4 rfl rfl)
theorem dX1_checkState_7 : decode cX1_checkState 7 = .ok (.dup, 1) := dk_89 (dk_at dksX1_checkState_0 7 rfl rfl)
theorem dX1_checkState_8 : decode cX1_checkState 8 = .ok (.invokespecial 127, 3) := dk_183 0 127 (dk_at dksX1_checkState_0 8 rfl rfl)
theorem dX1_checkState_11 : decode cX1_checkState 11 = .ok (.athrow, 1) := dk_191 (dk_at dksX1_checkState_0 11 rfl rfl)
theorem dX1_checkState_12 : decode cX1_checkState 12 = .ok (.return_, 1) := dk_177 (dk_at dksX1_checkState_0 12 rfl rfl)
def dkwX1_runScript_2 : List UInt8 := [180, 0, 52, 3, 182, 1, 159, 45, 191]
abbrev dktX1_runScript_2 : List UInt8 := dkwX1_runScript_2 ++ []
def dkwX1_runScript_1 : List UInt8 := [42, 180, 0, 52, 3, 182, 1, 159, 28, 172, 77, 42, 44, 182, 1, 163, 44, 182, 1, 167, 191, 78, 42]
abbrev dktX1_runScript_1 : List UInt8 := dkwX1_runScript_1 ++ dktX1_runScript_2
def dkwX1_runScript_0 : List UInt8 := [42, 180, 0, 52, 182, 1, 145, 76, 42, 187, 1, 146, 89, 43, 183, 1, 148, 182, 1, 151, 182, 1, 155, 61]
abbrev dktX1_runScript_0 : List UInt8 := dkwX1_runScript_0 ++ dktX1_runScript_1
theorem dksX1_runScript_0 : cX1_runScript.data.toList.drop 0 = dktX1_runScript_0 := by decide +kernel
theorem dksX1_runScript_1 : cX1_runScript.data.toList.drop 24 = dktX1_runScript_1 := dk_seg dksX1_runScript_0 24 rfl rfl
theorem dksX1_runScript_2 : cX1_runScript.data.toList.drop 47 = dktX1_runScript_2 := dk_seg dksX1_runScript_1 23 rfl rfl
theorem dX1_runScript_0 : decode cX1_runScript 0 = .ok (.aload_n 0, 1) := dk_42 (dk_at dksX1_runScript_0 0 rfl rfl)
theorem dX1_runScript_1 : decode cX1_runScript 1 = .ok (.getfield 52, 3) := dk_180 0 52 (dk_at dksX1_runScript_0 1 rfl rfl)
theorem dX1_runScript_4 : decode cX1_runScript 4 = .ok (.invokevirtual 401, 3) := dk_182 1 145 (dk_at dksX1_runScript_0 4 rfl rfl)
theorem dX1_runScript_7 : decode cX1_runScript 7 = .ok (.astore_n 1, 1) := dk_76 (dk_at dksX1_runScript_0 7 rfl rfl)
theorem dX1_runScript_8 : decode cX1_runScript 8 = .ok (.aload_n 0, 1) := dk_42 (dk_at dksX1_runScript_0 8 rfl rfl)
theorem dX1_runScript_9 : decode cX1_runScript 9 = .ok (.new 402, 3) := dk_187 1 146 (dk_at dksX1_runScript_0 9 rfl rfl)
theorem dX1_runScript_12 : decode cX1_runScript 12 = .ok (.dup, 1) := dk_89 (dk_at dksX1_runScript_0 12 rfl rfl)
theorem dX1_runScript_13 : decode cX1_runScript 13 = .ok (.aload_n 1, 1) := dk_43 (dk_at dksX1_runScript_0 13 rfl rfl)
theorem dX1_runScript_14 : decode cX1_runScript 14 = .ok (.invokespecial 404, 3) := dk_183 1 148 (dk_at dksX1_runScript_0 14 rfl rfl)
theorem dX1_runScript_17 : decode cX1_runScript 17 = .ok (.invokevirtual 407, 3) := dk_182 1 151 (dk_at dksX1_runScript_0 17 rfl rfl)
theorem dX1_runScript_20 : decode cX1_runScript 20 = .ok (.invokevirtual 411, 3) := dk_182 1 155 (dk_at dksX1_runScript_0 20 rfl rfl)
theorem dX1_runScript_23 : decode cX1_runScript 23 = .ok (.istore_n 2, 1) := dk_61 (dk_at dksX1_runScript_0 23 rfl rfl)
theorem dX1_runScript_24 : decode cX1_runScript 24 = .ok (.aload_n 0, 1) := dk_42 (dk_at dksX1_runScript_1 0 rfl rfl)
theorem dX1_runScript_25 : decode cX1_runScript 25 = .ok (.getfield 52, 3) := dk_180 0 52 (dk_at dksX1_runScript_1 1 rfl rfl)
theorem dX1_runScript_28 : decode cX1_runScript 28 = .ok (.iconst 0, 1) := dk_3 (dk_at dksX1_runScript_1 4 rfl rfl)
theorem dX1_runScript_29 : decode cX1_runScript 29 = .ok (.invokevirtual 415, 3) := dk_182 1 159 (dk_at dksX1_runScript_1 5 rfl rfl)
theorem dX1_runScript_32 : decode cX1_runScript 32 = .ok (.iload_n 2, 1) := dk_28 (dk_at dksX1_runScript_1 8 rfl rfl)
theorem dX1_runScript_33 : decode cX1_runScript 33 = .ok (.ireturn, 1) := dk_172 (dk_at dksX1_runScript_1 9 rfl rfl)
theorem dX1_runScript_34 : decode cX1_runScript 34 = .ok (.astore_n 2, 1) := dk_77 (dk_at dksX1_runScript_1 10 rfl rfl)
theorem dX1_runScript_35 : decode cX1_runScript 35 = .ok (.aload_n 0, 1) := dk_42 (dk_at dksX1_runScript_1 11 rfl rfl)
theorem dX1_runScript_36 : decode cX1_runScript 36 = .ok (.aload_n 2, 1) := dk_44 (dk_at dksX1_runScript_1 12 rfl rfl)
theorem dX1_runScript_37 : decode cX1_runScript 37 = .ok (.invokevirtual 419, 3) := dk_182 1 163 (dk_at dksX1_runScript_1 13 rfl rfl)
theorem dX1_runScript_40 : decode cX1_runScript 40 = .ok (.aload_n 2, 1) := dk_44 (dk_at dksX1_runScript_1 16 rfl rfl)
theorem dX1_runScript_41 : decode cX1_runScript 41 = .ok (.invokevirtual 423, 3) := dk_182 1 167 (dk_at dksX1_runScript_1 17 rfl rfl)
theorem dX1_runScript_44 : decode cX1_runScript 44 = .ok (.athrow, 1) := dk_191 (dk_at dksX1_runScript_1 20 rfl rfl)
theorem dX1_runScript_45 : decode cX1_runScript 45 = .ok (.astore_n 3, 1) := dk_78 (dk_at dksX1_runScript_1 21 rfl rfl)
theorem dX1_runScript_46 : decode cX1_runScript 46 = .ok (.aload_n 0, 1) := dk_42 (dk_at dksX1_runScript_1 22 rfl rfl)
theorem dX1_runScript_47 : decode cX1_runScript 47 = .ok (.getfield 52, 3) := dk_180 0 52 (dk_at dksX1_runScript_2 0 rfl rfl)
theorem dX1_runScript_50 : decode cX1_runScript 50 = .ok (.iconst 0, 1) := dk_3 (dk_at dksX1_runScript_2 3 rfl rfl)
theorem dX1_runScript_51 : decode cX1_runScript 51 = .ok (.invokevirtual 415, 3) := dk_182 1 159 (dk_at dksX1_runScript_2 4 rfl rfl)
theorem dX1_runScript_54 : decode cX1_runScript 54 = .ok (.aload_n 3, 1) := dk_45 (dk_at dksX1_runScript_2 7 rfl rfl)
theorem dX1_runScript_55 : decode cX1_runScript 55 = .ok (.athrow, 1) := dk_191 (dk_at dksX1_runScript_2 8 rfl rfl)
def dkwX1_execute_2 : List UInt8 := [25, 4, 183, 1, 127, 191, 132, 3, 1, 167, 255, 212, 42, 44, 43, 185, 0, 197, 1, 0, 182, 0, 86, 172]
abbrev dktX1_execute_2 : List UInt8 := dkwX1_execute_2 ++ []
def dkwX1_execute_1 : List UInt8 := [185, 0, 205, 2, 0, 192, 0, 77, 44, 182, 0, 82, 87, 167, 0, 16, 58, 4, 187, 1, 125, 89, 29]
abbrev dktX1_execute_1 : List UInt8 := dkwX1_execute_1 ++ dktX1_execute_2
def dkwX1_execute_0 : List UInt8 := [42, 180, 0, 38, 182, 0, 73, 77, 3, 62, 29, 43, 185, 0, 197, 1, 0, 162, 0, 40, 43, 29]
abbrev dktX1_execute_0 : List UInt8 := dkwX1_execute_0 ++ dktX1_execute_1
theorem dksX1_execute_0 : cX1_execute.data.toList.drop 0 = dktX1_execute_0 := by decide +kernel
theorem dksX1_execute_1 : cX1_execute.data.toList.drop 22 = dktX1_execute_1 := dk_seg dksX1_execute_0 22 rfl rfl
theorem dksX1_execute_2 : cX1_execute.data.toList.drop 45 = dktX1_execute_2 := dk_seg dksX1_execute_1 23 rfl rfl
theorem dX1_execute_0 : decode cX1_execute 0 = .ok (.aload_n 0, 1) := dk_42 (dk_at dksX1_execute_0 0 rfl rfl)
theorem dX1_execute_1 : decode cX1_execute 1 = .ok (.getfield 38, 3) := dk_180 0 38 (dk_at dksX1_execute_0 1 rfl rfl)
theorem dX1_execute_4 : decode cX1_execute 4 = .ok (.invokevirtual 73, 3) := dk_182 0 73 (dk_at dksX1_execute_0 4 rfl rfl)
theorem dX1_execute_7 : decode cX1_execute 7 = .ok (.astore_n 2, 1) := dk_77 (dk_at dksX1_execute_0 7 rfl rfl)
theorem dX1_execute_8 : decode cX1_execute 8 = .ok (.iconst 0, 1) := dk_3 (dk_at dksX1_execute_0 8 rfl rfl)
theorem dX1_execute_9 : decode cX1_execute 9 = .ok (.istore_n 3, 1) := dk_62 (dk_at dksX1_execute_0 9 rfl rfl)
theorem dX1_execute_10 : decode cX1_execute 10 = .ok (.iload_n 3, 1) := dk_29 (dk_at dksX1_execute_0 10 rfl rfl)
theorem dX1_execute_11 : decode cX1_execute 11 = .ok (.aload_n 1, 1) := dk_43 (dk_at dksX1_execute_0 11 rfl rfl)
theorem dX1_execute_12 : decode cX1_execute 12 = .ok (.invokeinterface 197 1, 5) := by decide +kernel
theorem dX1_execute_17 : decode cX1_execute 17 = .ok (.if_icmp .ge 40, 3) := dk_162 0 40 (dk_at dksX1_execute_0 17 rfl rfl)
theorem dX1_execute_20 : decode cX1_execute 20 = .ok (.aload_n 1, 1) := dk_43 (dk_at dksX1_execute_0 20 rfl rfl)
theorem dX1_execute_21 : decode cX1_execute 21 = .ok (.iload_n 3, 1) := dk_29 (dk_at dksX1_execute_0 21 rfl rfl)
theorem dX1_execute_22 : decode cX1_execute 22 = .ok (.invokeinterface 205 2, 5) := by decide +kernel
theorem dX1_execute_27 : decode cX1_execute 27 = .ok (.checkcast 77, 3) := dk_192 0 77 (dk_at dksX1_execute_1 5 rfl rfl)
theorem dX1_execute_30 : decode cX1_execute 30 = .ok (.aload_n 2, 1) := dk_44 (dk_at dksX1_execute_1 8 rfl rfl)
theorem dX1_execute_31 : decode cX1_execute 31 = .ok (.invokevirtual 82, 3) := dk_182 0 82 (dk_at dksX1_execute_1 9 rfl rfl)
theorem dX1_execute_34 : decode cX1_execute 34 = .ok (.pop, 1) := dk_87 (dk_at dksX1_execute_1 12 rfl rfl)
theorem dX1_execute_35 : decode cX1_execute 35 = .ok (.goto 16, 3) := dk_167 0 16 (dk_at dksX1_execute_1 13 rfl rfl)
theorem dX1_execute_38 : decode cX1_execute 38 = .ok (.astore 4, 2) := dk_58 4 (dk_at dksX1_execute_1 16 rfl rfl)
theorem dX1_execute_40 : decode cX1_execute 40 = .ok (.new 381, 3) := dk_187 1 125 (dk_at dksX1_execute_1 18 rfl rfl)
theorem dX1_execute_43 : decode cX1_execute 43 = .ok (.dup, 1) := dk_89 (dk_at dksX1_execute_1 21 rfl rfl)
theorem dX1_execute_44 : decode cX1_execute 44 = .ok (.iload_n 3, 1) := dk_29 (dk_at dksX1_execute_1 22 rfl rfl)
theorem dX1_execute_45 : decode cX1_execute 45 = .ok (.aload 4, 2) := dk_25 4 (dk_at dksX1_execute_2 0 rfl rfl)
theorem dX1_execute_47 : decode cX1_execute 47 = .ok (.invokespecial 383, 3) := dk_183 1 127 (dk_at dksX1_execute_2 2 rfl rfl)
theorem dX1_execute_50 : decode cX1_execute 50 = .ok (.athrow, 1) := dk_191 (dk_at dksX1_execute_2 5 rfl rfl)
theorem dX1_execute_51 : decode cX1_execute 51 = .ok (.iinc 3 1, 3) := dk_132 3 1 (dk_at dksX1_execute_2 6 rfl rfl)
theorem dX1_execute_54 : decode cX1_execute 54 = .ok (.goto (-44), 3) := dk_167 255 212 (dk_at dksX1_execute_2 9 rfl rfl)
theorem dX1_execute_57 : decode cX1_execute 57 = .ok (.aload_n 0, 1) := dk_42 (dk_at dksX1_execute_2 12 rfl rfl)
theorem dX1_execute_58 : decode cX1_execute 58 = .ok (.aload_n 2, 1) := dk_44 (dk_at dksX1_execute_2 13 rfl rfl)
theorem dX1_execute_59 : decode cX1_execute 59 = .ok (.aload_n 1, 1) := dk_43 (dk_at dksX1_execute_2 14 rfl rfl)
theorem dX1_execute_60 : decode cX1_execute 60 = .ok (.invokeinterface 197 1, 5) := by decide +kernel
theorem dX1_execute_65 : decode cX1_execute 65 = .ok (.invokevirtual 86, 3) := dk_182 0 86 (dk_at dksX1_execute_2 20 rfl rfl)
theorem dX1_execute_68 : decode cX1_execute 68 = .ok (.ireturn, 1) := dk_172 (dk_at dksX1_execute_2 23 rfl rfl)
def dkwX1_note_2 : List UInt8 := [181, 1, 142, 177]
abbrev dktX1_note_2 : List UInt8 := dkwX1_note_2 ++ []
def dkwX1_note_1 : List UInt8 := [193, 1, 125, 153, 0, 24, 43, 192, 1, 125, 78, 42, 45, 182, 1, 135, 181, 0, 60, 42, 45, 182, 1, 138]
abbrev dktX1_note_1 : List UInt8 := dkwX1_note_1 ++ dktX1_note_2
def dkwX1_note_0 : List UInt8 := [43, 193, 1, 130, 153, 0, 19, 43, 192, 1, 130, 77, 42, 44, 182, 1, 132, 181, 0, 56, 167, 0, 31, 43]
abbrev dktX1_note_0 : List UInt8 := dkwX1_note_0 ++ dktX1_note_1
theorem dksX1_note_0 : cX1_note.data.toList.drop 0 = dktX1_note_0 := by decide +kernel
theorem dksX1_note_1 : cX1_note.data.toList.drop 24 = dktX1_note_1 := dk_seg dksX1_note_0 24 rfl rfl
theorem dksX1_note_2 : cX1_note.data.toList.drop 48 = dktX1_note_2 := dk_seg dksX1_note_1 24 rfl rfl
theorem dX1_note_0 : decode cX1_note 0 = .ok (.aload_n 1, 1) := dk_43 (dk_at dksX1_note_0 0 rfl rfl)
theorem dX1_note_1 : decode cX1_note 1 = .ok (.instanceof 386, 3) := dk_193 1 130 (dk_at dksX1_note_0 1 rfl rfl)
theorem dX1_note_4 : decode cX1_note 4 = .ok (.ifCond .eq 19, 3) := dk_153 0 19 (dk_at dksX1_note_0 4 rfl rfl)
theorem dX1_note_7 : decode cX1_note 7 = .ok (.aload_n 1, 1) := dk_43 (dk_at dksX1_note_0 7 rfl rfl)
theorem dX1_note_8 : decode cX1_note 8 = .ok (.checkcast 386, 3) := dk_192 1 130 (dk_at dksX1_note_0 8 rfl rfl)
theorem dX1_note_11 : decode cX1_note 11 = .ok (.astore_n 2, 1) := dk_77 (dk_at dksX1_note_0 11 rfl rfl)
theorem dX1_note_12 : decode cX1_note 12 = .ok (.aload_n 0, 1) := dk_42 (dk_at dksX1_note_0 12 rfl rfl)
theorem dX1_note_13 : decode cX1_note 13 = .ok (.aload_n 2, 1) := dk_44 (dk_at dksX1_note_0 13 rfl rfl)
theorem dX1_note_14 : decode cX1_note 14 = .ok (.invokevirtual 388, 3) := dk_182 1 132 (dk_at dksX1_note_0 14 rfl rfl)
theorem dX1_note_17 : decode cX1_note 17 = .ok (.putfield 56, 3) := dk_181 0 56 (dk_at dksX1_note_0 17 rfl rfl)
theorem dX1_note_20 : decode cX1_note 20 = .ok (.goto 31, 3) := dk_167 0 31 (dk_at dksX1_note_0 20 rfl rfl)
theorem dX1_note_23 : decode cX1_note 23 = .ok (.aload_n 1, 1) := dk_43 (dk_at dksX1_note_0 23 rfl rfl)
theorem dX1_note_24 : decode cX1_note 24 = .ok (.instanceof 381, 3) := dk_193 1 125 (dk_at dksX1_note_1 0 rfl rfl)
theorem dX1_note_27 : decode cX1_note 27 = .ok (.ifCond .eq 24, 3) := dk_153 0 24 (dk_at dksX1_note_1 3 rfl rfl)
theorem dX1_note_30 : decode cX1_note 30 = .ok (.aload_n 1, 1) := dk_43 (dk_at dksX1_note_1 6 rfl rfl)
theorem dX1_note_31 : decode cX1_note 31 = .ok (.checkcast 381, 3) := dk_192 1 125 (dk_at dksX1_note_1 7 rfl rfl)
theorem dX1_note_34 : decode cX1_note 34 = .ok (.astore_n 3, 1) := dk_78 (dk_at dksX1_note_1 10 rfl rfl)
theorem dX1_note_35 : decode cX1_note 35 = .ok (.aload_n 0, 1) := dk_42 (dk_at dksX1_note_1 11 rfl rfl)
theorem dX1_note_36 : decode cX1_note 36 = .ok (.aload_n 3, 1) := dk_45 (dk_at dksX1_note_1 12 rfl rfl)
theorem dX1_note_37 : decode cX1_note 37 = .ok (.invokevirtual 391, 3) := dk_182 1 135 (dk_at dksX1_note_1 13 rfl rfl)
theorem dX1_note_40 : decode cX1_note 40 = .ok (.putfield 60, 3) := dk_181 0 60 (dk_at dksX1_note_1 16 rfl rfl)
theorem dX1_note_43 : decode cX1_note 43 = .ok (.aload_n 0, 1) := dk_42 (dk_at dksX1_note_1 19 rfl rfl)
theorem dX1_note_44 : decode cX1_note 44 = .ok (.aload_n 3, 1) := dk_45 (dk_at dksX1_note_1 20 rfl rfl)
theorem dX1_note_45 : decode cX1_note 45 = .ok (.invokevirtual 394, 3) := dk_182 1 138 (dk_at dksX1_note_1 21 rfl rfl)
theorem dX1_note_48 : decode cX1_note 48 = .ok (.putfield 398, 3) := dk_181 1 142 (dk_at dksX1_note_2 0 rfl rfl)
theorem dX1_note_51 : decode cX1_note 51 = .ok (.return_, 1) := dk_177 (dk_at dksX1_note_2 3 rfl rfl)
def dkwX1_errorPosition_0 : List UInt8 := [42, 180, 0, 56, 184, 0, 184, 172]
abbrev dktX1_errorPosition_0 : List UInt8 := dkwX1_errorPosition_0 ++ []
theorem dksX1_errorPosition_0 : cX1_errorPosition.data.toList.drop 0 = dktX1_errorPosition_0 := by decide +kernel
theorem dX1_errorPosition_0 : decode cX1_errorPosition 0 = .ok (.aload_n 0, 1) := dk_42 (dk_at dksX1_errorPosition_0 0 rfl rfl)
theorem dX1_errorPosition_1 : decode cX1_errorPosition 1 = .ok (.getfield 56, 3) := dk_180 0 56 (dk_at dksX1_errorPosition_0 1 rfl rfl)
theorem dX1_errorPosition_4 : decode cX1_errorPosition 4 = .ok (.invokestatic 184, 3) := dk_184 0 184 (dk_at dksX1_errorPosition_0 4 rfl rfl)
theorem dX1_errorPosition_7 : decode cX1_errorPosition 7 = .ok (.ireturn, 1) := dk_172 (dk_at dksX1_errorPosition_0 7 rfl rfl)
def dkwX1_failedCommand_0 : List UInt8 := [42, 180, 0, 60, 184, 0, 184, 172]
abbrev dktX1_failedCommand_0 : List UInt8 := dkwX1_failedCommand_0 ++ []
theorem dksX1_failedCommand_0 : cX1_failedCommand.data.toList.drop 0 = dktX1_failedCommand_0 := by decide +kernel
theorem dX1_failedCommand_0 : decode cX1_failedCommand 0 = .ok (.aload_n 0, 1) := dk_42 (dk_at dksX1_failedCommand_0 0 rfl rfl)
theorem dX1_failedCommand_1 : decode cX1_failedCommand 1 = .ok (.getfield 60, 3) := dk_180 0 60 (dk_at dksX1_failedCommand_0 1 rfl rfl)
theorem dX1_failedCommand_4 : decode cX1_failedCommand 4 = .ok (.invokestatic 184, 3) := dk_184 0 184 (dk_at dksX1_failedCommand_0 4 rfl rfl)
theorem dX1_failedCommand_7 : decode cX1_failedCommand 7 = .ok (.ireturn, 1) := dk_172 (dk_at dksX1_failedCommand_0 7 rfl rfl)
def dkwX1_failureKind_0 : List UInt8 := [42, 180, 0, 60, 184, 0, 184, 87, 42, 180, 1, 142, 172]
abbrev dktX1_failureKind_0 : List UInt8 := dkwX1_failureKind_0 ++ []
theorem dksX1_failureKind_0 : cX1_failureKind.data.toList.drop 0 = dktX1_failureKind_0 := by decide +kernel
theorem dX1_failureKind_0 : decode cX1_failureKind 0 = .ok (.aload_n 0, 1) := dk_42 (dk_at dksX1_failureKind_0 0 rfl rfl)
theorem dX1_failureKind_1 : decode cX1_failureKind 1 = .ok (.getfield 60, 3) := dk_180 0 60 (dk_at dksX1_failureKind_0 1 rfl rfl)
theorem dX1_failureKind_4 : decode cX1_failureKind 4 = .ok (.invokestatic 184, 3) := dk_184 0 184 (dk_at dksX1_failureKind_0 4 rfl rfl)
theorem dX1_failureKind_7 : decode cX1_failureKind 7 = .ok (.pop, 1) := dk_87 (dk_at dksX1_failureKind_0 7 rfl rfl)
theorem dX1_failureKind_8 : decode cX1_failureKind 8 = .ok (.aload_n 0, 1) := dk_42 (dk_at dksX1_failureKind_0 8 rfl rfl)
theorem dX1_failureKind_9 : decode cX1_failureKind 9 = .ok (.getfield 398, 3) := dk_180 1 142 (dk_at dksX1_failureKind_0 9 rfl rfl)
theorem dX1_failureKind_12 : decode cX1_failureKind 12 = .ok (.ireturn, 1) := dk_172 (dk_at dksX1_failureKind_0 12 rfl rfl)
def dkwX1_undo_1 : List UInt8 := [182, 1, 171, 181, 0, 38, 42, 180, 0, 45, 182, 1, 170, 172]
abbrev dktX1_undo_1 : List UInt8 := dkwX1_undo_1 ++ []
def dkwX1_undo_0 : List UInt8 := [42, 180, 0, 45, 182, 1, 170, 158, 0, 7, 4, 167, 0, 4, 3, 184, 0, 128, 42, 42, 180, 0, 45]
abbrev dktX1_undo_0 : List UInt8 := dkwX1_undo_0 ++ dktX1_undo_1
theorem dksX1_undo_0 : cX1_undo.data.toList.drop 0 = dktX1_undo_0 := by decide +kernel
theorem dksX1_undo_1 : cX1_undo.data.toList.drop 23 = dktX1_undo_1 := dk_seg dksX1_undo_0 23 rfl rfl
theorem dX1_undo_0 : decode cX1_undo 0 = .ok (.aload_n 0, 1) := dk_42 (dk_at dksX1_undo_0 0 rfl rfl)
theorem dX1_undo_1 : decode cX1_undo 1 = .ok (.getfield 45, 3) := dk_180 0 45 (dk_at dksX1_undo_0 1 rfl rfl)
theorem dX1_undo_4 : decode cX1_undo 4 = .ok (.invokevirtual 426, 3) := dk_182 1 170 (dk_at dksX1_undo_0 4 rfl rfl)
theorem dX1_undo_7 : decode cX1_undo 7 = .ok (.ifCond .le 7, 3) := dk_158 0 7 (dk_at dksX1_undo_0 7 rfl rfl)
theorem dX1_undo_10 : decode cX1_undo 10 = .ok (.iconst 1, 1) := dk_4 (dk_at dksX1_undo_0 10 rfl rfl)
theorem dX1_undo_11 : decode cX1_undo 11 = .ok (.goto 4, 3) := dk_167 0 4 (dk_at dksX1_undo_0 11 rfl rfl)
theorem dX1_undo_14 : decode cX1_undo 14 = .ok (.iconst 0, 1) := dk_3 (dk_at dksX1_undo_0 14 rfl rfl)
theorem dX1_undo_15 : decode cX1_undo 15 = .ok (.invokestatic 128, 3) := dk_184 0 128 (dk_at dksX1_undo_0 15 rfl rfl)
theorem dX1_undo_18 : decode cX1_undo 18 = .ok (.aload_n 0, 1) := dk_42 (dk_at dksX1_undo_0 18 rfl rfl)
theorem dX1_undo_19 : decode cX1_undo 19 = .ok (.aload_n 0, 1) := dk_42 (dk_at dksX1_undo_0 19 rfl rfl)
theorem dX1_undo_20 : decode cX1_undo 20 = .ok (.getfield 45, 3) := dk_180 0 45 (dk_at dksX1_undo_0 20 rfl rfl)
theorem dX1_undo_23 : decode cX1_undo 23 = .ok (.invokevirtual 427, 3) := dk_182 1 171 (dk_at dksX1_undo_1 0 rfl rfl)
theorem dX1_undo_26 : decode cX1_undo 26 = .ok (.putfield 38, 3) := dk_181 0 38 (dk_at dksX1_undo_1 3 rfl rfl)
theorem dX1_undo_29 : decode cX1_undo 29 = .ok (.aload_n 0, 1) := dk_42 (dk_at dksX1_undo_1 6 rfl rfl)
theorem dX1_undo_30 : decode cX1_undo 30 = .ok (.getfield 45, 3) := dk_180 0 45 (dk_at dksX1_undo_1 7 rfl rfl)
theorem dX1_undo_33 : decode cX1_undo 33 = .ok (.invokevirtual 426, 3) := dk_182 1 170 (dk_at dksX1_undo_1 10 rfl rfl)
theorem dX1_undo_36 : decode cX1_undo 36 = .ok (.ireturn, 1) := dk_172 (dk_at dksX1_undo_1 13 rfl rfl)
def dkwX1_restore_1 : List UInt8 := [180, 0, 45, 182, 1, 177, 42, 182, 0, 150, 172]
abbrev dktX1_restore_1 : List UInt8 := dkwX1_restore_1 ++ []
def dkwX1_restore_0 : List UInt8 := [42, 180, 1, 174, 198, 0, 7, 4, 167, 0, 4, 3, 184, 1, 118, 42, 42, 180, 1, 174, 181, 0, 38, 42]
abbrev dktX1_restore_0 : List UInt8 := dkwX1_restore_0 ++ dktX1_restore_1
theorem dksX1_restore_0 : cX1_restore.data.toList.drop 0 = dktX1_restore_0 := by decide +kernel
theorem dksX1_restore_1 : cX1_restore.data.toList.drop 24 = dktX1_restore_1 := dk_seg dksX1_restore_0 24 rfl rfl
theorem dX1_restore_0 : decode cX1_restore 0 = .ok (.aload_n 0, 1) := dk_42 (dk_at dksX1_restore_0 0 rfl rfl)
theorem dX1_restore_1 : decode cX1_restore 1 = .ok (.getfield 430, 3) := dk_180 1 174 (dk_at dksX1_restore_0 1 rfl rfl)
theorem dX1_restore_4 : decode cX1_restore 4 = .ok (.ifnull 7, 3) := dk_198 0 7 (dk_at dksX1_restore_0 4 rfl rfl)
theorem dX1_restore_7 : decode cX1_restore 7 = .ok (.iconst 1, 1) := dk_4 (dk_at dksX1_restore_0 7 rfl rfl)
theorem dX1_restore_8 : decode cX1_restore 8 = .ok (.goto 4, 3) := dk_167 0 4 (dk_at dksX1_restore_0 8 rfl rfl)
theorem dX1_restore_11 : decode cX1_restore 11 = .ok (.iconst 0, 1) := dk_3 (dk_at dksX1_restore_0 11 rfl rfl)
theorem dX1_restore_12 : decode cX1_restore 12 = .ok (.invokestatic 374, 3) := dk_184 1 118 (dk_at dksX1_restore_0 12 rfl rfl)
theorem dX1_restore_15 : decode cX1_restore 15 = .ok (.aload_n 0, 1) := dk_42 (dk_at dksX1_restore_0 15 rfl rfl)
theorem dX1_restore_16 : decode cX1_restore 16 = .ok (.aload_n 0, 1) := dk_42 (dk_at dksX1_restore_0 16 rfl rfl)
theorem dX1_restore_17 : decode cX1_restore 17 = .ok (.getfield 430, 3) := dk_180 1 174 (dk_at dksX1_restore_0 17 rfl rfl)
theorem dX1_restore_20 : decode cX1_restore 20 = .ok (.putfield 38, 3) := dk_181 0 38 (dk_at dksX1_restore_0 20 rfl rfl)
theorem dX1_restore_23 : decode cX1_restore 23 = .ok (.aload_n 0, 1) := dk_42 (dk_at dksX1_restore_0 23 rfl rfl)
theorem dX1_restore_24 : decode cX1_restore 24 = .ok (.getfield 45, 3) := dk_180 0 45 (dk_at dksX1_restore_1 0 rfl rfl)
theorem dX1_restore_27 : decode cX1_restore 27 = .ok (.invokevirtual 433, 3) := dk_182 1 177 (dk_at dksX1_restore_1 3 rfl rfl)
theorem dX1_restore_30 : decode cX1_restore 30 = .ok (.aload_n 0, 1) := dk_42 (dk_at dksX1_restore_1 6 rfl rfl)
theorem dX1_restore_31 : decode cX1_restore 31 = .ok (.invokevirtual 150, 3) := dk_182 0 150 (dk_at dksX1_restore_1 7 rfl rfl)
theorem dX1_restore_34 : decode cX1_restore 34 = .ok (.ireturn, 1) := dk_172 (dk_at dksX1_restore_1 10 rfl rfl)
def dkwX2_init_1 : List UInt8 := [181, 0, 21, 42, 16, 109, 181, 0, 25, 177]
abbrev dktX2_init_1 : List UInt8 := dkwX2_init_1 ++ []
def dkwX2_init_0 : List UInt8 := [42, 183, 0, 3, 42, 187, 0, 9, 89, 183, 0, 11, 181, 0, 12, 42, 187, 0, 18, 89, 183, 0, 20]
abbrev dktX2_init_0 : List UInt8 := dkwX2_init_0 ++ dktX2_init_1
theorem dksX2_init_0 : cX2_init.data.toList.drop 0 = dktX2_init_0 := by decide +kernel
theorem dksX2_init_1 : cX2_init.data.toList.drop 23 = dktX2_init_1 := dk_seg dksX2_init_0 23 rfl rfl
theorem dX2_init_0 : decode cX2_init 0 = .ok (.aload_n 0, 1) := dk_42 (dk_at dksX2_init_0 0 rfl rfl)
theorem dX2_init_1 : decode cX2_init 1 = .ok (.invokespecial 3, 3) := dk_183 0 3 (dk_at dksX2_init_0 1 rfl rfl)
theorem dX2_init_4 : decode cX2_init 4 = .ok (.aload_n 0, 1) := dk_42 (dk_at dksX2_init_0 4 rfl rfl)
theorem dX2_init_5 : decode cX2_init 5 = .ok (.new 9, 3) := dk_187 0 9 (dk_at dksX2_init_0 5 rfl rfl)
theorem dX2_init_8 : decode cX2_init 8 = .ok (.dup, 1) := dk_89 (dk_at dksX2_init_0 8 rfl rfl)
theorem dX2_init_9 : decode cX2_init 9 = .ok (.invokespecial 11, 3) := dk_183 0 11 (dk_at dksX2_init_0 9 rfl rfl)
theorem dX2_init_12 : decode cX2_init 12 = .ok (.putfield 12, 3) := dk_181 0 12 (dk_at dksX2_init_0 12 rfl rfl)
theorem dX2_init_15 : decode cX2_init 15 = .ok (.aload_n 0, 1) := dk_42 (dk_at dksX2_init_0 15 rfl rfl)
theorem dX2_init_16 : decode cX2_init 16 = .ok (.new 18, 3) := dk_187 0 18 (dk_at dksX2_init_0 16 rfl rfl)
theorem dX2_init_19 : decode cX2_init 19 = .ok (.dup, 1) := dk_89 (dk_at dksX2_init_0 19 rfl rfl)
theorem dX2_init_20 : decode cX2_init 20 = .ok (.invokespecial 20, 3) := dk_183 0 20 (dk_at dksX2_init_0 20 rfl rfl)
theorem dX2_init_23 : decode cX2_init 23 = .ok (.putfield 21, 3) := dk_181 0 21 (dk_at dksX2_init_1 0 rfl rfl)
theorem dX2_init_26 : decode cX2_init 26 = .ok (.aload_n 0, 1) := dk_42 (dk_at dksX2_init_1 3 rfl rfl)
theorem dX2_init_27 : decode cX2_init 27 = .ok (.bipush 109, 2) := dk_16 109 (dk_at dksX2_init_1 4 rfl rfl)
theorem dX2_init_29 : decode cX2_init 29 = .ok (.putfield 25, 3) := dk_181 0 25 (dk_at dksX2_init_1 6 rfl rfl)
theorem dX2_init_32 : decode cX2_init 32 = .ok (.return_, 1) := dk_177 (dk_at dksX2_init_1 9 rfl rfl)
def dkwX2_copy_5 : List UInt8 := [180, 0, 66, 181, 0, 66, 43, 42, 180, 0, 69, 181, 0, 69, 43, 176]
abbrev dktX2_copy_5 : List UInt8 := dkwX2_copy_5 ++ []
def dkwX2_copy_4 : List UInt8 := [180, 0, 57, 181, 0, 57, 43, 42, 180, 0, 60, 181, 0, 60, 43, 42, 180, 0, 63, 181, 0, 63, 43, 42]
abbrev dktX2_copy_4 : List UInt8 := dkwX2_copy_4 ++ dktX2_copy_5
def dkwX2_copy_3 : List UInt8 := [180, 0, 25, 181, 0, 25, 43, 42, 180, 0, 50, 181, 0, 50, 43, 42, 180, 0, 54, 181, 0, 54, 43, 42]
abbrev dktX2_copy_3 : List UInt8 := dkwX2_copy_3 ++ dktX2_copy_4
def dkwX2_copy_2 : List UInt8 := [185, 0, 40, 2, 0, 192, 0, 44, 185, 0, 46, 2, 0, 87, 132, 2, 1, 167, 255, 217, 43, 42]
abbrev dktX2_copy_2 : List UInt8 := dkwX2_copy_2 ++ dktX2_copy_3
def dkwX2_copy_1 : List UInt8 := [180, 0, 21, 185, 0, 34, 1, 0, 162, 0, 32, 43, 180, 0, 21, 42, 180, 0, 21, 28]
abbrev dktX2_copy_1 : List UInt8 := dkwX2_copy_1 ++ dktX2_copy_2
def dkwX2_copy_0 : List UInt8 := [187, 0, 13, 89, 183, 0, 29, 76, 43, 42, 180, 0, 12, 182, 0, 30, 181, 0, 12, 3, 61, 28, 42]
abbrev dktX2_copy_0 : List UInt8 := dkwX2_copy_0 ++ dktX2_copy_1
theorem dksX2_copy_0 : cX2_copy.data.toList.drop 0 = dktX2_copy_0 := by decide +kernel
theorem dksX2_copy_1 : cX2_copy.data.toList.drop 23 = dktX2_copy_1 := dk_seg dksX2_copy_0 23 rfl rfl
theorem dksX2_copy_2 : cX2_copy.data.toList.drop 43 = dktX2_copy_2 := dk_seg dksX2_copy_1 20 rfl rfl
theorem dksX2_copy_3 : cX2_copy.data.toList.drop 65 = dktX2_copy_3 := dk_seg dksX2_copy_2 22 rfl rfl
theorem dksX2_copy_4 : cX2_copy.data.toList.drop 89 = dktX2_copy_4 := dk_seg dksX2_copy_3 24 rfl rfl
theorem dksX2_copy_5 : cX2_copy.data.toList.drop 113 = dktX2_copy_5 := dk_seg dksX2_copy_4 24 rfl rfl
theorem dX2_copy_0 : decode cX2_copy 0 = .ok (.new 13, 3) := dk_187 0 13 (dk_at dksX2_copy_0 0 rfl rfl)
theorem dX2_copy_3 : decode cX2_copy 3 = .ok (.dup, 1) := dk_89 (dk_at dksX2_copy_0 3 rfl rfl)
theorem dX2_copy_4 : decode cX2_copy 4 = .ok (.invokespecial 29, 3) := dk_183 0 29 (dk_at dksX2_copy_0 4 rfl rfl)
theorem dX2_copy_7 : decode cX2_copy 7 = .ok (.astore_n 1, 1) := dk_76 (dk_at dksX2_copy_0 7 rfl rfl)
theorem dX2_copy_8 : decode cX2_copy 8 = .ok (.aload_n 1, 1) := dk_43 (dk_at dksX2_copy_0 8 rfl rfl)
theorem dX2_copy_9 : decode cX2_copy 9 = .ok (.aload_n 0, 1) := dk_42 (dk_at dksX2_copy_0 9 rfl rfl)
theorem dX2_copy_10 : decode cX2_copy 10 = .ok (.getfield 12, 3) := dk_180 0 12 (dk_at dksX2_copy_0 10 rfl rfl)
theorem dX2_copy_13 : decode cX2_copy 13 = .ok (.invokevirtual 30, 3) := dk_182 0 30 (dk_at dksX2_copy_0 13 rfl rfl)
theorem dX2_copy_16 : decode cX2_copy 16 = .ok (.putfield 12, 3) := dk_181 0 12 (dk_at dksX2_copy_0 16 rfl rfl)
theorem dX2_copy_19 : decode cX2_copy 19 = .ok (.iconst 0, 1) := dk_3 (dk_at dksX2_copy_0 19 rfl rfl)
theorem dX2_copy_20 : decode cX2_copy 20 = .ok (.istore_n 2, 1) := dk_61 (dk_at dksX2_copy_0 20 rfl rfl)
theorem dX2_copy_21 : decode cX2_copy 21 = .ok (.iload_n 2, 1) := dk_28 (dk_at dksX2_copy_0 21 rfl rfl)
theorem dX2_copy_22 : decode cX2_copy 22 = .ok (.aload_n 0, 1) := dk_42 (dk_at dksX2_copy_0 22 rfl rfl)
theorem dX2_copy_23 : decode cX2_copy 23 = .ok (.getfield 21, 3) := dk_180 0 21 (dk_at dksX2_copy_1 0 rfl rfl)
theorem dX2_copy_26 : decode cX2_copy 26 = .ok (.invokeinterface 34 1, 5) := by decide +kernel
theorem dX2_copy_31 : decode cX2_copy 31 = .ok (.if_icmp .ge 32, 3) := dk_162 0 32 (dk_at dksX2_copy_1 8 rfl rfl)
theorem dX2_copy_34 : decode cX2_copy 34 = .ok (.aload_n 1, 1) := dk_43 (dk_at dksX2_copy_1 11 rfl rfl)
theorem dX2_copy_35 : decode cX2_copy 35 = .ok (.getfield 21, 3) := dk_180 0 21 (dk_at dksX2_copy_1 12 rfl rfl)
theorem dX2_copy_38 : decode cX2_copy 38 = .ok (.aload_n 0, 1) := dk_42 (dk_at dksX2_copy_1 15 rfl rfl)
theorem dX2_copy_39 : decode cX2_copy 39 = .ok (.getfield 21, 3) := dk_180 0 21 (dk_at dksX2_copy_1 16 rfl rfl)
theorem dX2_copy_42 : decode cX2_copy 42 = .ok (.iload_n 2, 1) := dk_28 (dk_at dksX2_copy_1 19 rfl rfl)
theorem dX2_copy_43 : decode cX2_copy 43 = .ok (.invokeinterface 40 2, 5) := by decide +kernel
theorem dX2_copy_48 : decode cX2_copy 48 = .ok (.checkcast 44, 3) := dk_192 0 44 (dk_at dksX2_copy_2 5 rfl rfl)
theorem dX2_copy_51 : decode cX2_copy 51 = .ok (.invokeinterface 46 2, 5) := by decide +kernel
theorem dX2_copy_56 : decode cX2_copy 56 = .ok (.pop, 1) := dk_87 (dk_at dksX2_copy_2 13 rfl rfl)
theorem dX2_copy_57 : decode cX2_copy 57 = .ok (.iinc 2 1, 3) := dk_132 2 1 (dk_at dksX2_copy_2 14 rfl rfl)
theorem dX2_copy_60 : decode cX2_copy 60 = .ok (.goto (-39), 3) := dk_167 255 217 (dk_at dksX2_copy_2 17 rfl rfl)
theorem dX2_copy_63 : decode cX2_copy 63 = .ok (.aload_n 1, 1) := dk_43 (dk_at dksX2_copy_2 20 rfl rfl)
theorem dX2_copy_64 : decode cX2_copy 64 = .ok (.aload_n 0, 1) := dk_42 (dk_at dksX2_copy_2 21 rfl rfl)
theorem dX2_copy_65 : decode cX2_copy 65 = .ok (.getfield 25, 3) := dk_180 0 25 (dk_at dksX2_copy_3 0 rfl rfl)
theorem dX2_copy_68 : decode cX2_copy 68 = .ok (.putfield 25, 3) := dk_181 0 25 (dk_at dksX2_copy_3 3 rfl rfl)
theorem dX2_copy_71 : decode cX2_copy 71 = .ok (.aload_n 1, 1) := dk_43 (dk_at dksX2_copy_3 6 rfl rfl)
theorem dX2_copy_72 : decode cX2_copy 72 = .ok (.aload_n 0, 1) := dk_42 (dk_at dksX2_copy_3 7 rfl rfl)
theorem dX2_copy_73 : decode cX2_copy 73 = .ok (.getfield 50, 3) := dk_180 0 50 (dk_at dksX2_copy_3 8 rfl rfl)
theorem dX2_copy_76 : decode cX2_copy 76 = .ok (.putfield 50, 3) := dk_181 0 50 (dk_at dksX2_copy_3 11 rfl rfl)
theorem dX2_copy_79 : decode cX2_copy 79 = .ok (.aload_n 1, 1) := dk_43 (dk_at dksX2_copy_3 14 rfl rfl)
theorem dX2_copy_80 : decode cX2_copy 80 = .ok (.aload_n 0, 1) := dk_42 (dk_at dksX2_copy_3 15 rfl rfl)
theorem dX2_copy_81 : decode cX2_copy 81 = .ok (.getfield 54, 3) := dk_180 0 54 (dk_at dksX2_copy_3 16 rfl rfl)
theorem dX2_copy_84 : decode cX2_copy 84 = .ok (.putfield 54, 3) := dk_181 0 54 (dk_at dksX2_copy_3 19 rfl rfl)
theorem dX2_copy_87 : decode cX2_copy 87 = .ok (.aload_n 1, 1) := dk_43 (dk_at dksX2_copy_3 22 rfl rfl)
theorem dX2_copy_88 : decode cX2_copy 88 = .ok (.aload_n 0, 1) := dk_42 (dk_at dksX2_copy_3 23 rfl rfl)
theorem dX2_copy_89 : decode cX2_copy 89 = .ok (.getfield 57, 3) := dk_180 0 57 (dk_at dksX2_copy_4 0 rfl rfl)
theorem dX2_copy_92 : decode cX2_copy 92 = .ok (.putfield 57, 3) := dk_181 0 57 (dk_at dksX2_copy_4 3 rfl rfl)
theorem dX2_copy_95 : decode cX2_copy 95 = .ok (.aload_n 1, 1) := dk_43 (dk_at dksX2_copy_4 6 rfl rfl)
theorem dX2_copy_96 : decode cX2_copy 96 = .ok (.aload_n 0, 1) := dk_42 (dk_at dksX2_copy_4 7 rfl rfl)
theorem dX2_copy_97 : decode cX2_copy 97 = .ok (.getfield 60, 3) := dk_180 0 60 (dk_at dksX2_copy_4 8 rfl rfl)
theorem dX2_copy_100 : decode cX2_copy 100 = .ok (.putfield 60, 3) := dk_181 0 60 (dk_at dksX2_copy_4 11 rfl rfl)
theorem dX2_copy_103 : decode cX2_copy 103 = .ok (.aload_n 1, 1) := dk_43 (dk_at dksX2_copy_4 14 rfl rfl)
theorem dX2_copy_104 : decode cX2_copy 104 = .ok (.aload_n 0, 1) := dk_42 (dk_at dksX2_copy_4 15 rfl rfl)
theorem dX2_copy_105 : decode cX2_copy 105 = .ok (.getfield 63, 3) := dk_180 0 63 (dk_at dksX2_copy_4 16 rfl rfl)
theorem dX2_copy_108 : decode cX2_copy 108 = .ok (.putfield 63, 3) := dk_181 0 63 (dk_at dksX2_copy_4 19 rfl rfl)
theorem dX2_copy_111 : decode cX2_copy 111 = .ok (.aload_n 1, 1) := dk_43 (dk_at dksX2_copy_4 22 rfl rfl)
theorem dX2_copy_112 : decode cX2_copy 112 = .ok (.aload_n 0, 1) := dk_42 (dk_at dksX2_copy_4 23 rfl rfl)
theorem dX2_copy_113 : decode cX2_copy 113 = .ok (.getfield 66, 3) := dk_180 0 66 (dk_at dksX2_copy_5 0 rfl rfl)
theorem dX2_copy_116 : decode cX2_copy 116 = .ok (.putfield 66, 3) := dk_181 0 66 (dk_at dksX2_copy_5 3 rfl rfl)
theorem dX2_copy_119 : decode cX2_copy 119 = .ok (.aload_n 1, 1) := dk_43 (dk_at dksX2_copy_5 6 rfl rfl)
theorem dX2_copy_120 : decode cX2_copy 120 = .ok (.aload_n 0, 1) := dk_42 (dk_at dksX2_copy_5 7 rfl rfl)
theorem dX2_copy_121 : decode cX2_copy 121 = .ok (.getfield 69, 3) := dk_180 0 69 (dk_at dksX2_copy_5 8 rfl rfl)
theorem dX2_copy_124 : decode cX2_copy 124 = .ok (.putfield 69, 3) := dk_181 0 69 (dk_at dksX2_copy_5 11 rfl rfl)
theorem dX2_copy_127 : decode cX2_copy 127 = .ok (.aload_n 1, 1) := dk_43 (dk_at dksX2_copy_5 14 rfl rfl)
theorem dX2_copy_128 : decode cX2_copy 128 = .ok (.areturn, 1) := dk_176 (dk_at dksX2_copy_5 15 rfl rfl)
def dkwX2_addColour_3 : List UInt8 := [188, 10, 89, 3, 27, 79, 89, 4, 28, 79, 89, 5, 29, 79, 183, 0, 146, 21, 4, 182, 0, 149, 172]
abbrev dktX2_addColour_3 : List UInt8 := dkwX2_addColour_3 ++ []
def dkwX2_addColour_2 : List UInt8 := [182, 0, 141, 16, 10, 162, 0, 7, 4, 167, 0, 4, 3, 16, 115, 184, 0, 137, 42, 187, 0, 144, 89, 6]
abbrev dktX2_addColour_2 : List UInt8 := dkwX2_addColour_2 ++ dktX2_addColour_3
def dkwX2_addColour_1 : List UInt8 := [16, 9, 184, 0, 133, 153, 0, 7, 4, 167, 0, 4, 3, 16, 97, 184, 0, 137, 42, 180, 0, 12]
abbrev dktX2_addColour_1 : List UInt8 := dkwX2_addColour_1 ++ dktX2_addColour_2
def dkwX2_addColour_0 : List UInt8 := [6, 188, 10, 89, 3, 27, 79, 89, 4, 28, 79, 89, 5, 29, 79, 184, 0, 129, 153, 0, 18, 21, 4, 4]
abbrev dktX2_addColour_0 : List UInt8 := dkwX2_addColour_0 ++ dktX2_addColour_1
theorem dksX2_addColour_0 : cX2_addColour.data.toList.drop 0 = dktX2_addColour_0 := by decide +kernel
theorem dksX2_addColour_1 : cX2_addColour.data.toList.drop 24 = dktX2_addColour_1 := dk_seg dksX2_addColour_0 24 rfl rfl
theorem dksX2_addColour_2 : cX2_addColour.data.toList.drop 46 = dktX2_addColour_2 := dk_seg dksX2_addColour_1 22 rfl rfl
theorem dksX2_addColour_3 : cX2_addColour.data.toList.drop 70 = dktX2_addColour_3 := dk_seg dksX2_addColour_2 24 rfl rfl
theorem dX2_addColour_0 : decode cX2_addColour 0 = .ok (.iconst 3, 1) := dk_6 (dk_at dksX2_addColour_0 0 rfl rfl)
theorem dX2_addColour_1 : decode cX2_addColour 1 = .ok (.newarray .int, 2) := dk_188_10 (dk_at dksX2_addColour_0 1 rfl rfl)
theorem dX2_addColour_3 : decode cX2_addColour 3 = .ok (.dup, 1) := dk_89 (dk_at dksX2_addColour_0 3 rfl rfl)
theorem dX2_addColour_4 : decode cX2_addColour 4 = .ok (.iconst 0, 1) := dk_3 (dk_at dksX2_addColour_0 4 rfl rfl)
theorem dX2_addColour_5 : decode cX2_addColour 5 = .ok (.iload_n 1, 1) := dk_27 (dk_at dksX2_addColour_0 5 rfl rfl)
theorem dX2_addColour_6 : decode cX2_addColour 6 = .ok (.iastore, 1) := dk_79 (dk_at dksX2_addColour_0 6 rfl rfl)
theorem dX2_addColour_7 : decode cX2_addColour 7 = .ok (.dup, 1) := dk_89 (dk_at dksX2_addColour_0 7 rfl rfl)
theorem dX2_addColour_8 : decode cX2_addColour 8 = .ok (.iconst 1, 1) := dk_4 (dk_at dksX2_addColour_0 8 rfl rfl)
theorem dX2_addColour_9 : decode cX2_addColour 9 = .ok (.iload_n 2, 1) := dk_28 (dk_at dksX2_addColour_0 9 rfl rfl)
theorem dX2_addColour_10 : decode cX2_addColour 10 = .ok (.iastore, 1) := dk_79 (dk_at dksX2_addColour_0 10 rfl rfl)
theorem dX2_addColour_11 : decode cX2_addColour 11 = .ok (.dup, 1) := dk_89 (dk_at dksX2_addColour_0 11 rfl rfl)
theorem dX2_addColour_12 : decode cX2_addColour 12 = .ok (.iconst 2, 1) := dk_5 (dk_at dksX2_addColour_0 12 rfl rfl)
theorem dX2_addColour_13 : decode cX2_addColour 13 = .ok (.iload_n 3, 1) := dk_29 (dk_at dksX2_addColour_0 13 rfl rfl)
theorem dX2_addColour_14 : decode cX2_addColour 14 = .ok (.iastore, 1) := dk_79 (dk_at dksX2_addColour_0 14 rfl rfl)
theorem dX2_addColour_15 : decode cX2_addColour 15 = .ok (.invokestatic 129, 3) := dk_184 0 129 (dk_at dksX2_addColour_0 15 rfl rfl)
theorem dX2_addColour_18 : decode cX2_addColour 18 = .ok (.ifCond .eq 18, 3) := dk_153 0 18 (dk_at dksX2_addColour_0 18 rfl rfl)
theorem dX2_addColour_21 : decode cX2_addColour 21 = .ok (.iload 4, 2) := dk_21 4 (dk_at dksX2_addColour_0 21 rfl rfl)
theorem dX2_addColour_23 : decode cX2_addColour 23 = .ok (.iconst 1, 1) := dk_4 (dk_at dksX2_addColour_0 23 rfl rfl)
theorem dX2_addColour_24 : decode cX2_addColour 24 = .ok (.bipush 9, 2) := dk_16 9 (dk_at dksX2_addColour_1 0 rfl rfl)
theorem dX2_addColour_26 : decode cX2_addColour 26 = .ok (.invokestatic 133, 3) := dk_184 0 133 (dk_at dksX2_addColour_1 2 rfl rfl)
theorem dX2_addColour_29 : decode cX2_addColour 29 = .ok (.ifCond .eq 7, 3) := dk_153 0 7 (dk_at dksX2_addColour_1 5 rfl rfl)
theorem dX2_addColour_32 : decode cX2_addColour 32 = .ok (.iconst 1, 1) := dk_4 (dk_at dksX2_addColour_1 8 rfl rfl)
theorem dX2_addColour_33 : decode cX2_addColour 33 = .ok (.goto 4, 3) := dk_167 0 4 (dk_at dksX2_addColour_1 9 rfl rfl)
theorem dX2_addColour_36 : decode cX2_addColour 36 = .ok (.iconst 0, 1) := dk_3 (dk_at dksX2_addColour_1 12 rfl rfl)
theorem dX2_addColour_37 : decode cX2_addColour 37 = .ok (.bipush 97, 2) := dk_16 97 (dk_at dksX2_addColour_1 13 rfl rfl)
theorem dX2_addColour_39 : decode cX2_addColour 39 = .ok (.invokestatic 137, 3) := dk_184 0 137 (dk_at dksX2_addColour_1 15 rfl rfl)
theorem dX2_addColour_42 : decode cX2_addColour 42 = .ok (.aload_n 0, 1) := dk_42 (dk_at dksX2_addColour_1 18 rfl rfl)
theorem dX2_addColour_43 : decode cX2_addColour 43 = .ok (.getfield 12, 3) := dk_180 0 12 (dk_at dksX2_addColour_1 19 rfl rfl)
theorem dX2_addColour_46 : decode cX2_addColour 46 = .ok (.invokevirtual 141, 3) := dk_182 0 141 (dk_at dksX2_addColour_2 0 rfl rfl)
theorem dX2_addColour_49 : decode cX2_addColour 49 = .ok (.bipush 10, 2) := dk_16 10 (dk_at dksX2_addColour_2 3 rfl rfl)
theorem dX2_addColour_51 : decode cX2_addColour 51 = .ok (.if_icmp .ge 7, 3) := dk_162 0 7 (dk_at dksX2_addColour_2 5 rfl rfl)
theorem dX2_addColour_54 : decode cX2_addColour 54 = .ok (.iconst 1, 1) := dk_4 (dk_at dksX2_addColour_2 8 rfl rfl)
theorem dX2_addColour_55 : decode cX2_addColour 55 = .ok (.goto 4, 3) := dk_167 0 4 (dk_at dksX2_addColour_2 9 rfl rfl)
theorem dX2_addColour_58 : decode cX2_addColour 58 = .ok (.iconst 0, 1) := dk_3 (dk_at dksX2_addColour_2 12 rfl rfl)
theorem dX2_addColour_59 : decode cX2_addColour 59 = .ok (.bipush 115, 2) := dk_16 115 (dk_at dksX2_addColour_2 13 rfl rfl)
theorem dX2_addColour_61 : decode cX2_addColour 61 = .ok (.invokestatic 137, 3) := dk_184 0 137 (dk_at dksX2_addColour_2 15 rfl rfl)
theorem dX2_addColour_64 : decode cX2_addColour 64 = .ok (.aload_n 0, 1) := dk_42 (dk_at dksX2_addColour_2 18 rfl rfl)
theorem dX2_addColour_65 : decode cX2_addColour 65 = .ok (.new 144, 3) := dk_187 0 144 (dk_at dksX2_addColour_2 19 rfl rfl)
theorem dX2_addColour_68 : decode cX2_addColour 68 = .ok (.dup, 1) := dk_89 (dk_at dksX2_addColour_2 22 rfl rfl)
theorem dX2_addColour_69 : decode cX2_addColour 69 = .ok (.iconst 3, 1) := dk_6 (dk_at dksX2_addColour_2 23 rfl rfl)
theorem dX2_addColour_70 : decode cX2_addColour 70 = .ok (.newarray .int, 2) := dk_188_10 (dk_at dksX2_addColour_3 0 rfl rfl)
theorem dX2_addColour_72 : decode cX2_addColour 72 = .ok (.dup, 1) := dk_89 (dk_at dksX2_addColour_3 2 rfl rfl)
theorem dX2_addColour_73 : decode cX2_addColour 73 = .ok (.iconst 0, 1) := dk_3 (dk_at dksX2_addColour_3 3 rfl rfl)
theorem dX2_addColour_74 : decode cX2_addColour 74 = .ok (.iload_n 1, 1) := dk_27 (dk_at dksX2_addColour_3 4 rfl rfl)
theorem dX2_addColour_75 : decode cX2_addColour 75 = .ok (.iastore, 1) := dk_79 (dk_at dksX2_addColour_3 5 rfl rfl)
theorem dX2_addColour_76 : decode cX2_addColour 76 = .ok (.dup, 1) := dk_89 (dk_at dksX2_addColour_3 6 rfl rfl)
theorem dX2_addColour_77 : decode cX2_addColour 77 = .ok (.iconst 1, 1) := dk_4 (dk_at dksX2_addColour_3 7 rfl rfl)
theorem dX2_addColour_78 : decode cX2_addColour 78 = .ok (.iload_n 2, 1) := dk_28 (dk_at dksX2_addColour_3 8 rfl rfl)
theorem dX2_addColour_79 : decode cX2_addColour 79 = .ok (.iastore, 1) := dk_79 (dk_at dksX2_addColour_3 9 rfl rfl)
theorem dX2_addColour_80 : decode cX2_addColour 80 = .ok (.dup, 1) := dk_89 (dk_at dksX2_addColour_3 10 rfl rfl)
theorem dX2_addColour_81 : decode cX2_addColour 81 = .ok (.iconst 2, 1) := dk_5 (dk_at dksX2_addColour_3 11 rfl rfl)
theorem dX2_addColour_82 : decode cX2_addColour 82 = .ok (.iload_n 3, 1) := dk_29 (dk_at dksX2_addColour_3 12 rfl rfl)
theorem dX2_addColour_83 : decode cX2_addColour 83 = .ok (.iastore, 1) := dk_79 (dk_at dksX2_addColour_3 13 rfl rfl)
theorem dX2_addColour_84 : decode cX2_addColour 84 = .ok (.invokespecial 146, 3) := dk_183 0 146 (dk_at dksX2_addColour_3 14 rfl rfl)
theorem dX2_addColour_87 : decode cX2_addColour 87 = .ok (.iload 4, 2) := dk_21 4 (dk_at dksX2_addColour_3 17 rfl rfl)
theorem dX2_addColour_89 : decode cX2_addColour 89 = .ok (.invokevirtual 149, 3) := dk_182 0 149 (dk_at dksX2_addColour_3 19 rfl rfl)
theorem dX2_addColour_92 : decode cX2_addColour 92 = .ok (.ireturn, 1) := dk_172 (dk_at dksX2_addColour_3 22 rfl rfl)
def dkwX2_add_1 : List UInt8 := [180, 0, 50, 4, 96, 181, 0, 50, 42, 180, 0, 50, 4, 100, 172]
abbrev dktX2_add_1 : List UInt8 := dkwX2_add_1 ++ []
def dkwX2_add_0 : List UInt8 := [42, 180, 0, 12, 187, 0, 110, 89, 42, 180, 0, 50, 43, 28, 183, 0, 123, 182, 0, 126, 42, 89]
abbrev dktX2_add_0 : List UInt8 := dkwX2_add_0 ++ dktX2_add_1
theorem dksX2_add_0 : cX2_add.data.toList.drop 0 = dktX2_add_0 := by decide +kernel
theorem dksX2_add_1 : cX2_add.data.toList.drop 22 = dktX2_add_1 := dk_seg dksX2_add_0 22 rfl rfl
theorem dX2_add_0 : decode cX2_add 0 = .ok (.aload_n 0, 1) := dk_42 (dk_at dksX2_add_0 0 rfl rfl)
theorem dX2_add_1 : decode cX2_add 1 = .ok (.getfield 12, 3) := dk_180 0 12 (dk_at dksX2_add_0 1 rfl rfl)
theorem dX2_add_4 : decode cX2_add 4 = .ok (.new 110, 3) := dk_187 0 110 (dk_at dksX2_add_0 4 rfl rfl)
theorem dX2_add_7 : decode cX2_add 7 = .ok (.dup, 1) := dk_89 (dk_at dksX2_add_0 7 rfl rfl)
theorem dX2_add_8 : decode cX2_add 8 = .ok (.aload_n 0, 1) := dk_42 (dk_at dksX2_add_0 8 rfl rfl)
theorem dX2_add_9 : decode cX2_add 9 = .ok (.getfield 50, 3) := dk_180 0 50 (dk_at dksX2_add_0 9 rfl rfl)
theorem dX2_add_12 : decode cX2_add 12 = .ok (.aload_n 1, 1) := dk_43 (dk_at dksX2_add_0 12 rfl rfl)
theorem dX2_add_13 : decode cX2_add 13 = .ok (.iload_n 2, 1) := dk_28 (dk_at dksX2_add_0 13 rfl rfl)
theorem dX2_add_14 : decode cX2_add 14 = .ok (.invokespecial 123, 3) := dk_183 0 123 (dk_at dksX2_add_0 14 rfl rfl)
theorem dX2_add_17 : decode cX2_add 17 = .ok (.invokevirtual 126, 3) := dk_182 0 126 (dk_at dksX2_add_0 17 rfl rfl)
theorem dX2_add_20 : decode cX2_add 20 = .ok (.aload_n 0, 1) := dk_42 (dk_at dksX2_add_0 20 rfl rfl)
theorem dX2_add_21 : decode cX2_add 21 = .ok (.dup, 1) := dk_89 (dk_at dksX2_add_0 21 rfl rfl)
theorem dX2_add_22 : decode cX2_add 22 = .ok (.getfield 50, 3) := dk_180 0 50 (dk_at dksX2_add_1 0 rfl rfl)
theorem dX2_add_25 : decode cX2_add 25 = .ok (.iconst 1, 1) := dk_4 (dk_at dksX2_add_1 3 rfl rfl)
theorem dX2_add_26 : decode cX2_add 26 = .ok (.iadd, 1) := dk_96 (dk_at dksX2_add_1 4 rfl rfl)
theorem dX2_add_27 : decode cX2_add 27 = .ok (.putfield 50, 3) := dk_181 0 50 (dk_at dksX2_add_1 5 rfl rfl)
theorem dX2_add_30 : decode cX2_add 30 = .ok (.aload_n 0, 1) := dk_42 (dk_at dksX2_add_1 8 rfl rfl)
theorem dX2_add_31 : decode cX2_add 31 = .ok (.getfield 50, 3) := dk_180 0 50 (dk_at dksX2_add_1 9 rfl rfl)
theorem dX2_add_34 : decode cX2_add 34 = .ok (.iconst 1, 1) := dk_4 (dk_at dksX2_add_1 12 rfl rfl)
theorem dX2_add_35 : decode cX2_add 35 = .ok (.isub, 1) := dk_100 (dk_at dksX2_add_1 13 rfl rfl)
theorem dX2_add_36 : decode cX2_add 36 = .ok (.ireturn, 1) := dk_172 (dk_at dksX2_add_1 14 rfl rfl)
def dkwX2_addReport_5 : List UInt8 := [180, 0, 54, 4, 96, 181, 0, 54, 42, 180, 0, 54, 4, 100, 172]
abbrev dktX2_addReport_5 : List UInt8 := dkwX2_addReport_5 ++ []
def dkwX2_addReport_4 : List UInt8 := [187, 0, 44, 89, 42, 180, 0, 54, 43, 28, 29, 183, 0, 155, 185, 0, 46, 2, 0, 87, 42, 89]
abbrev dktX2_addReport_4 : List UInt8 := dkwX2_addReport_4 ++ dktX2_addReport_5
def dkwX2_addReport_3 : List UInt8 := [185, 0, 34, 1, 0, 16, 6, 162, 0, 7, 4, 167, 0, 4, 3, 16, 115, 184, 0, 137, 42, 180, 0, 21]
abbrev dktX2_addReport_3 : List UInt8 := dkwX2_addReport_3 ++ dktX2_addReport_4
def dkwX2_addReport_2 : List UInt8 := [4, 16, 99, 184, 0, 133, 153, 0, 7, 4, 167, 0, 4, 3, 16, 97, 184, 0, 137, 42, 180, 0, 21]
abbrev dktX2_addReport_2 : List UInt8 := dkwX2_addReport_2 ++ dktX2_addReport_3
def dkwX2_addReport_1 : List UInt8 := [182, 0, 152, 79, 184, 0, 129, 16, 97, 184, 0, 137, 28, 3, 17, 39, 15, 184, 0, 133, 153, 0, 17, 29]
abbrev dktX2_addReport_1 : List UInt8 := dkwX2_addReport_1 ++ dktX2_addReport_2
def dkwX2_addReport_0 : List UInt8 := [6, 188, 10, 89, 3, 43, 3, 182, 0, 152, 79, 89, 4, 43, 4, 182, 0, 152, 79, 89, 5, 43, 5]
abbrev dktX2_addReport_0 : List UInt8 := dkwX2_addReport_0 ++ dktX2_addReport_1
theorem dksX2_addReport_0 : cX2_addReport.data.toList.drop 0 = dktX2_addReport_0 := by decide +kernel
theorem dksX2_addReport_1 : cX2_addReport.data.toList.drop 23 = dktX2_addReport_1 := dk_seg dksX2_addReport_0 23 rfl rfl
theorem dksX2_addReport_2 : cX2_addReport.data.toList.drop 47 = dktX2_addReport_2 := dk_seg dksX2_addReport_1 24 rfl rfl
theorem dksX2_addReport_3 : cX2_addReport.data.toList.drop 70 = dktX2_addReport_3 := dk_seg dksX2_addReport_2 23 rfl rfl
theorem dksX2_addReport_4 : cX2_addReport.data.toList.drop 94 = dktX2_addReport_4 := dk_seg dksX2_addReport_3 24 rfl rfl
theorem dksX2_addReport_5 : cX2_addReport.data.toList.drop 116 = dktX2_addReport_5 := dk_seg dksX2_addReport_4 22 rfl rfl
theorem dX2_addReport_0 : decode cX2_addReport 0 = .ok (.iconst 3, 1) := dk_6 (dk_at dksX2_addReport_0 0 rfl rfl)
theorem dX2_addReport_1 : decode cX2_addReport 1 = .ok (.newarray .int, 2) := dk_188_10 (dk_at dksX2_addReport_0 1 rfl rfl)
theorem dX2_addReport_3 : decode cX2_addReport 3 = .ok (.dup, 1) := dk_89 (dk_at dksX2_addReport_0 3 rfl rfl)
theorem dX2_addReport_4 : decode cX2_addReport 4 = .ok (.iconst 0, 1) := dk_3 (dk_at dksX2_addReport_0 4 rfl rfl)
theorem dX2_addReport_5 : decode cX2_addReport 5 = .ok (.aload_n 1, 1) := dk_43 (dk_at dksX2_addReport_0 5 rfl rfl)
theorem dX2_addReport_6 : decode cX2_addReport 6 = .ok (.iconst 0, 1) := dk_3 (dk_at dksX2_addReport_0 6 rfl rfl)
theorem dX2_addReport_7 : decode cX2_addReport 7 = .ok (.invokevirtual 152, 3) := dk_182 0 152 (dk_at dksX2_addReport_0 7 rfl rfl)
theorem dX2_addReport_10 : decode cX2_addReport 10 = .ok (.iastore, 1) := dk_79 (dk_at dksX2_addReport_0 10 rfl rfl)
theorem dX2_addReport_11 : decode cX2_addReport 11 = .ok (.dup, 1) := dk_89 (dk_at dksX2_addReport_0 11 rfl rfl)
theorem dX2_addReport_12 : decode cX2_addReport 12 = .ok (.iconst 1, 1) := dk_4 (dk_at dksX2_addReport_0 12 rfl rfl)
theorem dX2_addReport_13 : decode cX2_addReport 13 = .ok (.aload_n 1, 1) := dk_43 (dk_at dksX2_addReport_0 13 rfl rfl)
theorem dX2_addReport_14 : decode cX2_addReport 14 = .ok (.iconst 1, 1) := dk_4 (dk_at dksX2_addReport_0 14 rfl rfl)
theorem dX2_addReport_15 : decode cX2_addReport 15 = .ok (.invokevirtual 152, 3) := dk_182 0 152 (dk_at dksX2_addReport_0 15 rfl rfl)
theorem dX2_addReport_18 : decode cX2_addReport 18 = .ok (.iastore, 1) := dk_79 (dk_at dksX2_addReport_0 18 rfl rfl)
theorem dX2_addReport_19 : decode cX2_addReport 19 = .ok (.dup, 1) := dk_89 (dk_at dksX2_addReport_0 19 rfl rfl)
theorem dX2_addReport_20 : decode cX2_addReport 20 = .ok (.iconst 2, 1) := dk_5 (dk_at dksX2_addReport_0 20 rfl rfl)
theorem dX2_addReport_21 : decode cX2_addReport 21 = .ok (.aload_n 1, 1) := dk_43 (dk_at dksX2_addReport_0 21 rfl rfl)
theorem dX2_addReport_22 : decode cX2_addReport 22 = .ok (.iconst 2, 1) := dk_5 (dk_at dksX2_addReport_0 22 rfl rfl)
theorem dX2_addReport_23 : decode cX2_addReport 23 = .ok (.invokevirtual 152, 3) := dk_182 0 152 (dk_at dksX2_addReport_1 0 rfl rfl)
theorem dX2_addReport_26 : decode cX2_addReport 26 = .ok (.iastore, 1) := dk_79 (dk_at dksX2_addReport_1 3 rfl rfl)
theorem dX2_addReport_27 : decode cX2_addReport 27 = .ok (.invokestatic 129, 3) := dk_184 0 129 (dk_at dksX2_addReport_1 4 rfl rfl)
theorem dX2_addReport_30 : decode cX2_addReport 30 = .ok (.bipush 97, 2) := dk_16 97 (dk_at dksX2_addReport_1 7 rfl rfl)
theorem dX2_addReport_32 : decode cX2_addReport 32 = .ok (.invokestatic 137, 3) := dk_184 0 137 (dk_at dksX2_addReport_1 9 rfl rfl)
theorem dX2_addReport_35 : decode cX2_addReport 35 = .ok (.iload_n 2, 1) := dk_28 (dk_at dksX2_addReport_1 12 rfl rfl)
theorem dX2_addReport_36 : decode cX2_addReport 36 = .ok (.iconst 0, 1) := dk_3 (dk_at dksX2_addReport_1 13 rfl rfl)
theorem dX2_addReport_37 : decode cX2_addReport 37 = .ok (.sipush 9999, 3) := dk_17 39 15 (dk_at dksX2_addReport_1 14 rfl rfl)
theorem dX2_addReport_40 : decode cX2_addReport 40 = .ok (.invokestatic 133, 3) := dk_184 0 133 (dk_at dksX2_addReport_1 17 rfl rfl)
theorem dX2_addReport_43 : decode cX2_addReport 43 = .ok (.ifCond .eq 17, 3) := dk_153 0 17 (dk_at dksX2_addReport_1 20 rfl rfl)
theorem dX2_addReport_46 : decode cX2_addReport 46 = .ok (.iload_n 3, 1) := dk_29 (dk_at dksX2_addReport_1 23 rfl rfl)
theorem dX2_addReport_47 : decode cX2_addReport 47 = .ok (.iconst 1, 1) := dk_4 (dk_at dksX2_addReport_2 0 rfl rfl)
theorem dX2_addReport_48 : decode cX2_addReport 48 = .ok (.bipush 99, 2) := dk_16 99 (dk_at dksX2_addReport_2 1 rfl rfl)
theorem dX2_addReport_50 : decode cX2_addReport 50 = .ok (.invokestatic 133, 3) := dk_184 0 133 (dk_at dksX2_addReport_2 3 rfl rfl)
theorem dX2_addReport_53 : decode cX2_addReport 53 = .ok (.ifCond .eq 7, 3) := dk_153 0 7 (dk_at dksX2_addReport_2 6 rfl rfl)
theorem dX2_addReport_56 : decode cX2_addReport 56 = .ok (.iconst 1, 1) := dk_4 (dk_at dksX2_addReport_2 9 rfl rfl)
theorem dX2_addReport_57 : decode cX2_addReport 57 = .ok (.goto 4, 3) := dk_167 0 4 (dk_at dksX2_addReport_2 10 rfl rfl)
theorem dX2_addReport_60 : decode cX2_addReport 60 = .ok (.iconst 0, 1) := dk_3 (dk_at dksX2_addReport_2 13 rfl rfl)
theorem dX2_addReport_61 : decode cX2_addReport 61 = .ok (.bipush 97, 2) := dk_16 97 (dk_at dksX2_addReport_2 14 rfl rfl)
theorem dX2_addReport_63 : decode cX2_addReport 63 = .ok (.invokestatic 137, 3) := dk_184 0 137 (dk_at dksX2_addReport_2 16 rfl rfl)
theorem dX2_addReport_66 : decode cX2_addReport 66 = .ok (.aload_n 0, 1) := dk_42 (dk_at dksX2_addReport_2 19 rfl rfl)
theorem dX2_addReport_67 : decode cX2_addReport 67 = .ok (.getfield 21, 3) := dk_180 0 21 (dk_at dksX2_addReport_2 20 rfl rfl)
theorem dX2_addReport_70 : decode cX2_addReport 70 = .ok (.invokeinterface 34 1, 5) := by decide +kernel
theorem dX2_addReport_75 : decode cX2_addReport 75 = .ok (.bipush 6, 2) := dk_16 6 (dk_at dksX2_addReport_3 5 rfl rfl)
theorem dX2_addReport_77 : decode cX2_addReport 77 = .ok (.if_icmp .ge 7, 3) := dk_162 0 7 (dk_at dksX2_addReport_3 7 rfl rfl)
theorem dX2_addReport_80 : decode cX2_addReport 80 = .ok (.iconst 1, 1) := dk_4 (dk_at dksX2_addReport_3 10 rfl rfl)
theorem dX2_addReport_81 : decode cX2_addReport 81 = .ok (.goto 4, 3) := dk_167 0 4 (dk_at dksX2_addReport_3 11 rfl rfl)
theorem dX2_addReport_84 : decode cX2_addReport 84 = .ok (.iconst 0, 1) := dk_3 (dk_at dksX2_addReport_3 14 rfl rfl)
theorem dX2_addReport_85 : decode cX2_addReport 85 = .ok (.bipush 115, 2) := dk_16 115 (dk_at dksX2_addReport_3 15 rfl rfl)
theorem dX2_addReport_87 : decode cX2_addReport 87 = .ok (.invokestatic 137, 3) := dk_184 0 137 (dk_at dksX2_addReport_3 17 rfl rfl)
theorem dX2_addReport_90 : decode cX2_addReport 90 = .ok (.aload_n 0, 1) := dk_42 (dk_at dksX2_addReport_3 20 rfl rfl)
theorem dX2_addReport_91 : decode cX2_addReport 91 = .ok (.getfield 21, 3) := dk_180 0 21 (dk_at dksX2_addReport_3 21 rfl rfl)
theorem dX2_addReport_94 : decode cX2_addReport 94 = .ok (.new 44, 3) := dk_187 0 44 (dk_at dksX2_addReport_4 0 rfl rfl)
theorem dX2_addReport_97 : decode cX2_addReport 97 = .ok (.dup, 1) := dk_89 (dk_at dksX2_addReport_4 3 rfl rfl)
theorem dX2_addReport_98 : decode cX2_addReport 98 = .ok (.aload_n 0, 1) := dk_42 (dk_at dksX2_addReport_4 4 rfl rfl)
theorem dX2_addReport_99 : decode cX2_addReport 99 = .ok (.getfield 54, 3) := dk_180 0 54 (dk_at dksX2_addReport_4 5 rfl rfl)
theorem dX2_addReport_102 : decode cX2_addReport 102 = .ok (.aload_n 1, 1) := dk_43 (dk_at dksX2_addReport_4 8 rfl rfl)
theorem dX2_addReport_103 : decode cX2_addReport 103 = .ok (.iload_n 2, 1) := dk_28 (dk_at dksX2_addReport_4 9 rfl rfl)
theorem dX2_addReport_104 : decode cX2_addReport 104 = .ok (.iload_n 3, 1) := dk_29 (dk_at dksX2_addReport_4 10 rfl rfl)
theorem dX2_addReport_105 : decode cX2_addReport 105 = .ok (.invokespecial 155, 3) := dk_183 0 155 (dk_at dksX2_addReport_4 11 rfl rfl)
theorem dX2_addReport_108 : decode cX2_addReport 108 = .ok (.invokeinterface 46 2, 5) := by decide +kernel
theorem dX2_addReport_113 : decode cX2_addReport 113 = .ok (.pop, 1) := dk_87 (dk_at dksX2_addReport_4 19 rfl rfl)
theorem dX2_addReport_114 : decode cX2_addReport 114 = .ok (.aload_n 0, 1) := dk_42 (dk_at dksX2_addReport_4 20 rfl rfl)
theorem dX2_addReport_115 : decode cX2_addReport 115 = .ok (.dup, 1) := dk_89 (dk_at dksX2_addReport_4 21 rfl rfl)
theorem dX2_addReport_116 : decode cX2_addReport 116 = .ok (.getfield 54, 3) := dk_180 0 54 (dk_at dksX2_addReport_5 0 rfl rfl)
theorem dX2_addReport_119 : decode cX2_addReport 119 = .ok (.iconst 1, 1) := dk_4 (dk_at dksX2_addReport_5 3 rfl rfl)
theorem dX2_addReport_120 : decode cX2_addReport 120 = .ok (.iadd, 1) := dk_96 (dk_at dksX2_addReport_5 4 rfl rfl)
theorem dX2_addReport_121 : decode cX2_addReport 121 = .ok (.putfield 54, 3) := dk_181 0 54 (dk_at dksX2_addReport_5 5 rfl rfl)
theorem dX2_addReport_124 : decode cX2_addReport 124 = .ok (.aload_n 0, 1) := dk_42 (dk_at dksX2_addReport_5 8 rfl rfl)
theorem dX2_addReport_125 : decode cX2_addReport 125 = .ok (.getfield 54, 3) := dk_180 0 54 (dk_at dksX2_addReport_5 9 rfl rfl)
theorem dX2_addReport_128 : decode cX2_addReport 128 = .ok (.iconst 1, 1) := dk_4 (dk_at dksX2_addReport_5 12 rfl rfl)
theorem dX2_addReport_129 : decode cX2_addReport 129 = .ok (.isub, 1) := dk_100 (dk_at dksX2_addReport_5 13 rfl rfl)
theorem dX2_addReport_130 : decode cX2_addReport 130 = .ok (.ireturn, 1) := dk_172 (dk_at dksX2_addReport_5 14 rfl rfl)
def dkwX2_withdraw_1 : List UInt8 := [87, 42, 180, 0, 21, 185, 0, 34, 1, 0, 172]
abbrev dktX2_withdraw_1 : List UInt8 := dkwX2_withdraw_1 ++ []
def dkwX2_withdraw_0 : List UInt8 := [42, 27, 182, 0, 158, 16, 101, 184, 0, 137, 42, 180, 0, 21, 42, 27, 182, 0, 87, 185, 0, 162, 2, 0]
abbrev dktX2_withdraw_0 : List UInt8 := dkwX2_withdraw_0 ++ dktX2_withdraw_1
theorem dksX2_withdraw_0 : cX2_withdraw.data.toList.drop 0 = dktX2_withdraw_0 := by decide +kernel
theorem dksX2_withdraw_1 : cX2_withdraw.data.toList.drop 24 = dktX2_withdraw_1 := dk_seg dksX2_withdraw_0 24 rfl rfl
theorem dX2_withdraw_0 : decode cX2_withdraw 0 = .ok (.aload_n 0, 1) := dk_42 (dk_at dksX2_withdraw_0 0 rfl rfl)
theorem dX2_withdraw_1 : decode cX2_withdraw 1 = .ok (.iload_n 1, 1) := dk_27 (dk_at dksX2_withdraw_0 1 rfl rfl)
theorem dX2_withdraw_2 : decode cX2_withdraw 2 = .ok (.invokevirtual 158, 3) := dk_182 0 158 (dk_at dksX2_withdraw_0 2 rfl rfl)
theorem dX2_withdraw_5 : decode cX2_withdraw 5 = .ok (.bipush 101, 2) := dk_16 101 (dk_at dksX2_withdraw_0 5 rfl rfl)
theorem dX2_withdraw_7 : decode cX2_withdraw 7 = .ok (.invokestatic 137, 3) := dk_184 0 137 (dk_at dksX2_withdraw_0 7 rfl rfl)
theorem dX2_withdraw_10 : decode cX2_withdraw 10 = .ok (.aload_n 0, 1) := dk_42 (dk_at dksX2_withdraw_0 10 rfl rfl)
theorem dX2_withdraw_11 : decode cX2_withdraw 11 = .ok (.getfield 21, 3) := dk_180 0 21 (dk_at dksX2_withdraw_0 11 rfl rfl)
theorem dX2_withdraw_14 : decode cX2_withdraw 14 = .ok (.aload_n 0, 1) := dk_42 (dk_at dksX2_withdraw_0 14 rfl rfl)
theorem dX2_withdraw_15 : decode cX2_withdraw 15 = .ok (.iload_n 1, 1) := dk_27 (dk_at dksX2_withdraw_0 15 rfl rfl)
theorem dX2_withdraw_16 : decode cX2_withdraw 16 = .ok (.invokevirtual 87, 3) := dk_182 0 87 (dk_at dksX2_withdraw_0 16 rfl rfl)
theorem dX2_withdraw_19 : decode cX2_withdraw 19 = .ok (.invokeinterface 162 2, 5) := by decide +kernel
theorem dX2_withdraw_24 : decode cX2_withdraw 24 = .ok (.pop, 1) := dk_87 (dk_at dksX2_withdraw_1 0 rfl rfl)
theorem dX2_withdraw_25 : decode cX2_withdraw 25 = .ok (.aload_n 0, 1) := dk_42 (dk_at dksX2_withdraw_1 1 rfl rfl)
theorem dX2_withdraw_26 : decode cX2_withdraw 26 = .ok (.getfield 21, 3) := dk_180 0 21 (dk_at dksX2_withdraw_1 2 rfl rfl)
theorem dX2_withdraw_29 : decode cX2_withdraw 29 = .ok (.invokeinterface 34 1, 5) := by decide +kernel
theorem dX2_withdraw_34 : decode cX2_withdraw 34 = .ok (.ireturn, 1) := dk_172 (dk_at dksX2_withdraw_1 10 rfl rfl)
def dkwX2_hasReport_0 : List UInt8 := [42, 27, 182, 0, 87, 2, 159, 0, 7, 4, 167, 0, 4, 3, 172]
abbrev dktX2_hasReport_0 : List UInt8 := dkwX2_hasReport_0 ++ []
theorem dksX2_hasReport_0 : cX2_hasReport.data.toList.drop 0 = dktX2_hasReport_0 := by decide +kernel
theorem dX2_hasReport_0 : decode cX2_hasReport 0 = .ok (.aload_n 0, 1) := dk_42 (dk_at dksX2_hasReport_0 0 rfl rfl)
theorem dX2_hasReport_1 : decode cX2_hasReport 1 = .ok (.iload_n 1, 1) := dk_27 (dk_at dksX2_hasReport_0 1 rfl rfl)
theorem dX2_hasReport_2 : decode cX2_hasReport 2 = .ok (.invokevirtual 87, 3) := dk_182 0 87 (dk_at dksX2_hasReport_0 2 rfl rfl)
theorem dX2_hasReport_5 : decode cX2_hasReport 5 = .ok (.iconst (-1), 1) := dk_2 (dk_at dksX2_hasReport_0 5 rfl rfl)
theorem dX2_hasReport_6 : decode cX2_hasReport 6 = .ok (.if_icmp .eq 7, 3) := dk_159 0 7 (dk_at dksX2_hasReport_0 6 rfl rfl)
theorem dX2_hasReport_9 : decode cX2_hasReport 9 = .ok (.iconst 1, 1) := dk_4 (dk_at dksX2_hasReport_0 9 rfl rfl)
theorem dX2_hasReport_10 : decode cX2_hasReport 10 = .ok (.goto 4, 3) := dk_167 0 4 (dk_at dksX2_hasReport_0 10 rfl rfl)
theorem dX2_hasReport_13 : decode cX2_hasReport 13 = .ok (.iconst 0, 1) := dk_3 (dk_at dksX2_hasReport_0 13 rfl rfl)
theorem dX2_hasReport_14 : decode cX2_hasReport 14 = .ok (.ireturn, 1) := dk_172 (dk_at dksX2_hasReport_0 14 rfl rfl)
def dkwX2_placeOfReport_2 : List UInt8 := [167, 255, 214, 28, 172]
abbrev dktX2_placeOfReport_2 : List UInt8 := dkwX2_placeOfReport_2 ++ []
def dkwX2_placeOfReport_1 : List UInt8 := [185, 0, 40, 2, 0, 192, 0, 44, 180, 0, 84, 27, 160, 0, 7, 29, 167, 0, 4, 28, 61, 132, 3, 1]
abbrev dktX2_placeOfReport_1 : List UInt8 := dkwX2_placeOfReport_1 ++ dktX2_placeOfReport_2
def dkwX2_placeOfReport_0 : List UInt8 := [2, 61, 3, 62, 29, 42, 180, 0, 21, 185, 0, 34, 1, 0, 162, 0, 35, 42, 180, 0, 21, 29]
abbrev dktX2_placeOfReport_0 : List UInt8 := dkwX2_placeOfReport_0 ++ dktX2_placeOfReport_1
theorem dksX2_placeOfReport_0 : cX2_placeOfReport.data.toList.drop 0 = dktX2_placeOfReport_0 := by decide +kernel
theorem dksX2_placeOfReport_1 : cX2_placeOfReport.data.toList.drop 22 = dktX2_placeOfReport_1 := dk_seg dksX2_placeOfReport_0 22 rfl rfl
theorem dksX2_placeOfReport_2 : cX2_placeOfReport.data.toList.drop 46 = dktX2_placeOfReport_2 := dk_seg dksX2_placeOfReport_1 24 rfl rfl
theorem dX2_placeOfReport_0 : decode cX2_placeOfReport 0 = .ok (.iconst (-1), 1) := dk_2 (dk_at dksX2_placeOfReport_0 0 rfl rfl)
theorem dX2_placeOfReport_1 : decode cX2_placeOfReport 1 = .ok (.istore_n 2, 1) := dk_61 (dk_at dksX2_placeOfReport_0 1 rfl rfl)
theorem dX2_placeOfReport_2 : decode cX2_placeOfReport 2 = .ok (.iconst 0, 1) := dk_3 (dk_at dksX2_placeOfReport_0 2 rfl rfl)
theorem dX2_placeOfReport_3 : decode cX2_placeOfReport 3 = .ok (.istore_n 3, 1) := dk_62 (dk_at dksX2_placeOfReport_0 3 rfl rfl)
theorem dX2_placeOfReport_4 : decode cX2_placeOfReport 4 = .ok (.iload_n 3, 1) := dk_29 (dk_at dksX2_placeOfReport_0 4 rfl rfl)
theorem dX2_placeOfReport_5 : decode cX2_placeOfReport 5 = .ok (.aload_n 0, 1) := dk_42 (dk_at dksX2_placeOfReport_0 5 rfl rfl)
theorem dX2_placeOfReport_6 : decode cX2_placeOfReport 6 = .ok (.getfield 21, 3) := dk_180 0 21 (dk_at dksX2_placeOfReport_0 6 rfl rfl)
theorem dX2_placeOfReport_9 : decode cX2_placeOfReport 9 = .ok (.invokeinterface 34 1, 5) := by decide +kernel
theorem dX2_placeOfReport_14 : decode cX2_placeOfReport 14 = .ok (.if_icmp .ge 35, 3) := dk_162 0 35 (dk_at dksX2_placeOfReport_0 14 rfl rfl)
theorem dX2_placeOfReport_17 : decode cX2_placeOfReport 17 = .ok (.aload_n 0, 1) := dk_42 (dk_at dksX2_placeOfReport_0 17 rfl rfl)
theorem dX2_placeOfReport_18 : decode cX2_placeOfReport 18 = .ok (.getfield 21, 3) := dk_180 0 21 (dk_at dksX2_placeOfReport_0 18 rfl rfl)
theorem dX2_placeOfReport_21 : decode cX2_placeOfReport 21 = .ok (.iload_n 3, 1) := dk_29 (dk_at dksX2_placeOfReport_0 21 rfl rfl)
theorem dX2_placeOfReport_22 : decode cX2_placeOfReport 22 = .ok (.invokeinterface 40 2, 5) := by decide +kernel
theorem dX2_placeOfReport_27 : decode cX2_placeOfReport 27 = .ok (.checkcast 44, 3) := dk_192 0 44 (dk_at dksX2_placeOfReport_1 5 rfl rfl)
theorem dX2_placeOfReport_30 : decode cX2_placeOfReport 30 = .ok (.getfield 84, 3) := dk_180 0 84 (dk_at dksX2_placeOfReport_1 8 rfl rfl)
theorem dX2_placeOfReport_33 : decode cX2_placeOfReport 33 = .ok (.iload_n 1, 1) := dk_27 (dk_at dksX2_placeOfReport_1 11 rfl rfl)
theorem dX2_placeOfReport_34 : decode cX2_placeOfReport 34 = .ok (.if_icmp .ne 7, 3) := dk_160 0 7 (dk_at dksX2_placeOfReport_1 12 rfl rfl)
theorem dX2_placeOfReport_37 : decode cX2_placeOfReport 37 = .ok (.iload_n 3, 1) := dk_29 (dk_at dksX2_placeOfReport_1 15 rfl rfl)
theorem dX2_placeOfReport_38 : decode cX2_placeOfReport 38 = .ok (.goto 4, 3) := dk_167 0 4 (dk_at dksX2_placeOfReport_1 16 rfl rfl)
theorem dX2_placeOfReport_41 : decode cX2_placeOfReport 41 = .ok (.iload_n 2, 1) := dk_28 (dk_at dksX2_placeOfReport_1 19 rfl rfl)
theorem dX2_placeOfReport_42 : decode cX2_placeOfReport 42 = .ok (.istore_n 2, 1) := dk_61 (dk_at dksX2_placeOfReport_1 20 rfl rfl)
theorem dX2_placeOfReport_43 : decode cX2_placeOfReport 43 = .ok (.iinc 3 1, 3) := dk_132 3 1 (dk_at dksX2_placeOfReport_1 21 rfl rfl)
theorem dX2_placeOfReport_46 : decode cX2_placeOfReport 46 = .ok (.goto (-42), 3) := dk_167 255 214 (dk_at dksX2_placeOfReport_2 0 rfl rfl)
theorem dX2_placeOfReport_49 : decode cX2_placeOfReport 49 = .ok (.iload_n 2, 1) := dk_28 (dk_at dksX2_placeOfReport_2 3 rfl rfl)
theorem dX2_placeOfReport_50 : decode cX2_placeOfReport 50 = .ok (.ireturn, 1) := dk_172 (dk_at dksX2_placeOfReport_2 4 rfl rfl)
def dkwX2_discard_1 : List UInt8 := [100, 181, 0, 60, 42, 89, 180, 0, 66, 4, 96, 181, 0, 66, 42, 180, 0, 12, 182, 0, 141, 172]
abbrev dktX2_discard_1 : List UInt8 := dkwX2_discard_1 ++ []
def dkwX2_discard_0 : List UInt8 := [42, 27, 182, 0, 165, 16, 101, 184, 0, 137, 42, 180, 0, 12, 27, 182, 0, 168, 42, 89, 180, 0, 60, 4]
abbrev dktX2_discard_0 : List UInt8 := dkwX2_discard_0 ++ dktX2_discard_1
theorem dksX2_discard_0 : cX2_discard.data.toList.drop 0 = dktX2_discard_0 := by decide +kernel
theorem dksX2_discard_1 : cX2_discard.data.toList.drop 24 = dktX2_discard_1 := dk_seg dksX2_discard_0 24 rfl rfl
theorem dX2_discard_0 : decode cX2_discard 0 = .ok (.aload_n 0, 1) := dk_42 (dk_at dksX2_discard_0 0 rfl rfl)
theorem dX2_discard_1 : decode cX2_discard 1 = .ok (.iload_n 1, 1) := dk_27 (dk_at dksX2_discard_0 1 rfl rfl)
theorem dX2_discard_2 : decode cX2_discard 2 = .ok (.invokevirtual 165, 3) := dk_182 0 165 (dk_at dksX2_discard_0 2 rfl rfl)
theorem dX2_discard_5 : decode cX2_discard 5 = .ok (.bipush 101, 2) := dk_16 101 (dk_at dksX2_discard_0 5 rfl rfl)
theorem dX2_discard_7 : decode cX2_discard 7 = .ok (.invokestatic 137, 3) := dk_184 0 137 (dk_at dksX2_discard_0 7 rfl rfl)
theorem dX2_discard_10 : decode cX2_discard 10 = .ok (.aload_n 0, 1) := dk_42 (dk_at dksX2_discard_0 10 rfl rfl)
theorem dX2_discard_11 : decode cX2_discard 11 = .ok (.getfield 12, 3) := dk_180 0 12 (dk_at dksX2_discard_0 11 rfl rfl)
theorem dX2_discard_14 : decode cX2_discard 14 = .ok (.iload_n 1, 1) := dk_27 (dk_at dksX2_discard_0 14 rfl rfl)
theorem dX2_discard_15 : decode cX2_discard 15 = .ok (.invokevirtual 168, 3) := dk_182 0 168 (dk_at dksX2_discard_0 15 rfl rfl)
theorem dX2_discard_18 : decode cX2_discard 18 = .ok (.aload_n 0, 1) := dk_42 (dk_at dksX2_discard_0 18 rfl rfl)
theorem dX2_discard_19 : decode cX2_discard 19 = .ok (.dup, 1) := dk_89 (dk_at dksX2_discard_0 19 rfl rfl)
theorem dX2_discard_20 : decode cX2_discard 20 = .ok (.getfield 60, 3) := dk_180 0 60 (dk_at dksX2_discard_0 20 rfl rfl)
theorem dX2_discard_23 : decode cX2_discard 23 = .ok (.iconst 1, 1) := dk_4 (dk_at dksX2_discard_0 23 rfl rfl)
theorem dX2_discard_24 : decode cX2_discard 24 = .ok (.isub, 1) := dk_100 (dk_at dksX2_discard_1 0 rfl rfl)
theorem dX2_discard_25 : decode cX2_discard 25 = .ok (.putfield 60, 3) := dk_181 0 60 (dk_at dksX2_discard_1 1 rfl rfl)
theorem dX2_discard_28 : decode cX2_discard 28 = .ok (.aload_n 0, 1) := dk_42 (dk_at dksX2_discard_1 4 rfl rfl)
theorem dX2_discard_29 : decode cX2_discard 29 = .ok (.dup, 1) := dk_89 (dk_at dksX2_discard_1 5 rfl rfl)
theorem dX2_discard_30 : decode cX2_discard 30 = .ok (.getfield 66, 3) := dk_180 0 66 (dk_at dksX2_discard_1 6 rfl rfl)
theorem dX2_discard_33 : decode cX2_discard 33 = .ok (.iconst 1, 1) := dk_4 (dk_at dksX2_discard_1 9 rfl rfl)
theorem dX2_discard_34 : decode cX2_discard 34 = .ok (.iadd, 1) := dk_96 (dk_at dksX2_discard_1 10 rfl rfl)
theorem dX2_discard_35 : decode cX2_discard 35 = .ok (.putfield 66, 3) := dk_181 0 66 (dk_at dksX2_discard_1 11 rfl rfl)
theorem dX2_discard_38 : decode cX2_discard 38 = .ok (.aload_n 0, 1) := dk_42 (dk_at dksX2_discard_1 14 rfl rfl)
theorem dX2_discard_39 : decode cX2_discard 39 = .ok (.getfield 12, 3) := dk_180 0 12 (dk_at dksX2_discard_1 15 rfl rfl)
theorem dX2_discard_42 : decode cX2_discard 42 = .ok (.invokevirtual 141, 3) := dk_182 0 141 (dk_at dksX2_discard_1 18 rfl rfl)
theorem dX2_discard_45 : decode cX2_discard 45 = .ok (.ireturn, 1) := dk_172 (dk_at dksX2_discard_1 21 rfl rfl)
def dkwX2_hasColour_0 : List UInt8 := [42, 180, 0, 12, 27, 182, 0, 76, 2, 159, 0, 7, 4, 167, 0, 4, 3, 172]
abbrev dktX2_hasColour_0 : List UInt8 := dkwX2_hasColour_0 ++ []
theorem dksX2_hasColour_0 : cX2_hasColour.data.toList.drop 0 = dktX2_hasColour_0 := by decide +kernel
theorem dX2_hasColour_0 : decode cX2_hasColour 0 = .ok (.aload_n 0, 1) := dk_42 (dk_at dksX2_hasColour_0 0 rfl rfl)
theorem dX2_hasColour_1 : decode cX2_hasColour 1 = .ok (.getfield 12, 3) := dk_180 0 12 (dk_at dksX2_hasColour_0 1 rfl rfl)
theorem dX2_hasColour_4 : decode cX2_hasColour 4 = .ok (.iload_n 1, 1) := dk_27 (dk_at dksX2_hasColour_0 4 rfl rfl)
theorem dX2_hasColour_5 : decode cX2_hasColour 5 = .ok (.invokevirtual 76, 3) := dk_182 0 76 (dk_at dksX2_hasColour_0 5 rfl rfl)
theorem dX2_hasColour_8 : decode cX2_hasColour 8 = .ok (.iconst (-1), 1) := dk_2 (dk_at dksX2_hasColour_0 8 rfl rfl)
theorem dX2_hasColour_9 : decode cX2_hasColour 9 = .ok (.if_icmp .eq 7, 3) := dk_159 0 7 (dk_at dksX2_hasColour_0 9 rfl rfl)
theorem dX2_hasColour_12 : decode cX2_hasColour 12 = .ok (.iconst 1, 1) := dk_4 (dk_at dksX2_hasColour_0 12 rfl rfl)
theorem dX2_hasColour_13 : decode cX2_hasColour 13 = .ok (.goto 4, 3) := dk_167 0 4 (dk_at dksX2_hasColour_0 13 rfl rfl)
theorem dX2_hasColour_16 : decode cX2_hasColour 16 = .ok (.iconst 0, 1) := dk_3 (dk_at dksX2_hasColour_0 16 rfl rfl)
theorem dX2_hasColour_17 : decode cX2_hasColour 17 = .ok (.ireturn, 1) := dk_172 (dk_at dksX2_hasColour_0 17 rfl rfl)
def dkwX2_setMetric_1 : List UInt8 := [42, 27, 181, 0, 25, 28, 172]
abbrev dktX2_setMetric_1 : List UInt8 := dkwX2_setMetric_1 ++ []
def dkwX2_setMetric_0 : List UInt8 := [18, 171, 27, 182, 0, 173, 155, 0, 7, 4, 167, 0, 4, 3, 16, 97, 184, 0, 137, 42, 180, 0, 25, 61]
abbrev dktX2_setMetric_0 : List UInt8 := dkwX2_setMetric_0 ++ dktX2_setMetric_1
theorem dksX2_setMetric_0 : cX2_setMetric.data.toList.drop 0 = dktX2_setMetric_0 := by decide +kernel
theorem dksX2_setMetric_1 : cX2_setMetric.data.toList.drop 24 = dktX2_setMetric_1 := dk_seg dksX2_setMetric_0 24 rfl rfl
theorem dX2_setMetric_0 : decode cX2_setMetric 0 = .ok (.ldc 171, 2) := dk_18 171 (dk_at dksX2_setMetric_0 0 rfl rfl)
theorem dX2_setMetric_2 : decode cX2_setMetric 2 = .ok (.iload_n 1, 1) := dk_27 (dk_at dksX2_setMetric_0 2 rfl rfl)
theorem dX2_setMetric_3 : decode cX2_setMetric 3 = .ok (.invokevirtual 173, 3) := dk_182 0 173 (dk_at dksX2_setMetric_0 3 rfl rfl)
theorem dX2_setMetric_6 : decode cX2_setMetric 6 = .ok (.ifCond .lt 7, 3) := dk_155 0 7 (dk_at dksX2_setMetric_0 6 rfl rfl)
theorem dX2_setMetric_9 : decode cX2_setMetric 9 = .ok (.iconst 1, 1) := dk_4 (dk_at dksX2_setMetric_0 9 rfl rfl)
theorem dX2_setMetric_10 : decode cX2_setMetric 10 = .ok (.goto 4, 3) := dk_167 0 4 (dk_at dksX2_setMetric_0 10 rfl rfl)
theorem dX2_setMetric_13 : decode cX2_setMetric 13 = .ok (.iconst 0, 1) := dk_3 (dk_at dksX2_setMetric_0 13 rfl rfl)
theorem dX2_setMetric_14 : decode cX2_setMetric 14 = .ok (.bipush 97, 2) := dk_16 97 (dk_at dksX2_setMetric_0 14 rfl rfl)
theorem dX2_setMetric_16 : decode cX2_setMetric 16 = .ok (.invokestatic 137, 3) := dk_184 0 137 (dk_at dksX2_setMetric_0 16 rfl rfl)
theorem dX2_setMetric_19 : decode cX2_setMetric 19 = .ok (.aload_n 0, 1) := dk_42 (dk_at dksX2_setMetric_0 19 rfl rfl)
theorem dX2_setMetric_20 : decode cX2_setMetric 20 = .ok (.getfield 25, 3) := dk_180 0 25 (dk_at dksX2_setMetric_0 20 rfl rfl)
theorem dX2_setMetric_23 : decode cX2_setMetric 23 = .ok (.istore_n 2, 1) := dk_61 (dk_at dksX2_setMetric_0 23 rfl rfl)
theorem dX2_setMetric_24 : decode cX2_setMetric 24 = .ok (.aload_n 0, 1) := dk_42 (dk_at dksX2_setMetric_1 0 rfl rfl)
theorem dX2_setMetric_25 : decode cX2_setMetric 25 = .ok (.iload_n 1, 1) := dk_27 (dk_at dksX2_setMetric_1 1 rfl rfl)
theorem dX2_setMetric_26 : decode cX2_setMetric 26 = .ok (.putfield 25, 3) := dk_181 0 25 (dk_at dksX2_setMetric_1 2 rfl rfl)
theorem dX2_setMetric_29 : decode cX2_setMetric 29 = .ok (.iload_n 2, 1) := dk_28 (dk_at dksX2_setMetric_1 5 rfl rfl)
theorem dX2_setMetric_30 : decode cX2_setMetric 30 = .ok (.ireturn, 1) := dk_172 (dk_at dksX2_setMetric_1 6 rfl rfl)
def dkwX2_giveBack_3 : List UInt8 := [153, 0, 7, 4, 167, 0, 4, 3, 16, 117, 184, 0, 137, 42, 27, 28, 182, 0, 199, 172]
abbrev dktX2_giveBack_3 : List UInt8 := dkwX2_giveBack_3 ++ []
def dkwX2_giveBack_2 : List UInt8 := [180, 0, 194, 28, 160, 0, 7, 4, 167, 0, 4, 3, 62, 29, 153, 0, 16, 42, 27, 28, 182, 0, 195]
abbrev dktX2_giveBack_2 : List UInt8 := dkwX2_giveBack_2 ++ dktX2_giveBack_3
def dkwX2_giveBack_1 : List UInt8 := [184, 0, 137, 42, 182, 0, 181, 42, 27, 182, 0, 98, 180, 0, 102, 182, 0, 185, 182, 0, 189, 192, 0, 110]
abbrev dktX2_giveBack_1 : List UInt8 := dkwX2_giveBack_1 ++ dktX2_giveBack_2
def dkwX2_giveBack_0 : List UInt8 := [42, 27, 182, 0, 158, 153, 0, 15, 42, 28, 182, 0, 165, 153, 0, 7, 4, 167, 0, 4, 3, 16, 101]
abbrev dktX2_giveBack_0 : List UInt8 := dkwX2_giveBack_0 ++ dktX2_giveBack_1
theorem dksX2_giveBack_0 : cX2_giveBack.data.toList.drop 0 = dktX2_giveBack_0 := by decide +kernel
theorem dksX2_giveBack_1 : cX2_giveBack.data.toList.drop 23 = dktX2_giveBack_1 := dk_seg dksX2_giveBack_0 23 rfl rfl
theorem dksX2_giveBack_2 : cX2_giveBack.data.toList.drop 47 = dktX2_giveBack_2 := dk_seg dksX2_giveBack_1 24 rfl rfl
theorem dksX2_giveBack_3 : cX2_giveBack.data.toList.drop 70 = dktX2_giveBack_3 := dk_seg dksX2_giveBack_2 23 rfl rfl
theorem dX2_giveBack_0 : decode cX2_giveBack 0 = .ok (.aload_n 0, 1) := dk_42 (dk_at dksX2_giveBack_0 0 rfl rfl)
theorem dX2_giveBack_1 : decode cX2_giveBack 1 = .ok (.iload_n 1, 1) := dk_27 (dk_at dksX2_giveBack_0 1 rfl rfl)
theorem dX2_giveBack_2 : decode cX2_giveBack 2 = .ok (.invokevirtual 158, 3) := dk_182 0 158 (dk_at dksX2_giveBack_0 2 rfl rfl)
theorem dX2_giveBack_5 : decode cX2_giveBack 5 = .ok (.ifCond .eq 15, 3) := dk_153 0 15 (dk_at dksX2_giveBack_0 5 rfl rfl)
theorem dX2_giveBack_8 : decode cX2_giveBack 8 = .ok (.aload_n 0, 1) := dk_42 (dk_at dksX2_giveBack_0 8 rfl rfl)
theorem dX2_giveBack_9 : decode cX2_giveBack 9 = .ok (.iload_n 2, 1) := dk_28 (dk_at dksX2_giveBack_0 9 rfl rfl)
theorem dX2_giveBack_10 : decode cX2_giveBack 10 = .ok (.invokevirtual 165, 3) := dk_182 0 165 (dk_at dksX2_giveBack_0 10 rfl rfl)
theorem dX2_giveBack_13 : decode cX2_giveBack 13 = .ok (.ifCond .eq 7, 3) := dk_153 0 7 (dk_at dksX2_giveBack_0 13 rfl rfl)
theorem dX2_giveBack_16 : decode cX2_giveBack 16 = .ok (.iconst 1, 1) := dk_4 (dk_at dksX2_giveBack_0 16 rfl rfl)
theorem dX2_giveBack_17 : decode cX2_giveBack 17 = .ok (.goto 4, 3) := dk_167 0 4 (dk_at dksX2_giveBack_0 17 rfl rfl)
theorem dX2_giveBack_20 : decode cX2_giveBack 20 = .ok (.iconst 0, 1) := dk_3 (dk_at dksX2_giveBack_0 20 rfl rfl)
theorem dX2_giveBack_21 : decode cX2_giveBack 21 = .ok (.bipush 101, 2) := dk_16 101 (dk_at dksX2_giveBack_0 21 rfl rfl)
theorem dX2_giveBack_23 : decode cX2_giveBack 23 = .ok (.invokestatic 137, 3) := dk_184 0 137 (dk_at dksX2_giveBack_1 0 rfl rfl)
theorem dX2_giveBack_26 : decode cX2_giveBack 26 = .ok (.aload_n 0, 1) := dk_42 (dk_at dksX2_giveBack_1 3 rfl rfl)
theorem dX2_giveBack_27 : decode cX2_giveBack 27 = .ok (.invokevirtual 181, 3) := dk_182 0 181 (dk_at dksX2_giveBack_1 4 rfl rfl)
theorem dX2_giveBack_30 : decode cX2_giveBack 30 = .ok (.aload_n 0, 1) := dk_42 (dk_at dksX2_giveBack_1 7 rfl rfl)
theorem dX2_giveBack_31 : decode cX2_giveBack 31 = .ok (.iload_n 1, 1) := dk_27 (dk_at dksX2_giveBack_1 8 rfl rfl)
theorem dX2_giveBack_32 : decode cX2_giveBack 32 = .ok (.invokevirtual 98, 3) := dk_182 0 98 (dk_at dksX2_giveBack_1 9 rfl rfl)
theorem dX2_giveBack_35 : decode cX2_giveBack 35 = .ok (.getfield 102, 3) := dk_180 0 102 (dk_at dksX2_giveBack_1 12 rfl rfl)
theorem dX2_giveBack_38 : decode cX2_giveBack 38 = .ok (.invokevirtual 185, 3) := dk_182 0 185 (dk_at dksX2_giveBack_1 15 rfl rfl)
theorem dX2_giveBack_41 : decode cX2_giveBack 41 = .ok (.invokevirtual 189, 3) := dk_182 0 189 (dk_at dksX2_giveBack_1 18 rfl rfl)
theorem dX2_giveBack_44 : decode cX2_giveBack 44 = .ok (.checkcast 110, 3) := dk_192 0 110 (dk_at dksX2_giveBack_1 21 rfl rfl)
theorem dX2_giveBack_47 : decode cX2_giveBack 47 = .ok (.getfield 194, 3) := dk_180 0 194 (dk_at dksX2_giveBack_2 0 rfl rfl)
theorem dX2_giveBack_50 : decode cX2_giveBack 50 = .ok (.iload_n 2, 1) := dk_28 (dk_at dksX2_giveBack_2 3 rfl rfl)
theorem dX2_giveBack_51 : decode cX2_giveBack 51 = .ok (.if_icmp .ne 7, 3) := dk_160 0 7 (dk_at dksX2_giveBack_2 4 rfl rfl)
theorem dX2_giveBack_54 : decode cX2_giveBack 54 = .ok (.iconst 1, 1) := dk_4 (dk_at dksX2_giveBack_2 7 rfl rfl)
theorem dX2_giveBack_55 : decode cX2_giveBack 55 = .ok (.goto 4, 3) := dk_167 0 4 (dk_at dksX2_giveBack_2 8 rfl rfl)
theorem dX2_giveBack_58 : decode cX2_giveBack 58 = .ok (.iconst 0, 1) := dk_3 (dk_at dksX2_giveBack_2 11 rfl rfl)
theorem dX2_giveBack_59 : decode cX2_giveBack 59 = .ok (.istore_n 3, 1) := dk_62 (dk_at dksX2_giveBack_2 12 rfl rfl)
theorem dX2_giveBack_60 : decode cX2_giveBack 60 = .ok (.iload_n 3, 1) := dk_29 (dk_at dksX2_giveBack_2 13 rfl rfl)
theorem dX2_giveBack_61 : decode cX2_giveBack 61 = .ok (.ifCond .eq 16, 3) := dk_153 0 16 (dk_at dksX2_giveBack_2 14 rfl rfl)
theorem dX2_giveBack_64 : decode cX2_giveBack 64 = .ok (.aload_n 0, 1) := dk_42 (dk_at dksX2_giveBack_2 17 rfl rfl)
theorem dX2_giveBack_65 : decode cX2_giveBack 65 = .ok (.iload_n 1, 1) := dk_27 (dk_at dksX2_giveBack_2 18 rfl rfl)
theorem dX2_giveBack_66 : decode cX2_giveBack 66 = .ok (.iload_n 2, 1) := dk_28 (dk_at dksX2_giveBack_2 19 rfl rfl)
theorem dX2_giveBack_67 : decode cX2_giveBack 67 = .ok (.invokevirtual 195, 3) := dk_182 0 195 (dk_at dksX2_giveBack_2 20 rfl rfl)
theorem dX2_giveBack_70 : decode cX2_giveBack 70 = .ok (.ifCond .eq 7, 3) := dk_153 0 7 (dk_at dksX2_giveBack_3 0 rfl rfl)
theorem dX2_giveBack_73 : decode cX2_giveBack 73 = .ok (.iconst 1, 1) := dk_4 (dk_at dksX2_giveBack_3 3 rfl rfl)
theorem dX2_giveBack_74 : decode cX2_giveBack 74 = .ok (.goto 4, 3) := dk_167 0 4 (dk_at dksX2_giveBack_3 4 rfl rfl)
theorem dX2_giveBack_77 : decode cX2_giveBack 77 = .ok (.iconst 0, 1) := dk_3 (dk_at dksX2_giveBack_3 7 rfl rfl)
theorem dX2_giveBack_78 : decode cX2_giveBack 78 = .ok (.bipush 117, 2) := dk_16 117 (dk_at dksX2_giveBack_3 8 rfl rfl)
theorem dX2_giveBack_80 : decode cX2_giveBack 80 = .ok (.invokestatic 137, 3) := dk_184 0 137 (dk_at dksX2_giveBack_3 10 rfl rfl)
theorem dX2_giveBack_83 : decode cX2_giveBack 83 = .ok (.aload_n 0, 1) := dk_42 (dk_at dksX2_giveBack_3 13 rfl rfl)
theorem dX2_giveBack_84 : decode cX2_giveBack 84 = .ok (.iload_n 1, 1) := dk_27 (dk_at dksX2_giveBack_3 14 rfl rfl)
theorem dX2_giveBack_85 : decode cX2_giveBack 85 = .ok (.iload_n 2, 1) := dk_28 (dk_at dksX2_giveBack_3 15 rfl rfl)
theorem dX2_giveBack_86 : decode cX2_giveBack 86 = .ok (.invokevirtual 199, 3) := dk_182 0 199 (dk_at dksX2_giveBack_3 16 rfl rfl)
theorem dX2_giveBack_89 : decode cX2_giveBack 89 = .ok (.ireturn, 1) := dk_172 (dk_at dksX2_giveBack_3 19 rfl rfl)
def dkwX2_tree_0 : List UInt8 := [187, 0, 90, 89, 42, 180, 0, 12, 42, 182, 0, 92, 183, 0, 95, 176]
abbrev dktX2_tree_0 : List UInt8 := dkwX2_tree_0 ++ []
theorem dksX2_tree_0 : cX2_tree.data.toList.drop 0 = dktX2_tree_0 := by decide +kernel
theorem dX2_tree_0 : decode cX2_tree 0 = .ok (.new 90, 3) := dk_187 0 90 (dk_at dksX2_tree_0 0 rfl rfl)
theorem dX2_tree_3 : decode cX2_tree 3 = .ok (.dup, 1) := dk_89 (dk_at dksX2_tree_0 3 rfl rfl)
theorem dX2_tree_4 : decode cX2_tree 4 = .ok (.aload_n 0, 1) := dk_42 (dk_at dksX2_tree_0 4 rfl rfl)
theorem dX2_tree_5 : decode cX2_tree 5 = .ok (.getfield 12, 3) := dk_180 0 12 (dk_at dksX2_tree_0 5 rfl rfl)
theorem dX2_tree_8 : decode cX2_tree 8 = .ok (.aload_n 0, 1) := dk_42 (dk_at dksX2_tree_0 8 rfl rfl)
theorem dX2_tree_9 : decode cX2_tree 9 = .ok (.invokevirtual 92, 3) := dk_182 0 92 (dk_at dksX2_tree_0 9 rfl rfl)
theorem dX2_tree_12 : decode cX2_tree 12 = .ok (.invokespecial 95, 3) := dk_183 0 95 (dk_at dksX2_tree_0 12 rfl rfl)
theorem dX2_tree_15 : decode cX2_tree 15 = .ok (.areturn, 1) := dk_176 (dk_at dksX2_tree_0 15 rfl rfl)
def dkwX2_metric_0 : List UInt8 := [42, 180, 0, 25, 184, 0, 72, 176]
abbrev dktX2_metric_0 : List UInt8 := dkwX2_metric_0 ++ []
theorem dksX2_metric_0 : cX2_metric.data.toList.drop 0 = dktX2_metric_0 := by decide +kernel
theorem dX2_metric_0 : decode cX2_metric 0 = .ok (.aload_n 0, 1) := dk_42 (dk_at dksX2_metric_0 0 rfl rfl)
theorem dX2_metric_1 : decode cX2_metric 1 = .ok (.getfield 25, 3) := dk_180 0 25 (dk_at dksX2_metric_0 1 rfl rfl)
theorem dX2_metric_4 : decode cX2_metric 4 = .ok (.invokestatic 72, 3) := dk_184 0 72 (dk_at dksX2_metric_0 4 rfl rfl)
theorem dX2_metric_7 : decode cX2_metric 7 = .ok (.areturn, 1) := dk_176 (dk_at dksX2_metric_0 7 rfl rfl)
def dkwX2_report_0 : List UInt8 := [42, 180, 0, 21, 42, 27, 182, 0, 87, 185, 0, 40, 2, 0, 192, 0, 44, 176]
abbrev dktX2_report_0 : List UInt8 := dkwX2_report_0 ++ []
theorem dksX2_report_0 : cX2_report.data.toList.drop 0 = dktX2_report_0 := by decide +kernel
theorem dX2_report_0 : decode cX2_report 0 = .ok (.aload_n 0, 1) := dk_42 (dk_at dksX2_report_0 0 rfl rfl)
theorem dX2_report_1 : decode cX2_report 1 = .ok (.getfield 21, 3) := dk_180 0 21 (dk_at dksX2_report_0 1 rfl rfl)
theorem dX2_report_4 : decode cX2_report 4 = .ok (.aload_n 0, 1) := dk_42 (dk_at dksX2_report_0 4 rfl rfl)
theorem dX2_report_5 : decode cX2_report 5 = .ok (.iload_n 1, 1) := dk_27 (dk_at dksX2_report_0 5 rfl rfl)
theorem dX2_report_6 : decode cX2_report 6 = .ok (.invokevirtual 87, 3) := dk_182 0 87 (dk_at dksX2_report_0 6 rfl rfl)
theorem dX2_report_9 : decode cX2_report 9 = .ok (.invokeinterface 40 2, 5) := by decide +kernel
theorem dX2_report_14 : decode cX2_report 14 = .ok (.checkcast 44, 3) := dk_192 0 44 (dk_at dksX2_report_0 14 rfl rfl)
theorem dX2_report_17 : decode cX2_report 17 = .ok (.areturn, 1) := dk_176 (dk_at dksX2_report_0 17 rfl rfl)
def dkwX2_fits_0 : List UInt8 := [42, 27, 28, 182, 0, 116, 42, 27, 182, 0, 98, 180, 0, 120, 163, 0, 7, 4, 167, 0, 4, 3, 172]
abbrev dktX2_fits_0 : List UInt8 := dkwX2_fits_0 ++ []
theorem dksX2_fits_0 : cX2_fits.data.toList.drop 0 = dktX2_fits_0 := by decide +kernel
theorem dX2_fits_0 : decode cX2_fits 0 = .ok (.aload_n 0, 1) := dk_42 (dk_at dksX2_fits_0 0 rfl rfl)
theorem dX2_fits_1 : decode cX2_fits 1 = .ok (.iload_n 1, 1) := dk_27 (dk_at dksX2_fits_0 1 rfl rfl)
theorem dX2_fits_2 : decode cX2_fits 2 = .ok (.iload_n 2, 1) := dk_28 (dk_at dksX2_fits_0 2 rfl rfl)
theorem dX2_fits_3 : decode cX2_fits 3 = .ok (.invokevirtual 116, 3) := dk_182 0 116 (dk_at dksX2_fits_0 3 rfl rfl)
theorem dX2_fits_6 : decode cX2_fits 6 = .ok (.aload_n 0, 1) := dk_42 (dk_at dksX2_fits_0 6 rfl rfl)
theorem dX2_fits_7 : decode cX2_fits 7 = .ok (.iload_n 1, 1) := dk_27 (dk_at dksX2_fits_0 7 rfl rfl)
theorem dX2_fits_8 : decode cX2_fits 8 = .ok (.invokevirtual 98, 3) := dk_182 0 98 (dk_at dksX2_fits_0 8 rfl rfl)
theorem dX2_fits_11 : decode cX2_fits 11 = .ok (.getfield 120, 3) := dk_180 0 120 (dk_at dksX2_fits_0 11 rfl rfl)
theorem dX2_fits_14 : decode cX2_fits 14 = .ok (.if_icmp .gt 7, 3) := dk_163 0 7 (dk_at dksX2_fits_0 14 rfl rfl)
theorem dX2_fits_17 : decode cX2_fits 17 = .ok (.iconst 1, 1) := dk_4 (dk_at dksX2_fits_0 17 rfl rfl)
theorem dX2_fits_18 : decode cX2_fits 18 = .ok (.goto 4, 3) := dk_167 0 4 (dk_at dksX2_fits_0 18 rfl rfl)
theorem dX2_fits_21 : decode cX2_fits 21 = .ok (.iconst 0, 1) := dk_3 (dk_at dksX2_fits_0 21 rfl rfl)
theorem dX2_fits_22 : decode cX2_fits 22 = .ok (.ireturn, 1) := dk_172 (dk_at dksX2_fits_0 22 rfl rfl)
def dkwX2_distanceFor_0 : List UInt8 := [42, 182, 0, 92, 42, 27, 182, 0, 98, 180, 0, 102, 42, 28, 182, 0, 106, 180, 0, 109, 184, 0, 112, 172]
abbrev dktX2_distanceFor_0 : List UInt8 := dkwX2_distanceFor_0 ++ []
theorem dksX2_distanceFor_0 : cX2_distanceFor.data.toList.drop 0 = dktX2_distanceFor_0 := by decide +kernel
theorem dX2_distanceFor_0 : decode cX2_distanceFor 0 = .ok (.aload_n 0, 1) := dk_42 (dk_at dksX2_distanceFor_0 0 rfl rfl)
theorem dX2_distanceFor_1 : decode cX2_distanceFor 1 = .ok (.invokevirtual 92, 3) := dk_182 0 92 (dk_at dksX2_distanceFor_0 1 rfl rfl)
theorem dX2_distanceFor_4 : decode cX2_distanceFor 4 = .ok (.aload_n 0, 1) := dk_42 (dk_at dksX2_distanceFor_0 4 rfl rfl)
theorem dX2_distanceFor_5 : decode cX2_distanceFor 5 = .ok (.iload_n 1, 1) := dk_27 (dk_at dksX2_distanceFor_0 5 rfl rfl)
theorem dX2_distanceFor_6 : decode cX2_distanceFor 6 = .ok (.invokevirtual 98, 3) := dk_182 0 98 (dk_at dksX2_distanceFor_0 6 rfl rfl)
theorem dX2_distanceFor_9 : decode cX2_distanceFor 9 = .ok (.getfield 102, 3) := dk_180 0 102 (dk_at dksX2_distanceFor_0 9 rfl rfl)
theorem dX2_distanceFor_12 : decode cX2_distanceFor 12 = .ok (.aload_n 0, 1) := dk_42 (dk_at dksX2_distanceFor_0 12 rfl rfl)
theorem dX2_distanceFor_13 : decode cX2_distanceFor 13 = .ok (.iload_n 2, 1) := dk_28 (dk_at dksX2_distanceFor_0 13 rfl rfl)
theorem dX2_distanceFor_14 : decode cX2_distanceFor 14 = .ok (.invokevirtual 106, 3) := dk_182 0 106 (dk_at dksX2_distanceFor_0 14 rfl rfl)
theorem dX2_distanceFor_17 : decode cX2_distanceFor 17 = .ok (.getfield 109, 3) := dk_180 0 109 (dk_at dksX2_distanceFor_0 17 rfl rfl)
theorem dX2_distanceFor_20 : decode cX2_distanceFor 20 = .ok (.invokestatic 112, 3) := dk_184 0 112 (dk_at dksX2_distanceFor_0 20 rfl rfl)
theorem dX2_distanceFor_23 : decode cX2_distanceFor 23 = .ok (.ireturn, 1) := dk_172 (dk_at dksX2_distanceFor_0 23 rfl rfl)
def dkwX2_colour_0 : List UInt8 := [42, 180, 0, 12, 42, 180, 0, 12, 27, 182, 0, 76, 182, 0, 80, 176]
abbrev dktX2_colour_0 : List UInt8 := dkwX2_colour_0 ++ []
theorem dksX2_colour_0 : cX2_colour.data.toList.drop 0 = dktX2_colour_0 := by decide +kernel
theorem dX2_colour_0 : decode cX2_colour 0 = .ok (.aload_n 0, 1) := dk_42 (dk_at dksX2_colour_0 0 rfl rfl)
theorem dX2_colour_1 : decode cX2_colour 1 = .ok (.getfield 12, 3) := dk_180 0 12 (dk_at dksX2_colour_0 1 rfl rfl)
theorem dX2_colour_4 : decode cX2_colour 4 = .ok (.aload_n 0, 1) := dk_42 (dk_at dksX2_colour_0 4 rfl rfl)
theorem dX2_colour_5 : decode cX2_colour 5 = .ok (.getfield 12, 3) := dk_180 0 12 (dk_at dksX2_colour_0 5 rfl rfl)
theorem dX2_colour_8 : decode cX2_colour 8 = .ok (.iload_n 1, 1) := dk_27 (dk_at dksX2_colour_0 8 rfl rfl)
theorem dX2_colour_9 : decode cX2_colour 9 = .ok (.invokevirtual 76, 3) := dk_182 0 76 (dk_at dksX2_colour_0 9 rfl rfl)
theorem dX2_colour_12 : decode cX2_colour 12 = .ok (.invokevirtual 80, 3) := dk_182 0 80 (dk_at dksX2_colour_0 12 rfl rfl)
theorem dX2_colour_15 : decode cX2_colour 15 = .ok (.areturn, 1) := dk_176 (dk_at dksX2_colour_0 15 rfl rfl)
def dkwX2_handOver_2 : List UInt8 := [96, 181, 0, 63, 42, 89, 180, 0, 69, 4, 96, 181, 0, 69, 29, 172]
abbrev dktX2_handOver_2 : List UInt8 := dkwX2_handOver_2 ++ []
def dkwX2_handOver_1 : List UInt8 := [42, 180, 0, 12, 28, 182, 0, 168, 42, 89, 180, 0, 60, 29, 96, 181, 0, 60, 42, 89, 180, 0, 63, 29]
abbrev dktX2_handOver_1 : List UInt8 := dkwX2_handOver_1 ++ dktX2_handOver_2
def dkwX2_handOver_0 : List UInt8 := [42, 27, 182, 0, 98, 180, 0, 178, 62, 42, 180, 0, 21, 42, 27, 182, 0, 87, 185, 0, 162, 2, 0, 87]
abbrev dktX2_handOver_0 : List UInt8 := dkwX2_handOver_0 ++ dktX2_handOver_1
theorem dksX2_handOver_0 : cX2_handOver.data.toList.drop 0 = dktX2_handOver_0 := by decide +kernel
theorem dksX2_handOver_1 : cX2_handOver.data.toList.drop 24 = dktX2_handOver_1 := dk_seg dksX2_handOver_0 24 rfl rfl
theorem dksX2_handOver_2 : cX2_handOver.data.toList.drop 48 = dktX2_handOver_2 := dk_seg dksX2_handOver_1 24 rfl rfl
theorem dX2_handOver_0 : decode cX2_handOver 0 = .ok (.aload_n 0, 1) := dk_42 (dk_at dksX2_handOver_0 0 rfl rfl)
theorem dX2_handOver_1 : decode cX2_handOver 1 = .ok (.iload_n 1, 1) := dk_27 (dk_at dksX2_handOver_0 1 rfl rfl)
theorem dX2_handOver_2 : decode cX2_handOver 2 = .ok (.invokevirtual 98, 3) := dk_182 0 98 (dk_at dksX2_handOver_0 2 rfl rfl)
theorem dX2_handOver_5 : decode cX2_handOver 5 = .ok (.getfield 178, 3) := dk_180 0 178 (dk_at dksX2_handOver_0 5 rfl rfl)
theorem dX2_handOver_8 : decode cX2_handOver 8 = .ok (.istore_n 3, 1) := dk_62 (dk_at dksX2_handOver_0 8 rfl rfl)
theorem dX2_handOver_9 : decode cX2_handOver 9 = .ok (.aload_n 0, 1) := dk_42 (dk_at dksX2_handOver_0 9 rfl rfl)
theorem dX2_handOver_10 : decode cX2_handOver 10 = .ok (.getfield 21, 3) := dk_180 0 21 (dk_at dksX2_handOver_0 10 rfl rfl)
theorem dX2_handOver_13 : decode cX2_handOver 13 = .ok (.aload_n 0, 1) := dk_42 (dk_at dksX2_handOver_0 13 rfl rfl)
theorem dX2_handOver_14 : decode cX2_handOver 14 = .ok (.iload_n 1, 1) := dk_27 (dk_at dksX2_handOver_0 14 rfl rfl)
theorem dX2_handOver_15 : decode cX2_handOver 15 = .ok (.invokevirtual 87, 3) := dk_182 0 87 (dk_at dksX2_handOver_0 15 rfl rfl)
theorem dX2_handOver_18 : decode cX2_handOver 18 = .ok (.invokeinterface 162 2, 5) := by decide +kernel
theorem dX2_handOver_23 : decode cX2_handOver 23 = .ok (.pop, 1) := dk_87 (dk_at dksX2_handOver_0 23 rfl rfl)
theorem dX2_handOver_24 : decode cX2_handOver 24 = .ok (.aload_n 0, 1) := dk_42 (dk_at dksX2_handOver_1 0 rfl rfl)
theorem dX2_handOver_25 : decode cX2_handOver 25 = .ok (.getfield 12, 3) := dk_180 0 12 (dk_at dksX2_handOver_1 1 rfl rfl)
theorem dX2_handOver_28 : decode cX2_handOver 28 = .ok (.iload_n 2, 1) := dk_28 (dk_at dksX2_handOver_1 4 rfl rfl)
theorem dX2_handOver_29 : decode cX2_handOver 29 = .ok (.invokevirtual 168, 3) := dk_182 0 168 (dk_at dksX2_handOver_1 5 rfl rfl)
theorem dX2_handOver_32 : decode cX2_handOver 32 = .ok (.aload_n 0, 1) := dk_42 (dk_at dksX2_handOver_1 8 rfl rfl)
theorem dX2_handOver_33 : decode cX2_handOver 33 = .ok (.dup, 1) := dk_89 (dk_at dksX2_handOver_1 9 rfl rfl)
theorem dX2_handOver_34 : decode cX2_handOver 34 = .ok (.getfield 60, 3) := dk_180 0 60 (dk_at dksX2_handOver_1 10 rfl rfl)
theorem dX2_handOver_37 : decode cX2_handOver 37 = .ok (.iload_n 3, 1) := dk_29 (dk_at dksX2_handOver_1 13 rfl rfl)
theorem dX2_handOver_38 : decode cX2_handOver 38 = .ok (.iadd, 1) := dk_96 (dk_at dksX2_handOver_1 14 rfl rfl)
theorem dX2_handOver_39 : decode cX2_handOver 39 = .ok (.putfield 60, 3) := dk_181 0 60 (dk_at dksX2_handOver_1 15 rfl rfl)
theorem dX2_handOver_42 : decode cX2_handOver 42 = .ok (.aload_n 0, 1) := dk_42 (dk_at dksX2_handOver_1 18 rfl rfl)
theorem dX2_handOver_43 : decode cX2_handOver 43 = .ok (.dup, 1) := dk_89 (dk_at dksX2_handOver_1 19 rfl rfl)
theorem dX2_handOver_44 : decode cX2_handOver 44 = .ok (.getfield 63, 3) := dk_180 0 63 (dk_at dksX2_handOver_1 20 rfl rfl)
theorem dX2_handOver_47 : decode cX2_handOver 47 = .ok (.iload_n 3, 1) := dk_29 (dk_at dksX2_handOver_1 23 rfl rfl)
theorem dX2_handOver_48 : decode cX2_handOver 48 = .ok (.iadd, 1) := dk_96 (dk_at dksX2_handOver_2 0 rfl rfl)
theorem dX2_handOver_49 : decode cX2_handOver 49 = .ok (.putfield 63, 3) := dk_181 0 63 (dk_at dksX2_handOver_2 1 rfl rfl)
theorem dX2_handOver_52 : decode cX2_handOver 52 = .ok (.aload_n 0, 1) := dk_42 (dk_at dksX2_handOver_2 4 rfl rfl)
theorem dX2_handOver_53 : decode cX2_handOver 53 = .ok (.dup, 1) := dk_89 (dk_at dksX2_handOver_2 5 rfl rfl)
theorem dX2_handOver_54 : decode cX2_handOver 54 = .ok (.getfield 69, 3) := dk_180 0 69 (dk_at dksX2_handOver_2 6 rfl rfl)
theorem dX2_handOver_57 : decode cX2_handOver 57 = .ok (.iconst 1, 1) := dk_4 (dk_at dksX2_handOver_2 9 rfl rfl)
theorem dX2_handOver_58 : decode cX2_handOver 58 = .ok (.iadd, 1) := dk_96 (dk_at dksX2_handOver_2 10 rfl rfl)
theorem dX2_handOver_59 : decode cX2_handOver 59 = .ok (.putfield 69, 3) := dk_181 0 69 (dk_at dksX2_handOver_2 11 rfl rfl)
theorem dX2_handOver_62 : decode cX2_handOver 62 = .ok (.iload_n 3, 1) := dk_29 (dk_at dksX2_handOver_2 14 rfl rfl)
theorem dX2_handOver_63 : decode cX2_handOver 63 = .ok (.ireturn, 1) := dk_172 (dk_at dksX2_handOver_2 15 rfl rfl)
def dkwX2_settle_5 : List UInt8 := [132, 4, 1, 167, 255, 228, 29, 172]
abbrev dktX2_settle_5 : List UInt8 := dkwX2_settle_5 ++ []
def dkwX2_settle_4 : List UInt8 := [29, 162, 0, 28, 42, 44, 5, 21, 4, 104, 46, 44, 5, 21, 4, 104, 4, 96, 46, 182, 0, 199, 87]
abbrev dktX2_settle_4 : List UInt8 := dkwX2_settle_4 ++ dktX2_settle_5
def dkwX2_settle_3 : List UInt8 := [21, 4, 46, 182, 0, 80, 180, 0, 194, 79, 132, 3, 1, 132, 4, 1, 167, 255, 192, 3, 54, 4, 21, 4]
abbrev dktX2_settle_3 : List UInt8 := dkwX2_settle_3 ++ dktX2_settle_4
def dkwX2_settle_2 : List UInt8 := [185, 0, 40, 2, 0, 192, 0, 44, 180, 0, 84, 79, 44, 5, 29, 104, 4, 96, 42, 180, 0, 12, 43]
abbrev dktX2_settle_2 : List UInt8 := dkwX2_settle_2 ++ dktX2_settle_3
def dkwX2_settle_1 : List UInt8 := [162, 0, 63, 43, 21, 4, 46, 2, 159, 0, 49, 44, 5, 29, 104, 42, 180, 0, 21, 21, 4]
abbrev dktX2_settle_1 : List UInt8 := dkwX2_settle_1 ++ dktX2_settle_2
def dkwX2_settle_0 : List UInt8 := [42, 182, 0, 207, 182, 0, 211, 76, 5, 43, 190, 104, 188, 10, 77, 3, 62, 3, 54, 4, 21, 4, 43, 190]
abbrev dktX2_settle_0 : List UInt8 := dkwX2_settle_0 ++ dktX2_settle_1
theorem dksX2_settle_0 : cX2_settle.data.toList.drop 0 = dktX2_settle_0 := by decide +kernel
theorem dksX2_settle_1 : cX2_settle.data.toList.drop 24 = dktX2_settle_1 := dk_seg dksX2_settle_0 24 rfl rfl
theorem dksX2_settle_2 : cX2_settle.data.toList.drop 45 = dktX2_settle_2 := dk_seg dksX2_settle_1 21 rfl rfl
theorem dksX2_settle_3 : cX2_settle.data.toList.drop 68 = dktX2_settle_3 := dk_seg dksX2_settle_2 23 rfl rfl
theorem dksX2_settle_4 : cX2_settle.data.toList.drop 92 = dktX2_settle_4 := dk_seg dksX2_settle_3 24 rfl rfl
theorem dksX2_settle_5 : cX2_settle.data.toList.drop 115 = dktX2_settle_5 := dk_seg dksX2_settle_4 23 rfl rfl
theorem dX2_settle_0 : decode cX2_settle 0 = .ok (.aload_n 0, 1) := dk_42 (dk_at dksX2_settle_0 0 rfl rfl)
theorem dX2_settle_1 : decode cX2_settle 1 = .ok (.invokevirtual 207, 3) := dk_182 0 207 (dk_at dksX2_settle_0 1 rfl rfl)
theorem dX2_settle_4 : decode cX2_settle 4 = .ok (.invokevirtual 211, 3) := dk_182 0 211 (dk_at dksX2_settle_0 4 rfl rfl)
theorem dX2_settle_7 : decode cX2_settle 7 = .ok (.astore_n 1, 1) := dk_76 (dk_at dksX2_settle_0 7 rfl rfl)
theorem dX2_settle_8 : decode cX2_settle 8 = .ok (.iconst 2, 1) := dk_5 (dk_at dksX2_settle_0 8 rfl rfl)
theorem dX2_settle_9 : decode cX2_settle 9 = .ok (.aload_n 1, 1) := dk_43 (dk_at dksX2_settle_0 9 rfl rfl)
theorem dX2_settle_10 : decode cX2_settle 10 = .ok (.arraylength, 1) := dk_190 (dk_at dksX2_settle_0 10 rfl rfl)
theorem dX2_settle_11 : decode cX2_settle 11 = .ok (.imul, 1) := dk_104 (dk_at dksX2_settle_0 11 rfl rfl)
theorem dX2_settle_12 : decode cX2_settle 12 = .ok (.newarray .int, 2) := dk_188_10 (dk_at dksX2_settle_0 12 rfl rfl)
theorem dX2_settle_14 : decode cX2_settle 14 = .ok (.astore_n 2, 1) := dk_77 (dk_at dksX2_settle_0 14 rfl rfl)
theorem dX2_settle_15 : decode cX2_settle 15 = .ok (.iconst 0, 1) := dk_3 (dk_at dksX2_settle_0 15 rfl rfl)
theorem dX2_settle_16 : decode cX2_settle 16 = .ok (.istore_n 3, 1) := dk_62 (dk_at dksX2_settle_0 16 rfl rfl)
theorem dX2_settle_17 : decode cX2_settle 17 = .ok (.iconst 0, 1) := dk_3 (dk_at dksX2_settle_0 17 rfl rfl)
theorem dX2_settle_18 : decode cX2_settle 18 = .ok (.istore 4, 2) := dk_54 4 (dk_at dksX2_settle_0 18 rfl rfl)
theorem dX2_settle_20 : decode cX2_settle 20 = .ok (.iload 4, 2) := dk_21 4 (dk_at dksX2_settle_0 20 rfl rfl)
theorem dX2_settle_22 : decode cX2_settle 22 = .ok (.aload_n 1, 1) := dk_43 (dk_at dksX2_settle_0 22 rfl rfl)
theorem dX2_settle_23 : decode cX2_settle 23 = .ok (.arraylength, 1) := dk_190 (dk_at dksX2_settle_0 23 rfl rfl)
theorem dX2_settle_24 : decode cX2_settle 24 = .ok (.if_icmp .ge 63, 3) := dk_162 0 63 (dk_at dksX2_settle_1 0 rfl rfl)
theorem dX2_settle_27 : decode cX2_settle 27 = .ok (.aload_n 1, 1) := dk_43 (dk_at dksX2_settle_1 3 rfl rfl)
theorem dX2_settle_28 : decode cX2_settle 28 = .ok (.iload 4, 2) := dk_21 4 (dk_at dksX2_settle_1 4 rfl rfl)
theorem dX2_settle_30 : decode cX2_settle 30 = .ok (.iaload, 1) := dk_46 (dk_at dksX2_settle_1 6 rfl rfl)
theorem dX2_settle_31 : decode cX2_settle 31 = .ok (.iconst (-1), 1) := dk_2 (dk_at dksX2_settle_1 7 rfl rfl)
theorem dX2_settle_32 : decode cX2_settle 32 = .ok (.if_icmp .eq 49, 3) := dk_159 0 49 (dk_at dksX2_settle_1 8 rfl rfl)
theorem dX2_settle_35 : decode cX2_settle 35 = .ok (.aload_n 2, 1) := dk_44 (dk_at dksX2_settle_1 11 rfl rfl)
theorem dX2_settle_36 : decode cX2_settle 36 = .ok (.iconst 2, 1) := dk_5 (dk_at dksX2_settle_1 12 rfl rfl)
theorem dX2_settle_37 : decode cX2_settle 37 = .ok (.iload_n 3, 1) := dk_29 (dk_at dksX2_settle_1 13 rfl rfl)
theorem dX2_settle_38 : decode cX2_settle 38 = .ok (.imul, 1) := dk_104 (dk_at dksX2_settle_1 14 rfl rfl)
theorem dX2_settle_39 : decode cX2_settle 39 = .ok (.aload_n 0, 1) := dk_42 (dk_at dksX2_settle_1 15 rfl rfl)
theorem dX2_settle_40 : decode cX2_settle 40 = .ok (.getfield 21, 3) := dk_180 0 21 (dk_at dksX2_settle_1 16 rfl rfl)
theorem dX2_settle_43 : decode cX2_settle 43 = .ok (.iload 4, 2) := dk_21 4 (dk_at dksX2_settle_1 19 rfl rfl)
theorem dX2_settle_45 : decode cX2_settle 45 = .ok (.invokeinterface 40 2, 5) := by decide +kernel
theorem dX2_settle_50 : decode cX2_settle 50 = .ok (.checkcast 44, 3) := dk_192 0 44 (dk_at dksX2_settle_2 5 rfl rfl)
theorem dX2_settle_53 : decode cX2_settle 53 = .ok (.getfield 84, 3) := dk_180 0 84 (dk_at dksX2_settle_2 8 rfl rfl)
theorem dX2_settle_56 : decode cX2_settle 56 = .ok (.iastore, 1) := dk_79 (dk_at dksX2_settle_2 11 rfl rfl)
theorem dX2_settle_57 : decode cX2_settle 57 = .ok (.aload_n 2, 1) := dk_44 (dk_at dksX2_settle_2 12 rfl rfl)
theorem dX2_settle_58 : decode cX2_settle 58 = .ok (.iconst 2, 1) := dk_5 (dk_at dksX2_settle_2 13 rfl rfl)
theorem dX2_settle_59 : decode cX2_settle 59 = .ok (.iload_n 3, 1) := dk_29 (dk_at dksX2_settle_2 14 rfl rfl)
theorem dX2_settle_60 : decode cX2_settle 60 = .ok (.imul, 1) := dk_104 (dk_at dksX2_settle_2 15 rfl rfl)
theorem dX2_settle_61 : decode cX2_settle 61 = .ok (.iconst 1, 1) := dk_4 (dk_at dksX2_settle_2 16 rfl rfl)
theorem dX2_settle_62 : decode cX2_settle 62 = .ok (.iadd, 1) := dk_96 (dk_at dksX2_settle_2 17 rfl rfl)
theorem dX2_settle_63 : decode cX2_settle 63 = .ok (.aload_n 0, 1) := dk_42 (dk_at dksX2_settle_2 18 rfl rfl)
theorem dX2_settle_64 : decode cX2_settle 64 = .ok (.getfield 12, 3) := dk_180 0 12 (dk_at dksX2_settle_2 19 rfl rfl)
theorem dX2_settle_67 : decode cX2_settle 67 = .ok (.aload_n 1, 1) := dk_43 (dk_at dksX2_settle_2 22 rfl rfl)
theorem dX2_settle_68 : decode cX2_settle 68 = .ok (.iload 4, 2) := dk_21 4 (dk_at dksX2_settle_3 0 rfl rfl)
theorem dX2_settle_70 : decode cX2_settle 70 = .ok (.iaload, 1) := dk_46 (dk_at dksX2_settle_3 2 rfl rfl)
theorem dX2_settle_71 : decode cX2_settle 71 = .ok (.invokevirtual 80, 3) := dk_182 0 80 (dk_at dksX2_settle_3 3 rfl rfl)
theorem dX2_settle_74 : decode cX2_settle 74 = .ok (.getfield 194, 3) := dk_180 0 194 (dk_at dksX2_settle_3 6 rfl rfl)
theorem dX2_settle_77 : decode cX2_settle 77 = .ok (.iastore, 1) := dk_79 (dk_at dksX2_settle_3 9 rfl rfl)
theorem dX2_settle_78 : decode cX2_settle 78 = .ok (.iinc 3 1, 3) := dk_132 3 1 (dk_at dksX2_settle_3 10 rfl rfl)
theorem dX2_settle_81 : decode cX2_settle 81 = .ok (.iinc 4 1, 3) := dk_132 4 1 (dk_at dksX2_settle_3 13 rfl rfl)
theorem dX2_settle_84 : decode cX2_settle 84 = .ok (.goto (-64), 3) := dk_167 255 192 (dk_at dksX2_settle_3 16 rfl rfl)
theorem dX2_settle_87 : decode cX2_settle 87 = .ok (.iconst 0, 1) := dk_3 (dk_at dksX2_settle_3 19 rfl rfl)
theorem dX2_settle_88 : decode cX2_settle 88 = .ok (.istore 4, 2) := dk_54 4 (dk_at dksX2_settle_3 20 rfl rfl)
theorem dX2_settle_90 : decode cX2_settle 90 = .ok (.iload 4, 2) := dk_21 4 (dk_at dksX2_settle_3 22 rfl rfl)
theorem dX2_settle_92 : decode cX2_settle 92 = .ok (.iload_n 3, 1) := dk_29 (dk_at dksX2_settle_4 0 rfl rfl)
theorem dX2_settle_93 : decode cX2_settle 93 = .ok (.if_icmp .ge 28, 3) := dk_162 0 28 (dk_at dksX2_settle_4 1 rfl rfl)
theorem dX2_settle_96 : decode cX2_settle 96 = .ok (.aload_n 0, 1) := dk_42 (dk_at dksX2_settle_4 4 rfl rfl)
theorem dX2_settle_97 : decode cX2_settle 97 = .ok (.aload_n 2, 1) := dk_44 (dk_at dksX2_settle_4 5 rfl rfl)
theorem dX2_settle_98 : decode cX2_settle 98 = .ok (.iconst 2, 1) := dk_5 (dk_at dksX2_settle_4 6 rfl rfl)
theorem dX2_settle_99 : decode cX2_settle 99 = .ok (.iload 4, 2) := dk_21 4 (dk_at dksX2_settle_4 7 rfl rfl)
theorem dX2_settle_101 : decode cX2_settle 101 = .ok (.imul, 1) := dk_104 (dk_at dksX2_settle_4 9 rfl rfl)
theorem dX2_settle_102 : decode cX2_settle 102 = .ok (.iaload, 1) := dk_46 (dk_at dksX2_settle_4 10 rfl rfl)
theorem dX2_settle_103 : decode cX2_settle 103 = .ok (.aload_n 2, 1) := dk_44 (dk_at dksX2_settle_4 11 rfl rfl)
theorem dX2_settle_104 : decode cX2_settle 104 = .ok (.iconst 2, 1) := dk_5 (dk_at dksX2_settle_4 12 rfl rfl)
theorem dX2_settle_105 : decode cX2_settle 105 = .ok (.iload 4, 2) := dk_21 4 (dk_at dksX2_settle_4 13 rfl rfl)
theorem dX2_settle_107 : decode cX2_settle 107 = .ok (.imul, 1) := dk_104 (dk_at dksX2_settle_4 15 rfl rfl)
theorem dX2_settle_108 : decode cX2_settle 108 = .ok (.iconst 1, 1) := dk_4 (dk_at dksX2_settle_4 16 rfl rfl)
theorem dX2_settle_109 : decode cX2_settle 109 = .ok (.iadd, 1) := dk_96 (dk_at dksX2_settle_4 17 rfl rfl)
theorem dX2_settle_110 : decode cX2_settle 110 = .ok (.iaload, 1) := dk_46 (dk_at dksX2_settle_4 18 rfl rfl)
theorem dX2_settle_111 : decode cX2_settle 111 = .ok (.invokevirtual 199, 3) := dk_182 0 199 (dk_at dksX2_settle_4 19 rfl rfl)
theorem dX2_settle_114 : decode cX2_settle 114 = .ok (.pop, 1) := dk_87 (dk_at dksX2_settle_4 22 rfl rfl)
theorem dX2_settle_115 : decode cX2_settle 115 = .ok (.iinc 4 1, 3) := dk_132 4 1 (dk_at dksX2_settle_5 0 rfl rfl)
theorem dX2_settle_118 : decode cX2_settle 118 = .ok (.goto (-28), 3) := dk_167 255 228 (dk_at dksX2_settle_5 3 rfl rfl)
theorem dX2_settle_121 : decode cX2_settle 121 = .ok (.iload_n 3, 1) := dk_29 (dk_at dksX2_settle_5 6 rfl rfl)
theorem dX2_settle_122 : decode cX2_settle 122 = .ok (.ireturn, 1) := dk_172 (dk_at dksX2_settle_5 7 rfl rfl)
def dkwX2_settlement_0 : List UInt8 := [187, 0, 202, 89, 42, 180, 0, 21, 42, 180, 0, 12, 42, 182, 0, 92, 183, 0, 204, 176]
abbrev dktX2_settlement_0 : List UInt8 := dkwX2_settlement_0 ++ []
theorem dksX2_settlement_0 : cX2_settlement.data.toList.drop 0 = dktX2_settlement_0 := by decide +kernel
theorem dX2_settlement_0 : decode cX2_settlement 0 = .ok (.new 202, 3) := dk_187 0 202 (dk_at dksX2_settlement_0 0 rfl rfl)
theorem dX2_settlement_3 : decode cX2_settlement 3 = .ok (.dup, 1) := dk_89 (dk_at dksX2_settlement_0 3 rfl rfl)
theorem dX2_settlement_4 : decode cX2_settlement 4 = .ok (.aload_n 0, 1) := dk_42 (dk_at dksX2_settlement_0 4 rfl rfl)
theorem dX2_settlement_5 : decode cX2_settlement 5 = .ok (.getfield 21, 3) := dk_180 0 21 (dk_at dksX2_settlement_0 5 rfl rfl)
theorem dX2_settlement_8 : decode cX2_settlement 8 = .ok (.aload_n 0, 1) := dk_42 (dk_at dksX2_settlement_0 8 rfl rfl)
theorem dX2_settlement_9 : decode cX2_settlement 9 = .ok (.getfield 12, 3) := dk_180 0 12 (dk_at dksX2_settlement_0 9 rfl rfl)
theorem dX2_settlement_12 : decode cX2_settlement 12 = .ok (.aload_n 0, 1) := dk_42 (dk_at dksX2_settlement_0 12 rfl rfl)
theorem dX2_settlement_13 : decode cX2_settlement 13 = .ok (.invokevirtual 92, 3) := dk_182 0 92 (dk_at dksX2_settlement_0 13 rfl rfl)
theorem dX2_settlement_16 : decode cX2_settlement 16 = .ok (.invokespecial 204, 3) := dk_183 0 204 (dk_at dksX2_settlement_0 16 rfl rfl)
theorem dX2_settlement_19 : decode cX2_settlement 19 = .ok (.areturn, 1) := dk_176 (dk_at dksX2_settlement_0 19 rfl rfl)
def dkwX2_mix_4 : List UInt8 := [28, 182, 0, 168, 42, 45, 21, 4, 182, 0, 149, 172]
abbrev dktX2_mix_4 : List UInt8 := dkwX2_mix_4 ++ []
def dkwX2_mix_3 : List UInt8 := [28, 182, 0, 106, 180, 0, 219, 184, 0, 222, 54, 4, 42, 180, 0, 12, 27, 182, 0, 168, 42, 180, 0, 12]
abbrev dktX2_mix_3 : List UInt8 := dkwX2_mix_3 ++ dktX2_mix_4
def dkwX2_mix_2 : List UInt8 := [180, 0, 109, 42, 28, 182, 0, 106, 180, 0, 109, 182, 0, 215, 78, 42, 27, 182, 0, 106, 180, 0, 219, 42]
abbrev dktX2_mix_2 : List UInt8 := dkwX2_mix_2 ++ dktX2_mix_3
def dkwX2_mix_1 : List UInt8 := [184, 0, 137, 27, 28, 159, 0, 7, 4, 167, 0, 4, 3, 16, 97, 184, 0, 137, 42, 27, 182, 0, 106]
abbrev dktX2_mix_1 : List UInt8 := dkwX2_mix_1 ++ dktX2_mix_2
def dkwX2_mix_0 : List UInt8 := [42, 27, 182, 0, 165, 153, 0, 15, 42, 28, 182, 0, 165, 153, 0, 7, 4, 167, 0, 4, 3, 16, 101]
abbrev dktX2_mix_0 : List UInt8 := dkwX2_mix_0 ++ dktX2_mix_1
theorem dksX2_mix_0 : cX2_mix.data.toList.drop 0 = dktX2_mix_0 := by decide +kernel
theorem dksX2_mix_1 : cX2_mix.data.toList.drop 23 = dktX2_mix_1 := dk_seg dksX2_mix_0 23 rfl rfl
theorem dksX2_mix_2 : cX2_mix.data.toList.drop 46 = dktX2_mix_2 := dk_seg dksX2_mix_1 23 rfl rfl
theorem dksX2_mix_3 : cX2_mix.data.toList.drop 70 = dktX2_mix_3 := dk_seg dksX2_mix_2 24 rfl rfl
theorem dksX2_mix_4 : cX2_mix.data.toList.drop 94 = dktX2_mix_4 := dk_seg dksX2_mix_3 24 rfl rfl
theorem dX2_mix_0 : decode cX2_mix 0 = .ok (.aload_n 0, 1) := dk_42 (dk_at dksX2_mix_0 0 rfl rfl)
theorem dX2_mix_1 : decode cX2_mix 1 = .ok (.iload_n 1, 1) := dk_27 (dk_at dksX2_mix_0 1 rfl rfl)
theorem dX2_mix_2 : decode cX2_mix 2 = .ok (.invokevirtual 165, 3) := dk_182 0 165 (dk_at dksX2_mix_0 2 rfl rfl)
theorem dX2_mix_5 : decode cX2_mix 5 = .ok (.ifCond .eq 15, 3) := dk_153 0 15 (dk_at dksX2_mix_0 5 rfl rfl)
theorem dX2_mix_8 : decode cX2_mix 8 = .ok (.aload_n 0, 1) := dk_42 (dk_at dksX2_mix_0 8 rfl rfl)
theorem dX2_mix_9 : decode cX2_mix 9 = .ok (.iload_n 2, 1) := dk_28 (dk_at dksX2_mix_0 9 rfl rfl)
theorem dX2_mix_10 : decode cX2_mix 10 = .ok (.invokevirtual 165, 3) := dk_182 0 165 (dk_at dksX2_mix_0 10 rfl rfl)
theorem dX2_mix_13 : decode cX2_mix 13 = .ok (.ifCond .eq 7, 3) := dk_153 0 7 (dk_at dksX2_mix_0 13 rfl rfl)
theorem dX2_mix_16 : decode cX2_mix 16 = .ok (.iconst 1, 1) := dk_4 (dk_at dksX2_mix_0 16 rfl rfl)
theorem dX2_mix_17 : decode cX2_mix 17 = .ok (.goto 4, 3) := dk_167 0 4 (dk_at dksX2_mix_0 17 rfl rfl)
theorem dX2_mix_20 : decode cX2_mix 20 = .ok (.iconst 0, 1) := dk_3 (dk_at dksX2_mix_0 20 rfl rfl)
theorem dX2_mix_21 : decode cX2_mix 21 = .ok (.bipush 101, 2) := dk_16 101 (dk_at dksX2_mix_0 21 rfl rfl)
theorem dX2_mix_23 : decode cX2_mix 23 = .ok (.invokestatic 137, 3) := dk_184 0 137 (dk_at dksX2_mix_1 0 rfl rfl)
theorem dX2_mix_26 : decode cX2_mix 26 = .ok (.iload_n 1, 1) := dk_27 (dk_at dksX2_mix_1 3 rfl rfl)
theorem dX2_mix_27 : decode cX2_mix 27 = .ok (.iload_n 2, 1) := dk_28 (dk_at dksX2_mix_1 4 rfl rfl)
theorem dX2_mix_28 : decode cX2_mix 28 = .ok (.if_icmp .eq 7, 3) := dk_159 0 7 (dk_at dksX2_mix_1 5 rfl rfl)
theorem dX2_mix_31 : decode cX2_mix 31 = .ok (.iconst 1, 1) := dk_4 (dk_at dksX2_mix_1 8 rfl rfl)
theorem dX2_mix_32 : decode cX2_mix 32 = .ok (.goto 4, 3) := dk_167 0 4 (dk_at dksX2_mix_1 9 rfl rfl)
theorem dX2_mix_35 : decode cX2_mix 35 = .ok (.iconst 0, 1) := dk_3 (dk_at dksX2_mix_1 12 rfl rfl)
theorem dX2_mix_36 : decode cX2_mix 36 = .ok (.bipush 97, 2) := dk_16 97 (dk_at dksX2_mix_1 13 rfl rfl)
theorem dX2_mix_38 : decode cX2_mix 38 = .ok (.invokestatic 137, 3) := dk_184 0 137 (dk_at dksX2_mix_1 15 rfl rfl)
theorem dX2_mix_41 : decode cX2_mix 41 = .ok (.aload_n 0, 1) := dk_42 (dk_at dksX2_mix_1 18 rfl rfl)
theorem dX2_mix_42 : decode cX2_mix 42 = .ok (.iload_n 1, 1) := dk_27 (dk_at dksX2_mix_1 19 rfl rfl)
theorem dX2_mix_43 : decode cX2_mix 43 = .ok (.invokevirtual 106, 3) := dk_182 0 106 (dk_at dksX2_mix_1 20 rfl rfl)
theorem dX2_mix_46 : decode cX2_mix 46 = .ok (.getfield 109, 3) := dk_180 0 109 (dk_at dksX2_mix_2 0 rfl rfl)
theorem dX2_mix_49 : decode cX2_mix 49 = .ok (.aload_n 0, 1) := dk_42 (dk_at dksX2_mix_2 3 rfl rfl)
theorem dX2_mix_50 : decode cX2_mix 50 = .ok (.iload_n 2, 1) := dk_28 (dk_at dksX2_mix_2 4 rfl rfl)
theorem dX2_mix_51 : decode cX2_mix 51 = .ok (.invokevirtual 106, 3) := dk_182 0 106 (dk_at dksX2_mix_2 5 rfl rfl)
theorem dX2_mix_54 : decode cX2_mix 54 = .ok (.getfield 109, 3) := dk_180 0 109 (dk_at dksX2_mix_2 8 rfl rfl)
theorem dX2_mix_57 : decode cX2_mix 57 = .ok (.invokevirtual 215, 3) := dk_182 0 215 (dk_at dksX2_mix_2 11 rfl rfl)
theorem dX2_mix_60 : decode cX2_mix 60 = .ok (.astore_n 3, 1) := dk_78 (dk_at dksX2_mix_2 14 rfl rfl)
theorem dX2_mix_61 : decode cX2_mix 61 = .ok (.aload_n 0, 1) := dk_42 (dk_at dksX2_mix_2 15 rfl rfl)
theorem dX2_mix_62 : decode cX2_mix 62 = .ok (.iload_n 1, 1) := dk_27 (dk_at dksX2_mix_2 16 rfl rfl)
theorem dX2_mix_63 : decode cX2_mix 63 = .ok (.invokevirtual 106, 3) := dk_182 0 106 (dk_at dksX2_mix_2 17 rfl rfl)
theorem dX2_mix_66 : decode cX2_mix 66 = .ok (.getfield 219, 3) := dk_180 0 219 (dk_at dksX2_mix_2 20 rfl rfl)
theorem dX2_mix_69 : decode cX2_mix 69 = .ok (.aload_n 0, 1) := dk_42 (dk_at dksX2_mix_2 23 rfl rfl)
theorem dX2_mix_70 : decode cX2_mix 70 = .ok (.iload_n 2, 1) := dk_28 (dk_at dksX2_mix_3 0 rfl rfl)
theorem dX2_mix_71 : decode cX2_mix 71 = .ok (.invokevirtual 106, 3) := dk_182 0 106 (dk_at dksX2_mix_3 1 rfl rfl)
theorem dX2_mix_74 : decode cX2_mix 74 = .ok (.getfield 219, 3) := dk_180 0 219 (dk_at dksX2_mix_3 4 rfl rfl)
theorem dX2_mix_77 : decode cX2_mix 77 = .ok (.invokestatic 222, 3) := dk_184 0 222 (dk_at dksX2_mix_3 7 rfl rfl)
theorem dX2_mix_80 : decode cX2_mix 80 = .ok (.istore 4, 2) := dk_54 4 (dk_at dksX2_mix_3 10 rfl rfl)
theorem dX2_mix_82 : decode cX2_mix 82 = .ok (.aload_n 0, 1) := dk_42 (dk_at dksX2_mix_3 12 rfl rfl)
theorem dX2_mix_83 : decode cX2_mix 83 = .ok (.getfield 12, 3) := dk_180 0 12 (dk_at dksX2_mix_3 13 rfl rfl)
theorem dX2_mix_86 : decode cX2_mix 86 = .ok (.iload_n 1, 1) := dk_27 (dk_at dksX2_mix_3 16 rfl rfl)
theorem dX2_mix_87 : decode cX2_mix 87 = .ok (.invokevirtual 168, 3) := dk_182 0 168 (dk_at dksX2_mix_3 17 rfl rfl)
theorem dX2_mix_90 : decode cX2_mix 90 = .ok (.aload_n 0, 1) := dk_42 (dk_at dksX2_mix_3 20 rfl rfl)
theorem dX2_mix_91 : decode cX2_mix 91 = .ok (.getfield 12, 3) := dk_180 0 12 (dk_at dksX2_mix_3 21 rfl rfl)
theorem dX2_mix_94 : decode cX2_mix 94 = .ok (.iload_n 2, 1) := dk_28 (dk_at dksX2_mix_4 0 rfl rfl)
theorem dX2_mix_95 : decode cX2_mix 95 = .ok (.invokevirtual 168, 3) := dk_182 0 168 (dk_at dksX2_mix_4 1 rfl rfl)
theorem dX2_mix_98 : decode cX2_mix 98 = .ok (.aload_n 0, 1) := dk_42 (dk_at dksX2_mix_4 4 rfl rfl)
theorem dX2_mix_99 : decode cX2_mix 99 = .ok (.aload_n 3, 1) := dk_45 (dk_at dksX2_mix_4 5 rfl rfl)
theorem dX2_mix_100 : decode cX2_mix 100 = .ok (.iload 4, 2) := dk_21 4 (dk_at dksX2_mix_4 6 rfl rfl)
theorem dX2_mix_102 : decode cX2_mix 102 = .ok (.invokevirtual 149, 3) := dk_182 0 149 (dk_at dksX2_mix_4 8 rfl rfl)
theorem dX2_mix_105 : decode cX2_mix 105 = .ok (.ireturn, 1) := dk_172 (dk_at dksX2_mix_4 11 rfl rfl)
def dkwX2_passDays_2 : List UInt8 := [182, 0, 80, 182, 0, 227, 132, 3, 1, 167, 255, 231, 132, 2, 1, 167, 255, 208, 42, 182, 0, 230, 172]
abbrev dktX2_passDays_2 : List UInt8 := dkwX2_passDays_2 ++ []
def dkwX2_passDays_1 : List UInt8 := [4, 96, 181, 0, 57, 3, 62, 29, 42, 180, 0, 12, 182, 0, 141, 162, 0, 20, 42, 180, 0, 12, 29]
abbrev dktX2_passDays_1 : List UInt8 := dkwX2_passDays_1 ++ dktX2_passDays_2
def dkwX2_passDays_0 : List UInt8 := [27, 4, 16, 99, 184, 0, 133, 16, 97, 184, 0, 137, 3, 61, 28, 27, 162, 0, 49, 42, 89, 180, 0, 57]
abbrev dktX2_passDays_0 : List UInt8 := dkwX2_passDays_0 ++ dktX2_passDays_1
theorem dksX2_passDays_0 : cX2_passDays.data.toList.drop 0 = dktX2_passDays_0 := by decide +kernel
theorem dksX2_passDays_1 : cX2_passDays.data.toList.drop 24 = dktX2_passDays_1 := dk_seg dksX2_passDays_0 24 rfl rfl
theorem dksX2_passDays_2 : cX2_passDays.data.toList.drop 47 = dktX2_passDays_2 := dk_seg dksX2_passDays_1 23 rfl rfl
theorem dX2_passDays_0 : decode cX2_passDays 0 = .ok (.iload_n 1, 1) := dk_27 (dk_at dksX2_passDays_0 0 rfl rfl)
theorem dX2_passDays_1 : decode cX2_passDays 1 = .ok (.iconst 1, 1) := dk_4 (dk_at dksX2_passDays_0 1 rfl rfl)
theorem dX2_passDays_2 : decode cX2_passDays 2 = .ok (.bipush 99, 2) := dk_16 99 (dk_at dksX2_passDays_0 2 rfl rfl)
theorem dX2_passDays_4 : decode cX2_passDays 4 = .ok (.invokestatic 133, 3) := dk_184 0 133 (dk_at dksX2_passDays_0 4 rfl rfl)
theorem dX2_passDays_7 : decode cX2_passDays 7 = .ok (.bipush 97, 2) := dk_16 97 (dk_at dksX2_passDays_0 7 rfl rfl)
theorem dX2_passDays_9 : decode cX2_passDays 9 = .ok (.invokestatic 137, 3) := dk_184 0 137 (dk_at dksX2_passDays_0 9 rfl rfl)
theorem dX2_passDays_12 : decode cX2_passDays 12 = .ok (.iconst 0, 1) := dk_3 (dk_at dksX2_passDays_0 12 rfl rfl)
theorem dX2_passDays_13 : decode cX2_passDays 13 = .ok (.istore_n 2, 1) := dk_61 (dk_at dksX2_passDays_0 13 rfl rfl)
theorem dX2_passDays_14 : decode cX2_passDays 14 = .ok (.iload_n 2, 1) := dk_28 (dk_at dksX2_passDays_0 14 rfl rfl)
theorem dX2_passDays_15 : decode cX2_passDays 15 = .ok (.iload_n 1, 1) := dk_27 (dk_at dksX2_passDays_0 15 rfl rfl)
theorem dX2_passDays_16 : decode cX2_passDays 16 = .ok (.if_icmp .ge 49, 3) := dk_162 0 49 (dk_at dksX2_passDays_0 16 rfl rfl)
theorem dX2_passDays_19 : decode cX2_passDays 19 = .ok (.aload_n 0, 1) := dk_42 (dk_at dksX2_passDays_0 19 rfl rfl)
theorem dX2_passDays_20 : decode cX2_passDays 20 = .ok (.dup, 1) := dk_89 (dk_at dksX2_passDays_0 20 rfl rfl)
theorem dX2_passDays_21 : decode cX2_passDays 21 = .ok (.getfield 57, 3) := dk_180 0 57 (dk_at dksX2_passDays_0 21 rfl rfl)
theorem dX2_passDays_24 : decode cX2_passDays 24 = .ok (.iconst 1, 1) := dk_4 (dk_at dksX2_passDays_1 0 rfl rfl)
theorem dX2_passDays_25 : decode cX2_passDays 25 = .ok (.iadd, 1) := dk_96 (dk_at dksX2_passDays_1 1 rfl rfl)
theorem dX2_passDays_26 : decode cX2_passDays 26 = .ok (.putfield 57, 3) := dk_181 0 57 (dk_at dksX2_passDays_1 2 rfl rfl)
theorem dX2_passDays_29 : decode cX2_passDays 29 = .ok (.iconst 0, 1) := dk_3 (dk_at dksX2_passDays_1 5 rfl rfl)
theorem dX2_passDays_30 : decode cX2_passDays 30 = .ok (.istore_n 3, 1) := dk_62 (dk_at dksX2_passDays_1 6 rfl rfl)
theorem dX2_passDays_31 : decode cX2_passDays 31 = .ok (.iload_n 3, 1) := dk_29 (dk_at dksX2_passDays_1 7 rfl rfl)
theorem dX2_passDays_32 : decode cX2_passDays 32 = .ok (.aload_n 0, 1) := dk_42 (dk_at dksX2_passDays_1 8 rfl rfl)
theorem dX2_passDays_33 : decode cX2_passDays 33 = .ok (.getfield 12, 3) := dk_180 0 12 (dk_at dksX2_passDays_1 9 rfl rfl)
theorem dX2_passDays_36 : decode cX2_passDays 36 = .ok (.invokevirtual 141, 3) := dk_182 0 141 (dk_at dksX2_passDays_1 12 rfl rfl)
theorem dX2_passDays_39 : decode cX2_passDays 39 = .ok (.if_icmp .ge 20, 3) := dk_162 0 20 (dk_at dksX2_passDays_1 15 rfl rfl)
theorem dX2_passDays_42 : decode cX2_passDays 42 = .ok (.aload_n 0, 1) := dk_42 (dk_at dksX2_passDays_1 18 rfl rfl)
theorem dX2_passDays_43 : decode cX2_passDays 43 = .ok (.getfield 12, 3) := dk_180 0 12 (dk_at dksX2_passDays_1 19 rfl rfl)
theorem dX2_passDays_46 : decode cX2_passDays 46 = .ok (.iload_n 3, 1) := dk_29 (dk_at dksX2_passDays_1 22 rfl rfl)
theorem dX2_passDays_47 : decode cX2_passDays 47 = .ok (.invokevirtual 80, 3) := dk_182 0 80 (dk_at dksX2_passDays_2 0 rfl rfl)
theorem dX2_passDays_50 : decode cX2_passDays 50 = .ok (.invokevirtual 227, 3) := dk_182 0 227 (dk_at dksX2_passDays_2 3 rfl rfl)
theorem dX2_passDays_53 : decode cX2_passDays 53 = .ok (.iinc 3 1, 3) := dk_132 3 1 (dk_at dksX2_passDays_2 6 rfl rfl)
theorem dX2_passDays_56 : decode cX2_passDays 56 = .ok (.goto (-25), 3) := dk_167 255 231 (dk_at dksX2_passDays_2 9 rfl rfl)
theorem dX2_passDays_59 : decode cX2_passDays 59 = .ok (.iinc 2 1, 3) := dk_132 2 1 (dk_at dksX2_passDays_2 12 rfl rfl)
theorem dX2_passDays_62 : decode cX2_passDays 62 = .ok (.goto (-48), 3) := dk_167 255 208 (dk_at dksX2_passDays_2 15 rfl rfl)
theorem dX2_passDays_65 : decode cX2_passDays 65 = .ok (.aload_n 0, 1) := dk_42 (dk_at dksX2_passDays_2 18 rfl rfl)
theorem dX2_passDays_66 : decode cX2_passDays 66 = .ok (.invokevirtual 230, 3) := dk_182 0 230 (dk_at dksX2_passDays_2 19 rfl rfl)
theorem dX2_passDays_69 : decode cX2_passDays 69 = .ok (.ireturn, 1) := dk_172 (dk_at dksX2_passDays_2 22 rfl rfl)
def dkwX2_greyCount_2 : List UInt8 := [3, 96, 60, 167, 255, 219, 27, 172]
abbrev dktX2_greyCount_2 : List UInt8 := dkwX2_greyCount_2 ++ []
def dkwX2_greyCount_1 : List UInt8 := [185, 0, 243, 1, 0, 192, 0, 110, 78, 27, 45, 180, 0, 109, 182, 0, 246, 153, 0, 7, 4, 167, 0, 4]
abbrev dktX2_greyCount_1 : List UInt8 := dkwX2_greyCount_1 ++ dktX2_greyCount_2
def dkwX2_greyCount_0 : List UInt8 := [3, 60, 42, 180, 0, 12, 182, 0, 233, 77, 44, 185, 0, 237, 1, 0, 153, 0, 34, 44]
abbrev dktX2_greyCount_0 : List UInt8 := dkwX2_greyCount_0 ++ dktX2_greyCount_1
theorem dksX2_greyCount_0 : cX2_greyCount.data.toList.drop 0 = dktX2_greyCount_0 := by decide +kernel
theorem dksX2_greyCount_1 : cX2_greyCount.data.toList.drop 20 = dktX2_greyCount_1 := dk_seg dksX2_greyCount_0 20 rfl rfl
theorem dksX2_greyCount_2 : cX2_greyCount.data.toList.drop 44 = dktX2_greyCount_2 := dk_seg dksX2_greyCount_1 24 rfl rfl
theorem dX2_greyCount_0 : decode cX2_greyCount 0 = .ok (.iconst 0, 1) := dk_3 (dk_at dksX2_greyCount_0 0 rfl rfl)
theorem dX2_greyCount_1 : decode cX2_greyCount 1 = .ok (.istore_n 1, 1) := dk_60 (dk_at dksX2_greyCount_0 1 rfl rfl)
theorem dX2_greyCount_2 : decode cX2_greyCount 2 = .ok (.aload_n 0, 1) := dk_42 (dk_at dksX2_greyCount_0 2 rfl rfl)
theorem dX2_greyCount_3 : decode cX2_greyCount 3 = .ok (.getfield 12, 3) := dk_180 0 12 (dk_at dksX2_greyCount_0 3 rfl rfl)
theorem dX2_greyCount_6 : decode cX2_greyCount 6 = .ok (.invokevirtual 233, 3) := dk_182 0 233 (dk_at dksX2_greyCount_0 6 rfl rfl)
theorem dX2_greyCount_9 : decode cX2_greyCount 9 = .ok (.astore_n 2, 1) := dk_77 (dk_at dksX2_greyCount_0 9 rfl rfl)
theorem dX2_greyCount_10 : decode cX2_greyCount 10 = .ok (.aload_n 2, 1) := dk_44 (dk_at dksX2_greyCount_0 10 rfl rfl)
theorem dX2_greyCount_11 : decode cX2_greyCount 11 = .ok (.invokeinterface 237 1, 5) := by decide +kernel
theorem dX2_greyCount_16 : decode cX2_greyCount 16 = .ok (.ifCond .eq 34, 3) := dk_153 0 34 (dk_at dksX2_greyCount_0 16 rfl rfl)
theorem dX2_greyCount_19 : decode cX2_greyCount 19 = .ok (.aload_n 2, 1) := dk_44 (dk_at dksX2_greyCount_0 19 rfl rfl)
theorem dX2_greyCount_20 : decode cX2_greyCount 20 = .ok (.invokeinterface 243 1, 5) := by decide +kernel
theorem dX2_greyCount_25 : decode cX2_greyCount 25 = .ok (.checkcast 110, 3) := dk_192 0 110 (dk_at dksX2_greyCount_1 5 rfl rfl)
theorem dX2_greyCount_28 : decode cX2_greyCount 28 = .ok (.astore_n 3, 1) := dk_78 (dk_at dksX2_greyCount_1 8 rfl rfl)
theorem dX2_greyCount_29 : decode cX2_greyCount 29 = .ok (.iload_n 1, 1) := dk_27 (dk_at dksX2_greyCount_1 9 rfl rfl)
theorem dX2_greyCount_30 : decode cX2_greyCount 30 = .ok (.aload_n 3, 1) := dk_45 (dk_at dksX2_greyCount_1 10 rfl rfl)
theorem dX2_greyCount_31 : decode cX2_greyCount 31 = .ok (.getfield 109, 3) := dk_180 0 109 (dk_at dksX2_greyCount_1 11 rfl rfl)
theorem dX2_greyCount_34 : decode cX2_greyCount 34 = .ok (.invokevirtual 246, 3) := dk_182 0 246 (dk_at dksX2_greyCount_1 14 rfl rfl)
theorem dX2_greyCount_37 : decode cX2_greyCount 37 = .ok (.ifCond .eq 7, 3) := dk_153 0 7 (dk_at dksX2_greyCount_1 17 rfl rfl)
theorem dX2_greyCount_40 : decode cX2_greyCount 40 = .ok (.iconst 1, 1) := dk_4 (dk_at dksX2_greyCount_1 20 rfl rfl)
theorem dX2_greyCount_41 : decode cX2_greyCount 41 = .ok (.goto 4, 3) := dk_167 0 4 (dk_at dksX2_greyCount_1 21 rfl rfl)
theorem dX2_greyCount_44 : decode cX2_greyCount 44 = .ok (.iconst 0, 1) := dk_3 (dk_at dksX2_greyCount_2 0 rfl rfl)
theorem dX2_greyCount_45 : decode cX2_greyCount 45 = .ok (.iadd, 1) := dk_96 (dk_at dksX2_greyCount_2 1 rfl rfl)
theorem dX2_greyCount_46 : decode cX2_greyCount 46 = .ok (.istore_n 1, 1) := dk_60 (dk_at dksX2_greyCount_2 2 rfl rfl)
theorem dX2_greyCount_47 : decode cX2_greyCount 47 = .ok (.goto (-37), 3) := dk_167 255 219 (dk_at dksX2_greyCount_2 3 rfl rfl)
theorem dX2_greyCount_50 : decode cX2_greyCount 50 = .ok (.iload_n 1, 1) := dk_27 (dk_at dksX2_greyCount_2 6 rfl rfl)
theorem dX2_greyCount_51 : decode cX2_greyCount 51 = .ok (.ireturn, 1) := dk_172 (dk_at dksX2_greyCount_2 7 rfl rfl)
def dkwX2_coinsByAccounts_0 : List UInt8 := [42, 180, 0, 63, 42, 180, 0, 66, 100, 172]
abbrev dktX2_coinsByAccounts_0 : List UInt8 := dkwX2_coinsByAccounts_0 ++ []
theorem dksX2_coinsByAccounts_0 : cX2_coinsByAccounts.data.toList.drop 0 = dktX2_coinsByAccounts_0 := by decide +kernel
theorem dX2_coinsByAccounts_0 : decode cX2_coinsByAccounts 0 = .ok (.aload_n 0, 1) := dk_42 (dk_at dksX2_coinsByAccounts_0 0 rfl rfl)
theorem dX2_coinsByAccounts_1 : decode cX2_coinsByAccounts 1 = .ok (.getfield 63, 3) := dk_180 0 63 (dk_at dksX2_coinsByAccounts_0 1 rfl rfl)
theorem dX2_coinsByAccounts_4 : decode cX2_coinsByAccounts 4 = .ok (.aload_n 0, 1) := dk_42 (dk_at dksX2_coinsByAccounts_0 4 rfl rfl)
theorem dX2_coinsByAccounts_5 : decode cX2_coinsByAccounts 5 = .ok (.getfield 66, 3) := dk_180 0 66 (dk_at dksX2_coinsByAccounts_0 5 rfl rfl)
theorem dX2_coinsByAccounts_8 : decode cX2_coinsByAccounts 8 = .ok (.isub, 1) := dk_100 (dk_at dksX2_coinsByAccounts_0 8 rfl rfl)
theorem dX2_coinsByAccounts_9 : decode cX2_coinsByAccounts 9 = .ok (.ireturn, 1) := dk_172 (dk_at dksX2_coinsByAccounts_0 9 rfl rfl)
def dkwX2_isConsistent_3 : List UInt8 := [154, 0, 7, 4, 167, 0, 4, 3, 172]
abbrev dktX2_isConsistent_3 : List UInt8 := dkwX2_isConsistent_3 ++ []
def dkwX2_isConsistent_2 : List UInt8 := [160, 0, 7, 4, 167, 0, 4, 3, 61, 28, 153, 0, 21, 43, 182, 1, 55, 43, 3, 3, 182, 1, 58, 148]
abbrev dktX2_isConsistent_2 : List UInt8 := dkwX2_isConsistent_2 ++ dktX2_isConsistent_3
def dkwX2_isConsistent_1 : List UInt8 := [182, 1, 46, 160, 0, 7, 4, 167, 0, 4, 3, 61, 28, 153, 0, 18, 42, 182, 1, 49, 42, 182, 1, 52]
abbrev dktX2_isConsistent_1 : List UInt8 := dkwX2_isConsistent_1 ++ dktX2_isConsistent_2
def dkwX2_isConsistent_0 : List UInt8 := [42, 182, 0, 207, 76, 42, 182, 1, 40, 153, 0, 25, 42, 182, 1, 43, 153, 0, 18, 42, 180, 0, 60, 42]
abbrev dktX2_isConsistent_0 : List UInt8 := dkwX2_isConsistent_0 ++ dktX2_isConsistent_1
theorem dksX2_isConsistent_0 : cX2_isConsistent.data.toList.drop 0 = dktX2_isConsistent_0 := by decide +kernel
theorem dksX2_isConsistent_1 : cX2_isConsistent.data.toList.drop 24 = dktX2_isConsistent_1 := dk_seg dksX2_isConsistent_0 24 rfl rfl
theorem dksX2_isConsistent_2 : cX2_isConsistent.data.toList.drop 48 = dktX2_isConsistent_2 := dk_seg dksX2_isConsistent_1 24 rfl rfl
theorem dksX2_isConsistent_3 : cX2_isConsistent.data.toList.drop 72 = dktX2_isConsistent_3 := dk_seg dksX2_isConsistent_2 24 rfl rfl
theorem dX2_isConsistent_0 : decode cX2_isConsistent 0 = .ok (.aload_n 0, 1) := dk_42 (dk_at dksX2_isConsistent_0 0 rfl rfl)
theorem dX2_isConsistent_1 : decode cX2_isConsistent 1 = .ok (.invokevirtual 207, 3) := dk_182 0 207 (dk_at dksX2_isConsistent_0 1 rfl rfl)
theorem dX2_isConsistent_4 : decode cX2_isConsistent 4 = .ok (.astore_n 1, 1) := dk_76 (dk_at dksX2_isConsistent_0 4 rfl rfl)
theorem dX2_isConsistent_5 : decode cX2_isConsistent 5 = .ok (.aload_n 0, 1) := dk_42 (dk_at dksX2_isConsistent_0 5 rfl rfl)
theorem dX2_isConsistent_6 : decode cX2_isConsistent 6 = .ok (.invokevirtual 296, 3) := dk_182 1 40 (dk_at dksX2_isConsistent_0 6 rfl rfl)
theorem dX2_isConsistent_9 : decode cX2_isConsistent 9 = .ok (.ifCond .eq 25, 3) := dk_153 0 25 (dk_at dksX2_isConsistent_0 9 rfl rfl)
theorem dX2_isConsistent_12 : decode cX2_isConsistent 12 = .ok (.aload_n 0, 1) := dk_42 (dk_at dksX2_isConsistent_0 12 rfl rfl)
theorem dX2_isConsistent_13 : decode cX2_isConsistent 13 = .ok (.invokevirtual 299, 3) := dk_182 1 43 (dk_at dksX2_isConsistent_0 13 rfl rfl)
theorem dX2_isConsistent_16 : decode cX2_isConsistent 16 = .ok (.ifCond .eq 18, 3) := dk_153 0 18 (dk_at dksX2_isConsistent_0 16 rfl rfl)
theorem dX2_isConsistent_19 : decode cX2_isConsistent 19 = .ok (.aload_n 0, 1) := dk_42 (dk_at dksX2_isConsistent_0 19 rfl rfl)
theorem dX2_isConsistent_20 : decode cX2_isConsistent 20 = .ok (.getfield 60, 3) := dk_180 0 60 (dk_at dksX2_isConsistent_0 20 rfl rfl)
theorem dX2_isConsistent_23 : decode cX2_isConsistent 23 = .ok (.aload_n 0, 1) := dk_42 (dk_at dksX2_isConsistent_0 23 rfl rfl)
theorem dX2_isConsistent_24 : decode cX2_isConsistent 24 = .ok (.invokevirtual 302, 3) := dk_182 1 46 (dk_at dksX2_isConsistent_1 0 rfl rfl)
theorem dX2_isConsistent_27 : decode cX2_isConsistent 27 = .ok (.if_icmp .ne 7, 3) := dk_160 0 7 (dk_at dksX2_isConsistent_1 3 rfl rfl)
theorem dX2_isConsistent_30 : decode cX2_isConsistent 30 = .ok (.iconst 1, 1) := dk_4 (dk_at dksX2_isConsistent_1 6 rfl rfl)
theorem dX2_isConsistent_31 : decode cX2_isConsistent 31 = .ok (.goto 4, 3) := dk_167 0 4 (dk_at dksX2_isConsistent_1 7 rfl rfl)
theorem dX2_isConsistent_34 : decode cX2_isConsistent 34 = .ok (.iconst 0, 1) := dk_3 (dk_at dksX2_isConsistent_1 10 rfl rfl)
theorem dX2_isConsistent_35 : decode cX2_isConsistent 35 = .ok (.istore_n 2, 1) := dk_61 (dk_at dksX2_isConsistent_1 11 rfl rfl)
theorem dX2_isConsistent_36 : decode cX2_isConsistent 36 = .ok (.iload_n 2, 1) := dk_28 (dk_at dksX2_isConsistent_1 12 rfl rfl)
theorem dX2_isConsistent_37 : decode cX2_isConsistent 37 = .ok (.ifCond .eq 18, 3) := dk_153 0 18 (dk_at dksX2_isConsistent_1 13 rfl rfl)
theorem dX2_isConsistent_40 : decode cX2_isConsistent 40 = .ok (.aload_n 0, 1) := dk_42 (dk_at dksX2_isConsistent_1 16 rfl rfl)
theorem dX2_isConsistent_41 : decode cX2_isConsistent 41 = .ok (.invokevirtual 305, 3) := dk_182 1 49 (dk_at dksX2_isConsistent_1 17 rfl rfl)
theorem dX2_isConsistent_44 : decode cX2_isConsistent 44 = .ok (.aload_n 0, 1) := dk_42 (dk_at dksX2_isConsistent_1 20 rfl rfl)
theorem dX2_isConsistent_45 : decode cX2_isConsistent 45 = .ok (.invokevirtual 308, 3) := dk_182 1 52 (dk_at dksX2_isConsistent_1 21 rfl rfl)
theorem dX2_isConsistent_48 : decode cX2_isConsistent 48 = .ok (.if_icmp .ne 7, 3) := dk_160 0 7 (dk_at dksX2_isConsistent_2 0 rfl rfl)
theorem dX2_isConsistent_51 : decode cX2_isConsistent 51 = .ok (.iconst 1, 1) := dk_4 (dk_at dksX2_isConsistent_2 3 rfl rfl)
theorem dX2_isConsistent_52 : decode cX2_isConsistent 52 = .ok (.goto 4, 3) := dk_167 0 4 (dk_at dksX2_isConsistent_2 4 rfl rfl)
theorem dX2_isConsistent_55 : decode cX2_isConsistent 55 = .ok (.iconst 0, 1) := dk_3 (dk_at dksX2_isConsistent_2 7 rfl rfl)
theorem dX2_isConsistent_56 : decode cX2_isConsistent 56 = .ok (.istore_n 2, 1) := dk_61 (dk_at dksX2_isConsistent_2 8 rfl rfl)
theorem dX2_isConsistent_57 : decode cX2_isConsistent 57 = .ok (.iload_n 2, 1) := dk_28 (dk_at dksX2_isConsistent_2 9 rfl rfl)
theorem dX2_isConsistent_58 : decode cX2_isConsistent 58 = .ok (.ifCond .eq 21, 3) := dk_153 0 21 (dk_at dksX2_isConsistent_2 10 rfl rfl)
theorem dX2_isConsistent_61 : decode cX2_isConsistent 61 = .ok (.aload_n 1, 1) := dk_43 (dk_at dksX2_isConsistent_2 13 rfl rfl)
theorem dX2_isConsistent_62 : decode cX2_isConsistent 62 = .ok (.invokevirtual 311, 3) := dk_182 1 55 (dk_at dksX2_isConsistent_2 14 rfl rfl)
theorem dX2_isConsistent_65 : decode cX2_isConsistent 65 = .ok (.aload_n 1, 1) := dk_43 (dk_at dksX2_isConsistent_2 17 rfl rfl)
theorem dX2_isConsistent_66 : decode cX2_isConsistent 66 = .ok (.iconst 0, 1) := dk_3 (dk_at dksX2_isConsistent_2 18 rfl rfl)
theorem dX2_isConsistent_67 : decode cX2_isConsistent 67 = .ok (.iconst 0, 1) := dk_3 (dk_at dksX2_isConsistent_2 19 rfl rfl)
theorem dX2_isConsistent_68 : decode cX2_isConsistent 68 = .ok (.invokevirtual 314, 3) := dk_182 1 58 (dk_at dksX2_isConsistent_2 20 rfl rfl)
theorem dX2_isConsistent_71 : decode cX2_isConsistent 71 = .ok (.lcmp, 1) := dk_148 (dk_at dksX2_isConsistent_2 23 rfl rfl)
theorem dX2_isConsistent_72 : decode cX2_isConsistent 72 = .ok (.ifCond .ne 7, 3) := dk_154 0 7 (dk_at dksX2_isConsistent_3 0 rfl rfl)
theorem dX2_isConsistent_75 : decode cX2_isConsistent 75 = .ok (.iconst 1, 1) := dk_4 (dk_at dksX2_isConsistent_3 3 rfl rfl)
theorem dX2_isConsistent_76 : decode cX2_isConsistent 76 = .ok (.goto 4, 3) := dk_167 0 4 (dk_at dksX2_isConsistent_3 4 rfl rfl)
theorem dX2_isConsistent_79 : decode cX2_isConsistent 79 = .ok (.iconst 0, 1) := dk_3 (dk_at dksX2_isConsistent_3 7 rfl rfl)
theorem dX2_isConsistent_80 : decode cX2_isConsistent 80 = .ok (.ireturn, 1) := dk_172 (dk_at dksX2_isConsistent_3 8 rfl rfl)
def dkwX2_areNearestAlike_4 : List UInt8 := [132, 3, 1, 167, 255, 169, 28, 172]
abbrev dktX2_areNearestAlike_4 : List UInt8 := dkwX2_areNearestAlike_4 ++ []
def dkwX2_areNearestAlike_3 : List UInt8 := [43, 25, 4, 182, 1, 25, 182, 0, 189, 192, 0, 110, 180, 0, 194, 160, 0, 7, 4, 167, 0, 4, 3, 61]
abbrev dktX2_areNearestAlike_3 : List UInt8 := dkwX2_areNearestAlike_3 ++ dktX2_areNearestAlike_4
def dkwX2_areNearestAlike_2 : List UInt8 := [180, 0, 102, 58, 4, 28, 153, 0, 40, 43, 25, 4, 182, 0, 185, 182, 0, 189, 192, 0, 110, 180, 0, 194]
abbrev dktX2_areNearestAlike_2 : List UInt8 := dkwX2_areNearestAlike_2 ++ dktX2_areNearestAlike_3
def dkwX2_areNearestAlike_1 : List UInt8 := [180, 0, 12, 182, 0, 141, 158, 0, 70, 42, 180, 0, 21, 29, 185, 0, 40, 2, 0, 192, 0, 44]
abbrev dktX2_areNearestAlike_1 : List UInt8 := dkwX2_areNearestAlike_1 ++ dktX2_areNearestAlike_2
def dkwX2_areNearestAlike_0 : List UInt8 := [42, 182, 0, 181, 76, 4, 61, 3, 62, 29, 42, 180, 0, 21, 185, 0, 34, 1, 0, 162, 0, 80, 42]
abbrev dktX2_areNearestAlike_0 : List UInt8 := dkwX2_areNearestAlike_0 ++ dktX2_areNearestAlike_1
theorem dksX2_areNearestAlike_0 : cX2_areNearestAlike.data.toList.drop 0 = dktX2_areNearestAlike_0 := by decide +kernel
theorem dksX2_areNearestAlike_1 : cX2_areNearestAlike.data.toList.drop 23 = dktX2_areNearestAlike_1 := dk_seg dksX2_areNearestAlike_0 23 rfl rfl
theorem dksX2_areNearestAlike_2 : cX2_areNearestAlike.data.toList.drop 45 = dktX2_areNearestAlike_2 := dk_seg dksX2_areNearestAlike_1 22 rfl rfl
theorem dksX2_areNearestAlike_3 : cX2_areNearestAlike.data.toList.drop 69 = dktX2_areNearestAlike_3 := dk_seg dksX2_areNearestAlike_2 24 rfl rfl
theorem dksX2_areNearestAlike_4 : cX2_areNearestAlike.data.toList.drop 93 = dktX2_areNearestAlike_4 := dk_seg dksX2_areNearestAlike_3 24 rfl rfl
theorem dX2_areNearestAlike_0 : decode cX2_areNearestAlike 0 = .ok (.aload_n 0, 1) := dk_42 (dk_at dksX2_areNearestAlike_0 0 rfl rfl)
theorem dX2_areNearestAlike_1 : decode cX2_areNearestAlike 1 = .ok (.invokevirtual 181, 3) := dk_182 0 181 (dk_at dksX2_areNearestAlike_0 1 rfl rfl)
theorem dX2_areNearestAlike_4 : decode cX2_areNearestAlike 4 = .ok (.astore_n 1, 1) := dk_76 (dk_at dksX2_areNearestAlike_0 4 rfl rfl)
theorem dX2_areNearestAlike_5 : decode cX2_areNearestAlike 5 = .ok (.iconst 1, 1) := dk_4 (dk_at dksX2_areNearestAlike_0 5 rfl rfl)
theorem dX2_areNearestAlike_6 : decode cX2_areNearestAlike 6 = .ok (.istore_n 2, 1) := dk_61 (dk_at dksX2_areNearestAlike_0 6 rfl rfl)
theorem dX2_areNearestAlike_7 : decode cX2_areNearestAlike 7 = .ok (.iconst 0, 1) := dk_3 (dk_at dksX2_areNearestAlike_0 7 rfl rfl)
theorem dX2_areNearestAlike_8 : decode cX2_areNearestAlike 8 = .ok (.istore_n 3, 1) := dk_62 (dk_at dksX2_areNearestAlike_0 8 rfl rfl)
theorem dX2_areNearestAlike_9 : decode cX2_areNearestAlike 9 = .ok (.iload_n 3, 1) := dk_29 (dk_at dksX2_areNearestAlike_0 9 rfl rfl)
theorem dX2_areNearestAlike_10 : decode cX2_areNearestAlike 10 = .ok (.aload_n 0, 1) := dk_42 (dk_at dksX2_areNearestAlike_0 10 rfl rfl)
theorem dX2_areNearestAlike_11 : decode cX2_areNearestAlike 11 = .ok (.getfield 21, 3) := dk_180 0 21 (dk_at dksX2_areNearestAlike_0 11 rfl rfl)
theorem dX2_areNearestAlike_14 : decode cX2_areNearestAlike 14 = .ok (.invokeinterface 34 1, 5) := by decide +kernel
theorem dX2_areNearestAlike_19 : decode cX2_areNearestAlike 19 = .ok (.if_icmp .ge 80, 3) := dk_162 0 80 (dk_at dksX2_areNearestAlike_0 19 rfl rfl)
theorem dX2_areNearestAlike_22 : decode cX2_areNearestAlike 22 = .ok (.aload_n 0, 1) := dk_42 (dk_at dksX2_areNearestAlike_0 22 rfl rfl)
theorem dX2_areNearestAlike_23 : decode cX2_areNearestAlike 23 = .ok (.getfield 12, 3) := dk_180 0 12 (dk_at dksX2_areNearestAlike_1 0 rfl rfl)
theorem dX2_areNearestAlike_26 : decode cX2_areNearestAlike 26 = .ok (.invokevirtual 141, 3) := dk_182 0 141 (dk_at dksX2_areNearestAlike_1 3 rfl rfl)
theorem dX2_areNearestAlike_29 : decode cX2_areNearestAlike 29 = .ok (.ifCond .le 70, 3) := dk_158 0 70 (dk_at dksX2_areNearestAlike_1 6 rfl rfl)
theorem dX2_areNearestAlike_32 : decode cX2_areNearestAlike 32 = .ok (.aload_n 0, 1) := dk_42 (dk_at dksX2_areNearestAlike_1 9 rfl rfl)
theorem dX2_areNearestAlike_33 : decode cX2_areNearestAlike 33 = .ok (.getfield 21, 3) := dk_180 0 21 (dk_at dksX2_areNearestAlike_1 10 rfl rfl)
theorem dX2_areNearestAlike_36 : decode cX2_areNearestAlike 36 = .ok (.iload_n 3, 1) := dk_29 (dk_at dksX2_areNearestAlike_1 13 rfl rfl)
theorem dX2_areNearestAlike_37 : decode cX2_areNearestAlike 37 = .ok (.invokeinterface 40 2, 5) := by decide +kernel
theorem dX2_areNearestAlike_42 : decode cX2_areNearestAlike 42 = .ok (.checkcast 44, 3) := dk_192 0 44 (dk_at dksX2_areNearestAlike_1 19 rfl rfl)
theorem dX2_areNearestAlike_45 : decode cX2_areNearestAlike 45 = .ok (.getfield 102, 3) := dk_180 0 102 (dk_at dksX2_areNearestAlike_2 0 rfl rfl)
theorem dX2_areNearestAlike_48 : decode cX2_areNearestAlike 48 = .ok (.astore 4, 2) := dk_58 4 (dk_at dksX2_areNearestAlike_2 3 rfl rfl)
theorem dX2_areNearestAlike_50 : decode cX2_areNearestAlike 50 = .ok (.iload_n 2, 1) := dk_28 (dk_at dksX2_areNearestAlike_2 5 rfl rfl)
theorem dX2_areNearestAlike_51 : decode cX2_areNearestAlike 51 = .ok (.ifCond .eq 40, 3) := dk_153 0 40 (dk_at dksX2_areNearestAlike_2 6 rfl rfl)
theorem dX2_areNearestAlike_54 : decode cX2_areNearestAlike 54 = .ok (.aload_n 1, 1) := dk_43 (dk_at dksX2_areNearestAlike_2 9 rfl rfl)
theorem dX2_areNearestAlike_55 : decode cX2_areNearestAlike 55 = .ok (.aload 4, 2) := dk_25 4 (dk_at dksX2_areNearestAlike_2 10 rfl rfl)
theorem dX2_areNearestAlike_57 : decode cX2_areNearestAlike 57 = .ok (.invokevirtual 185, 3) := dk_182 0 185 (dk_at dksX2_areNearestAlike_2 12 rfl rfl)
theorem dX2_areNearestAlike_60 : decode cX2_areNearestAlike 60 = .ok (.invokevirtual 189, 3) := dk_182 0 189 (dk_at dksX2_areNearestAlike_2 15 rfl rfl)
theorem dX2_areNearestAlike_63 : decode cX2_areNearestAlike 63 = .ok (.checkcast 110, 3) := dk_192 0 110 (dk_at dksX2_areNearestAlike_2 18 rfl rfl)
theorem dX2_areNearestAlike_66 : decode cX2_areNearestAlike 66 = .ok (.getfield 194, 3) := dk_180 0 194 (dk_at dksX2_areNearestAlike_2 21 rfl rfl)
theorem dX2_areNearestAlike_69 : decode cX2_areNearestAlike 69 = .ok (.aload_n 1, 1) := dk_43 (dk_at dksX2_areNearestAlike_3 0 rfl rfl)
theorem dX2_areNearestAlike_70 : decode cX2_areNearestAlike 70 = .ok (.aload 4, 2) := dk_25 4 (dk_at dksX2_areNearestAlike_3 1 rfl rfl)
theorem dX2_areNearestAlike_72 : decode cX2_areNearestAlike 72 = .ok (.invokevirtual 281, 3) := dk_182 1 25 (dk_at dksX2_areNearestAlike_3 3 rfl rfl)
theorem dX2_areNearestAlike_75 : decode cX2_areNearestAlike 75 = .ok (.invokevirtual 189, 3) := dk_182 0 189 (dk_at dksX2_areNearestAlike_3 6 rfl rfl)
theorem dX2_areNearestAlike_78 : decode cX2_areNearestAlike 78 = .ok (.checkcast 110, 3) := dk_192 0 110 (dk_at dksX2_areNearestAlike_3 9 rfl rfl)
theorem dX2_areNearestAlike_81 : decode cX2_areNearestAlike 81 = .ok (.getfield 194, 3) := dk_180 0 194 (dk_at dksX2_areNearestAlike_3 12 rfl rfl)
theorem dX2_areNearestAlike_84 : decode cX2_areNearestAlike 84 = .ok (.if_icmp .ne 7, 3) := dk_160 0 7 (dk_at dksX2_areNearestAlike_3 15 rfl rfl)
theorem dX2_areNearestAlike_87 : decode cX2_areNearestAlike 87 = .ok (.iconst 1, 1) := dk_4 (dk_at dksX2_areNearestAlike_3 18 rfl rfl)
theorem dX2_areNearestAlike_88 : decode cX2_areNearestAlike 88 = .ok (.goto 4, 3) := dk_167 0 4 (dk_at dksX2_areNearestAlike_3 19 rfl rfl)
theorem dX2_areNearestAlike_91 : decode cX2_areNearestAlike 91 = .ok (.iconst 0, 1) := dk_3 (dk_at dksX2_areNearestAlike_3 22 rfl rfl)
theorem dX2_areNearestAlike_92 : decode cX2_areNearestAlike 92 = .ok (.istore_n 2, 1) := dk_61 (dk_at dksX2_areNearestAlike_3 23 rfl rfl)
theorem dX2_areNearestAlike_93 : decode cX2_areNearestAlike 93 = .ok (.iinc 3 1, 3) := dk_132 3 1 (dk_at dksX2_areNearestAlike_4 0 rfl rfl)
theorem dX2_areNearestAlike_96 : decode cX2_areNearestAlike 96 = .ok (.goto (-87), 3) := dk_167 255 169 (dk_at dksX2_areNearestAlike_4 3 rfl rfl)
theorem dX2_areNearestAlike_99 : decode cX2_areNearestAlike 99 = .ok (.iload_n 2, 1) := dk_28 (dk_at dksX2_areNearestAlike_4 6 rfl rfl)
theorem dX2_areNearestAlike_100 : decode cX2_areNearestAlike 100 = .ok (.ireturn, 1) := dk_172 (dk_at dksX2_areNearestAlike_4 7 rfl rfl)
def dkwX2_arePalettesAlike_3 : List UInt8 := [172]
abbrev dktX2_arePalettesAlike_3 : List UInt8 := dkwX2_arePalettesAlike_3 ++ []
def dkwX2_arePalettesAlike_2 : List UInt8 := [182, 1, 34, 43, 29, 182, 1, 37, 160, 0, 7, 4, 167, 0, 4, 3, 61, 132, 3, 1, 167, 255, 211, 28]
abbrev dktX2_arePalettesAlike_2 : List UInt8 := dkwX2_arePalettesAlike_2 ++ dktX2_arePalettesAlike_3
def dkwX2_arePalettesAlike_1 : List UInt8 := [180, 0, 12, 182, 0, 141, 184, 0, 222, 163, 0, 36, 28, 153, 0, 24, 43, 43, 29, 182, 1, 31]
abbrev dktX2_arePalettesAlike_1 : List UInt8 := dkwX2_arePalettesAlike_1 ++ dktX2_arePalettesAlike_2
def dkwX2_arePalettesAlike_0 : List UInt8 := [187, 1, 28, 89, 42, 180, 0, 12, 42, 182, 0, 92, 183, 1, 30, 76, 4, 61, 4, 62, 29, 6, 42]
abbrev dktX2_arePalettesAlike_0 : List UInt8 := dkwX2_arePalettesAlike_0 ++ dktX2_arePalettesAlike_1
theorem dksX2_arePalettesAlike_0 : cX2_arePalettesAlike.data.toList.drop 0 = dktX2_arePalettesAlike_0 := by decide +kernel
theorem dksX2_arePalettesAlike_1 : cX2_arePalettesAlike.data.toList.drop 23 = dktX2_arePalettesAlike_1 := dk_seg dksX2_arePalettesAlike_0 23 rfl rfl
theorem dksX2_arePalettesAlike_2 : cX2_arePalettesAlike.data.toList.drop 45 = dktX2_arePalettesAlike_2 := dk_seg dksX2_arePalettesAlike_1 22 rfl rfl
theorem dksX2_arePalettesAlike_3 : cX2_arePalettesAlike.data.toList.drop 69 = dktX2_arePalettesAlike_3 := dk_seg dksX2_arePalettesAlike_2 24 rfl rfl
theorem dX2_arePalettesAlike_0 : decode cX2_arePalettesAlike 0 = .ok (.new 284, 3) := dk_187 1 28 (dk_at dksX2_arePalettesAlike_0 0 rfl rfl)
theorem dX2_arePalettesAlike_3 : decode cX2_arePalettesAlike 3 = .ok (.dup, 1) := dk_89 (dk_at dksX2_arePalettesAlike_0 3 rfl rfl)
theorem dX2_arePalettesAlike_4 : decode cX2_arePalettesAlike 4 = .ok (.aload_n 0, 1) := dk_42 (dk_at dksX2_arePalettesAlike_0 4 rfl rfl)
theorem dX2_arePalettesAlike_5 : decode cX2_arePalettesAlike 5 = .ok (.getfield 12, 3) := dk_180 0 12 (dk_at dksX2_arePalettesAlike_0 5 rfl rfl)
theorem dX2_arePalettesAlike_8 : decode cX2_arePalettesAlike 8 = .ok (.aload_n 0, 1) := dk_42 (dk_at dksX2_arePalettesAlike_0 8 rfl rfl)
theorem dX2_arePalettesAlike_9 : decode cX2_arePalettesAlike 9 = .ok (.invokevirtual 92, 3) := dk_182 0 92 (dk_at dksX2_arePalettesAlike_0 9 rfl rfl)
theorem dX2_arePalettesAlike_12 : decode cX2_arePalettesAlike 12 = .ok (.invokespecial 286, 3) := dk_183 1 30 (dk_at dksX2_arePalettesAlike_0 12 rfl rfl)
theorem dX2_arePalettesAlike_15 : decode cX2_arePalettesAlike 15 = .ok (.astore_n 1, 1) := dk_76 (dk_at dksX2_arePalettesAlike_0 15 rfl rfl)
theorem dX2_arePalettesAlike_16 : decode cX2_arePalettesAlike 16 = .ok (.iconst 1, 1) := dk_4 (dk_at dksX2_arePalettesAlike_0 16 rfl rfl)
theorem dX2_arePalettesAlike_17 : decode cX2_arePalettesAlike 17 = .ok (.istore_n 2, 1) := dk_61 (dk_at dksX2_arePalettesAlike_0 17 rfl rfl)
theorem dX2_arePalettesAlike_18 : decode cX2_arePalettesAlike 18 = .ok (.iconst 1, 1) := dk_4 (dk_at dksX2_arePalettesAlike_0 18 rfl rfl)
theorem dX2_arePalettesAlike_19 : decode cX2_arePalettesAlike 19 = .ok (.istore_n 3, 1) := dk_62 (dk_at dksX2_arePalettesAlike_0 19 rfl rfl)
theorem dX2_arePalettesAlike_20 : decode cX2_arePalettesAlike 20 = .ok (.iload_n 3, 1) := dk_29 (dk_at dksX2_arePalettesAlike_0 20 rfl rfl)
theorem dX2_arePalettesAlike_21 : decode cX2_arePalettesAlike 21 = .ok (.iconst 3, 1) := dk_6 (dk_at dksX2_arePalettesAlike_0 21 rfl rfl)
theorem dX2_arePalettesAlike_22 : decode cX2_arePalettesAlike 22 = .ok (.aload_n 0, 1) := dk_42 (dk_at dksX2_arePalettesAlike_0 22 rfl rfl)
theorem dX2_arePalettesAlike_23 : decode cX2_arePalettesAlike 23 = .ok (.getfield 12, 3) := dk_180 0 12 (dk_at dksX2_arePalettesAlike_1 0 rfl rfl)
theorem dX2_arePalettesAlike_26 : decode cX2_arePalettesAlike 26 = .ok (.invokevirtual 141, 3) := dk_182 0 141 (dk_at dksX2_arePalettesAlike_1 3 rfl rfl)
theorem dX2_arePalettesAlike_29 : decode cX2_arePalettesAlike 29 = .ok (.invokestatic 222, 3) := dk_184 0 222 (dk_at dksX2_arePalettesAlike_1 6 rfl rfl)
theorem dX2_arePalettesAlike_32 : decode cX2_arePalettesAlike 32 = .ok (.if_icmp .gt 36, 3) := dk_163 0 36 (dk_at dksX2_arePalettesAlike_1 9 rfl rfl)
theorem dX2_arePalettesAlike_35 : decode cX2_arePalettesAlike 35 = .ok (.iload_n 2, 1) := dk_28 (dk_at dksX2_arePalettesAlike_1 12 rfl rfl)
theorem dX2_arePalettesAlike_36 : decode cX2_arePalettesAlike 36 = .ok (.ifCond .eq 24, 3) := dk_153 0 24 (dk_at dksX2_arePalettesAlike_1 13 rfl rfl)
theorem dX2_arePalettesAlike_39 : decode cX2_arePalettesAlike 39 = .ok (.aload_n 1, 1) := dk_43 (dk_at dksX2_arePalettesAlike_1 16 rfl rfl)
theorem dX2_arePalettesAlike_40 : decode cX2_arePalettesAlike 40 = .ok (.aload_n 1, 1) := dk_43 (dk_at dksX2_arePalettesAlike_1 17 rfl rfl)
theorem dX2_arePalettesAlike_41 : decode cX2_arePalettesAlike 41 = .ok (.iload_n 3, 1) := dk_29 (dk_at dksX2_arePalettesAlike_1 18 rfl rfl)
theorem dX2_arePalettesAlike_42 : decode cX2_arePalettesAlike 42 = .ok (.invokevirtual 287, 3) := dk_182 1 31 (dk_at dksX2_arePalettesAlike_1 19 rfl rfl)
theorem dX2_arePalettesAlike_45 : decode cX2_arePalettesAlike 45 = .ok (.invokevirtual 290, 3) := dk_182 1 34 (dk_at dksX2_arePalettesAlike_2 0 rfl rfl)
theorem dX2_arePalettesAlike_48 : decode cX2_arePalettesAlike 48 = .ok (.aload_n 1, 1) := dk_43 (dk_at dksX2_arePalettesAlike_2 3 rfl rfl)
theorem dX2_arePalettesAlike_49 : decode cX2_arePalettesAlike 49 = .ok (.iload_n 3, 1) := dk_29 (dk_at dksX2_arePalettesAlike_2 4 rfl rfl)
theorem dX2_arePalettesAlike_50 : decode cX2_arePalettesAlike 50 = .ok (.invokevirtual 293, 3) := dk_182 1 37 (dk_at dksX2_arePalettesAlike_2 5 rfl rfl)
theorem dX2_arePalettesAlike_53 : decode cX2_arePalettesAlike 53 = .ok (.if_icmp .ne 7, 3) := dk_160 0 7 (dk_at dksX2_arePalettesAlike_2 8 rfl rfl)
theorem dX2_arePalettesAlike_56 : decode cX2_arePalettesAlike 56 = .ok (.iconst 1, 1) := dk_4 (dk_at dksX2_arePalettesAlike_2 11 rfl rfl)
theorem dX2_arePalettesAlike_57 : decode cX2_arePalettesAlike 57 = .ok (.goto 4, 3) := dk_167 0 4 (dk_at dksX2_arePalettesAlike_2 12 rfl rfl)
theorem dX2_arePalettesAlike_60 : decode cX2_arePalettesAlike 60 = .ok (.iconst 0, 1) := dk_3 (dk_at dksX2_arePalettesAlike_2 15 rfl rfl)
theorem dX2_arePalettesAlike_61 : decode cX2_arePalettesAlike 61 = .ok (.istore_n 2, 1) := dk_61 (dk_at dksX2_arePalettesAlike_2 16 rfl rfl)
theorem dX2_arePalettesAlike_62 : decode cX2_arePalettesAlike 62 = .ok (.iinc 3 1, 3) := dk_132 3 1 (dk_at dksX2_arePalettesAlike_2 17 rfl rfl)
theorem dX2_arePalettesAlike_65 : decode cX2_arePalettesAlike 65 = .ok (.goto (-45), 3) := dk_167 255 211 (dk_at dksX2_arePalettesAlike_2 20 rfl rfl)
theorem dX2_arePalettesAlike_68 : decode cX2_arePalettesAlike 68 = .ok (.iload_n 2, 1) := dk_28 (dk_at dksX2_arePalettesAlike_2 23 rfl rfl)
theorem dX2_arePalettesAlike_69 : decode cX2_arePalettesAlike 69 = .ok (.ireturn, 1) := dk_172 (dk_at dksX2_arePalettesAlike_3 0 rfl rfl)
def dkwX2_closestDistance_3 : List UInt8 := [167, 255, 195, 28, 172]
abbrev dktX2_closestDistance_3 : List UInt8 := dkwX2_closestDistance_3 ++ []
def dkwX2_closestDistance_2 : List UInt8 := [21, 4, 182, 0, 80, 180, 0, 109, 184, 0, 112, 184, 0, 222, 61, 132, 4, 1, 167, 255, 215, 132, 3, 1]
abbrev dktX2_closestDistance_2 : List UInt8 := dkwX2_closestDistance_2 ++ dktX2_closestDistance_3
def dkwX2_closestDistance_1 : List UInt8 := [21, 4, 29, 162, 0, 41, 28, 43, 42, 180, 0, 12, 29, 182, 0, 80, 180, 0, 109, 42, 180, 0, 12]
abbrev dktX2_closestDistance_1 : List UInt8 := dkwX2_closestDistance_1 ++ dktX2_closestDistance_2
def dkwX2_closestDistance_0 : List UInt8 := [42, 182, 0, 92, 76, 18, 252, 61, 3, 62, 29, 42, 180, 0, 12, 182, 0, 141, 162, 0, 56, 3, 54, 4]
abbrev dktX2_closestDistance_0 : List UInt8 := dkwX2_closestDistance_0 ++ dktX2_closestDistance_1
theorem dksX2_closestDistance_0 : cX2_closestDistance.data.toList.drop 0 = dktX2_closestDistance_0 := by decide +kernel
theorem dksX2_closestDistance_1 : cX2_closestDistance.data.toList.drop 24 = dktX2_closestDistance_1 := dk_seg dksX2_closestDistance_0 24 rfl rfl
theorem dksX2_closestDistance_2 : cX2_closestDistance.data.toList.drop 47 = dktX2_closestDistance_2 := dk_seg dksX2_closestDistance_1 23 rfl rfl
theorem dksX2_closestDistance_3 : cX2_closestDistance.data.toList.drop 71 = dktX2_closestDistance_3 := dk_seg dksX2_closestDistance_2 24 rfl rfl
theorem dX2_closestDistance_0 : decode cX2_closestDistance 0 = .ok (.aload_n 0, 1) := dk_42 (dk_at dksX2_closestDistance_0 0 rfl rfl)
theorem dX2_closestDistance_1 : decode cX2_closestDistance 1 = .ok (.invokevirtual 92, 3) := dk_182 0 92 (dk_at dksX2_closestDistance_0 1 rfl rfl)
theorem dX2_closestDistance_4 : decode cX2_closestDistance 4 = .ok (.astore_n 1, 1) := dk_76 (dk_at dksX2_closestDistance_0 4 rfl rfl)
theorem dX2_closestDistance_5 : decode cX2_closestDistance 5 = .ok (.ldc 252, 2) := dk_18 252 (dk_at dksX2_closestDistance_0 5 rfl rfl)
theorem dX2_closestDistance_7 : decode cX2_closestDistance 7 = .ok (.istore_n 2, 1) := dk_61 (dk_at dksX2_closestDistance_0 7 rfl rfl)
theorem dX2_closestDistance_8 : decode cX2_closestDistance 8 = .ok (.iconst 0, 1) := dk_3 (dk_at dksX2_closestDistance_0 8 rfl rfl)
theorem dX2_closestDistance_9 : decode cX2_closestDistance 9 = .ok (.istore_n 3, 1) := dk_62 (dk_at dksX2_closestDistance_0 9 rfl rfl)
theorem dX2_closestDistance_10 : decode cX2_closestDistance 10 = .ok (.iload_n 3, 1) := dk_29 (dk_at dksX2_closestDistance_0 10 rfl rfl)
theorem dX2_closestDistance_11 : decode cX2_closestDistance 11 = .ok (.aload_n 0, 1) := dk_42 (dk_at dksX2_closestDistance_0 11 rfl rfl)
theorem dX2_closestDistance_12 : decode cX2_closestDistance 12 = .ok (.getfield 12, 3) := dk_180 0 12 (dk_at dksX2_closestDistance_0 12 rfl rfl)
theorem dX2_closestDistance_15 : decode cX2_closestDistance 15 = .ok (.invokevirtual 141, 3) := dk_182 0 141 (dk_at dksX2_closestDistance_0 15 rfl rfl)
theorem dX2_closestDistance_18 : decode cX2_closestDistance 18 = .ok (.if_icmp .ge 56, 3) := dk_162 0 56 (dk_at dksX2_closestDistance_0 18 rfl rfl)
theorem dX2_closestDistance_21 : decode cX2_closestDistance 21 = .ok (.iconst 0, 1) := dk_3 (dk_at dksX2_closestDistance_0 21 rfl rfl)
theorem dX2_closestDistance_22 : decode cX2_closestDistance 22 = .ok (.istore 4, 2) := dk_54 4 (dk_at dksX2_closestDistance_0 22 rfl rfl)
theorem dX2_closestDistance_24 : decode cX2_closestDistance 24 = .ok (.iload 4, 2) := dk_21 4 (dk_at dksX2_closestDistance_1 0 rfl rfl)
theorem dX2_closestDistance_26 : decode cX2_closestDistance 26 = .ok (.iload_n 3, 1) := dk_29 (dk_at dksX2_closestDistance_1 2 rfl rfl)
theorem dX2_closestDistance_27 : decode cX2_closestDistance 27 = .ok (.if_icmp .ge 41, 3) := dk_162 0 41 (dk_at dksX2_closestDistance_1 3 rfl rfl)
theorem dX2_closestDistance_30 : decode cX2_closestDistance 30 = .ok (.iload_n 2, 1) := dk_28 (dk_at dksX2_closestDistance_1 6 rfl rfl)
theorem dX2_closestDistance_31 : decode cX2_closestDistance 31 = .ok (.aload_n 1, 1) := dk_43 (dk_at dksX2_closestDistance_1 7 rfl rfl)
theorem dX2_closestDistance_32 : decode cX2_closestDistance 32 = .ok (.aload_n 0, 1) := dk_42 (dk_at dksX2_closestDistance_1 8 rfl rfl)
theorem dX2_closestDistance_33 : decode cX2_closestDistance 33 = .ok (.getfield 12, 3) := dk_180 0 12 (dk_at dksX2_closestDistance_1 9 rfl rfl)
theorem dX2_closestDistance_36 : decode cX2_closestDistance 36 = .ok (.iload_n 3, 1) := dk_29 (dk_at dksX2_closestDistance_1 12 rfl rfl)
theorem dX2_closestDistance_37 : decode cX2_closestDistance 37 = .ok (.invokevirtual 80, 3) := dk_182 0 80 (dk_at dksX2_closestDistance_1 13 rfl rfl)
theorem dX2_closestDistance_40 : decode cX2_closestDistance 40 = .ok (.getfield 109, 3) := dk_180 0 109 (dk_at dksX2_closestDistance_1 16 rfl rfl)
theorem dX2_closestDistance_43 : decode cX2_closestDistance 43 = .ok (.aload_n 0, 1) := dk_42 (dk_at dksX2_closestDistance_1 19 rfl rfl)
theorem dX2_closestDistance_44 : decode cX2_closestDistance 44 = .ok (.getfield 12, 3) := dk_180 0 12 (dk_at dksX2_closestDistance_1 20 rfl rfl)
theorem dX2_closestDistance_47 : decode cX2_closestDistance 47 = .ok (.iload 4, 2) := dk_21 4 (dk_at dksX2_closestDistance_2 0 rfl rfl)
theorem dX2_closestDistance_49 : decode cX2_closestDistance 49 = .ok (.invokevirtual 80, 3) := dk_182 0 80 (dk_at dksX2_closestDistance_2 2 rfl rfl)
theorem dX2_closestDistance_52 : decode cX2_closestDistance 52 = .ok (.getfield 109, 3) := dk_180 0 109 (dk_at dksX2_closestDistance_2 5 rfl rfl)
theorem dX2_closestDistance_55 : decode cX2_closestDistance 55 = .ok (.invokestatic 112, 3) := dk_184 0 112 (dk_at dksX2_closestDistance_2 8 rfl rfl)
theorem dX2_closestDistance_58 : decode cX2_closestDistance 58 = .ok (.invokestatic 222, 3) := dk_184 0 222 (dk_at dksX2_closestDistance_2 11 rfl rfl)
theorem dX2_closestDistance_61 : decode cX2_closestDistance 61 = .ok (.istore_n 2, 1) := dk_61 (dk_at dksX2_closestDistance_2 14 rfl rfl)
theorem dX2_closestDistance_62 : decode cX2_closestDistance 62 = .ok (.iinc 4 1, 3) := dk_132 4 1 (dk_at dksX2_closestDistance_2 15 rfl rfl)
theorem dX2_closestDistance_65 : decode cX2_closestDistance 65 = .ok (.goto (-41), 3) := dk_167 255 215 (dk_at dksX2_closestDistance_2 18 rfl rfl)
theorem dX2_closestDistance_68 : decode cX2_closestDistance 68 = .ok (.iinc 3 1, 3) := dk_132 3 1 (dk_at dksX2_closestDistance_2 21 rfl rfl)
theorem dX2_closestDistance_71 : decode cX2_closestDistance 71 = .ok (.goto (-61), 3) := dk_167 255 195 (dk_at dksX2_closestDistance_3 0 rfl rfl)
theorem dX2_closestDistance_74 : decode cX2_closestDistance 74 = .ok (.iload_n 2, 1) := dk_28 (dk_at dksX2_closestDistance_3 3 rfl rfl)
theorem dX2_closestDistance_75 : decode cX2_closestDistance 75 = .ok (.ireturn, 1) := dk_172 (dk_at dksX2_closestDistance_3 4 rfl rfl)
def dkwX2_closestDistanceBySorting_4 : List UInt8 := [192, 0, 144, 184, 0, 112, 184, 0, 222, 62, 132, 5, 1, 167, 255, 181, 132, 4, 1, 167, 255, 158, 29, 172]
abbrev dktX2_closestDistanceBySorting_4 : List UInt8 := dkwX2_closestDistanceBySorting_4 ++ []
def dkwX2_closestDistanceBySorting_3 : List UInt8 := [162, 0, 40, 29, 43, 44, 21, 4, 185, 0, 40, 2, 0, 192, 0, 144, 44, 21, 5, 185, 0, 40, 2, 0]
abbrev dktX2_closestDistanceBySorting_3 : List UInt8 := dkwX2_closestDistanceBySorting_3 ++ dktX2_closestDistanceBySorting_4
def dkwX2_closestDistanceBySorting_2 : List UInt8 := [185, 0, 40, 2, 0, 192, 0, 144, 44, 21, 5, 185, 0, 40, 2, 0, 192, 0, 144, 184, 1, 1, 29]
abbrev dktX2_closestDistanceBySorting_2 : List UInt8 := dkwX2_closestDistanceBySorting_2 ++ dktX2_closestDistanceBySorting_3
def dkwX2_closestDistanceBySorting_1 : List UInt8 := [162, 0, 93, 21, 4, 4, 96, 54, 5, 21, 5, 44, 185, 0, 34, 1, 0, 162, 0, 70, 43, 44, 21, 4]
abbrev dktX2_closestDistanceBySorting_1 : List UInt8 := dkwX2_closestDistanceBySorting_1 ++ dktX2_closestDistanceBySorting_2
def dkwX2_closestDistanceBySorting_0 : List UInt8 := [42, 182, 0, 92, 76, 42, 182, 0, 253, 77, 18, 252, 62, 3, 54, 4, 21, 4, 44, 185, 0, 34, 1, 0]
abbrev dktX2_closestDistanceBySorting_0 : List UInt8 := dkwX2_closestDistanceBySorting_0 ++ dktX2_closestDistanceBySorting_1
theorem dksX2_closestDistanceBySorting_0 : cX2_closestDistanceBySorting.data.toList.drop 0 = dktX2_closestDistanceBySorting_0 := by decide +kernel
theorem dksX2_closestDistanceBySorting_1 : cX2_closestDistanceBySorting.data.toList.drop 24 = dktX2_closestDistanceBySorting_1 := dk_seg dksX2_closestDistanceBySorting_0 24 rfl rfl
theorem dksX2_closestDistanceBySorting_2 : cX2_closestDistanceBySorting.data.toList.drop 48 = dktX2_closestDistanceBySorting_2 := dk_seg dksX2_closestDistanceBySorting_1 24 rfl rfl
theorem dksX2_closestDistanceBySorting_3 : cX2_closestDistanceBySorting.data.toList.drop 71 = dktX2_closestDistanceBySorting_3 := dk_seg dksX2_closestDistanceBySorting_2 23 rfl rfl
theorem dksX2_closestDistanceBySorting_4 : cX2_closestDistanceBySorting.data.toList.drop 95 = dktX2_closestDistanceBySorting_4 := dk_seg dksX2_closestDistanceBySorting_3 24 rfl rfl
theorem dX2_closestDistanceBySorting_0 : decode cX2_closestDistanceBySorting 0 = .ok (.aload_n 0, 1) := dk_42 (dk_at dksX2_closestDistanceBySorting_0 0 rfl rfl)
theorem dX2_closestDistanceBySorting_1 : decode cX2_closestDistanceBySorting 1 = .ok (.invokevirtual 92, 3) := dk_182 0 92 (dk_at dksX2_closestDistanceBySorting_0 1 rfl rfl)
theorem dX2_closestDistanceBySorting_4 : decode cX2_closestDistanceBySorting 4 = .ok (.astore_n 1, 1) := dk_76 (dk_at dksX2_closestDistanceBySorting_0 4 rfl rfl)
theorem dX2_closestDistanceBySorting_5 : decode cX2_closestDistanceBySorting 5 = .ok (.aload_n 0, 1) := dk_42 (dk_at dksX2_closestDistanceBySorting_0 5 rfl rfl)
theorem dX2_closestDistanceBySorting_6 : decode cX2_closestDistanceBySorting 6 = .ok (.invokevirtual 253, 3) := dk_182 0 253 (dk_at dksX2_closestDistanceBySorting_0 6 rfl rfl)
theorem dX2_closestDistanceBySorting_9 : decode cX2_closestDistanceBySorting 9 = .ok (.astore_n 2, 1) := dk_77 (dk_at dksX2_closestDistanceBySorting_0 9 rfl rfl)
theorem dX2_closestDistanceBySorting_10 : decode cX2_closestDistanceBySorting 10 = .ok (.ldc 252, 2) := dk_18 252 (dk_at dksX2_closestDistanceBySorting_0 10 rfl rfl)
theorem dX2_closestDistanceBySorting_12 : decode cX2_closestDistanceBySorting 12 = .ok (.istore_n 3, 1) := dk_62 (dk_at dksX2_closestDistanceBySorting_0 12 rfl rfl)
theorem dX2_closestDistanceBySorting_13 : decode cX2_closestDistanceBySorting 13 = .ok (.iconst 0, 1) := dk_3 (dk_at dksX2_closestDistanceBySorting_0 13 rfl rfl)
theorem dX2_closestDistanceBySorting_14 : decode cX2_closestDistanceBySorting 14 = .ok (.istore 4, 2) := dk_54 4 (dk_at dksX2_closestDistanceBySorting_0 14 rfl rfl)
theorem dX2_closestDistanceBySorting_16 : decode cX2_closestDistanceBySorting 16 = .ok (.iload 4, 2) := dk_21 4 (dk_at dksX2_closestDistanceBySorting_0 16 rfl rfl)
theorem dX2_closestDistanceBySorting_18 : decode cX2_closestDistanceBySorting 18 = .ok (.aload_n 2, 1) := dk_44 (dk_at dksX2_closestDistanceBySorting_0 18 rfl rfl)
theorem dX2_closestDistanceBySorting_19 : decode cX2_closestDistanceBySorting 19 = .ok (.invokeinterface 34 1, 5) := by decide +kernel
theorem dX2_closestDistanceBySorting_24 : decode cX2_closestDistanceBySorting 24 = .ok (.if_icmp .ge 93, 3) := dk_162 0 93 (dk_at dksX2_closestDistanceBySorting_1 0 rfl rfl)
theorem dX2_closestDistanceBySorting_27 : decode cX2_closestDistanceBySorting 27 = .ok (.iload 4, 2) := dk_21 4 (dk_at dksX2_closestDistanceBySorting_1 3 rfl rfl)
theorem dX2_closestDistanceBySorting_29 : decode cX2_closestDistanceBySorting 29 = .ok (.iconst 1, 1) := dk_4 (dk_at dksX2_closestDistanceBySorting_1 5 rfl rfl)
theorem dX2_closestDistanceBySorting_30 : decode cX2_closestDistanceBySorting 30 = .ok (.iadd, 1) := dk_96 (dk_at dksX2_closestDistanceBySorting_1 6 rfl rfl)
theorem dX2_closestDistanceBySorting_31 : decode cX2_closestDistanceBySorting 31 = .ok (.istore 5, 2) := dk_54 5 (dk_at dksX2_closestDistanceBySorting_1 7 rfl rfl)
theorem dX2_closestDistanceBySorting_33 : decode cX2_closestDistanceBySorting 33 = .ok (.iload 5, 2) := dk_21 5 (dk_at dksX2_closestDistanceBySorting_1 9 rfl rfl)
theorem dX2_closestDistanceBySorting_35 : decode cX2_closestDistanceBySorting 35 = .ok (.aload_n 2, 1) := dk_44 (dk_at dksX2_closestDistanceBySorting_1 11 rfl rfl)
theorem dX2_closestDistanceBySorting_36 : decode cX2_closestDistanceBySorting 36 = .ok (.invokeinterface 34 1, 5) := by decide +kernel
theorem dX2_closestDistanceBySorting_41 : decode cX2_closestDistanceBySorting 41 = .ok (.if_icmp .ge 70, 3) := dk_162 0 70 (dk_at dksX2_closestDistanceBySorting_1 17 rfl rfl)
theorem dX2_closestDistanceBySorting_44 : decode cX2_closestDistanceBySorting 44 = .ok (.aload_n 1, 1) := dk_43 (dk_at dksX2_closestDistanceBySorting_1 20 rfl rfl)
theorem dX2_closestDistanceBySorting_45 : decode cX2_closestDistanceBySorting 45 = .ok (.aload_n 2, 1) := dk_44 (dk_at dksX2_closestDistanceBySorting_1 21 rfl rfl)
theorem dX2_closestDistanceBySorting_46 : decode cX2_closestDistanceBySorting 46 = .ok (.iload 4, 2) := dk_21 4 (dk_at dksX2_closestDistanceBySorting_1 22 rfl rfl)
theorem dX2_closestDistanceBySorting_48 : decode cX2_closestDistanceBySorting 48 = .ok (.invokeinterface 40 2, 5) := by decide +kernel
theorem dX2_closestDistanceBySorting_53 : decode cX2_closestDistanceBySorting 53 = .ok (.checkcast 144, 3) := dk_192 0 144 (dk_at dksX2_closestDistanceBySorting_2 5 rfl rfl)
theorem dX2_closestDistanceBySorting_56 : decode cX2_closestDistanceBySorting 56 = .ok (.aload_n 2, 1) := dk_44 (dk_at dksX2_closestDistanceBySorting_2 8 rfl rfl)
theorem dX2_closestDistanceBySorting_57 : decode cX2_closestDistanceBySorting 57 = .ok (.iload 5, 2) := dk_21 5 (dk_at dksX2_closestDistanceBySorting_2 9 rfl rfl)
theorem dX2_closestDistanceBySorting_59 : decode cX2_closestDistanceBySorting 59 = .ok (.invokeinterface 40 2, 5) := by decide +kernel
theorem dX2_closestDistanceBySorting_64 : decode cX2_closestDistanceBySorting 64 = .ok (.checkcast 144, 3) := dk_192 0 144 (dk_at dksX2_closestDistanceBySorting_2 16 rfl rfl)
theorem dX2_closestDistanceBySorting_67 : decode cX2_closestDistanceBySorting 67 = .ok (.invokestatic 257, 3) := dk_184 1 1 (dk_at dksX2_closestDistanceBySorting_2 19 rfl rfl)
theorem dX2_closestDistanceBySorting_70 : decode cX2_closestDistanceBySorting 70 = .ok (.iload_n 3, 1) := dk_29 (dk_at dksX2_closestDistanceBySorting_2 22 rfl rfl)
theorem dX2_closestDistanceBySorting_71 : decode cX2_closestDistanceBySorting 71 = .ok (.if_icmp .ge 40, 3) := dk_162 0 40 (dk_at dksX2_closestDistanceBySorting_3 0 rfl rfl)
theorem dX2_closestDistanceBySorting_74 : decode cX2_closestDistanceBySorting 74 = .ok (.iload_n 3, 1) := dk_29 (dk_at dksX2_closestDistanceBySorting_3 3 rfl rfl)
theorem dX2_closestDistanceBySorting_75 : decode cX2_closestDistanceBySorting 75 = .ok (.aload_n 1, 1) := dk_43 (dk_at dksX2_closestDistanceBySorting_3 4 rfl rfl)
theorem dX2_closestDistanceBySorting_76 : decode cX2_closestDistanceBySorting 76 = .ok (.aload_n 2, 1) := dk_44 (dk_at dksX2_closestDistanceBySorting_3 5 rfl rfl)
theorem dX2_closestDistanceBySorting_77 : decode cX2_closestDistanceBySorting 77 = .ok (.iload 4, 2) := dk_21 4 (dk_at dksX2_closestDistanceBySorting_3 6 rfl rfl)
theorem dX2_closestDistanceBySorting_79 : decode cX2_closestDistanceBySorting 79 = .ok (.invokeinterface 40 2, 5) := by decide +kernel
theorem dX2_closestDistanceBySorting_84 : decode cX2_closestDistanceBySorting 84 = .ok (.checkcast 144, 3) := dk_192 0 144 (dk_at dksX2_closestDistanceBySorting_3 13 rfl rfl)
theorem dX2_closestDistanceBySorting_87 : decode cX2_closestDistanceBySorting 87 = .ok (.aload_n 2, 1) := dk_44 (dk_at dksX2_closestDistanceBySorting_3 16 rfl rfl)
theorem dX2_closestDistanceBySorting_88 : decode cX2_closestDistanceBySorting 88 = .ok (.iload 5, 2) := dk_21 5 (dk_at dksX2_closestDistanceBySorting_3 17 rfl rfl)
theorem dX2_closestDistanceBySorting_90 : decode cX2_closestDistanceBySorting 90 = .ok (.invokeinterface 40 2, 5) := by decide +kernel
theorem dX2_closestDistanceBySorting_95 : decode cX2_closestDistanceBySorting 95 = .ok (.checkcast 144, 3) := dk_192 0 144 (dk_at dksX2_closestDistanceBySorting_4 0 rfl rfl)
theorem dX2_closestDistanceBySorting_98 : decode cX2_closestDistanceBySorting 98 = .ok (.invokestatic 112, 3) := dk_184 0 112 (dk_at dksX2_closestDistanceBySorting_4 3 rfl rfl)
theorem dX2_closestDistanceBySorting_101 : decode cX2_closestDistanceBySorting 101 = .ok (.invokestatic 222, 3) := dk_184 0 222 (dk_at dksX2_closestDistanceBySorting_4 6 rfl rfl)
theorem dX2_closestDistanceBySorting_104 : decode cX2_closestDistanceBySorting 104 = .ok (.istore_n 3, 1) := dk_62 (dk_at dksX2_closestDistanceBySorting_4 9 rfl rfl)
theorem dX2_closestDistanceBySorting_105 : decode cX2_closestDistanceBySorting 105 = .ok (.iinc 5 1, 3) := dk_132 5 1 (dk_at dksX2_closestDistanceBySorting_4 10 rfl rfl)
theorem dX2_closestDistanceBySorting_108 : decode cX2_closestDistanceBySorting 108 = .ok (.goto (-75), 3) := dk_167 255 181 (dk_at dksX2_closestDistanceBySorting_4 13 rfl rfl)
theorem dX2_closestDistanceBySorting_111 : decode cX2_closestDistanceBySorting 111 = .ok (.iinc 4 1, 3) := dk_132 4 1 (dk_at dksX2_closestDistanceBySorting_4 16 rfl rfl)
theorem dX2_closestDistanceBySorting_114 : decode cX2_closestDistanceBySorting 114 = .ok (.goto (-98), 3) := dk_167 255 158 (dk_at dksX2_closestDistanceBySorting_4 19 rfl rfl)
theorem dX2_closestDistanceBySorting_117 : decode cX2_closestDistanceBySorting 117 = .ok (.iload_n 3, 1) := dk_29 (dk_at dksX2_closestDistanceBySorting_4 22 rfl rfl)
theorem dX2_closestDistanceBySorting_118 : decode cX2_closestDistanceBySorting 118 = .ok (.ireturn, 1) := dk_172 (dk_at dksX2_closestDistanceBySorting_4 23 rfl rfl)
def dkwX2_sortedByRed_2 : List UInt8 := [43, 180, 1, 22, 176]
abbrev dktX2_sortedByRed_2 : List UInt8 := dkwX2_sortedByRed_2 ++ []
def dkwX2_sortedByRed_1 : List UInt8 := [153, 0, 24, 44, 185, 0, 243, 1, 0, 192, 0, 110, 78, 43, 45, 180, 0, 109, 182, 1, 18, 167, 255, 229]
abbrev dktX2_sortedByRed_1 : List UInt8 := dkwX2_sortedByRed_1 ++ dktX2_sortedByRed_2
def dkwX2_sortedByRed_0 : List UInt8 := [187, 1, 13, 89, 42, 183, 1, 15, 76, 42, 180, 0, 12, 182, 0, 233, 77, 44, 185, 0, 237, 1, 0]
abbrev dktX2_sortedByRed_0 : List UInt8 := dkwX2_sortedByRed_0 ++ dktX2_sortedByRed_1
theorem dksX2_sortedByRed_0 : cX2_sortedByRed.data.toList.drop 0 = dktX2_sortedByRed_0 := by decide +kernel
theorem dksX2_sortedByRed_1 : cX2_sortedByRed.data.toList.drop 23 = dktX2_sortedByRed_1 := dk_seg dksX2_sortedByRed_0 23 rfl rfl
theorem dksX2_sortedByRed_2 : cX2_sortedByRed.data.toList.drop 47 = dktX2_sortedByRed_2 := dk_seg dksX2_sortedByRed_1 24 rfl rfl
theorem dX2_sortedByRed_0 : decode cX2_sortedByRed 0 = .ok (.new 269, 3) := dk_187 1 13 (dk_at dksX2_sortedByRed_0 0 rfl rfl)
theorem dX2_sortedByRed_3 : decode cX2_sortedByRed 3 = .ok (.dup, 1) := dk_89 (dk_at dksX2_sortedByRed_0 3 rfl rfl)
theorem dX2_sortedByRed_4 : decode cX2_sortedByRed 4 = .ok (.aload_n 0, 1) := dk_42 (dk_at dksX2_sortedByRed_0 4 rfl rfl)
theorem dX2_sortedByRed_5 : decode cX2_sortedByRed 5 = .ok (.invokespecial 271, 3) := dk_183 1 15 (dk_at dksX2_sortedByRed_0 5 rfl rfl)
theorem dX2_sortedByRed_8 : decode cX2_sortedByRed 8 = .ok (.astore_n 1, 1) := dk_76 (dk_at dksX2_sortedByRed_0 8 rfl rfl)
theorem dX2_sortedByRed_9 : decode cX2_sortedByRed 9 = .ok (.aload_n 0, 1) := dk_42 (dk_at dksX2_sortedByRed_0 9 rfl rfl)
theorem dX2_sortedByRed_10 : decode cX2_sortedByRed 10 = .ok (.getfield 12, 3) := dk_180 0 12 (dk_at dksX2_sortedByRed_0 10 rfl rfl)
theorem dX2_sortedByRed_13 : decode cX2_sortedByRed 13 = .ok (.invokevirtual 233, 3) := dk_182 0 233 (dk_at dksX2_sortedByRed_0 13 rfl rfl)
theorem dX2_sortedByRed_16 : decode cX2_sortedByRed 16 = .ok (.astore_n 2, 1) := dk_77 (dk_at dksX2_sortedByRed_0 16 rfl rfl)
theorem dX2_sortedByRed_17 : decode cX2_sortedByRed 17 = .ok (.aload_n 2, 1) := dk_44 (dk_at dksX2_sortedByRed_0 17 rfl rfl)
theorem dX2_sortedByRed_18 : decode cX2_sortedByRed 18 = .ok (.invokeinterface 237 1, 5) := by decide +kernel
theorem dX2_sortedByRed_23 : decode cX2_sortedByRed 23 = .ok (.ifCond .eq 24, 3) := dk_153 0 24 (dk_at dksX2_sortedByRed_1 0 rfl rfl)
theorem dX2_sortedByRed_26 : decode cX2_sortedByRed 26 = .ok (.aload_n 2, 1) := dk_44 (dk_at dksX2_sortedByRed_1 3 rfl rfl)
theorem dX2_sortedByRed_27 : decode cX2_sortedByRed 27 = .ok (.invokeinterface 243 1, 5) := by decide +kernel
theorem dX2_sortedByRed_32 : decode cX2_sortedByRed 32 = .ok (.checkcast 110, 3) := dk_192 0 110 (dk_at dksX2_sortedByRed_1 9 rfl rfl)
theorem dX2_sortedByRed_35 : decode cX2_sortedByRed 35 = .ok (.astore_n 3, 1) := dk_78 (dk_at dksX2_sortedByRed_1 12 rfl rfl)
theorem dX2_sortedByRed_36 : decode cX2_sortedByRed 36 = .ok (.aload_n 1, 1) := dk_43 (dk_at dksX2_sortedByRed_1 13 rfl rfl)
theorem dX2_sortedByRed_37 : decode cX2_sortedByRed 37 = .ok (.aload_n 3, 1) := dk_45 (dk_at dksX2_sortedByRed_1 14 rfl rfl)
theorem dX2_sortedByRed_38 : decode cX2_sortedByRed 38 = .ok (.getfield 109, 3) := dk_180 0 109 (dk_at dksX2_sortedByRed_1 15 rfl rfl)
theorem dX2_sortedByRed_41 : decode cX2_sortedByRed 41 = .ok (.invokevirtual 274, 3) := dk_182 1 18 (dk_at dksX2_sortedByRed_1 18 rfl rfl)
theorem dX2_sortedByRed_44 : decode cX2_sortedByRed 44 = .ok (.goto (-27), 3) := dk_167 255 229 (dk_at dksX2_sortedByRed_1 21 rfl rfl)
theorem dX2_sortedByRed_47 : decode cX2_sortedByRed 47 = .ok (.aload_n 1, 1) := dk_43 (dk_at dksX2_sortedByRed_2 0 rfl rfl)
theorem dX2_sortedByRed_48 : decode cX2_sortedByRed 48 = .ok (.getfield 278, 3) := dk_180 1 22 (dk_at dksX2_sortedByRed_2 1 rfl rfl)
theorem dX2_sortedByRed_51 : decode cX2_sortedByRed 51 = .ok (.areturn, 1) := dk_176 (dk_at dksX2_sortedByRed_2 4 rfl rfl)
def dkwX2_redBound_0 : List UInt8 := [42, 43, 44, 3, 182, 1, 4, 3, 3, 185, 1, 7, 4, 0, 172]
abbrev dktX2_redBound_0 : List UInt8 := dkwX2_redBound_0 ++ []
theorem dksX2_redBound_0 : cX2_redBound.data.toList.drop 0 = dktX2_redBound_0 := by decide +kernel
theorem dX2_redBound_0 : decode cX2_redBound 0 = .ok (.aload_n 0, 1) := dk_42 (dk_at dksX2_redBound_0 0 rfl rfl)
theorem dX2_redBound_1 : decode cX2_redBound 1 = .ok (.aload_n 1, 1) := dk_43 (dk_at dksX2_redBound_0 1 rfl rfl)
theorem dX2_redBound_2 : decode cX2_redBound 2 = .ok (.aload_n 2, 1) := dk_44 (dk_at dksX2_redBound_0 2 rfl rfl)
theorem dX2_redBound_3 : decode cX2_redBound 3 = .ok (.iconst 0, 1) := dk_3 (dk_at dksX2_redBound_0 3 rfl rfl)
theorem dX2_redBound_4 : decode cX2_redBound 4 = .ok (.invokevirtual 260, 3) := dk_182 1 4 (dk_at dksX2_redBound_0 4 rfl rfl)
theorem dX2_redBound_7 : decode cX2_redBound 7 = .ok (.iconst 0, 1) := dk_3 (dk_at dksX2_redBound_0 7 rfl rfl)
theorem dX2_redBound_8 : decode cX2_redBound 8 = .ok (.iconst 0, 1) := dk_3 (dk_at dksX2_redBound_0 8 rfl rfl)
theorem dX2_redBound_9 : decode cX2_redBound 9 = .ok (.invokeinterface 263 4, 5) := by decide +kernel
theorem dX2_redBound_14 : decode cX2_redBound 14 = .ok (.ireturn, 1) := dk_172 (dk_at dksX2_redBound_0 14 rfl rfl)
def dkwX2_colourAt_5 : List UInt8 := [160, 0, 8, 45, 180, 0, 194, 172, 167, 255, 139, 2, 172]
abbrev dktX2_colourAt_5 : List UInt8 := dkwX2_colourAt_5 ++ []
def dkwX2_colourAt_4 : List UInt8 := [180, 0, 194, 45, 180, 0, 194, 162, 0, 7, 4, 167, 0, 4, 3, 96, 54, 4, 167, 255, 184, 21, 4, 27]
abbrev dktX2_colourAt_4 : List UInt8 := dkwX2_colourAt_4 ++ dktX2_colourAt_5
def dkwX2_colourAt_3 : List UInt8 := [180, 0, 109, 182, 0, 249, 100, 54, 7, 21, 4, 21, 7, 157, 0, 20, 21, 7, 154, 0, 19, 25, 6]
abbrev dktX2_colourAt_3 : List UInt8 := dkwX2_colourAt_3 ++ dktX2_colourAt_4
def dkwX2_colourAt_2 : List UInt8 := [153, 0, 68, 25, 5, 185, 0, 243, 1, 0, 192, 0, 110, 58, 6, 25, 6, 180, 0, 109, 182, 0, 249, 45]
abbrev dktX2_colourAt_2 : List UInt8 := dkwX2_colourAt_2 ++ dktX2_colourAt_3
def dkwX2_colourAt_1 : List UInt8 := [192, 0, 110, 78, 3, 54, 4, 42, 180, 0, 12, 182, 0, 233, 58, 5, 25, 5, 185, 0, 237, 1, 0]
abbrev dktX2_colourAt_1 : List UInt8 := dkwX2_colourAt_1 ++ dktX2_colourAt_2
def dkwX2_colourAt_0 : List UInt8 := [42, 180, 0, 12, 182, 0, 233, 77, 44, 185, 0, 237, 1, 0, 153, 0, 114, 44, 185, 0, 243, 1, 0]
abbrev dktX2_colourAt_0 : List UInt8 := dkwX2_colourAt_0 ++ dktX2_colourAt_1
theorem dksX2_colourAt_0 : cX2_colourAt.data.toList.drop 0 = dktX2_colourAt_0 := by decide +kernel
theorem dksX2_colourAt_1 : cX2_colourAt.data.toList.drop 23 = dktX2_colourAt_1 := dk_seg dksX2_colourAt_0 23 rfl rfl
theorem dksX2_colourAt_2 : cX2_colourAt.data.toList.drop 46 = dktX2_colourAt_2 := dk_seg dksX2_colourAt_1 23 rfl rfl
theorem dksX2_colourAt_3 : cX2_colourAt.data.toList.drop 70 = dktX2_colourAt_3 := dk_seg dksX2_colourAt_2 24 rfl rfl
theorem dksX2_colourAt_4 : cX2_colourAt.data.toList.drop 93 = dktX2_colourAt_4 := dk_seg dksX2_colourAt_3 23 rfl rfl
theorem dksX2_colourAt_5 : cX2_colourAt.data.toList.drop 117 = dktX2_colourAt_5 := dk_seg dksX2_colourAt_4 24 rfl rfl
theorem dX2_colourAt_0 : decode cX2_colourAt 0 = .ok (.aload_n 0, 1) := dk_42 (dk_at dksX2_colourAt_0 0 rfl rfl)
theorem dX2_colourAt_1 : decode cX2_colourAt 1 = .ok (.getfield 12, 3) := dk_180 0 12 (dk_at dksX2_colourAt_0 1 rfl rfl)
theorem dX2_colourAt_4 : decode cX2_colourAt 4 = .ok (.invokevirtual 233, 3) := dk_182 0 233 (dk_at dksX2_colourAt_0 4 rfl rfl)
theorem dX2_colourAt_7 : decode cX2_colourAt 7 = .ok (.astore_n 2, 1) := dk_77 (dk_at dksX2_colourAt_0 7 rfl rfl)
theorem dX2_colourAt_8 : decode cX2_colourAt 8 = .ok (.aload_n 2, 1) := dk_44 (dk_at dksX2_colourAt_0 8 rfl rfl)
theorem dX2_colourAt_9 : decode cX2_colourAt 9 = .ok (.invokeinterface 237 1, 5) := by decide +kernel
theorem dX2_colourAt_14 : decode cX2_colourAt 14 = .ok (.ifCond .eq 114, 3) := dk_153 0 114 (dk_at dksX2_colourAt_0 14 rfl rfl)
theorem dX2_colourAt_17 : decode cX2_colourAt 17 = .ok (.aload_n 2, 1) := dk_44 (dk_at dksX2_colourAt_0 17 rfl rfl)
theorem dX2_colourAt_18 : decode cX2_colourAt 18 = .ok (.invokeinterface 243 1, 5) := by decide +kernel
theorem dX2_colourAt_23 : decode cX2_colourAt 23 = .ok (.checkcast 110, 3) := dk_192 0 110 (dk_at dksX2_colourAt_1 0 rfl rfl)
theorem dX2_colourAt_26 : decode cX2_colourAt 26 = .ok (.astore_n 3, 1) := dk_78 (dk_at dksX2_colourAt_1 3 rfl rfl)
theorem dX2_colourAt_27 : decode cX2_colourAt 27 = .ok (.iconst 0, 1) := dk_3 (dk_at dksX2_colourAt_1 4 rfl rfl)
theorem dX2_colourAt_28 : decode cX2_colourAt 28 = .ok (.istore 4, 2) := dk_54 4 (dk_at dksX2_colourAt_1 5 rfl rfl)
theorem dX2_colourAt_30 : decode cX2_colourAt 30 = .ok (.aload_n 0, 1) := dk_42 (dk_at dksX2_colourAt_1 7 rfl rfl)
theorem dX2_colourAt_31 : decode cX2_colourAt 31 = .ok (.getfield 12, 3) := dk_180 0 12 (dk_at dksX2_colourAt_1 8 rfl rfl)
theorem dX2_colourAt_34 : decode cX2_colourAt 34 = .ok (.invokevirtual 233, 3) := dk_182 0 233 (dk_at dksX2_colourAt_1 11 rfl rfl)
theorem dX2_colourAt_37 : decode cX2_colourAt 37 = .ok (.astore 5, 2) := dk_58 5 (dk_at dksX2_colourAt_1 14 rfl rfl)
theorem dX2_colourAt_39 : decode cX2_colourAt 39 = .ok (.aload 5, 2) := dk_25 5 (dk_at dksX2_colourAt_1 16 rfl rfl)
theorem dX2_colourAt_41 : decode cX2_colourAt 41 = .ok (.invokeinterface 237 1, 5) := by decide +kernel
theorem dX2_colourAt_46 : decode cX2_colourAt 46 = .ok (.ifCond .eq 68, 3) := dk_153 0 68 (dk_at dksX2_colourAt_2 0 rfl rfl)
theorem dX2_colourAt_49 : decode cX2_colourAt 49 = .ok (.aload 5, 2) := dk_25 5 (dk_at dksX2_colourAt_2 3 rfl rfl)
theorem dX2_colourAt_51 : decode cX2_colourAt 51 = .ok (.invokeinterface 243 1, 5) := by decide +kernel
theorem dX2_colourAt_56 : decode cX2_colourAt 56 = .ok (.checkcast 110, 3) := dk_192 0 110 (dk_at dksX2_colourAt_2 10 rfl rfl)
theorem dX2_colourAt_59 : decode cX2_colourAt 59 = .ok (.astore 6, 2) := dk_58 6 (dk_at dksX2_colourAt_2 13 rfl rfl)
theorem dX2_colourAt_61 : decode cX2_colourAt 61 = .ok (.aload 6, 2) := dk_25 6 (dk_at dksX2_colourAt_2 15 rfl rfl)
theorem dX2_colourAt_63 : decode cX2_colourAt 63 = .ok (.getfield 109, 3) := dk_180 0 109 (dk_at dksX2_colourAt_2 17 rfl rfl)
theorem dX2_colourAt_66 : decode cX2_colourAt 66 = .ok (.invokevirtual 249, 3) := dk_182 0 249 (dk_at dksX2_colourAt_2 20 rfl rfl)
theorem dX2_colourAt_69 : decode cX2_colourAt 69 = .ok (.aload_n 3, 1) := dk_45 (dk_at dksX2_colourAt_2 23 rfl rfl)
theorem dX2_colourAt_70 : decode cX2_colourAt 70 = .ok (.getfield 109, 3) := dk_180 0 109 (dk_at dksX2_colourAt_3 0 rfl rfl)
theorem dX2_colourAt_73 : decode cX2_colourAt 73 = .ok (.invokevirtual 249, 3) := dk_182 0 249 (dk_at dksX2_colourAt_3 3 rfl rfl)
theorem dX2_colourAt_76 : decode cX2_colourAt 76 = .ok (.isub, 1) := dk_100 (dk_at dksX2_colourAt_3 6 rfl rfl)
theorem dX2_colourAt_77 : decode cX2_colourAt 77 = .ok (.istore 7, 2) := dk_54 7 (dk_at dksX2_colourAt_3 7 rfl rfl)
theorem dX2_colourAt_79 : decode cX2_colourAt 79 = .ok (.iload 4, 2) := dk_21 4 (dk_at dksX2_colourAt_3 9 rfl rfl)
theorem dX2_colourAt_81 : decode cX2_colourAt 81 = .ok (.iload 7, 2) := dk_21 7 (dk_at dksX2_colourAt_3 11 rfl rfl)
theorem dX2_colourAt_83 : decode cX2_colourAt 83 = .ok (.ifCond .gt 20, 3) := dk_157 0 20 (dk_at dksX2_colourAt_3 13 rfl rfl)
theorem dX2_colourAt_86 : decode cX2_colourAt 86 = .ok (.iload 7, 2) := dk_21 7 (dk_at dksX2_colourAt_3 16 rfl rfl)
theorem dX2_colourAt_88 : decode cX2_colourAt 88 = .ok (.ifCond .ne 19, 3) := dk_154 0 19 (dk_at dksX2_colourAt_3 18 rfl rfl)
theorem dX2_colourAt_91 : decode cX2_colourAt 91 = .ok (.aload 6, 2) := dk_25 6 (dk_at dksX2_colourAt_3 21 rfl rfl)
theorem dX2_colourAt_93 : decode cX2_colourAt 93 = .ok (.getfield 194, 3) := dk_180 0 194 (dk_at dksX2_colourAt_4 0 rfl rfl)
theorem dX2_colourAt_96 : decode cX2_colourAt 96 = .ok (.aload_n 3, 1) := dk_45 (dk_at dksX2_colourAt_4 3 rfl rfl)
theorem dX2_colourAt_97 : decode cX2_colourAt 97 = .ok (.getfield 194, 3) := dk_180 0 194 (dk_at dksX2_colourAt_4 4 rfl rfl)
theorem dX2_colourAt_100 : decode cX2_colourAt 100 = .ok (.if_icmp .ge 7, 3) := dk_162 0 7 (dk_at dksX2_colourAt_4 7 rfl rfl)
theorem dX2_colourAt_103 : decode cX2_colourAt 103 = .ok (.iconst 1, 1) := dk_4 (dk_at dksX2_colourAt_4 10 rfl rfl)
theorem dX2_colourAt_104 : decode cX2_colourAt 104 = .ok (.goto 4, 3) := dk_167 0 4 (dk_at dksX2_colourAt_4 11 rfl rfl)
theorem dX2_colourAt_107 : decode cX2_colourAt 107 = .ok (.iconst 0, 1) := dk_3 (dk_at dksX2_colourAt_4 14 rfl rfl)
theorem dX2_colourAt_108 : decode cX2_colourAt 108 = .ok (.iadd, 1) := dk_96 (dk_at dksX2_colourAt_4 15 rfl rfl)
theorem dX2_colourAt_109 : decode cX2_colourAt 109 = .ok (.istore 4, 2) := dk_54 4 (dk_at dksX2_colourAt_4 16 rfl rfl)
theorem dX2_colourAt_111 : decode cX2_colourAt 111 = .ok (.goto (-72), 3) := dk_167 255 184 (dk_at dksX2_colourAt_4 18 rfl rfl)
theorem dX2_colourAt_114 : decode cX2_colourAt 114 = .ok (.iload 4, 2) := dk_21 4 (dk_at dksX2_colourAt_4 21 rfl rfl)
theorem dX2_colourAt_116 : decode cX2_colourAt 116 = .ok (.iload_n 1, 1) := dk_27 (dk_at dksX2_colourAt_4 23 rfl rfl)
theorem dX2_colourAt_117 : decode cX2_colourAt 117 = .ok (.if_icmp .ne 8, 3) := dk_160 0 8 (dk_at dksX2_colourAt_5 0 rfl rfl)
theorem dX2_colourAt_120 : decode cX2_colourAt 120 = .ok (.aload_n 3, 1) := dk_45 (dk_at dksX2_colourAt_5 3 rfl rfl)
theorem dX2_colourAt_121 : decode cX2_colourAt 121 = .ok (.getfield 194, 3) := dk_180 0 194 (dk_at dksX2_colourAt_5 4 rfl rfl)
theorem dX2_colourAt_124 : decode cX2_colourAt 124 = .ok (.ireturn, 1) := dk_172 (dk_at dksX2_colourAt_5 7 rfl rfl)
theorem dX2_colourAt_125 : decode cX2_colourAt 125 = .ok (.goto (-117), 3) := dk_167 255 139 (dk_at dksX2_colourAt_5 8 rfl rfl)
theorem dX2_colourAt_128 : decode cX2_colourAt 128 = .ok (.iconst (-1), 1) := dk_2 (dk_at dksX2_colourAt_5 11 rfl rfl)
theorem dX2_colourAt_129 : decode cX2_colourAt 129 = .ok (.ireturn, 1) := dk_172 (dk_at dksX2_colourAt_5 12 rfl rfl)
def dkwX2_brightness_1 : List UInt8 := [185, 0, 243, 1, 0, 192, 0, 110, 78, 27, 45, 180, 0, 109, 182, 0, 249, 96, 60, 167, 255, 227, 27, 172]
abbrev dktX2_brightness_1 : List UInt8 := dkwX2_brightness_1 ++ []
def dkwX2_brightness_0 : List UInt8 := [3, 60, 42, 180, 0, 12, 182, 0, 233, 77, 44, 185, 0, 237, 1, 0, 153, 0, 26, 44]
abbrev dktX2_brightness_0 : List UInt8 := dkwX2_brightness_0 ++ dktX2_brightness_1
theorem dksX2_brightness_0 : cX2_brightness.data.toList.drop 0 = dktX2_brightness_0 := by decide +kernel
theorem dksX2_brightness_1 : cX2_brightness.data.toList.drop 20 = dktX2_brightness_1 := dk_seg dksX2_brightness_0 20 rfl rfl
theorem dX2_brightness_0 : decode cX2_brightness 0 = .ok (.iconst 0, 1) := dk_3 (dk_at dksX2_brightness_0 0 rfl rfl)
theorem dX2_brightness_1 : decode cX2_brightness 1 = .ok (.istore_n 1, 1) := dk_60 (dk_at dksX2_brightness_0 1 rfl rfl)
theorem dX2_brightness_2 : decode cX2_brightness 2 = .ok (.aload_n 0, 1) := dk_42 (dk_at dksX2_brightness_0 2 rfl rfl)
theorem dX2_brightness_3 : decode cX2_brightness 3 = .ok (.getfield 12, 3) := dk_180 0 12 (dk_at dksX2_brightness_0 3 rfl rfl)
theorem dX2_brightness_6 : decode cX2_brightness 6 = .ok (.invokevirtual 233, 3) := dk_182 0 233 (dk_at dksX2_brightness_0 6 rfl rfl)
theorem dX2_brightness_9 : decode cX2_brightness 9 = .ok (.astore_n 2, 1) := dk_77 (dk_at dksX2_brightness_0 9 rfl rfl)
theorem dX2_brightness_10 : decode cX2_brightness 10 = .ok (.aload_n 2, 1) := dk_44 (dk_at dksX2_brightness_0 10 rfl rfl)
theorem dX2_brightness_11 : decode cX2_brightness 11 = .ok (.invokeinterface 237 1, 5) := by decide +kernel
theorem dX2_brightness_16 : decode cX2_brightness 16 = .ok (.ifCond .eq 26, 3) := dk_153 0 26 (dk_at dksX2_brightness_0 16 rfl rfl)
theorem dX2_brightness_19 : decode cX2_brightness 19 = .ok (.aload_n 2, 1) := dk_44 (dk_at dksX2_brightness_0 19 rfl rfl)
theorem dX2_brightness_20 : decode cX2_brightness 20 = .ok (.invokeinterface 243 1, 5) := by decide +kernel
theorem dX2_brightness_25 : decode cX2_brightness 25 = .ok (.checkcast 110, 3) := dk_192 0 110 (dk_at dksX2_brightness_1 5 rfl rfl)
theorem dX2_brightness_28 : decode cX2_brightness 28 = .ok (.astore_n 3, 1) := dk_78 (dk_at dksX2_brightness_1 8 rfl rfl)
theorem dX2_brightness_29 : decode cX2_brightness 29 = .ok (.iload_n 1, 1) := dk_27 (dk_at dksX2_brightness_1 9 rfl rfl)
theorem dX2_brightness_30 : decode cX2_brightness 30 = .ok (.aload_n 3, 1) := dk_45 (dk_at dksX2_brightness_1 10 rfl rfl)
theorem dX2_brightness_31 : decode cX2_brightness 31 = .ok (.getfield 109, 3) := dk_180 0 109 (dk_at dksX2_brightness_1 11 rfl rfl)
theorem dX2_brightness_34 : decode cX2_brightness 34 = .ok (.invokevirtual 249, 3) := dk_182 0 249 (dk_at dksX2_brightness_1 14 rfl rfl)
theorem dX2_brightness_37 : decode cX2_brightness 37 = .ok (.iadd, 1) := dk_96 (dk_at dksX2_brightness_1 17 rfl rfl)
theorem dX2_brightness_38 : decode cX2_brightness 38 = .ok (.istore_n 1, 1) := dk_60 (dk_at dksX2_brightness_1 18 rfl rfl)
theorem dX2_brightness_39 : decode cX2_brightness 39 = .ok (.goto (-29), 3) := dk_167 255 227 (dk_at dksX2_brightness_1 19 rfl rfl)
theorem dX2_brightness_42 : decode cX2_brightness 42 = .ok (.iload_n 1, 1) := dk_27 (dk_at dksX2_brightness_1 22 rfl rfl)
theorem dX2_brightness_43 : decode cX2_brightness 43 = .ok (.ireturn, 1) := dk_172 (dk_at dksX2_brightness_1 23 rfl rfl)
