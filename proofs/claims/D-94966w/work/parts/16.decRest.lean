set_option maxRecDepth 100000
def dkwX1_init_3 : List UInt8 := [181, 0, 34, 42, 187, 0, 18, 89, 183, 0, 20, 181, 0, 37, 177]
abbrev dktX1_init_3 : List UInt8 := dkwX1_init_3 ++ []
def dkwX1_init_2 : List UInt8 := [181, 0, 28, 42, 187, 0, 18, 89, 183, 0, 20, 181, 0, 31, 42, 187, 0, 18, 89, 183, 0, 20]
abbrev dktX1_init_2 : List UInt8 := dkwX1_init_2 ++ dktX1_init_3
def dkwX1_init_1 : List UInt8 := [181, 0, 21, 42, 187, 0, 18, 89, 183, 0, 20, 181, 0, 25, 42, 187, 0, 18, 89, 183, 0, 20]
abbrev dktX1_init_1 : List UInt8 := dkwX1_init_1 ++ dktX1_init_2
def dkwX1_init_0 : List UInt8 := [42, 183, 0, 3, 42, 16, 12, 181, 0, 9, 42, 5, 181, 0, 15, 42, 187, 0, 18, 89, 183, 0, 20]
abbrev dktX1_init_0 : List UInt8 := dkwX1_init_0 ++ dktX1_init_1
theorem dksX1_init_0 : cX1_init.data.toList.drop 0 = dktX1_init_0 := by decide +kernel
theorem dksX1_init_1 : cX1_init.data.toList.drop 23 = dktX1_init_1 := dk_seg dksX1_init_0 23 rfl rfl
theorem dksX1_init_2 : cX1_init.data.toList.drop 45 = dktX1_init_2 := dk_seg dksX1_init_1 22 rfl rfl
theorem dksX1_init_3 : cX1_init.data.toList.drop 67 = dktX1_init_3 := dk_seg dksX1_init_2 22 rfl rfl
theorem dX1_init_0 : decode cX1_init 0 = .ok (.aload_n 0, 1) := dk_42 (dk_at dksX1_init_0 0 rfl rfl)
theorem dX1_init_1 : decode cX1_init 1 = .ok (.invokespecial 3, 3) := dk_183 0 3 (dk_at dksX1_init_0 1 rfl rfl)
theorem dX1_init_4 : decode cX1_init 4 = .ok (.aload_n 0, 1) := dk_42 (dk_at dksX1_init_0 4 rfl rfl)
theorem dX1_init_5 : decode cX1_init 5 = .ok (.bipush 12, 2) := dk_16 12 (dk_at dksX1_init_0 5 rfl rfl)
theorem dX1_init_7 : decode cX1_init 7 = .ok (.putfield 9, 3) := dk_181 0 9 (dk_at dksX1_init_0 7 rfl rfl)
theorem dX1_init_10 : decode cX1_init 10 = .ok (.aload_n 0, 1) := dk_42 (dk_at dksX1_init_0 10 rfl rfl)
theorem dX1_init_11 : decode cX1_init 11 = .ok (.iconst 2, 1) := dk_5 (dk_at dksX1_init_0 11 rfl rfl)
theorem dX1_init_12 : decode cX1_init 12 = .ok (.putfield 15, 3) := dk_181 0 15 (dk_at dksX1_init_0 12 rfl rfl)
theorem dX1_init_15 : decode cX1_init 15 = .ok (.aload_n 0, 1) := dk_42 (dk_at dksX1_init_0 15 rfl rfl)
theorem dX1_init_16 : decode cX1_init 16 = .ok (.new 18, 3) := dk_187 0 18 (dk_at dksX1_init_0 16 rfl rfl)
theorem dX1_init_19 : decode cX1_init 19 = .ok (.dup, 1) := dk_89 (dk_at dksX1_init_0 19 rfl rfl)
theorem dX1_init_20 : decode cX1_init 20 = .ok (.invokespecial 20, 3) := dk_183 0 20 (dk_at dksX1_init_0 20 rfl rfl)
theorem dX1_init_23 : decode cX1_init 23 = .ok (.putfield 21, 3) := dk_181 0 21 (dk_at dksX1_init_1 0 rfl rfl)
theorem dX1_init_26 : decode cX1_init 26 = .ok (.aload_n 0, 1) := dk_42 (dk_at dksX1_init_1 3 rfl rfl)
theorem dX1_init_27 : decode cX1_init 27 = .ok (.new 18, 3) := dk_187 0 18 (dk_at dksX1_init_1 4 rfl rfl)
theorem dX1_init_30 : decode cX1_init 30 = .ok (.dup, 1) := dk_89 (dk_at dksX1_init_1 7 rfl rfl)
theorem dX1_init_31 : decode cX1_init 31 = .ok (.invokespecial 20, 3) := dk_183 0 20 (dk_at dksX1_init_1 8 rfl rfl)
theorem dX1_init_34 : decode cX1_init 34 = .ok (.putfield 25, 3) := dk_181 0 25 (dk_at dksX1_init_1 11 rfl rfl)
theorem dX1_init_37 : decode cX1_init 37 = .ok (.aload_n 0, 1) := dk_42 (dk_at dksX1_init_1 14 rfl rfl)
theorem dX1_init_38 : decode cX1_init 38 = .ok (.new 18, 3) := dk_187 0 18 (dk_at dksX1_init_1 15 rfl rfl)
theorem dX1_init_41 : decode cX1_init 41 = .ok (.dup, 1) := dk_89 (dk_at dksX1_init_1 18 rfl rfl)
theorem dX1_init_42 : decode cX1_init 42 = .ok (.invokespecial 20, 3) := dk_183 0 20 (dk_at dksX1_init_1 19 rfl rfl)
theorem dX1_init_45 : decode cX1_init 45 = .ok (.putfield 28, 3) := dk_181 0 28 (dk_at dksX1_init_2 0 rfl rfl)
theorem dX1_init_48 : decode cX1_init 48 = .ok (.aload_n 0, 1) := dk_42 (dk_at dksX1_init_2 3 rfl rfl)
theorem dX1_init_49 : decode cX1_init 49 = .ok (.new 18, 3) := dk_187 0 18 (dk_at dksX1_init_2 4 rfl rfl)
theorem dX1_init_52 : decode cX1_init 52 = .ok (.dup, 1) := dk_89 (dk_at dksX1_init_2 7 rfl rfl)
theorem dX1_init_53 : decode cX1_init 53 = .ok (.invokespecial 20, 3) := dk_183 0 20 (dk_at dksX1_init_2 8 rfl rfl)
theorem dX1_init_56 : decode cX1_init 56 = .ok (.putfield 31, 3) := dk_181 0 31 (dk_at dksX1_init_2 11 rfl rfl)
theorem dX1_init_59 : decode cX1_init 59 = .ok (.aload_n 0, 1) := dk_42 (dk_at dksX1_init_2 14 rfl rfl)
theorem dX1_init_60 : decode cX1_init 60 = .ok (.new 18, 3) := dk_187 0 18 (dk_at dksX1_init_2 15 rfl rfl)
theorem dX1_init_63 : decode cX1_init 63 = .ok (.dup, 1) := dk_89 (dk_at dksX1_init_2 18 rfl rfl)
theorem dX1_init_64 : decode cX1_init 64 = .ok (.invokespecial 20, 3) := dk_183 0 20 (dk_at dksX1_init_2 19 rfl rfl)
theorem dX1_init_67 : decode cX1_init 67 = .ok (.putfield 34, 3) := dk_181 0 34 (dk_at dksX1_init_3 0 rfl rfl)
theorem dX1_init_70 : decode cX1_init 70 = .ok (.aload_n 0, 1) := dk_42 (dk_at dksX1_init_3 3 rfl rfl)
theorem dX1_init_71 : decode cX1_init 71 = .ok (.new 18, 3) := dk_187 0 18 (dk_at dksX1_init_3 4 rfl rfl)
theorem dX1_init_74 : decode cX1_init 74 = .ok (.dup, 1) := dk_89 (dk_at dksX1_init_3 7 rfl rfl)
theorem dX1_init_75 : decode cX1_init 75 = .ok (.invokespecial 20, 3) := dk_183 0 20 (dk_at dksX1_init_3 8 rfl rfl)
theorem dX1_init_78 : decode cX1_init 78 = .ok (.putfield 37, 3) := dk_181 0 37 (dk_at dksX1_init_3 11 rfl rfl)
theorem dX1_init_81 : decode cX1_init 81 = .ok (.return_, 1) := dk_177 (dk_at dksX1_init_3 14 rfl rfl)
def dkwX1_knows_2 : List UInt8 := [167, 0, 4, 3, 172]
abbrev dktX1_knows_2 : List UInt8 := dkwX1_knows_2 ++ []
def dkwX1_knows_1 : List UInt8 := [180, 0, 28, 43, 184, 0, 40, 199, 0, 14, 42, 180, 0, 31, 43, 184, 0, 40, 198, 0, 7, 4]
abbrev dktX1_knows_1 : List UInt8 := dkwX1_knows_1 ++ dktX1_knows_2
def dkwX1_knows_0 : List UInt8 := [42, 180, 0, 21, 43, 184, 0, 40, 199, 0, 36, 42, 180, 0, 25, 43, 184, 0, 40, 199, 0, 25, 42]
abbrev dktX1_knows_0 : List UInt8 := dkwX1_knows_0 ++ dktX1_knows_1
theorem dksX1_knows_0 : cX1_knows.data.toList.drop 0 = dktX1_knows_0 := by decide +kernel
theorem dksX1_knows_1 : cX1_knows.data.toList.drop 23 = dktX1_knows_1 := dk_seg dksX1_knows_0 23 rfl rfl
theorem dksX1_knows_2 : cX1_knows.data.toList.drop 45 = dktX1_knows_2 := dk_seg dksX1_knows_1 22 rfl rfl
theorem dX1_knows_0 : decode cX1_knows 0 = .ok (.aload_n 0, 1) := dk_42 (dk_at dksX1_knows_0 0 rfl rfl)
theorem dX1_knows_1 : decode cX1_knows 1 = .ok (.getfield 21, 3) := dk_180 0 21 (dk_at dksX1_knows_0 1 rfl rfl)
theorem dX1_knows_4 : decode cX1_knows 4 = .ok (.aload_n 1, 1) := dk_43 (dk_at dksX1_knows_0 4 rfl rfl)
theorem dX1_knows_5 : decode cX1_knows 5 = .ok (.invokestatic 40, 3) := dk_184 0 40 (dk_at dksX1_knows_0 5 rfl rfl)
theorem dX1_knows_8 : decode cX1_knows 8 = .ok (.ifnonnull 36, 3) := dk_199 0 36 (dk_at dksX1_knows_0 8 rfl rfl)
theorem dX1_knows_11 : decode cX1_knows 11 = .ok (.aload_n 0, 1) := dk_42 (dk_at dksX1_knows_0 11 rfl rfl)
theorem dX1_knows_12 : decode cX1_knows 12 = .ok (.getfield 25, 3) := dk_180 0 25 (dk_at dksX1_knows_0 12 rfl rfl)
theorem dX1_knows_15 : decode cX1_knows 15 = .ok (.aload_n 1, 1) := dk_43 (dk_at dksX1_knows_0 15 rfl rfl)
theorem dX1_knows_16 : decode cX1_knows 16 = .ok (.invokestatic 40, 3) := dk_184 0 40 (dk_at dksX1_knows_0 16 rfl rfl)
theorem dX1_knows_19 : decode cX1_knows 19 = .ok (.ifnonnull 25, 3) := dk_199 0 25 (dk_at dksX1_knows_0 19 rfl rfl)
theorem dX1_knows_22 : decode cX1_knows 22 = .ok (.aload_n 0, 1) := dk_42 (dk_at dksX1_knows_0 22 rfl rfl)
theorem dX1_knows_23 : decode cX1_knows 23 = .ok (.getfield 28, 3) := dk_180 0 28 (dk_at dksX1_knows_1 0 rfl rfl)
theorem dX1_knows_26 : decode cX1_knows 26 = .ok (.aload_n 1, 1) := dk_43 (dk_at dksX1_knows_1 3 rfl rfl)
theorem dX1_knows_27 : decode cX1_knows 27 = .ok (.invokestatic 40, 3) := dk_184 0 40 (dk_at dksX1_knows_1 4 rfl rfl)
theorem dX1_knows_30 : decode cX1_knows 30 = .ok (.ifnonnull 14, 3) := dk_199 0 14 (dk_at dksX1_knows_1 7 rfl rfl)
theorem dX1_knows_33 : decode cX1_knows 33 = .ok (.aload_n 0, 1) := dk_42 (dk_at dksX1_knows_1 10 rfl rfl)
theorem dX1_knows_34 : decode cX1_knows 34 = .ok (.getfield 31, 3) := dk_180 0 31 (dk_at dksX1_knows_1 11 rfl rfl)
theorem dX1_knows_37 : decode cX1_knows 37 = .ok (.aload_n 1, 1) := dk_43 (dk_at dksX1_knows_1 14 rfl rfl)
theorem dX1_knows_38 : decode cX1_knows 38 = .ok (.invokestatic 40, 3) := dk_184 0 40 (dk_at dksX1_knows_1 15 rfl rfl)
theorem dX1_knows_41 : decode cX1_knows 41 = .ok (.ifnull 7, 3) := dk_198 0 7 (dk_at dksX1_knows_1 18 rfl rfl)
theorem dX1_knows_44 : decode cX1_knows 44 = .ok (.iconst 1, 1) := dk_4 (dk_at dksX1_knows_1 21 rfl rfl)
theorem dX1_knows_45 : decode cX1_knows 45 = .ok (.goto 4, 3) := dk_167 0 4 (dk_at dksX1_knows_2 0 rfl rfl)
theorem dX1_knows_48 : decode cX1_knows 48 = .ok (.iconst 0, 1) := dk_3 (dk_at dksX1_knows_2 3 rfl rfl)
theorem dX1_knows_49 : decode cX1_knows 49 = .ok (.ireturn, 1) := dk_172 (dk_at dksX1_knows_2 4 rfl rfl)
def dkwX1_standing_1 : List UInt8 := [192, 0, 52, 180, 0, 54, 182, 0, 58, 153, 0, 6, 132, 1, 1, 132, 2, 1, 167, 255, 219, 27, 172]
abbrev dktX1_standing_1 : List UInt8 := dkwX1_standing_1 ++ []
def dkwX1_standing_0 : List UInt8 := [3, 60, 3, 61, 28, 42, 180, 0, 31, 182, 0, 44, 162, 0, 32, 42, 180, 0, 31, 28, 182, 0, 48]
abbrev dktX1_standing_0 : List UInt8 := dkwX1_standing_0 ++ dktX1_standing_1
theorem dksX1_standing_0 : cX1_standing.data.toList.drop 0 = dktX1_standing_0 := by decide +kernel
theorem dksX1_standing_1 : cX1_standing.data.toList.drop 23 = dktX1_standing_1 := dk_seg dksX1_standing_0 23 rfl rfl
theorem dX1_standing_0 : decode cX1_standing 0 = .ok (.iconst 0, 1) := dk_3 (dk_at dksX1_standing_0 0 rfl rfl)
theorem dX1_standing_1 : decode cX1_standing 1 = .ok (.istore_n 1, 1) := dk_60 (dk_at dksX1_standing_0 1 rfl rfl)
theorem dX1_standing_2 : decode cX1_standing 2 = .ok (.iconst 0, 1) := dk_3 (dk_at dksX1_standing_0 2 rfl rfl)
theorem dX1_standing_3 : decode cX1_standing 3 = .ok (.istore_n 2, 1) := dk_61 (dk_at dksX1_standing_0 3 rfl rfl)
theorem dX1_standing_4 : decode cX1_standing 4 = .ok (.iload_n 2, 1) := dk_28 (dk_at dksX1_standing_0 4 rfl rfl)
theorem dX1_standing_5 : decode cX1_standing 5 = .ok (.aload_n 0, 1) := dk_42 (dk_at dksX1_standing_0 5 rfl rfl)
theorem dX1_standing_6 : decode cX1_standing 6 = .ok (.getfield 31, 3) := dk_180 0 31 (dk_at dksX1_standing_0 6 rfl rfl)
theorem dX1_standing_9 : decode cX1_standing 9 = .ok (.invokevirtual 44, 3) := dk_182 0 44 (dk_at dksX1_standing_0 9 rfl rfl)
theorem dX1_standing_12 : decode cX1_standing 12 = .ok (.if_icmp .ge 32, 3) := dk_162 0 32 (dk_at dksX1_standing_0 12 rfl rfl)
theorem dX1_standing_15 : decode cX1_standing 15 = .ok (.aload_n 0, 1) := dk_42 (dk_at dksX1_standing_0 15 rfl rfl)
theorem dX1_standing_16 : decode cX1_standing 16 = .ok (.getfield 31, 3) := dk_180 0 31 (dk_at dksX1_standing_0 16 rfl rfl)
theorem dX1_standing_19 : decode cX1_standing 19 = .ok (.iload_n 2, 1) := dk_28 (dk_at dksX1_standing_0 19 rfl rfl)
theorem dX1_standing_20 : decode cX1_standing 20 = .ok (.invokevirtual 48, 3) := dk_182 0 48 (dk_at dksX1_standing_0 20 rfl rfl)
theorem dX1_standing_23 : decode cX1_standing 23 = .ok (.checkcast 52, 3) := dk_192 0 52 (dk_at dksX1_standing_1 0 rfl rfl)
theorem dX1_standing_26 : decode cX1_standing 26 = .ok (.getfield 54, 3) := dk_180 0 54 (dk_at dksX1_standing_1 3 rfl rfl)
theorem dX1_standing_29 : decode cX1_standing 29 = .ok (.invokevirtual 58, 3) := dk_182 0 58 (dk_at dksX1_standing_1 6 rfl rfl)
theorem dX1_standing_32 : decode cX1_standing 32 = .ok (.ifCond .eq 6, 3) := dk_153 0 6 (dk_at dksX1_standing_1 9 rfl rfl)
theorem dX1_standing_35 : decode cX1_standing 35 = .ok (.iinc 1 1, 3) := dk_132 1 1 (dk_at dksX1_standing_1 12 rfl rfl)
theorem dX1_standing_38 : decode cX1_standing 38 = .ok (.iinc 2 1, 3) := dk_132 2 1 (dk_at dksX1_standing_1 15 rfl rfl)
theorem dX1_standing_41 : decode cX1_standing 41 = .ok (.goto (-37), 3) := dk_167 255 219 (dk_at dksX1_standing_1 18 rfl rfl)
theorem dX1_standing_44 : decode cX1_standing 44 = .ok (.iload_n 1, 1) := dk_27 (dk_at dksX1_standing_1 21 rfl rfl)
theorem dX1_standing_45 : decode cX1_standing 45 = .ok (.ireturn, 1) := dk_172 (dk_at dksX1_standing_1 22 rfl rfl)
theorem dJ0_init_0 : decode cJ0_init 0 = .ok (.aload_n 0, 1) := by decide +kernel
theorem dJ0_init_1 : decode cJ0_init 1 = .ok (.invokespecial 1, 3) := by decide +kernel
theorem dJ0_init_4 : decode cJ0_init 4 = .ok (.return_, 1) := by decide +kernel
def dkwJ1_init_0 : List UInt8 := [42, 183, 0, 1, 42, 3, 181, 0, 7, 177]
abbrev dktJ1_init_0 : List UInt8 := dkwJ1_init_0 ++ []
theorem dksJ1_init_0 : cJ1_init.data.toList.drop 0 = dktJ1_init_0 := by decide +kernel
theorem dJ1_init_0 : decode cJ1_init 0 = .ok (.aload_n 0, 1) := dk_42 (dk_at dksJ1_init_0 0 rfl rfl)
theorem dJ1_init_1 : decode cJ1_init 1 = .ok (.invokespecial 1, 3) := dk_183 0 1 (dk_at dksJ1_init_0 1 rfl rfl)
theorem dJ1_init_4 : decode cJ1_init 4 = .ok (.aload_n 0, 1) := dk_42 (dk_at dksJ1_init_0 4 rfl rfl)
theorem dJ1_init_5 : decode cJ1_init 5 = .ok (.iconst 0, 1) := dk_3 (dk_at dksJ1_init_0 5 rfl rfl)
theorem dJ1_init_6 : decode cJ1_init 6 = .ok (.putfield 7, 3) := dk_181 0 7 (dk_at dksJ1_init_0 6 rfl rfl)
theorem dJ1_init_9 : decode cJ1_init 9 = .ok (.return_, 1) := dk_177 (dk_at dksJ1_init_0 9 rfl rfl)
def dkwJ2_init_0 : List UInt8 := [42, 183, 0, 1, 42, 178, 0, 39, 181, 0, 9, 177]
abbrev dktJ2_init_0 : List UInt8 := dkwJ2_init_0 ++ []
theorem dksJ2_init_0 : cJ2_init.data.toList.drop 0 = dktJ2_init_0 := by decide +kernel
theorem dJ2_init_0 : decode cJ2_init 0 = .ok (.aload_n 0, 1) := dk_42 (dk_at dksJ2_init_0 0 rfl rfl)
theorem dJ2_init_1 : decode cJ2_init 1 = .ok (.invokespecial 1, 3) := dk_183 0 1 (dk_at dksJ2_init_0 1 rfl rfl)
theorem dJ2_init_4 : decode cJ2_init 4 = .ok (.aload_n 0, 1) := dk_42 (dk_at dksJ2_init_0 4 rfl rfl)
theorem dJ2_init_5 : decode cJ2_init 5 = .ok (.getstatic 39, 3) := dk_178 0 39 (dk_at dksJ2_init_0 5 rfl rfl)
theorem dJ2_init_8 : decode cJ2_init 8 = .ok (.putfield 9, 3) := dk_181 0 9 (dk_at dksJ2_init_0 8 rfl rfl)
theorem dJ2_init_11 : decode cJ2_init 11 = .ok (.return_, 1) := dk_177 (dk_at dksJ2_init_0 11 rfl rfl)
theorem dJ2_size_0 : decode cJ2_size 0 = .ok (.aload_n 0, 1) := by decide +kernel
theorem dJ2_size_1 : decode cJ2_size 1 = .ok (.getfield 48, 3) := by decide +kernel
theorem dJ2_size_4 : decode cJ2_size 4 = .ok (.ireturn, 1) := by decide +kernel
def dkwJ2_get_0 : List UInt8 := [27, 42, 180, 0, 48, 184, 0, 118, 87, 42, 27, 182, 0, 123, 176]
abbrev dktJ2_get_0 : List UInt8 := dkwJ2_get_0 ++ []
theorem dksJ2_get_0 : cJ2_get.data.toList.drop 0 = dktJ2_get_0 := by decide +kernel
theorem dJ2_get_0 : decode cJ2_get 0 = .ok (.iload_n 1, 1) := dk_27 (dk_at dksJ2_get_0 0 rfl rfl)
theorem dJ2_get_1 : decode cJ2_get 1 = .ok (.aload_n 0, 1) := dk_42 (dk_at dksJ2_get_0 1 rfl rfl)
theorem dJ2_get_2 : decode cJ2_get 2 = .ok (.getfield 48, 3) := dk_180 0 48 (dk_at dksJ2_get_0 2 rfl rfl)
theorem dJ2_get_5 : decode cJ2_get 5 = .ok (.invokestatic 118, 3) := dk_184 0 118 (dk_at dksJ2_get_0 5 rfl rfl)
theorem dJ2_get_8 : decode cJ2_get 8 = .ok (.pop, 1) := dk_87 (dk_at dksJ2_get_0 8 rfl rfl)
theorem dJ2_get_9 : decode cJ2_get 9 = .ok (.aload_n 0, 1) := dk_42 (dk_at dksJ2_get_0 9 rfl rfl)
theorem dJ2_get_10 : decode cJ2_get 10 = .ok (.iload_n 1, 1) := dk_27 (dk_at dksJ2_get_0 10 rfl rfl)
theorem dJ2_get_11 : decode cJ2_get 11 = .ok (.invokevirtual 123, 3) := dk_182 0 123 (dk_at dksJ2_get_0 11 rfl rfl)
theorem dJ2_get_14 : decode cJ2_get 14 = .ok (.areturn, 1) := dk_176 (dk_at dksJ2_get_0 14 rfl rfl)
def dkwJ2_elementData_0 : List UInt8 := [42, 180, 0, 9, 27, 50, 176]
abbrev dktJ2_elementData_0 : List UInt8 := dkwJ2_elementData_0 ++ []
theorem dksJ2_elementData_0 : cJ2_elementData.data.toList.drop 0 = dktJ2_elementData_0 := by decide +kernel
theorem dJ2_elementData_0 : decode cJ2_elementData 0 = .ok (.aload_n 0, 1) := dk_42 (dk_at dksJ2_elementData_0 0 rfl rfl)
theorem dJ2_elementData_1 : decode cJ2_elementData 1 = .ok (.getfield 9, 3) := dk_180 0 9 (dk_at dksJ2_elementData_0 1 rfl rfl)
theorem dJ2_elementData_4 : decode cJ2_elementData 4 = .ok (.iload_n 1, 1) := dk_27 (dk_at dksJ2_elementData_0 4 rfl rfl)
theorem dJ2_elementData_5 : decode cJ2_elementData 5 = .ok (.aaload, 1) := dk_50 (dk_at dksJ2_elementData_0 5 rfl rfl)
theorem dJ2_elementData_6 : decode cJ2_elementData 6 = .ok (.areturn, 1) := dk_176 (dk_at dksJ2_elementData_0 6 rfl rfl)
def dkwJ2_add_1 : List UInt8 := [172]
abbrev dktJ2_add_1 : List UInt8 := dkwJ2_add_1 ++ []
def dkwJ2_add_0 : List UInt8 := [42, 89, 180, 0, 63, 4, 96, 181, 0, 63, 42, 43, 42, 180, 0, 9, 42, 180, 0, 48, 182, 0, 131, 4]
abbrev dktJ2_add_0 : List UInt8 := dkwJ2_add_0 ++ dktJ2_add_1
theorem dksJ2_add_0 : cJ2_add.data.toList.drop 0 = dktJ2_add_0 := by decide +kernel
theorem dksJ2_add_1 : cJ2_add.data.toList.drop 24 = dktJ2_add_1 := dk_seg dksJ2_add_0 24 rfl rfl
theorem dJ2_add_0 : decode cJ2_add 0 = .ok (.aload_n 0, 1) := dk_42 (dk_at dksJ2_add_0 0 rfl rfl)
theorem dJ2_add_1 : decode cJ2_add 1 = .ok (.dup, 1) := dk_89 (dk_at dksJ2_add_0 1 rfl rfl)
theorem dJ2_add_2 : decode cJ2_add 2 = .ok (.getfield 63, 3) := dk_180 0 63 (dk_at dksJ2_add_0 2 rfl rfl)
theorem dJ2_add_5 : decode cJ2_add 5 = .ok (.iconst 1, 1) := dk_4 (dk_at dksJ2_add_0 5 rfl rfl)
theorem dJ2_add_6 : decode cJ2_add 6 = .ok (.iadd, 1) := dk_96 (dk_at dksJ2_add_0 6 rfl rfl)
theorem dJ2_add_7 : decode cJ2_add 7 = .ok (.putfield 63, 3) := dk_181 0 63 (dk_at dksJ2_add_0 7 rfl rfl)
theorem dJ2_add_10 : decode cJ2_add 10 = .ok (.aload_n 0, 1) := dk_42 (dk_at dksJ2_add_0 10 rfl rfl)
theorem dJ2_add_11 : decode cJ2_add 11 = .ok (.aload_n 1, 1) := dk_43 (dk_at dksJ2_add_0 11 rfl rfl)
theorem dJ2_add_12 : decode cJ2_add 12 = .ok (.aload_n 0, 1) := dk_42 (dk_at dksJ2_add_0 12 rfl rfl)
theorem dJ2_add_13 : decode cJ2_add 13 = .ok (.getfield 9, 3) := dk_180 0 9 (dk_at dksJ2_add_0 13 rfl rfl)
theorem dJ2_add_16 : decode cJ2_add 16 = .ok (.aload_n 0, 1) := dk_42 (dk_at dksJ2_add_0 16 rfl rfl)
theorem dJ2_add_17 : decode cJ2_add 17 = .ok (.getfield 48, 3) := dk_180 0 48 (dk_at dksJ2_add_0 17 rfl rfl)
theorem dJ2_add_20 : decode cJ2_add 20 = .ok (.invokevirtual 131, 3) := dk_182 0 131 (dk_at dksJ2_add_0 20 rfl rfl)
theorem dJ2_add_23 : decode cJ2_add 23 = .ok (.iconst 1, 1) := dk_4 (dk_at dksJ2_add_0 23 rfl rfl)
theorem dJ2_add_24 : decode cJ2_add 24 = .ok (.ireturn, 1) := dk_172 (dk_at dksJ2_add_1 0 rfl rfl)
def dkwJ2_add_2_0 : List UInt8 := [29, 44, 190, 160, 0, 8, 42, 182, 0, 129, 77, 44, 29, 43, 83, 42, 29, 4, 96, 181, 0, 48, 177]
abbrev dktJ2_add_2_0 : List UInt8 := dkwJ2_add_2_0 ++ []
theorem dksJ2_add_2_0 : cJ2_add_2.data.toList.drop 0 = dktJ2_add_2_0 := by decide +kernel
theorem dJ2_add_2_0 : decode cJ2_add_2 0 = .ok (.iload_n 3, 1) := dk_29 (dk_at dksJ2_add_2_0 0 rfl rfl)
theorem dJ2_add_2_1 : decode cJ2_add_2 1 = .ok (.aload_n 2, 1) := dk_44 (dk_at dksJ2_add_2_0 1 rfl rfl)
theorem dJ2_add_2_2 : decode cJ2_add_2 2 = .ok (.arraylength, 1) := dk_190 (dk_at dksJ2_add_2_0 2 rfl rfl)
theorem dJ2_add_2_3 : decode cJ2_add_2 3 = .ok (.if_icmp .ne 8, 3) := dk_160 0 8 (dk_at dksJ2_add_2_0 3 rfl rfl)
theorem dJ2_add_2_6 : decode cJ2_add_2 6 = .ok (.aload_n 0, 1) := dk_42 (dk_at dksJ2_add_2_0 6 rfl rfl)
theorem dJ2_add_2_7 : decode cJ2_add_2 7 = .ok (.invokevirtual 129, 3) := dk_182 0 129 (dk_at dksJ2_add_2_0 7 rfl rfl)
theorem dJ2_add_2_10 : decode cJ2_add_2 10 = .ok (.astore_n 2, 1) := dk_77 (dk_at dksJ2_add_2_0 10 rfl rfl)
theorem dJ2_add_2_11 : decode cJ2_add_2 11 = .ok (.aload_n 2, 1) := dk_44 (dk_at dksJ2_add_2_0 11 rfl rfl)
theorem dJ2_add_2_12 : decode cJ2_add_2 12 = .ok (.iload_n 3, 1) := dk_29 (dk_at dksJ2_add_2_0 12 rfl rfl)
theorem dJ2_add_2_13 : decode cJ2_add_2 13 = .ok (.aload_n 1, 1) := dk_43 (dk_at dksJ2_add_2_0 13 rfl rfl)
theorem dJ2_add_2_14 : decode cJ2_add_2 14 = .ok (.aastore, 1) := dk_83 (dk_at dksJ2_add_2_0 14 rfl rfl)
theorem dJ2_add_2_15 : decode cJ2_add_2 15 = .ok (.aload_n 0, 1) := dk_42 (dk_at dksJ2_add_2_0 15 rfl rfl)
theorem dJ2_add_2_16 : decode cJ2_add_2 16 = .ok (.iload_n 3, 1) := dk_29 (dk_at dksJ2_add_2_0 16 rfl rfl)
theorem dJ2_add_2_17 : decode cJ2_add_2 17 = .ok (.iconst 1, 1) := dk_4 (dk_at dksJ2_add_2_0 17 rfl rfl)
theorem dJ2_add_2_18 : decode cJ2_add_2 18 = .ok (.iadd, 1) := dk_96 (dk_at dksJ2_add_2_0 18 rfl rfl)
theorem dJ2_add_2_19 : decode cJ2_add_2 19 = .ok (.putfield 48, 3) := dk_181 0 48 (dk_at dksJ2_add_2_0 19 rfl rfl)
theorem dJ2_add_2_22 : decode cJ2_add_2 22 = .ok (.return_, 1) := dk_177 (dk_at dksJ2_add_2_0 22 rfl rfl)
def dkwJ2_grow_0 : List UInt8 := [42, 42, 180, 0, 48, 4, 96, 182, 0, 69, 176]
abbrev dktJ2_grow_0 : List UInt8 := dkwJ2_grow_0 ++ []
theorem dksJ2_grow_0 : cJ2_grow.data.toList.drop 0 = dktJ2_grow_0 := by decide +kernel
theorem dJ2_grow_0 : decode cJ2_grow 0 = .ok (.aload_n 0, 1) := dk_42 (dk_at dksJ2_grow_0 0 rfl rfl)
theorem dJ2_grow_1 : decode cJ2_grow 1 = .ok (.aload_n 0, 1) := dk_42 (dk_at dksJ2_grow_0 1 rfl rfl)
theorem dJ2_grow_2 : decode cJ2_grow 2 = .ok (.getfield 48, 3) := dk_180 0 48 (dk_at dksJ2_grow_0 2 rfl rfl)
theorem dJ2_grow_5 : decode cJ2_grow 5 = .ok (.iconst 1, 1) := dk_4 (dk_at dksJ2_grow_0 5 rfl rfl)
theorem dJ2_grow_6 : decode cJ2_grow 6 = .ok (.iadd, 1) := dk_96 (dk_at dksJ2_grow_0 6 rfl rfl)
theorem dJ2_grow_7 : decode cJ2_grow 7 = .ok (.invokevirtual 69, 3) := dk_182 0 69 (dk_at dksJ2_grow_0 7 rfl rfl)
theorem dJ2_grow_10 : decode cJ2_grow 10 = .ok (.areturn, 1) := dk_176 (dk_at dksJ2_grow_0 10 rfl rfl)
def dkwJ2_grow_2_2 : List UInt8 := [27, 184, 0, 79, 189, 0, 7, 90, 181, 0, 9, 176]
abbrev dktJ2_grow_2_2 : List UInt8 := dkwJ2_grow_2_2 ++ []
def dkwJ2_grow_2_1 : List UInt8 := [28, 4, 122, 184, 0, 73, 62, 42, 42, 180, 0, 9, 29, 184, 0, 66, 90, 181, 0, 9, 176, 42, 16, 10]
abbrev dktJ2_grow_2_1 : List UInt8 := dkwJ2_grow_2_1 ++ dktJ2_grow_2_2
def dkwJ2_grow_2_0 : List UInt8 := [42, 180, 0, 9, 190, 61, 28, 157, 0, 13, 42, 180, 0, 9, 178, 0, 39, 165, 0, 28, 28, 27, 28, 100]
abbrev dktJ2_grow_2_0 : List UInt8 := dkwJ2_grow_2_0 ++ dktJ2_grow_2_1
theorem dksJ2_grow_2_0 : cJ2_grow_2.data.toList.drop 0 = dktJ2_grow_2_0 := by decide +kernel
theorem dksJ2_grow_2_1 : cJ2_grow_2.data.toList.drop 24 = dktJ2_grow_2_1 := dk_seg dksJ2_grow_2_0 24 rfl rfl
theorem dksJ2_grow_2_2 : cJ2_grow_2.data.toList.drop 48 = dktJ2_grow_2_2 := dk_seg dksJ2_grow_2_1 24 rfl rfl
theorem dJ2_grow_2_0 : decode cJ2_grow_2 0 = .ok (.aload_n 0, 1) := dk_42 (dk_at dksJ2_grow_2_0 0 rfl rfl)
theorem dJ2_grow_2_1 : decode cJ2_grow_2 1 = .ok (.getfield 9, 3) := dk_180 0 9 (dk_at dksJ2_grow_2_0 1 rfl rfl)
theorem dJ2_grow_2_4 : decode cJ2_grow_2 4 = .ok (.arraylength, 1) := dk_190 (dk_at dksJ2_grow_2_0 4 rfl rfl)
theorem dJ2_grow_2_5 : decode cJ2_grow_2 5 = .ok (.istore_n 2, 1) := dk_61 (dk_at dksJ2_grow_2_0 5 rfl rfl)
theorem dJ2_grow_2_6 : decode cJ2_grow_2 6 = .ok (.iload_n 2, 1) := dk_28 (dk_at dksJ2_grow_2_0 6 rfl rfl)
theorem dJ2_grow_2_7 : decode cJ2_grow_2 7 = .ok (.ifCond .gt 13, 3) := dk_157 0 13 (dk_at dksJ2_grow_2_0 7 rfl rfl)
theorem dJ2_grow_2_10 : decode cJ2_grow_2 10 = .ok (.aload_n 0, 1) := dk_42 (dk_at dksJ2_grow_2_0 10 rfl rfl)
theorem dJ2_grow_2_11 : decode cJ2_grow_2 11 = .ok (.getfield 9, 3) := dk_180 0 9 (dk_at dksJ2_grow_2_0 11 rfl rfl)
theorem dJ2_grow_2_14 : decode cJ2_grow_2 14 = .ok (.getstatic 39, 3) := dk_178 0 39 (dk_at dksJ2_grow_2_0 14 rfl rfl)
theorem dJ2_grow_2_17 : decode cJ2_grow_2 17 = .ok (.if_acmp .eq 28, 3) := dk_165 0 28 (dk_at dksJ2_grow_2_0 17 rfl rfl)
theorem dJ2_grow_2_20 : decode cJ2_grow_2 20 = .ok (.iload_n 2, 1) := dk_28 (dk_at dksJ2_grow_2_0 20 rfl rfl)
theorem dJ2_grow_2_21 : decode cJ2_grow_2 21 = .ok (.iload_n 1, 1) := dk_27 (dk_at dksJ2_grow_2_0 21 rfl rfl)
theorem dJ2_grow_2_22 : decode cJ2_grow_2 22 = .ok (.iload_n 2, 1) := dk_28 (dk_at dksJ2_grow_2_0 22 rfl rfl)
theorem dJ2_grow_2_23 : decode cJ2_grow_2 23 = .ok (.isub, 1) := dk_100 (dk_at dksJ2_grow_2_0 23 rfl rfl)
theorem dJ2_grow_2_24 : decode cJ2_grow_2 24 = .ok (.iload_n 2, 1) := dk_28 (dk_at dksJ2_grow_2_1 0 rfl rfl)
theorem dJ2_grow_2_25 : decode cJ2_grow_2 25 = .ok (.iconst 1, 1) := dk_4 (dk_at dksJ2_grow_2_1 1 rfl rfl)
theorem dJ2_grow_2_26 : decode cJ2_grow_2 26 = .ok (.ishr, 1) := dk_122 (dk_at dksJ2_grow_2_1 2 rfl rfl)
theorem dJ2_grow_2_27 : decode cJ2_grow_2 27 = .ok (.invokestatic 73, 3) := dk_184 0 73 (dk_at dksJ2_grow_2_1 3 rfl rfl)
theorem dJ2_grow_2_30 : decode cJ2_grow_2 30 = .ok (.istore_n 3, 1) := dk_62 (dk_at dksJ2_grow_2_1 6 rfl rfl)
theorem dJ2_grow_2_31 : decode cJ2_grow_2 31 = .ok (.aload_n 0, 1) := dk_42 (dk_at dksJ2_grow_2_1 7 rfl rfl)
theorem dJ2_grow_2_32 : decode cJ2_grow_2 32 = .ok (.aload_n 0, 1) := dk_42 (dk_at dksJ2_grow_2_1 8 rfl rfl)
theorem dJ2_grow_2_33 : decode cJ2_grow_2 33 = .ok (.getfield 9, 3) := dk_180 0 9 (dk_at dksJ2_grow_2_1 9 rfl rfl)
theorem dJ2_grow_2_36 : decode cJ2_grow_2 36 = .ok (.iload_n 3, 1) := dk_29 (dk_at dksJ2_grow_2_1 12 rfl rfl)
theorem dJ2_grow_2_37 : decode cJ2_grow_2 37 = .ok (.invokestatic 66, 3) := dk_184 0 66 (dk_at dksJ2_grow_2_1 13 rfl rfl)
theorem dJ2_grow_2_40 : decode cJ2_grow_2 40 = .ok (.dup_x1, 1) := dk_90 (dk_at dksJ2_grow_2_1 16 rfl rfl)
theorem dJ2_grow_2_41 : decode cJ2_grow_2 41 = .ok (.putfield 9, 3) := dk_181 0 9 (dk_at dksJ2_grow_2_1 17 rfl rfl)
theorem dJ2_grow_2_44 : decode cJ2_grow_2 44 = .ok (.areturn, 1) := dk_176 (dk_at dksJ2_grow_2_1 20 rfl rfl)
theorem dJ2_grow_2_45 : decode cJ2_grow_2 45 = .ok (.aload_n 0, 1) := dk_42 (dk_at dksJ2_grow_2_1 21 rfl rfl)
theorem dJ2_grow_2_46 : decode cJ2_grow_2 46 = .ok (.bipush 10, 2) := dk_16 10 (dk_at dksJ2_grow_2_1 22 rfl rfl)
theorem dJ2_grow_2_48 : decode cJ2_grow_2 48 = .ok (.iload_n 1, 1) := dk_27 (dk_at dksJ2_grow_2_2 0 rfl rfl)
theorem dJ2_grow_2_49 : decode cJ2_grow_2 49 = .ok (.invokestatic 79, 3) := dk_184 0 79 (dk_at dksJ2_grow_2_2 1 rfl rfl)
theorem dJ2_grow_2_52 : decode cJ2_grow_2 52 = .ok (.anewarray 7, 3) := dk_189 0 7 (dk_at dksJ2_grow_2_2 4 rfl rfl)
theorem dJ2_grow_2_55 : decode cJ2_grow_2 55 = .ok (.dup_x1, 1) := dk_90 (dk_at dksJ2_grow_2_2 7 rfl rfl)
theorem dJ2_grow_2_56 : decode cJ2_grow_2 56 = .ok (.putfield 9, 3) := dk_181 0 9 (dk_at dksJ2_grow_2_2 8 rfl rfl)
theorem dJ2_grow_2_59 : decode cJ2_grow_2 59 = .ok (.areturn, 1) := dk_176 (dk_at dksJ2_grow_2_2 11 rfl rfl)
def dkwJ2_clear_1 : List UInt8 := [181, 0, 48, 62, 29, 28, 162, 0, 13, 43, 29, 1, 83, 132, 3, 1, 167, 255, 244, 177]
abbrev dktJ2_clear_1 : List UInt8 := dkwJ2_clear_1 ++ []
def dkwJ2_clear_0 : List UInt8 := [42, 89, 180, 0, 63, 4, 96, 181, 0, 63, 42, 180, 0, 9, 76, 42, 180, 0, 48, 61, 42, 3, 90]
abbrev dktJ2_clear_0 : List UInt8 := dkwJ2_clear_0 ++ dktJ2_clear_1
theorem dksJ2_clear_0 : cJ2_clear.data.toList.drop 0 = dktJ2_clear_0 := by decide +kernel
theorem dksJ2_clear_1 : cJ2_clear.data.toList.drop 23 = dktJ2_clear_1 := dk_seg dksJ2_clear_0 23 rfl rfl
theorem dJ2_clear_0 : decode cJ2_clear 0 = .ok (.aload_n 0, 1) := dk_42 (dk_at dksJ2_clear_0 0 rfl rfl)
theorem dJ2_clear_1 : decode cJ2_clear 1 = .ok (.dup, 1) := dk_89 (dk_at dksJ2_clear_0 1 rfl rfl)
theorem dJ2_clear_2 : decode cJ2_clear 2 = .ok (.getfield 63, 3) := dk_180 0 63 (dk_at dksJ2_clear_0 2 rfl rfl)
theorem dJ2_clear_5 : decode cJ2_clear 5 = .ok (.iconst 1, 1) := dk_4 (dk_at dksJ2_clear_0 5 rfl rfl)
theorem dJ2_clear_6 : decode cJ2_clear 6 = .ok (.iadd, 1) := dk_96 (dk_at dksJ2_clear_0 6 rfl rfl)
theorem dJ2_clear_7 : decode cJ2_clear 7 = .ok (.putfield 63, 3) := dk_181 0 63 (dk_at dksJ2_clear_0 7 rfl rfl)
theorem dJ2_clear_10 : decode cJ2_clear 10 = .ok (.aload_n 0, 1) := dk_42 (dk_at dksJ2_clear_0 10 rfl rfl)
theorem dJ2_clear_11 : decode cJ2_clear 11 = .ok (.getfield 9, 3) := dk_180 0 9 (dk_at dksJ2_clear_0 11 rfl rfl)
theorem dJ2_clear_14 : decode cJ2_clear 14 = .ok (.astore_n 1, 1) := dk_76 (dk_at dksJ2_clear_0 14 rfl rfl)
theorem dJ2_clear_15 : decode cJ2_clear 15 = .ok (.aload_n 0, 1) := dk_42 (dk_at dksJ2_clear_0 15 rfl rfl)
theorem dJ2_clear_16 : decode cJ2_clear 16 = .ok (.getfield 48, 3) := dk_180 0 48 (dk_at dksJ2_clear_0 16 rfl rfl)
theorem dJ2_clear_19 : decode cJ2_clear 19 = .ok (.istore_n 2, 1) := dk_61 (dk_at dksJ2_clear_0 19 rfl rfl)
theorem dJ2_clear_20 : decode cJ2_clear 20 = .ok (.aload_n 0, 1) := dk_42 (dk_at dksJ2_clear_0 20 rfl rfl)
theorem dJ2_clear_21 : decode cJ2_clear 21 = .ok (.iconst 0, 1) := dk_3 (dk_at dksJ2_clear_0 21 rfl rfl)
theorem dJ2_clear_22 : decode cJ2_clear 22 = .ok (.dup_x1, 1) := dk_90 (dk_at dksJ2_clear_0 22 rfl rfl)
theorem dJ2_clear_23 : decode cJ2_clear 23 = .ok (.putfield 48, 3) := dk_181 0 48 (dk_at dksJ2_clear_1 0 rfl rfl)
theorem dJ2_clear_26 : decode cJ2_clear 26 = .ok (.istore_n 3, 1) := dk_62 (dk_at dksJ2_clear_1 3 rfl rfl)
theorem dJ2_clear_27 : decode cJ2_clear 27 = .ok (.iload_n 3, 1) := dk_29 (dk_at dksJ2_clear_1 4 rfl rfl)
theorem dJ2_clear_28 : decode cJ2_clear 28 = .ok (.iload_n 2, 1) := dk_28 (dk_at dksJ2_clear_1 5 rfl rfl)
theorem dJ2_clear_29 : decode cJ2_clear 29 = .ok (.if_icmp .ge 13, 3) := dk_162 0 13 (dk_at dksJ2_clear_1 6 rfl rfl)
theorem dJ2_clear_32 : decode cJ2_clear 32 = .ok (.aload_n 1, 1) := dk_43 (dk_at dksJ2_clear_1 9 rfl rfl)
theorem dJ2_clear_33 : decode cJ2_clear 33 = .ok (.iload_n 3, 1) := dk_29 (dk_at dksJ2_clear_1 10 rfl rfl)
theorem dJ2_clear_34 : decode cJ2_clear 34 = .ok (.aconst_null, 1) := dk_1 (dk_at dksJ2_clear_1 11 rfl rfl)
theorem dJ2_clear_35 : decode cJ2_clear 35 = .ok (.aastore, 1) := dk_83 (dk_at dksJ2_clear_1 12 rfl rfl)
theorem dJ2_clear_36 : decode cJ2_clear 36 = .ok (.iinc 3 1, 3) := dk_132 3 1 (dk_at dksJ2_clear_1 13 rfl rfl)
theorem dJ2_clear_39 : decode cJ2_clear 39 = .ok (.goto (-12), 3) := dk_167 255 244 (dk_at dksJ2_clear_1 16 rfl rfl)
theorem dJ2_clear_42 : decode cJ2_clear 42 = .ok (.return_, 1) := dk_177 (dk_at dksJ2_clear_1 19 rfl rfl)
def dkwJ2_isEmpty_0 : List UInt8 := [42, 180, 0, 48, 154, 0, 7, 4, 167, 0, 4, 3, 172]
abbrev dktJ2_isEmpty_0 : List UInt8 := dkwJ2_isEmpty_0 ++ []
theorem dksJ2_isEmpty_0 : cJ2_isEmpty.data.toList.drop 0 = dktJ2_isEmpty_0 := by decide +kernel
theorem dJ2_isEmpty_0 : decode cJ2_isEmpty 0 = .ok (.aload_n 0, 1) := dk_42 (dk_at dksJ2_isEmpty_0 0 rfl rfl)
theorem dJ2_isEmpty_1 : decode cJ2_isEmpty 1 = .ok (.getfield 48, 3) := dk_180 0 48 (dk_at dksJ2_isEmpty_0 1 rfl rfl)
theorem dJ2_isEmpty_4 : decode cJ2_isEmpty 4 = .ok (.ifCond .ne 7, 3) := dk_154 0 7 (dk_at dksJ2_isEmpty_0 4 rfl rfl)
theorem dJ2_isEmpty_7 : decode cJ2_isEmpty 7 = .ok (.iconst 1, 1) := dk_4 (dk_at dksJ2_isEmpty_0 7 rfl rfl)
theorem dJ2_isEmpty_8 : decode cJ2_isEmpty 8 = .ok (.goto 4, 3) := dk_167 0 4 (dk_at dksJ2_isEmpty_0 8 rfl rfl)
theorem dJ2_isEmpty_11 : decode cJ2_isEmpty 11 = .ok (.iconst 0, 1) := dk_3 (dk_at dksJ2_isEmpty_0 11 rfl rfl)
theorem dJ2_isEmpty_12 : decode cJ2_isEmpty 12 = .ok (.ireturn, 1) := dk_172 (dk_at dksJ2_isEmpty_0 12 rfl rfl)
def dkwJ2_remove_1 : List UInt8 := [45, 176]
abbrev dktJ2_remove_1 : List UInt8 := dkwJ2_remove_1 ++ []
def dkwJ2_remove_0 : List UInt8 := [27, 42, 180, 0, 48, 184, 0, 118, 87, 42, 180, 0, 9, 77, 44, 27, 50, 78, 42, 44, 27, 182, 0, 144]
abbrev dktJ2_remove_0 : List UInt8 := dkwJ2_remove_0 ++ dktJ2_remove_1
theorem dksJ2_remove_0 : cJ2_remove.data.toList.drop 0 = dktJ2_remove_0 := by decide +kernel
theorem dksJ2_remove_1 : cJ2_remove.data.toList.drop 24 = dktJ2_remove_1 := dk_seg dksJ2_remove_0 24 rfl rfl
theorem dJ2_remove_0 : decode cJ2_remove 0 = .ok (.iload_n 1, 1) := dk_27 (dk_at dksJ2_remove_0 0 rfl rfl)
theorem dJ2_remove_1 : decode cJ2_remove 1 = .ok (.aload_n 0, 1) := dk_42 (dk_at dksJ2_remove_0 1 rfl rfl)
theorem dJ2_remove_2 : decode cJ2_remove 2 = .ok (.getfield 48, 3) := dk_180 0 48 (dk_at dksJ2_remove_0 2 rfl rfl)
theorem dJ2_remove_5 : decode cJ2_remove 5 = .ok (.invokestatic 118, 3) := dk_184 0 118 (dk_at dksJ2_remove_0 5 rfl rfl)
theorem dJ2_remove_8 : decode cJ2_remove 8 = .ok (.pop, 1) := dk_87 (dk_at dksJ2_remove_0 8 rfl rfl)
theorem dJ2_remove_9 : decode cJ2_remove 9 = .ok (.aload_n 0, 1) := dk_42 (dk_at dksJ2_remove_0 9 rfl rfl)
theorem dJ2_remove_10 : decode cJ2_remove 10 = .ok (.getfield 9, 3) := dk_180 0 9 (dk_at dksJ2_remove_0 10 rfl rfl)
theorem dJ2_remove_13 : decode cJ2_remove 13 = .ok (.astore_n 2, 1) := dk_77 (dk_at dksJ2_remove_0 13 rfl rfl)
theorem dJ2_remove_14 : decode cJ2_remove 14 = .ok (.aload_n 2, 1) := dk_44 (dk_at dksJ2_remove_0 14 rfl rfl)
theorem dJ2_remove_15 : decode cJ2_remove 15 = .ok (.iload_n 1, 1) := dk_27 (dk_at dksJ2_remove_0 15 rfl rfl)
theorem dJ2_remove_16 : decode cJ2_remove 16 = .ok (.aaload, 1) := dk_50 (dk_at dksJ2_remove_0 16 rfl rfl)
theorem dJ2_remove_17 : decode cJ2_remove 17 = .ok (.astore_n 3, 1) := dk_78 (dk_at dksJ2_remove_0 17 rfl rfl)
theorem dJ2_remove_18 : decode cJ2_remove 18 = .ok (.aload_n 0, 1) := dk_42 (dk_at dksJ2_remove_0 18 rfl rfl)
theorem dJ2_remove_19 : decode cJ2_remove 19 = .ok (.aload_n 2, 1) := dk_44 (dk_at dksJ2_remove_0 19 rfl rfl)
theorem dJ2_remove_20 : decode cJ2_remove 20 = .ok (.iload_n 1, 1) := dk_27 (dk_at dksJ2_remove_0 20 rfl rfl)
theorem dJ2_remove_21 : decode cJ2_remove 21 = .ok (.invokevirtual 144, 3) := dk_182 0 144 (dk_at dksJ2_remove_0 21 rfl rfl)
theorem dJ2_remove_24 : decode cJ2_remove 24 = .ok (.aload_n 3, 1) := dk_45 (dk_at dksJ2_remove_1 0 rfl rfl)
theorem dJ2_remove_25 : decode cJ2_remove 25 = .ok (.areturn, 1) := dk_176 (dk_at dksJ2_remove_1 1 rfl rfl)
def dkwJ2_fastRemove_1 : List UInt8 := [4, 96, 43, 28, 29, 28, 100, 184, 0, 112, 43, 42, 29, 90, 181, 0, 48, 1, 83, 177]
abbrev dktJ2_fastRemove_1 : List UInt8 := dkwJ2_fastRemove_1 ++ []
def dkwJ2_fastRemove_0 : List UInt8 := [42, 89, 180, 0, 63, 4, 96, 181, 0, 63, 42, 180, 0, 48, 4, 100, 89, 62, 28, 164, 0, 15, 43, 28]
abbrev dktJ2_fastRemove_0 : List UInt8 := dkwJ2_fastRemove_0 ++ dktJ2_fastRemove_1
theorem dksJ2_fastRemove_0 : cJ2_fastRemove.data.toList.drop 0 = dktJ2_fastRemove_0 := by decide +kernel
theorem dksJ2_fastRemove_1 : cJ2_fastRemove.data.toList.drop 24 = dktJ2_fastRemove_1 := dk_seg dksJ2_fastRemove_0 24 rfl rfl
theorem dJ2_fastRemove_0 : decode cJ2_fastRemove 0 = .ok (.aload_n 0, 1) := dk_42 (dk_at dksJ2_fastRemove_0 0 rfl rfl)
theorem dJ2_fastRemove_1 : decode cJ2_fastRemove 1 = .ok (.dup, 1) := dk_89 (dk_at dksJ2_fastRemove_0 1 rfl rfl)
theorem dJ2_fastRemove_2 : decode cJ2_fastRemove 2 = .ok (.getfield 63, 3) := dk_180 0 63 (dk_at dksJ2_fastRemove_0 2 rfl rfl)
theorem dJ2_fastRemove_5 : decode cJ2_fastRemove 5 = .ok (.iconst 1, 1) := dk_4 (dk_at dksJ2_fastRemove_0 5 rfl rfl)
theorem dJ2_fastRemove_6 : decode cJ2_fastRemove 6 = .ok (.iadd, 1) := dk_96 (dk_at dksJ2_fastRemove_0 6 rfl rfl)
theorem dJ2_fastRemove_7 : decode cJ2_fastRemove 7 = .ok (.putfield 63, 3) := dk_181 0 63 (dk_at dksJ2_fastRemove_0 7 rfl rfl)
theorem dJ2_fastRemove_10 : decode cJ2_fastRemove 10 = .ok (.aload_n 0, 1) := dk_42 (dk_at dksJ2_fastRemove_0 10 rfl rfl)
theorem dJ2_fastRemove_11 : decode cJ2_fastRemove 11 = .ok (.getfield 48, 3) := dk_180 0 48 (dk_at dksJ2_fastRemove_0 11 rfl rfl)
theorem dJ2_fastRemove_14 : decode cJ2_fastRemove 14 = .ok (.iconst 1, 1) := dk_4 (dk_at dksJ2_fastRemove_0 14 rfl rfl)
theorem dJ2_fastRemove_15 : decode cJ2_fastRemove 15 = .ok (.isub, 1) := dk_100 (dk_at dksJ2_fastRemove_0 15 rfl rfl)
theorem dJ2_fastRemove_16 : decode cJ2_fastRemove 16 = .ok (.dup, 1) := dk_89 (dk_at dksJ2_fastRemove_0 16 rfl rfl)
theorem dJ2_fastRemove_17 : decode cJ2_fastRemove 17 = .ok (.istore_n 3, 1) := dk_62 (dk_at dksJ2_fastRemove_0 17 rfl rfl)
theorem dJ2_fastRemove_18 : decode cJ2_fastRemove 18 = .ok (.iload_n 2, 1) := dk_28 (dk_at dksJ2_fastRemove_0 18 rfl rfl)
theorem dJ2_fastRemove_19 : decode cJ2_fastRemove 19 = .ok (.if_icmp .le 15, 3) := dk_164 0 15 (dk_at dksJ2_fastRemove_0 19 rfl rfl)
theorem dJ2_fastRemove_22 : decode cJ2_fastRemove 22 = .ok (.aload_n 1, 1) := dk_43 (dk_at dksJ2_fastRemove_0 22 rfl rfl)
theorem dJ2_fastRemove_23 : decode cJ2_fastRemove 23 = .ok (.iload_n 2, 1) := dk_28 (dk_at dksJ2_fastRemove_0 23 rfl rfl)
theorem dJ2_fastRemove_24 : decode cJ2_fastRemove 24 = .ok (.iconst 1, 1) := dk_4 (dk_at dksJ2_fastRemove_1 0 rfl rfl)
theorem dJ2_fastRemove_25 : decode cJ2_fastRemove 25 = .ok (.iadd, 1) := dk_96 (dk_at dksJ2_fastRemove_1 1 rfl rfl)
theorem dJ2_fastRemove_26 : decode cJ2_fastRemove 26 = .ok (.aload_n 1, 1) := dk_43 (dk_at dksJ2_fastRemove_1 2 rfl rfl)
theorem dJ2_fastRemove_27 : decode cJ2_fastRemove 27 = .ok (.iload_n 2, 1) := dk_28 (dk_at dksJ2_fastRemove_1 3 rfl rfl)
theorem dJ2_fastRemove_28 : decode cJ2_fastRemove 28 = .ok (.iload_n 3, 1) := dk_29 (dk_at dksJ2_fastRemove_1 4 rfl rfl)
theorem dJ2_fastRemove_29 : decode cJ2_fastRemove 29 = .ok (.iload_n 2, 1) := dk_28 (dk_at dksJ2_fastRemove_1 5 rfl rfl)
theorem dJ2_fastRemove_30 : decode cJ2_fastRemove 30 = .ok (.isub, 1) := dk_100 (dk_at dksJ2_fastRemove_1 6 rfl rfl)
theorem dJ2_fastRemove_31 : decode cJ2_fastRemove 31 = .ok (.invokestatic 112, 3) := dk_184 0 112 (dk_at dksJ2_fastRemove_1 7 rfl rfl)
theorem dJ2_fastRemove_34 : decode cJ2_fastRemove 34 = .ok (.aload_n 1, 1) := dk_43 (dk_at dksJ2_fastRemove_1 10 rfl rfl)
theorem dJ2_fastRemove_35 : decode cJ2_fastRemove 35 = .ok (.aload_n 0, 1) := dk_42 (dk_at dksJ2_fastRemove_1 11 rfl rfl)
theorem dJ2_fastRemove_36 : decode cJ2_fastRemove 36 = .ok (.iload_n 3, 1) := dk_29 (dk_at dksJ2_fastRemove_1 12 rfl rfl)
theorem dJ2_fastRemove_37 : decode cJ2_fastRemove 37 = .ok (.dup_x1, 1) := dk_90 (dk_at dksJ2_fastRemove_1 13 rfl rfl)
theorem dJ2_fastRemove_38 : decode cJ2_fastRemove 38 = .ok (.putfield 48, 3) := dk_181 0 48 (dk_at dksJ2_fastRemove_1 14 rfl rfl)
theorem dJ2_fastRemove_41 : decode cJ2_fastRemove 41 = .ok (.aconst_null, 1) := dk_1 (dk_at dksJ2_fastRemove_1 17 rfl rfl)
theorem dJ2_fastRemove_42 : decode cJ2_fastRemove 42 = .ok (.aastore, 1) := dk_83 (dk_at dksJ2_fastRemove_1 18 rfl rfl)
theorem dJ2_fastRemove_43 : decode cJ2_fastRemove 43 = .ok (.return_, 1) := dk_177 (dk_at dksJ2_fastRemove_1 19 rfl rfl)
def dkwJ2_set_0 : List UInt8 := [27, 42, 180, 0, 48, 184, 0, 118, 87, 42, 27, 182, 0, 123, 78, 42, 180, 0, 9, 27, 44, 83, 45, 176]
abbrev dktJ2_set_0 : List UInt8 := dkwJ2_set_0 ++ []
theorem dksJ2_set_0 : cJ2_set.data.toList.drop 0 = dktJ2_set_0 := by decide +kernel
theorem dJ2_set_0 : decode cJ2_set 0 = .ok (.iload_n 1, 1) := dk_27 (dk_at dksJ2_set_0 0 rfl rfl)
theorem dJ2_set_1 : decode cJ2_set 1 = .ok (.aload_n 0, 1) := dk_42 (dk_at dksJ2_set_0 1 rfl rfl)
theorem dJ2_set_2 : decode cJ2_set 2 = .ok (.getfield 48, 3) := dk_180 0 48 (dk_at dksJ2_set_0 2 rfl rfl)
theorem dJ2_set_5 : decode cJ2_set 5 = .ok (.invokestatic 118, 3) := dk_184 0 118 (dk_at dksJ2_set_0 5 rfl rfl)
theorem dJ2_set_8 : decode cJ2_set 8 = .ok (.pop, 1) := dk_87 (dk_at dksJ2_set_0 8 rfl rfl)
theorem dJ2_set_9 : decode cJ2_set 9 = .ok (.aload_n 0, 1) := dk_42 (dk_at dksJ2_set_0 9 rfl rfl)
theorem dJ2_set_10 : decode cJ2_set 10 = .ok (.iload_n 1, 1) := dk_27 (dk_at dksJ2_set_0 10 rfl rfl)
theorem dJ2_set_11 : decode cJ2_set 11 = .ok (.invokevirtual 123, 3) := dk_182 0 123 (dk_at dksJ2_set_0 11 rfl rfl)
theorem dJ2_set_14 : decode cJ2_set 14 = .ok (.astore_n 3, 1) := dk_78 (dk_at dksJ2_set_0 14 rfl rfl)
theorem dJ2_set_15 : decode cJ2_set 15 = .ok (.aload_n 0, 1) := dk_42 (dk_at dksJ2_set_0 15 rfl rfl)
theorem dJ2_set_16 : decode cJ2_set 16 = .ok (.getfield 9, 3) := dk_180 0 9 (dk_at dksJ2_set_0 16 rfl rfl)
theorem dJ2_set_19 : decode cJ2_set 19 = .ok (.iload_n 1, 1) := dk_27 (dk_at dksJ2_set_0 19 rfl rfl)
theorem dJ2_set_20 : decode cJ2_set 20 = .ok (.aload_n 2, 1) := dk_44 (dk_at dksJ2_set_0 20 rfl rfl)
theorem dJ2_set_21 : decode cJ2_set 21 = .ok (.aastore, 1) := dk_83 (dk_at dksJ2_set_0 21 rfl rfl)
theorem dJ2_set_22 : decode cJ2_set 22 = .ok (.aload_n 3, 1) := dk_45 (dk_at dksJ2_set_0 22 rfl rfl)
theorem dJ2_set_23 : decode cJ2_set 23 = .ok (.areturn, 1) := dk_176 (dk_at dksJ2_set_0 23 rfl rfl)
def dkwJ2_indexOf_0 : List UInt8 := [42, 43, 3, 42, 180, 0, 48, 182, 0, 89, 172]
abbrev dktJ2_indexOf_0 : List UInt8 := dkwJ2_indexOf_0 ++ []
theorem dksJ2_indexOf_0 : cJ2_indexOf.data.toList.drop 0 = dktJ2_indexOf_0 := by decide +kernel
theorem dJ2_indexOf_0 : decode cJ2_indexOf 0 = .ok (.aload_n 0, 1) := dk_42 (dk_at dksJ2_indexOf_0 0 rfl rfl)
theorem dJ2_indexOf_1 : decode cJ2_indexOf 1 = .ok (.aload_n 1, 1) := dk_43 (dk_at dksJ2_indexOf_0 1 rfl rfl)
theorem dJ2_indexOf_2 : decode cJ2_indexOf 2 = .ok (.iconst 0, 1) := dk_3 (dk_at dksJ2_indexOf_0 2 rfl rfl)
theorem dJ2_indexOf_3 : decode cJ2_indexOf 3 = .ok (.aload_n 0, 1) := dk_42 (dk_at dksJ2_indexOf_0 3 rfl rfl)
theorem dJ2_indexOf_4 : decode cJ2_indexOf 4 = .ok (.getfield 48, 3) := dk_180 0 48 (dk_at dksJ2_indexOf_0 4 rfl rfl)
theorem dJ2_indexOf_7 : decode cJ2_indexOf 7 = .ok (.invokevirtual 89, 3) := dk_182 0 89 (dk_at dksJ2_indexOf_0 7 rfl rfl)
theorem dJ2_indexOf_10 : decode cJ2_indexOf 10 = .ok (.ireturn, 1) := dk_172 (dk_at dksJ2_indexOf_0 10 rfl rfl)
def dkwJ2_indexOfRange_2 : List UInt8 := [43, 25, 4, 21, 5, 50, 182, 0, 93, 153, 0, 6, 21, 5, 172, 132, 5, 1, 167, 255, 232, 2, 172]
abbrev dktJ2_indexOfRange_2 : List UInt8 := dkwJ2_indexOfRange_2 ++ []
def dkwJ2_indexOfRange_1 : List UInt8 := [199, 0, 6, 21, 5, 172, 132, 5, 1, 167, 255, 236, 167, 0, 33, 28, 54, 5, 21, 5, 29, 162, 0, 24]
abbrev dktJ2_indexOfRange_1 : List UInt8 := dkwJ2_indexOfRange_1 ++ dktJ2_indexOfRange_2
def dkwJ2_indexOfRange_0 : List UInt8 := [42, 180, 0, 9, 58, 4, 43, 199, 0, 32, 28, 54, 5, 21, 5, 29, 162, 0, 20, 25, 4, 21, 5, 50]
abbrev dktJ2_indexOfRange_0 : List UInt8 := dkwJ2_indexOfRange_0 ++ dktJ2_indexOfRange_1
theorem dksJ2_indexOfRange_0 : cJ2_indexOfRange.data.toList.drop 0 = dktJ2_indexOfRange_0 := by decide +kernel
theorem dksJ2_indexOfRange_1 : cJ2_indexOfRange.data.toList.drop 24 = dktJ2_indexOfRange_1 := dk_seg dksJ2_indexOfRange_0 24 rfl rfl
theorem dksJ2_indexOfRange_2 : cJ2_indexOfRange.data.toList.drop 48 = dktJ2_indexOfRange_2 := dk_seg dksJ2_indexOfRange_1 24 rfl rfl
theorem dJ2_indexOfRange_0 : decode cJ2_indexOfRange 0 = .ok (.aload_n 0, 1) := dk_42 (dk_at dksJ2_indexOfRange_0 0 rfl rfl)
theorem dJ2_indexOfRange_1 : decode cJ2_indexOfRange 1 = .ok (.getfield 9, 3) := dk_180 0 9 (dk_at dksJ2_indexOfRange_0 1 rfl rfl)
theorem dJ2_indexOfRange_4 : decode cJ2_indexOfRange 4 = .ok (.astore 4, 2) := dk_58 4 (dk_at dksJ2_indexOfRange_0 4 rfl rfl)
theorem dJ2_indexOfRange_6 : decode cJ2_indexOfRange 6 = .ok (.aload_n 1, 1) := dk_43 (dk_at dksJ2_indexOfRange_0 6 rfl rfl)
theorem dJ2_indexOfRange_7 : decode cJ2_indexOfRange 7 = .ok (.ifnonnull 32, 3) := dk_199 0 32 (dk_at dksJ2_indexOfRange_0 7 rfl rfl)
theorem dJ2_indexOfRange_10 : decode cJ2_indexOfRange 10 = .ok (.iload_n 2, 1) := dk_28 (dk_at dksJ2_indexOfRange_0 10 rfl rfl)
theorem dJ2_indexOfRange_11 : decode cJ2_indexOfRange 11 = .ok (.istore 5, 2) := dk_54 5 (dk_at dksJ2_indexOfRange_0 11 rfl rfl)
theorem dJ2_indexOfRange_13 : decode cJ2_indexOfRange 13 = .ok (.iload 5, 2) := dk_21 5 (dk_at dksJ2_indexOfRange_0 13 rfl rfl)
theorem dJ2_indexOfRange_15 : decode cJ2_indexOfRange 15 = .ok (.iload_n 3, 1) := dk_29 (dk_at dksJ2_indexOfRange_0 15 rfl rfl)
theorem dJ2_indexOfRange_16 : decode cJ2_indexOfRange 16 = .ok (.if_icmp .ge 20, 3) := dk_162 0 20 (dk_at dksJ2_indexOfRange_0 16 rfl rfl)
theorem dJ2_indexOfRange_19 : decode cJ2_indexOfRange 19 = .ok (.aload 4, 2) := dk_25 4 (dk_at dksJ2_indexOfRange_0 19 rfl rfl)
theorem dJ2_indexOfRange_21 : decode cJ2_indexOfRange 21 = .ok (.iload 5, 2) := dk_21 5 (dk_at dksJ2_indexOfRange_0 21 rfl rfl)
theorem dJ2_indexOfRange_23 : decode cJ2_indexOfRange 23 = .ok (.aaload, 1) := dk_50 (dk_at dksJ2_indexOfRange_0 23 rfl rfl)
theorem dJ2_indexOfRange_24 : decode cJ2_indexOfRange 24 = .ok (.ifnonnull 6, 3) := dk_199 0 6 (dk_at dksJ2_indexOfRange_1 0 rfl rfl)
theorem dJ2_indexOfRange_27 : decode cJ2_indexOfRange 27 = .ok (.iload 5, 2) := dk_21 5 (dk_at dksJ2_indexOfRange_1 3 rfl rfl)
theorem dJ2_indexOfRange_29 : decode cJ2_indexOfRange 29 = .ok (.ireturn, 1) := dk_172 (dk_at dksJ2_indexOfRange_1 5 rfl rfl)
theorem dJ2_indexOfRange_30 : decode cJ2_indexOfRange 30 = .ok (.iinc 5 1, 3) := dk_132 5 1 (dk_at dksJ2_indexOfRange_1 6 rfl rfl)
theorem dJ2_indexOfRange_33 : decode cJ2_indexOfRange 33 = .ok (.goto (-20), 3) := dk_167 255 236 (dk_at dksJ2_indexOfRange_1 9 rfl rfl)
theorem dJ2_indexOfRange_36 : decode cJ2_indexOfRange 36 = .ok (.goto 33, 3) := dk_167 0 33 (dk_at dksJ2_indexOfRange_1 12 rfl rfl)
theorem dJ2_indexOfRange_39 : decode cJ2_indexOfRange 39 = .ok (.iload_n 2, 1) := dk_28 (dk_at dksJ2_indexOfRange_1 15 rfl rfl)
theorem dJ2_indexOfRange_40 : decode cJ2_indexOfRange 40 = .ok (.istore 5, 2) := dk_54 5 (dk_at dksJ2_indexOfRange_1 16 rfl rfl)
theorem dJ2_indexOfRange_42 : decode cJ2_indexOfRange 42 = .ok (.iload 5, 2) := dk_21 5 (dk_at dksJ2_indexOfRange_1 18 rfl rfl)
theorem dJ2_indexOfRange_44 : decode cJ2_indexOfRange 44 = .ok (.iload_n 3, 1) := dk_29 (dk_at dksJ2_indexOfRange_1 20 rfl rfl)
theorem dJ2_indexOfRange_45 : decode cJ2_indexOfRange 45 = .ok (.if_icmp .ge 24, 3) := dk_162 0 24 (dk_at dksJ2_indexOfRange_1 21 rfl rfl)
theorem dJ2_indexOfRange_48 : decode cJ2_indexOfRange 48 = .ok (.aload_n 1, 1) := dk_43 (dk_at dksJ2_indexOfRange_2 0 rfl rfl)
theorem dJ2_indexOfRange_49 : decode cJ2_indexOfRange 49 = .ok (.aload 4, 2) := dk_25 4 (dk_at dksJ2_indexOfRange_2 1 rfl rfl)
theorem dJ2_indexOfRange_51 : decode cJ2_indexOfRange 51 = .ok (.iload 5, 2) := dk_21 5 (dk_at dksJ2_indexOfRange_2 3 rfl rfl)
theorem dJ2_indexOfRange_53 : decode cJ2_indexOfRange 53 = .ok (.aaload, 1) := dk_50 (dk_at dksJ2_indexOfRange_2 5 rfl rfl)
theorem dJ2_indexOfRange_54 : decode cJ2_indexOfRange 54 = .ok (.invokevirtual 93, 3) := dk_182 0 93 (dk_at dksJ2_indexOfRange_2 6 rfl rfl)
theorem dJ2_indexOfRange_57 : decode cJ2_indexOfRange 57 = .ok (.ifCond .eq 6, 3) := dk_153 0 6 (dk_at dksJ2_indexOfRange_2 9 rfl rfl)
theorem dJ2_indexOfRange_60 : decode cJ2_indexOfRange 60 = .ok (.iload 5, 2) := dk_21 5 (dk_at dksJ2_indexOfRange_2 12 rfl rfl)
theorem dJ2_indexOfRange_62 : decode cJ2_indexOfRange 62 = .ok (.ireturn, 1) := dk_172 (dk_at dksJ2_indexOfRange_2 14 rfl rfl)
theorem dJ2_indexOfRange_63 : decode cJ2_indexOfRange 63 = .ok (.iinc 5 1, 3) := dk_132 5 1 (dk_at dksJ2_indexOfRange_2 15 rfl rfl)
theorem dJ2_indexOfRange_66 : decode cJ2_indexOfRange 66 = .ok (.goto (-24), 3) := dk_167 255 232 (dk_at dksJ2_indexOfRange_2 18 rfl rfl)
theorem dJ2_indexOfRange_69 : decode cJ2_indexOfRange 69 = .ok (.iconst (-1), 1) := dk_2 (dk_at dksJ2_indexOfRange_2 21 rfl rfl)
theorem dJ2_indexOfRange_70 : decode cJ2_indexOfRange 70 = .ok (.ireturn, 1) := dk_172 (dk_at dksJ2_indexOfRange_2 22 rfl rfl)
def dkwX2_init_0 : List UInt8 := [42, 43, 181, 0, 3, 42, 183, 0, 9, 42, 187, 0, 15, 89, 183, 0, 17, 181, 0, 18, 177]
abbrev dktX2_init_0 : List UInt8 := dkwX2_init_0 ++ []
theorem dksX2_init_0 : cX2_init.data.toList.drop 0 = dktX2_init_0 := by decide +kernel
theorem dX2_init_0 : decode cX2_init 0 = .ok (.aload_n 0, 1) := dk_42 (dk_at dksX2_init_0 0 rfl rfl)
theorem dX2_init_1 : decode cX2_init 1 = .ok (.aload_n 1, 1) := dk_43 (dk_at dksX2_init_0 1 rfl rfl)
theorem dX2_init_2 : decode cX2_init 2 = .ok (.putfield 3, 3) := dk_181 0 3 (dk_at dksX2_init_0 2 rfl rfl)
theorem dX2_init_5 : decode cX2_init 5 = .ok (.aload_n 0, 1) := dk_42 (dk_at dksX2_init_0 5 rfl rfl)
theorem dX2_init_6 : decode cX2_init 6 = .ok (.invokespecial 9, 3) := dk_183 0 9 (dk_at dksX2_init_0 6 rfl rfl)
theorem dX2_init_9 : decode cX2_init 9 = .ok (.aload_n 0, 1) := dk_42 (dk_at dksX2_init_0 9 rfl rfl)
theorem dX2_init_10 : decode cX2_init 10 = .ok (.new 15, 3) := dk_187 0 15 (dk_at dksX2_init_0 10 rfl rfl)
theorem dX2_init_13 : decode cX2_init 13 = .ok (.dup, 1) := dk_89 (dk_at dksX2_init_0 13 rfl rfl)
theorem dX2_init_14 : decode cX2_init 14 = .ok (.invokespecial 17, 3) := dk_183 0 17 (dk_at dksX2_init_0 14 rfl rfl)
theorem dX2_init_17 : decode cX2_init 17 = .ok (.putfield 18, 3) := dk_181 0 18 (dk_at dksX2_init_0 17 rfl rfl)
theorem dX2_init_20 : decode cX2_init 20 = .ok (.return_, 1) := dk_177 (dk_at dksX2_init_0 20 rfl rfl)
def dkwX2_of_0 : List UInt8 := [42, 43, 44, 180, 0, 82, 44, 180, 0, 85, 43, 180, 0, 89, 182, 0, 92, 176]
abbrev dktX2_of_0 : List UInt8 := dkwX2_of_0 ++ []
theorem dksX2_of_0 : cX2_of.data.toList.drop 0 = dktX2_of_0 := by decide +kernel
theorem dX2_of_0 : decode cX2_of 0 = .ok (.aload_n 0, 1) := dk_42 (dk_at dksX2_of_0 0 rfl rfl)
theorem dX2_of_1 : decode cX2_of 1 = .ok (.aload_n 1, 1) := dk_43 (dk_at dksX2_of_0 1 rfl rfl)
theorem dX2_of_2 : decode cX2_of 2 = .ok (.aload_n 2, 1) := dk_44 (dk_at dksX2_of_0 2 rfl rfl)
theorem dX2_of_3 : decode cX2_of 3 = .ok (.getfield 82, 3) := dk_180 0 82 (dk_at dksX2_of_0 3 rfl rfl)
theorem dX2_of_6 : decode cX2_of 6 = .ok (.aload_n 2, 1) := dk_44 (dk_at dksX2_of_0 6 rfl rfl)
theorem dX2_of_7 : decode cX2_of 7 = .ok (.getfield 85, 3) := dk_180 0 85 (dk_at dksX2_of_0 7 rfl rfl)
theorem dX2_of_10 : decode cX2_of 10 = .ok (.aload_n 1, 1) := dk_43 (dk_at dksX2_of_0 10 rfl rfl)
theorem dX2_of_11 : decode cX2_of 11 = .ok (.getfield 89, 3) := dk_180 0 89 (dk_at dksX2_of_0 11 rfl rfl)
theorem dX2_of_14 : decode cX2_of 14 = .ok (.invokevirtual 92, 3) := dk_182 0 92 (dk_at dksX2_of_0 14 rfl rfl)
theorem dX2_of_17 : decode cX2_of 17 = .ok (.areturn, 1) := dk_176 (dk_at dksX2_of_0 17 rfl rfl)
def dkwX2_of_2_6 : List UInt8 := [181, 0, 71, 42, 42, 180, 0, 18, 44, 182, 0, 74, 153, 0, 7, 3, 167, 0, 4, 4, 182, 0, 67, 176]
abbrev dktX2_of_2_6 : List UInt8 := dkwX2_of_2_6 ++ []
def dkwX2_of_2_5 : List UInt8 := [182, 0, 78, 182, 0, 64, 154, 0, 9, 42, 5, 182, 0, 67, 176, 42, 180, 0, 18, 44, 180, 0, 71]
abbrev dktX2_of_2_5 : List UInt8 := dkwX2_of_2_5 ++ dktX2_of_2_6
def dkwX2_of_2_4 : List UInt8 := [182, 0, 67, 176, 42, 89, 180, 0, 37, 4, 100, 181, 0, 37, 42, 43, 44, 44, 180, 0, 61, 44]
abbrev dktX2_of_2_4 : List UInt8 := dkwX2_of_2_4 ++ dktX2_of_2_5
def dkwX2_of_2_3 : List UInt8 := [180, 0, 71, 154, 0, 24, 42, 42, 180, 0, 18, 44, 182, 0, 74, 153, 0, 7, 3, 167, 0, 4, 4]
abbrev dktX2_of_2_3 : List UInt8 := dkwX2_of_2_3 ++ dktX2_of_2_4
def dkwX2_of_2_2 : List UInt8 := [182, 0, 64, 154, 0, 9, 42, 6, 182, 0, 67, 176, 42, 180, 0, 18, 44, 180, 0, 61, 181, 0, 61, 44]
abbrev dktX2_of_2_2 : List UInt8 := dkwX2_of_2_2 ++ dktX2_of_2_3
def dkwX2_of_2_1 : List UInt8 := [180, 0, 52, 180, 0, 56, 96, 167, 0, 5, 21, 4, 181, 0, 37, 42, 43, 44, 3, 44, 180, 0, 61]
abbrev dktX2_of_2_1 : List UInt8 := dkwX2_of_2_1 ++ dktX2_of_2_2
def dkwX2_of_2_0 : List UInt8 := [42, 180, 0, 18, 182, 0, 48, 87, 42, 1, 181, 0, 40, 42, 29, 153, 0, 19, 21, 4, 42, 180, 0, 3]
abbrev dktX2_of_2_0 : List UInt8 := dkwX2_of_2_0 ++ dktX2_of_2_1
theorem dksX2_of_2_0 : cX2_of_2.data.toList.drop 0 = dktX2_of_2_0 := by decide +kernel
theorem dksX2_of_2_1 : cX2_of_2.data.toList.drop 24 = dktX2_of_2_1 := dk_seg dksX2_of_2_0 24 rfl rfl
theorem dksX2_of_2_2 : cX2_of_2.data.toList.drop 47 = dktX2_of_2_2 := dk_seg dksX2_of_2_1 23 rfl rfl
theorem dksX2_of_2_3 : cX2_of_2.data.toList.drop 71 = dktX2_of_2_3 := dk_seg dksX2_of_2_2 24 rfl rfl
theorem dksX2_of_2_4 : cX2_of_2.data.toList.drop 94 = dktX2_of_2_4 := dk_seg dksX2_of_2_3 23 rfl rfl
theorem dksX2_of_2_5 : cX2_of_2.data.toList.drop 116 = dktX2_of_2_5 := dk_seg dksX2_of_2_4 22 rfl rfl
theorem dksX2_of_2_6 : cX2_of_2.data.toList.drop 139 = dktX2_of_2_6 := dk_seg dksX2_of_2_5 23 rfl rfl
theorem dX2_of_2_0 : decode cX2_of_2 0 = .ok (.aload_n 0, 1) := dk_42 (dk_at dksX2_of_2_0 0 rfl rfl)
theorem dX2_of_2_1 : decode cX2_of_2 1 = .ok (.getfield 18, 3) := dk_180 0 18 (dk_at dksX2_of_2_0 1 rfl rfl)
theorem dX2_of_2_4 : decode cX2_of_2 4 = .ok (.invokevirtual 48, 3) := dk_182 0 48 (dk_at dksX2_of_2_0 4 rfl rfl)
theorem dX2_of_2_7 : decode cX2_of_2 7 = .ok (.pop, 1) := dk_87 (dk_at dksX2_of_2_0 7 rfl rfl)
theorem dX2_of_2_8 : decode cX2_of_2 8 = .ok (.aload_n 0, 1) := dk_42 (dk_at dksX2_of_2_0 8 rfl rfl)
theorem dX2_of_2_9 : decode cX2_of_2 9 = .ok (.aconst_null, 1) := dk_1 (dk_at dksX2_of_2_0 9 rfl rfl)
theorem dX2_of_2_10 : decode cX2_of_2 10 = .ok (.putfield 40, 3) := dk_181 0 40 (dk_at dksX2_of_2_0 10 rfl rfl)
theorem dX2_of_2_13 : decode cX2_of_2 13 = .ok (.aload_n 0, 1) := dk_42 (dk_at dksX2_of_2_0 13 rfl rfl)
theorem dX2_of_2_14 : decode cX2_of_2 14 = .ok (.iload_n 3, 1) := dk_29 (dk_at dksX2_of_2_0 14 rfl rfl)
theorem dX2_of_2_15 : decode cX2_of_2 15 = .ok (.ifCond .eq 19, 3) := dk_153 0 19 (dk_at dksX2_of_2_0 15 rfl rfl)
theorem dX2_of_2_18 : decode cX2_of_2 18 = .ok (.iload 4, 2) := dk_21 4 (dk_at dksX2_of_2_0 18 rfl rfl)
theorem dX2_of_2_20 : decode cX2_of_2 20 = .ok (.aload_n 0, 1) := dk_42 (dk_at dksX2_of_2_0 20 rfl rfl)
theorem dX2_of_2_21 : decode cX2_of_2 21 = .ok (.getfield 3, 3) := dk_180 0 3 (dk_at dksX2_of_2_0 21 rfl rfl)
theorem dX2_of_2_24 : decode cX2_of_2 24 = .ok (.getfield 52, 3) := dk_180 0 52 (dk_at dksX2_of_2_1 0 rfl rfl)
theorem dX2_of_2_27 : decode cX2_of_2 27 = .ok (.getfield 56, 3) := dk_180 0 56 (dk_at dksX2_of_2_1 3 rfl rfl)
theorem dX2_of_2_30 : decode cX2_of_2 30 = .ok (.iadd, 1) := dk_96 (dk_at dksX2_of_2_1 6 rfl rfl)
theorem dX2_of_2_31 : decode cX2_of_2 31 = .ok (.goto 5, 3) := dk_167 0 5 (dk_at dksX2_of_2_1 7 rfl rfl)
theorem dX2_of_2_34 : decode cX2_of_2 34 = .ok (.iload 4, 2) := dk_21 4 (dk_at dksX2_of_2_1 10 rfl rfl)
theorem dX2_of_2_36 : decode cX2_of_2 36 = .ok (.putfield 37, 3) := dk_181 0 37 (dk_at dksX2_of_2_1 12 rfl rfl)
theorem dX2_of_2_39 : decode cX2_of_2 39 = .ok (.aload_n 0, 1) := dk_42 (dk_at dksX2_of_2_1 15 rfl rfl)
theorem dX2_of_2_40 : decode cX2_of_2 40 = .ok (.aload_n 1, 1) := dk_43 (dk_at dksX2_of_2_1 16 rfl rfl)
theorem dX2_of_2_41 : decode cX2_of_2 41 = .ok (.aload_n 2, 1) := dk_44 (dk_at dksX2_of_2_1 17 rfl rfl)
theorem dX2_of_2_42 : decode cX2_of_2 42 = .ok (.iconst 0, 1) := dk_3 (dk_at dksX2_of_2_1 18 rfl rfl)
theorem dX2_of_2_43 : decode cX2_of_2 43 = .ok (.aload_n 2, 1) := dk_44 (dk_at dksX2_of_2_1 19 rfl rfl)
theorem dX2_of_2_44 : decode cX2_of_2 44 = .ok (.getfield 61, 3) := dk_180 0 61 (dk_at dksX2_of_2_1 20 rfl rfl)
theorem dX2_of_2_47 : decode cX2_of_2 47 = .ok (.invokevirtual 64, 3) := dk_182 0 64 (dk_at dksX2_of_2_2 0 rfl rfl)
theorem dX2_of_2_50 : decode cX2_of_2 50 = .ok (.ifCond .ne 9, 3) := dk_154 0 9 (dk_at dksX2_of_2_2 3 rfl rfl)
theorem dX2_of_2_53 : decode cX2_of_2 53 = .ok (.aload_n 0, 1) := dk_42 (dk_at dksX2_of_2_2 6 rfl rfl)
theorem dX2_of_2_54 : decode cX2_of_2 54 = .ok (.iconst 3, 1) := dk_6 (dk_at dksX2_of_2_2 7 rfl rfl)
theorem dX2_of_2_55 : decode cX2_of_2 55 = .ok (.invokevirtual 67, 3) := dk_182 0 67 (dk_at dksX2_of_2_2 8 rfl rfl)
theorem dX2_of_2_58 : decode cX2_of_2 58 = .ok (.areturn, 1) := dk_176 (dk_at dksX2_of_2_2 11 rfl rfl)
theorem dX2_of_2_59 : decode cX2_of_2 59 = .ok (.aload_n 0, 1) := dk_42 (dk_at dksX2_of_2_2 12 rfl rfl)
theorem dX2_of_2_60 : decode cX2_of_2 60 = .ok (.getfield 18, 3) := dk_180 0 18 (dk_at dksX2_of_2_2 13 rfl rfl)
theorem dX2_of_2_63 : decode cX2_of_2 63 = .ok (.aload_n 2, 1) := dk_44 (dk_at dksX2_of_2_2 16 rfl rfl)
theorem dX2_of_2_64 : decode cX2_of_2 64 = .ok (.getfield 61, 3) := dk_180 0 61 (dk_at dksX2_of_2_2 17 rfl rfl)
theorem dX2_of_2_67 : decode cX2_of_2 67 = .ok (.putfield 61, 3) := dk_181 0 61 (dk_at dksX2_of_2_2 20 rfl rfl)
theorem dX2_of_2_70 : decode cX2_of_2 70 = .ok (.aload_n 2, 1) := dk_44 (dk_at dksX2_of_2_2 23 rfl rfl)
theorem dX2_of_2_71 : decode cX2_of_2 71 = .ok (.getfield 71, 3) := dk_180 0 71 (dk_at dksX2_of_2_3 0 rfl rfl)
theorem dX2_of_2_74 : decode cX2_of_2 74 = .ok (.ifCond .ne 24, 3) := dk_154 0 24 (dk_at dksX2_of_2_3 3 rfl rfl)
theorem dX2_of_2_77 : decode cX2_of_2 77 = .ok (.aload_n 0, 1) := dk_42 (dk_at dksX2_of_2_3 6 rfl rfl)
theorem dX2_of_2_78 : decode cX2_of_2 78 = .ok (.aload_n 0, 1) := dk_42 (dk_at dksX2_of_2_3 7 rfl rfl)
theorem dX2_of_2_79 : decode cX2_of_2 79 = .ok (.getfield 18, 3) := dk_180 0 18 (dk_at dksX2_of_2_3 8 rfl rfl)
theorem dX2_of_2_82 : decode cX2_of_2 82 = .ok (.aload_n 2, 1) := dk_44 (dk_at dksX2_of_2_3 11 rfl rfl)
theorem dX2_of_2_83 : decode cX2_of_2 83 = .ok (.invokevirtual 74, 3) := dk_182 0 74 (dk_at dksX2_of_2_3 12 rfl rfl)
theorem dX2_of_2_86 : decode cX2_of_2 86 = .ok (.ifCond .eq 7, 3) := dk_153 0 7 (dk_at dksX2_of_2_3 15 rfl rfl)
theorem dX2_of_2_89 : decode cX2_of_2 89 = .ok (.iconst 0, 1) := dk_3 (dk_at dksX2_of_2_3 18 rfl rfl)
theorem dX2_of_2_90 : decode cX2_of_2 90 = .ok (.goto 4, 3) := dk_167 0 4 (dk_at dksX2_of_2_3 19 rfl rfl)
theorem dX2_of_2_93 : decode cX2_of_2 93 = .ok (.iconst 1, 1) := dk_4 (dk_at dksX2_of_2_3 22 rfl rfl)
theorem dX2_of_2_94 : decode cX2_of_2 94 = .ok (.invokevirtual 67, 3) := dk_182 0 67 (dk_at dksX2_of_2_4 0 rfl rfl)
theorem dX2_of_2_97 : decode cX2_of_2 97 = .ok (.areturn, 1) := dk_176 (dk_at dksX2_of_2_4 3 rfl rfl)
theorem dX2_of_2_98 : decode cX2_of_2 98 = .ok (.aload_n 0, 1) := dk_42 (dk_at dksX2_of_2_4 4 rfl rfl)
theorem dX2_of_2_99 : decode cX2_of_2 99 = .ok (.dup, 1) := dk_89 (dk_at dksX2_of_2_4 5 rfl rfl)
theorem dX2_of_2_100 : decode cX2_of_2 100 = .ok (.getfield 37, 3) := dk_180 0 37 (dk_at dksX2_of_2_4 6 rfl rfl)
theorem dX2_of_2_103 : decode cX2_of_2 103 = .ok (.iconst 1, 1) := dk_4 (dk_at dksX2_of_2_4 9 rfl rfl)
theorem dX2_of_2_104 : decode cX2_of_2 104 = .ok (.isub, 1) := dk_100 (dk_at dksX2_of_2_4 10 rfl rfl)
theorem dX2_of_2_105 : decode cX2_of_2 105 = .ok (.putfield 37, 3) := dk_181 0 37 (dk_at dksX2_of_2_4 11 rfl rfl)
theorem dX2_of_2_108 : decode cX2_of_2 108 = .ok (.aload_n 0, 1) := dk_42 (dk_at dksX2_of_2_4 14 rfl rfl)
theorem dX2_of_2_109 : decode cX2_of_2 109 = .ok (.aload_n 1, 1) := dk_43 (dk_at dksX2_of_2_4 15 rfl rfl)
theorem dX2_of_2_110 : decode cX2_of_2 110 = .ok (.aload_n 2, 1) := dk_44 (dk_at dksX2_of_2_4 16 rfl rfl)
theorem dX2_of_2_111 : decode cX2_of_2 111 = .ok (.aload_n 2, 1) := dk_44 (dk_at dksX2_of_2_4 17 rfl rfl)
theorem dX2_of_2_112 : decode cX2_of_2 112 = .ok (.getfield 61, 3) := dk_180 0 61 (dk_at dksX2_of_2_4 18 rfl rfl)
theorem dX2_of_2_115 : decode cX2_of_2 115 = .ok (.aload_n 2, 1) := dk_44 (dk_at dksX2_of_2_4 21 rfl rfl)
theorem dX2_of_2_116 : decode cX2_of_2 116 = .ok (.invokevirtual 78, 3) := dk_182 0 78 (dk_at dksX2_of_2_5 0 rfl rfl)
theorem dX2_of_2_119 : decode cX2_of_2 119 = .ok (.invokevirtual 64, 3) := dk_182 0 64 (dk_at dksX2_of_2_5 3 rfl rfl)
theorem dX2_of_2_122 : decode cX2_of_2 122 = .ok (.ifCond .ne 9, 3) := dk_154 0 9 (dk_at dksX2_of_2_5 6 rfl rfl)
theorem dX2_of_2_125 : decode cX2_of_2 125 = .ok (.aload_n 0, 1) := dk_42 (dk_at dksX2_of_2_5 9 rfl rfl)
theorem dX2_of_2_126 : decode cX2_of_2 126 = .ok (.iconst 2, 1) := dk_5 (dk_at dksX2_of_2_5 10 rfl rfl)
theorem dX2_of_2_127 : decode cX2_of_2 127 = .ok (.invokevirtual 67, 3) := dk_182 0 67 (dk_at dksX2_of_2_5 11 rfl rfl)
theorem dX2_of_2_130 : decode cX2_of_2 130 = .ok (.areturn, 1) := dk_176 (dk_at dksX2_of_2_5 14 rfl rfl)
theorem dX2_of_2_131 : decode cX2_of_2 131 = .ok (.aload_n 0, 1) := dk_42 (dk_at dksX2_of_2_5 15 rfl rfl)
theorem dX2_of_2_132 : decode cX2_of_2 132 = .ok (.getfield 18, 3) := dk_180 0 18 (dk_at dksX2_of_2_5 16 rfl rfl)
theorem dX2_of_2_135 : decode cX2_of_2 135 = .ok (.aload_n 2, 1) := dk_44 (dk_at dksX2_of_2_5 19 rfl rfl)
theorem dX2_of_2_136 : decode cX2_of_2 136 = .ok (.getfield 71, 3) := dk_180 0 71 (dk_at dksX2_of_2_5 20 rfl rfl)
theorem dX2_of_2_139 : decode cX2_of_2 139 = .ok (.putfield 71, 3) := dk_181 0 71 (dk_at dksX2_of_2_6 0 rfl rfl)
theorem dX2_of_2_142 : decode cX2_of_2 142 = .ok (.aload_n 0, 1) := dk_42 (dk_at dksX2_of_2_6 3 rfl rfl)
theorem dX2_of_2_143 : decode cX2_of_2 143 = .ok (.aload_n 0, 1) := dk_42 (dk_at dksX2_of_2_6 4 rfl rfl)
theorem dX2_of_2_144 : decode cX2_of_2 144 = .ok (.getfield 18, 3) := dk_180 0 18 (dk_at dksX2_of_2_6 5 rfl rfl)
theorem dX2_of_2_147 : decode cX2_of_2 147 = .ok (.aload_n 2, 1) := dk_44 (dk_at dksX2_of_2_6 8 rfl rfl)
theorem dX2_of_2_148 : decode cX2_of_2 148 = .ok (.invokevirtual 74, 3) := dk_182 0 74 (dk_at dksX2_of_2_6 9 rfl rfl)
theorem dX2_of_2_151 : decode cX2_of_2 151 = .ok (.ifCond .eq 7, 3) := dk_153 0 7 (dk_at dksX2_of_2_6 12 rfl rfl)
theorem dX2_of_2_154 : decode cX2_of_2 154 = .ok (.iconst 0, 1) := dk_3 (dk_at dksX2_of_2_6 15 rfl rfl)
theorem dX2_of_2_155 : decode cX2_of_2 155 = .ok (.goto 4, 3) := dk_167 0 4 (dk_at dksX2_of_2_6 16 rfl rfl)
theorem dX2_of_2_158 : decode cX2_of_2 158 = .ok (.iconst 1, 1) := dk_4 (dk_at dksX2_of_2_6 19 rfl rfl)
theorem dX2_of_2_159 : decode cX2_of_2 159 = .ok (.invokevirtual 67, 3) := dk_182 0 67 (dk_at dksX2_of_2_6 20 rfl rfl)
theorem dX2_of_2_162 : decode cX2_of_2 162 = .ok (.areturn, 1) := dk_176 (dk_at dksX2_of_2_6 23 rfl rfl)
def dkwX2_says_3 : List UInt8 := [181, 0, 40, 132, 5, 1, 167, 255, 184, 4, 172]
abbrev dktX2_says_3 : List UInt8 := dkwX2_says_3 ++ []
def dkwX2_says_2 : List UInt8 := [180, 0, 37, 156, 0, 5, 3, 172, 42, 180, 0, 18, 180, 0, 28, 21, 5, 25, 6, 83, 42, 25, 6]
abbrev dktX2_says_2 : List UInt8 := dkwX2_says_2 ++ dktX2_says_3
def dkwX2_says_1 : List UInt8 := [50, 58, 6, 42, 89, 180, 0, 37, 25, 6, 42, 180, 0, 40, 182, 0, 44, 100, 181, 0, 37, 42]
abbrev dktX2_says_1 : List UInt8 := dkwX2_says_1 ++ dktX2_says_2
def dkwX2_says_0 : List UInt8 := [29, 54, 5, 21, 5, 21, 4, 162, 0, 71, 43, 180, 0, 22, 44, 180, 0, 28, 21, 5, 50, 180, 0, 31]
abbrev dktX2_says_0 : List UInt8 := dkwX2_says_0 ++ dktX2_says_1
theorem dksX2_says_0 : cX2_says.data.toList.drop 0 = dktX2_says_0 := by decide +kernel
theorem dksX2_says_1 : cX2_says.data.toList.drop 24 = dktX2_says_1 := dk_seg dksX2_says_0 24 rfl rfl
theorem dksX2_says_2 : cX2_says.data.toList.drop 46 = dktX2_says_2 := dk_seg dksX2_says_1 22 rfl rfl
theorem dksX2_says_3 : cX2_says.data.toList.drop 69 = dktX2_says_3 := dk_seg dksX2_says_2 23 rfl rfl
theorem dX2_says_0 : decode cX2_says 0 = .ok (.iload_n 3, 1) := dk_29 (dk_at dksX2_says_0 0 rfl rfl)
theorem dX2_says_1 : decode cX2_says 1 = .ok (.istore 5, 2) := dk_54 5 (dk_at dksX2_says_0 1 rfl rfl)
theorem dX2_says_3 : decode cX2_says 3 = .ok (.iload 5, 2) := dk_21 5 (dk_at dksX2_says_0 3 rfl rfl)
theorem dX2_says_5 : decode cX2_says 5 = .ok (.iload 4, 2) := dk_21 4 (dk_at dksX2_says_0 5 rfl rfl)
theorem dX2_says_7 : decode cX2_says 7 = .ok (.if_icmp .ge 71, 3) := dk_162 0 71 (dk_at dksX2_says_0 7 rfl rfl)
theorem dX2_says_10 : decode cX2_says 10 = .ok (.aload_n 1, 1) := dk_43 (dk_at dksX2_says_0 10 rfl rfl)
theorem dX2_says_11 : decode cX2_says 11 = .ok (.getfield 22, 3) := dk_180 0 22 (dk_at dksX2_says_0 11 rfl rfl)
theorem dX2_says_14 : decode cX2_says 14 = .ok (.aload_n 2, 1) := dk_44 (dk_at dksX2_says_0 14 rfl rfl)
theorem dX2_says_15 : decode cX2_says 15 = .ok (.getfield 28, 3) := dk_180 0 28 (dk_at dksX2_says_0 15 rfl rfl)
theorem dX2_says_18 : decode cX2_says 18 = .ok (.iload 5, 2) := dk_21 5 (dk_at dksX2_says_0 18 rfl rfl)
theorem dX2_says_20 : decode cX2_says 20 = .ok (.aaload, 1) := dk_50 (dk_at dksX2_says_0 20 rfl rfl)
theorem dX2_says_21 : decode cX2_says 21 = .ok (.getfield 31, 3) := dk_180 0 31 (dk_at dksX2_says_0 21 rfl rfl)
theorem dX2_says_24 : decode cX2_says 24 = .ok (.aaload, 1) := dk_50 (dk_at dksX2_says_1 0 rfl rfl)
theorem dX2_says_25 : decode cX2_says 25 = .ok (.astore 6, 2) := dk_58 6 (dk_at dksX2_says_1 1 rfl rfl)
theorem dX2_says_27 : decode cX2_says 27 = .ok (.aload_n 0, 1) := dk_42 (dk_at dksX2_says_1 3 rfl rfl)
theorem dX2_says_28 : decode cX2_says 28 = .ok (.dup, 1) := dk_89 (dk_at dksX2_says_1 4 rfl rfl)
theorem dX2_says_29 : decode cX2_says 29 = .ok (.getfield 37, 3) := dk_180 0 37 (dk_at dksX2_says_1 5 rfl rfl)
theorem dX2_says_32 : decode cX2_says 32 = .ok (.aload 6, 2) := dk_25 6 (dk_at dksX2_says_1 8 rfl rfl)
theorem dX2_says_34 : decode cX2_says 34 = .ok (.aload_n 0, 1) := dk_42 (dk_at dksX2_says_1 10 rfl rfl)
theorem dX2_says_35 : decode cX2_says 35 = .ok (.getfield 40, 3) := dk_180 0 40 (dk_at dksX2_says_1 11 rfl rfl)
theorem dX2_says_38 : decode cX2_says 38 = .ok (.invokevirtual 44, 3) := dk_182 0 44 (dk_at dksX2_says_1 14 rfl rfl)
theorem dX2_says_41 : decode cX2_says 41 = .ok (.isub, 1) := dk_100 (dk_at dksX2_says_1 17 rfl rfl)
theorem dX2_says_42 : decode cX2_says 42 = .ok (.putfield 37, 3) := dk_181 0 37 (dk_at dksX2_says_1 18 rfl rfl)
theorem dX2_says_45 : decode cX2_says 45 = .ok (.aload_n 0, 1) := dk_42 (dk_at dksX2_says_1 21 rfl rfl)
theorem dX2_says_46 : decode cX2_says 46 = .ok (.getfield 37, 3) := dk_180 0 37 (dk_at dksX2_says_2 0 rfl rfl)
theorem dX2_says_49 : decode cX2_says 49 = .ok (.ifCond .ge 5, 3) := dk_156 0 5 (dk_at dksX2_says_2 3 rfl rfl)
theorem dX2_says_52 : decode cX2_says 52 = .ok (.iconst 0, 1) := dk_3 (dk_at dksX2_says_2 6 rfl rfl)
theorem dX2_says_53 : decode cX2_says 53 = .ok (.ireturn, 1) := dk_172 (dk_at dksX2_says_2 7 rfl rfl)
theorem dX2_says_54 : decode cX2_says 54 = .ok (.aload_n 0, 1) := dk_42 (dk_at dksX2_says_2 8 rfl rfl)
theorem dX2_says_55 : decode cX2_says 55 = .ok (.getfield 18, 3) := dk_180 0 18 (dk_at dksX2_says_2 9 rfl rfl)
theorem dX2_says_58 : decode cX2_says 58 = .ok (.getfield 28, 3) := dk_180 0 28 (dk_at dksX2_says_2 12 rfl rfl)
theorem dX2_says_61 : decode cX2_says 61 = .ok (.iload 5, 2) := dk_21 5 (dk_at dksX2_says_2 15 rfl rfl)
theorem dX2_says_63 : decode cX2_says 63 = .ok (.aload 6, 2) := dk_25 6 (dk_at dksX2_says_2 17 rfl rfl)
theorem dX2_says_65 : decode cX2_says 65 = .ok (.aastore, 1) := dk_83 (dk_at dksX2_says_2 19 rfl rfl)
theorem dX2_says_66 : decode cX2_says 66 = .ok (.aload_n 0, 1) := dk_42 (dk_at dksX2_says_2 20 rfl rfl)
theorem dX2_says_67 : decode cX2_says 67 = .ok (.aload 6, 2) := dk_25 6 (dk_at dksX2_says_2 21 rfl rfl)
theorem dX2_says_69 : decode cX2_says 69 = .ok (.putfield 40, 3) := dk_181 0 40 (dk_at dksX2_says_3 0 rfl rfl)
theorem dX2_says_72 : decode cX2_says 72 = .ok (.iinc 5 1, 3) := dk_132 5 1 (dk_at dksX2_says_3 3 rfl rfl)
theorem dX2_says_75 : decode cX2_says 75 = .ok (.goto (-72), 3) := dk_167 255 184 (dk_at dksX2_says_3 6 rfl rfl)
theorem dX2_says_78 : decode cX2_says 78 = .ok (.iconst 1, 1) := dk_4 (dk_at dksX2_says_3 9 rfl rfl)
theorem dX2_says_79 : decode cX2_says 79 = .ok (.ireturn, 1) := dk_172 (dk_at dksX2_says_3 10 rfl rfl)
def dkwX2_is_0 : List UInt8 := [42, 27, 181, 0, 96, 42, 176]
abbrev dktX2_is_0 : List UInt8 := dkwX2_is_0 ++ []
theorem dksX2_is_0 : cX2_is.data.toList.drop 0 = dktX2_is_0 := by decide +kernel
theorem dX2_is_0 : decode cX2_is 0 = .ok (.aload_n 0, 1) := dk_42 (dk_at dksX2_is_0 0 rfl rfl)
theorem dX2_is_1 : decode cX2_is 1 = .ok (.iload_n 1, 1) := dk_27 (dk_at dksX2_is_0 1 rfl rfl)
theorem dX2_is_2 : decode cX2_is 2 = .ok (.putfield 96, 3) := dk_181 0 96 (dk_at dksX2_is_0 2 rfl rfl)
theorem dX2_is_5 : decode cX2_is 5 = .ok (.aload_n 0, 1) := dk_42 (dk_at dksX2_is_0 5 rfl rfl)
theorem dX2_is_6 : decode cX2_is 6 = .ok (.areturn, 1) := dk_176 (dk_at dksX2_is_0 6 rfl rfl)
def dkwX2_tells_2 : List UInt8 := [153, 0, 18, 42, 180, 0, 18, 180, 0, 28, 27, 50, 180, 0, 31, 167, 0, 4, 2, 172]
abbrev dktX2_tells_2 : List UInt8 := dkwX2_tells_2 ++ []
def dkwX2_tells_1 : List UInt8 := [182, 0, 78, 167, 0, 38, 27, 133, 9, 42, 180, 0, 18, 182, 0, 78, 4, 100, 133, 184, 0, 99]
abbrev dktX2_tells_1 : List UInt8 := dkwX2_tells_1 ++ dktX2_tells_2
def dkwX2_tells_0 : List UInt8 := [27, 2, 160, 0, 10, 42, 180, 0, 96, 167, 0, 54, 27, 16, 20, 160, 0, 13, 42, 180, 0, 18]
abbrev dktX2_tells_0 : List UInt8 := dkwX2_tells_0 ++ dktX2_tells_1
theorem dksX2_tells_0 : cX2_tells.data.toList.drop 0 = dktX2_tells_0 := by decide +kernel
theorem dksX2_tells_1 : cX2_tells.data.toList.drop 22 = dktX2_tells_1 := dk_seg dksX2_tells_0 22 rfl rfl
theorem dksX2_tells_2 : cX2_tells.data.toList.drop 44 = dktX2_tells_2 := dk_seg dksX2_tells_1 22 rfl rfl
theorem dX2_tells_0 : decode cX2_tells 0 = .ok (.iload_n 1, 1) := dk_27 (dk_at dksX2_tells_0 0 rfl rfl)
theorem dX2_tells_1 : decode cX2_tells 1 = .ok (.iconst (-1), 1) := dk_2 (dk_at dksX2_tells_0 1 rfl rfl)
theorem dX2_tells_2 : decode cX2_tells 2 = .ok (.if_icmp .ne 10, 3) := dk_160 0 10 (dk_at dksX2_tells_0 2 rfl rfl)
theorem dX2_tells_5 : decode cX2_tells 5 = .ok (.aload_n 0, 1) := dk_42 (dk_at dksX2_tells_0 5 rfl rfl)
theorem dX2_tells_6 : decode cX2_tells 6 = .ok (.getfield 96, 3) := dk_180 0 96 (dk_at dksX2_tells_0 6 rfl rfl)
theorem dX2_tells_9 : decode cX2_tells 9 = .ok (.goto 54, 3) := dk_167 0 54 (dk_at dksX2_tells_0 9 rfl rfl)
theorem dX2_tells_12 : decode cX2_tells 12 = .ok (.iload_n 1, 1) := dk_27 (dk_at dksX2_tells_0 12 rfl rfl)
theorem dX2_tells_13 : decode cX2_tells 13 = .ok (.bipush 20, 2) := dk_16 20 (dk_at dksX2_tells_0 13 rfl rfl)
theorem dX2_tells_15 : decode cX2_tells 15 = .ok (.if_icmp .ne 13, 3) := dk_160 0 13 (dk_at dksX2_tells_0 15 rfl rfl)
theorem dX2_tells_18 : decode cX2_tells 18 = .ok (.aload_n 0, 1) := dk_42 (dk_at dksX2_tells_0 18 rfl rfl)
theorem dX2_tells_19 : decode cX2_tells 19 = .ok (.getfield 18, 3) := dk_180 0 18 (dk_at dksX2_tells_0 19 rfl rfl)
theorem dX2_tells_22 : decode cX2_tells 22 = .ok (.invokevirtual 78, 3) := dk_182 0 78 (dk_at dksX2_tells_1 0 rfl rfl)
theorem dX2_tells_25 : decode cX2_tells 25 = .ok (.goto 38, 3) := dk_167 0 38 (dk_at dksX2_tells_1 3 rfl rfl)
theorem dX2_tells_28 : decode cX2_tells 28 = .ok (.iload_n 1, 1) := dk_27 (dk_at dksX2_tells_1 6 rfl rfl)
theorem dX2_tells_29 : decode cX2_tells 29 = .ok (.i2l, 1) := dk_133 (dk_at dksX2_tells_1 7 rfl rfl)
theorem dX2_tells_30 : decode cX2_tells 30 = .ok (.lconst 0, 1) := dk_9 (dk_at dksX2_tells_1 8 rfl rfl)
theorem dX2_tells_31 : decode cX2_tells 31 = .ok (.aload_n 0, 1) := dk_42 (dk_at dksX2_tells_1 9 rfl rfl)
theorem dX2_tells_32 : decode cX2_tells 32 = .ok (.getfield 18, 3) := dk_180 0 18 (dk_at dksX2_tells_1 10 rfl rfl)
theorem dX2_tells_35 : decode cX2_tells 35 = .ok (.invokevirtual 78, 3) := dk_182 0 78 (dk_at dksX2_tells_1 13 rfl rfl)
theorem dX2_tells_38 : decode cX2_tells 38 = .ok (.iconst 1, 1) := dk_4 (dk_at dksX2_tells_1 16 rfl rfl)
theorem dX2_tells_39 : decode cX2_tells 39 = .ok (.isub, 1) := dk_100 (dk_at dksX2_tells_1 17 rfl rfl)
theorem dX2_tells_40 : decode cX2_tells 40 = .ok (.i2l, 1) := dk_133 (dk_at dksX2_tells_1 18 rfl rfl)
theorem dX2_tells_41 : decode cX2_tells 41 = .ok (.invokestatic 99, 3) := dk_184 0 99 (dk_at dksX2_tells_1 19 rfl rfl)
theorem dX2_tells_44 : decode cX2_tells 44 = .ok (.ifCond .eq 18, 3) := dk_153 0 18 (dk_at dksX2_tells_2 0 rfl rfl)
theorem dX2_tells_47 : decode cX2_tells 47 = .ok (.aload_n 0, 1) := dk_42 (dk_at dksX2_tells_2 3 rfl rfl)
theorem dX2_tells_48 : decode cX2_tells 48 = .ok (.getfield 18, 3) := dk_180 0 18 (dk_at dksX2_tells_2 4 rfl rfl)
theorem dX2_tells_51 : decode cX2_tells 51 = .ok (.getfield 28, 3) := dk_180 0 28 (dk_at dksX2_tells_2 7 rfl rfl)
theorem dX2_tells_54 : decode cX2_tells 54 = .ok (.iload_n 1, 1) := dk_27 (dk_at dksX2_tells_2 10 rfl rfl)
theorem dX2_tells_55 : decode cX2_tells 55 = .ok (.aaload, 1) := dk_50 (dk_at dksX2_tells_2 11 rfl rfl)
theorem dX2_tells_56 : decode cX2_tells 56 = .ok (.getfield 31, 3) := dk_180 0 31 (dk_at dksX2_tells_2 12 rfl rfl)
theorem dX2_tells_59 : decode cX2_tells 59 = .ok (.goto 4, 3) := dk_167 0 4 (dk_at dksX2_tells_2 15 rfl rfl)
theorem dX2_tells_62 : decode cX2_tells 62 = .ok (.iconst (-1), 1) := dk_2 (dk_at dksX2_tells_2 18 rfl rfl)
theorem dX2_tells_63 : decode cX2_tells 63 = .ok (.ireturn, 1) := dk_172 (dk_at dksX2_tells_2 19 rfl rfl)
def dkwX2_lost_0 : List UInt8 := [42, 180, 0, 18, 182, 0, 48, 87, 42, 6, 182, 0, 67, 176]
abbrev dktX2_lost_0 : List UInt8 := dkwX2_lost_0 ++ []
theorem dksX2_lost_0 : cX2_lost.data.toList.drop 0 = dktX2_lost_0 := by decide +kernel
theorem dX2_lost_0 : decode cX2_lost 0 = .ok (.aload_n 0, 1) := dk_42 (dk_at dksX2_lost_0 0 rfl rfl)
theorem dX2_lost_1 : decode cX2_lost 1 = .ok (.getfield 18, 3) := dk_180 0 18 (dk_at dksX2_lost_0 1 rfl rfl)
theorem dX2_lost_4 : decode cX2_lost 4 = .ok (.invokevirtual 48, 3) := dk_182 0 48 (dk_at dksX2_lost_0 4 rfl rfl)
theorem dX2_lost_7 : decode cX2_lost 7 = .ok (.pop, 1) := dk_87 (dk_at dksX2_lost_0 7 rfl rfl)
theorem dX2_lost_8 : decode cX2_lost 8 = .ok (.aload_n 0, 1) := dk_42 (dk_at dksX2_lost_0 8 rfl rfl)
theorem dX2_lost_9 : decode cX2_lost 9 = .ok (.iconst 3, 1) := dk_6 (dk_at dksX2_lost_0 9 rfl rfl)
theorem dX2_lost_10 : decode cX2_lost 10 = .ok (.invokevirtual 67, 3) := dk_182 0 67 (dk_at dksX2_lost_0 10 rfl rfl)
theorem dX2_lost_13 : decode cX2_lost 13 = .ok (.areturn, 1) := dk_176 (dk_at dksX2_lost_0 13 rfl rfl)
def dkwX3_init_0 : List UInt8 := [42, 183, 0, 3, 42, 16, 12, 189, 0, 9, 181, 0, 11, 177]
abbrev dktX3_init_0 : List UInt8 := dkwX3_init_0 ++ []
theorem dksX3_init_0 : cX3_init.data.toList.drop 0 = dktX3_init_0 := by decide +kernel
theorem dX3_init_0 : decode cX3_init 0 = .ok (.aload_n 0, 1) := dk_42 (dk_at dksX3_init_0 0 rfl rfl)
theorem dX3_init_1 : decode cX3_init 1 = .ok (.invokespecial 3, 3) := dk_183 0 3 (dk_at dksX3_init_0 1 rfl rfl)
theorem dX3_init_4 : decode cX3_init 4 = .ok (.aload_n 0, 1) := dk_42 (dk_at dksX3_init_0 4 rfl rfl)
theorem dX3_init_5 : decode cX3_init 5 = .ok (.bipush 12, 2) := dk_16 12 (dk_at dksX3_init_0 5 rfl rfl)
theorem dX3_init_7 : decode cX3_init 7 = .ok (.anewarray 9, 3) := dk_189 0 9 (dk_at dksX3_init_0 7 rfl rfl)
theorem dX3_init_10 : decode cX3_init 10 = .ok (.putfield 11, 3) := dk_181 0 11 (dk_at dksX3_init_0 10 rfl rfl)
theorem dX3_init_13 : decode cX3_init 13 = .ok (.return_, 1) := dk_177 (dk_at dksX3_init_0 13 rfl rfl)
def dkwX3_like_1 : List UInt8 := [162, 0, 21, 42, 180, 0, 11, 28, 43, 180, 0, 11, 28, 50, 83, 132, 2, 1, 167, 255, 233, 42, 176]
abbrev dktX3_like_1 : List UInt8 := dkwX3_like_1 ++ []
def dkwX3_like_0 : List UInt8 := [42, 43, 180, 0, 17, 181, 0, 17, 42, 43, 180, 0, 21, 181, 0, 21, 3, 61, 28, 42, 182, 0, 24]
abbrev dktX3_like_0 : List UInt8 := dkwX3_like_0 ++ dktX3_like_1
theorem dksX3_like_0 : cX3_like.data.toList.drop 0 = dktX3_like_0 := by decide +kernel
theorem dksX3_like_1 : cX3_like.data.toList.drop 23 = dktX3_like_1 := dk_seg dksX3_like_0 23 rfl rfl
theorem dX3_like_0 : decode cX3_like 0 = .ok (.aload_n 0, 1) := dk_42 (dk_at dksX3_like_0 0 rfl rfl)
theorem dX3_like_1 : decode cX3_like 1 = .ok (.aload_n 1, 1) := dk_43 (dk_at dksX3_like_0 1 rfl rfl)
theorem dX3_like_2 : decode cX3_like 2 = .ok (.getfield 17, 3) := dk_180 0 17 (dk_at dksX3_like_0 2 rfl rfl)
theorem dX3_like_5 : decode cX3_like 5 = .ok (.putfield 17, 3) := dk_181 0 17 (dk_at dksX3_like_0 5 rfl rfl)
theorem dX3_like_8 : decode cX3_like 8 = .ok (.aload_n 0, 1) := dk_42 (dk_at dksX3_like_0 8 rfl rfl)
theorem dX3_like_9 : decode cX3_like 9 = .ok (.aload_n 1, 1) := dk_43 (dk_at dksX3_like_0 9 rfl rfl)
theorem dX3_like_10 : decode cX3_like 10 = .ok (.getfield 21, 3) := dk_180 0 21 (dk_at dksX3_like_0 10 rfl rfl)
theorem dX3_like_13 : decode cX3_like 13 = .ok (.putfield 21, 3) := dk_181 0 21 (dk_at dksX3_like_0 13 rfl rfl)
theorem dX3_like_16 : decode cX3_like 16 = .ok (.iconst 0, 1) := dk_3 (dk_at dksX3_like_0 16 rfl rfl)
theorem dX3_like_17 : decode cX3_like 17 = .ok (.istore_n 2, 1) := dk_61 (dk_at dksX3_like_0 17 rfl rfl)
theorem dX3_like_18 : decode cX3_like 18 = .ok (.iload_n 2, 1) := dk_28 (dk_at dksX3_like_0 18 rfl rfl)
theorem dX3_like_19 : decode cX3_like 19 = .ok (.aload_n 0, 1) := dk_42 (dk_at dksX3_like_0 19 rfl rfl)
theorem dX3_like_20 : decode cX3_like 20 = .ok (.invokevirtual 24, 3) := dk_182 0 24 (dk_at dksX3_like_0 20 rfl rfl)
theorem dX3_like_23 : decode cX3_like 23 = .ok (.if_icmp .ge 21, 3) := dk_162 0 21 (dk_at dksX3_like_1 0 rfl rfl)
theorem dX3_like_26 : decode cX3_like 26 = .ok (.aload_n 0, 1) := dk_42 (dk_at dksX3_like_1 3 rfl rfl)
theorem dX3_like_27 : decode cX3_like 27 = .ok (.getfield 11, 3) := dk_180 0 11 (dk_at dksX3_like_1 4 rfl rfl)
theorem dX3_like_30 : decode cX3_like 30 = .ok (.iload_n 2, 1) := dk_28 (dk_at dksX3_like_1 7 rfl rfl)
theorem dX3_like_31 : decode cX3_like 31 = .ok (.aload_n 1, 1) := dk_43 (dk_at dksX3_like_1 8 rfl rfl)
theorem dX3_like_32 : decode cX3_like 32 = .ok (.getfield 11, 3) := dk_180 0 11 (dk_at dksX3_like_1 9 rfl rfl)
theorem dX3_like_35 : decode cX3_like 35 = .ok (.iload_n 2, 1) := dk_28 (dk_at dksX3_like_1 12 rfl rfl)
theorem dX3_like_36 : decode cX3_like 36 = .ok (.aaload, 1) := dk_50 (dk_at dksX3_like_1 13 rfl rfl)
theorem dX3_like_37 : decode cX3_like 37 = .ok (.aastore, 1) := dk_83 (dk_at dksX3_like_1 14 rfl rfl)
theorem dX3_like_38 : decode cX3_like 38 = .ok (.iinc 2 1, 3) := dk_132 2 1 (dk_at dksX3_like_1 15 rfl rfl)
theorem dX3_like_41 : decode cX3_like 41 = .ok (.goto (-23), 3) := dk_167 255 233 (dk_at dksX3_like_1 18 rfl rfl)
theorem dX3_like_44 : decode cX3_like 44 = .ok (.aload_n 0, 1) := dk_42 (dk_at dksX3_like_1 21 rfl rfl)
theorem dX3_like_45 : decode cX3_like 45 = .ok (.areturn, 1) := dk_176 (dk_at dksX3_like_1 22 rfl rfl)
def dkwX3_size_0 : List UInt8 := [42, 180, 0, 17, 42, 180, 0, 21, 96, 172]
abbrev dktX3_size_0 : List UInt8 := dkwX3_size_0 ++ []
theorem dksX3_size_0 : cX3_size.data.toList.drop 0 = dktX3_size_0 := by decide +kernel
theorem dX3_size_0 : decode cX3_size 0 = .ok (.aload_n 0, 1) := dk_42 (dk_at dksX3_size_0 0 rfl rfl)
theorem dX3_size_1 : decode cX3_size 1 = .ok (.getfield 17, 3) := dk_180 0 17 (dk_at dksX3_size_0 1 rfl rfl)
theorem dX3_size_4 : decode cX3_size 4 = .ok (.aload_n 0, 1) := dk_42 (dk_at dksX3_size_0 4 rfl rfl)
theorem dX3_size_5 : decode cX3_size 5 = .ok (.getfield 21, 3) := dk_180 0 21 (dk_at dksX3_size_0 5 rfl rfl)
theorem dX3_size_8 : decode cX3_size 8 = .ok (.iadd, 1) := dk_96 (dk_at dksX3_size_0 8 rfl rfl)
theorem dX3_size_9 : decode cX3_size 9 = .ok (.ireturn, 1) := dk_172 (dk_at dksX3_size_0 9 rfl rfl)
def dkwX3_isOne_0 : List UInt8 := [42, 180, 0, 17, 158, 0, 7, 4, 167, 0, 4, 3, 172]
abbrev dktX3_isOne_0 : List UInt8 := dkwX3_isOne_0 ++ []
theorem dksX3_isOne_0 : cX3_isOne.data.toList.drop 0 = dktX3_isOne_0 := by decide +kernel
theorem dX3_isOne_0 : decode cX3_isOne 0 = .ok (.aload_n 0, 1) := dk_42 (dk_at dksX3_isOne_0 0 rfl rfl)
theorem dX3_isOne_1 : decode cX3_isOne 1 = .ok (.getfield 17, 3) := dk_180 0 17 (dk_at dksX3_isOne_0 1 rfl rfl)
theorem dX3_isOne_4 : decode cX3_isOne 4 = .ok (.ifCond .le 7, 3) := dk_158 0 7 (dk_at dksX3_isOne_0 4 rfl rfl)
theorem dX3_isOne_7 : decode cX3_isOne 7 = .ok (.iconst 1, 1) := dk_4 (dk_at dksX3_isOne_0 7 rfl rfl)
theorem dX3_isOne_8 : decode cX3_isOne 8 = .ok (.goto 4, 3) := dk_167 0 4 (dk_at dksX3_isOne_0 8 rfl rfl)
theorem dX3_isOne_11 : decode cX3_isOne 11 = .ok (.iconst 0, 1) := dk_3 (dk_at dksX3_isOne_0 11 rfl rfl)
theorem dX3_isOne_12 : decode cX3_isOne 12 = .ok (.ireturn, 1) := dk_172 (dk_at dksX3_isOne_0 12 rfl rfl)
def dkwX3_has_1 : List UInt8 := [132, 2, 1, 167, 255, 233, 3, 172]
abbrev dktX3_has_1 : List UInt8 := dkwX3_has_1 ++ []
def dkwX3_has_0 : List UInt8 := [3, 61, 28, 42, 182, 0, 24, 162, 0, 21, 42, 180, 0, 11, 28, 50, 43, 166, 0, 5, 4, 172]
abbrev dktX3_has_0 : List UInt8 := dkwX3_has_0 ++ dktX3_has_1
theorem dksX3_has_0 : cX3_has.data.toList.drop 0 = dktX3_has_0 := by decide +kernel
theorem dksX3_has_1 : cX3_has.data.toList.drop 22 = dktX3_has_1 := dk_seg dksX3_has_0 22 rfl rfl
theorem dX3_has_0 : decode cX3_has 0 = .ok (.iconst 0, 1) := dk_3 (dk_at dksX3_has_0 0 rfl rfl)
theorem dX3_has_1 : decode cX3_has 1 = .ok (.istore_n 2, 1) := dk_61 (dk_at dksX3_has_0 1 rfl rfl)
theorem dX3_has_2 : decode cX3_has 2 = .ok (.iload_n 2, 1) := dk_28 (dk_at dksX3_has_0 2 rfl rfl)
theorem dX3_has_3 : decode cX3_has 3 = .ok (.aload_n 0, 1) := dk_42 (dk_at dksX3_has_0 3 rfl rfl)
theorem dX3_has_4 : decode cX3_has 4 = .ok (.invokevirtual 24, 3) := dk_182 0 24 (dk_at dksX3_has_0 4 rfl rfl)
theorem dX3_has_7 : decode cX3_has 7 = .ok (.if_icmp .ge 21, 3) := dk_162 0 21 (dk_at dksX3_has_0 7 rfl rfl)
theorem dX3_has_10 : decode cX3_has 10 = .ok (.aload_n 0, 1) := dk_42 (dk_at dksX3_has_0 10 rfl rfl)
theorem dX3_has_11 : decode cX3_has 11 = .ok (.getfield 11, 3) := dk_180 0 11 (dk_at dksX3_has_0 11 rfl rfl)
theorem dX3_has_14 : decode cX3_has 14 = .ok (.iload_n 2, 1) := dk_28 (dk_at dksX3_has_0 14 rfl rfl)
theorem dX3_has_15 : decode cX3_has 15 = .ok (.aaload, 1) := dk_50 (dk_at dksX3_has_0 15 rfl rfl)
theorem dX3_has_16 : decode cX3_has 16 = .ok (.aload_n 1, 1) := dk_43 (dk_at dksX3_has_0 16 rfl rfl)
theorem dX3_has_17 : decode cX3_has 17 = .ok (.if_acmp .ne 5, 3) := dk_166 0 5 (dk_at dksX3_has_0 17 rfl rfl)
theorem dX3_has_20 : decode cX3_has 20 = .ok (.iconst 1, 1) := dk_4 (dk_at dksX3_has_0 20 rfl rfl)
theorem dX3_has_21 : decode cX3_has 21 = .ok (.ireturn, 1) := dk_172 (dk_at dksX3_has_0 21 rfl rfl)
theorem dX3_has_22 : decode cX3_has 22 = .ok (.iinc 2 1, 3) := dk_132 2 1 (dk_at dksX3_has_1 0 rfl rfl)
theorem dX3_has_25 : decode cX3_has 25 = .ok (.goto (-23), 3) := dk_167 255 233 (dk_at dksX3_has_1 3 rfl rfl)
theorem dX3_has_28 : decode cX3_has 28 = .ok (.iconst 0, 1) := dk_3 (dk_at dksX3_has_1 6 rfl rfl)
theorem dX3_has_29 : decode cX3_has 29 = .ok (.ireturn, 1) := dk_172 (dk_at dksX3_has_1 7 rfl rfl)
def dkwX3_empty_0 : List UInt8 := [42, 3, 181, 0, 17, 42, 3, 181, 0, 21, 42, 176]
abbrev dktX3_empty_0 : List UInt8 := dkwX3_empty_0 ++ []
theorem dksX3_empty_0 : cX3_empty.data.toList.drop 0 = dktX3_empty_0 := by decide +kernel
theorem dX3_empty_0 : decode cX3_empty 0 = .ok (.aload_n 0, 1) := dk_42 (dk_at dksX3_empty_0 0 rfl rfl)
theorem dX3_empty_1 : decode cX3_empty 1 = .ok (.iconst 0, 1) := dk_3 (dk_at dksX3_empty_0 1 rfl rfl)
theorem dX3_empty_2 : decode cX3_empty 2 = .ok (.putfield 17, 3) := dk_181 0 17 (dk_at dksX3_empty_0 2 rfl rfl)
theorem dX3_empty_5 : decode cX3_empty 5 = .ok (.aload_n 0, 1) := dk_42 (dk_at dksX3_empty_0 5 rfl rfl)
theorem dX3_empty_6 : decode cX3_empty 6 = .ok (.iconst 0, 1) := dk_3 (dk_at dksX3_empty_0 6 rfl rfl)
theorem dX3_empty_7 : decode cX3_empty 7 = .ok (.putfield 21, 3) := dk_181 0 21 (dk_at dksX3_empty_0 7 rfl rfl)
theorem dX3_empty_10 : decode cX3_empty 10 = .ok (.aload_n 0, 1) := dk_42 (dk_at dksX3_empty_0 10 rfl rfl)
theorem dX3_empty_11 : decode cX3_empty 11 = .ok (.areturn, 1) := dk_176 (dk_at dksX3_empty_0 11 rfl rfl)
def dkwX3_isLike_2 : List UInt8 := [165, 0, 5, 3, 172, 132, 2, 1, 167, 255, 228, 4, 172]
abbrev dktX3_isLike_2 : List UInt8 := dkwX3_isLike_2 ++ []
def dkwX3_isLike_1 : List UInt8 := [3, 61, 28, 42, 182, 0, 24, 162, 0, 26, 42, 180, 0, 11, 28, 50, 43, 180, 0, 11, 28, 50]
abbrev dktX3_isLike_1 : List UInt8 := dkwX3_isLike_1 ++ dktX3_isLike_2
def dkwX3_isLike_0 : List UInt8 := [42, 180, 0, 17, 43, 180, 0, 17, 160, 0, 14, 42, 180, 0, 21, 43, 180, 0, 21, 159, 0, 5, 3, 172]
abbrev dktX3_isLike_0 : List UInt8 := dkwX3_isLike_0 ++ dktX3_isLike_1
theorem dksX3_isLike_0 : cX3_isLike.data.toList.drop 0 = dktX3_isLike_0 := by decide +kernel
theorem dksX3_isLike_1 : cX3_isLike.data.toList.drop 24 = dktX3_isLike_1 := dk_seg dksX3_isLike_0 24 rfl rfl
theorem dksX3_isLike_2 : cX3_isLike.data.toList.drop 46 = dktX3_isLike_2 := dk_seg dksX3_isLike_1 22 rfl rfl
theorem dX3_isLike_0 : decode cX3_isLike 0 = .ok (.aload_n 0, 1) := dk_42 (dk_at dksX3_isLike_0 0 rfl rfl)
theorem dX3_isLike_1 : decode cX3_isLike 1 = .ok (.getfield 17, 3) := dk_180 0 17 (dk_at dksX3_isLike_0 1 rfl rfl)
theorem dX3_isLike_4 : decode cX3_isLike 4 = .ok (.aload_n 1, 1) := dk_43 (dk_at dksX3_isLike_0 4 rfl rfl)
theorem dX3_isLike_5 : decode cX3_isLike 5 = .ok (.getfield 17, 3) := dk_180 0 17 (dk_at dksX3_isLike_0 5 rfl rfl)
theorem dX3_isLike_8 : decode cX3_isLike 8 = .ok (.if_icmp .ne 14, 3) := dk_160 0 14 (dk_at dksX3_isLike_0 8 rfl rfl)
theorem dX3_isLike_11 : decode cX3_isLike 11 = .ok (.aload_n 0, 1) := dk_42 (dk_at dksX3_isLike_0 11 rfl rfl)
theorem dX3_isLike_12 : decode cX3_isLike 12 = .ok (.getfield 21, 3) := dk_180 0 21 (dk_at dksX3_isLike_0 12 rfl rfl)
theorem dX3_isLike_15 : decode cX3_isLike 15 = .ok (.aload_n 1, 1) := dk_43 (dk_at dksX3_isLike_0 15 rfl rfl)
theorem dX3_isLike_16 : decode cX3_isLike 16 = .ok (.getfield 21, 3) := dk_180 0 21 (dk_at dksX3_isLike_0 16 rfl rfl)
theorem dX3_isLike_19 : decode cX3_isLike 19 = .ok (.if_icmp .eq 5, 3) := dk_159 0 5 (dk_at dksX3_isLike_0 19 rfl rfl)
theorem dX3_isLike_22 : decode cX3_isLike 22 = .ok (.iconst 0, 1) := dk_3 (dk_at dksX3_isLike_0 22 rfl rfl)
theorem dX3_isLike_23 : decode cX3_isLike 23 = .ok (.ireturn, 1) := dk_172 (dk_at dksX3_isLike_0 23 rfl rfl)
theorem dX3_isLike_24 : decode cX3_isLike 24 = .ok (.iconst 0, 1) := dk_3 (dk_at dksX3_isLike_1 0 rfl rfl)
theorem dX3_isLike_25 : decode cX3_isLike 25 = .ok (.istore_n 2, 1) := dk_61 (dk_at dksX3_isLike_1 1 rfl rfl)
theorem dX3_isLike_26 : decode cX3_isLike 26 = .ok (.iload_n 2, 1) := dk_28 (dk_at dksX3_isLike_1 2 rfl rfl)
theorem dX3_isLike_27 : decode cX3_isLike 27 = .ok (.aload_n 0, 1) := dk_42 (dk_at dksX3_isLike_1 3 rfl rfl)
theorem dX3_isLike_28 : decode cX3_isLike 28 = .ok (.invokevirtual 24, 3) := dk_182 0 24 (dk_at dksX3_isLike_1 4 rfl rfl)
theorem dX3_isLike_31 : decode cX3_isLike 31 = .ok (.if_icmp .ge 26, 3) := dk_162 0 26 (dk_at dksX3_isLike_1 7 rfl rfl)
theorem dX3_isLike_34 : decode cX3_isLike 34 = .ok (.aload_n 0, 1) := dk_42 (dk_at dksX3_isLike_1 10 rfl rfl)
theorem dX3_isLike_35 : decode cX3_isLike 35 = .ok (.getfield 11, 3) := dk_180 0 11 (dk_at dksX3_isLike_1 11 rfl rfl)
theorem dX3_isLike_38 : decode cX3_isLike 38 = .ok (.iload_n 2, 1) := dk_28 (dk_at dksX3_isLike_1 14 rfl rfl)
theorem dX3_isLike_39 : decode cX3_isLike 39 = .ok (.aaload, 1) := dk_50 (dk_at dksX3_isLike_1 15 rfl rfl)
theorem dX3_isLike_40 : decode cX3_isLike 40 = .ok (.aload_n 1, 1) := dk_43 (dk_at dksX3_isLike_1 16 rfl rfl)
theorem dX3_isLike_41 : decode cX3_isLike 41 = .ok (.getfield 11, 3) := dk_180 0 11 (dk_at dksX3_isLike_1 17 rfl rfl)
theorem dX3_isLike_44 : decode cX3_isLike 44 = .ok (.iload_n 2, 1) := dk_28 (dk_at dksX3_isLike_1 20 rfl rfl)
theorem dX3_isLike_45 : decode cX3_isLike 45 = .ok (.aaload, 1) := dk_50 (dk_at dksX3_isLike_1 21 rfl rfl)
theorem dX3_isLike_46 : decode cX3_isLike 46 = .ok (.if_acmp .eq 5, 3) := dk_165 0 5 (dk_at dksX3_isLike_2 0 rfl rfl)
theorem dX3_isLike_49 : decode cX3_isLike 49 = .ok (.iconst 0, 1) := dk_3 (dk_at dksX3_isLike_2 3 rfl rfl)
theorem dX3_isLike_50 : decode cX3_isLike 50 = .ok (.ireturn, 1) := dk_172 (dk_at dksX3_isLike_2 4 rfl rfl)
theorem dX3_isLike_51 : decode cX3_isLike 51 = .ok (.iinc 2 1, 3) := dk_132 2 1 (dk_at dksX3_isLike_2 5 rfl rfl)
theorem dX3_isLike_54 : decode cX3_isLike 54 = .ok (.goto (-28), 3) := dk_167 255 228 (dk_at dksX3_isLike_2 8 rfl rfl)
theorem dX3_isLike_57 : decode cX3_isLike 57 = .ok (.iconst 1, 1) := dk_4 (dk_at dksX3_isLike_2 11 rfl rfl)
theorem dX3_isLike_58 : decode cX3_isLike 58 = .ok (.ireturn, 1) := dk_172 (dk_at dksX3_isLike_2 12 rfl rfl)
def dkwX3_beats_1 : List UInt8 := [132, 2, 1, 167, 255, 233, 27, 172]
abbrev dktX3_beats_1 : List UInt8 := dkwX3_beats_1 ++ []
def dkwX3_beats_0 : List UInt8 := [3, 60, 3, 61, 28, 42, 182, 0, 24, 162, 0, 21, 27, 42, 180, 0, 11, 28, 50, 180, 0, 28, 96, 60]
abbrev dktX3_beats_0 : List UInt8 := dkwX3_beats_0 ++ dktX3_beats_1
theorem dksX3_beats_0 : cX3_beats.data.toList.drop 0 = dktX3_beats_0 := by decide +kernel
theorem dksX3_beats_1 : cX3_beats.data.toList.drop 24 = dktX3_beats_1 := dk_seg dksX3_beats_0 24 rfl rfl
theorem dX3_beats_0 : decode cX3_beats 0 = .ok (.iconst 0, 1) := dk_3 (dk_at dksX3_beats_0 0 rfl rfl)
theorem dX3_beats_1 : decode cX3_beats 1 = .ok (.istore_n 1, 1) := dk_60 (dk_at dksX3_beats_0 1 rfl rfl)
theorem dX3_beats_2 : decode cX3_beats 2 = .ok (.iconst 0, 1) := dk_3 (dk_at dksX3_beats_0 2 rfl rfl)
theorem dX3_beats_3 : decode cX3_beats 3 = .ok (.istore_n 2, 1) := dk_61 (dk_at dksX3_beats_0 3 rfl rfl)
theorem dX3_beats_4 : decode cX3_beats 4 = .ok (.iload_n 2, 1) := dk_28 (dk_at dksX3_beats_0 4 rfl rfl)
theorem dX3_beats_5 : decode cX3_beats 5 = .ok (.aload_n 0, 1) := dk_42 (dk_at dksX3_beats_0 5 rfl rfl)
theorem dX3_beats_6 : decode cX3_beats 6 = .ok (.invokevirtual 24, 3) := dk_182 0 24 (dk_at dksX3_beats_0 6 rfl rfl)
theorem dX3_beats_9 : decode cX3_beats 9 = .ok (.if_icmp .ge 21, 3) := dk_162 0 21 (dk_at dksX3_beats_0 9 rfl rfl)
theorem dX3_beats_12 : decode cX3_beats 12 = .ok (.iload_n 1, 1) := dk_27 (dk_at dksX3_beats_0 12 rfl rfl)
theorem dX3_beats_13 : decode cX3_beats 13 = .ok (.aload_n 0, 1) := dk_42 (dk_at dksX3_beats_0 13 rfl rfl)
theorem dX3_beats_14 : decode cX3_beats 14 = .ok (.getfield 11, 3) := dk_180 0 11 (dk_at dksX3_beats_0 14 rfl rfl)
theorem dX3_beats_17 : decode cX3_beats 17 = .ok (.iload_n 2, 1) := dk_28 (dk_at dksX3_beats_0 17 rfl rfl)
theorem dX3_beats_18 : decode cX3_beats 18 = .ok (.aaload, 1) := dk_50 (dk_at dksX3_beats_0 18 rfl rfl)
theorem dX3_beats_19 : decode cX3_beats 19 = .ok (.getfield 28, 3) := dk_180 0 28 (dk_at dksX3_beats_0 19 rfl rfl)
theorem dX3_beats_22 : decode cX3_beats 22 = .ok (.iadd, 1) := dk_96 (dk_at dksX3_beats_0 22 rfl rfl)
theorem dX3_beats_23 : decode cX3_beats 23 = .ok (.istore_n 1, 1) := dk_60 (dk_at dksX3_beats_0 23 rfl rfl)
theorem dX3_beats_24 : decode cX3_beats 24 = .ok (.iinc 2 1, 3) := dk_132 2 1 (dk_at dksX3_beats_1 0 rfl rfl)
theorem dX3_beats_27 : decode cX3_beats 27 = .ok (.goto (-23), 3) := dk_167 255 233 (dk_at dksX3_beats_1 3 rfl rfl)
theorem dX3_beats_30 : decode cX3_beats 30 = .ok (.iload_n 1, 1) := dk_27 (dk_at dksX3_beats_1 6 rfl rfl)
theorem dX3_beats_31 : decode cX3_beats 31 = .ok (.ireturn, 1) := dk_172 (dk_at dksX3_beats_1 7 rfl rfl)
def dkwX3_beginsLike_2 : List UInt8 := [167, 0, 4, 3, 172]
abbrev dktX3_beginsLike_2 : List UInt8 := dkwX3_beginsLike_2 ++ []
def dkwX3_beginsLike_1 : List UInt8 := [180, 0, 11, 3, 50, 166, 0, 22, 42, 180, 0, 11, 4, 50, 43, 180, 0, 11, 4, 50, 166, 0, 7, 4]
abbrev dktX3_beginsLike_1 : List UInt8 := dkwX3_beginsLike_1 ++ dktX3_beginsLike_2
def dkwX3_beginsLike_0 : List UInt8 := [42, 180, 0, 17, 4, 164, 0, 45, 43, 180, 0, 17, 4, 164, 0, 37, 42, 180, 0, 11, 3, 50, 43]
abbrev dktX3_beginsLike_0 : List UInt8 := dkwX3_beginsLike_0 ++ dktX3_beginsLike_1
theorem dksX3_beginsLike_0 : cX3_beginsLike.data.toList.drop 0 = dktX3_beginsLike_0 := by decide +kernel
theorem dksX3_beginsLike_1 : cX3_beginsLike.data.toList.drop 23 = dktX3_beginsLike_1 := dk_seg dksX3_beginsLike_0 23 rfl rfl
theorem dksX3_beginsLike_2 : cX3_beginsLike.data.toList.drop 47 = dktX3_beginsLike_2 := dk_seg dksX3_beginsLike_1 24 rfl rfl
theorem dX3_beginsLike_0 : decode cX3_beginsLike 0 = .ok (.aload_n 0, 1) := dk_42 (dk_at dksX3_beginsLike_0 0 rfl rfl)
theorem dX3_beginsLike_1 : decode cX3_beginsLike 1 = .ok (.getfield 17, 3) := dk_180 0 17 (dk_at dksX3_beginsLike_0 1 rfl rfl)
theorem dX3_beginsLike_4 : decode cX3_beginsLike 4 = .ok (.iconst 1, 1) := dk_4 (dk_at dksX3_beginsLike_0 4 rfl rfl)
theorem dX3_beginsLike_5 : decode cX3_beginsLike 5 = .ok (.if_icmp .le 45, 3) := dk_164 0 45 (dk_at dksX3_beginsLike_0 5 rfl rfl)
theorem dX3_beginsLike_8 : decode cX3_beginsLike 8 = .ok (.aload_n 1, 1) := dk_43 (dk_at dksX3_beginsLike_0 8 rfl rfl)
theorem dX3_beginsLike_9 : decode cX3_beginsLike 9 = .ok (.getfield 17, 3) := dk_180 0 17 (dk_at dksX3_beginsLike_0 9 rfl rfl)
theorem dX3_beginsLike_12 : decode cX3_beginsLike 12 = .ok (.iconst 1, 1) := dk_4 (dk_at dksX3_beginsLike_0 12 rfl rfl)
theorem dX3_beginsLike_13 : decode cX3_beginsLike 13 = .ok (.if_icmp .le 37, 3) := dk_164 0 37 (dk_at dksX3_beginsLike_0 13 rfl rfl)
theorem dX3_beginsLike_16 : decode cX3_beginsLike 16 = .ok (.aload_n 0, 1) := dk_42 (dk_at dksX3_beginsLike_0 16 rfl rfl)
theorem dX3_beginsLike_17 : decode cX3_beginsLike 17 = .ok (.getfield 11, 3) := dk_180 0 11 (dk_at dksX3_beginsLike_0 17 rfl rfl)
theorem dX3_beginsLike_20 : decode cX3_beginsLike 20 = .ok (.iconst 0, 1) := dk_3 (dk_at dksX3_beginsLike_0 20 rfl rfl)
theorem dX3_beginsLike_21 : decode cX3_beginsLike 21 = .ok (.aaload, 1) := dk_50 (dk_at dksX3_beginsLike_0 21 rfl rfl)
theorem dX3_beginsLike_22 : decode cX3_beginsLike 22 = .ok (.aload_n 1, 1) := dk_43 (dk_at dksX3_beginsLike_0 22 rfl rfl)
theorem dX3_beginsLike_23 : decode cX3_beginsLike 23 = .ok (.getfield 11, 3) := dk_180 0 11 (dk_at dksX3_beginsLike_1 0 rfl rfl)
theorem dX3_beginsLike_26 : decode cX3_beginsLike 26 = .ok (.iconst 0, 1) := dk_3 (dk_at dksX3_beginsLike_1 3 rfl rfl)
theorem dX3_beginsLike_27 : decode cX3_beginsLike 27 = .ok (.aaload, 1) := dk_50 (dk_at dksX3_beginsLike_1 4 rfl rfl)
theorem dX3_beginsLike_28 : decode cX3_beginsLike 28 = .ok (.if_acmp .ne 22, 3) := dk_166 0 22 (dk_at dksX3_beginsLike_1 5 rfl rfl)
theorem dX3_beginsLike_31 : decode cX3_beginsLike 31 = .ok (.aload_n 0, 1) := dk_42 (dk_at dksX3_beginsLike_1 8 rfl rfl)
theorem dX3_beginsLike_32 : decode cX3_beginsLike 32 = .ok (.getfield 11, 3) := dk_180 0 11 (dk_at dksX3_beginsLike_1 9 rfl rfl)
theorem dX3_beginsLike_35 : decode cX3_beginsLike 35 = .ok (.iconst 1, 1) := dk_4 (dk_at dksX3_beginsLike_1 12 rfl rfl)
theorem dX3_beginsLike_36 : decode cX3_beginsLike 36 = .ok (.aaload, 1) := dk_50 (dk_at dksX3_beginsLike_1 13 rfl rfl)
theorem dX3_beginsLike_37 : decode cX3_beginsLike 37 = .ok (.aload_n 1, 1) := dk_43 (dk_at dksX3_beginsLike_1 14 rfl rfl)
theorem dX3_beginsLike_38 : decode cX3_beginsLike 38 = .ok (.getfield 11, 3) := dk_180 0 11 (dk_at dksX3_beginsLike_1 15 rfl rfl)
theorem dX3_beginsLike_41 : decode cX3_beginsLike 41 = .ok (.iconst 1, 1) := dk_4 (dk_at dksX3_beginsLike_1 18 rfl rfl)
theorem dX3_beginsLike_42 : decode cX3_beginsLike 42 = .ok (.aaload, 1) := dk_50 (dk_at dksX3_beginsLike_1 19 rfl rfl)
theorem dX3_beginsLike_43 : decode cX3_beginsLike 43 = .ok (.if_acmp .ne 7, 3) := dk_166 0 7 (dk_at dksX3_beginsLike_1 20 rfl rfl)
theorem dX3_beginsLike_46 : decode cX3_beginsLike 46 = .ok (.iconst 1, 1) := dk_4 (dk_at dksX3_beginsLike_1 23 rfl rfl)
theorem dX3_beginsLike_47 : decode cX3_beginsLike 47 = .ok (.goto 4, 3) := dk_167 0 4 (dk_at dksX3_beginsLike_2 0 rfl rfl)
theorem dX3_beginsLike_50 : decode cX3_beginsLike 50 = .ok (.iconst 0, 1) := dk_3 (dk_at dksX3_beginsLike_2 3 rfl rfl)
theorem dX3_beginsLike_51 : decode cX3_beginsLike 51 = .ok (.ireturn, 1) := dk_172 (dk_at dksX3_beginsLike_2 4 rfl rfl)
def dkwX3_isAgainst_4 : List UInt8 := [160, 0, 7, 4, 167, 0, 4, 3, 172]
abbrev dktX3_isAgainst_4 : List UInt8 := dkwX3_isAgainst_4 ++ []
def dkwX3_isAgainst_3 : List UInt8 := [4, 96, 182, 0, 38, 62, 167, 255, 209, 28, 42, 180, 0, 17, 160, 0, 15, 29, 43, 180, 0, 17]
abbrev dktX3_isAgainst_3 : List UInt8 := dkwX3_isAgainst_3 ++ dktX3_isAgainst_4
def dkwX3_isAgainst_2 : List UInt8 := [180, 0, 11, 28, 50, 43, 180, 0, 11, 29, 50, 166, 0, 22, 42, 28, 4, 96, 182, 0, 38, 61, 43, 29]
abbrev dktX3_isAgainst_2 : List UInt8 := dkwX3_isAgainst_2 ++ dktX3_isAgainst_3
def dkwX3_isAgainst_1 : List UInt8 := [3, 182, 0, 38, 62, 28, 42, 180, 0, 17, 162, 0, 45, 29, 43, 180, 0, 17, 162, 0, 37, 42]
abbrev dktX3_isAgainst_1 : List UInt8 := dkwX3_isAgainst_1 ++ dktX3_isAgainst_2
def dkwX3_isAgainst_0 : List UInt8 := [42, 182, 0, 35, 5, 112, 43, 182, 0, 35, 5, 112, 160, 0, 5, 3, 172, 42, 3, 182, 0, 38, 61, 43]
abbrev dktX3_isAgainst_0 : List UInt8 := dkwX3_isAgainst_0 ++ dktX3_isAgainst_1
theorem dksX3_isAgainst_0 : cX3_isAgainst.data.toList.drop 0 = dktX3_isAgainst_0 := by decide +kernel
theorem dksX3_isAgainst_1 : cX3_isAgainst.data.toList.drop 24 = dktX3_isAgainst_1 := dk_seg dksX3_isAgainst_0 24 rfl rfl
theorem dksX3_isAgainst_2 : cX3_isAgainst.data.toList.drop 46 = dktX3_isAgainst_2 := dk_seg dksX3_isAgainst_1 22 rfl rfl
theorem dksX3_isAgainst_3 : cX3_isAgainst.data.toList.drop 70 = dktX3_isAgainst_3 := dk_seg dksX3_isAgainst_2 24 rfl rfl
theorem dksX3_isAgainst_4 : cX3_isAgainst.data.toList.drop 92 = dktX3_isAgainst_4 := dk_seg dksX3_isAgainst_3 22 rfl rfl
theorem dX3_isAgainst_0 : decode cX3_isAgainst 0 = .ok (.aload_n 0, 1) := dk_42 (dk_at dksX3_isAgainst_0 0 rfl rfl)
theorem dX3_isAgainst_1 : decode cX3_isAgainst 1 = .ok (.invokevirtual 35, 3) := dk_182 0 35 (dk_at dksX3_isAgainst_0 1 rfl rfl)
theorem dX3_isAgainst_4 : decode cX3_isAgainst 4 = .ok (.iconst 2, 1) := dk_5 (dk_at dksX3_isAgainst_0 4 rfl rfl)
theorem dX3_isAgainst_5 : decode cX3_isAgainst 5 = .ok (.irem, 1) := dk_112 (dk_at dksX3_isAgainst_0 5 rfl rfl)
theorem dX3_isAgainst_6 : decode cX3_isAgainst 6 = .ok (.aload_n 1, 1) := dk_43 (dk_at dksX3_isAgainst_0 6 rfl rfl)
theorem dX3_isAgainst_7 : decode cX3_isAgainst 7 = .ok (.invokevirtual 35, 3) := dk_182 0 35 (dk_at dksX3_isAgainst_0 7 rfl rfl)
theorem dX3_isAgainst_10 : decode cX3_isAgainst 10 = .ok (.iconst 2, 1) := dk_5 (dk_at dksX3_isAgainst_0 10 rfl rfl)
theorem dX3_isAgainst_11 : decode cX3_isAgainst 11 = .ok (.irem, 1) := dk_112 (dk_at dksX3_isAgainst_0 11 rfl rfl)
theorem dX3_isAgainst_12 : decode cX3_isAgainst 12 = .ok (.if_icmp .ne 5, 3) := dk_160 0 5 (dk_at dksX3_isAgainst_0 12 rfl rfl)
theorem dX3_isAgainst_15 : decode cX3_isAgainst 15 = .ok (.iconst 0, 1) := dk_3 (dk_at dksX3_isAgainst_0 15 rfl rfl)
theorem dX3_isAgainst_16 : decode cX3_isAgainst 16 = .ok (.ireturn, 1) := dk_172 (dk_at dksX3_isAgainst_0 16 rfl rfl)
theorem dX3_isAgainst_17 : decode cX3_isAgainst 17 = .ok (.aload_n 0, 1) := dk_42 (dk_at dksX3_isAgainst_0 17 rfl rfl)
theorem dX3_isAgainst_18 : decode cX3_isAgainst 18 = .ok (.iconst 0, 1) := dk_3 (dk_at dksX3_isAgainst_0 18 rfl rfl)
theorem dX3_isAgainst_19 : decode cX3_isAgainst 19 = .ok (.invokevirtual 38, 3) := dk_182 0 38 (dk_at dksX3_isAgainst_0 19 rfl rfl)
theorem dX3_isAgainst_22 : decode cX3_isAgainst 22 = .ok (.istore_n 2, 1) := dk_61 (dk_at dksX3_isAgainst_0 22 rfl rfl)
theorem dX3_isAgainst_23 : decode cX3_isAgainst 23 = .ok (.aload_n 1, 1) := dk_43 (dk_at dksX3_isAgainst_0 23 rfl rfl)
theorem dX3_isAgainst_24 : decode cX3_isAgainst 24 = .ok (.iconst 0, 1) := dk_3 (dk_at dksX3_isAgainst_1 0 rfl rfl)
theorem dX3_isAgainst_25 : decode cX3_isAgainst 25 = .ok (.invokevirtual 38, 3) := dk_182 0 38 (dk_at dksX3_isAgainst_1 1 rfl rfl)
theorem dX3_isAgainst_28 : decode cX3_isAgainst 28 = .ok (.istore_n 3, 1) := dk_62 (dk_at dksX3_isAgainst_1 4 rfl rfl)
theorem dX3_isAgainst_29 : decode cX3_isAgainst 29 = .ok (.iload_n 2, 1) := dk_28 (dk_at dksX3_isAgainst_1 5 rfl rfl)
theorem dX3_isAgainst_30 : decode cX3_isAgainst 30 = .ok (.aload_n 0, 1) := dk_42 (dk_at dksX3_isAgainst_1 6 rfl rfl)
theorem dX3_isAgainst_31 : decode cX3_isAgainst 31 = .ok (.getfield 17, 3) := dk_180 0 17 (dk_at dksX3_isAgainst_1 7 rfl rfl)
theorem dX3_isAgainst_34 : decode cX3_isAgainst 34 = .ok (.if_icmp .ge 45, 3) := dk_162 0 45 (dk_at dksX3_isAgainst_1 10 rfl rfl)
theorem dX3_isAgainst_37 : decode cX3_isAgainst 37 = .ok (.iload_n 3, 1) := dk_29 (dk_at dksX3_isAgainst_1 13 rfl rfl)
theorem dX3_isAgainst_38 : decode cX3_isAgainst 38 = .ok (.aload_n 1, 1) := dk_43 (dk_at dksX3_isAgainst_1 14 rfl rfl)
theorem dX3_isAgainst_39 : decode cX3_isAgainst 39 = .ok (.getfield 17, 3) := dk_180 0 17 (dk_at dksX3_isAgainst_1 15 rfl rfl)
theorem dX3_isAgainst_42 : decode cX3_isAgainst 42 = .ok (.if_icmp .ge 37, 3) := dk_162 0 37 (dk_at dksX3_isAgainst_1 18 rfl rfl)
theorem dX3_isAgainst_45 : decode cX3_isAgainst 45 = .ok (.aload_n 0, 1) := dk_42 (dk_at dksX3_isAgainst_1 21 rfl rfl)
theorem dX3_isAgainst_46 : decode cX3_isAgainst 46 = .ok (.getfield 11, 3) := dk_180 0 11 (dk_at dksX3_isAgainst_2 0 rfl rfl)
theorem dX3_isAgainst_49 : decode cX3_isAgainst 49 = .ok (.iload_n 2, 1) := dk_28 (dk_at dksX3_isAgainst_2 3 rfl rfl)
theorem dX3_isAgainst_50 : decode cX3_isAgainst 50 = .ok (.aaload, 1) := dk_50 (dk_at dksX3_isAgainst_2 4 rfl rfl)
theorem dX3_isAgainst_51 : decode cX3_isAgainst 51 = .ok (.aload_n 1, 1) := dk_43 (dk_at dksX3_isAgainst_2 5 rfl rfl)
theorem dX3_isAgainst_52 : decode cX3_isAgainst 52 = .ok (.getfield 11, 3) := dk_180 0 11 (dk_at dksX3_isAgainst_2 6 rfl rfl)
theorem dX3_isAgainst_55 : decode cX3_isAgainst 55 = .ok (.iload_n 3, 1) := dk_29 (dk_at dksX3_isAgainst_2 9 rfl rfl)
theorem dX3_isAgainst_56 : decode cX3_isAgainst 56 = .ok (.aaload, 1) := dk_50 (dk_at dksX3_isAgainst_2 10 rfl rfl)
theorem dX3_isAgainst_57 : decode cX3_isAgainst 57 = .ok (.if_acmp .ne 22, 3) := dk_166 0 22 (dk_at dksX3_isAgainst_2 11 rfl rfl)
theorem dX3_isAgainst_60 : decode cX3_isAgainst 60 = .ok (.aload_n 0, 1) := dk_42 (dk_at dksX3_isAgainst_2 14 rfl rfl)
theorem dX3_isAgainst_61 : decode cX3_isAgainst 61 = .ok (.iload_n 2, 1) := dk_28 (dk_at dksX3_isAgainst_2 15 rfl rfl)
theorem dX3_isAgainst_62 : decode cX3_isAgainst 62 = .ok (.iconst 1, 1) := dk_4 (dk_at dksX3_isAgainst_2 16 rfl rfl)
theorem dX3_isAgainst_63 : decode cX3_isAgainst 63 = .ok (.iadd, 1) := dk_96 (dk_at dksX3_isAgainst_2 17 rfl rfl)
theorem dX3_isAgainst_64 : decode cX3_isAgainst 64 = .ok (.invokevirtual 38, 3) := dk_182 0 38 (dk_at dksX3_isAgainst_2 18 rfl rfl)
theorem dX3_isAgainst_67 : decode cX3_isAgainst 67 = .ok (.istore_n 2, 1) := dk_61 (dk_at dksX3_isAgainst_2 21 rfl rfl)
theorem dX3_isAgainst_68 : decode cX3_isAgainst 68 = .ok (.aload_n 1, 1) := dk_43 (dk_at dksX3_isAgainst_2 22 rfl rfl)
theorem dX3_isAgainst_69 : decode cX3_isAgainst 69 = .ok (.iload_n 3, 1) := dk_29 (dk_at dksX3_isAgainst_2 23 rfl rfl)
theorem dX3_isAgainst_70 : decode cX3_isAgainst 70 = .ok (.iconst 1, 1) := dk_4 (dk_at dksX3_isAgainst_3 0 rfl rfl)
theorem dX3_isAgainst_71 : decode cX3_isAgainst 71 = .ok (.iadd, 1) := dk_96 (dk_at dksX3_isAgainst_3 1 rfl rfl)
theorem dX3_isAgainst_72 : decode cX3_isAgainst 72 = .ok (.invokevirtual 38, 3) := dk_182 0 38 (dk_at dksX3_isAgainst_3 2 rfl rfl)
theorem dX3_isAgainst_75 : decode cX3_isAgainst 75 = .ok (.istore_n 3, 1) := dk_62 (dk_at dksX3_isAgainst_3 5 rfl rfl)
theorem dX3_isAgainst_76 : decode cX3_isAgainst 76 = .ok (.goto (-47), 3) := dk_167 255 209 (dk_at dksX3_isAgainst_3 6 rfl rfl)
theorem dX3_isAgainst_79 : decode cX3_isAgainst 79 = .ok (.iload_n 2, 1) := dk_28 (dk_at dksX3_isAgainst_3 9 rfl rfl)
theorem dX3_isAgainst_80 : decode cX3_isAgainst 80 = .ok (.aload_n 0, 1) := dk_42 (dk_at dksX3_isAgainst_3 10 rfl rfl)
theorem dX3_isAgainst_81 : decode cX3_isAgainst 81 = .ok (.getfield 17, 3) := dk_180 0 17 (dk_at dksX3_isAgainst_3 11 rfl rfl)
theorem dX3_isAgainst_84 : decode cX3_isAgainst 84 = .ok (.if_icmp .ne 15, 3) := dk_160 0 15 (dk_at dksX3_isAgainst_3 14 rfl rfl)
theorem dX3_isAgainst_87 : decode cX3_isAgainst 87 = .ok (.iload_n 3, 1) := dk_29 (dk_at dksX3_isAgainst_3 17 rfl rfl)
theorem dX3_isAgainst_88 : decode cX3_isAgainst 88 = .ok (.aload_n 1, 1) := dk_43 (dk_at dksX3_isAgainst_3 18 rfl rfl)
theorem dX3_isAgainst_89 : decode cX3_isAgainst 89 = .ok (.getfield 17, 3) := dk_180 0 17 (dk_at dksX3_isAgainst_3 19 rfl rfl)
theorem dX3_isAgainst_92 : decode cX3_isAgainst 92 = .ok (.if_icmp .ne 7, 3) := dk_160 0 7 (dk_at dksX3_isAgainst_4 0 rfl rfl)
theorem dX3_isAgainst_95 : decode cX3_isAgainst 95 = .ok (.iconst 1, 1) := dk_4 (dk_at dksX3_isAgainst_4 3 rfl rfl)
theorem dX3_isAgainst_96 : decode cX3_isAgainst 96 = .ok (.goto 4, 3) := dk_167 0 4 (dk_at dksX3_isAgainst_4 4 rfl rfl)
theorem dX3_isAgainst_99 : decode cX3_isAgainst 99 = .ok (.iconst 0, 1) := dk_3 (dk_at dksX3_isAgainst_4 7 rfl rfl)
theorem dX3_isAgainst_100 : decode cX3_isAgainst 100 = .ok (.ireturn, 1) := dk_172 (dk_at dksX3_isAgainst_4 8 rfl rfl)
def dkwX3_nevers_1 : List UInt8 := [132, 1, 1, 132, 2, 1, 167, 255, 230, 27, 172]
abbrev dktX3_nevers_1 : List UInt8 := dkwX3_nevers_1 ++ []
def dkwX3_nevers_0 : List UInt8 := [3, 60, 3, 61, 28, 42, 180, 0, 17, 162, 0, 24, 42, 180, 0, 11, 28, 50, 180, 0, 31, 153, 0, 6]
abbrev dktX3_nevers_0 : List UInt8 := dkwX3_nevers_0 ++ dktX3_nevers_1
theorem dksX3_nevers_0 : cX3_nevers.data.toList.drop 0 = dktX3_nevers_0 := by decide +kernel
theorem dksX3_nevers_1 : cX3_nevers.data.toList.drop 24 = dktX3_nevers_1 := dk_seg dksX3_nevers_0 24 rfl rfl
theorem dX3_nevers_0 : decode cX3_nevers 0 = .ok (.iconst 0, 1) := dk_3 (dk_at dksX3_nevers_0 0 rfl rfl)
theorem dX3_nevers_1 : decode cX3_nevers 1 = .ok (.istore_n 1, 1) := dk_60 (dk_at dksX3_nevers_0 1 rfl rfl)
theorem dX3_nevers_2 : decode cX3_nevers 2 = .ok (.iconst 0, 1) := dk_3 (dk_at dksX3_nevers_0 2 rfl rfl)
theorem dX3_nevers_3 : decode cX3_nevers 3 = .ok (.istore_n 2, 1) := dk_61 (dk_at dksX3_nevers_0 3 rfl rfl)
theorem dX3_nevers_4 : decode cX3_nevers 4 = .ok (.iload_n 2, 1) := dk_28 (dk_at dksX3_nevers_0 4 rfl rfl)
theorem dX3_nevers_5 : decode cX3_nevers 5 = .ok (.aload_n 0, 1) := dk_42 (dk_at dksX3_nevers_0 5 rfl rfl)
theorem dX3_nevers_6 : decode cX3_nevers 6 = .ok (.getfield 17, 3) := dk_180 0 17 (dk_at dksX3_nevers_0 6 rfl rfl)
theorem dX3_nevers_9 : decode cX3_nevers 9 = .ok (.if_icmp .ge 24, 3) := dk_162 0 24 (dk_at dksX3_nevers_0 9 rfl rfl)
theorem dX3_nevers_12 : decode cX3_nevers 12 = .ok (.aload_n 0, 1) := dk_42 (dk_at dksX3_nevers_0 12 rfl rfl)
theorem dX3_nevers_13 : decode cX3_nevers 13 = .ok (.getfield 11, 3) := dk_180 0 11 (dk_at dksX3_nevers_0 13 rfl rfl)
theorem dX3_nevers_16 : decode cX3_nevers 16 = .ok (.iload_n 2, 1) := dk_28 (dk_at dksX3_nevers_0 16 rfl rfl)
theorem dX3_nevers_17 : decode cX3_nevers 17 = .ok (.aaload, 1) := dk_50 (dk_at dksX3_nevers_0 17 rfl rfl)
theorem dX3_nevers_18 : decode cX3_nevers 18 = .ok (.getfield 31, 3) := dk_180 0 31 (dk_at dksX3_nevers_0 18 rfl rfl)
theorem dX3_nevers_21 : decode cX3_nevers 21 = .ok (.ifCond .eq 6, 3) := dk_153 0 6 (dk_at dksX3_nevers_0 21 rfl rfl)
theorem dX3_nevers_24 : decode cX3_nevers 24 = .ok (.iinc 1 1, 3) := dk_132 1 1 (dk_at dksX3_nevers_1 0 rfl rfl)
theorem dX3_nevers_27 : decode cX3_nevers 27 = .ok (.iinc 2 1, 3) := dk_132 2 1 (dk_at dksX3_nevers_1 3 rfl rfl)
theorem dX3_nevers_30 : decode cX3_nevers 30 = .ok (.goto (-26), 3) := dk_167 255 230 (dk_at dksX3_nevers_1 6 rfl rfl)
theorem dX3_nevers_33 : decode cX3_nevers 33 = .ok (.iload_n 1, 1) := dk_27 (dk_at dksX3_nevers_1 9 rfl rfl)
theorem dX3_nevers_34 : decode cX3_nevers 34 = .ok (.ireturn, 1) := dk_172 (dk_at dksX3_nevers_1 10 rfl rfl)
def dkwX3_plain_1 : List UInt8 := [132, 2, 1, 167, 255, 233, 28, 172]
abbrev dktX3_plain_1 : List UInt8 := dkwX3_plain_1 ++ []
def dkwX3_plain_0 : List UInt8 := [27, 61, 28, 42, 180, 0, 17, 162, 0, 21, 42, 180, 0, 11, 28, 50, 180, 0, 31, 153, 0, 9]
abbrev dktX3_plain_0 : List UInt8 := dkwX3_plain_0 ++ dktX3_plain_1
theorem dksX3_plain_0 : cX3_plain.data.toList.drop 0 = dktX3_plain_0 := by decide +kernel
theorem dksX3_plain_1 : cX3_plain.data.toList.drop 22 = dktX3_plain_1 := dk_seg dksX3_plain_0 22 rfl rfl
theorem dX3_plain_0 : decode cX3_plain 0 = .ok (.iload_n 1, 1) := dk_27 (dk_at dksX3_plain_0 0 rfl rfl)
theorem dX3_plain_1 : decode cX3_plain 1 = .ok (.istore_n 2, 1) := dk_61 (dk_at dksX3_plain_0 1 rfl rfl)
theorem dX3_plain_2 : decode cX3_plain 2 = .ok (.iload_n 2, 1) := dk_28 (dk_at dksX3_plain_0 2 rfl rfl)
theorem dX3_plain_3 : decode cX3_plain 3 = .ok (.aload_n 0, 1) := dk_42 (dk_at dksX3_plain_0 3 rfl rfl)
theorem dX3_plain_4 : decode cX3_plain 4 = .ok (.getfield 17, 3) := dk_180 0 17 (dk_at dksX3_plain_0 4 rfl rfl)
theorem dX3_plain_7 : decode cX3_plain 7 = .ok (.if_icmp .ge 21, 3) := dk_162 0 21 (dk_at dksX3_plain_0 7 rfl rfl)
theorem dX3_plain_10 : decode cX3_plain 10 = .ok (.aload_n 0, 1) := dk_42 (dk_at dksX3_plain_0 10 rfl rfl)
theorem dX3_plain_11 : decode cX3_plain 11 = .ok (.getfield 11, 3) := dk_180 0 11 (dk_at dksX3_plain_0 11 rfl rfl)
theorem dX3_plain_14 : decode cX3_plain 14 = .ok (.iload_n 2, 1) := dk_28 (dk_at dksX3_plain_0 14 rfl rfl)
theorem dX3_plain_15 : decode cX3_plain 15 = .ok (.aaload, 1) := dk_50 (dk_at dksX3_plain_0 15 rfl rfl)
theorem dX3_plain_16 : decode cX3_plain 16 = .ok (.getfield 31, 3) := dk_180 0 31 (dk_at dksX3_plain_0 16 rfl rfl)
theorem dX3_plain_19 : decode cX3_plain 19 = .ok (.ifCond .eq 9, 3) := dk_153 0 9 (dk_at dksX3_plain_0 19 rfl rfl)
theorem dX3_plain_22 : decode cX3_plain 22 = .ok (.iinc 2 1, 3) := dk_132 2 1 (dk_at dksX3_plain_1 0 rfl rfl)
theorem dX3_plain_25 : decode cX3_plain 25 = .ok (.goto (-23), 3) := dk_167 255 233 (dk_at dksX3_plain_1 3 rfl rfl)
theorem dX3_plain_28 : decode cX3_plain 28 = .ok (.iload_n 2, 1) := dk_28 (dk_at dksX3_plain_1 6 rfl rfl)
theorem dX3_plain_29 : decode cX3_plain 29 = .ok (.ireturn, 1) := dk_172 (dk_at dksX3_plain_1 7 rfl rfl)
def dkwX3_meaning_3 : List UInt8 := [160, 0, 8, 27, 116, 167, 0, 4, 27, 28, 100, 172]
abbrev dktX3_meaning_3 : List UInt8 := dkwX3_meaning_3 ++ []
def dkwX3_meaning_2 : List UInt8 := [180, 0, 11, 29, 50, 180, 0, 42, 96, 61, 132, 3, 1, 167, 255, 233, 42, 182, 0, 35, 5, 112, 4]
abbrev dktX3_meaning_2 : List UInt8 := dkwX3_meaning_2 ++ dktX3_meaning_3
def dkwX3_meaning_1 : List UInt8 := [96, 60, 132, 3, 1, 167, 255, 233, 42, 180, 0, 17, 62, 29, 42, 182, 0, 24, 162, 0, 21, 28, 42]
abbrev dktX3_meaning_1 : List UInt8 := dkwX3_meaning_1 ++ dktX3_meaning_2
def dkwX3_meaning_0 : List UInt8 := [3, 60, 3, 61, 3, 62, 29, 42, 180, 0, 17, 162, 0, 21, 27, 42, 180, 0, 11, 29, 50, 180, 0, 42]
abbrev dktX3_meaning_0 : List UInt8 := dkwX3_meaning_0 ++ dktX3_meaning_1
theorem dksX3_meaning_0 : cX3_meaning.data.toList.drop 0 = dktX3_meaning_0 := by decide +kernel
theorem dksX3_meaning_1 : cX3_meaning.data.toList.drop 24 = dktX3_meaning_1 := dk_seg dksX3_meaning_0 24 rfl rfl
theorem dksX3_meaning_2 : cX3_meaning.data.toList.drop 47 = dktX3_meaning_2 := dk_seg dksX3_meaning_1 23 rfl rfl
theorem dksX3_meaning_3 : cX3_meaning.data.toList.drop 70 = dktX3_meaning_3 := dk_seg dksX3_meaning_2 23 rfl rfl
theorem dX3_meaning_0 : decode cX3_meaning 0 = .ok (.iconst 0, 1) := dk_3 (dk_at dksX3_meaning_0 0 rfl rfl)
theorem dX3_meaning_1 : decode cX3_meaning 1 = .ok (.istore_n 1, 1) := dk_60 (dk_at dksX3_meaning_0 1 rfl rfl)
theorem dX3_meaning_2 : decode cX3_meaning 2 = .ok (.iconst 0, 1) := dk_3 (dk_at dksX3_meaning_0 2 rfl rfl)
theorem dX3_meaning_3 : decode cX3_meaning 3 = .ok (.istore_n 2, 1) := dk_61 (dk_at dksX3_meaning_0 3 rfl rfl)
theorem dX3_meaning_4 : decode cX3_meaning 4 = .ok (.iconst 0, 1) := dk_3 (dk_at dksX3_meaning_0 4 rfl rfl)
theorem dX3_meaning_5 : decode cX3_meaning 5 = .ok (.istore_n 3, 1) := dk_62 (dk_at dksX3_meaning_0 5 rfl rfl)
theorem dX3_meaning_6 : decode cX3_meaning 6 = .ok (.iload_n 3, 1) := dk_29 (dk_at dksX3_meaning_0 6 rfl rfl)
theorem dX3_meaning_7 : decode cX3_meaning 7 = .ok (.aload_n 0, 1) := dk_42 (dk_at dksX3_meaning_0 7 rfl rfl)
theorem dX3_meaning_8 : decode cX3_meaning 8 = .ok (.getfield 17, 3) := dk_180 0 17 (dk_at dksX3_meaning_0 8 rfl rfl)
theorem dX3_meaning_11 : decode cX3_meaning 11 = .ok (.if_icmp .ge 21, 3) := dk_162 0 21 (dk_at dksX3_meaning_0 11 rfl rfl)
theorem dX3_meaning_14 : decode cX3_meaning 14 = .ok (.iload_n 1, 1) := dk_27 (dk_at dksX3_meaning_0 14 rfl rfl)
theorem dX3_meaning_15 : decode cX3_meaning 15 = .ok (.aload_n 0, 1) := dk_42 (dk_at dksX3_meaning_0 15 rfl rfl)
theorem dX3_meaning_16 : decode cX3_meaning 16 = .ok (.getfield 11, 3) := dk_180 0 11 (dk_at dksX3_meaning_0 16 rfl rfl)
theorem dX3_meaning_19 : decode cX3_meaning 19 = .ok (.iload_n 3, 1) := dk_29 (dk_at dksX3_meaning_0 19 rfl rfl)
theorem dX3_meaning_20 : decode cX3_meaning 20 = .ok (.aaload, 1) := dk_50 (dk_at dksX3_meaning_0 20 rfl rfl)
theorem dX3_meaning_21 : decode cX3_meaning 21 = .ok (.getfield 42, 3) := dk_180 0 42 (dk_at dksX3_meaning_0 21 rfl rfl)
theorem dX3_meaning_24 : decode cX3_meaning 24 = .ok (.iadd, 1) := dk_96 (dk_at dksX3_meaning_1 0 rfl rfl)
theorem dX3_meaning_25 : decode cX3_meaning 25 = .ok (.istore_n 1, 1) := dk_60 (dk_at dksX3_meaning_1 1 rfl rfl)
theorem dX3_meaning_26 : decode cX3_meaning 26 = .ok (.iinc 3 1, 3) := dk_132 3 1 (dk_at dksX3_meaning_1 2 rfl rfl)
theorem dX3_meaning_29 : decode cX3_meaning 29 = .ok (.goto (-23), 3) := dk_167 255 233 (dk_at dksX3_meaning_1 5 rfl rfl)
theorem dX3_meaning_32 : decode cX3_meaning 32 = .ok (.aload_n 0, 1) := dk_42 (dk_at dksX3_meaning_1 8 rfl rfl)
theorem dX3_meaning_33 : decode cX3_meaning 33 = .ok (.getfield 17, 3) := dk_180 0 17 (dk_at dksX3_meaning_1 9 rfl rfl)
theorem dX3_meaning_36 : decode cX3_meaning 36 = .ok (.istore_n 3, 1) := dk_62 (dk_at dksX3_meaning_1 12 rfl rfl)
theorem dX3_meaning_37 : decode cX3_meaning 37 = .ok (.iload_n 3, 1) := dk_29 (dk_at dksX3_meaning_1 13 rfl rfl)
theorem dX3_meaning_38 : decode cX3_meaning 38 = .ok (.aload_n 0, 1) := dk_42 (dk_at dksX3_meaning_1 14 rfl rfl)
theorem dX3_meaning_39 : decode cX3_meaning 39 = .ok (.invokevirtual 24, 3) := dk_182 0 24 (dk_at dksX3_meaning_1 15 rfl rfl)
theorem dX3_meaning_42 : decode cX3_meaning 42 = .ok (.if_icmp .ge 21, 3) := dk_162 0 21 (dk_at dksX3_meaning_1 18 rfl rfl)
theorem dX3_meaning_45 : decode cX3_meaning 45 = .ok (.iload_n 2, 1) := dk_28 (dk_at dksX3_meaning_1 21 rfl rfl)
theorem dX3_meaning_46 : decode cX3_meaning 46 = .ok (.aload_n 0, 1) := dk_42 (dk_at dksX3_meaning_1 22 rfl rfl)
theorem dX3_meaning_47 : decode cX3_meaning 47 = .ok (.getfield 11, 3) := dk_180 0 11 (dk_at dksX3_meaning_2 0 rfl rfl)
theorem dX3_meaning_50 : decode cX3_meaning 50 = .ok (.iload_n 3, 1) := dk_29 (dk_at dksX3_meaning_2 3 rfl rfl)
theorem dX3_meaning_51 : decode cX3_meaning 51 = .ok (.aaload, 1) := dk_50 (dk_at dksX3_meaning_2 4 rfl rfl)
theorem dX3_meaning_52 : decode cX3_meaning 52 = .ok (.getfield 42, 3) := dk_180 0 42 (dk_at dksX3_meaning_2 5 rfl rfl)
theorem dX3_meaning_55 : decode cX3_meaning 55 = .ok (.iadd, 1) := dk_96 (dk_at dksX3_meaning_2 8 rfl rfl)
theorem dX3_meaning_56 : decode cX3_meaning 56 = .ok (.istore_n 2, 1) := dk_61 (dk_at dksX3_meaning_2 9 rfl rfl)
theorem dX3_meaning_57 : decode cX3_meaning 57 = .ok (.iinc 3 1, 3) := dk_132 3 1 (dk_at dksX3_meaning_2 10 rfl rfl)
theorem dX3_meaning_60 : decode cX3_meaning 60 = .ok (.goto (-23), 3) := dk_167 255 233 (dk_at dksX3_meaning_2 13 rfl rfl)
theorem dX3_meaning_63 : decode cX3_meaning 63 = .ok (.aload_n 0, 1) := dk_42 (dk_at dksX3_meaning_2 16 rfl rfl)
theorem dX3_meaning_64 : decode cX3_meaning 64 = .ok (.invokevirtual 35, 3) := dk_182 0 35 (dk_at dksX3_meaning_2 17 rfl rfl)
theorem dX3_meaning_67 : decode cX3_meaning 67 = .ok (.iconst 2, 1) := dk_5 (dk_at dksX3_meaning_2 20 rfl rfl)
theorem dX3_meaning_68 : decode cX3_meaning 68 = .ok (.irem, 1) := dk_112 (dk_at dksX3_meaning_2 21 rfl rfl)
theorem dX3_meaning_69 : decode cX3_meaning 69 = .ok (.iconst 1, 1) := dk_4 (dk_at dksX3_meaning_2 22 rfl rfl)
theorem dX3_meaning_70 : decode cX3_meaning 70 = .ok (.if_icmp .ne 8, 3) := dk_160 0 8 (dk_at dksX3_meaning_3 0 rfl rfl)
theorem dX3_meaning_73 : decode cX3_meaning 73 = .ok (.iload_n 1, 1) := dk_27 (dk_at dksX3_meaning_3 3 rfl rfl)
theorem dX3_meaning_74 : decode cX3_meaning 74 = .ok (.ineg, 1) := dk_116 (dk_at dksX3_meaning_3 4 rfl rfl)
theorem dX3_meaning_75 : decode cX3_meaning 75 = .ok (.goto 4, 3) := dk_167 0 4 (dk_at dksX3_meaning_3 5 rfl rfl)
theorem dX3_meaning_78 : decode cX3_meaning 78 = .ok (.iload_n 1, 1) := dk_27 (dk_at dksX3_meaning_3 8 rfl rfl)
theorem dX3_meaning_79 : decode cX3_meaning 79 = .ok (.iload_n 2, 1) := dk_28 (dk_at dksX3_meaning_3 9 rfl rfl)
theorem dX3_meaning_80 : decode cX3_meaning 80 = .ok (.isub, 1) := dk_100 (dk_at dksX3_meaning_3 10 rfl rfl)
theorem dX3_meaning_81 : decode cX3_meaning 81 = .ok (.ireturn, 1) := dk_172 (dk_at dksX3_meaning_3 11 rfl rfl)
def dkwX4_init_2 : List UInt8 := [83, 132, 2, 1, 167, 255, 233, 177]
abbrev dktX4_init_2 : List UInt8 := dkwX4_init_2 ++ []
def dkwX4_init_1 : List UInt8 := [181, 0, 23, 3, 61, 28, 16, 12, 162, 0, 23, 42, 180, 0, 17, 28, 187, 0, 15, 89, 43, 183, 0, 27]
abbrev dktX4_init_1 : List UInt8 := dkwX4_init_1 ++ dktX4_init_2
def dkwX4_init_0 : List UInt8 := [42, 43, 181, 0, 3, 42, 183, 0, 9, 42, 16, 12, 189, 0, 15, 181, 0, 17, 42, 16, 12, 189, 0, 21]
abbrev dktX4_init_0 : List UInt8 := dkwX4_init_0 ++ dktX4_init_1
theorem dksX4_init_0 : cX4_init.data.toList.drop 0 = dktX4_init_0 := by decide +kernel
theorem dksX4_init_1 : cX4_init.data.toList.drop 24 = dktX4_init_1 := dk_seg dksX4_init_0 24 rfl rfl
theorem dksX4_init_2 : cX4_init.data.toList.drop 48 = dktX4_init_2 := dk_seg dksX4_init_1 24 rfl rfl
theorem dX4_init_0 : decode cX4_init 0 = .ok (.aload_n 0, 1) := dk_42 (dk_at dksX4_init_0 0 rfl rfl)
theorem dX4_init_1 : decode cX4_init 1 = .ok (.aload_n 1, 1) := dk_43 (dk_at dksX4_init_0 1 rfl rfl)
theorem dX4_init_2 : decode cX4_init 2 = .ok (.putfield 3, 3) := dk_181 0 3 (dk_at dksX4_init_0 2 rfl rfl)
theorem dX4_init_5 : decode cX4_init 5 = .ok (.aload_n 0, 1) := dk_42 (dk_at dksX4_init_0 5 rfl rfl)
theorem dX4_init_6 : decode cX4_init 6 = .ok (.invokespecial 9, 3) := dk_183 0 9 (dk_at dksX4_init_0 6 rfl rfl)
theorem dX4_init_9 : decode cX4_init 9 = .ok (.aload_n 0, 1) := dk_42 (dk_at dksX4_init_0 9 rfl rfl)
theorem dX4_init_10 : decode cX4_init 10 = .ok (.bipush 12, 2) := dk_16 12 (dk_at dksX4_init_0 10 rfl rfl)
theorem dX4_init_12 : decode cX4_init 12 = .ok (.anewarray 15, 3) := dk_189 0 15 (dk_at dksX4_init_0 12 rfl rfl)
theorem dX4_init_15 : decode cX4_init 15 = .ok (.putfield 17, 3) := dk_181 0 17 (dk_at dksX4_init_0 15 rfl rfl)
theorem dX4_init_18 : decode cX4_init 18 = .ok (.aload_n 0, 1) := dk_42 (dk_at dksX4_init_0 18 rfl rfl)
theorem dX4_init_19 : decode cX4_init 19 = .ok (.bipush 12, 2) := dk_16 12 (dk_at dksX4_init_0 19 rfl rfl)
theorem dX4_init_21 : decode cX4_init 21 = .ok (.anewarray 21, 3) := dk_189 0 21 (dk_at dksX4_init_0 21 rfl rfl)
theorem dX4_init_24 : decode cX4_init 24 = .ok (.putfield 23, 3) := dk_181 0 23 (dk_at dksX4_init_1 0 rfl rfl)
theorem dX4_init_27 : decode cX4_init 27 = .ok (.iconst 0, 1) := dk_3 (dk_at dksX4_init_1 3 rfl rfl)
theorem dX4_init_28 : decode cX4_init 28 = .ok (.istore_n 2, 1) := dk_61 (dk_at dksX4_init_1 4 rfl rfl)
theorem dX4_init_29 : decode cX4_init 29 = .ok (.iload_n 2, 1) := dk_28 (dk_at dksX4_init_1 5 rfl rfl)
theorem dX4_init_30 : decode cX4_init 30 = .ok (.bipush 12, 2) := dk_16 12 (dk_at dksX4_init_1 6 rfl rfl)
theorem dX4_init_32 : decode cX4_init 32 = .ok (.if_icmp .ge 23, 3) := dk_162 0 23 (dk_at dksX4_init_1 8 rfl rfl)
theorem dX4_init_35 : decode cX4_init 35 = .ok (.aload_n 0, 1) := dk_42 (dk_at dksX4_init_1 11 rfl rfl)
theorem dX4_init_36 : decode cX4_init 36 = .ok (.getfield 17, 3) := dk_180 0 17 (dk_at dksX4_init_1 12 rfl rfl)
theorem dX4_init_39 : decode cX4_init 39 = .ok (.iload_n 2, 1) := dk_28 (dk_at dksX4_init_1 15 rfl rfl)
theorem dX4_init_40 : decode cX4_init 40 = .ok (.new 15, 3) := dk_187 0 15 (dk_at dksX4_init_1 16 rfl rfl)
theorem dX4_init_43 : decode cX4_init 43 = .ok (.dup, 1) := dk_89 (dk_at dksX4_init_1 19 rfl rfl)
theorem dX4_init_44 : decode cX4_init 44 = .ok (.aload_n 1, 1) := dk_43 (dk_at dksX4_init_1 20 rfl rfl)
theorem dX4_init_45 : decode cX4_init 45 = .ok (.invokespecial 27, 3) := dk_183 0 27 (dk_at dksX4_init_1 21 rfl rfl)
theorem dX4_init_48 : decode cX4_init 48 = .ok (.aastore, 1) := dk_83 (dk_at dksX4_init_2 0 rfl rfl)
theorem dX4_init_49 : decode cX4_init 49 = .ok (.iinc 2 1, 3) := dk_132 2 1 (dk_at dksX4_init_2 1 rfl rfl)
theorem dX4_init_52 : decode cX4_init 52 = .ok (.goto (-23), 3) := dk_167 255 233 (dk_at dksX4_init_2 4 rfl rfl)
theorem dX4_init_55 : decode cX4_init 55 = .ok (.return_, 1) := dk_177 (dk_at dksX4_init_2 7 rfl rfl)
def dkwX4_inOrder_3 : List UInt8 := [132, 1, 1, 167, 255, 189, 42, 176]
abbrev dktX4_inOrder_3 : List UInt8 := dkwX4_inOrder_3 ++ []
def dkwX4_inOrder_2 : List UInt8 := [153, 0, 24, 42, 42, 180, 0, 3, 180, 0, 37, 180, 0, 41, 27, 182, 0, 53, 192, 0, 21, 182, 0, 66]
abbrev dktX4_inOrder_2 : List UInt8 := dkwX4_inOrder_2 ++ dktX4_inOrder_3
def dkwX4_inOrder_1 : List UInt8 := [42, 180, 0, 3, 180, 0, 37, 180, 0, 41, 27, 182, 0, 53, 192, 0, 21, 180, 0, 57, 182, 0, 60]
abbrev dktX4_inOrder_1 : List UInt8 := dkwX4_inOrder_1 ++ dktX4_inOrder_2
def dkwX4_inOrder_0 : List UInt8 := [42, 3, 181, 0, 34, 3, 60, 27, 42, 180, 0, 3, 180, 0, 37, 180, 0, 41, 182, 0, 47, 162, 0, 56]
abbrev dktX4_inOrder_0 : List UInt8 := dkwX4_inOrder_0 ++ dktX4_inOrder_1
theorem dksX4_inOrder_0 : cX4_inOrder.data.toList.drop 0 = dktX4_inOrder_0 := by decide +kernel
theorem dksX4_inOrder_1 : cX4_inOrder.data.toList.drop 24 = dktX4_inOrder_1 := dk_seg dksX4_inOrder_0 24 rfl rfl
theorem dksX4_inOrder_2 : cX4_inOrder.data.toList.drop 47 = dktX4_inOrder_2 := dk_seg dksX4_inOrder_1 23 rfl rfl
theorem dksX4_inOrder_3 : cX4_inOrder.data.toList.drop 71 = dktX4_inOrder_3 := dk_seg dksX4_inOrder_2 24 rfl rfl
theorem dX4_inOrder_0 : decode cX4_inOrder 0 = .ok (.aload_n 0, 1) := dk_42 (dk_at dksX4_inOrder_0 0 rfl rfl)
theorem dX4_inOrder_1 : decode cX4_inOrder 1 = .ok (.iconst 0, 1) := dk_3 (dk_at dksX4_inOrder_0 1 rfl rfl)
theorem dX4_inOrder_2 : decode cX4_inOrder 2 = .ok (.putfield 34, 3) := dk_181 0 34 (dk_at dksX4_inOrder_0 2 rfl rfl)
theorem dX4_inOrder_5 : decode cX4_inOrder 5 = .ok (.iconst 0, 1) := dk_3 (dk_at dksX4_inOrder_0 5 rfl rfl)
theorem dX4_inOrder_6 : decode cX4_inOrder 6 = .ok (.istore_n 1, 1) := dk_60 (dk_at dksX4_inOrder_0 6 rfl rfl)
theorem dX4_inOrder_7 : decode cX4_inOrder 7 = .ok (.iload_n 1, 1) := dk_27 (dk_at dksX4_inOrder_0 7 rfl rfl)
theorem dX4_inOrder_8 : decode cX4_inOrder 8 = .ok (.aload_n 0, 1) := dk_42 (dk_at dksX4_inOrder_0 8 rfl rfl)
theorem dX4_inOrder_9 : decode cX4_inOrder 9 = .ok (.getfield 3, 3) := dk_180 0 3 (dk_at dksX4_inOrder_0 9 rfl rfl)
theorem dX4_inOrder_12 : decode cX4_inOrder 12 = .ok (.getfield 37, 3) := dk_180 0 37 (dk_at dksX4_inOrder_0 12 rfl rfl)
theorem dX4_inOrder_15 : decode cX4_inOrder 15 = .ok (.getfield 41, 3) := dk_180 0 41 (dk_at dksX4_inOrder_0 15 rfl rfl)
theorem dX4_inOrder_18 : decode cX4_inOrder 18 = .ok (.invokevirtual 47, 3) := dk_182 0 47 (dk_at dksX4_inOrder_0 18 rfl rfl)
theorem dX4_inOrder_21 : decode cX4_inOrder 21 = .ok (.if_icmp .ge 56, 3) := dk_162 0 56 (dk_at dksX4_inOrder_0 21 rfl rfl)
theorem dX4_inOrder_24 : decode cX4_inOrder 24 = .ok (.aload_n 0, 1) := dk_42 (dk_at dksX4_inOrder_1 0 rfl rfl)
theorem dX4_inOrder_25 : decode cX4_inOrder 25 = .ok (.getfield 3, 3) := dk_180 0 3 (dk_at dksX4_inOrder_1 1 rfl rfl)
theorem dX4_inOrder_28 : decode cX4_inOrder 28 = .ok (.getfield 37, 3) := dk_180 0 37 (dk_at dksX4_inOrder_1 4 rfl rfl)
theorem dX4_inOrder_31 : decode cX4_inOrder 31 = .ok (.getfield 41, 3) := dk_180 0 41 (dk_at dksX4_inOrder_1 7 rfl rfl)
theorem dX4_inOrder_34 : decode cX4_inOrder 34 = .ok (.iload_n 1, 1) := dk_27 (dk_at dksX4_inOrder_1 10 rfl rfl)
theorem dX4_inOrder_35 : decode cX4_inOrder 35 = .ok (.invokevirtual 53, 3) := dk_182 0 53 (dk_at dksX4_inOrder_1 11 rfl rfl)
theorem dX4_inOrder_38 : decode cX4_inOrder 38 = .ok (.checkcast 21, 3) := dk_192 0 21 (dk_at dksX4_inOrder_1 14 rfl rfl)
theorem dX4_inOrder_41 : decode cX4_inOrder 41 = .ok (.getfield 57, 3) := dk_180 0 57 (dk_at dksX4_inOrder_1 17 rfl rfl)
theorem dX4_inOrder_44 : decode cX4_inOrder 44 = .ok (.invokevirtual 60, 3) := dk_182 0 60 (dk_at dksX4_inOrder_1 20 rfl rfl)
theorem dX4_inOrder_47 : decode cX4_inOrder 47 = .ok (.ifCond .eq 24, 3) := dk_153 0 24 (dk_at dksX4_inOrder_2 0 rfl rfl)
theorem dX4_inOrder_50 : decode cX4_inOrder 50 = .ok (.aload_n 0, 1) := dk_42 (dk_at dksX4_inOrder_2 3 rfl rfl)
theorem dX4_inOrder_51 : decode cX4_inOrder 51 = .ok (.aload_n 0, 1) := dk_42 (dk_at dksX4_inOrder_2 4 rfl rfl)
theorem dX4_inOrder_52 : decode cX4_inOrder 52 = .ok (.getfield 3, 3) := dk_180 0 3 (dk_at dksX4_inOrder_2 5 rfl rfl)
theorem dX4_inOrder_55 : decode cX4_inOrder 55 = .ok (.getfield 37, 3) := dk_180 0 37 (dk_at dksX4_inOrder_2 8 rfl rfl)
theorem dX4_inOrder_58 : decode cX4_inOrder 58 = .ok (.getfield 41, 3) := dk_180 0 41 (dk_at dksX4_inOrder_2 11 rfl rfl)
theorem dX4_inOrder_61 : decode cX4_inOrder 61 = .ok (.iload_n 1, 1) := dk_27 (dk_at dksX4_inOrder_2 14 rfl rfl)
theorem dX4_inOrder_62 : decode cX4_inOrder 62 = .ok (.invokevirtual 53, 3) := dk_182 0 53 (dk_at dksX4_inOrder_2 15 rfl rfl)
theorem dX4_inOrder_65 : decode cX4_inOrder 65 = .ok (.checkcast 21, 3) := dk_192 0 21 (dk_at dksX4_inOrder_2 18 rfl rfl)
theorem dX4_inOrder_68 : decode cX4_inOrder 68 = .ok (.invokevirtual 66, 3) := dk_182 0 66 (dk_at dksX4_inOrder_2 21 rfl rfl)
theorem dX4_inOrder_71 : decode cX4_inOrder 71 = .ok (.iinc 1 1, 3) := dk_132 1 1 (dk_at dksX4_inOrder_3 0 rfl rfl)
theorem dX4_inOrder_74 : decode cX4_inOrder 74 = .ok (.goto (-67), 3) := dk_167 255 189 (dk_at dksX4_inOrder_3 3 rfl rfl)
theorem dX4_inOrder_77 : decode cX4_inOrder 77 = .ok (.aload_n 0, 1) := dk_42 (dk_at dksX4_inOrder_3 6 rfl rfl)
theorem dX4_inOrder_78 : decode cX4_inOrder 78 = .ok (.areturn, 1) := dk_176 (dk_at dksX4_inOrder_3 7 rfl rfl)
def dkwX4_comes_0 : List UInt8 := [42, 180, 0, 23, 42, 180, 0, 34, 43, 83, 42, 89, 180, 0, 34, 4, 96, 181, 0, 34, 177]
abbrev dktX4_comes_0 : List UInt8 := dkwX4_comes_0 ++ []
theorem dksX4_comes_0 : cX4_comes.data.toList.drop 0 = dktX4_comes_0 := by decide +kernel
theorem dX4_comes_0 : decode cX4_comes 0 = .ok (.aload_n 0, 1) := dk_42 (dk_at dksX4_comes_0 0 rfl rfl)
theorem dX4_comes_1 : decode cX4_comes 1 = .ok (.getfield 23, 3) := dk_180 0 23 (dk_at dksX4_comes_0 1 rfl rfl)
theorem dX4_comes_4 : decode cX4_comes 4 = .ok (.aload_n 0, 1) := dk_42 (dk_at dksX4_comes_0 4 rfl rfl)
theorem dX4_comes_5 : decode cX4_comes 5 = .ok (.getfield 34, 3) := dk_180 0 34 (dk_at dksX4_comes_0 5 rfl rfl)
theorem dX4_comes_8 : decode cX4_comes 8 = .ok (.aload_n 1, 1) := dk_43 (dk_at dksX4_comes_0 8 rfl rfl)
theorem dX4_comes_9 : decode cX4_comes 9 = .ok (.aastore, 1) := dk_83 (dk_at dksX4_comes_0 9 rfl rfl)
theorem dX4_comes_10 : decode cX4_comes 10 = .ok (.aload_n 0, 1) := dk_42 (dk_at dksX4_comes_0 10 rfl rfl)
theorem dX4_comes_11 : decode cX4_comes 11 = .ok (.dup, 1) := dk_89 (dk_at dksX4_comes_0 11 rfl rfl)
theorem dX4_comes_12 : decode cX4_comes 12 = .ok (.getfield 34, 3) := dk_180 0 34 (dk_at dksX4_comes_0 12 rfl rfl)
theorem dX4_comes_15 : decode cX4_comes 15 = .ok (.iconst 1, 1) := dk_4 (dk_at dksX4_comes_0 15 rfl rfl)
theorem dX4_comes_16 : decode cX4_comes 16 = .ok (.iadd, 1) := dk_96 (dk_at dksX4_comes_0 16 rfl rfl)
theorem dX4_comes_17 : decode cX4_comes 17 = .ok (.putfield 34, 3) := dk_181 0 34 (dk_at dksX4_comes_0 17 rfl rfl)
theorem dX4_comes_20 : decode cX4_comes 20 = .ok (.return_, 1) := dk_177 (dk_at dksX4_comes_0 20 rfl rfl)
def dkwX4_saidBy_3 : List UInt8 := [132, 2, 1, 42, 25, 4, 29, 182, 0, 87, 132, 3, 1, 167, 255, 178, 42, 176]
abbrev dktX4_saidBy_3 : List UInt8 := dkwX4_saidBy_3 ++ []
def dkwX4_saidBy_2 : List UInt8 := [25, 4, 43, 42, 180, 0, 23, 29, 50, 182, 0, 81, 180, 0, 84, 6, 160, 0, 6, 167, 0, 13]
abbrev dktX4_saidBy_2 : List UInt8 := dkwX4_saidBy_2 ++ dktX4_saidBy_3
def dkwX4_saidBy_1 : List UInt8 := [28, 42, 180, 0, 3, 180, 0, 37, 180, 0, 74, 160, 0, 12, 25, 4, 182, 0, 77, 87, 167, 0, 35]
abbrev dktX4_saidBy_1 : List UInt8 := dkwX4_saidBy_1 ++ dktX4_saidBy_2
def dkwX4_saidBy_0 : List UInt8 := [3, 61, 3, 62, 29, 42, 180, 0, 34, 162, 0, 76, 42, 42, 180, 0, 23, 29, 50, 182, 0, 70, 58, 4]
abbrev dktX4_saidBy_0 : List UInt8 := dkwX4_saidBy_0 ++ dktX4_saidBy_1
theorem dksX4_saidBy_0 : cX4_saidBy.data.toList.drop 0 = dktX4_saidBy_0 := by decide +kernel
theorem dksX4_saidBy_1 : cX4_saidBy.data.toList.drop 24 = dktX4_saidBy_1 := dk_seg dksX4_saidBy_0 24 rfl rfl
theorem dksX4_saidBy_2 : cX4_saidBy.data.toList.drop 47 = dktX4_saidBy_2 := dk_seg dksX4_saidBy_1 23 rfl rfl
theorem dksX4_saidBy_3 : cX4_saidBy.data.toList.drop 69 = dktX4_saidBy_3 := dk_seg dksX4_saidBy_2 22 rfl rfl
theorem dX4_saidBy_0 : decode cX4_saidBy 0 = .ok (.iconst 0, 1) := dk_3 (dk_at dksX4_saidBy_0 0 rfl rfl)
theorem dX4_saidBy_1 : decode cX4_saidBy 1 = .ok (.istore_n 2, 1) := dk_61 (dk_at dksX4_saidBy_0 1 rfl rfl)
theorem dX4_saidBy_2 : decode cX4_saidBy 2 = .ok (.iconst 0, 1) := dk_3 (dk_at dksX4_saidBy_0 2 rfl rfl)
theorem dX4_saidBy_3 : decode cX4_saidBy 3 = .ok (.istore_n 3, 1) := dk_62 (dk_at dksX4_saidBy_0 3 rfl rfl)
theorem dX4_saidBy_4 : decode cX4_saidBy 4 = .ok (.iload_n 3, 1) := dk_29 (dk_at dksX4_saidBy_0 4 rfl rfl)
theorem dX4_saidBy_5 : decode cX4_saidBy 5 = .ok (.aload_n 0, 1) := dk_42 (dk_at dksX4_saidBy_0 5 rfl rfl)
theorem dX4_saidBy_6 : decode cX4_saidBy 6 = .ok (.getfield 34, 3) := dk_180 0 34 (dk_at dksX4_saidBy_0 6 rfl rfl)
theorem dX4_saidBy_9 : decode cX4_saidBy 9 = .ok (.if_icmp .ge 76, 3) := dk_162 0 76 (dk_at dksX4_saidBy_0 9 rfl rfl)
theorem dX4_saidBy_12 : decode cX4_saidBy 12 = .ok (.aload_n 0, 1) := dk_42 (dk_at dksX4_saidBy_0 12 rfl rfl)
theorem dX4_saidBy_13 : decode cX4_saidBy 13 = .ok (.aload_n 0, 1) := dk_42 (dk_at dksX4_saidBy_0 13 rfl rfl)
theorem dX4_saidBy_14 : decode cX4_saidBy 14 = .ok (.getfield 23, 3) := dk_180 0 23 (dk_at dksX4_saidBy_0 14 rfl rfl)
theorem dX4_saidBy_17 : decode cX4_saidBy 17 = .ok (.iload_n 3, 1) := dk_29 (dk_at dksX4_saidBy_0 17 rfl rfl)
theorem dX4_saidBy_18 : decode cX4_saidBy 18 = .ok (.aaload, 1) := dk_50 (dk_at dksX4_saidBy_0 18 rfl rfl)
theorem dX4_saidBy_19 : decode cX4_saidBy 19 = .ok (.invokevirtual 70, 3) := dk_182 0 70 (dk_at dksX4_saidBy_0 19 rfl rfl)
theorem dX4_saidBy_22 : decode cX4_saidBy 22 = .ok (.astore 4, 2) := dk_58 4 (dk_at dksX4_saidBy_0 22 rfl rfl)
theorem dX4_saidBy_24 : decode cX4_saidBy 24 = .ok (.iload_n 2, 1) := dk_28 (dk_at dksX4_saidBy_1 0 rfl rfl)
theorem dX4_saidBy_25 : decode cX4_saidBy 25 = .ok (.aload_n 0, 1) := dk_42 (dk_at dksX4_saidBy_1 1 rfl rfl)
theorem dX4_saidBy_26 : decode cX4_saidBy 26 = .ok (.getfield 3, 3) := dk_180 0 3 (dk_at dksX4_saidBy_1 2 rfl rfl)
theorem dX4_saidBy_29 : decode cX4_saidBy 29 = .ok (.getfield 37, 3) := dk_180 0 37 (dk_at dksX4_saidBy_1 5 rfl rfl)
theorem dX4_saidBy_32 : decode cX4_saidBy 32 = .ok (.getfield 74, 3) := dk_180 0 74 (dk_at dksX4_saidBy_1 8 rfl rfl)
theorem dX4_saidBy_35 : decode cX4_saidBy 35 = .ok (.if_icmp .ne 12, 3) := dk_160 0 12 (dk_at dksX4_saidBy_1 11 rfl rfl)
theorem dX4_saidBy_38 : decode cX4_saidBy 38 = .ok (.aload 4, 2) := dk_25 4 (dk_at dksX4_saidBy_1 14 rfl rfl)
theorem dX4_saidBy_40 : decode cX4_saidBy 40 = .ok (.invokevirtual 77, 3) := dk_182 0 77 (dk_at dksX4_saidBy_1 16 rfl rfl)
theorem dX4_saidBy_43 : decode cX4_saidBy 43 = .ok (.pop, 1) := dk_87 (dk_at dksX4_saidBy_1 19 rfl rfl)
theorem dX4_saidBy_44 : decode cX4_saidBy 44 = .ok (.goto 35, 3) := dk_167 0 35 (dk_at dksX4_saidBy_1 20 rfl rfl)
theorem dX4_saidBy_47 : decode cX4_saidBy 47 = .ok (.aload 4, 2) := dk_25 4 (dk_at dksX4_saidBy_2 0 rfl rfl)
theorem dX4_saidBy_49 : decode cX4_saidBy 49 = .ok (.aload_n 1, 1) := dk_43 (dk_at dksX4_saidBy_2 2 rfl rfl)
theorem dX4_saidBy_50 : decode cX4_saidBy 50 = .ok (.aload_n 0, 1) := dk_42 (dk_at dksX4_saidBy_2 3 rfl rfl)
theorem dX4_saidBy_51 : decode cX4_saidBy 51 = .ok (.getfield 23, 3) := dk_180 0 23 (dk_at dksX4_saidBy_2 4 rfl rfl)
theorem dX4_saidBy_54 : decode cX4_saidBy 54 = .ok (.iload_n 3, 1) := dk_29 (dk_at dksX4_saidBy_2 7 rfl rfl)
theorem dX4_saidBy_55 : decode cX4_saidBy 55 = .ok (.aaload, 1) := dk_50 (dk_at dksX4_saidBy_2 8 rfl rfl)
theorem dX4_saidBy_56 : decode cX4_saidBy 56 = .ok (.invokevirtual 81, 3) := dk_182 0 81 (dk_at dksX4_saidBy_2 9 rfl rfl)
theorem dX4_saidBy_59 : decode cX4_saidBy 59 = .ok (.getfield 84, 3) := dk_180 0 84 (dk_at dksX4_saidBy_2 12 rfl rfl)
theorem dX4_saidBy_62 : decode cX4_saidBy 62 = .ok (.iconst 3, 1) := dk_6 (dk_at dksX4_saidBy_2 15 rfl rfl)
theorem dX4_saidBy_63 : decode cX4_saidBy 63 = .ok (.if_icmp .ne 6, 3) := dk_160 0 6 (dk_at dksX4_saidBy_2 16 rfl rfl)
theorem dX4_saidBy_66 : decode cX4_saidBy 66 = .ok (.goto 13, 3) := dk_167 0 13 (dk_at dksX4_saidBy_2 19 rfl rfl)
theorem dX4_saidBy_69 : decode cX4_saidBy 69 = .ok (.iinc 2 1, 3) := dk_132 2 1 (dk_at dksX4_saidBy_3 0 rfl rfl)
theorem dX4_saidBy_72 : decode cX4_saidBy 72 = .ok (.aload_n 0, 1) := dk_42 (dk_at dksX4_saidBy_3 3 rfl rfl)
theorem dX4_saidBy_73 : decode cX4_saidBy 73 = .ok (.aload 4, 2) := dk_25 4 (dk_at dksX4_saidBy_3 4 rfl rfl)
theorem dX4_saidBy_75 : decode cX4_saidBy 75 = .ok (.iload_n 3, 1) := dk_29 (dk_at dksX4_saidBy_3 6 rfl rfl)
theorem dX4_saidBy_76 : decode cX4_saidBy 76 = .ok (.invokevirtual 87, 3) := dk_182 0 87 (dk_at dksX4_saidBy_3 7 rfl rfl)
theorem dX4_saidBy_79 : decode cX4_saidBy 79 = .ok (.iinc 3 1, 3) := dk_132 3 1 (dk_at dksX4_saidBy_3 10 rfl rfl)
theorem dX4_saidBy_82 : decode cX4_saidBy 82 = .ok (.goto (-78), 3) := dk_167 255 178 (dk_at dksX4_saidBy_3 13 rfl rfl)
theorem dX4_saidBy_85 : decode cX4_saidBy 85 = .ok (.aload_n 0, 1) := dk_42 (dk_at dksX4_saidBy_3 16 rfl rfl)
theorem dX4_saidBy_86 : decode cX4_saidBy 86 = .ok (.areturn, 1) := dk_176 (dk_at dksX4_saidBy_3 17 rfl rfl)
def dkwX4_of_0 : List UInt8 := [42, 180, 0, 17, 43, 180, 0, 30, 50, 176]
abbrev dktX4_of_0 : List UInt8 := dkwX4_of_0 ++ []
theorem dksX4_of_0 : cX4_of.data.toList.drop 0 = dktX4_of_0 := by decide +kernel
theorem dX4_of_0 : decode cX4_of 0 = .ok (.aload_n 0, 1) := dk_42 (dk_at dksX4_of_0 0 rfl rfl)
theorem dX4_of_1 : decode cX4_of 1 = .ok (.getfield 17, 3) := dk_180 0 17 (dk_at dksX4_of_0 1 rfl rfl)
theorem dX4_of_4 : decode cX4_of 4 = .ok (.aload_n 1, 1) := dk_43 (dk_at dksX4_of_0 4 rfl rfl)
theorem dX4_of_5 : decode cX4_of 5 = .ok (.getfield 30, 3) := dk_180 0 30 (dk_at dksX4_of_0 5 rfl rfl)
theorem dX4_of_8 : decode cX4_of 8 = .ok (.aaload, 1) := dk_50 (dk_at dksX4_of_0 8 rfl rfl)
theorem dX4_of_9 : decode cX4_of 9 = .ok (.areturn, 1) := dk_176 (dk_at dksX4_of_0 9 rfl rfl)
def dkwX4_runs_3 : List UInt8 := [177]
abbrev dktX4_runs_3 : List UInt8 := dkwX4_runs_3 ++ []
def dkwX4_runs_2 : List UInt8 := [180, 0, 91, 25, 4, 180, 0, 91, 182, 0, 96, 87, 43, 7, 181, 0, 84, 177, 132, 3, 1, 167, 255, 190]
abbrev dktX4_runs_2 : List UInt8 := dkwX4_runs_2 ++ dktX4_runs_3
def dkwX4_runs_1 : List UInt8 := [6, 159, 0, 40, 25, 4, 180, 0, 91, 43, 180, 0, 91, 182, 0, 92, 154, 0, 6, 167, 0, 22, 43]
abbrev dktX4_runs_1 : List UInt8 := dkwX4_runs_1 ++ dktX4_runs_2
def dkwX4_runs_0 : List UInt8 := [3, 62, 29, 28, 162, 0, 67, 42, 42, 180, 0, 23, 29, 50, 182, 0, 70, 58, 4, 25, 4, 180, 0, 84]
abbrev dktX4_runs_0 : List UInt8 := dkwX4_runs_0 ++ dktX4_runs_1
theorem dksX4_runs_0 : cX4_runs.data.toList.drop 0 = dktX4_runs_0 := by decide +kernel
theorem dksX4_runs_1 : cX4_runs.data.toList.drop 24 = dktX4_runs_1 := dk_seg dksX4_runs_0 24 rfl rfl
theorem dksX4_runs_2 : cX4_runs.data.toList.drop 47 = dktX4_runs_2 := dk_seg dksX4_runs_1 23 rfl rfl
theorem dksX4_runs_3 : cX4_runs.data.toList.drop 71 = dktX4_runs_3 := dk_seg dksX4_runs_2 24 rfl rfl
theorem dX4_runs_0 : decode cX4_runs 0 = .ok (.iconst 0, 1) := dk_3 (dk_at dksX4_runs_0 0 rfl rfl)
theorem dX4_runs_1 : decode cX4_runs 1 = .ok (.istore_n 3, 1) := dk_62 (dk_at dksX4_runs_0 1 rfl rfl)
theorem dX4_runs_2 : decode cX4_runs 2 = .ok (.iload_n 3, 1) := dk_29 (dk_at dksX4_runs_0 2 rfl rfl)
theorem dX4_runs_3 : decode cX4_runs 3 = .ok (.iload_n 2, 1) := dk_28 (dk_at dksX4_runs_0 3 rfl rfl)
theorem dX4_runs_4 : decode cX4_runs 4 = .ok (.if_icmp .ge 67, 3) := dk_162 0 67 (dk_at dksX4_runs_0 4 rfl rfl)
theorem dX4_runs_7 : decode cX4_runs 7 = .ok (.aload_n 0, 1) := dk_42 (dk_at dksX4_runs_0 7 rfl rfl)
theorem dX4_runs_8 : decode cX4_runs 8 = .ok (.aload_n 0, 1) := dk_42 (dk_at dksX4_runs_0 8 rfl rfl)
theorem dX4_runs_9 : decode cX4_runs 9 = .ok (.getfield 23, 3) := dk_180 0 23 (dk_at dksX4_runs_0 9 rfl rfl)
theorem dX4_runs_12 : decode cX4_runs 12 = .ok (.iload_n 3, 1) := dk_29 (dk_at dksX4_runs_0 12 rfl rfl)
theorem dX4_runs_13 : decode cX4_runs 13 = .ok (.aaload, 1) := dk_50 (dk_at dksX4_runs_0 13 rfl rfl)
theorem dX4_runs_14 : decode cX4_runs 14 = .ok (.invokevirtual 70, 3) := dk_182 0 70 (dk_at dksX4_runs_0 14 rfl rfl)
theorem dX4_runs_17 : decode cX4_runs 17 = .ok (.astore 4, 2) := dk_58 4 (dk_at dksX4_runs_0 17 rfl rfl)
theorem dX4_runs_19 : decode cX4_runs 19 = .ok (.aload 4, 2) := dk_25 4 (dk_at dksX4_runs_0 19 rfl rfl)
theorem dX4_runs_21 : decode cX4_runs 21 = .ok (.getfield 84, 3) := dk_180 0 84 (dk_at dksX4_runs_0 21 rfl rfl)
theorem dX4_runs_24 : decode cX4_runs 24 = .ok (.iconst 3, 1) := dk_6 (dk_at dksX4_runs_1 0 rfl rfl)
theorem dX4_runs_25 : decode cX4_runs 25 = .ok (.if_icmp .eq 40, 3) := dk_159 0 40 (dk_at dksX4_runs_1 1 rfl rfl)
theorem dX4_runs_28 : decode cX4_runs 28 = .ok (.aload 4, 2) := dk_25 4 (dk_at dksX4_runs_1 4 rfl rfl)
theorem dX4_runs_30 : decode cX4_runs 30 = .ok (.getfield 91, 3) := dk_180 0 91 (dk_at dksX4_runs_1 6 rfl rfl)
theorem dX4_runs_33 : decode cX4_runs 33 = .ok (.aload_n 1, 1) := dk_43 (dk_at dksX4_runs_1 9 rfl rfl)
theorem dX4_runs_34 : decode cX4_runs 34 = .ok (.getfield 91, 3) := dk_180 0 91 (dk_at dksX4_runs_1 10 rfl rfl)
theorem dX4_runs_37 : decode cX4_runs 37 = .ok (.invokevirtual 92, 3) := dk_182 0 92 (dk_at dksX4_runs_1 13 rfl rfl)
theorem dX4_runs_40 : decode cX4_runs 40 = .ok (.ifCond .ne 6, 3) := dk_154 0 6 (dk_at dksX4_runs_1 16 rfl rfl)
theorem dX4_runs_43 : decode cX4_runs 43 = .ok (.goto 22, 3) := dk_167 0 22 (dk_at dksX4_runs_1 19 rfl rfl)
theorem dX4_runs_46 : decode cX4_runs 46 = .ok (.aload_n 1, 1) := dk_43 (dk_at dksX4_runs_1 22 rfl rfl)
theorem dX4_runs_47 : decode cX4_runs 47 = .ok (.getfield 91, 3) := dk_180 0 91 (dk_at dksX4_runs_2 0 rfl rfl)
theorem dX4_runs_50 : decode cX4_runs 50 = .ok (.aload 4, 2) := dk_25 4 (dk_at dksX4_runs_2 3 rfl rfl)
theorem dX4_runs_52 : decode cX4_runs 52 = .ok (.getfield 91, 3) := dk_180 0 91 (dk_at dksX4_runs_2 5 rfl rfl)
theorem dX4_runs_55 : decode cX4_runs 55 = .ok (.invokevirtual 96, 3) := dk_182 0 96 (dk_at dksX4_runs_2 8 rfl rfl)
theorem dX4_runs_58 : decode cX4_runs 58 = .ok (.pop, 1) := dk_87 (dk_at dksX4_runs_2 11 rfl rfl)
theorem dX4_runs_59 : decode cX4_runs 59 = .ok (.aload_n 1, 1) := dk_43 (dk_at dksX4_runs_2 12 rfl rfl)
theorem dX4_runs_60 : decode cX4_runs 60 = .ok (.iconst 4, 1) := dk_7 (dk_at dksX4_runs_2 13 rfl rfl)
theorem dX4_runs_61 : decode cX4_runs 61 = .ok (.putfield 84, 3) := dk_181 0 84 (dk_at dksX4_runs_2 14 rfl rfl)
theorem dX4_runs_64 : decode cX4_runs 64 = .ok (.return_, 1) := dk_177 (dk_at dksX4_runs_2 17 rfl rfl)
theorem dX4_runs_65 : decode cX4_runs 65 = .ok (.iinc 3 1, 3) := dk_132 3 1 (dk_at dksX4_runs_2 18 rfl rfl)
theorem dX4_runs_68 : decode cX4_runs 68 = .ok (.goto (-66), 3) := dk_167 255 190 (dk_at dksX4_runs_2 21 rfl rfl)
theorem dX4_runs_71 : decode cX4_runs 71 = .ok (.return_, 1) := dk_177 (dk_at dksX4_runs_3 0 rfl rfl)
def dkwX4_kinds_1 : List UInt8 := [180, 0, 84, 27, 160, 0, 6, 132, 2, 1, 132, 3, 1, 167, 255, 225, 28, 172]
abbrev dktX4_kinds_1 : List UInt8 := dkwX4_kinds_1 ++ []
def dkwX4_kinds_0 : List UInt8 := [3, 61, 3, 62, 29, 42, 180, 0, 34, 162, 0, 29, 42, 42, 180, 0, 23, 29, 50, 182, 0, 70]
abbrev dktX4_kinds_0 : List UInt8 := dkwX4_kinds_0 ++ dktX4_kinds_1
theorem dksX4_kinds_0 : cX4_kinds.data.toList.drop 0 = dktX4_kinds_0 := by decide +kernel
theorem dksX4_kinds_1 : cX4_kinds.data.toList.drop 22 = dktX4_kinds_1 := dk_seg dksX4_kinds_0 22 rfl rfl
theorem dX4_kinds_0 : decode cX4_kinds 0 = .ok (.iconst 0, 1) := dk_3 (dk_at dksX4_kinds_0 0 rfl rfl)
theorem dX4_kinds_1 : decode cX4_kinds 1 = .ok (.istore_n 2, 1) := dk_61 (dk_at dksX4_kinds_0 1 rfl rfl)
theorem dX4_kinds_2 : decode cX4_kinds 2 = .ok (.iconst 0, 1) := dk_3 (dk_at dksX4_kinds_0 2 rfl rfl)
theorem dX4_kinds_3 : decode cX4_kinds 3 = .ok (.istore_n 3, 1) := dk_62 (dk_at dksX4_kinds_0 3 rfl rfl)
theorem dX4_kinds_4 : decode cX4_kinds 4 = .ok (.iload_n 3, 1) := dk_29 (dk_at dksX4_kinds_0 4 rfl rfl)
theorem dX4_kinds_5 : decode cX4_kinds 5 = .ok (.aload_n 0, 1) := dk_42 (dk_at dksX4_kinds_0 5 rfl rfl)
theorem dX4_kinds_6 : decode cX4_kinds 6 = .ok (.getfield 34, 3) := dk_180 0 34 (dk_at dksX4_kinds_0 6 rfl rfl)
theorem dX4_kinds_9 : decode cX4_kinds 9 = .ok (.if_icmp .ge 29, 3) := dk_162 0 29 (dk_at dksX4_kinds_0 9 rfl rfl)
theorem dX4_kinds_12 : decode cX4_kinds 12 = .ok (.aload_n 0, 1) := dk_42 (dk_at dksX4_kinds_0 12 rfl rfl)
theorem dX4_kinds_13 : decode cX4_kinds 13 = .ok (.aload_n 0, 1) := dk_42 (dk_at dksX4_kinds_0 13 rfl rfl)
theorem dX4_kinds_14 : decode cX4_kinds 14 = .ok (.getfield 23, 3) := dk_180 0 23 (dk_at dksX4_kinds_0 14 rfl rfl)
theorem dX4_kinds_17 : decode cX4_kinds 17 = .ok (.iload_n 3, 1) := dk_29 (dk_at dksX4_kinds_0 17 rfl rfl)
theorem dX4_kinds_18 : decode cX4_kinds 18 = .ok (.aaload, 1) := dk_50 (dk_at dksX4_kinds_0 18 rfl rfl)
theorem dX4_kinds_19 : decode cX4_kinds 19 = .ok (.invokevirtual 70, 3) := dk_182 0 70 (dk_at dksX4_kinds_0 19 rfl rfl)
theorem dX4_kinds_22 : decode cX4_kinds 22 = .ok (.getfield 84, 3) := dk_180 0 84 (dk_at dksX4_kinds_1 0 rfl rfl)
theorem dX4_kinds_25 : decode cX4_kinds 25 = .ok (.iload_n 1, 1) := dk_27 (dk_at dksX4_kinds_1 3 rfl rfl)
theorem dX4_kinds_26 : decode cX4_kinds 26 = .ok (.if_icmp .ne 6, 3) := dk_160 0 6 (dk_at dksX4_kinds_1 4 rfl rfl)
theorem dX4_kinds_29 : decode cX4_kinds 29 = .ok (.iinc 2 1, 3) := dk_132 2 1 (dk_at dksX4_kinds_1 7 rfl rfl)
theorem dX4_kinds_32 : decode cX4_kinds 32 = .ok (.iinc 3 1, 3) := dk_132 3 1 (dk_at dksX4_kinds_1 10 rfl rfl)
theorem dX4_kinds_35 : decode cX4_kinds 35 = .ok (.goto (-31), 3) := dk_167 255 225 (dk_at dksX4_kinds_1 13 rfl rfl)
theorem dX4_kinds_38 : decode cX4_kinds 38 = .ok (.iload_n 2, 1) := dk_28 (dk_at dksX4_kinds_1 16 rfl rfl)
theorem dX4_kinds_39 : decode cX4_kinds 39 = .ok (.ireturn, 1) := dk_172 (dk_at dksX4_kinds_1 17 rfl rfl)
def dkwX4_swaps_1 : List UInt8 := [45, 83, 177]
abbrev dktX4_swaps_1 : List UInt8 := dkwX4_swaps_1 ++ []
def dkwX4_swaps_0 : List UInt8 := [42, 180, 0, 23, 27, 50, 78, 42, 180, 0, 23, 27, 42, 180, 0, 23, 28, 50, 83, 42, 180, 0, 23, 28]
abbrev dktX4_swaps_0 : List UInt8 := dkwX4_swaps_0 ++ dktX4_swaps_1
theorem dksX4_swaps_0 : cX4_swaps.data.toList.drop 0 = dktX4_swaps_0 := by decide +kernel
theorem dksX4_swaps_1 : cX4_swaps.data.toList.drop 24 = dktX4_swaps_1 := dk_seg dksX4_swaps_0 24 rfl rfl
theorem dX4_swaps_0 : decode cX4_swaps 0 = .ok (.aload_n 0, 1) := dk_42 (dk_at dksX4_swaps_0 0 rfl rfl)
theorem dX4_swaps_1 : decode cX4_swaps 1 = .ok (.getfield 23, 3) := dk_180 0 23 (dk_at dksX4_swaps_0 1 rfl rfl)
theorem dX4_swaps_4 : decode cX4_swaps 4 = .ok (.iload_n 1, 1) := dk_27 (dk_at dksX4_swaps_0 4 rfl rfl)
theorem dX4_swaps_5 : decode cX4_swaps 5 = .ok (.aaload, 1) := dk_50 (dk_at dksX4_swaps_0 5 rfl rfl)
theorem dX4_swaps_6 : decode cX4_swaps 6 = .ok (.astore_n 3, 1) := dk_78 (dk_at dksX4_swaps_0 6 rfl rfl)
theorem dX4_swaps_7 : decode cX4_swaps 7 = .ok (.aload_n 0, 1) := dk_42 (dk_at dksX4_swaps_0 7 rfl rfl)
theorem dX4_swaps_8 : decode cX4_swaps 8 = .ok (.getfield 23, 3) := dk_180 0 23 (dk_at dksX4_swaps_0 8 rfl rfl)
theorem dX4_swaps_11 : decode cX4_swaps 11 = .ok (.iload_n 1, 1) := dk_27 (dk_at dksX4_swaps_0 11 rfl rfl)
theorem dX4_swaps_12 : decode cX4_swaps 12 = .ok (.aload_n 0, 1) := dk_42 (dk_at dksX4_swaps_0 12 rfl rfl)
theorem dX4_swaps_13 : decode cX4_swaps 13 = .ok (.getfield 23, 3) := dk_180 0 23 (dk_at dksX4_swaps_0 13 rfl rfl)
theorem dX4_swaps_16 : decode cX4_swaps 16 = .ok (.iload_n 2, 1) := dk_28 (dk_at dksX4_swaps_0 16 rfl rfl)
theorem dX4_swaps_17 : decode cX4_swaps 17 = .ok (.aaload, 1) := dk_50 (dk_at dksX4_swaps_0 17 rfl rfl)
theorem dX4_swaps_18 : decode cX4_swaps 18 = .ok (.aastore, 1) := dk_83 (dk_at dksX4_swaps_0 18 rfl rfl)
theorem dX4_swaps_19 : decode cX4_swaps 19 = .ok (.aload_n 0, 1) := dk_42 (dk_at dksX4_swaps_0 19 rfl rfl)
theorem dX4_swaps_20 : decode cX4_swaps 20 = .ok (.getfield 23, 3) := dk_180 0 23 (dk_at dksX4_swaps_0 20 rfl rfl)
theorem dX4_swaps_23 : decode cX4_swaps 23 = .ok (.iload_n 2, 1) := dk_28 (dk_at dksX4_swaps_0 23 rfl rfl)
theorem dX4_swaps_24 : decode cX4_swaps 24 = .ok (.aload_n 3, 1) := dk_45 (dk_at dksX4_swaps_1 0 rfl rfl)
theorem dX4_swaps_25 : decode cX4_swaps 25 = .ok (.aastore, 1) := dk_83 (dk_at dksX4_swaps_1 1 rfl rfl)
theorem dX4_swaps_26 : decode cX4_swaps 26 = .ok (.return_, 1) := dk_177 (dk_at dksX4_swaps_1 2 rfl rfl)
def dkwX5_init_2 : List UInt8 := [187, 0, 15, 89, 43, 183, 0, 28, 83, 132, 2, 1, 167, 255, 233, 177]
abbrev dktX5_init_2 : List UInt8 := dkwX5_init_2 ++ []
def dkwX5_init_1 : List UInt8 := [181, 0, 21, 42, 16, 10, 188, 10, 181, 0, 25, 3, 61, 28, 16, 10, 162, 0, 23, 42, 180, 0, 17, 28]
abbrev dktX5_init_1 : List UInt8 := dkwX5_init_1 ++ dktX5_init_2
def dkwX5_init_0 : List UInt8 := [42, 43, 181, 0, 3, 42, 183, 0, 9, 42, 16, 10, 189, 0, 15, 181, 0, 17, 42, 16, 10, 188, 10]
abbrev dktX5_init_0 : List UInt8 := dkwX5_init_0 ++ dktX5_init_1
theorem dksX5_init_0 : cX5_init.data.toList.drop 0 = dktX5_init_0 := by decide +kernel
theorem dksX5_init_1 : cX5_init.data.toList.drop 23 = dktX5_init_1 := dk_seg dksX5_init_0 23 rfl rfl
theorem dksX5_init_2 : cX5_init.data.toList.drop 47 = dktX5_init_2 := dk_seg dksX5_init_1 24 rfl rfl
theorem dX5_init_0 : decode cX5_init 0 = .ok (.aload_n 0, 1) := dk_42 (dk_at dksX5_init_0 0 rfl rfl)
theorem dX5_init_1 : decode cX5_init 1 = .ok (.aload_n 1, 1) := dk_43 (dk_at dksX5_init_0 1 rfl rfl)
theorem dX5_init_2 : decode cX5_init 2 = .ok (.putfield 3, 3) := dk_181 0 3 (dk_at dksX5_init_0 2 rfl rfl)
theorem dX5_init_5 : decode cX5_init 5 = .ok (.aload_n 0, 1) := dk_42 (dk_at dksX5_init_0 5 rfl rfl)
theorem dX5_init_6 : decode cX5_init 6 = .ok (.invokespecial 9, 3) := dk_183 0 9 (dk_at dksX5_init_0 6 rfl rfl)
theorem dX5_init_9 : decode cX5_init 9 = .ok (.aload_n 0, 1) := dk_42 (dk_at dksX5_init_0 9 rfl rfl)
theorem dX5_init_10 : decode cX5_init 10 = .ok (.bipush 10, 2) := dk_16 10 (dk_at dksX5_init_0 10 rfl rfl)
theorem dX5_init_12 : decode cX5_init 12 = .ok (.anewarray 15, 3) := dk_189 0 15 (dk_at dksX5_init_0 12 rfl rfl)
theorem dX5_init_15 : decode cX5_init 15 = .ok (.putfield 17, 3) := dk_181 0 17 (dk_at dksX5_init_0 15 rfl rfl)
theorem dX5_init_18 : decode cX5_init 18 = .ok (.aload_n 0, 1) := dk_42 (dk_at dksX5_init_0 18 rfl rfl)
theorem dX5_init_19 : decode cX5_init 19 = .ok (.bipush 10, 2) := dk_16 10 (dk_at dksX5_init_0 19 rfl rfl)
theorem dX5_init_21 : decode cX5_init 21 = .ok (.newarray .int, 2) := dk_188_10 (dk_at dksX5_init_0 21 rfl rfl)
theorem dX5_init_23 : decode cX5_init 23 = .ok (.putfield 21, 3) := dk_181 0 21 (dk_at dksX5_init_1 0 rfl rfl)
theorem dX5_init_26 : decode cX5_init 26 = .ok (.aload_n 0, 1) := dk_42 (dk_at dksX5_init_1 3 rfl rfl)
theorem dX5_init_27 : decode cX5_init 27 = .ok (.bipush 10, 2) := dk_16 10 (dk_at dksX5_init_1 4 rfl rfl)
theorem dX5_init_29 : decode cX5_init 29 = .ok (.newarray .int, 2) := dk_188_10 (dk_at dksX5_init_1 6 rfl rfl)
theorem dX5_init_31 : decode cX5_init 31 = .ok (.putfield 25, 3) := dk_181 0 25 (dk_at dksX5_init_1 8 rfl rfl)
theorem dX5_init_34 : decode cX5_init 34 = .ok (.iconst 0, 1) := dk_3 (dk_at dksX5_init_1 11 rfl rfl)
theorem dX5_init_35 : decode cX5_init 35 = .ok (.istore_n 2, 1) := dk_61 (dk_at dksX5_init_1 12 rfl rfl)
theorem dX5_init_36 : decode cX5_init 36 = .ok (.iload_n 2, 1) := dk_28 (dk_at dksX5_init_1 13 rfl rfl)
theorem dX5_init_37 : decode cX5_init 37 = .ok (.bipush 10, 2) := dk_16 10 (dk_at dksX5_init_1 14 rfl rfl)
theorem dX5_init_39 : decode cX5_init 39 = .ok (.if_icmp .ge 23, 3) := dk_162 0 23 (dk_at dksX5_init_1 16 rfl rfl)
theorem dX5_init_42 : decode cX5_init 42 = .ok (.aload_n 0, 1) := dk_42 (dk_at dksX5_init_1 19 rfl rfl)
theorem dX5_init_43 : decode cX5_init 43 = .ok (.getfield 17, 3) := dk_180 0 17 (dk_at dksX5_init_1 20 rfl rfl)
theorem dX5_init_46 : decode cX5_init 46 = .ok (.iload_n 2, 1) := dk_28 (dk_at dksX5_init_1 23 rfl rfl)
theorem dX5_init_47 : decode cX5_init 47 = .ok (.new 15, 3) := dk_187 0 15 (dk_at dksX5_init_2 0 rfl rfl)
theorem dX5_init_50 : decode cX5_init 50 = .ok (.dup, 1) := dk_89 (dk_at dksX5_init_2 3 rfl rfl)
theorem dX5_init_51 : decode cX5_init 51 = .ok (.aload_n 1, 1) := dk_43 (dk_at dksX5_init_2 4 rfl rfl)
theorem dX5_init_52 : decode cX5_init 52 = .ok (.invokespecial 28, 3) := dk_183 0 28 (dk_at dksX5_init_2 5 rfl rfl)
theorem dX5_init_55 : decode cX5_init 55 = .ok (.aastore, 1) := dk_83 (dk_at dksX5_init_2 8 rfl rfl)
theorem dX5_init_56 : decode cX5_init 56 = .ok (.iinc 2 1, 3) := dk_132 2 1 (dk_at dksX5_init_2 9 rfl rfl)
theorem dX5_init_59 : decode cX5_init 59 = .ok (.goto (-23), 3) := dk_167 255 233 (dk_at dksX5_init_2 12 rfl rfl)
theorem dX5_init_62 : decode cX5_init 62 = .ok (.return_, 1) := dk_177 (dk_at dksX5_init_2 15 rfl rfl)
def dkwX5_of_6 : List UInt8 := [167, 255, 122, 42, 176]
abbrev dktX5_of_6 : List UInt8 := dkwX5_of_6 ++ []
def dkwX5_of_5 : List UInt8 := [89, 180, 0, 31, 4, 96, 181, 0, 31, 42, 180, 0, 25, 29, 92, 46, 4, 96, 79, 132, 2, 1]
abbrev dktX5_of_5 : List UInt8 := dkwX5_of_5 ++ dktX5_of_6
def dkwX5_of_4 : List UInt8 := [160, 0, 33, 42, 180, 0, 21, 42, 180, 0, 31, 28, 79, 42, 180, 0, 25, 42, 180, 0, 31, 3, 79, 42]
abbrev dktX5_of_4 : List UInt8 := dkwX5_of_4 ++ dktX5_of_5
def dkwX5_of_3 : List UInt8 := [180, 0, 31, 50, 180, 0, 61, 182, 0, 65, 154, 0, 9, 132, 3, 1, 167, 255, 226, 29, 42, 180, 0, 31]
abbrev dktX5_of_3 : List UInt8 := dkwX5_of_3 ++ dktX5_of_4
def dkwX5_of_2 : List UInt8 := [192, 0, 55, 43, 182, 0, 57, 87, 3, 62, 42, 180, 0, 17, 29, 50, 180, 0, 61, 42, 180, 0, 17, 42]
abbrev dktX5_of_2 : List UInt8 := dkwX5_of_2 ++ dktX5_of_3
def dkwX5_of_1 : List UInt8 := [42, 180, 0, 17, 42, 180, 0, 31, 50, 42, 180, 0, 3, 180, 0, 35, 180, 0, 39, 28, 182, 0, 51]
abbrev dktX5_of_1 : List UInt8 := dkwX5_of_1 ++ dktX5_of_2
def dkwX5_of_0 : List UInt8 := [42, 3, 181, 0, 31, 3, 61, 28, 42, 180, 0, 3, 180, 0, 35, 180, 0, 39, 182, 0, 45, 162, 0, 123]
abbrev dktX5_of_0 : List UInt8 := dkwX5_of_0 ++ dktX5_of_1
theorem dksX5_of_0 : cX5_of.data.toList.drop 0 = dktX5_of_0 := by decide +kernel
theorem dksX5_of_1 : cX5_of.data.toList.drop 24 = dktX5_of_1 := dk_seg dksX5_of_0 24 rfl rfl
theorem dksX5_of_2 : cX5_of.data.toList.drop 47 = dktX5_of_2 := dk_seg dksX5_of_1 23 rfl rfl
theorem dksX5_of_3 : cX5_of.data.toList.drop 71 = dktX5_of_3 := dk_seg dksX5_of_2 24 rfl rfl
theorem dksX5_of_4 : cX5_of.data.toList.drop 95 = dktX5_of_4 := dk_seg dksX5_of_3 24 rfl rfl
theorem dksX5_of_5 : cX5_of.data.toList.drop 119 = dktX5_of_5 := dk_seg dksX5_of_4 24 rfl rfl
theorem dksX5_of_6 : cX5_of.data.toList.drop 141 = dktX5_of_6 := dk_seg dksX5_of_5 22 rfl rfl
theorem dX5_of_0 : decode cX5_of 0 = .ok (.aload_n 0, 1) := dk_42 (dk_at dksX5_of_0 0 rfl rfl)
theorem dX5_of_1 : decode cX5_of 1 = .ok (.iconst 0, 1) := dk_3 (dk_at dksX5_of_0 1 rfl rfl)
theorem dX5_of_2 : decode cX5_of 2 = .ok (.putfield 31, 3) := dk_181 0 31 (dk_at dksX5_of_0 2 rfl rfl)
theorem dX5_of_5 : decode cX5_of 5 = .ok (.iconst 0, 1) := dk_3 (dk_at dksX5_of_0 5 rfl rfl)
theorem dX5_of_6 : decode cX5_of 6 = .ok (.istore_n 2, 1) := dk_61 (dk_at dksX5_of_0 6 rfl rfl)
theorem dX5_of_7 : decode cX5_of 7 = .ok (.iload_n 2, 1) := dk_28 (dk_at dksX5_of_0 7 rfl rfl)
theorem dX5_of_8 : decode cX5_of 8 = .ok (.aload_n 0, 1) := dk_42 (dk_at dksX5_of_0 8 rfl rfl)
theorem dX5_of_9 : decode cX5_of 9 = .ok (.getfield 3, 3) := dk_180 0 3 (dk_at dksX5_of_0 9 rfl rfl)
theorem dX5_of_12 : decode cX5_of 12 = .ok (.getfield 35, 3) := dk_180 0 35 (dk_at dksX5_of_0 12 rfl rfl)
theorem dX5_of_15 : decode cX5_of 15 = .ok (.getfield 39, 3) := dk_180 0 39 (dk_at dksX5_of_0 15 rfl rfl)
theorem dX5_of_18 : decode cX5_of 18 = .ok (.invokevirtual 45, 3) := dk_182 0 45 (dk_at dksX5_of_0 18 rfl rfl)
theorem dX5_of_21 : decode cX5_of 21 = .ok (.if_icmp .ge 123, 3) := dk_162 0 123 (dk_at dksX5_of_0 21 rfl rfl)
theorem dX5_of_24 : decode cX5_of 24 = .ok (.aload_n 0, 1) := dk_42 (dk_at dksX5_of_1 0 rfl rfl)
theorem dX5_of_25 : decode cX5_of 25 = .ok (.getfield 17, 3) := dk_180 0 17 (dk_at dksX5_of_1 1 rfl rfl)
theorem dX5_of_28 : decode cX5_of 28 = .ok (.aload_n 0, 1) := dk_42 (dk_at dksX5_of_1 4 rfl rfl)
theorem dX5_of_29 : decode cX5_of 29 = .ok (.getfield 31, 3) := dk_180 0 31 (dk_at dksX5_of_1 5 rfl rfl)
theorem dX5_of_32 : decode cX5_of 32 = .ok (.aaload, 1) := dk_50 (dk_at dksX5_of_1 8 rfl rfl)
theorem dX5_of_33 : decode cX5_of 33 = .ok (.aload_n 0, 1) := dk_42 (dk_at dksX5_of_1 9 rfl rfl)
theorem dX5_of_34 : decode cX5_of 34 = .ok (.getfield 3, 3) := dk_180 0 3 (dk_at dksX5_of_1 10 rfl rfl)
theorem dX5_of_37 : decode cX5_of 37 = .ok (.getfield 35, 3) := dk_180 0 35 (dk_at dksX5_of_1 13 rfl rfl)
theorem dX5_of_40 : decode cX5_of 40 = .ok (.getfield 39, 3) := dk_180 0 39 (dk_at dksX5_of_1 16 rfl rfl)
theorem dX5_of_43 : decode cX5_of 43 = .ok (.iload_n 2, 1) := dk_28 (dk_at dksX5_of_1 19 rfl rfl)
theorem dX5_of_44 : decode cX5_of 44 = .ok (.invokevirtual 51, 3) := dk_182 0 51 (dk_at dksX5_of_1 20 rfl rfl)
theorem dX5_of_47 : decode cX5_of 47 = .ok (.checkcast 55, 3) := dk_192 0 55 (dk_at dksX5_of_2 0 rfl rfl)
theorem dX5_of_50 : decode cX5_of 50 = .ok (.aload_n 1, 1) := dk_43 (dk_at dksX5_of_2 3 rfl rfl)
theorem dX5_of_51 : decode cX5_of 51 = .ok (.invokevirtual 57, 3) := dk_182 0 57 (dk_at dksX5_of_2 4 rfl rfl)
theorem dX5_of_54 : decode cX5_of 54 = .ok (.pop, 1) := dk_87 (dk_at dksX5_of_2 7 rfl rfl)
theorem dX5_of_55 : decode cX5_of 55 = .ok (.iconst 0, 1) := dk_3 (dk_at dksX5_of_2 8 rfl rfl)
theorem dX5_of_56 : decode cX5_of 56 = .ok (.istore_n 3, 1) := dk_62 (dk_at dksX5_of_2 9 rfl rfl)
theorem dX5_of_57 : decode cX5_of 57 = .ok (.aload_n 0, 1) := dk_42 (dk_at dksX5_of_2 10 rfl rfl)
theorem dX5_of_58 : decode cX5_of 58 = .ok (.getfield 17, 3) := dk_180 0 17 (dk_at dksX5_of_2 11 rfl rfl)
theorem dX5_of_61 : decode cX5_of 61 = .ok (.iload_n 3, 1) := dk_29 (dk_at dksX5_of_2 14 rfl rfl)
theorem dX5_of_62 : decode cX5_of 62 = .ok (.aaload, 1) := dk_50 (dk_at dksX5_of_2 15 rfl rfl)
theorem dX5_of_63 : decode cX5_of 63 = .ok (.getfield 61, 3) := dk_180 0 61 (dk_at dksX5_of_2 16 rfl rfl)
theorem dX5_of_66 : decode cX5_of 66 = .ok (.aload_n 0, 1) := dk_42 (dk_at dksX5_of_2 19 rfl rfl)
theorem dX5_of_67 : decode cX5_of 67 = .ok (.getfield 17, 3) := dk_180 0 17 (dk_at dksX5_of_2 20 rfl rfl)
theorem dX5_of_70 : decode cX5_of 70 = .ok (.aload_n 0, 1) := dk_42 (dk_at dksX5_of_2 23 rfl rfl)
theorem dX5_of_71 : decode cX5_of 71 = .ok (.getfield 31, 3) := dk_180 0 31 (dk_at dksX5_of_3 0 rfl rfl)
theorem dX5_of_74 : decode cX5_of 74 = .ok (.aaload, 1) := dk_50 (dk_at dksX5_of_3 3 rfl rfl)
theorem dX5_of_75 : decode cX5_of 75 = .ok (.getfield 61, 3) := dk_180 0 61 (dk_at dksX5_of_3 4 rfl rfl)
theorem dX5_of_78 : decode cX5_of 78 = .ok (.invokevirtual 65, 3) := dk_182 0 65 (dk_at dksX5_of_3 7 rfl rfl)
theorem dX5_of_81 : decode cX5_of 81 = .ok (.ifCond .ne 9, 3) := dk_154 0 9 (dk_at dksX5_of_3 10 rfl rfl)
theorem dX5_of_84 : decode cX5_of 84 = .ok (.iinc 3 1, 3) := dk_132 3 1 (dk_at dksX5_of_3 13 rfl rfl)
theorem dX5_of_87 : decode cX5_of 87 = .ok (.goto (-30), 3) := dk_167 255 226 (dk_at dksX5_of_3 16 rfl rfl)
theorem dX5_of_90 : decode cX5_of 90 = .ok (.iload_n 3, 1) := dk_29 (dk_at dksX5_of_3 19 rfl rfl)
theorem dX5_of_91 : decode cX5_of 91 = .ok (.aload_n 0, 1) := dk_42 (dk_at dksX5_of_3 20 rfl rfl)
theorem dX5_of_92 : decode cX5_of 92 = .ok (.getfield 31, 3) := dk_180 0 31 (dk_at dksX5_of_3 21 rfl rfl)
theorem dX5_of_95 : decode cX5_of 95 = .ok (.if_icmp .ne 33, 3) := dk_160 0 33 (dk_at dksX5_of_4 0 rfl rfl)
theorem dX5_of_98 : decode cX5_of 98 = .ok (.aload_n 0, 1) := dk_42 (dk_at dksX5_of_4 3 rfl rfl)
theorem dX5_of_99 : decode cX5_of 99 = .ok (.getfield 21, 3) := dk_180 0 21 (dk_at dksX5_of_4 4 rfl rfl)
theorem dX5_of_102 : decode cX5_of 102 = .ok (.aload_n 0, 1) := dk_42 (dk_at dksX5_of_4 7 rfl rfl)
theorem dX5_of_103 : decode cX5_of 103 = .ok (.getfield 31, 3) := dk_180 0 31 (dk_at dksX5_of_4 8 rfl rfl)
theorem dX5_of_106 : decode cX5_of 106 = .ok (.iload_n 2, 1) := dk_28 (dk_at dksX5_of_4 11 rfl rfl)
theorem dX5_of_107 : decode cX5_of 107 = .ok (.iastore, 1) := dk_79 (dk_at dksX5_of_4 12 rfl rfl)
theorem dX5_of_108 : decode cX5_of 108 = .ok (.aload_n 0, 1) := dk_42 (dk_at dksX5_of_4 13 rfl rfl)
theorem dX5_of_109 : decode cX5_of 109 = .ok (.getfield 25, 3) := dk_180 0 25 (dk_at dksX5_of_4 14 rfl rfl)
theorem dX5_of_112 : decode cX5_of 112 = .ok (.aload_n 0, 1) := dk_42 (dk_at dksX5_of_4 17 rfl rfl)
theorem dX5_of_113 : decode cX5_of 113 = .ok (.getfield 31, 3) := dk_180 0 31 (dk_at dksX5_of_4 18 rfl rfl)
theorem dX5_of_116 : decode cX5_of 116 = .ok (.iconst 0, 1) := dk_3 (dk_at dksX5_of_4 21 rfl rfl)
theorem dX5_of_117 : decode cX5_of 117 = .ok (.iastore, 1) := dk_79 (dk_at dksX5_of_4 22 rfl rfl)
theorem dX5_of_118 : decode cX5_of 118 = .ok (.aload_n 0, 1) := dk_42 (dk_at dksX5_of_4 23 rfl rfl)
theorem dX5_of_119 : decode cX5_of 119 = .ok (.dup, 1) := dk_89 (dk_at dksX5_of_5 0 rfl rfl)
theorem dX5_of_120 : decode cX5_of 120 = .ok (.getfield 31, 3) := dk_180 0 31 (dk_at dksX5_of_5 1 rfl rfl)
theorem dX5_of_123 : decode cX5_of 123 = .ok (.iconst 1, 1) := dk_4 (dk_at dksX5_of_5 4 rfl rfl)
theorem dX5_of_124 : decode cX5_of 124 = .ok (.iadd, 1) := dk_96 (dk_at dksX5_of_5 5 rfl rfl)
theorem dX5_of_125 : decode cX5_of 125 = .ok (.putfield 31, 3) := dk_181 0 31 (dk_at dksX5_of_5 6 rfl rfl)
theorem dX5_of_128 : decode cX5_of 128 = .ok (.aload_n 0, 1) := dk_42 (dk_at dksX5_of_5 9 rfl rfl)
theorem dX5_of_129 : decode cX5_of 129 = .ok (.getfield 25, 3) := dk_180 0 25 (dk_at dksX5_of_5 10 rfl rfl)
theorem dX5_of_132 : decode cX5_of 132 = .ok (.iload_n 3, 1) := dk_29 (dk_at dksX5_of_5 13 rfl rfl)
theorem dX5_of_133 : decode cX5_of 133 = .ok (.dup2, 1) := dk_92 (dk_at dksX5_of_5 14 rfl rfl)
theorem dX5_of_134 : decode cX5_of 134 = .ok (.iaload, 1) := dk_46 (dk_at dksX5_of_5 15 rfl rfl)
theorem dX5_of_135 : decode cX5_of 135 = .ok (.iconst 1, 1) := dk_4 (dk_at dksX5_of_5 16 rfl rfl)
theorem dX5_of_136 : decode cX5_of 136 = .ok (.iadd, 1) := dk_96 (dk_at dksX5_of_5 17 rfl rfl)
theorem dX5_of_137 : decode cX5_of 137 = .ok (.iastore, 1) := dk_79 (dk_at dksX5_of_5 18 rfl rfl)
theorem dX5_of_138 : decode cX5_of 138 = .ok (.iinc 2 1, 3) := dk_132 2 1 (dk_at dksX5_of_5 19 rfl rfl)
theorem dX5_of_141 : decode cX5_of 141 = .ok (.goto (-134), 3) := dk_167 255 122 (dk_at dksX5_of_6 0 rfl rfl)
theorem dX5_of_144 : decode cX5_of 144 = .ok (.aload_n 0, 1) := dk_42 (dk_at dksX5_of_6 3 rfl rfl)
theorem dX5_of_145 : decode cX5_of 145 = .ok (.areturn, 1) := dk_176 (dk_at dksX5_of_6 4 rfl rfl)
def dkwX6_init_1 : List UInt8 := [89, 183, 0, 17, 181, 0, 22, 177]
abbrev dktX6_init_1 : List UInt8 := dkwX6_init_1 ++ []
def dkwX6_init_0 : List UInt8 := [42, 43, 181, 0, 3, 42, 183, 0, 9, 42, 187, 0, 15, 89, 183, 0, 17, 181, 0, 18, 42, 187, 0, 15]
abbrev dktX6_init_0 : List UInt8 := dkwX6_init_0 ++ dktX6_init_1
theorem dksX6_init_0 : cX6_init.data.toList.drop 0 = dktX6_init_0 := by decide +kernel
theorem dksX6_init_1 : cX6_init.data.toList.drop 24 = dktX6_init_1 := dk_seg dksX6_init_0 24 rfl rfl
theorem dX6_init_0 : decode cX6_init 0 = .ok (.aload_n 0, 1) := dk_42 (dk_at dksX6_init_0 0 rfl rfl)
theorem dX6_init_1 : decode cX6_init 1 = .ok (.aload_n 1, 1) := dk_43 (dk_at dksX6_init_0 1 rfl rfl)
theorem dX6_init_2 : decode cX6_init 2 = .ok (.putfield 3, 3) := dk_181 0 3 (dk_at dksX6_init_0 2 rfl rfl)
theorem dX6_init_5 : decode cX6_init 5 = .ok (.aload_n 0, 1) := dk_42 (dk_at dksX6_init_0 5 rfl rfl)
theorem dX6_init_6 : decode cX6_init 6 = .ok (.invokespecial 9, 3) := dk_183 0 9 (dk_at dksX6_init_0 6 rfl rfl)
theorem dX6_init_9 : decode cX6_init 9 = .ok (.aload_n 0, 1) := dk_42 (dk_at dksX6_init_0 9 rfl rfl)
theorem dX6_init_10 : decode cX6_init 10 = .ok (.new 15, 3) := dk_187 0 15 (dk_at dksX6_init_0 10 rfl rfl)
theorem dX6_init_13 : decode cX6_init 13 = .ok (.dup, 1) := dk_89 (dk_at dksX6_init_0 13 rfl rfl)
theorem dX6_init_14 : decode cX6_init 14 = .ok (.invokespecial 17, 3) := dk_183 0 17 (dk_at dksX6_init_0 14 rfl rfl)
theorem dX6_init_17 : decode cX6_init 17 = .ok (.putfield 18, 3) := dk_181 0 18 (dk_at dksX6_init_0 17 rfl rfl)
theorem dX6_init_20 : decode cX6_init 20 = .ok (.aload_n 0, 1) := dk_42 (dk_at dksX6_init_0 20 rfl rfl)
theorem dX6_init_21 : decode cX6_init 21 = .ok (.new 15, 3) := dk_187 0 15 (dk_at dksX6_init_0 21 rfl rfl)
theorem dX6_init_24 : decode cX6_init 24 = .ok (.dup, 1) := dk_89 (dk_at dksX6_init_1 0 rfl rfl)
theorem dX6_init_25 : decode cX6_init 25 = .ok (.invokespecial 17, 3) := dk_183 0 17 (dk_at dksX6_init_1 1 rfl rfl)
theorem dX6_init_28 : decode cX6_init 28 = .ok (.putfield 22, 3) := dk_181 0 22 (dk_at dksX6_init_1 4 rfl rfl)
theorem dX6_init_31 : decode cX6_init 31 = .ok (.return_, 1) := dk_177 (dk_at dksX6_init_1 7 rfl rfl)
def dkwX6_of_5 : List UInt8 := [154, 255, 176, 42, 182, 0, 73, 176, 42, 43, 44, 182, 0, 77, 176]
abbrev dktX6_of_5 : List UInt8 := dkwX6_of_5 ++ []
def dkwX6_of_4 : List UInt8 := [181, 0, 59, 42, 89, 180, 0, 62, 4, 96, 181, 0, 62, 42, 42, 180, 0, 22, 43, 44, 182, 0, 69]
abbrev dktX6_of_4 : List UInt8 := dkwX6_of_4 ++ dktX6_of_5
def dkwX6_of_3 : List UInt8 := [180, 0, 22, 182, 0, 50, 87, 29, 5, 104, 62, 42, 3, 181, 0, 62, 42, 89, 180, 0, 59, 4, 96]
abbrev dktX6_of_3 : List UInt8 := dkwX6_of_3 ++ dktX6_of_4
def dkwX6_of_2 : List UInt8 := [180, 0, 22, 182, 0, 65, 154, 0, 70, 42, 180, 0, 62, 29, 160, 0, 24, 42, 180, 0, 18, 42]
abbrev dktX6_of_2 : List UInt8 := dkwX6_of_2 ++ dktX6_of_3
def dkwX6_of_1 : List UInt8 := [42, 3, 181, 0, 59, 42, 3, 181, 0, 62, 4, 62, 42, 180, 0, 62, 153, 0, 17, 42, 180, 0, 18, 42]
abbrev dktX6_of_1 : List UInt8 := dkwX6_of_1 ++ dktX6_of_2
def dkwX6_of_0 : List UInt8 := [42, 180, 0, 18, 44, 180, 0, 58, 182, 0, 50, 87, 42, 180, 0, 22, 44, 180, 0, 58, 182, 0, 50, 87]
abbrev dktX6_of_0 : List UInt8 := dkwX6_of_0 ++ dktX6_of_1
theorem dksX6_of_0 : cX6_of.data.toList.drop 0 = dktX6_of_0 := by decide +kernel
theorem dksX6_of_1 : cX6_of.data.toList.drop 24 = dktX6_of_1 := dk_seg dksX6_of_0 24 rfl rfl
theorem dksX6_of_2 : cX6_of.data.toList.drop 48 = dktX6_of_2 := dk_seg dksX6_of_1 24 rfl rfl
theorem dksX6_of_3 : cX6_of.data.toList.drop 70 = dktX6_of_3 := dk_seg dksX6_of_2 22 rfl rfl
theorem dksX6_of_4 : cX6_of.data.toList.drop 93 = dktX6_of_4 := dk_seg dksX6_of_3 23 rfl rfl
theorem dksX6_of_5 : cX6_of.data.toList.drop 116 = dktX6_of_5 := dk_seg dksX6_of_4 23 rfl rfl
theorem dX6_of_0 : decode cX6_of 0 = .ok (.aload_n 0, 1) := dk_42 (dk_at dksX6_of_0 0 rfl rfl)
theorem dX6_of_1 : decode cX6_of 1 = .ok (.getfield 18, 3) := dk_180 0 18 (dk_at dksX6_of_0 1 rfl rfl)
theorem dX6_of_4 : decode cX6_of 4 = .ok (.aload_n 2, 1) := dk_44 (dk_at dksX6_of_0 4 rfl rfl)
theorem dX6_of_5 : decode cX6_of 5 = .ok (.getfield 58, 3) := dk_180 0 58 (dk_at dksX6_of_0 5 rfl rfl)
theorem dX6_of_8 : decode cX6_of 8 = .ok (.invokevirtual 50, 3) := dk_182 0 50 (dk_at dksX6_of_0 8 rfl rfl)
theorem dX6_of_11 : decode cX6_of 11 = .ok (.pop, 1) := dk_87 (dk_at dksX6_of_0 11 rfl rfl)
theorem dX6_of_12 : decode cX6_of 12 = .ok (.aload_n 0, 1) := dk_42 (dk_at dksX6_of_0 12 rfl rfl)
theorem dX6_of_13 : decode cX6_of 13 = .ok (.getfield 22, 3) := dk_180 0 22 (dk_at dksX6_of_0 13 rfl rfl)
theorem dX6_of_16 : decode cX6_of 16 = .ok (.aload_n 2, 1) := dk_44 (dk_at dksX6_of_0 16 rfl rfl)
theorem dX6_of_17 : decode cX6_of 17 = .ok (.getfield 58, 3) := dk_180 0 58 (dk_at dksX6_of_0 17 rfl rfl)
theorem dX6_of_20 : decode cX6_of 20 = .ok (.invokevirtual 50, 3) := dk_182 0 50 (dk_at dksX6_of_0 20 rfl rfl)
theorem dX6_of_23 : decode cX6_of 23 = .ok (.pop, 1) := dk_87 (dk_at dksX6_of_0 23 rfl rfl)
theorem dX6_of_24 : decode cX6_of 24 = .ok (.aload_n 0, 1) := dk_42 (dk_at dksX6_of_1 0 rfl rfl)
theorem dX6_of_25 : decode cX6_of 25 = .ok (.iconst 0, 1) := dk_3 (dk_at dksX6_of_1 1 rfl rfl)
theorem dX6_of_26 : decode cX6_of 26 = .ok (.putfield 59, 3) := dk_181 0 59 (dk_at dksX6_of_1 2 rfl rfl)
theorem dX6_of_29 : decode cX6_of 29 = .ok (.aload_n 0, 1) := dk_42 (dk_at dksX6_of_1 5 rfl rfl)
theorem dX6_of_30 : decode cX6_of 30 = .ok (.iconst 0, 1) := dk_3 (dk_at dksX6_of_1 6 rfl rfl)
theorem dX6_of_31 : decode cX6_of 31 = .ok (.putfield 62, 3) := dk_181 0 62 (dk_at dksX6_of_1 7 rfl rfl)
theorem dX6_of_34 : decode cX6_of 34 = .ok (.iconst 1, 1) := dk_4 (dk_at dksX6_of_1 10 rfl rfl)
theorem dX6_of_35 : decode cX6_of 35 = .ok (.istore_n 3, 1) := dk_62 (dk_at dksX6_of_1 11 rfl rfl)
theorem dX6_of_36 : decode cX6_of 36 = .ok (.aload_n 0, 1) := dk_42 (dk_at dksX6_of_1 12 rfl rfl)
theorem dX6_of_37 : decode cX6_of 37 = .ok (.getfield 62, 3) := dk_180 0 62 (dk_at dksX6_of_1 13 rfl rfl)
theorem dX6_of_40 : decode cX6_of 40 = .ok (.ifCond .eq 17, 3) := dk_153 0 17 (dk_at dksX6_of_1 16 rfl rfl)
theorem dX6_of_43 : decode cX6_of 43 = .ok (.aload_n 0, 1) := dk_42 (dk_at dksX6_of_1 19 rfl rfl)
theorem dX6_of_44 : decode cX6_of 44 = .ok (.getfield 18, 3) := dk_180 0 18 (dk_at dksX6_of_1 20 rfl rfl)
theorem dX6_of_47 : decode cX6_of 47 = .ok (.aload_n 0, 1) := dk_42 (dk_at dksX6_of_1 23 rfl rfl)
theorem dX6_of_48 : decode cX6_of 48 = .ok (.getfield 22, 3) := dk_180 0 22 (dk_at dksX6_of_2 0 rfl rfl)
theorem dX6_of_51 : decode cX6_of 51 = .ok (.invokevirtual 65, 3) := dk_182 0 65 (dk_at dksX6_of_2 3 rfl rfl)
theorem dX6_of_54 : decode cX6_of 54 = .ok (.ifCond .ne 70, 3) := dk_154 0 70 (dk_at dksX6_of_2 6 rfl rfl)
theorem dX6_of_57 : decode cX6_of 57 = .ok (.aload_n 0, 1) := dk_42 (dk_at dksX6_of_2 9 rfl rfl)
theorem dX6_of_58 : decode cX6_of 58 = .ok (.getfield 62, 3) := dk_180 0 62 (dk_at dksX6_of_2 10 rfl rfl)
theorem dX6_of_61 : decode cX6_of 61 = .ok (.iload_n 3, 1) := dk_29 (dk_at dksX6_of_2 13 rfl rfl)
theorem dX6_of_62 : decode cX6_of 62 = .ok (.if_icmp .ne 24, 3) := dk_160 0 24 (dk_at dksX6_of_2 14 rfl rfl)
theorem dX6_of_65 : decode cX6_of 65 = .ok (.aload_n 0, 1) := dk_42 (dk_at dksX6_of_2 17 rfl rfl)
theorem dX6_of_66 : decode cX6_of 66 = .ok (.getfield 18, 3) := dk_180 0 18 (dk_at dksX6_of_2 18 rfl rfl)
theorem dX6_of_69 : decode cX6_of 69 = .ok (.aload_n 0, 1) := dk_42 (dk_at dksX6_of_2 21 rfl rfl)
theorem dX6_of_70 : decode cX6_of 70 = .ok (.getfield 22, 3) := dk_180 0 22 (dk_at dksX6_of_3 0 rfl rfl)
theorem dX6_of_73 : decode cX6_of 73 = .ok (.invokevirtual 50, 3) := dk_182 0 50 (dk_at dksX6_of_3 3 rfl rfl)
theorem dX6_of_76 : decode cX6_of 76 = .ok (.pop, 1) := dk_87 (dk_at dksX6_of_3 6 rfl rfl)
theorem dX6_of_77 : decode cX6_of 77 = .ok (.iload_n 3, 1) := dk_29 (dk_at dksX6_of_3 7 rfl rfl)
theorem dX6_of_78 : decode cX6_of 78 = .ok (.iconst 2, 1) := dk_5 (dk_at dksX6_of_3 8 rfl rfl)
theorem dX6_of_79 : decode cX6_of 79 = .ok (.imul, 1) := dk_104 (dk_at dksX6_of_3 9 rfl rfl)
theorem dX6_of_80 : decode cX6_of 80 = .ok (.istore_n 3, 1) := dk_62 (dk_at dksX6_of_3 10 rfl rfl)
theorem dX6_of_81 : decode cX6_of 81 = .ok (.aload_n 0, 1) := dk_42 (dk_at dksX6_of_3 11 rfl rfl)
theorem dX6_of_82 : decode cX6_of 82 = .ok (.iconst 0, 1) := dk_3 (dk_at dksX6_of_3 12 rfl rfl)
theorem dX6_of_83 : decode cX6_of 83 = .ok (.putfield 62, 3) := dk_181 0 62 (dk_at dksX6_of_3 13 rfl rfl)
theorem dX6_of_86 : decode cX6_of 86 = .ok (.aload_n 0, 1) := dk_42 (dk_at dksX6_of_3 16 rfl rfl)
theorem dX6_of_87 : decode cX6_of 87 = .ok (.dup, 1) := dk_89 (dk_at dksX6_of_3 17 rfl rfl)
theorem dX6_of_88 : decode cX6_of 88 = .ok (.getfield 59, 3) := dk_180 0 59 (dk_at dksX6_of_3 18 rfl rfl)
theorem dX6_of_91 : decode cX6_of 91 = .ok (.iconst 1, 1) := dk_4 (dk_at dksX6_of_3 21 rfl rfl)
theorem dX6_of_92 : decode cX6_of 92 = .ok (.iadd, 1) := dk_96 (dk_at dksX6_of_3 22 rfl rfl)
theorem dX6_of_93 : decode cX6_of 93 = .ok (.putfield 59, 3) := dk_181 0 59 (dk_at dksX6_of_4 0 rfl rfl)
theorem dX6_of_96 : decode cX6_of 96 = .ok (.aload_n 0, 1) := dk_42 (dk_at dksX6_of_4 3 rfl rfl)
theorem dX6_of_97 : decode cX6_of 97 = .ok (.dup, 1) := dk_89 (dk_at dksX6_of_4 4 rfl rfl)
theorem dX6_of_98 : decode cX6_of 98 = .ok (.getfield 62, 3) := dk_180 0 62 (dk_at dksX6_of_4 5 rfl rfl)
theorem dX6_of_101 : decode cX6_of 101 = .ok (.iconst 1, 1) := dk_4 (dk_at dksX6_of_4 8 rfl rfl)
theorem dX6_of_102 : decode cX6_of 102 = .ok (.iadd, 1) := dk_96 (dk_at dksX6_of_4 9 rfl rfl)
theorem dX6_of_103 : decode cX6_of 103 = .ok (.putfield 62, 3) := dk_181 0 62 (dk_at dksX6_of_4 10 rfl rfl)
theorem dX6_of_106 : decode cX6_of 106 = .ok (.aload_n 0, 1) := dk_42 (dk_at dksX6_of_4 13 rfl rfl)
theorem dX6_of_107 : decode cX6_of 107 = .ok (.aload_n 0, 1) := dk_42 (dk_at dksX6_of_4 14 rfl rfl)
theorem dX6_of_108 : decode cX6_of 108 = .ok (.getfield 22, 3) := dk_180 0 22 (dk_at dksX6_of_4 15 rfl rfl)
theorem dX6_of_111 : decode cX6_of 111 = .ok (.aload_n 1, 1) := dk_43 (dk_at dksX6_of_4 18 rfl rfl)
theorem dX6_of_112 : decode cX6_of 112 = .ok (.aload_n 2, 1) := dk_44 (dk_at dksX6_of_4 19 rfl rfl)
theorem dX6_of_113 : decode cX6_of 113 = .ok (.invokevirtual 69, 3) := dk_182 0 69 (dk_at dksX6_of_4 20 rfl rfl)
theorem dX6_of_116 : decode cX6_of 116 = .ok (.ifCond .ne (-80), 3) := dk_154 255 176 (dk_at dksX6_of_5 0 rfl rfl)
theorem dX6_of_119 : decode cX6_of 119 = .ok (.aload_n 0, 1) := dk_42 (dk_at dksX6_of_5 3 rfl rfl)
theorem dX6_of_120 : decode cX6_of 120 = .ok (.invokevirtual 73, 3) := dk_182 0 73 (dk_at dksX6_of_5 4 rfl rfl)
theorem dX6_of_123 : decode cX6_of 123 = .ok (.areturn, 1) := dk_176 (dk_at dksX6_of_5 7 rfl rfl)
theorem dX6_of_124 : decode cX6_of 124 = .ok (.aload_n 0, 1) := dk_42 (dk_at dksX6_of_5 8 rfl rfl)
theorem dX6_of_125 : decode cX6_of 125 = .ok (.aload_n 1, 1) := dk_43 (dk_at dksX6_of_5 9 rfl rfl)
theorem dX6_of_126 : decode cX6_of 126 = .ok (.aload_n 2, 1) := dk_44 (dk_at dksX6_of_5 10 rfl rfl)
theorem dX6_of_127 : decode cX6_of 127 = .ok (.invokevirtual 77, 3) := dk_182 0 77 (dk_at dksX6_of_5 11 rfl rfl)
theorem dX6_of_130 : decode cX6_of 130 = .ok (.areturn, 1) := dk_176 (dk_at dksX6_of_5 14 rfl rfl)
def dkwX6_next_1 : List UInt8 := [182, 0, 50, 87, 43, 182, 0, 54, 172]
abbrev dktX6_next_1 : List UInt8 := dkwX6_next_1 ++ []
def dkwX6_next_0 : List UInt8 := [43, 42, 180, 0, 3, 180, 0, 25, 44, 43, 45, 180, 0, 29, 44, 180, 0, 35, 182, 0, 41, 180, 0, 47]
abbrev dktX6_next_0 : List UInt8 := dkwX6_next_0 ++ dktX6_next_1
theorem dksX6_next_0 : cX6_next.data.toList.drop 0 = dktX6_next_0 := by decide +kernel
theorem dksX6_next_1 : cX6_next.data.toList.drop 24 = dktX6_next_1 := dk_seg dksX6_next_0 24 rfl rfl
theorem dX6_next_0 : decode cX6_next 0 = .ok (.aload_n 1, 1) := dk_43 (dk_at dksX6_next_0 0 rfl rfl)
theorem dX6_next_1 : decode cX6_next 1 = .ok (.aload_n 0, 1) := dk_42 (dk_at dksX6_next_0 1 rfl rfl)
theorem dX6_next_2 : decode cX6_next 2 = .ok (.getfield 3, 3) := dk_180 0 3 (dk_at dksX6_next_0 2 rfl rfl)
theorem dX6_next_5 : decode cX6_next 5 = .ok (.getfield 25, 3) := dk_180 0 25 (dk_at dksX6_next_0 5 rfl rfl)
theorem dX6_next_8 : decode cX6_next 8 = .ok (.aload_n 2, 1) := dk_44 (dk_at dksX6_next_0 8 rfl rfl)
theorem dX6_next_9 : decode cX6_next 9 = .ok (.aload_n 1, 1) := dk_43 (dk_at dksX6_next_0 9 rfl rfl)
theorem dX6_next_10 : decode cX6_next 10 = .ok (.aload_n 3, 1) := dk_45 (dk_at dksX6_next_0 10 rfl rfl)
theorem dX6_next_11 : decode cX6_next 11 = .ok (.getfield 29, 3) := dk_180 0 29 (dk_at dksX6_next_0 11 rfl rfl)
theorem dX6_next_14 : decode cX6_next 14 = .ok (.aload_n 2, 1) := dk_44 (dk_at dksX6_next_0 14 rfl rfl)
theorem dX6_next_15 : decode cX6_next 15 = .ok (.getfield 35, 3) := dk_180 0 35 (dk_at dksX6_next_0 15 rfl rfl)
theorem dX6_next_18 : decode cX6_next 18 = .ok (.invokevirtual 41, 3) := dk_182 0 41 (dk_at dksX6_next_0 18 rfl rfl)
theorem dX6_next_21 : decode cX6_next 21 = .ok (.getfield 47, 3) := dk_180 0 47 (dk_at dksX6_next_0 21 rfl rfl)
theorem dX6_next_24 : decode cX6_next 24 = .ok (.invokevirtual 50, 3) := dk_182 0 50 (dk_at dksX6_next_1 0 rfl rfl)
theorem dX6_next_27 : decode cX6_next 27 = .ok (.pop, 1) := dk_87 (dk_at dksX6_next_1 3 rfl rfl)
theorem dX6_next_28 : decode cX6_next 28 = .ok (.aload_n 1, 1) := dk_43 (dk_at dksX6_next_1 4 rfl rfl)
theorem dX6_next_29 : decode cX6_next 29 = .ok (.invokevirtual 54, 3) := dk_182 0 54 (dk_at dksX6_next_1 5 rfl rfl)
theorem dX6_next_32 : decode cX6_next 32 = .ok (.ireturn, 1) := dk_172 (dk_at dksX6_next_1 8 rfl rfl)
def dkwX6_lost_0 : List UInt8 := [42, 2, 181, 0, 81, 42, 3, 181, 0, 62, 42, 176]
abbrev dktX6_lost_0 : List UInt8 := dkwX6_lost_0 ++ []
theorem dksX6_lost_0 : cX6_lost.data.toList.drop 0 = dktX6_lost_0 := by decide +kernel
theorem dX6_lost_0 : decode cX6_lost 0 = .ok (.aload_n 0, 1) := dk_42 (dk_at dksX6_lost_0 0 rfl rfl)
theorem dX6_lost_1 : decode cX6_lost 1 = .ok (.iconst (-1), 1) := dk_2 (dk_at dksX6_lost_0 1 rfl rfl)
theorem dX6_lost_2 : decode cX6_lost 2 = .ok (.putfield 81, 3) := dk_181 0 81 (dk_at dksX6_lost_0 2 rfl rfl)
theorem dX6_lost_5 : decode cX6_lost 5 = .ok (.aload_n 0, 1) := dk_42 (dk_at dksX6_lost_0 5 rfl rfl)
theorem dX6_lost_6 : decode cX6_lost 6 = .ok (.iconst 0, 1) := dk_3 (dk_at dksX6_lost_0 6 rfl rfl)
theorem dX6_lost_7 : decode cX6_lost 7 = .ok (.putfield 62, 3) := dk_181 0 62 (dk_at dksX6_lost_0 7 rfl rfl)
theorem dX6_lost_10 : decode cX6_lost 10 = .ok (.aload_n 0, 1) := dk_42 (dk_at dksX6_lost_0 10 rfl rfl)
theorem dX6_lost_11 : decode cX6_lost 11 = .ok (.areturn, 1) := dk_176 (dk_at dksX6_lost_0 11 rfl rfl)
def dkwX6_meets_5 : List UInt8 := [42, 176]
abbrev dktX6_meets_5 : List UInt8 := dkwX6_meets_5 ++ []
def dkwX6_meets_4 : List UInt8 := [180, 0, 81, 4, 96, 181, 0, 81, 167, 255, 210, 42, 42, 180, 0, 81, 42, 180, 0, 62, 96, 181, 0, 59]
abbrev dktX6_meets_4 : List UInt8 := dkwX6_meets_4 ++ dktX6_meets_5
def dkwX6_meets_3 : List UInt8 := [42, 42, 180, 0, 18, 43, 44, 182, 0, 69, 87, 42, 42, 180, 0, 22, 43, 44, 182, 0, 69, 87, 42, 89]
abbrev dktX6_meets_3 : List UInt8 := dkwX6_meets_3 ++ dktX6_meets_4
def dkwX6_meets_2 : List UInt8 := [182, 0, 69, 87, 132, 3, 1, 167, 255, 234, 42, 180, 0, 18, 42, 180, 0, 22, 182, 0, 65, 154, 0, 38]
abbrev dktX6_meets_2 : List UInt8 := dkwX6_meets_2 ++ dktX6_meets_3
def dkwX6_meets_1 : List UInt8 := [42, 3, 181, 0, 81, 3, 62, 29, 42, 180, 0, 62, 162, 0, 20, 42, 42, 180, 0, 22, 43, 44]
abbrev dktX6_meets_1 : List UInt8 := dkwX6_meets_1 ++ dktX6_meets_2
def dkwX6_meets_0 : List UInt8 := [42, 180, 0, 18, 44, 180, 0, 58, 182, 0, 50, 87, 42, 180, 0, 22, 44, 180, 0, 58, 182, 0, 50, 87]
abbrev dktX6_meets_0 : List UInt8 := dkwX6_meets_0 ++ dktX6_meets_1
theorem dksX6_meets_0 : cX6_meets.data.toList.drop 0 = dktX6_meets_0 := by decide +kernel
theorem dksX6_meets_1 : cX6_meets.data.toList.drop 24 = dktX6_meets_1 := dk_seg dksX6_meets_0 24 rfl rfl
theorem dksX6_meets_2 : cX6_meets.data.toList.drop 46 = dktX6_meets_2 := dk_seg dksX6_meets_1 22 rfl rfl
theorem dksX6_meets_3 : cX6_meets.data.toList.drop 70 = dktX6_meets_3 := dk_seg dksX6_meets_2 24 rfl rfl
theorem dksX6_meets_4 : cX6_meets.data.toList.drop 94 = dktX6_meets_4 := dk_seg dksX6_meets_3 24 rfl rfl
theorem dksX6_meets_5 : cX6_meets.data.toList.drop 118 = dktX6_meets_5 := dk_seg dksX6_meets_4 24 rfl rfl
theorem dX6_meets_0 : decode cX6_meets 0 = .ok (.aload_n 0, 1) := dk_42 (dk_at dksX6_meets_0 0 rfl rfl)
theorem dX6_meets_1 : decode cX6_meets 1 = .ok (.getfield 18, 3) := dk_180 0 18 (dk_at dksX6_meets_0 1 rfl rfl)
theorem dX6_meets_4 : decode cX6_meets 4 = .ok (.aload_n 2, 1) := dk_44 (dk_at dksX6_meets_0 4 rfl rfl)
theorem dX6_meets_5 : decode cX6_meets 5 = .ok (.getfield 58, 3) := dk_180 0 58 (dk_at dksX6_meets_0 5 rfl rfl)
theorem dX6_meets_8 : decode cX6_meets 8 = .ok (.invokevirtual 50, 3) := dk_182 0 50 (dk_at dksX6_meets_0 8 rfl rfl)
theorem dX6_meets_11 : decode cX6_meets 11 = .ok (.pop, 1) := dk_87 (dk_at dksX6_meets_0 11 rfl rfl)
theorem dX6_meets_12 : decode cX6_meets 12 = .ok (.aload_n 0, 1) := dk_42 (dk_at dksX6_meets_0 12 rfl rfl)
theorem dX6_meets_13 : decode cX6_meets 13 = .ok (.getfield 22, 3) := dk_180 0 22 (dk_at dksX6_meets_0 13 rfl rfl)
theorem dX6_meets_16 : decode cX6_meets 16 = .ok (.aload_n 2, 1) := dk_44 (dk_at dksX6_meets_0 16 rfl rfl)
theorem dX6_meets_17 : decode cX6_meets 17 = .ok (.getfield 58, 3) := dk_180 0 58 (dk_at dksX6_meets_0 17 rfl rfl)
theorem dX6_meets_20 : decode cX6_meets 20 = .ok (.invokevirtual 50, 3) := dk_182 0 50 (dk_at dksX6_meets_0 20 rfl rfl)
theorem dX6_meets_23 : decode cX6_meets 23 = .ok (.pop, 1) := dk_87 (dk_at dksX6_meets_0 23 rfl rfl)
theorem dX6_meets_24 : decode cX6_meets 24 = .ok (.aload_n 0, 1) := dk_42 (dk_at dksX6_meets_1 0 rfl rfl)
theorem dX6_meets_25 : decode cX6_meets 25 = .ok (.iconst 0, 1) := dk_3 (dk_at dksX6_meets_1 1 rfl rfl)
theorem dX6_meets_26 : decode cX6_meets 26 = .ok (.putfield 81, 3) := dk_181 0 81 (dk_at dksX6_meets_1 2 rfl rfl)
theorem dX6_meets_29 : decode cX6_meets 29 = .ok (.iconst 0, 1) := dk_3 (dk_at dksX6_meets_1 5 rfl rfl)
theorem dX6_meets_30 : decode cX6_meets 30 = .ok (.istore_n 3, 1) := dk_62 (dk_at dksX6_meets_1 6 rfl rfl)
theorem dX6_meets_31 : decode cX6_meets 31 = .ok (.iload_n 3, 1) := dk_29 (dk_at dksX6_meets_1 7 rfl rfl)
theorem dX6_meets_32 : decode cX6_meets 32 = .ok (.aload_n 0, 1) := dk_42 (dk_at dksX6_meets_1 8 rfl rfl)
theorem dX6_meets_33 : decode cX6_meets 33 = .ok (.getfield 62, 3) := dk_180 0 62 (dk_at dksX6_meets_1 9 rfl rfl)
theorem dX6_meets_36 : decode cX6_meets 36 = .ok (.if_icmp .ge 20, 3) := dk_162 0 20 (dk_at dksX6_meets_1 12 rfl rfl)
theorem dX6_meets_39 : decode cX6_meets 39 = .ok (.aload_n 0, 1) := dk_42 (dk_at dksX6_meets_1 15 rfl rfl)
theorem dX6_meets_40 : decode cX6_meets 40 = .ok (.aload_n 0, 1) := dk_42 (dk_at dksX6_meets_1 16 rfl rfl)
theorem dX6_meets_41 : decode cX6_meets 41 = .ok (.getfield 22, 3) := dk_180 0 22 (dk_at dksX6_meets_1 17 rfl rfl)
theorem dX6_meets_44 : decode cX6_meets 44 = .ok (.aload_n 1, 1) := dk_43 (dk_at dksX6_meets_1 20 rfl rfl)
theorem dX6_meets_45 : decode cX6_meets 45 = .ok (.aload_n 2, 1) := dk_44 (dk_at dksX6_meets_1 21 rfl rfl)
theorem dX6_meets_46 : decode cX6_meets 46 = .ok (.invokevirtual 69, 3) := dk_182 0 69 (dk_at dksX6_meets_2 0 rfl rfl)
theorem dX6_meets_49 : decode cX6_meets 49 = .ok (.pop, 1) := dk_87 (dk_at dksX6_meets_2 3 rfl rfl)
theorem dX6_meets_50 : decode cX6_meets 50 = .ok (.iinc 3 1, 3) := dk_132 3 1 (dk_at dksX6_meets_2 4 rfl rfl)
theorem dX6_meets_53 : decode cX6_meets 53 = .ok (.goto (-22), 3) := dk_167 255 234 (dk_at dksX6_meets_2 7 rfl rfl)
theorem dX6_meets_56 : decode cX6_meets 56 = .ok (.aload_n 0, 1) := dk_42 (dk_at dksX6_meets_2 10 rfl rfl)
theorem dX6_meets_57 : decode cX6_meets 57 = .ok (.getfield 18, 3) := dk_180 0 18 (dk_at dksX6_meets_2 11 rfl rfl)
theorem dX6_meets_60 : decode cX6_meets 60 = .ok (.aload_n 0, 1) := dk_42 (dk_at dksX6_meets_2 14 rfl rfl)
theorem dX6_meets_61 : decode cX6_meets 61 = .ok (.getfield 22, 3) := dk_180 0 22 (dk_at dksX6_meets_2 15 rfl rfl)
theorem dX6_meets_64 : decode cX6_meets 64 = .ok (.invokevirtual 65, 3) := dk_182 0 65 (dk_at dksX6_meets_2 18 rfl rfl)
theorem dX6_meets_67 : decode cX6_meets 67 = .ok (.ifCond .ne 38, 3) := dk_154 0 38 (dk_at dksX6_meets_2 21 rfl rfl)
theorem dX6_meets_70 : decode cX6_meets 70 = .ok (.aload_n 0, 1) := dk_42 (dk_at dksX6_meets_3 0 rfl rfl)
theorem dX6_meets_71 : decode cX6_meets 71 = .ok (.aload_n 0, 1) := dk_42 (dk_at dksX6_meets_3 1 rfl rfl)
theorem dX6_meets_72 : decode cX6_meets 72 = .ok (.getfield 18, 3) := dk_180 0 18 (dk_at dksX6_meets_3 2 rfl rfl)
theorem dX6_meets_75 : decode cX6_meets 75 = .ok (.aload_n 1, 1) := dk_43 (dk_at dksX6_meets_3 5 rfl rfl)
theorem dX6_meets_76 : decode cX6_meets 76 = .ok (.aload_n 2, 1) := dk_44 (dk_at dksX6_meets_3 6 rfl rfl)
theorem dX6_meets_77 : decode cX6_meets 77 = .ok (.invokevirtual 69, 3) := dk_182 0 69 (dk_at dksX6_meets_3 7 rfl rfl)
theorem dX6_meets_80 : decode cX6_meets 80 = .ok (.pop, 1) := dk_87 (dk_at dksX6_meets_3 10 rfl rfl)
theorem dX6_meets_81 : decode cX6_meets 81 = .ok (.aload_n 0, 1) := dk_42 (dk_at dksX6_meets_3 11 rfl rfl)
theorem dX6_meets_82 : decode cX6_meets 82 = .ok (.aload_n 0, 1) := dk_42 (dk_at dksX6_meets_3 12 rfl rfl)
theorem dX6_meets_83 : decode cX6_meets 83 = .ok (.getfield 22, 3) := dk_180 0 22 (dk_at dksX6_meets_3 13 rfl rfl)
theorem dX6_meets_86 : decode cX6_meets 86 = .ok (.aload_n 1, 1) := dk_43 (dk_at dksX6_meets_3 16 rfl rfl)
theorem dX6_meets_87 : decode cX6_meets 87 = .ok (.aload_n 2, 1) := dk_44 (dk_at dksX6_meets_3 17 rfl rfl)
theorem dX6_meets_88 : decode cX6_meets 88 = .ok (.invokevirtual 69, 3) := dk_182 0 69 (dk_at dksX6_meets_3 18 rfl rfl)
theorem dX6_meets_91 : decode cX6_meets 91 = .ok (.pop, 1) := dk_87 (dk_at dksX6_meets_3 21 rfl rfl)
theorem dX6_meets_92 : decode cX6_meets 92 = .ok (.aload_n 0, 1) := dk_42 (dk_at dksX6_meets_3 22 rfl rfl)
theorem dX6_meets_93 : decode cX6_meets 93 = .ok (.dup, 1) := dk_89 (dk_at dksX6_meets_3 23 rfl rfl)
theorem dX6_meets_94 : decode cX6_meets 94 = .ok (.getfield 81, 3) := dk_180 0 81 (dk_at dksX6_meets_4 0 rfl rfl)
theorem dX6_meets_97 : decode cX6_meets 97 = .ok (.iconst 1, 1) := dk_4 (dk_at dksX6_meets_4 3 rfl rfl)
theorem dX6_meets_98 : decode cX6_meets 98 = .ok (.iadd, 1) := dk_96 (dk_at dksX6_meets_4 4 rfl rfl)
theorem dX6_meets_99 : decode cX6_meets 99 = .ok (.putfield 81, 3) := dk_181 0 81 (dk_at dksX6_meets_4 5 rfl rfl)
theorem dX6_meets_102 : decode cX6_meets 102 = .ok (.goto (-46), 3) := dk_167 255 210 (dk_at dksX6_meets_4 8 rfl rfl)
theorem dX6_meets_105 : decode cX6_meets 105 = .ok (.aload_n 0, 1) := dk_42 (dk_at dksX6_meets_4 11 rfl rfl)
theorem dX6_meets_106 : decode cX6_meets 106 = .ok (.aload_n 0, 1) := dk_42 (dk_at dksX6_meets_4 12 rfl rfl)
theorem dX6_meets_107 : decode cX6_meets 107 = .ok (.getfield 81, 3) := dk_180 0 81 (dk_at dksX6_meets_4 13 rfl rfl)
theorem dX6_meets_110 : decode cX6_meets 110 = .ok (.aload_n 0, 1) := dk_42 (dk_at dksX6_meets_4 16 rfl rfl)
theorem dX6_meets_111 : decode cX6_meets 111 = .ok (.getfield 62, 3) := dk_180 0 62 (dk_at dksX6_meets_4 17 rfl rfl)
theorem dX6_meets_114 : decode cX6_meets 114 = .ok (.iadd, 1) := dk_96 (dk_at dksX6_meets_4 20 rfl rfl)
theorem dX6_meets_115 : decode cX6_meets 115 = .ok (.putfield 59, 3) := dk_181 0 59 (dk_at dksX6_meets_4 21 rfl rfl)
theorem dX6_meets_118 : decode cX6_meets 118 = .ok (.aload_n 0, 1) := dk_42 (dk_at dksX6_meets_5 0 rfl rfl)
theorem dX6_meets_119 : decode cX6_meets 119 = .ok (.areturn, 1) := dk_176 (dk_at dksX6_meets_5 1 rfl rfl)
def dkwX7_init_1 : List UInt8 := [188, 10, 181, 0, 22, 42, 16, 8, 188, 10, 181, 0, 26, 177]
abbrev dktX7_init_1 : List UInt8 := dkwX7_init_1 ++ []
def dkwX7_init_0 : List UInt8 := [42, 43, 181, 0, 3, 42, 183, 0, 9, 42, 187, 0, 15, 89, 183, 0, 17, 181, 0, 18, 42, 16, 8]
abbrev dktX7_init_0 : List UInt8 := dkwX7_init_0 ++ dktX7_init_1
theorem dksX7_init_0 : cX7_init.data.toList.drop 0 = dktX7_init_0 := by decide +kernel
theorem dksX7_init_1 : cX7_init.data.toList.drop 23 = dktX7_init_1 := dk_seg dksX7_init_0 23 rfl rfl
theorem dX7_init_0 : decode cX7_init 0 = .ok (.aload_n 0, 1) := dk_42 (dk_at dksX7_init_0 0 rfl rfl)
theorem dX7_init_1 : decode cX7_init 1 = .ok (.aload_n 1, 1) := dk_43 (dk_at dksX7_init_0 1 rfl rfl)
theorem dX7_init_2 : decode cX7_init 2 = .ok (.putfield 3, 3) := dk_181 0 3 (dk_at dksX7_init_0 2 rfl rfl)
theorem dX7_init_5 : decode cX7_init 5 = .ok (.aload_n 0, 1) := dk_42 (dk_at dksX7_init_0 5 rfl rfl)
theorem dX7_init_6 : decode cX7_init 6 = .ok (.invokespecial 9, 3) := dk_183 0 9 (dk_at dksX7_init_0 6 rfl rfl)
theorem dX7_init_9 : decode cX7_init 9 = .ok (.aload_n 0, 1) := dk_42 (dk_at dksX7_init_0 9 rfl rfl)
theorem dX7_init_10 : decode cX7_init 10 = .ok (.new 15, 3) := dk_187 0 15 (dk_at dksX7_init_0 10 rfl rfl)
theorem dX7_init_13 : decode cX7_init 13 = .ok (.dup, 1) := dk_89 (dk_at dksX7_init_0 13 rfl rfl)
theorem dX7_init_14 : decode cX7_init 14 = .ok (.invokespecial 17, 3) := dk_183 0 17 (dk_at dksX7_init_0 14 rfl rfl)
theorem dX7_init_17 : decode cX7_init 17 = .ok (.putfield 18, 3) := dk_181 0 18 (dk_at dksX7_init_0 17 rfl rfl)
theorem dX7_init_20 : decode cX7_init 20 = .ok (.aload_n 0, 1) := dk_42 (dk_at dksX7_init_0 20 rfl rfl)
theorem dX7_init_21 : decode cX7_init 21 = .ok (.bipush 8, 2) := dk_16 8 (dk_at dksX7_init_0 21 rfl rfl)
theorem dX7_init_23 : decode cX7_init 23 = .ok (.newarray .int, 2) := dk_188_10 (dk_at dksX7_init_1 0 rfl rfl)
theorem dX7_init_25 : decode cX7_init 25 = .ok (.putfield 22, 3) := dk_181 0 22 (dk_at dksX7_init_1 2 rfl rfl)
theorem dX7_init_28 : decode cX7_init 28 = .ok (.aload_n 0, 1) := dk_42 (dk_at dksX7_init_1 5 rfl rfl)
theorem dX7_init_29 : decode cX7_init 29 = .ok (.bipush 8, 2) := dk_16 8 (dk_at dksX7_init_1 6 rfl rfl)
theorem dX7_init_31 : decode cX7_init 31 = .ok (.newarray .int, 2) := dk_188_10 (dk_at dksX7_init_1 8 rfl rfl)
theorem dX7_init_33 : decode cX7_init 33 = .ok (.putfield 26, 3) := dk_181 0 26 (dk_at dksX7_init_1 10 rfl rfl)
theorem dX7_init_36 : decode cX7_init 36 = .ok (.return_, 1) := dk_177 (dk_at dksX7_init_1 13 rfl rfl)
def dkwX7_of_2 : List UInt8 := [132, 2, 1, 167, 255, 235, 42, 176]
abbrev dktX7_of_2 : List UInt8 := dkwX7_of_2 ++ []
def dkwX7_of_1 : List UInt8 := [182, 0, 43, 87, 3, 61, 28, 43, 180, 0, 40, 180, 0, 47, 162, 0, 16, 42, 180, 0, 22, 28, 28, 79]
abbrev dktX7_of_1 : List UInt8 := dkwX7_of_1 ++ dktX7_of_2
def dkwX7_of_0 : List UInt8 := [42, 43, 181, 0, 29, 42, 2, 181, 0, 33, 42, 3, 181, 0, 37, 42, 180, 0, 18, 43, 180, 0, 40]
abbrev dktX7_of_0 : List UInt8 := dkwX7_of_0 ++ dktX7_of_1
theorem dksX7_of_0 : cX7_of.data.toList.drop 0 = dktX7_of_0 := by decide +kernel
theorem dksX7_of_1 : cX7_of.data.toList.drop 23 = dktX7_of_1 := dk_seg dksX7_of_0 23 rfl rfl
theorem dksX7_of_2 : cX7_of.data.toList.drop 47 = dktX7_of_2 := dk_seg dksX7_of_1 24 rfl rfl
theorem dX7_of_0 : decode cX7_of 0 = .ok (.aload_n 0, 1) := dk_42 (dk_at dksX7_of_0 0 rfl rfl)
theorem dX7_of_1 : decode cX7_of 1 = .ok (.aload_n 1, 1) := dk_43 (dk_at dksX7_of_0 1 rfl rfl)
theorem dX7_of_2 : decode cX7_of 2 = .ok (.putfield 29, 3) := dk_181 0 29 (dk_at dksX7_of_0 2 rfl rfl)
theorem dX7_of_5 : decode cX7_of 5 = .ok (.aload_n 0, 1) := dk_42 (dk_at dksX7_of_0 5 rfl rfl)
theorem dX7_of_6 : decode cX7_of 6 = .ok (.iconst (-1), 1) := dk_2 (dk_at dksX7_of_0 6 rfl rfl)
theorem dX7_of_7 : decode cX7_of 7 = .ok (.putfield 33, 3) := dk_181 0 33 (dk_at dksX7_of_0 7 rfl rfl)
theorem dX7_of_10 : decode cX7_of 10 = .ok (.aload_n 0, 1) := dk_42 (dk_at dksX7_of_0 10 rfl rfl)
theorem dX7_of_11 : decode cX7_of 11 = .ok (.iconst 0, 1) := dk_3 (dk_at dksX7_of_0 11 rfl rfl)
theorem dX7_of_12 : decode cX7_of 12 = .ok (.putfield 37, 3) := dk_181 0 37 (dk_at dksX7_of_0 12 rfl rfl)
theorem dX7_of_15 : decode cX7_of 15 = .ok (.aload_n 0, 1) := dk_42 (dk_at dksX7_of_0 15 rfl rfl)
theorem dX7_of_16 : decode cX7_of 16 = .ok (.getfield 18, 3) := dk_180 0 18 (dk_at dksX7_of_0 16 rfl rfl)
theorem dX7_of_19 : decode cX7_of 19 = .ok (.aload_n 1, 1) := dk_43 (dk_at dksX7_of_0 19 rfl rfl)
theorem dX7_of_20 : decode cX7_of 20 = .ok (.getfield 40, 3) := dk_180 0 40 (dk_at dksX7_of_0 20 rfl rfl)
theorem dX7_of_23 : decode cX7_of 23 = .ok (.invokevirtual 43, 3) := dk_182 0 43 (dk_at dksX7_of_1 0 rfl rfl)
theorem dX7_of_26 : decode cX7_of 26 = .ok (.pop, 1) := dk_87 (dk_at dksX7_of_1 3 rfl rfl)
theorem dX7_of_27 : decode cX7_of 27 = .ok (.iconst 0, 1) := dk_3 (dk_at dksX7_of_1 4 rfl rfl)
theorem dX7_of_28 : decode cX7_of 28 = .ok (.istore_n 2, 1) := dk_61 (dk_at dksX7_of_1 5 rfl rfl)
theorem dX7_of_29 : decode cX7_of 29 = .ok (.iload_n 2, 1) := dk_28 (dk_at dksX7_of_1 6 rfl rfl)
theorem dX7_of_30 : decode cX7_of 30 = .ok (.aload_n 1, 1) := dk_43 (dk_at dksX7_of_1 7 rfl rfl)
theorem dX7_of_31 : decode cX7_of 31 = .ok (.getfield 40, 3) := dk_180 0 40 (dk_at dksX7_of_1 8 rfl rfl)
theorem dX7_of_34 : decode cX7_of 34 = .ok (.getfield 47, 3) := dk_180 0 47 (dk_at dksX7_of_1 11 rfl rfl)
theorem dX7_of_37 : decode cX7_of 37 = .ok (.if_icmp .ge 16, 3) := dk_162 0 16 (dk_at dksX7_of_1 14 rfl rfl)
theorem dX7_of_40 : decode cX7_of 40 = .ok (.aload_n 0, 1) := dk_42 (dk_at dksX7_of_1 17 rfl rfl)
theorem dX7_of_41 : decode cX7_of 41 = .ok (.getfield 22, 3) := dk_180 0 22 (dk_at dksX7_of_1 18 rfl rfl)
theorem dX7_of_44 : decode cX7_of 44 = .ok (.iload_n 2, 1) := dk_28 (dk_at dksX7_of_1 21 rfl rfl)
theorem dX7_of_45 : decode cX7_of 45 = .ok (.iload_n 2, 1) := dk_28 (dk_at dksX7_of_1 22 rfl rfl)
theorem dX7_of_46 : decode cX7_of 46 = .ok (.iastore, 1) := dk_79 (dk_at dksX7_of_1 23 rfl rfl)
theorem dX7_of_47 : decode cX7_of 47 = .ok (.iinc 2 1, 3) := dk_132 2 1 (dk_at dksX7_of_2 0 rfl rfl)
theorem dX7_of_50 : decode cX7_of 50 = .ok (.goto (-21), 3) := dk_167 255 235 (dk_at dksX7_of_2 3 rfl rfl)
theorem dX7_of_53 : decode cX7_of 53 = .ok (.aload_n 0, 1) := dk_42 (dk_at dksX7_of_2 6 rfl rfl)
theorem dX7_of_54 : decode cX7_of 54 = .ok (.areturn, 1) := dk_176 (dk_at dksX7_of_2 7 rfl rfl)
def dkwX7_search_4 : List UInt8 := [42, 27, 4, 96, 28, 4, 29, 120, 128, 182, 0, 70, 87, 132, 3, 1, 167, 255, 211, 42, 176]
abbrev dktX7_search_4 : List UInt8 := dkwX7_search_4 ++ []
def dkwX7_search_3 : List UInt8 := [180, 0, 47, 162, 0, 40, 28, 29, 122, 4, 126, 4, 160, 0, 6, 167, 0, 22, 42, 27, 29, 182, 0, 66]
abbrev dktX7_search_3 : List UInt8 := dkwX7_search_3 ++ dktX7_search_4
def dkwX7_search_2 : List UInt8 := [180, 0, 22, 21, 4, 46, 79, 132, 4, 1, 167, 255, 233, 42, 176, 3, 62, 29, 42, 180, 0, 18]
abbrev dktX7_search_2 : List UInt8 := dkwX7_search_2 ++ dktX7_search_3
def dkwX7_search_1 : List UInt8 := [42, 176, 42, 29, 181, 0, 33, 3, 54, 4, 21, 4, 27, 162, 0, 23, 42, 180, 0, 26, 21, 4, 42]
abbrev dktX7_search_1 : List UInt8 := dkwX7_search_1 ++ dktX7_search_2
def dkwX7_search_0 : List UInt8 := [27, 42, 180, 0, 18, 180, 0, 47, 160, 0, 54, 42, 182, 0, 62, 62, 29, 42, 180, 0, 33, 163, 0, 5]
abbrev dktX7_search_0 : List UInt8 := dkwX7_search_0 ++ dktX7_search_1
theorem dksX7_search_0 : cX7_search.data.toList.drop 0 = dktX7_search_0 := by decide +kernel
theorem dksX7_search_1 : cX7_search.data.toList.drop 24 = dktX7_search_1 := dk_seg dksX7_search_0 24 rfl rfl
theorem dksX7_search_2 : cX7_search.data.toList.drop 47 = dktX7_search_2 := dk_seg dksX7_search_1 23 rfl rfl
theorem dksX7_search_3 : cX7_search.data.toList.drop 69 = dktX7_search_3 := dk_seg dksX7_search_2 22 rfl rfl
theorem dksX7_search_4 : cX7_search.data.toList.drop 93 = dktX7_search_4 := dk_seg dksX7_search_3 24 rfl rfl
theorem dX7_search_0 : decode cX7_search 0 = .ok (.iload_n 1, 1) := dk_27 (dk_at dksX7_search_0 0 rfl rfl)
theorem dX7_search_1 : decode cX7_search 1 = .ok (.aload_n 0, 1) := dk_42 (dk_at dksX7_search_0 1 rfl rfl)
theorem dX7_search_2 : decode cX7_search 2 = .ok (.getfield 18, 3) := dk_180 0 18 (dk_at dksX7_search_0 2 rfl rfl)
theorem dX7_search_5 : decode cX7_search 5 = .ok (.getfield 47, 3) := dk_180 0 47 (dk_at dksX7_search_0 5 rfl rfl)
theorem dX7_search_8 : decode cX7_search 8 = .ok (.if_icmp .ne 54, 3) := dk_160 0 54 (dk_at dksX7_search_0 8 rfl rfl)
theorem dX7_search_11 : decode cX7_search 11 = .ok (.aload_n 0, 1) := dk_42 (dk_at dksX7_search_0 11 rfl rfl)
theorem dX7_search_12 : decode cX7_search 12 = .ok (.invokevirtual 62, 3) := dk_182 0 62 (dk_at dksX7_search_0 12 rfl rfl)
theorem dX7_search_15 : decode cX7_search 15 = .ok (.istore_n 3, 1) := dk_62 (dk_at dksX7_search_0 15 rfl rfl)
theorem dX7_search_16 : decode cX7_search 16 = .ok (.iload_n 3, 1) := dk_29 (dk_at dksX7_search_0 16 rfl rfl)
theorem dX7_search_17 : decode cX7_search 17 = .ok (.aload_n 0, 1) := dk_42 (dk_at dksX7_search_0 17 rfl rfl)
theorem dX7_search_18 : decode cX7_search 18 = .ok (.getfield 33, 3) := dk_180 0 33 (dk_at dksX7_search_0 18 rfl rfl)
theorem dX7_search_21 : decode cX7_search 21 = .ok (.if_icmp .gt 5, 3) := dk_163 0 5 (dk_at dksX7_search_0 21 rfl rfl)
theorem dX7_search_24 : decode cX7_search 24 = .ok (.aload_n 0, 1) := dk_42 (dk_at dksX7_search_1 0 rfl rfl)
theorem dX7_search_25 : decode cX7_search 25 = .ok (.areturn, 1) := dk_176 (dk_at dksX7_search_1 1 rfl rfl)
theorem dX7_search_26 : decode cX7_search 26 = .ok (.aload_n 0, 1) := dk_42 (dk_at dksX7_search_1 2 rfl rfl)
theorem dX7_search_27 : decode cX7_search 27 = .ok (.iload_n 3, 1) := dk_29 (dk_at dksX7_search_1 3 rfl rfl)
theorem dX7_search_28 : decode cX7_search 28 = .ok (.putfield 33, 3) := dk_181 0 33 (dk_at dksX7_search_1 4 rfl rfl)
theorem dX7_search_31 : decode cX7_search 31 = .ok (.iconst 0, 1) := dk_3 (dk_at dksX7_search_1 7 rfl rfl)
theorem dX7_search_32 : decode cX7_search 32 = .ok (.istore 4, 2) := dk_54 4 (dk_at dksX7_search_1 8 rfl rfl)
theorem dX7_search_34 : decode cX7_search 34 = .ok (.iload 4, 2) := dk_21 4 (dk_at dksX7_search_1 10 rfl rfl)
theorem dX7_search_36 : decode cX7_search 36 = .ok (.iload_n 1, 1) := dk_27 (dk_at dksX7_search_1 12 rfl rfl)
theorem dX7_search_37 : decode cX7_search 37 = .ok (.if_icmp .ge 23, 3) := dk_162 0 23 (dk_at dksX7_search_1 13 rfl rfl)
theorem dX7_search_40 : decode cX7_search 40 = .ok (.aload_n 0, 1) := dk_42 (dk_at dksX7_search_1 16 rfl rfl)
theorem dX7_search_41 : decode cX7_search 41 = .ok (.getfield 26, 3) := dk_180 0 26 (dk_at dksX7_search_1 17 rfl rfl)
theorem dX7_search_44 : decode cX7_search 44 = .ok (.iload 4, 2) := dk_21 4 (dk_at dksX7_search_1 20 rfl rfl)
theorem dX7_search_46 : decode cX7_search 46 = .ok (.aload_n 0, 1) := dk_42 (dk_at dksX7_search_1 22 rfl rfl)
theorem dX7_search_47 : decode cX7_search 47 = .ok (.getfield 22, 3) := dk_180 0 22 (dk_at dksX7_search_2 0 rfl rfl)
theorem dX7_search_50 : decode cX7_search 50 = .ok (.iload 4, 2) := dk_21 4 (dk_at dksX7_search_2 3 rfl rfl)
theorem dX7_search_52 : decode cX7_search 52 = .ok (.iaload, 1) := dk_46 (dk_at dksX7_search_2 5 rfl rfl)
theorem dX7_search_53 : decode cX7_search 53 = .ok (.iastore, 1) := dk_79 (dk_at dksX7_search_2 6 rfl rfl)
theorem dX7_search_54 : decode cX7_search 54 = .ok (.iinc 4 1, 3) := dk_132 4 1 (dk_at dksX7_search_2 7 rfl rfl)
theorem dX7_search_57 : decode cX7_search 57 = .ok (.goto (-23), 3) := dk_167 255 233 (dk_at dksX7_search_2 10 rfl rfl)
theorem dX7_search_60 : decode cX7_search 60 = .ok (.aload_n 0, 1) := dk_42 (dk_at dksX7_search_2 13 rfl rfl)
theorem dX7_search_61 : decode cX7_search 61 = .ok (.areturn, 1) := dk_176 (dk_at dksX7_search_2 14 rfl rfl)
theorem dX7_search_62 : decode cX7_search 62 = .ok (.iconst 0, 1) := dk_3 (dk_at dksX7_search_2 15 rfl rfl)
theorem dX7_search_63 : decode cX7_search 63 = .ok (.istore_n 3, 1) := dk_62 (dk_at dksX7_search_2 16 rfl rfl)
theorem dX7_search_64 : decode cX7_search 64 = .ok (.iload_n 3, 1) := dk_29 (dk_at dksX7_search_2 17 rfl rfl)
theorem dX7_search_65 : decode cX7_search 65 = .ok (.aload_n 0, 1) := dk_42 (dk_at dksX7_search_2 18 rfl rfl)
theorem dX7_search_66 : decode cX7_search 66 = .ok (.getfield 18, 3) := dk_180 0 18 (dk_at dksX7_search_2 19 rfl rfl)
theorem dX7_search_69 : decode cX7_search 69 = .ok (.getfield 47, 3) := dk_180 0 47 (dk_at dksX7_search_3 0 rfl rfl)
theorem dX7_search_72 : decode cX7_search 72 = .ok (.if_icmp .ge 40, 3) := dk_162 0 40 (dk_at dksX7_search_3 3 rfl rfl)
theorem dX7_search_75 : decode cX7_search 75 = .ok (.iload_n 2, 1) := dk_28 (dk_at dksX7_search_3 6 rfl rfl)
theorem dX7_search_76 : decode cX7_search 76 = .ok (.iload_n 3, 1) := dk_29 (dk_at dksX7_search_3 7 rfl rfl)
theorem dX7_search_77 : decode cX7_search 77 = .ok (.ishr, 1) := dk_122 (dk_at dksX7_search_3 8 rfl rfl)
theorem dX7_search_78 : decode cX7_search 78 = .ok (.iconst 1, 1) := dk_4 (dk_at dksX7_search_3 9 rfl rfl)
theorem dX7_search_79 : decode cX7_search 79 = .ok (.iand, 1) := dk_126 (dk_at dksX7_search_3 10 rfl rfl)
theorem dX7_search_80 : decode cX7_search 80 = .ok (.iconst 1, 1) := dk_4 (dk_at dksX7_search_3 11 rfl rfl)
theorem dX7_search_81 : decode cX7_search 81 = .ok (.if_icmp .ne 6, 3) := dk_160 0 6 (dk_at dksX7_search_3 12 rfl rfl)
theorem dX7_search_84 : decode cX7_search 84 = .ok (.goto 22, 3) := dk_167 0 22 (dk_at dksX7_search_3 15 rfl rfl)
theorem dX7_search_87 : decode cX7_search 87 = .ok (.aload_n 0, 1) := dk_42 (dk_at dksX7_search_3 18 rfl rfl)
theorem dX7_search_88 : decode cX7_search 88 = .ok (.iload_n 1, 1) := dk_27 (dk_at dksX7_search_3 19 rfl rfl)
theorem dX7_search_89 : decode cX7_search 89 = .ok (.iload_n 3, 1) := dk_29 (dk_at dksX7_search_3 20 rfl rfl)
theorem dX7_search_90 : decode cX7_search 90 = .ok (.invokevirtual 66, 3) := dk_182 0 66 (dk_at dksX7_search_3 21 rfl rfl)
theorem dX7_search_93 : decode cX7_search 93 = .ok (.aload_n 0, 1) := dk_42 (dk_at dksX7_search_4 0 rfl rfl)
theorem dX7_search_94 : decode cX7_search 94 = .ok (.iload_n 1, 1) := dk_27 (dk_at dksX7_search_4 1 rfl rfl)
theorem dX7_search_95 : decode cX7_search 95 = .ok (.iconst 1, 1) := dk_4 (dk_at dksX7_search_4 2 rfl rfl)
theorem dX7_search_96 : decode cX7_search 96 = .ok (.iadd, 1) := dk_96 (dk_at dksX7_search_4 3 rfl rfl)
theorem dX7_search_97 : decode cX7_search 97 = .ok (.iload_n 2, 1) := dk_28 (dk_at dksX7_search_4 4 rfl rfl)
theorem dX7_search_98 : decode cX7_search 98 = .ok (.iconst 1, 1) := dk_4 (dk_at dksX7_search_4 5 rfl rfl)
theorem dX7_search_99 : decode cX7_search 99 = .ok (.iload_n 3, 1) := dk_29 (dk_at dksX7_search_4 6 rfl rfl)
theorem dX7_search_100 : decode cX7_search 100 = .ok (.ishl, 1) := dk_120 (dk_at dksX7_search_4 7 rfl rfl)
theorem dX7_search_101 : decode cX7_search 101 = .ok (.ior, 1) := dk_128 (dk_at dksX7_search_4 8 rfl rfl)
theorem dX7_search_102 : decode cX7_search 102 = .ok (.invokevirtual 70, 3) := dk_182 0 70 (dk_at dksX7_search_4 9 rfl rfl)
theorem dX7_search_105 : decode cX7_search 105 = .ok (.pop, 1) := dk_87 (dk_at dksX7_search_4 12 rfl rfl)
theorem dX7_search_106 : decode cX7_search 106 = .ok (.iinc 3 1, 3) := dk_132 3 1 (dk_at dksX7_search_4 13 rfl rfl)
theorem dX7_search_109 : decode cX7_search 109 = .ok (.goto (-45), 3) := dk_167 255 211 (dk_at dksX7_search_4 16 rfl rfl)
theorem dX7_search_112 : decode cX7_search 112 = .ok (.aload_n 0, 1) := dk_42 (dk_at dksX7_search_4 19 rfl rfl)
theorem dX7_search_113 : decode cX7_search 113 = .ok (.areturn, 1) := dk_176 (dk_at dksX7_search_4 20 rfl rfl)
def dkwX7_many_0 : List UInt8 := [42, 180, 0, 3, 42, 180, 0, 18, 42, 180, 0, 29, 180, 0, 50, 182, 0, 54, 172]
abbrev dktX7_many_0 : List UInt8 := dkwX7_many_0 ++ []
theorem dksX7_many_0 : cX7_many.data.toList.drop 0 = dktX7_many_0 := by decide +kernel
theorem dX7_many_0 : decode cX7_many 0 = .ok (.aload_n 0, 1) := dk_42 (dk_at dksX7_many_0 0 rfl rfl)
theorem dX7_many_1 : decode cX7_many 1 = .ok (.getfield 3, 3) := dk_180 0 3 (dk_at dksX7_many_0 1 rfl rfl)
theorem dX7_many_4 : decode cX7_many 4 = .ok (.aload_n 0, 1) := dk_42 (dk_at dksX7_many_0 4 rfl rfl)
theorem dX7_many_5 : decode cX7_many 5 = .ok (.getfield 18, 3) := dk_180 0 18 (dk_at dksX7_many_0 5 rfl rfl)
theorem dX7_many_8 : decode cX7_many 8 = .ok (.aload_n 0, 1) := dk_42 (dk_at dksX7_many_0 8 rfl rfl)
theorem dX7_many_9 : decode cX7_many 9 = .ok (.getfield 29, 3) := dk_180 0 29 (dk_at dksX7_many_0 9 rfl rfl)
theorem dX7_many_12 : decode cX7_many 12 = .ok (.getfield 50, 3) := dk_180 0 50 (dk_at dksX7_many_0 12 rfl rfl)
theorem dX7_many_15 : decode cX7_many 15 = .ok (.invokevirtual 54, 3) := dk_182 0 54 (dk_at dksX7_many_0 15 rfl rfl)
theorem dX7_many_18 : decode cX7_many 18 = .ok (.ireturn, 1) := dk_172 (dk_at dksX7_many_0 18 rfl rfl)
def dkwX7_puts_1 : List UInt8 := [180, 0, 58, 28, 50, 83, 177]
abbrev dktX7_puts_1 : List UInt8 := dkwX7_puts_1 ++ []
def dkwX7_puts_0 : List UInt8 := [42, 180, 0, 22, 27, 28, 79, 42, 180, 0, 18, 180, 0, 58, 27, 42, 180, 0, 29, 180, 0, 40]
abbrev dktX7_puts_0 : List UInt8 := dkwX7_puts_0 ++ dktX7_puts_1
theorem dksX7_puts_0 : cX7_puts.data.toList.drop 0 = dktX7_puts_0 := by decide +kernel
theorem dksX7_puts_1 : cX7_puts.data.toList.drop 22 = dktX7_puts_1 := dk_seg dksX7_puts_0 22 rfl rfl
theorem dX7_puts_0 : decode cX7_puts 0 = .ok (.aload_n 0, 1) := dk_42 (dk_at dksX7_puts_0 0 rfl rfl)
theorem dX7_puts_1 : decode cX7_puts 1 = .ok (.getfield 22, 3) := dk_180 0 22 (dk_at dksX7_puts_0 1 rfl rfl)
theorem dX7_puts_4 : decode cX7_puts 4 = .ok (.iload_n 1, 1) := dk_27 (dk_at dksX7_puts_0 4 rfl rfl)
theorem dX7_puts_5 : decode cX7_puts 5 = .ok (.iload_n 2, 1) := dk_28 (dk_at dksX7_puts_0 5 rfl rfl)
theorem dX7_puts_6 : decode cX7_puts 6 = .ok (.iastore, 1) := dk_79 (dk_at dksX7_puts_0 6 rfl rfl)
theorem dX7_puts_7 : decode cX7_puts 7 = .ok (.aload_n 0, 1) := dk_42 (dk_at dksX7_puts_0 7 rfl rfl)
theorem dX7_puts_8 : decode cX7_puts 8 = .ok (.getfield 18, 3) := dk_180 0 18 (dk_at dksX7_puts_0 8 rfl rfl)
theorem dX7_puts_11 : decode cX7_puts 11 = .ok (.getfield 58, 3) := dk_180 0 58 (dk_at dksX7_puts_0 11 rfl rfl)
theorem dX7_puts_14 : decode cX7_puts 14 = .ok (.iload_n 1, 1) := dk_27 (dk_at dksX7_puts_0 14 rfl rfl)
theorem dX7_puts_15 : decode cX7_puts 15 = .ok (.aload_n 0, 1) := dk_42 (dk_at dksX7_puts_0 15 rfl rfl)
theorem dX7_puts_16 : decode cX7_puts 16 = .ok (.getfield 29, 3) := dk_180 0 29 (dk_at dksX7_puts_0 16 rfl rfl)
theorem dX7_puts_19 : decode cX7_puts 19 = .ok (.getfield 40, 3) := dk_180 0 40 (dk_at dksX7_puts_0 19 rfl rfl)
theorem dX7_puts_22 : decode cX7_puts 22 = .ok (.getfield 58, 3) := dk_180 0 58 (dk_at dksX7_puts_1 0 rfl rfl)
theorem dX7_puts_25 : decode cX7_puts 25 = .ok (.iload_n 2, 1) := dk_28 (dk_at dksX7_puts_1 3 rfl rfl)
theorem dX7_puts_26 : decode cX7_puts 26 = .ok (.aaload, 1) := dk_50 (dk_at dksX7_puts_1 4 rfl rfl)
theorem dX7_puts_27 : decode cX7_puts 27 = .ok (.aastore, 1) := dk_83 (dk_at dksX7_puts_1 5 rfl rfl)
theorem dX7_puts_28 : decode cX7_puts 28 = .ok (.return_, 1) := dk_177 (dk_at dksX7_puts_1 6 rfl rfl)
def dkwX7_tells_1 : List UInt8 := [133, 184, 0, 81, 153, 0, 12, 42, 180, 0, 26, 27, 46, 167, 0, 4, 2, 172]
abbrev dktX7_tells_1 : List UInt8 := dkwX7_tells_1 ++ []
def dkwX7_tells_0 : List UInt8 := [27, 2, 160, 0, 10, 42, 180, 0, 33, 167, 0, 32, 27, 133, 9, 42, 180, 0, 18, 180, 0, 47, 4, 100]
abbrev dktX7_tells_0 : List UInt8 := dkwX7_tells_0 ++ dktX7_tells_1
theorem dksX7_tells_0 : cX7_tells.data.toList.drop 0 = dktX7_tells_0 := by decide +kernel
theorem dksX7_tells_1 : cX7_tells.data.toList.drop 24 = dktX7_tells_1 := dk_seg dksX7_tells_0 24 rfl rfl
theorem dX7_tells_0 : decode cX7_tells 0 = .ok (.iload_n 1, 1) := dk_27 (dk_at dksX7_tells_0 0 rfl rfl)
theorem dX7_tells_1 : decode cX7_tells 1 = .ok (.iconst (-1), 1) := dk_2 (dk_at dksX7_tells_0 1 rfl rfl)
theorem dX7_tells_2 : decode cX7_tells 2 = .ok (.if_icmp .ne 10, 3) := dk_160 0 10 (dk_at dksX7_tells_0 2 rfl rfl)
theorem dX7_tells_5 : decode cX7_tells 5 = .ok (.aload_n 0, 1) := dk_42 (dk_at dksX7_tells_0 5 rfl rfl)
theorem dX7_tells_6 : decode cX7_tells 6 = .ok (.getfield 33, 3) := dk_180 0 33 (dk_at dksX7_tells_0 6 rfl rfl)
theorem dX7_tells_9 : decode cX7_tells 9 = .ok (.goto 32, 3) := dk_167 0 32 (dk_at dksX7_tells_0 9 rfl rfl)
theorem dX7_tells_12 : decode cX7_tells 12 = .ok (.iload_n 1, 1) := dk_27 (dk_at dksX7_tells_0 12 rfl rfl)
theorem dX7_tells_13 : decode cX7_tells 13 = .ok (.i2l, 1) := dk_133 (dk_at dksX7_tells_0 13 rfl rfl)
theorem dX7_tells_14 : decode cX7_tells 14 = .ok (.lconst 0, 1) := dk_9 (dk_at dksX7_tells_0 14 rfl rfl)
theorem dX7_tells_15 : decode cX7_tells 15 = .ok (.aload_n 0, 1) := dk_42 (dk_at dksX7_tells_0 15 rfl rfl)
theorem dX7_tells_16 : decode cX7_tells 16 = .ok (.getfield 18, 3) := dk_180 0 18 (dk_at dksX7_tells_0 16 rfl rfl)
theorem dX7_tells_19 : decode cX7_tells 19 = .ok (.getfield 47, 3) := dk_180 0 47 (dk_at dksX7_tells_0 19 rfl rfl)
theorem dX7_tells_22 : decode cX7_tells 22 = .ok (.iconst 1, 1) := dk_4 (dk_at dksX7_tells_0 22 rfl rfl)
theorem dX7_tells_23 : decode cX7_tells 23 = .ok (.isub, 1) := dk_100 (dk_at dksX7_tells_0 23 rfl rfl)
theorem dX7_tells_24 : decode cX7_tells 24 = .ok (.i2l, 1) := dk_133 (dk_at dksX7_tells_1 0 rfl rfl)
theorem dX7_tells_25 : decode cX7_tells 25 = .ok (.invokestatic 81, 3) := dk_184 0 81 (dk_at dksX7_tells_1 1 rfl rfl)
theorem dX7_tells_28 : decode cX7_tells 28 = .ok (.ifCond .eq 12, 3) := dk_153 0 12 (dk_at dksX7_tells_1 4 rfl rfl)
theorem dX7_tells_31 : decode cX7_tells 31 = .ok (.aload_n 0, 1) := dk_42 (dk_at dksX7_tells_1 7 rfl rfl)
theorem dX7_tells_32 : decode cX7_tells 32 = .ok (.getfield 26, 3) := dk_180 0 26 (dk_at dksX7_tells_1 8 rfl rfl)
theorem dX7_tells_35 : decode cX7_tells 35 = .ok (.iload_n 1, 1) := dk_27 (dk_at dksX7_tells_1 11 rfl rfl)
theorem dX7_tells_36 : decode cX7_tells 36 = .ok (.iaload, 1) := dk_46 (dk_at dksX7_tells_1 12 rfl rfl)
theorem dX7_tells_37 : decode cX7_tells 37 = .ok (.goto 4, 3) := dk_167 0 4 (dk_at dksX7_tells_1 13 rfl rfl)
theorem dX7_tells_40 : decode cX7_tells 40 = .ok (.iconst (-1), 1) := dk_2 (dk_at dksX7_tells_1 16 rfl rfl)
theorem dX7_tells_41 : decode cX7_tells 41 = .ok (.ireturn, 1) := dk_172 (dk_at dksX7_tells_1 17 rfl rfl)
def dkwX7_mends_2 : List UInt8 := [42, 180, 0, 22, 27, 46, 79, 132, 1, 1, 167, 255, 230, 42, 176]
abbrev dktX7_mends_2 : List UInt8 := dkwX7_mends_2 ++ []
def dkwX7_mends_1 : List UInt8 := [181, 0, 37, 167, 255, 239, 3, 60, 27, 42, 180, 0, 18, 180, 0, 47, 162, 0, 21, 42, 180, 0, 26, 27]
abbrev dktX7_mends_1 : List UInt8 := dkwX7_mends_1 ++ dktX7_mends_2
def dkwX7_mends_0 : List UInt8 := [42, 42, 182, 0, 62, 181, 0, 33, 42, 182, 0, 77, 153, 0, 16, 42, 89, 180, 0, 37, 4, 96]
abbrev dktX7_mends_0 : List UInt8 := dkwX7_mends_0 ++ dktX7_mends_1
theorem dksX7_mends_0 : cX7_mends.data.toList.drop 0 = dktX7_mends_0 := by decide +kernel
theorem dksX7_mends_1 : cX7_mends.data.toList.drop 22 = dktX7_mends_1 := dk_seg dksX7_mends_0 22 rfl rfl
theorem dksX7_mends_2 : cX7_mends.data.toList.drop 46 = dktX7_mends_2 := dk_seg dksX7_mends_1 24 rfl rfl
theorem dX7_mends_0 : decode cX7_mends 0 = .ok (.aload_n 0, 1) := dk_42 (dk_at dksX7_mends_0 0 rfl rfl)
theorem dX7_mends_1 : decode cX7_mends 1 = .ok (.aload_n 0, 1) := dk_42 (dk_at dksX7_mends_0 1 rfl rfl)
theorem dX7_mends_2 : decode cX7_mends 2 = .ok (.invokevirtual 62, 3) := dk_182 0 62 (dk_at dksX7_mends_0 2 rfl rfl)
theorem dX7_mends_5 : decode cX7_mends 5 = .ok (.putfield 33, 3) := dk_181 0 33 (dk_at dksX7_mends_0 5 rfl rfl)
theorem dX7_mends_8 : decode cX7_mends 8 = .ok (.aload_n 0, 1) := dk_42 (dk_at dksX7_mends_0 8 rfl rfl)
theorem dX7_mends_9 : decode cX7_mends 9 = .ok (.invokevirtual 77, 3) := dk_182 0 77 (dk_at dksX7_mends_0 9 rfl rfl)
theorem dX7_mends_12 : decode cX7_mends 12 = .ok (.ifCond .eq 16, 3) := dk_153 0 16 (dk_at dksX7_mends_0 12 rfl rfl)
theorem dX7_mends_15 : decode cX7_mends 15 = .ok (.aload_n 0, 1) := dk_42 (dk_at dksX7_mends_0 15 rfl rfl)
theorem dX7_mends_16 : decode cX7_mends 16 = .ok (.dup, 1) := dk_89 (dk_at dksX7_mends_0 16 rfl rfl)
theorem dX7_mends_17 : decode cX7_mends 17 = .ok (.getfield 37, 3) := dk_180 0 37 (dk_at dksX7_mends_0 17 rfl rfl)
theorem dX7_mends_20 : decode cX7_mends 20 = .ok (.iconst 1, 1) := dk_4 (dk_at dksX7_mends_0 20 rfl rfl)
theorem dX7_mends_21 : decode cX7_mends 21 = .ok (.iadd, 1) := dk_96 (dk_at dksX7_mends_0 21 rfl rfl)
theorem dX7_mends_22 : decode cX7_mends 22 = .ok (.putfield 37, 3) := dk_181 0 37 (dk_at dksX7_mends_1 0 rfl rfl)
theorem dX7_mends_25 : decode cX7_mends 25 = .ok (.goto (-17), 3) := dk_167 255 239 (dk_at dksX7_mends_1 3 rfl rfl)
theorem dX7_mends_28 : decode cX7_mends 28 = .ok (.iconst 0, 1) := dk_3 (dk_at dksX7_mends_1 6 rfl rfl)
theorem dX7_mends_29 : decode cX7_mends 29 = .ok (.istore_n 1, 1) := dk_60 (dk_at dksX7_mends_1 7 rfl rfl)
theorem dX7_mends_30 : decode cX7_mends 30 = .ok (.iload_n 1, 1) := dk_27 (dk_at dksX7_mends_1 8 rfl rfl)
theorem dX7_mends_31 : decode cX7_mends 31 = .ok (.aload_n 0, 1) := dk_42 (dk_at dksX7_mends_1 9 rfl rfl)
theorem dX7_mends_32 : decode cX7_mends 32 = .ok (.getfield 18, 3) := dk_180 0 18 (dk_at dksX7_mends_1 10 rfl rfl)
theorem dX7_mends_35 : decode cX7_mends 35 = .ok (.getfield 47, 3) := dk_180 0 47 (dk_at dksX7_mends_1 13 rfl rfl)
theorem dX7_mends_38 : decode cX7_mends 38 = .ok (.if_icmp .ge 21, 3) := dk_162 0 21 (dk_at dksX7_mends_1 16 rfl rfl)
theorem dX7_mends_41 : decode cX7_mends 41 = .ok (.aload_n 0, 1) := dk_42 (dk_at dksX7_mends_1 19 rfl rfl)
theorem dX7_mends_42 : decode cX7_mends 42 = .ok (.getfield 26, 3) := dk_180 0 26 (dk_at dksX7_mends_1 20 rfl rfl)
theorem dX7_mends_45 : decode cX7_mends 45 = .ok (.iload_n 1, 1) := dk_27 (dk_at dksX7_mends_1 23 rfl rfl)
theorem dX7_mends_46 : decode cX7_mends 46 = .ok (.aload_n 0, 1) := dk_42 (dk_at dksX7_mends_2 0 rfl rfl)
theorem dX7_mends_47 : decode cX7_mends 47 = .ok (.getfield 22, 3) := dk_180 0 22 (dk_at dksX7_mends_2 1 rfl rfl)
theorem dX7_mends_50 : decode cX7_mends 50 = .ok (.iload_n 1, 1) := dk_27 (dk_at dksX7_mends_2 4 rfl rfl)
theorem dX7_mends_51 : decode cX7_mends 51 = .ok (.iaload, 1) := dk_46 (dk_at dksX7_mends_2 5 rfl rfl)
theorem dX7_mends_52 : decode cX7_mends 52 = .ok (.iastore, 1) := dk_79 (dk_at dksX7_mends_2 6 rfl rfl)
theorem dX7_mends_53 : decode cX7_mends 53 = .ok (.iinc 1 1, 3) := dk_132 1 1 (dk_at dksX7_mends_2 7 rfl rfl)
theorem dX7_mends_56 : decode cX7_mends 56 = .ok (.goto (-26), 3) := dk_167 255 230 (dk_at dksX7_mends_2 10 rfl rfl)
theorem dX7_mends_59 : decode cX7_mends 59 = .ok (.aload_n 0, 1) := dk_42 (dk_at dksX7_mends_2 13 rfl rfl)
theorem dX7_mends_60 : decode cX7_mends 60 = .ok (.areturn, 1) := dk_176 (dk_at dksX7_mends_2 14 rfl rfl)
def dkwX7_isBetter_4 : List UInt8 := [27, 2, 160, 0, 5, 3, 172, 42, 27, 28, 182, 0, 74, 42, 29, 181, 0, 33, 4, 172]
abbrev dktX7_isBetter_4 : List UInt8 := dkwX7_isBetter_4 ++ []
def dkwX7_isBetter_3 : List UInt8 := [167, 0, 12, 21, 6, 62, 21, 4, 60, 21, 5, 61, 132, 5, 1, 167, 255, 201, 132, 4, 1, 167, 255, 177]
abbrev dktX7_isBetter_3 : List UInt8 := dkwX7_isBetter_3 ++ dktX7_isBetter_4
def dkwX7_isBetter_2 : List UInt8 := [182, 0, 74, 42, 182, 0, 62, 54, 6, 42, 21, 4, 21, 5, 182, 0, 74, 21, 6, 29, 163, 0, 6]
abbrev dktX7_isBetter_2 : List UInt8 := dkwX7_isBetter_2 ++ dktX7_isBetter_3
def dkwX7_isBetter_1 : List UInt8 := [21, 4, 4, 96, 54, 5, 21, 5, 42, 180, 0, 18, 180, 0, 47, 162, 0, 49, 42, 21, 4, 21, 5]
abbrev dktX7_isBetter_1 : List UInt8 := dkwX7_isBetter_1 ++ dktX7_isBetter_2
def dkwX7_isBetter_0 : List UInt8 := [2, 60, 2, 61, 42, 180, 0, 33, 62, 3, 54, 4, 21, 4, 42, 180, 0, 18, 180, 0, 47, 162, 0, 73]
abbrev dktX7_isBetter_0 : List UInt8 := dkwX7_isBetter_0 ++ dktX7_isBetter_1
theorem dksX7_isBetter_0 : cX7_isBetter.data.toList.drop 0 = dktX7_isBetter_0 := by decide +kernel
theorem dksX7_isBetter_1 : cX7_isBetter.data.toList.drop 24 = dktX7_isBetter_1 := dk_seg dksX7_isBetter_0 24 rfl rfl
theorem dksX7_isBetter_2 : cX7_isBetter.data.toList.drop 47 = dktX7_isBetter_2 := dk_seg dksX7_isBetter_1 23 rfl rfl
theorem dksX7_isBetter_3 : cX7_isBetter.data.toList.drop 70 = dktX7_isBetter_3 := dk_seg dksX7_isBetter_2 23 rfl rfl
theorem dksX7_isBetter_4 : cX7_isBetter.data.toList.drop 94 = dktX7_isBetter_4 := dk_seg dksX7_isBetter_3 24 rfl rfl
theorem dX7_isBetter_0 : decode cX7_isBetter 0 = .ok (.iconst (-1), 1) := dk_2 (dk_at dksX7_isBetter_0 0 rfl rfl)
theorem dX7_isBetter_1 : decode cX7_isBetter 1 = .ok (.istore_n 1, 1) := dk_60 (dk_at dksX7_isBetter_0 1 rfl rfl)
theorem dX7_isBetter_2 : decode cX7_isBetter 2 = .ok (.iconst (-1), 1) := dk_2 (dk_at dksX7_isBetter_0 2 rfl rfl)
theorem dX7_isBetter_3 : decode cX7_isBetter 3 = .ok (.istore_n 2, 1) := dk_61 (dk_at dksX7_isBetter_0 3 rfl rfl)
theorem dX7_isBetter_4 : decode cX7_isBetter 4 = .ok (.aload_n 0, 1) := dk_42 (dk_at dksX7_isBetter_0 4 rfl rfl)
theorem dX7_isBetter_5 : decode cX7_isBetter 5 = .ok (.getfield 33, 3) := dk_180 0 33 (dk_at dksX7_isBetter_0 5 rfl rfl)
theorem dX7_isBetter_8 : decode cX7_isBetter 8 = .ok (.istore_n 3, 1) := dk_62 (dk_at dksX7_isBetter_0 8 rfl rfl)
theorem dX7_isBetter_9 : decode cX7_isBetter 9 = .ok (.iconst 0, 1) := dk_3 (dk_at dksX7_isBetter_0 9 rfl rfl)
theorem dX7_isBetter_10 : decode cX7_isBetter 10 = .ok (.istore 4, 2) := dk_54 4 (dk_at dksX7_isBetter_0 10 rfl rfl)
theorem dX7_isBetter_12 : decode cX7_isBetter 12 = .ok (.iload 4, 2) := dk_21 4 (dk_at dksX7_isBetter_0 12 rfl rfl)
theorem dX7_isBetter_14 : decode cX7_isBetter 14 = .ok (.aload_n 0, 1) := dk_42 (dk_at dksX7_isBetter_0 14 rfl rfl)
theorem dX7_isBetter_15 : decode cX7_isBetter 15 = .ok (.getfield 18, 3) := dk_180 0 18 (dk_at dksX7_isBetter_0 15 rfl rfl)
theorem dX7_isBetter_18 : decode cX7_isBetter 18 = .ok (.getfield 47, 3) := dk_180 0 47 (dk_at dksX7_isBetter_0 18 rfl rfl)
theorem dX7_isBetter_21 : decode cX7_isBetter 21 = .ok (.if_icmp .ge 73, 3) := dk_162 0 73 (dk_at dksX7_isBetter_0 21 rfl rfl)
theorem dX7_isBetter_24 : decode cX7_isBetter 24 = .ok (.iload 4, 2) := dk_21 4 (dk_at dksX7_isBetter_1 0 rfl rfl)
theorem dX7_isBetter_26 : decode cX7_isBetter 26 = .ok (.iconst 1, 1) := dk_4 (dk_at dksX7_isBetter_1 2 rfl rfl)
theorem dX7_isBetter_27 : decode cX7_isBetter 27 = .ok (.iadd, 1) := dk_96 (dk_at dksX7_isBetter_1 3 rfl rfl)
theorem dX7_isBetter_28 : decode cX7_isBetter 28 = .ok (.istore 5, 2) := dk_54 5 (dk_at dksX7_isBetter_1 4 rfl rfl)
theorem dX7_isBetter_30 : decode cX7_isBetter 30 = .ok (.iload 5, 2) := dk_21 5 (dk_at dksX7_isBetter_1 6 rfl rfl)
theorem dX7_isBetter_32 : decode cX7_isBetter 32 = .ok (.aload_n 0, 1) := dk_42 (dk_at dksX7_isBetter_1 8 rfl rfl)
theorem dX7_isBetter_33 : decode cX7_isBetter 33 = .ok (.getfield 18, 3) := dk_180 0 18 (dk_at dksX7_isBetter_1 9 rfl rfl)
theorem dX7_isBetter_36 : decode cX7_isBetter 36 = .ok (.getfield 47, 3) := dk_180 0 47 (dk_at dksX7_isBetter_1 12 rfl rfl)
theorem dX7_isBetter_39 : decode cX7_isBetter 39 = .ok (.if_icmp .ge 49, 3) := dk_162 0 49 (dk_at dksX7_isBetter_1 15 rfl rfl)
theorem dX7_isBetter_42 : decode cX7_isBetter 42 = .ok (.aload_n 0, 1) := dk_42 (dk_at dksX7_isBetter_1 18 rfl rfl)
theorem dX7_isBetter_43 : decode cX7_isBetter 43 = .ok (.iload 4, 2) := dk_21 4 (dk_at dksX7_isBetter_1 19 rfl rfl)
theorem dX7_isBetter_45 : decode cX7_isBetter 45 = .ok (.iload 5, 2) := dk_21 5 (dk_at dksX7_isBetter_1 21 rfl rfl)
theorem dX7_isBetter_47 : decode cX7_isBetter 47 = .ok (.invokevirtual 74, 3) := dk_182 0 74 (dk_at dksX7_isBetter_2 0 rfl rfl)
theorem dX7_isBetter_50 : decode cX7_isBetter 50 = .ok (.aload_n 0, 1) := dk_42 (dk_at dksX7_isBetter_2 3 rfl rfl)
theorem dX7_isBetter_51 : decode cX7_isBetter 51 = .ok (.invokevirtual 62, 3) := dk_182 0 62 (dk_at dksX7_isBetter_2 4 rfl rfl)
theorem dX7_isBetter_54 : decode cX7_isBetter 54 = .ok (.istore 6, 2) := dk_54 6 (dk_at dksX7_isBetter_2 7 rfl rfl)
theorem dX7_isBetter_56 : decode cX7_isBetter 56 = .ok (.aload_n 0, 1) := dk_42 (dk_at dksX7_isBetter_2 9 rfl rfl)
theorem dX7_isBetter_57 : decode cX7_isBetter 57 = .ok (.iload 4, 2) := dk_21 4 (dk_at dksX7_isBetter_2 10 rfl rfl)
theorem dX7_isBetter_59 : decode cX7_isBetter 59 = .ok (.iload 5, 2) := dk_21 5 (dk_at dksX7_isBetter_2 12 rfl rfl)
theorem dX7_isBetter_61 : decode cX7_isBetter 61 = .ok (.invokevirtual 74, 3) := dk_182 0 74 (dk_at dksX7_isBetter_2 14 rfl rfl)
theorem dX7_isBetter_64 : decode cX7_isBetter 64 = .ok (.iload 6, 2) := dk_21 6 (dk_at dksX7_isBetter_2 17 rfl rfl)
theorem dX7_isBetter_66 : decode cX7_isBetter 66 = .ok (.iload_n 3, 1) := dk_29 (dk_at dksX7_isBetter_2 19 rfl rfl)
theorem dX7_isBetter_67 : decode cX7_isBetter 67 = .ok (.if_icmp .gt 6, 3) := dk_163 0 6 (dk_at dksX7_isBetter_2 20 rfl rfl)
theorem dX7_isBetter_70 : decode cX7_isBetter 70 = .ok (.goto 12, 3) := dk_167 0 12 (dk_at dksX7_isBetter_3 0 rfl rfl)
theorem dX7_isBetter_73 : decode cX7_isBetter 73 = .ok (.iload 6, 2) := dk_21 6 (dk_at dksX7_isBetter_3 3 rfl rfl)
theorem dX7_isBetter_75 : decode cX7_isBetter 75 = .ok (.istore_n 3, 1) := dk_62 (dk_at dksX7_isBetter_3 5 rfl rfl)
theorem dX7_isBetter_76 : decode cX7_isBetter 76 = .ok (.iload 4, 2) := dk_21 4 (dk_at dksX7_isBetter_3 6 rfl rfl)
theorem dX7_isBetter_78 : decode cX7_isBetter 78 = .ok (.istore_n 1, 1) := dk_60 (dk_at dksX7_isBetter_3 8 rfl rfl)
theorem dX7_isBetter_79 : decode cX7_isBetter 79 = .ok (.iload 5, 2) := dk_21 5 (dk_at dksX7_isBetter_3 9 rfl rfl)
theorem dX7_isBetter_81 : decode cX7_isBetter 81 = .ok (.istore_n 2, 1) := dk_61 (dk_at dksX7_isBetter_3 11 rfl rfl)
theorem dX7_isBetter_82 : decode cX7_isBetter 82 = .ok (.iinc 5 1, 3) := dk_132 5 1 (dk_at dksX7_isBetter_3 12 rfl rfl)
theorem dX7_isBetter_85 : decode cX7_isBetter 85 = .ok (.goto (-55), 3) := dk_167 255 201 (dk_at dksX7_isBetter_3 15 rfl rfl)
theorem dX7_isBetter_88 : decode cX7_isBetter 88 = .ok (.iinc 4 1, 3) := dk_132 4 1 (dk_at dksX7_isBetter_3 18 rfl rfl)
theorem dX7_isBetter_91 : decode cX7_isBetter 91 = .ok (.goto (-79), 3) := dk_167 255 177 (dk_at dksX7_isBetter_3 21 rfl rfl)
theorem dX7_isBetter_94 : decode cX7_isBetter 94 = .ok (.iload_n 1, 1) := dk_27 (dk_at dksX7_isBetter_4 0 rfl rfl)
theorem dX7_isBetter_95 : decode cX7_isBetter 95 = .ok (.iconst (-1), 1) := dk_2 (dk_at dksX7_isBetter_4 1 rfl rfl)
theorem dX7_isBetter_96 : decode cX7_isBetter 96 = .ok (.if_icmp .ne 5, 3) := dk_160 0 5 (dk_at dksX7_isBetter_4 2 rfl rfl)
theorem dX7_isBetter_99 : decode cX7_isBetter 99 = .ok (.iconst 0, 1) := dk_3 (dk_at dksX7_isBetter_4 5 rfl rfl)
theorem dX7_isBetter_100 : decode cX7_isBetter 100 = .ok (.ireturn, 1) := dk_172 (dk_at dksX7_isBetter_4 6 rfl rfl)
theorem dX7_isBetter_101 : decode cX7_isBetter 101 = .ok (.aload_n 0, 1) := dk_42 (dk_at dksX7_isBetter_4 7 rfl rfl)
theorem dX7_isBetter_102 : decode cX7_isBetter 102 = .ok (.iload_n 1, 1) := dk_27 (dk_at dksX7_isBetter_4 8 rfl rfl)
theorem dX7_isBetter_103 : decode cX7_isBetter 103 = .ok (.iload_n 2, 1) := dk_28 (dk_at dksX7_isBetter_4 9 rfl rfl)
theorem dX7_isBetter_104 : decode cX7_isBetter 104 = .ok (.invokevirtual 74, 3) := dk_182 0 74 (dk_at dksX7_isBetter_4 10 rfl rfl)
theorem dX7_isBetter_107 : decode cX7_isBetter 107 = .ok (.aload_n 0, 1) := dk_42 (dk_at dksX7_isBetter_4 13 rfl rfl)
theorem dX7_isBetter_108 : decode cX7_isBetter 108 = .ok (.iload_n 3, 1) := dk_29 (dk_at dksX7_isBetter_4 14 rfl rfl)
theorem dX7_isBetter_109 : decode cX7_isBetter 109 = .ok (.putfield 33, 3) := dk_181 0 33 (dk_at dksX7_isBetter_4 15 rfl rfl)
theorem dX7_isBetter_112 : decode cX7_isBetter 112 = .ok (.iconst 1, 1) := dk_4 (dk_at dksX7_isBetter_4 18 rfl rfl)
theorem dX7_isBetter_113 : decode cX7_isBetter 113 = .ok (.ireturn, 1) := dk_172 (dk_at dksX7_isBetter_4 19 rfl rfl)
def dkwX7_swaps_1 : List UInt8 := [177]
abbrev dktX7_swaps_1 : List UInt8 := dkwX7_swaps_1 ++ []
def dkwX7_swaps_0 : List UInt8 := [42, 180, 0, 22, 27, 46, 62, 42, 27, 42, 180, 0, 22, 28, 46, 182, 0, 66, 42, 28, 29, 182, 0, 66]
abbrev dktX7_swaps_0 : List UInt8 := dkwX7_swaps_0 ++ dktX7_swaps_1
theorem dksX7_swaps_0 : cX7_swaps.data.toList.drop 0 = dktX7_swaps_0 := by decide +kernel
theorem dksX7_swaps_1 : cX7_swaps.data.toList.drop 24 = dktX7_swaps_1 := dk_seg dksX7_swaps_0 24 rfl rfl
theorem dX7_swaps_0 : decode cX7_swaps 0 = .ok (.aload_n 0, 1) := dk_42 (dk_at dksX7_swaps_0 0 rfl rfl)
theorem dX7_swaps_1 : decode cX7_swaps 1 = .ok (.getfield 22, 3) := dk_180 0 22 (dk_at dksX7_swaps_0 1 rfl rfl)
theorem dX7_swaps_4 : decode cX7_swaps 4 = .ok (.iload_n 1, 1) := dk_27 (dk_at dksX7_swaps_0 4 rfl rfl)
theorem dX7_swaps_5 : decode cX7_swaps 5 = .ok (.iaload, 1) := dk_46 (dk_at dksX7_swaps_0 5 rfl rfl)
theorem dX7_swaps_6 : decode cX7_swaps 6 = .ok (.istore_n 3, 1) := dk_62 (dk_at dksX7_swaps_0 6 rfl rfl)
theorem dX7_swaps_7 : decode cX7_swaps 7 = .ok (.aload_n 0, 1) := dk_42 (dk_at dksX7_swaps_0 7 rfl rfl)
theorem dX7_swaps_8 : decode cX7_swaps 8 = .ok (.iload_n 1, 1) := dk_27 (dk_at dksX7_swaps_0 8 rfl rfl)
theorem dX7_swaps_9 : decode cX7_swaps 9 = .ok (.aload_n 0, 1) := dk_42 (dk_at dksX7_swaps_0 9 rfl rfl)
theorem dX7_swaps_10 : decode cX7_swaps 10 = .ok (.getfield 22, 3) := dk_180 0 22 (dk_at dksX7_swaps_0 10 rfl rfl)
theorem dX7_swaps_13 : decode cX7_swaps 13 = .ok (.iload_n 2, 1) := dk_28 (dk_at dksX7_swaps_0 13 rfl rfl)
theorem dX7_swaps_14 : decode cX7_swaps 14 = .ok (.iaload, 1) := dk_46 (dk_at dksX7_swaps_0 14 rfl rfl)
theorem dX7_swaps_15 : decode cX7_swaps 15 = .ok (.invokevirtual 66, 3) := dk_182 0 66 (dk_at dksX7_swaps_0 15 rfl rfl)
theorem dX7_swaps_18 : decode cX7_swaps 18 = .ok (.aload_n 0, 1) := dk_42 (dk_at dksX7_swaps_0 18 rfl rfl)
theorem dX7_swaps_19 : decode cX7_swaps 19 = .ok (.iload_n 2, 1) := dk_28 (dk_at dksX7_swaps_0 19 rfl rfl)
theorem dX7_swaps_20 : decode cX7_swaps 20 = .ok (.iload_n 3, 1) := dk_29 (dk_at dksX7_swaps_0 20 rfl rfl)
theorem dX7_swaps_21 : decode cX7_swaps 21 = .ok (.invokevirtual 66, 3) := dk_182 0 66 (dk_at dksX7_swaps_0 21 rfl rfl)
theorem dX7_swaps_24 : decode cX7_swaps 24 = .ok (.return_, 1) := dk_177 (dk_at dksX7_swaps_1 0 rfl rfl)
def dkwX8_init_1 : List UInt8 := [42, 16, 12, 189, 0, 24, 181, 0, 26, 177]
abbrev dktX8_init_1 : List UInt8 := dkwX8_init_1 ++ []
def dkwX8_init_0 : List UInt8 := [42, 43, 181, 0, 3, 42, 183, 0, 9, 42, 187, 0, 15, 89, 42, 180, 0, 3, 183, 0, 17, 181, 0, 20]
abbrev dktX8_init_0 : List UInt8 := dkwX8_init_0 ++ dktX8_init_1
theorem dksX8_init_0 : cX8_init.data.toList.drop 0 = dktX8_init_0 := by decide +kernel
theorem dksX8_init_1 : cX8_init.data.toList.drop 24 = dktX8_init_1 := dk_seg dksX8_init_0 24 rfl rfl
theorem dX8_init_0 : decode cX8_init 0 = .ok (.aload_n 0, 1) := dk_42 (dk_at dksX8_init_0 0 rfl rfl)
theorem dX8_init_1 : decode cX8_init 1 = .ok (.aload_n 1, 1) := dk_43 (dk_at dksX8_init_0 1 rfl rfl)
theorem dX8_init_2 : decode cX8_init 2 = .ok (.putfield 3, 3) := dk_181 0 3 (dk_at dksX8_init_0 2 rfl rfl)
theorem dX8_init_5 : decode cX8_init 5 = .ok (.aload_n 0, 1) := dk_42 (dk_at dksX8_init_0 5 rfl rfl)
theorem dX8_init_6 : decode cX8_init 6 = .ok (.invokespecial 9, 3) := dk_183 0 9 (dk_at dksX8_init_0 6 rfl rfl)
theorem dX8_init_9 : decode cX8_init 9 = .ok (.aload_n 0, 1) := dk_42 (dk_at dksX8_init_0 9 rfl rfl)
theorem dX8_init_10 : decode cX8_init 10 = .ok (.new 15, 3) := dk_187 0 15 (dk_at dksX8_init_0 10 rfl rfl)
theorem dX8_init_13 : decode cX8_init 13 = .ok (.dup, 1) := dk_89 (dk_at dksX8_init_0 13 rfl rfl)
theorem dX8_init_14 : decode cX8_init 14 = .ok (.aload_n 0, 1) := dk_42 (dk_at dksX8_init_0 14 rfl rfl)
theorem dX8_init_15 : decode cX8_init 15 = .ok (.getfield 3, 3) := dk_180 0 3 (dk_at dksX8_init_0 15 rfl rfl)
theorem dX8_init_18 : decode cX8_init 18 = .ok (.invokespecial 17, 3) := dk_183 0 17 (dk_at dksX8_init_0 18 rfl rfl)
theorem dX8_init_21 : decode cX8_init 21 = .ok (.putfield 20, 3) := dk_181 0 20 (dk_at dksX8_init_0 21 rfl rfl)
theorem dX8_init_24 : decode cX8_init 24 = .ok (.aload_n 0, 1) := dk_42 (dk_at dksX8_init_1 0 rfl rfl)
theorem dX8_init_25 : decode cX8_init 25 = .ok (.bipush 12, 2) := dk_16 12 (dk_at dksX8_init_1 1 rfl rfl)
theorem dX8_init_27 : decode cX8_init 27 = .ok (.anewarray 24, 3) := dk_189 0 24 (dk_at dksX8_init_1 3 rfl rfl)
theorem dX8_init_30 : decode cX8_init 30 = .ok (.putfield 26, 3) := dk_181 0 26 (dk_at dksX8_init_1 6 rfl rfl)
theorem dX8_init_33 : decode cX8_init 33 = .ok (.return_, 1) := dk_177 (dk_at dksX8_init_1 9 rfl rfl)
def dkwX8_best_2 : List UInt8 := [176]
abbrev dktX8_best_2 : List UInt8 := dkwX8_best_2 ++ []
def dkwX8_best_1 : List UInt8 := [182, 0, 92, 182, 0, 88, 42, 180, 0, 20, 42, 180, 0, 3, 180, 0, 55, 182, 0, 92, 181, 0, 38, 42]
abbrev dktX8_best_1 : List UInt8 := dkwX8_best_1 ++ dktX8_best_2
def dkwX8_best_0 : List UInt8 := [42, 180, 0, 20, 3, 181, 0, 38, 42, 2, 181, 0, 49, 42, 43, 3, 42, 180, 0, 3, 180, 0, 55]
abbrev dktX8_best_0 : List UInt8 := dkwX8_best_0 ++ dktX8_best_1
theorem dksX8_best_0 : cX8_best.data.toList.drop 0 = dktX8_best_0 := by decide +kernel
theorem dksX8_best_1 : cX8_best.data.toList.drop 23 = dktX8_best_1 := dk_seg dksX8_best_0 23 rfl rfl
theorem dksX8_best_2 : cX8_best.data.toList.drop 47 = dktX8_best_2 := dk_seg dksX8_best_1 24 rfl rfl
theorem dX8_best_0 : decode cX8_best 0 = .ok (.aload_n 0, 1) := dk_42 (dk_at dksX8_best_0 0 rfl rfl)
theorem dX8_best_1 : decode cX8_best 1 = .ok (.getfield 20, 3) := dk_180 0 20 (dk_at dksX8_best_0 1 rfl rfl)
theorem dX8_best_4 : decode cX8_best 4 = .ok (.iconst 0, 1) := dk_3 (dk_at dksX8_best_0 4 rfl rfl)
theorem dX8_best_5 : decode cX8_best 5 = .ok (.putfield 38, 3) := dk_181 0 38 (dk_at dksX8_best_0 5 rfl rfl)
theorem dX8_best_8 : decode cX8_best 8 = .ok (.aload_n 0, 1) := dk_42 (dk_at dksX8_best_0 8 rfl rfl)
theorem dX8_best_9 : decode cX8_best 9 = .ok (.iconst (-1), 1) := dk_2 (dk_at dksX8_best_0 9 rfl rfl)
theorem dX8_best_10 : decode cX8_best 10 = .ok (.putfield 49, 3) := dk_181 0 49 (dk_at dksX8_best_0 10 rfl rfl)
theorem dX8_best_13 : decode cX8_best 13 = .ok (.aload_n 0, 1) := dk_42 (dk_at dksX8_best_0 13 rfl rfl)
theorem dX8_best_14 : decode cX8_best 14 = .ok (.aload_n 1, 1) := dk_43 (dk_at dksX8_best_0 14 rfl rfl)
theorem dX8_best_15 : decode cX8_best 15 = .ok (.iconst 0, 1) := dk_3 (dk_at dksX8_best_0 15 rfl rfl)
theorem dX8_best_16 : decode cX8_best 16 = .ok (.aload_n 0, 1) := dk_42 (dk_at dksX8_best_0 16 rfl rfl)
theorem dX8_best_17 : decode cX8_best 17 = .ok (.getfield 3, 3) := dk_180 0 3 (dk_at dksX8_best_0 17 rfl rfl)
theorem dX8_best_20 : decode cX8_best 20 = .ok (.getfield 55, 3) := dk_180 0 55 (dk_at dksX8_best_0 20 rfl rfl)
theorem dX8_best_23 : decode cX8_best 23 = .ok (.invokevirtual 92, 3) := dk_182 0 92 (dk_at dksX8_best_1 0 rfl rfl)
theorem dX8_best_26 : decode cX8_best 26 = .ok (.invokevirtual 88, 3) := dk_182 0 88 (dk_at dksX8_best_1 3 rfl rfl)
theorem dX8_best_29 : decode cX8_best 29 = .ok (.aload_n 0, 1) := dk_42 (dk_at dksX8_best_1 6 rfl rfl)
theorem dX8_best_30 : decode cX8_best 30 = .ok (.getfield 20, 3) := dk_180 0 20 (dk_at dksX8_best_1 7 rfl rfl)
theorem dX8_best_33 : decode cX8_best 33 = .ok (.aload_n 0, 1) := dk_42 (dk_at dksX8_best_1 10 rfl rfl)
theorem dX8_best_34 : decode cX8_best 34 = .ok (.getfield 3, 3) := dk_180 0 3 (dk_at dksX8_best_1 11 rfl rfl)
theorem dX8_best_37 : decode cX8_best 37 = .ok (.getfield 55, 3) := dk_180 0 55 (dk_at dksX8_best_1 14 rfl rfl)
theorem dX8_best_40 : decode cX8_best 40 = .ok (.invokevirtual 92, 3) := dk_182 0 92 (dk_at dksX8_best_1 17 rfl rfl)
theorem dX8_best_43 : decode cX8_best 43 = .ok (.putfield 38, 3) := dk_181 0 38 (dk_at dksX8_best_1 20 rfl rfl)
theorem dX8_best_46 : decode cX8_best 46 = .ok (.aload_n 0, 1) := dk_42 (dk_at dksX8_best_1 23 rfl rfl)
theorem dX8_best_47 : decode cX8_best 47 = .ok (.areturn, 1) := dk_176 (dk_at dksX8_best_2 0 rfl rfl)
def dkwX8_search_6 : List UInt8 := [181, 0, 38, 132, 4, 1, 167, 255, 143, 177]
abbrev dktX8_search_6 : List UInt8 := dkwX8_search_6 ++ []
def dkwX8_search_5 : List UInt8 := [42, 43, 28, 4, 21, 4, 120, 128, 29, 4, 100, 182, 0, 88, 42, 180, 0, 20, 89, 180, 0, 38, 4, 100]
abbrev dktX8_search_5 : List UInt8 := dkwX8_search_5 ++ dktX8_search_6
def dkwX8_search_4 : List UInt8 := [180, 0, 20, 42, 180, 0, 3, 180, 0, 55, 180, 0, 59, 21, 4, 182, 0, 71, 192, 0, 24, 182, 0, 84]
abbrev dktX8_search_4 : List UInt8 := dkwX8_search_4 ++ dktX8_search_5
def dkwX8_search_3 : List UInt8 := [180, 0, 59, 21, 4, 182, 0, 71, 192, 0, 24, 180, 0, 75, 182, 0, 78, 154, 0, 6, 167, 0, 55, 42]
abbrev dktX8_search_3 : List UInt8 := dkwX8_search_3 ++ dktX8_search_4
def dkwX8_search_2 : List UInt8 := [182, 0, 65, 162, 0, 101, 28, 21, 4, 122, 4, 126, 4, 159, 0, 85, 42, 180, 0, 3, 180, 0, 55]
abbrev dktX8_search_2 : List UInt8 := dkwX8_search_2 ++ dktX8_search_3
def dkwX8_search_1 : List UInt8 := [181, 0, 49, 42, 182, 0, 52, 177, 3, 54, 4, 21, 4, 42, 180, 0, 3, 180, 0, 55, 180, 0, 59]
abbrev dktX8_search_1 : List UInt8 := dkwX8_search_1 ++ dktX8_search_2
def dkwX8_search_0 : List UInt8 := [29, 154, 0, 31, 42, 43, 182, 0, 45, 54, 4, 21, 4, 42, 180, 0, 49, 163, 0, 4, 177, 42, 21, 4]
abbrev dktX8_search_0 : List UInt8 := dkwX8_search_0 ++ dktX8_search_1
theorem dksX8_search_0 : cX8_search.data.toList.drop 0 = dktX8_search_0 := by decide +kernel
theorem dksX8_search_1 : cX8_search.data.toList.drop 24 = dktX8_search_1 := dk_seg dksX8_search_0 24 rfl rfl
theorem dksX8_search_2 : cX8_search.data.toList.drop 47 = dktX8_search_2 := dk_seg dksX8_search_1 23 rfl rfl
theorem dksX8_search_3 : cX8_search.data.toList.drop 70 = dktX8_search_3 := dk_seg dksX8_search_2 23 rfl rfl
theorem dksX8_search_4 : cX8_search.data.toList.drop 94 = dktX8_search_4 := dk_seg dksX8_search_3 24 rfl rfl
theorem dksX8_search_5 : cX8_search.data.toList.drop 118 = dktX8_search_5 := dk_seg dksX8_search_4 24 rfl rfl
theorem dksX8_search_6 : cX8_search.data.toList.drop 142 = dktX8_search_6 := dk_seg dksX8_search_5 24 rfl rfl
theorem dX8_search_0 : decode cX8_search 0 = .ok (.iload_n 3, 1) := dk_29 (dk_at dksX8_search_0 0 rfl rfl)
theorem dX8_search_1 : decode cX8_search 1 = .ok (.ifCond .ne 31, 3) := dk_154 0 31 (dk_at dksX8_search_0 1 rfl rfl)
theorem dX8_search_4 : decode cX8_search 4 = .ok (.aload_n 0, 1) := dk_42 (dk_at dksX8_search_0 4 rfl rfl)
theorem dX8_search_5 : decode cX8_search 5 = .ok (.aload_n 1, 1) := dk_43 (dk_at dksX8_search_0 5 rfl rfl)
theorem dX8_search_6 : decode cX8_search 6 = .ok (.invokevirtual 45, 3) := dk_182 0 45 (dk_at dksX8_search_0 6 rfl rfl)
theorem dX8_search_9 : decode cX8_search 9 = .ok (.istore 4, 2) := dk_54 4 (dk_at dksX8_search_0 9 rfl rfl)
theorem dX8_search_11 : decode cX8_search 11 = .ok (.iload 4, 2) := dk_21 4 (dk_at dksX8_search_0 11 rfl rfl)
theorem dX8_search_13 : decode cX8_search 13 = .ok (.aload_n 0, 1) := dk_42 (dk_at dksX8_search_0 13 rfl rfl)
theorem dX8_search_14 : decode cX8_search 14 = .ok (.getfield 49, 3) := dk_180 0 49 (dk_at dksX8_search_0 14 rfl rfl)
theorem dX8_search_17 : decode cX8_search 17 = .ok (.if_icmp .gt 4, 3) := dk_163 0 4 (dk_at dksX8_search_0 17 rfl rfl)
theorem dX8_search_20 : decode cX8_search 20 = .ok (.return_, 1) := dk_177 (dk_at dksX8_search_0 20 rfl rfl)
theorem dX8_search_21 : decode cX8_search 21 = .ok (.aload_n 0, 1) := dk_42 (dk_at dksX8_search_0 21 rfl rfl)
theorem dX8_search_22 : decode cX8_search 22 = .ok (.iload 4, 2) := dk_21 4 (dk_at dksX8_search_0 22 rfl rfl)
theorem dX8_search_24 : decode cX8_search 24 = .ok (.putfield 49, 3) := dk_181 0 49 (dk_at dksX8_search_1 0 rfl rfl)
theorem dX8_search_27 : decode cX8_search 27 = .ok (.aload_n 0, 1) := dk_42 (dk_at dksX8_search_1 3 rfl rfl)
theorem dX8_search_28 : decode cX8_search 28 = .ok (.invokevirtual 52, 3) := dk_182 0 52 (dk_at dksX8_search_1 4 rfl rfl)
theorem dX8_search_31 : decode cX8_search 31 = .ok (.return_, 1) := dk_177 (dk_at dksX8_search_1 7 rfl rfl)
theorem dX8_search_32 : decode cX8_search 32 = .ok (.iconst 0, 1) := dk_3 (dk_at dksX8_search_1 8 rfl rfl)
theorem dX8_search_33 : decode cX8_search 33 = .ok (.istore 4, 2) := dk_54 4 (dk_at dksX8_search_1 9 rfl rfl)
theorem dX8_search_35 : decode cX8_search 35 = .ok (.iload 4, 2) := dk_21 4 (dk_at dksX8_search_1 11 rfl rfl)
theorem dX8_search_37 : decode cX8_search 37 = .ok (.aload_n 0, 1) := dk_42 (dk_at dksX8_search_1 13 rfl rfl)
theorem dX8_search_38 : decode cX8_search 38 = .ok (.getfield 3, 3) := dk_180 0 3 (dk_at dksX8_search_1 14 rfl rfl)
theorem dX8_search_41 : decode cX8_search 41 = .ok (.getfield 55, 3) := dk_180 0 55 (dk_at dksX8_search_1 17 rfl rfl)
theorem dX8_search_44 : decode cX8_search 44 = .ok (.getfield 59, 3) := dk_180 0 59 (dk_at dksX8_search_1 20 rfl rfl)
theorem dX8_search_47 : decode cX8_search 47 = .ok (.invokevirtual 65, 3) := dk_182 0 65 (dk_at dksX8_search_2 0 rfl rfl)
theorem dX8_search_50 : decode cX8_search 50 = .ok (.if_icmp .ge 101, 3) := dk_162 0 101 (dk_at dksX8_search_2 3 rfl rfl)
theorem dX8_search_53 : decode cX8_search 53 = .ok (.iload_n 2, 1) := dk_28 (dk_at dksX8_search_2 6 rfl rfl)
theorem dX8_search_54 : decode cX8_search 54 = .ok (.iload 4, 2) := dk_21 4 (dk_at dksX8_search_2 7 rfl rfl)
theorem dX8_search_56 : decode cX8_search 56 = .ok (.ishr, 1) := dk_122 (dk_at dksX8_search_2 9 rfl rfl)
theorem dX8_search_57 : decode cX8_search 57 = .ok (.iconst 1, 1) := dk_4 (dk_at dksX8_search_2 10 rfl rfl)
theorem dX8_search_58 : decode cX8_search 58 = .ok (.iand, 1) := dk_126 (dk_at dksX8_search_2 11 rfl rfl)
theorem dX8_search_59 : decode cX8_search 59 = .ok (.iconst 1, 1) := dk_4 (dk_at dksX8_search_2 12 rfl rfl)
theorem dX8_search_60 : decode cX8_search 60 = .ok (.if_icmp .eq 85, 3) := dk_159 0 85 (dk_at dksX8_search_2 13 rfl rfl)
theorem dX8_search_63 : decode cX8_search 63 = .ok (.aload_n 0, 1) := dk_42 (dk_at dksX8_search_2 16 rfl rfl)
theorem dX8_search_64 : decode cX8_search 64 = .ok (.getfield 3, 3) := dk_180 0 3 (dk_at dksX8_search_2 17 rfl rfl)
theorem dX8_search_67 : decode cX8_search 67 = .ok (.getfield 55, 3) := dk_180 0 55 (dk_at dksX8_search_2 20 rfl rfl)
theorem dX8_search_70 : decode cX8_search 70 = .ok (.getfield 59, 3) := dk_180 0 59 (dk_at dksX8_search_3 0 rfl rfl)
theorem dX8_search_73 : decode cX8_search 73 = .ok (.iload 4, 2) := dk_21 4 (dk_at dksX8_search_3 3 rfl rfl)
theorem dX8_search_75 : decode cX8_search 75 = .ok (.invokevirtual 71, 3) := dk_182 0 71 (dk_at dksX8_search_3 5 rfl rfl)
theorem dX8_search_78 : decode cX8_search 78 = .ok (.checkcast 24, 3) := dk_192 0 24 (dk_at dksX8_search_3 8 rfl rfl)
theorem dX8_search_81 : decode cX8_search 81 = .ok (.getfield 75, 3) := dk_180 0 75 (dk_at dksX8_search_3 11 rfl rfl)
theorem dX8_search_84 : decode cX8_search 84 = .ok (.invokevirtual 78, 3) := dk_182 0 78 (dk_at dksX8_search_3 14 rfl rfl)
theorem dX8_search_87 : decode cX8_search 87 = .ok (.ifCond .ne 6, 3) := dk_154 0 6 (dk_at dksX8_search_3 17 rfl rfl)
theorem dX8_search_90 : decode cX8_search 90 = .ok (.goto 55, 3) := dk_167 0 55 (dk_at dksX8_search_3 20 rfl rfl)
theorem dX8_search_93 : decode cX8_search 93 = .ok (.aload_n 0, 1) := dk_42 (dk_at dksX8_search_3 23 rfl rfl)
theorem dX8_search_94 : decode cX8_search 94 = .ok (.getfield 20, 3) := dk_180 0 20 (dk_at dksX8_search_4 0 rfl rfl)
theorem dX8_search_97 : decode cX8_search 97 = .ok (.aload_n 0, 1) := dk_42 (dk_at dksX8_search_4 3 rfl rfl)
theorem dX8_search_98 : decode cX8_search 98 = .ok (.getfield 3, 3) := dk_180 0 3 (dk_at dksX8_search_4 4 rfl rfl)
theorem dX8_search_101 : decode cX8_search 101 = .ok (.getfield 55, 3) := dk_180 0 55 (dk_at dksX8_search_4 7 rfl rfl)
theorem dX8_search_104 : decode cX8_search 104 = .ok (.getfield 59, 3) := dk_180 0 59 (dk_at dksX8_search_4 10 rfl rfl)
theorem dX8_search_107 : decode cX8_search 107 = .ok (.iload 4, 2) := dk_21 4 (dk_at dksX8_search_4 13 rfl rfl)
theorem dX8_search_109 : decode cX8_search 109 = .ok (.invokevirtual 71, 3) := dk_182 0 71 (dk_at dksX8_search_4 15 rfl rfl)
theorem dX8_search_112 : decode cX8_search 112 = .ok (.checkcast 24, 3) := dk_192 0 24 (dk_at dksX8_search_4 18 rfl rfl)
theorem dX8_search_115 : decode cX8_search 115 = .ok (.invokevirtual 84, 3) := dk_182 0 84 (dk_at dksX8_search_4 21 rfl rfl)
theorem dX8_search_118 : decode cX8_search 118 = .ok (.aload_n 0, 1) := dk_42 (dk_at dksX8_search_5 0 rfl rfl)
theorem dX8_search_119 : decode cX8_search 119 = .ok (.aload_n 1, 1) := dk_43 (dk_at dksX8_search_5 1 rfl rfl)
theorem dX8_search_120 : decode cX8_search 120 = .ok (.iload_n 2, 1) := dk_28 (dk_at dksX8_search_5 2 rfl rfl)
theorem dX8_search_121 : decode cX8_search 121 = .ok (.iconst 1, 1) := dk_4 (dk_at dksX8_search_5 3 rfl rfl)
theorem dX8_search_122 : decode cX8_search 122 = .ok (.iload 4, 2) := dk_21 4 (dk_at dksX8_search_5 4 rfl rfl)
theorem dX8_search_124 : decode cX8_search 124 = .ok (.ishl, 1) := dk_120 (dk_at dksX8_search_5 6 rfl rfl)
theorem dX8_search_125 : decode cX8_search 125 = .ok (.ior, 1) := dk_128 (dk_at dksX8_search_5 7 rfl rfl)
theorem dX8_search_126 : decode cX8_search 126 = .ok (.iload_n 3, 1) := dk_29 (dk_at dksX8_search_5 8 rfl rfl)
theorem dX8_search_127 : decode cX8_search 127 = .ok (.iconst 1, 1) := dk_4 (dk_at dksX8_search_5 9 rfl rfl)
theorem dX8_search_128 : decode cX8_search 128 = .ok (.isub, 1) := dk_100 (dk_at dksX8_search_5 10 rfl rfl)
theorem dX8_search_129 : decode cX8_search 129 = .ok (.invokevirtual 88, 3) := dk_182 0 88 (dk_at dksX8_search_5 11 rfl rfl)
theorem dX8_search_132 : decode cX8_search 132 = .ok (.aload_n 0, 1) := dk_42 (dk_at dksX8_search_5 14 rfl rfl)
theorem dX8_search_133 : decode cX8_search 133 = .ok (.getfield 20, 3) := dk_180 0 20 (dk_at dksX8_search_5 15 rfl rfl)
theorem dX8_search_136 : decode cX8_search 136 = .ok (.dup, 1) := dk_89 (dk_at dksX8_search_5 18 rfl rfl)
theorem dX8_search_137 : decode cX8_search 137 = .ok (.getfield 38, 3) := dk_180 0 38 (dk_at dksX8_search_5 19 rfl rfl)
theorem dX8_search_140 : decode cX8_search 140 = .ok (.iconst 1, 1) := dk_4 (dk_at dksX8_search_5 22 rfl rfl)
theorem dX8_search_141 : decode cX8_search 141 = .ok (.isub, 1) := dk_100 (dk_at dksX8_search_5 23 rfl rfl)
theorem dX8_search_142 : decode cX8_search 142 = .ok (.putfield 38, 3) := dk_181 0 38 (dk_at dksX8_search_6 0 rfl rfl)
theorem dX8_search_145 : decode cX8_search 145 = .ok (.iinc 4 1, 3) := dk_132 4 1 (dk_at dksX8_search_6 3 rfl rfl)
theorem dX8_search_148 : decode cX8_search 148 = .ok (.goto (-113), 3) := dk_167 255 143 (dk_at dksX8_search_6 6 rfl rfl)
theorem dX8_search_151 : decode cX8_search 151 = .ok (.return_, 1) := dk_177 (dk_at dksX8_search_6 9 rfl rfl)
def dkwX8_whole_0 : List UInt8 := [42, 180, 0, 20, 43, 182, 0, 30, 3, 182, 0, 34, 172]
abbrev dktX8_whole_0 : List UInt8 := dkwX8_whole_0 ++ []
theorem dksX8_whole_0 : cX8_whole.data.toList.drop 0 = dktX8_whole_0 := by decide +kernel
theorem dX8_whole_0 : decode cX8_whole 0 = .ok (.aload_n 0, 1) := dk_42 (dk_at dksX8_whole_0 0 rfl rfl)
theorem dX8_whole_1 : decode cX8_whole 1 = .ok (.getfield 20, 3) := dk_180 0 20 (dk_at dksX8_whole_0 1 rfl rfl)
theorem dX8_whole_4 : decode cX8_whole 4 = .ok (.aload_n 1, 1) := dk_43 (dk_at dksX8_whole_0 4 rfl rfl)
theorem dX8_whole_5 : decode cX8_whole 5 = .ok (.invokevirtual 30, 3) := dk_182 0 30 (dk_at dksX8_whole_0 5 rfl rfl)
theorem dX8_whole_8 : decode cX8_whole 8 = .ok (.iconst 0, 1) := dk_3 (dk_at dksX8_whole_0 8 rfl rfl)
theorem dX8_whole_9 : decode cX8_whole 9 = .ok (.invokevirtual 34, 3) := dk_182 0 34 (dk_at dksX8_whole_0 9 rfl rfl)
theorem dX8_whole_12 : decode cX8_whole 12 = .ok (.ireturn, 1) := dk_172 (dk_at dksX8_whole_0 12 rfl rfl)
def dkwX8_isFirst_1 : List UInt8 := [180, 0, 42, 27, 50, 83, 132, 1, 1, 167, 255, 227, 177]
abbrev dktX8_isFirst_1 : List UInt8 := dkwX8_isFirst_1 ++ []
def dkwX8_isFirst_0 : List UInt8 := [3, 60, 27, 42, 180, 0, 20, 180, 0, 38, 162, 0, 24, 42, 180, 0, 26, 27, 42, 180, 0, 20]
abbrev dktX8_isFirst_0 : List UInt8 := dkwX8_isFirst_0 ++ dktX8_isFirst_1
theorem dksX8_isFirst_0 : cX8_isFirst.data.toList.drop 0 = dktX8_isFirst_0 := by decide +kernel
theorem dksX8_isFirst_1 : cX8_isFirst.data.toList.drop 22 = dktX8_isFirst_1 := dk_seg dksX8_isFirst_0 22 rfl rfl
theorem dX8_isFirst_0 : decode cX8_isFirst 0 = .ok (.iconst 0, 1) := dk_3 (dk_at dksX8_isFirst_0 0 rfl rfl)
theorem dX8_isFirst_1 : decode cX8_isFirst 1 = .ok (.istore_n 1, 1) := dk_60 (dk_at dksX8_isFirst_0 1 rfl rfl)
theorem dX8_isFirst_2 : decode cX8_isFirst 2 = .ok (.iload_n 1, 1) := dk_27 (dk_at dksX8_isFirst_0 2 rfl rfl)
theorem dX8_isFirst_3 : decode cX8_isFirst 3 = .ok (.aload_n 0, 1) := dk_42 (dk_at dksX8_isFirst_0 3 rfl rfl)
theorem dX8_isFirst_4 : decode cX8_isFirst 4 = .ok (.getfield 20, 3) := dk_180 0 20 (dk_at dksX8_isFirst_0 4 rfl rfl)
theorem dX8_isFirst_7 : decode cX8_isFirst 7 = .ok (.getfield 38, 3) := dk_180 0 38 (dk_at dksX8_isFirst_0 7 rfl rfl)
theorem dX8_isFirst_10 : decode cX8_isFirst 10 = .ok (.if_icmp .ge 24, 3) := dk_162 0 24 (dk_at dksX8_isFirst_0 10 rfl rfl)
theorem dX8_isFirst_13 : decode cX8_isFirst 13 = .ok (.aload_n 0, 1) := dk_42 (dk_at dksX8_isFirst_0 13 rfl rfl)
theorem dX8_isFirst_14 : decode cX8_isFirst 14 = .ok (.getfield 26, 3) := dk_180 0 26 (dk_at dksX8_isFirst_0 14 rfl rfl)
theorem dX8_isFirst_17 : decode cX8_isFirst 17 = .ok (.iload_n 1, 1) := dk_27 (dk_at dksX8_isFirst_0 17 rfl rfl)
theorem dX8_isFirst_18 : decode cX8_isFirst 18 = .ok (.aload_n 0, 1) := dk_42 (dk_at dksX8_isFirst_0 18 rfl rfl)
theorem dX8_isFirst_19 : decode cX8_isFirst 19 = .ok (.getfield 20, 3) := dk_180 0 20 (dk_at dksX8_isFirst_0 19 rfl rfl)
theorem dX8_isFirst_22 : decode cX8_isFirst 22 = .ok (.getfield 42, 3) := dk_180 0 42 (dk_at dksX8_isFirst_1 0 rfl rfl)
theorem dX8_isFirst_25 : decode cX8_isFirst 25 = .ok (.iload_n 1, 1) := dk_27 (dk_at dksX8_isFirst_1 3 rfl rfl)
theorem dX8_isFirst_26 : decode cX8_isFirst 26 = .ok (.aaload, 1) := dk_50 (dk_at dksX8_isFirst_1 4 rfl rfl)
theorem dX8_isFirst_27 : decode cX8_isFirst 27 = .ok (.aastore, 1) := dk_83 (dk_at dksX8_isFirst_1 5 rfl rfl)
theorem dX8_isFirst_28 : decode cX8_isFirst 28 = .ok (.iinc 1 1, 3) := dk_132 1 1 (dk_at dksX8_isFirst_1 6 rfl rfl)
theorem dX8_isFirst_31 : decode cX8_isFirst 31 = .ok (.goto (-29), 3) := dk_167 255 227 (dk_at dksX8_isFirst_1 9 rfl rfl)
theorem dX8_isFirst_34 : decode cX8_isFirst 34 = .ok (.return_, 1) := dk_177 (dk_at dksX8_isFirst_1 12 rfl rfl)
def dkwX8_tells_1 : List UInt8 := [133, 184, 0, 110, 153, 0, 15, 42, 180, 0, 26, 27, 50, 180, 0, 114, 167, 0, 4, 2, 172]
abbrev dktX8_tells_1 : List UInt8 := dkwX8_tells_1 ++ []
def dkwX8_tells_0 : List UInt8 := [27, 2, 160, 0, 10, 42, 180, 0, 49, 167, 0, 35, 27, 133, 9, 42, 180, 0, 20, 180, 0, 38, 4, 100]
abbrev dktX8_tells_0 : List UInt8 := dkwX8_tells_0 ++ dktX8_tells_1
theorem dksX8_tells_0 : cX8_tells.data.toList.drop 0 = dktX8_tells_0 := by decide +kernel
theorem dksX8_tells_1 : cX8_tells.data.toList.drop 24 = dktX8_tells_1 := dk_seg dksX8_tells_0 24 rfl rfl
theorem dX8_tells_0 : decode cX8_tells 0 = .ok (.iload_n 1, 1) := dk_27 (dk_at dksX8_tells_0 0 rfl rfl)
theorem dX8_tells_1 : decode cX8_tells 1 = .ok (.iconst (-1), 1) := dk_2 (dk_at dksX8_tells_0 1 rfl rfl)
theorem dX8_tells_2 : decode cX8_tells 2 = .ok (.if_icmp .ne 10, 3) := dk_160 0 10 (dk_at dksX8_tells_0 2 rfl rfl)
theorem dX8_tells_5 : decode cX8_tells 5 = .ok (.aload_n 0, 1) := dk_42 (dk_at dksX8_tells_0 5 rfl rfl)
theorem dX8_tells_6 : decode cX8_tells 6 = .ok (.getfield 49, 3) := dk_180 0 49 (dk_at dksX8_tells_0 6 rfl rfl)
theorem dX8_tells_9 : decode cX8_tells 9 = .ok (.goto 35, 3) := dk_167 0 35 (dk_at dksX8_tells_0 9 rfl rfl)
theorem dX8_tells_12 : decode cX8_tells 12 = .ok (.iload_n 1, 1) := dk_27 (dk_at dksX8_tells_0 12 rfl rfl)
theorem dX8_tells_13 : decode cX8_tells 13 = .ok (.i2l, 1) := dk_133 (dk_at dksX8_tells_0 13 rfl rfl)
theorem dX8_tells_14 : decode cX8_tells 14 = .ok (.lconst 0, 1) := dk_9 (dk_at dksX8_tells_0 14 rfl rfl)
theorem dX8_tells_15 : decode cX8_tells 15 = .ok (.aload_n 0, 1) := dk_42 (dk_at dksX8_tells_0 15 rfl rfl)
theorem dX8_tells_16 : decode cX8_tells 16 = .ok (.getfield 20, 3) := dk_180 0 20 (dk_at dksX8_tells_0 16 rfl rfl)
theorem dX8_tells_19 : decode cX8_tells 19 = .ok (.getfield 38, 3) := dk_180 0 38 (dk_at dksX8_tells_0 19 rfl rfl)
theorem dX8_tells_22 : decode cX8_tells 22 = .ok (.iconst 1, 1) := dk_4 (dk_at dksX8_tells_0 22 rfl rfl)
theorem dX8_tells_23 : decode cX8_tells 23 = .ok (.isub, 1) := dk_100 (dk_at dksX8_tells_0 23 rfl rfl)
theorem dX8_tells_24 : decode cX8_tells 24 = .ok (.i2l, 1) := dk_133 (dk_at dksX8_tells_1 0 rfl rfl)
theorem dX8_tells_25 : decode cX8_tells 25 = .ok (.invokestatic 110, 3) := dk_184 0 110 (dk_at dksX8_tells_1 1 rfl rfl)
theorem dX8_tells_28 : decode cX8_tells 28 = .ok (.ifCond .eq 15, 3) := dk_153 0 15 (dk_at dksX8_tells_1 4 rfl rfl)
theorem dX8_tells_31 : decode cX8_tells 31 = .ok (.aload_n 0, 1) := dk_42 (dk_at dksX8_tells_1 7 rfl rfl)
theorem dX8_tells_32 : decode cX8_tells 32 = .ok (.getfield 26, 3) := dk_180 0 26 (dk_at dksX8_tells_1 8 rfl rfl)
theorem dX8_tells_35 : decode cX8_tells 35 = .ok (.iload_n 1, 1) := dk_27 (dk_at dksX8_tells_1 11 rfl rfl)
theorem dX8_tells_36 : decode cX8_tells 36 = .ok (.aaload, 1) := dk_50 (dk_at dksX8_tells_1 12 rfl rfl)
theorem dX8_tells_37 : decode cX8_tells 37 = .ok (.getfield 114, 3) := dk_180 0 114 (dk_at dksX8_tells_1 13 rfl rfl)
theorem dX8_tells_40 : decode cX8_tells 40 = .ok (.goto 4, 3) := dk_167 0 4 (dk_at dksX8_tells_1 16 rfl rfl)
theorem dX8_tells_43 : decode cX8_tells 43 = .ok (.iconst (-1), 1) := dk_2 (dk_at dksX8_tells_1 19 rfl rfl)
theorem dX8_tells_44 : decode cX8_tells 44 = .ok (.ireturn, 1) := dk_172 (dk_at dksX8_tells_1 20 rfl rfl)
def dkwX8_sorts_2 : List UInt8 := [176]
abbrev dktX8_sorts_2 : List UInt8 := dkwX8_sorts_2 ++ []
def dkwX8_sorts_1 : List UInt8 := [182, 0, 106, 153, 0, 16, 42, 89, 180, 0, 103, 4, 96, 181, 0, 103, 167, 255, 238, 42, 182, 0, 52, 42]
abbrev dktX8_sorts_1 : List UInt8 := dkwX8_sorts_1 ++ dktX8_sorts_2
def dkwX8_sorts_0 : List UInt8 := [42, 180, 0, 20, 182, 0, 99, 87, 42, 42, 43, 182, 0, 45, 181, 0, 49, 42, 3, 181, 0, 103, 42, 43]
abbrev dktX8_sorts_0 : List UInt8 := dkwX8_sorts_0 ++ dktX8_sorts_1
theorem dksX8_sorts_0 : cX8_sorts.data.toList.drop 0 = dktX8_sorts_0 := by decide +kernel
theorem dksX8_sorts_1 : cX8_sorts.data.toList.drop 24 = dktX8_sorts_1 := dk_seg dksX8_sorts_0 24 rfl rfl
theorem dksX8_sorts_2 : cX8_sorts.data.toList.drop 48 = dktX8_sorts_2 := dk_seg dksX8_sorts_1 24 rfl rfl
theorem dX8_sorts_0 : decode cX8_sorts 0 = .ok (.aload_n 0, 1) := dk_42 (dk_at dksX8_sorts_0 0 rfl rfl)
theorem dX8_sorts_1 : decode cX8_sorts 1 = .ok (.getfield 20, 3) := dk_180 0 20 (dk_at dksX8_sorts_0 1 rfl rfl)
theorem dX8_sorts_4 : decode cX8_sorts 4 = .ok (.invokevirtual 99, 3) := dk_182 0 99 (dk_at dksX8_sorts_0 4 rfl rfl)
theorem dX8_sorts_7 : decode cX8_sorts 7 = .ok (.pop, 1) := dk_87 (dk_at dksX8_sorts_0 7 rfl rfl)
theorem dX8_sorts_8 : decode cX8_sorts 8 = .ok (.aload_n 0, 1) := dk_42 (dk_at dksX8_sorts_0 8 rfl rfl)
theorem dX8_sorts_9 : decode cX8_sorts 9 = .ok (.aload_n 0, 1) := dk_42 (dk_at dksX8_sorts_0 9 rfl rfl)
theorem dX8_sorts_10 : decode cX8_sorts 10 = .ok (.aload_n 1, 1) := dk_43 (dk_at dksX8_sorts_0 10 rfl rfl)
theorem dX8_sorts_11 : decode cX8_sorts 11 = .ok (.invokevirtual 45, 3) := dk_182 0 45 (dk_at dksX8_sorts_0 11 rfl rfl)
theorem dX8_sorts_14 : decode cX8_sorts 14 = .ok (.putfield 49, 3) := dk_181 0 49 (dk_at dksX8_sorts_0 14 rfl rfl)
theorem dX8_sorts_17 : decode cX8_sorts 17 = .ok (.aload_n 0, 1) := dk_42 (dk_at dksX8_sorts_0 17 rfl rfl)
theorem dX8_sorts_18 : decode cX8_sorts 18 = .ok (.iconst 0, 1) := dk_3 (dk_at dksX8_sorts_0 18 rfl rfl)
theorem dX8_sorts_19 : decode cX8_sorts 19 = .ok (.putfield 103, 3) := dk_181 0 103 (dk_at dksX8_sorts_0 19 rfl rfl)
theorem dX8_sorts_22 : decode cX8_sorts 22 = .ok (.aload_n 0, 1) := dk_42 (dk_at dksX8_sorts_0 22 rfl rfl)
theorem dX8_sorts_23 : decode cX8_sorts 23 = .ok (.aload_n 1, 1) := dk_43 (dk_at dksX8_sorts_0 23 rfl rfl)
theorem dX8_sorts_24 : decode cX8_sorts 24 = .ok (.invokevirtual 106, 3) := dk_182 0 106 (dk_at dksX8_sorts_1 0 rfl rfl)
theorem dX8_sorts_27 : decode cX8_sorts 27 = .ok (.ifCond .eq 16, 3) := dk_153 0 16 (dk_at dksX8_sorts_1 3 rfl rfl)
theorem dX8_sorts_30 : decode cX8_sorts 30 = .ok (.aload_n 0, 1) := dk_42 (dk_at dksX8_sorts_1 6 rfl rfl)
theorem dX8_sorts_31 : decode cX8_sorts 31 = .ok (.dup, 1) := dk_89 (dk_at dksX8_sorts_1 7 rfl rfl)
theorem dX8_sorts_32 : decode cX8_sorts 32 = .ok (.getfield 103, 3) := dk_180 0 103 (dk_at dksX8_sorts_1 8 rfl rfl)
theorem dX8_sorts_35 : decode cX8_sorts 35 = .ok (.iconst 1, 1) := dk_4 (dk_at dksX8_sorts_1 11 rfl rfl)
theorem dX8_sorts_36 : decode cX8_sorts 36 = .ok (.iadd, 1) := dk_96 (dk_at dksX8_sorts_1 12 rfl rfl)
theorem dX8_sorts_37 : decode cX8_sorts 37 = .ok (.putfield 103, 3) := dk_181 0 103 (dk_at dksX8_sorts_1 13 rfl rfl)
theorem dX8_sorts_40 : decode cX8_sorts 40 = .ok (.goto (-18), 3) := dk_167 255 238 (dk_at dksX8_sorts_1 16 rfl rfl)
theorem dX8_sorts_43 : decode cX8_sorts 43 = .ok (.aload_n 0, 1) := dk_42 (dk_at dksX8_sorts_1 19 rfl rfl)
theorem dX8_sorts_44 : decode cX8_sorts 44 = .ok (.invokevirtual 52, 3) := dk_182 0 52 (dk_at dksX8_sorts_1 20 rfl rfl)
theorem dX8_sorts_47 : decode cX8_sorts 47 = .ok (.aload_n 0, 1) := dk_42 (dk_at dksX8_sorts_1 23 rfl rfl)
theorem dX8_sorts_48 : decode cX8_sorts 48 = .ok (.areturn, 1) := dk_176 (dk_at dksX8_sorts_2 0 rfl rfl)
def dkwX8_isBetter_5 : List UInt8 := [28, 29, 182, 0, 95, 42, 21, 4, 181, 0, 49, 4, 172]
abbrev dktX8_isBetter_5 : List UInt8 := dkwX8_isBetter_5 ++ []
def dkwX8_isBetter_4 : List UInt8 := [62, 132, 6, 1, 167, 255, 192, 132, 5, 1, 167, 255, 168, 28, 2, 160, 0, 5, 3, 172, 42, 180, 0, 20]
abbrev dktX8_isBetter_4 : List UInt8 := dkwX8_isBetter_4 ++ dktX8_isBetter_5
def dkwX8_isBetter_3 : List UInt8 := [21, 6, 182, 0, 95, 21, 7, 21, 4, 163, 0, 6, 167, 0, 13, 21, 7, 54, 4, 21, 5, 61, 21, 6]
abbrev dktX8_isBetter_3 : List UInt8 := dkwX8_isBetter_3 ++ dktX8_isBetter_4
def dkwX8_isBetter_2 : List UInt8 := [180, 0, 20, 21, 5, 21, 6, 182, 0, 95, 42, 43, 182, 0, 45, 54, 7, 42, 180, 0, 20, 21, 5]
abbrev dktX8_isBetter_2 : List UInt8 := dkwX8_isBetter_2 ++ dktX8_isBetter_3
def dkwX8_isBetter_1 : List UInt8 := [162, 0, 82, 21, 5, 4, 96, 54, 6, 21, 6, 42, 180, 0, 20, 180, 0, 38, 162, 0, 58, 42]
abbrev dktX8_isBetter_1 : List UInt8 := dkwX8_isBetter_1 ++ dktX8_isBetter_2
def dkwX8_isBetter_0 : List UInt8 := [2, 61, 2, 62, 42, 180, 0, 49, 54, 4, 3, 54, 5, 21, 5, 42, 180, 0, 20, 180, 0, 38]
abbrev dktX8_isBetter_0 : List UInt8 := dkwX8_isBetter_0 ++ dktX8_isBetter_1
theorem dksX8_isBetter_0 : cX8_isBetter.data.toList.drop 0 = dktX8_isBetter_0 := by decide +kernel
theorem dksX8_isBetter_1 : cX8_isBetter.data.toList.drop 22 = dktX8_isBetter_1 := dk_seg dksX8_isBetter_0 22 rfl rfl
theorem dksX8_isBetter_2 : cX8_isBetter.data.toList.drop 44 = dktX8_isBetter_2 := dk_seg dksX8_isBetter_1 22 rfl rfl
theorem dksX8_isBetter_3 : cX8_isBetter.data.toList.drop 67 = dktX8_isBetter_3 := dk_seg dksX8_isBetter_2 23 rfl rfl
theorem dksX8_isBetter_4 : cX8_isBetter.data.toList.drop 91 = dktX8_isBetter_4 := dk_seg dksX8_isBetter_3 24 rfl rfl
theorem dksX8_isBetter_5 : cX8_isBetter.data.toList.drop 115 = dktX8_isBetter_5 := dk_seg dksX8_isBetter_4 24 rfl rfl
theorem dX8_isBetter_0 : decode cX8_isBetter 0 = .ok (.iconst (-1), 1) := dk_2 (dk_at dksX8_isBetter_0 0 rfl rfl)
theorem dX8_isBetter_1 : decode cX8_isBetter 1 = .ok (.istore_n 2, 1) := dk_61 (dk_at dksX8_isBetter_0 1 rfl rfl)
theorem dX8_isBetter_2 : decode cX8_isBetter 2 = .ok (.iconst (-1), 1) := dk_2 (dk_at dksX8_isBetter_0 2 rfl rfl)
theorem dX8_isBetter_3 : decode cX8_isBetter 3 = .ok (.istore_n 3, 1) := dk_62 (dk_at dksX8_isBetter_0 3 rfl rfl)
theorem dX8_isBetter_4 : decode cX8_isBetter 4 = .ok (.aload_n 0, 1) := dk_42 (dk_at dksX8_isBetter_0 4 rfl rfl)
theorem dX8_isBetter_5 : decode cX8_isBetter 5 = .ok (.getfield 49, 3) := dk_180 0 49 (dk_at dksX8_isBetter_0 5 rfl rfl)
theorem dX8_isBetter_8 : decode cX8_isBetter 8 = .ok (.istore 4, 2) := dk_54 4 (dk_at dksX8_isBetter_0 8 rfl rfl)
theorem dX8_isBetter_10 : decode cX8_isBetter 10 = .ok (.iconst 0, 1) := dk_3 (dk_at dksX8_isBetter_0 10 rfl rfl)
theorem dX8_isBetter_11 : decode cX8_isBetter 11 = .ok (.istore 5, 2) := dk_54 5 (dk_at dksX8_isBetter_0 11 rfl rfl)
theorem dX8_isBetter_13 : decode cX8_isBetter 13 = .ok (.iload 5, 2) := dk_21 5 (dk_at dksX8_isBetter_0 13 rfl rfl)
theorem dX8_isBetter_15 : decode cX8_isBetter 15 = .ok (.aload_n 0, 1) := dk_42 (dk_at dksX8_isBetter_0 15 rfl rfl)
theorem dX8_isBetter_16 : decode cX8_isBetter 16 = .ok (.getfield 20, 3) := dk_180 0 20 (dk_at dksX8_isBetter_0 16 rfl rfl)
theorem dX8_isBetter_19 : decode cX8_isBetter 19 = .ok (.getfield 38, 3) := dk_180 0 38 (dk_at dksX8_isBetter_0 19 rfl rfl)
theorem dX8_isBetter_22 : decode cX8_isBetter 22 = .ok (.if_icmp .ge 82, 3) := dk_162 0 82 (dk_at dksX8_isBetter_1 0 rfl rfl)
theorem dX8_isBetter_25 : decode cX8_isBetter 25 = .ok (.iload 5, 2) := dk_21 5 (dk_at dksX8_isBetter_1 3 rfl rfl)
theorem dX8_isBetter_27 : decode cX8_isBetter 27 = .ok (.iconst 1, 1) := dk_4 (dk_at dksX8_isBetter_1 5 rfl rfl)
theorem dX8_isBetter_28 : decode cX8_isBetter 28 = .ok (.iadd, 1) := dk_96 (dk_at dksX8_isBetter_1 6 rfl rfl)
theorem dX8_isBetter_29 : decode cX8_isBetter 29 = .ok (.istore 6, 2) := dk_54 6 (dk_at dksX8_isBetter_1 7 rfl rfl)
theorem dX8_isBetter_31 : decode cX8_isBetter 31 = .ok (.iload 6, 2) := dk_21 6 (dk_at dksX8_isBetter_1 9 rfl rfl)
theorem dX8_isBetter_33 : decode cX8_isBetter 33 = .ok (.aload_n 0, 1) := dk_42 (dk_at dksX8_isBetter_1 11 rfl rfl)
theorem dX8_isBetter_34 : decode cX8_isBetter 34 = .ok (.getfield 20, 3) := dk_180 0 20 (dk_at dksX8_isBetter_1 12 rfl rfl)
theorem dX8_isBetter_37 : decode cX8_isBetter 37 = .ok (.getfield 38, 3) := dk_180 0 38 (dk_at dksX8_isBetter_1 15 rfl rfl)
theorem dX8_isBetter_40 : decode cX8_isBetter 40 = .ok (.if_icmp .ge 58, 3) := dk_162 0 58 (dk_at dksX8_isBetter_1 18 rfl rfl)
theorem dX8_isBetter_43 : decode cX8_isBetter 43 = .ok (.aload_n 0, 1) := dk_42 (dk_at dksX8_isBetter_1 21 rfl rfl)
theorem dX8_isBetter_44 : decode cX8_isBetter 44 = .ok (.getfield 20, 3) := dk_180 0 20 (dk_at dksX8_isBetter_2 0 rfl rfl)
theorem dX8_isBetter_47 : decode cX8_isBetter 47 = .ok (.iload 5, 2) := dk_21 5 (dk_at dksX8_isBetter_2 3 rfl rfl)
theorem dX8_isBetter_49 : decode cX8_isBetter 49 = .ok (.iload 6, 2) := dk_21 6 (dk_at dksX8_isBetter_2 5 rfl rfl)
theorem dX8_isBetter_51 : decode cX8_isBetter 51 = .ok (.invokevirtual 95, 3) := dk_182 0 95 (dk_at dksX8_isBetter_2 7 rfl rfl)
theorem dX8_isBetter_54 : decode cX8_isBetter 54 = .ok (.aload_n 0, 1) := dk_42 (dk_at dksX8_isBetter_2 10 rfl rfl)
theorem dX8_isBetter_55 : decode cX8_isBetter 55 = .ok (.aload_n 1, 1) := dk_43 (dk_at dksX8_isBetter_2 11 rfl rfl)
theorem dX8_isBetter_56 : decode cX8_isBetter 56 = .ok (.invokevirtual 45, 3) := dk_182 0 45 (dk_at dksX8_isBetter_2 12 rfl rfl)
theorem dX8_isBetter_59 : decode cX8_isBetter 59 = .ok (.istore 7, 2) := dk_54 7 (dk_at dksX8_isBetter_2 15 rfl rfl)
theorem dX8_isBetter_61 : decode cX8_isBetter 61 = .ok (.aload_n 0, 1) := dk_42 (dk_at dksX8_isBetter_2 17 rfl rfl)
theorem dX8_isBetter_62 : decode cX8_isBetter 62 = .ok (.getfield 20, 3) := dk_180 0 20 (dk_at dksX8_isBetter_2 18 rfl rfl)
theorem dX8_isBetter_65 : decode cX8_isBetter 65 = .ok (.iload 5, 2) := dk_21 5 (dk_at dksX8_isBetter_2 21 rfl rfl)
theorem dX8_isBetter_67 : decode cX8_isBetter 67 = .ok (.iload 6, 2) := dk_21 6 (dk_at dksX8_isBetter_3 0 rfl rfl)
theorem dX8_isBetter_69 : decode cX8_isBetter 69 = .ok (.invokevirtual 95, 3) := dk_182 0 95 (dk_at dksX8_isBetter_3 2 rfl rfl)
theorem dX8_isBetter_72 : decode cX8_isBetter 72 = .ok (.iload 7, 2) := dk_21 7 (dk_at dksX8_isBetter_3 5 rfl rfl)
theorem dX8_isBetter_74 : decode cX8_isBetter 74 = .ok (.iload 4, 2) := dk_21 4 (dk_at dksX8_isBetter_3 7 rfl rfl)
theorem dX8_isBetter_76 : decode cX8_isBetter 76 = .ok (.if_icmp .gt 6, 3) := dk_163 0 6 (dk_at dksX8_isBetter_3 9 rfl rfl)
theorem dX8_isBetter_79 : decode cX8_isBetter 79 = .ok (.goto 13, 3) := dk_167 0 13 (dk_at dksX8_isBetter_3 12 rfl rfl)
theorem dX8_isBetter_82 : decode cX8_isBetter 82 = .ok (.iload 7, 2) := dk_21 7 (dk_at dksX8_isBetter_3 15 rfl rfl)
theorem dX8_isBetter_84 : decode cX8_isBetter 84 = .ok (.istore 4, 2) := dk_54 4 (dk_at dksX8_isBetter_3 17 rfl rfl)
theorem dX8_isBetter_86 : decode cX8_isBetter 86 = .ok (.iload 5, 2) := dk_21 5 (dk_at dksX8_isBetter_3 19 rfl rfl)
theorem dX8_isBetter_88 : decode cX8_isBetter 88 = .ok (.istore_n 2, 1) := dk_61 (dk_at dksX8_isBetter_3 21 rfl rfl)
theorem dX8_isBetter_89 : decode cX8_isBetter 89 = .ok (.iload 6, 2) := dk_21 6 (dk_at dksX8_isBetter_3 22 rfl rfl)
theorem dX8_isBetter_91 : decode cX8_isBetter 91 = .ok (.istore_n 3, 1) := dk_62 (dk_at dksX8_isBetter_4 0 rfl rfl)
theorem dX8_isBetter_92 : decode cX8_isBetter 92 = .ok (.iinc 6 1, 3) := dk_132 6 1 (dk_at dksX8_isBetter_4 1 rfl rfl)
theorem dX8_isBetter_95 : decode cX8_isBetter 95 = .ok (.goto (-64), 3) := dk_167 255 192 (dk_at dksX8_isBetter_4 4 rfl rfl)
theorem dX8_isBetter_98 : decode cX8_isBetter 98 = .ok (.iinc 5 1, 3) := dk_132 5 1 (dk_at dksX8_isBetter_4 7 rfl rfl)
theorem dX8_isBetter_101 : decode cX8_isBetter 101 = .ok (.goto (-88), 3) := dk_167 255 168 (dk_at dksX8_isBetter_4 10 rfl rfl)
theorem dX8_isBetter_104 : decode cX8_isBetter 104 = .ok (.iload_n 2, 1) := dk_28 (dk_at dksX8_isBetter_4 13 rfl rfl)
theorem dX8_isBetter_105 : decode cX8_isBetter 105 = .ok (.iconst (-1), 1) := dk_2 (dk_at dksX8_isBetter_4 14 rfl rfl)
theorem dX8_isBetter_106 : decode cX8_isBetter 106 = .ok (.if_icmp .ne 5, 3) := dk_160 0 5 (dk_at dksX8_isBetter_4 15 rfl rfl)
theorem dX8_isBetter_109 : decode cX8_isBetter 109 = .ok (.iconst 0, 1) := dk_3 (dk_at dksX8_isBetter_4 18 rfl rfl)
theorem dX8_isBetter_110 : decode cX8_isBetter 110 = .ok (.ireturn, 1) := dk_172 (dk_at dksX8_isBetter_4 19 rfl rfl)
theorem dX8_isBetter_111 : decode cX8_isBetter 111 = .ok (.aload_n 0, 1) := dk_42 (dk_at dksX8_isBetter_4 20 rfl rfl)
theorem dX8_isBetter_112 : decode cX8_isBetter 112 = .ok (.getfield 20, 3) := dk_180 0 20 (dk_at dksX8_isBetter_4 21 rfl rfl)
theorem dX8_isBetter_115 : decode cX8_isBetter 115 = .ok (.iload_n 2, 1) := dk_28 (dk_at dksX8_isBetter_5 0 rfl rfl)
theorem dX8_isBetter_116 : decode cX8_isBetter 116 = .ok (.iload_n 3, 1) := dk_29 (dk_at dksX8_isBetter_5 1 rfl rfl)
theorem dX8_isBetter_117 : decode cX8_isBetter 117 = .ok (.invokevirtual 95, 3) := dk_182 0 95 (dk_at dksX8_isBetter_5 2 rfl rfl)
theorem dX8_isBetter_120 : decode cX8_isBetter 120 = .ok (.aload_n 0, 1) := dk_42 (dk_at dksX8_isBetter_5 5 rfl rfl)
theorem dX8_isBetter_121 : decode cX8_isBetter 121 = .ok (.iload 4, 2) := dk_21 4 (dk_at dksX8_isBetter_5 6 rfl rfl)
theorem dX8_isBetter_123 : decode cX8_isBetter 123 = .ok (.putfield 49, 3) := dk_181 0 49 (dk_at dksX8_isBetter_5 8 rfl rfl)
theorem dX8_isBetter_126 : decode cX8_isBetter 126 = .ok (.iconst 1, 1) := dk_4 (dk_at dksX8_isBetter_5 11 rfl rfl)
theorem dX8_isBetter_127 : decode cX8_isBetter 127 = .ok (.ireturn, 1) := dk_172 (dk_at dksX8_isBetter_5 12 rfl rfl)
def dkwJ3_init_1 : List UInt8 := [167, 0, 16, 42, 27, 184, 0, 26, 181, 0, 15, 42, 4, 181, 0, 22, 177]
abbrev dktJ3_init_1 : List UInt8 := dkwJ3_init_1 ++ []
def dkwJ3_init_0 : List UInt8 := [42, 183, 0, 3, 178, 0, 18, 153, 0, 18, 42, 27, 188, 8, 181, 0, 15, 42, 3, 181, 0, 22]
abbrev dktJ3_init_0 : List UInt8 := dkwJ3_init_0 ++ dktJ3_init_1
theorem dksJ3_init_0 : cJ3_init.data.toList.drop 0 = dktJ3_init_0 := by decide +kernel
theorem dksJ3_init_1 : cJ3_init.data.toList.drop 22 = dktJ3_init_1 := dk_seg dksJ3_init_0 22 rfl rfl
theorem dJ3_init_0 : decode cJ3_init 0 = .ok (.aload_n 0, 1) := dk_42 (dk_at dksJ3_init_0 0 rfl rfl)
theorem dJ3_init_1 : decode cJ3_init 1 = .ok (.invokespecial 3, 3) := dk_183 0 3 (dk_at dksJ3_init_0 1 rfl rfl)
theorem dJ3_init_4 : decode cJ3_init 4 = .ok (.getstatic 18, 3) := dk_178 0 18 (dk_at dksJ3_init_0 4 rfl rfl)
theorem dJ3_init_7 : decode cJ3_init 7 = .ok (.ifCond .eq 18, 3) := dk_153 0 18 (dk_at dksJ3_init_0 7 rfl rfl)
theorem dJ3_init_10 : decode cJ3_init 10 = .ok (.aload_n 0, 1) := dk_42 (dk_at dksJ3_init_0 10 rfl rfl)
theorem dJ3_init_11 : decode cJ3_init 11 = .ok (.iload_n 1, 1) := dk_27 (dk_at dksJ3_init_0 11 rfl rfl)
theorem dJ3_init_12 : decode cJ3_init 12 = .ok (.newarray .byte, 2) := dk_188_8 (dk_at dksJ3_init_0 12 rfl rfl)
theorem dJ3_init_14 : decode cJ3_init 14 = .ok (.putfield 15, 3) := dk_181 0 15 (dk_at dksJ3_init_0 14 rfl rfl)
theorem dJ3_init_17 : decode cJ3_init 17 = .ok (.aload_n 0, 1) := dk_42 (dk_at dksJ3_init_0 17 rfl rfl)
theorem dJ3_init_18 : decode cJ3_init 18 = .ok (.iconst 0, 1) := dk_3 (dk_at dksJ3_init_0 18 rfl rfl)
theorem dJ3_init_19 : decode cJ3_init 19 = .ok (.putfield 22, 3) := dk_181 0 22 (dk_at dksJ3_init_0 19 rfl rfl)
theorem dJ3_init_22 : decode cJ3_init 22 = .ok (.goto 16, 3) := dk_167 0 16 (dk_at dksJ3_init_1 0 rfl rfl)
theorem dJ3_init_25 : decode cJ3_init 25 = .ok (.aload_n 0, 1) := dk_42 (dk_at dksJ3_init_1 3 rfl rfl)
theorem dJ3_init_26 : decode cJ3_init 26 = .ok (.iload_n 1, 1) := dk_27 (dk_at dksJ3_init_1 4 rfl rfl)
theorem dJ3_init_27 : decode cJ3_init 27 = .ok (.invokestatic 26, 3) := dk_184 0 26 (dk_at dksJ3_init_1 5 rfl rfl)
theorem dJ3_init_30 : decode cJ3_init 30 = .ok (.putfield 15, 3) := dk_181 0 15 (dk_at dksJ3_init_1 8 rfl rfl)
theorem dJ3_init_33 : decode cJ3_init 33 = .ok (.aload_n 0, 1) := dk_42 (dk_at dksJ3_init_1 11 rfl rfl)
theorem dJ3_init_34 : decode cJ3_init 34 = .ok (.iconst 1, 1) := dk_4 (dk_at dksJ3_init_1 12 rfl rfl)
theorem dJ3_init_35 : decode cJ3_init 35 = .ok (.putfield 22, 3) := dk_181 0 22 (dk_at dksJ3_init_1 13 rfl rfl)
theorem dJ3_init_38 : decode cJ3_init 38 = .ok (.return_, 1) := dk_177 (dk_at dksJ3_init_1 16 rfl rfl)
def dkwJ3_setLength_3 : List UInt8 := [164, 0, 8, 42, 4, 181, 0, 73, 42, 27, 181, 0, 79, 177]
abbrev dktJ3_setLength_3 : List UInt8 := dkwJ3_setLength_3 ++ []
def dkwJ3_setLength_2 : List UInt8 := [167, 0, 31, 42, 180, 0, 15, 42, 180, 0, 79, 27, 184, 0, 137, 167, 0, 16, 42, 180, 0, 79, 27]
abbrev dktJ3_setLength_2 : List UInt8 := dkwJ3_setLength_2 ++ dktJ3_setLength_3
def dkwJ3_setLength_1 : List UInt8 := [162, 0, 40, 42, 182, 0, 83, 153, 0, 18, 42, 180, 0, 15, 42, 180, 0, 79, 27, 184, 0, 133]
abbrev dktJ3_setLength_1 : List UInt8 := dkwJ3_setLength_1 ++ dktJ3_setLength_2
def dkwJ3_setLength_0 : List UInt8 := [27, 156, 0, 12, 187, 0, 129, 89, 27, 183, 0, 131, 191, 42, 27, 182, 0, 100, 42, 180, 0, 79, 27]
abbrev dktJ3_setLength_0 : List UInt8 := dkwJ3_setLength_0 ++ dktJ3_setLength_1
theorem dksJ3_setLength_0 : cJ3_setLength.data.toList.drop 0 = dktJ3_setLength_0 := by decide +kernel
theorem dksJ3_setLength_1 : cJ3_setLength.data.toList.drop 23 = dktJ3_setLength_1 := dk_seg dksJ3_setLength_0 23 rfl rfl
theorem dksJ3_setLength_2 : cJ3_setLength.data.toList.drop 45 = dktJ3_setLength_2 := dk_seg dksJ3_setLength_1 22 rfl rfl
theorem dksJ3_setLength_3 : cJ3_setLength.data.toList.drop 68 = dktJ3_setLength_3 := dk_seg dksJ3_setLength_2 23 rfl rfl
theorem dJ3_setLength_0 : decode cJ3_setLength 0 = .ok (.iload_n 1, 1) := dk_27 (dk_at dksJ3_setLength_0 0 rfl rfl)
theorem dJ3_setLength_1 : decode cJ3_setLength 1 = .ok (.ifCond .ge 12, 3) := dk_156 0 12 (dk_at dksJ3_setLength_0 1 rfl rfl)
theorem dJ3_setLength_4 : decode cJ3_setLength 4 = .ok (.new 129, 3) := dk_187 0 129 (dk_at dksJ3_setLength_0 4 rfl rfl)
theorem dJ3_setLength_7 : decode cJ3_setLength 7 = .ok (.dup, 1) := dk_89 (dk_at dksJ3_setLength_0 7 rfl rfl)
theorem dJ3_setLength_8 : decode cJ3_setLength 8 = .ok (.iload_n 1, 1) := dk_27 (dk_at dksJ3_setLength_0 8 rfl rfl)
theorem dJ3_setLength_9 : decode cJ3_setLength 9 = .ok (.invokespecial 131, 3) := dk_183 0 131 (dk_at dksJ3_setLength_0 9 rfl rfl)
theorem dJ3_setLength_12 : decode cJ3_setLength 12 = .ok (.athrow, 1) := dk_191 (dk_at dksJ3_setLength_0 12 rfl rfl)
theorem dJ3_setLength_13 : decode cJ3_setLength 13 = .ok (.aload_n 0, 1) := dk_42 (dk_at dksJ3_setLength_0 13 rfl rfl)
theorem dJ3_setLength_14 : decode cJ3_setLength 14 = .ok (.iload_n 1, 1) := dk_27 (dk_at dksJ3_setLength_0 14 rfl rfl)
theorem dJ3_setLength_15 : decode cJ3_setLength 15 = .ok (.invokevirtual 100, 3) := dk_182 0 100 (dk_at dksJ3_setLength_0 15 rfl rfl)
theorem dJ3_setLength_18 : decode cJ3_setLength 18 = .ok (.aload_n 0, 1) := dk_42 (dk_at dksJ3_setLength_0 18 rfl rfl)
theorem dJ3_setLength_19 : decode cJ3_setLength 19 = .ok (.getfield 79, 3) := dk_180 0 79 (dk_at dksJ3_setLength_0 19 rfl rfl)
theorem dJ3_setLength_22 : decode cJ3_setLength 22 = .ok (.iload_n 1, 1) := dk_27 (dk_at dksJ3_setLength_0 22 rfl rfl)
theorem dJ3_setLength_23 : decode cJ3_setLength 23 = .ok (.if_icmp .ge 40, 3) := dk_162 0 40 (dk_at dksJ3_setLength_1 0 rfl rfl)
theorem dJ3_setLength_26 : decode cJ3_setLength 26 = .ok (.aload_n 0, 1) := dk_42 (dk_at dksJ3_setLength_1 3 rfl rfl)
theorem dJ3_setLength_27 : decode cJ3_setLength 27 = .ok (.invokevirtual 83, 3) := dk_182 0 83 (dk_at dksJ3_setLength_1 4 rfl rfl)
theorem dJ3_setLength_30 : decode cJ3_setLength 30 = .ok (.ifCond .eq 18, 3) := dk_153 0 18 (dk_at dksJ3_setLength_1 7 rfl rfl)
theorem dJ3_setLength_33 : decode cJ3_setLength 33 = .ok (.aload_n 0, 1) := dk_42 (dk_at dksJ3_setLength_1 10 rfl rfl)
theorem dJ3_setLength_34 : decode cJ3_setLength 34 = .ok (.getfield 15, 3) := dk_180 0 15 (dk_at dksJ3_setLength_1 11 rfl rfl)
theorem dJ3_setLength_37 : decode cJ3_setLength 37 = .ok (.aload_n 0, 1) := dk_42 (dk_at dksJ3_setLength_1 14 rfl rfl)
theorem dJ3_setLength_38 : decode cJ3_setLength 38 = .ok (.getfield 79, 3) := dk_180 0 79 (dk_at dksJ3_setLength_1 15 rfl rfl)
theorem dJ3_setLength_41 : decode cJ3_setLength 41 = .ok (.iload_n 1, 1) := dk_27 (dk_at dksJ3_setLength_1 18 rfl rfl)
theorem dJ3_setLength_42 : decode cJ3_setLength 42 = .ok (.invokestatic 133, 3) := dk_184 0 133 (dk_at dksJ3_setLength_1 19 rfl rfl)
theorem dJ3_setLength_45 : decode cJ3_setLength 45 = .ok (.goto 31, 3) := dk_167 0 31 (dk_at dksJ3_setLength_2 0 rfl rfl)
theorem dJ3_setLength_48 : decode cJ3_setLength 48 = .ok (.aload_n 0, 1) := dk_42 (dk_at dksJ3_setLength_2 3 rfl rfl)
theorem dJ3_setLength_49 : decode cJ3_setLength 49 = .ok (.getfield 15, 3) := dk_180 0 15 (dk_at dksJ3_setLength_2 4 rfl rfl)
theorem dJ3_setLength_52 : decode cJ3_setLength 52 = .ok (.aload_n 0, 1) := dk_42 (dk_at dksJ3_setLength_2 7 rfl rfl)
theorem dJ3_setLength_53 : decode cJ3_setLength 53 = .ok (.getfield 79, 3) := dk_180 0 79 (dk_at dksJ3_setLength_2 8 rfl rfl)
theorem dJ3_setLength_56 : decode cJ3_setLength 56 = .ok (.iload_n 1, 1) := dk_27 (dk_at dksJ3_setLength_2 11 rfl rfl)
theorem dJ3_setLength_57 : decode cJ3_setLength 57 = .ok (.invokestatic 137, 3) := dk_184 0 137 (dk_at dksJ3_setLength_2 12 rfl rfl)
theorem dJ3_setLength_60 : decode cJ3_setLength 60 = .ok (.goto 16, 3) := dk_167 0 16 (dk_at dksJ3_setLength_2 15 rfl rfl)
theorem dJ3_setLength_63 : decode cJ3_setLength 63 = .ok (.aload_n 0, 1) := dk_42 (dk_at dksJ3_setLength_2 18 rfl rfl)
theorem dJ3_setLength_64 : decode cJ3_setLength 64 = .ok (.getfield 79, 3) := dk_180 0 79 (dk_at dksJ3_setLength_2 19 rfl rfl)
theorem dJ3_setLength_67 : decode cJ3_setLength 67 = .ok (.iload_n 1, 1) := dk_27 (dk_at dksJ3_setLength_2 22 rfl rfl)
theorem dJ3_setLength_68 : decode cJ3_setLength 68 = .ok (.if_icmp .le 8, 3) := dk_164 0 8 (dk_at dksJ3_setLength_3 0 rfl rfl)
theorem dJ3_setLength_71 : decode cJ3_setLength 71 = .ok (.aload_n 0, 1) := dk_42 (dk_at dksJ3_setLength_3 3 rfl rfl)
theorem dJ3_setLength_72 : decode cJ3_setLength 72 = .ok (.iconst 1, 1) := dk_4 (dk_at dksJ3_setLength_3 4 rfl rfl)
theorem dJ3_setLength_73 : decode cJ3_setLength 73 = .ok (.putfield 73, 3) := dk_181 0 73 (dk_at dksJ3_setLength_3 5 rfl rfl)
theorem dJ3_setLength_76 : decode cJ3_setLength 76 = .ok (.aload_n 0, 1) := dk_42 (dk_at dksJ3_setLength_3 8 rfl rfl)
theorem dJ3_setLength_77 : decode cJ3_setLength 77 = .ok (.iload_n 1, 1) := dk_27 (dk_at dksJ3_setLength_3 9 rfl rfl)
theorem dJ3_setLength_78 : decode cJ3_setLength 78 = .ok (.putfield 79, 3) := dk_181 0 79 (dk_at dksJ3_setLength_3 10 rfl rfl)
theorem dJ3_setLength_81 : decode cJ3_setLength 81 = .ok (.return_, 1) := dk_177 (dk_at dksJ3_setLength_3 13 rfl rfl)
def dkwJ3_ensureCapacityInternal_1 : List UInt8 := [182, 0, 104, 42, 180, 0, 22, 120, 184, 0, 108, 181, 0, 15, 177]
abbrev dktJ3_ensureCapacityInternal_1 : List UInt8 := dkwJ3_ensureCapacityInternal_1 ++ []
def dkwJ3_ensureCapacityInternal_0 : List UInt8 := [42, 180, 0, 15, 190, 42, 180, 0, 22, 122, 61, 27, 28, 100, 158, 0, 24, 42, 42, 180, 0, 15, 42, 27]
abbrev dktJ3_ensureCapacityInternal_0 : List UInt8 := dkwJ3_ensureCapacityInternal_0 ++ dktJ3_ensureCapacityInternal_1
theorem dksJ3_ensureCapacityInternal_0 : cJ3_ensureCapacityInternal.data.toList.drop 0 = dktJ3_ensureCapacityInternal_0 := by decide +kernel
theorem dksJ3_ensureCapacityInternal_1 : cJ3_ensureCapacityInternal.data.toList.drop 24 = dktJ3_ensureCapacityInternal_1 := dk_seg dksJ3_ensureCapacityInternal_0 24 rfl rfl
theorem dJ3_ensureCapacityInternal_0 : decode cJ3_ensureCapacityInternal 0 = .ok (.aload_n 0, 1) := dk_42 (dk_at dksJ3_ensureCapacityInternal_0 0 rfl rfl)
theorem dJ3_ensureCapacityInternal_1 : decode cJ3_ensureCapacityInternal 1 = .ok (.getfield 15, 3) := dk_180 0 15 (dk_at dksJ3_ensureCapacityInternal_0 1 rfl rfl)
theorem dJ3_ensureCapacityInternal_4 : decode cJ3_ensureCapacityInternal 4 = .ok (.arraylength, 1) := dk_190 (dk_at dksJ3_ensureCapacityInternal_0 4 rfl rfl)
theorem dJ3_ensureCapacityInternal_5 : decode cJ3_ensureCapacityInternal 5 = .ok (.aload_n 0, 1) := dk_42 (dk_at dksJ3_ensureCapacityInternal_0 5 rfl rfl)
theorem dJ3_ensureCapacityInternal_6 : decode cJ3_ensureCapacityInternal 6 = .ok (.getfield 22, 3) := dk_180 0 22 (dk_at dksJ3_ensureCapacityInternal_0 6 rfl rfl)
theorem dJ3_ensureCapacityInternal_9 : decode cJ3_ensureCapacityInternal 9 = .ok (.ishr, 1) := dk_122 (dk_at dksJ3_ensureCapacityInternal_0 9 rfl rfl)
theorem dJ3_ensureCapacityInternal_10 : decode cJ3_ensureCapacityInternal 10 = .ok (.istore_n 2, 1) := dk_61 (dk_at dksJ3_ensureCapacityInternal_0 10 rfl rfl)
theorem dJ3_ensureCapacityInternal_11 : decode cJ3_ensureCapacityInternal 11 = .ok (.iload_n 1, 1) := dk_27 (dk_at dksJ3_ensureCapacityInternal_0 11 rfl rfl)
theorem dJ3_ensureCapacityInternal_12 : decode cJ3_ensureCapacityInternal 12 = .ok (.iload_n 2, 1) := dk_28 (dk_at dksJ3_ensureCapacityInternal_0 12 rfl rfl)
theorem dJ3_ensureCapacityInternal_13 : decode cJ3_ensureCapacityInternal 13 = .ok (.isub, 1) := dk_100 (dk_at dksJ3_ensureCapacityInternal_0 13 rfl rfl)
theorem dJ3_ensureCapacityInternal_14 : decode cJ3_ensureCapacityInternal 14 = .ok (.ifCond .le 24, 3) := dk_158 0 24 (dk_at dksJ3_ensureCapacityInternal_0 14 rfl rfl)
theorem dJ3_ensureCapacityInternal_17 : decode cJ3_ensureCapacityInternal 17 = .ok (.aload_n 0, 1) := dk_42 (dk_at dksJ3_ensureCapacityInternal_0 17 rfl rfl)
theorem dJ3_ensureCapacityInternal_18 : decode cJ3_ensureCapacityInternal 18 = .ok (.aload_n 0, 1) := dk_42 (dk_at dksJ3_ensureCapacityInternal_0 18 rfl rfl)
theorem dJ3_ensureCapacityInternal_19 : decode cJ3_ensureCapacityInternal 19 = .ok (.getfield 15, 3) := dk_180 0 15 (dk_at dksJ3_ensureCapacityInternal_0 19 rfl rfl)
theorem dJ3_ensureCapacityInternal_22 : decode cJ3_ensureCapacityInternal 22 = .ok (.aload_n 0, 1) := dk_42 (dk_at dksJ3_ensureCapacityInternal_0 22 rfl rfl)
theorem dJ3_ensureCapacityInternal_23 : decode cJ3_ensureCapacityInternal 23 = .ok (.iload_n 1, 1) := dk_27 (dk_at dksJ3_ensureCapacityInternal_0 23 rfl rfl)
theorem dJ3_ensureCapacityInternal_24 : decode cJ3_ensureCapacityInternal 24 = .ok (.invokevirtual 104, 3) := dk_182 0 104 (dk_at dksJ3_ensureCapacityInternal_1 0 rfl rfl)
theorem dJ3_ensureCapacityInternal_27 : decode cJ3_ensureCapacityInternal 27 = .ok (.aload_n 0, 1) := dk_42 (dk_at dksJ3_ensureCapacityInternal_1 3 rfl rfl)
theorem dJ3_ensureCapacityInternal_28 : decode cJ3_ensureCapacityInternal 28 = .ok (.getfield 22, 3) := dk_180 0 22 (dk_at dksJ3_ensureCapacityInternal_1 4 rfl rfl)
theorem dJ3_ensureCapacityInternal_31 : decode cJ3_ensureCapacityInternal 31 = .ok (.ishl, 1) := dk_120 (dk_at dksJ3_ensureCapacityInternal_1 7 rfl rfl)
theorem dJ3_ensureCapacityInternal_32 : decode cJ3_ensureCapacityInternal 32 = .ok (.invokestatic 108, 3) := dk_184 0 108 (dk_at dksJ3_ensureCapacityInternal_1 8 rfl rfl)
theorem dJ3_ensureCapacityInternal_35 : decode cJ3_ensureCapacityInternal 35 = .ok (.putfield 15, 3) := dk_181 0 15 (dk_at dksJ3_ensureCapacityInternal_1 11 rfl rfl)
theorem dJ3_ensureCapacityInternal_38 : decode cJ3_ensureCapacityInternal 38 = .ok (.return_, 1) := dk_177 (dk_at dksJ3_ensureCapacityInternal_1 14 rfl rfl)
def dkwJ3_newCapacity_2 : List UInt8 := [183, 0, 124, 191, 21, 5, 42, 180, 0, 22, 122, 172]
abbrev dktJ3_newCapacity_2 : List UInt8 := dkwJ3_newCapacity_2 ++ []
def dkwJ3_newCapacity_1 : List UInt8 := [180, 0, 22, 120, 96, 184, 0, 114, 54, 5, 21, 5, 18, 39, 160, 0, 13, 187, 0, 120, 89, 18, 122]
abbrev dktJ3_newCapacity_1 : List UInt8 := dkwJ3_newCapacity_1 ++ dktJ3_newCapacity_2
def dkwJ3_newCapacity_0 : List UInt8 := [42, 180, 0, 15, 190, 61, 27, 42, 180, 0, 22, 120, 62, 29, 28, 100, 54, 4, 28, 21, 4, 28, 5, 42]
abbrev dktJ3_newCapacity_0 : List UInt8 := dkwJ3_newCapacity_0 ++ dktJ3_newCapacity_1
theorem dksJ3_newCapacity_0 : cJ3_newCapacity.data.toList.drop 0 = dktJ3_newCapacity_0 := by decide +kernel
theorem dksJ3_newCapacity_1 : cJ3_newCapacity.data.toList.drop 24 = dktJ3_newCapacity_1 := dk_seg dksJ3_newCapacity_0 24 rfl rfl
theorem dksJ3_newCapacity_2 : cJ3_newCapacity.data.toList.drop 47 = dktJ3_newCapacity_2 := dk_seg dksJ3_newCapacity_1 23 rfl rfl
theorem dJ3_newCapacity_0 : decode cJ3_newCapacity 0 = .ok (.aload_n 0, 1) := dk_42 (dk_at dksJ3_newCapacity_0 0 rfl rfl)
theorem dJ3_newCapacity_1 : decode cJ3_newCapacity 1 = .ok (.getfield 15, 3) := dk_180 0 15 (dk_at dksJ3_newCapacity_0 1 rfl rfl)
theorem dJ3_newCapacity_4 : decode cJ3_newCapacity 4 = .ok (.arraylength, 1) := dk_190 (dk_at dksJ3_newCapacity_0 4 rfl rfl)
theorem dJ3_newCapacity_5 : decode cJ3_newCapacity 5 = .ok (.istore_n 2, 1) := dk_61 (dk_at dksJ3_newCapacity_0 5 rfl rfl)
theorem dJ3_newCapacity_6 : decode cJ3_newCapacity 6 = .ok (.iload_n 1, 1) := dk_27 (dk_at dksJ3_newCapacity_0 6 rfl rfl)
theorem dJ3_newCapacity_7 : decode cJ3_newCapacity 7 = .ok (.aload_n 0, 1) := dk_42 (dk_at dksJ3_newCapacity_0 7 rfl rfl)
theorem dJ3_newCapacity_8 : decode cJ3_newCapacity 8 = .ok (.getfield 22, 3) := dk_180 0 22 (dk_at dksJ3_newCapacity_0 8 rfl rfl)
theorem dJ3_newCapacity_11 : decode cJ3_newCapacity 11 = .ok (.ishl, 1) := dk_120 (dk_at dksJ3_newCapacity_0 11 rfl rfl)
theorem dJ3_newCapacity_12 : decode cJ3_newCapacity 12 = .ok (.istore_n 3, 1) := dk_62 (dk_at dksJ3_newCapacity_0 12 rfl rfl)
theorem dJ3_newCapacity_13 : decode cJ3_newCapacity 13 = .ok (.iload_n 3, 1) := dk_29 (dk_at dksJ3_newCapacity_0 13 rfl rfl)
theorem dJ3_newCapacity_14 : decode cJ3_newCapacity 14 = .ok (.iload_n 2, 1) := dk_28 (dk_at dksJ3_newCapacity_0 14 rfl rfl)
theorem dJ3_newCapacity_15 : decode cJ3_newCapacity 15 = .ok (.isub, 1) := dk_100 (dk_at dksJ3_newCapacity_0 15 rfl rfl)
theorem dJ3_newCapacity_16 : decode cJ3_newCapacity 16 = .ok (.istore 4, 2) := dk_54 4 (dk_at dksJ3_newCapacity_0 16 rfl rfl)
theorem dJ3_newCapacity_18 : decode cJ3_newCapacity 18 = .ok (.iload_n 2, 1) := dk_28 (dk_at dksJ3_newCapacity_0 18 rfl rfl)
theorem dJ3_newCapacity_19 : decode cJ3_newCapacity 19 = .ok (.iload 4, 2) := dk_21 4 (dk_at dksJ3_newCapacity_0 19 rfl rfl)
theorem dJ3_newCapacity_21 : decode cJ3_newCapacity 21 = .ok (.iload_n 2, 1) := dk_28 (dk_at dksJ3_newCapacity_0 21 rfl rfl)
theorem dJ3_newCapacity_22 : decode cJ3_newCapacity 22 = .ok (.iconst 2, 1) := dk_5 (dk_at dksJ3_newCapacity_0 22 rfl rfl)
theorem dJ3_newCapacity_23 : decode cJ3_newCapacity 23 = .ok (.aload_n 0, 1) := dk_42 (dk_at dksJ3_newCapacity_0 23 rfl rfl)
theorem dJ3_newCapacity_24 : decode cJ3_newCapacity 24 = .ok (.getfield 22, 3) := dk_180 0 22 (dk_at dksJ3_newCapacity_1 0 rfl rfl)
theorem dJ3_newCapacity_27 : decode cJ3_newCapacity 27 = .ok (.ishl, 1) := dk_120 (dk_at dksJ3_newCapacity_1 3 rfl rfl)
theorem dJ3_newCapacity_28 : decode cJ3_newCapacity 28 = .ok (.iadd, 1) := dk_96 (dk_at dksJ3_newCapacity_1 4 rfl rfl)
theorem dJ3_newCapacity_29 : decode cJ3_newCapacity 29 = .ok (.invokestatic 114, 3) := dk_184 0 114 (dk_at dksJ3_newCapacity_1 5 rfl rfl)
theorem dJ3_newCapacity_32 : decode cJ3_newCapacity 32 = .ok (.istore 5, 2) := dk_54 5 (dk_at dksJ3_newCapacity_1 8 rfl rfl)
theorem dJ3_newCapacity_34 : decode cJ3_newCapacity 34 = .ok (.iload 5, 2) := dk_21 5 (dk_at dksJ3_newCapacity_1 10 rfl rfl)
theorem dJ3_newCapacity_36 : decode cJ3_newCapacity 36 = .ok (.ldc 39, 2) := dk_18 39 (dk_at dksJ3_newCapacity_1 12 rfl rfl)
theorem dJ3_newCapacity_38 : decode cJ3_newCapacity 38 = .ok (.if_icmp .ne 13, 3) := dk_160 0 13 (dk_at dksJ3_newCapacity_1 14 rfl rfl)
theorem dJ3_newCapacity_41 : decode cJ3_newCapacity 41 = .ok (.new 120, 3) := dk_187 0 120 (dk_at dksJ3_newCapacity_1 17 rfl rfl)
theorem dJ3_newCapacity_44 : decode cJ3_newCapacity 44 = .ok (.dup, 1) := dk_89 (dk_at dksJ3_newCapacity_1 20 rfl rfl)
theorem dJ3_newCapacity_45 : decode cJ3_newCapacity 45 = .ok (.ldc 122, 2) := dk_18 122 (dk_at dksJ3_newCapacity_1 21 rfl rfl)
theorem dJ3_newCapacity_47 : decode cJ3_newCapacity 47 = .ok (.invokespecial 124, 3) := dk_183 0 124 (dk_at dksJ3_newCapacity_2 0 rfl rfl)
theorem dJ3_newCapacity_50 : decode cJ3_newCapacity 50 = .ok (.athrow, 1) := dk_191 (dk_at dksJ3_newCapacity_2 3 rfl rfl)
theorem dJ3_newCapacity_51 : decode cJ3_newCapacity 51 = .ok (.iload 5, 2) := dk_21 5 (dk_at dksJ3_newCapacity_2 4 rfl rfl)
theorem dJ3_newCapacity_53 : decode cJ3_newCapacity 53 = .ok (.aload_n 0, 1) := dk_42 (dk_at dksJ3_newCapacity_2 6 rfl rfl)
theorem dJ3_newCapacity_54 : decode cJ3_newCapacity 54 = .ok (.getfield 22, 3) := dk_180 0 22 (dk_at dksJ3_newCapacity_2 7 rfl rfl)
theorem dJ3_newCapacity_57 : decode cJ3_newCapacity 57 = .ok (.ishr, 1) := dk_122 (dk_at dksJ3_newCapacity_2 10 rfl rfl)
theorem dJ3_newCapacity_58 : decode cJ3_newCapacity 58 = .ok (.ireturn, 1) := dk_172 (dk_at dksJ3_newCapacity_2 11 rfl rfl)
def dkwJ3_isLatin1_0 : List UInt8 := [178, 0, 18, 153, 0, 14, 42, 180, 0, 22, 154, 0, 7, 4, 167, 0, 4, 3, 172]
abbrev dktJ3_isLatin1_0 : List UInt8 := dkwJ3_isLatin1_0 ++ []
theorem dksJ3_isLatin1_0 : cJ3_isLatin1.data.toList.drop 0 = dktJ3_isLatin1_0 := by decide +kernel
theorem dJ3_isLatin1_0 : decode cJ3_isLatin1 0 = .ok (.getstatic 18, 3) := dk_178 0 18 (dk_at dksJ3_isLatin1_0 0 rfl rfl)
theorem dJ3_isLatin1_3 : decode cJ3_isLatin1 3 = .ok (.ifCond .eq 14, 3) := dk_153 0 14 (dk_at dksJ3_isLatin1_0 3 rfl rfl)
theorem dJ3_isLatin1_6 : decode cJ3_isLatin1 6 = .ok (.aload_n 0, 1) := dk_42 (dk_at dksJ3_isLatin1_0 6 rfl rfl)
theorem dJ3_isLatin1_7 : decode cJ3_isLatin1 7 = .ok (.getfield 22, 3) := dk_180 0 22 (dk_at dksJ3_isLatin1_0 7 rfl rfl)
theorem dJ3_isLatin1_10 : decode cJ3_isLatin1 10 = .ok (.ifCond .ne 7, 3) := dk_154 0 7 (dk_at dksJ3_isLatin1_0 10 rfl rfl)
theorem dJ3_isLatin1_13 : decode cJ3_isLatin1 13 = .ok (.iconst 1, 1) := dk_4 (dk_at dksJ3_isLatin1_0 13 rfl rfl)
theorem dJ3_isLatin1_14 : decode cJ3_isLatin1 14 = .ok (.goto 4, 3) := dk_167 0 4 (dk_at dksJ3_isLatin1_0 14 rfl rfl)
theorem dJ3_isLatin1_17 : decode cJ3_isLatin1 17 = .ok (.iconst 0, 1) := dk_3 (dk_at dksJ3_isLatin1_0 17 rfl rfl)
theorem dJ3_isLatin1_18 : decode cJ3_isLatin1 18 = .ok (.ireturn, 1) := dk_172 (dk_at dksJ3_isLatin1_0 18 rfl rfl)
def dkwJ3_append_3 : List UInt8 := [181, 0, 79, 27, 184, 0, 197, 42, 176]
abbrev dktJ3_append_3 : List UInt8 := dkwJ3_append_3 ++ []
def dkwJ3_append_2 : List UInt8 := [182, 0, 83, 153, 0, 7, 42, 182, 0, 195, 42, 180, 0, 15, 42, 89, 180, 0, 79, 90, 4, 96]
abbrev dktJ3_append_2 : List UInt8 := dkwJ3_append_2 ++ dktJ3_append_3
def dkwJ3_append_1 : List UInt8 := [42, 180, 0, 15, 42, 89, 180, 0, 79, 90, 4, 96, 181, 0, 79, 27, 145, 84, 167, 0, 33, 42]
abbrev dktJ3_append_1 : List UInt8 := dkwJ3_append_1 ++ dktJ3_append_2
def dkwJ3_append_0 : List UInt8 := [42, 42, 180, 0, 79, 4, 96, 182, 0, 100, 42, 182, 0, 83, 153, 0, 31, 27, 184, 0, 191, 153, 0, 24]
abbrev dktJ3_append_0 : List UInt8 := dkwJ3_append_0 ++ dktJ3_append_1
theorem dksJ3_append_0 : cJ3_append.data.toList.drop 0 = dktJ3_append_0 := by decide +kernel
theorem dksJ3_append_1 : cJ3_append.data.toList.drop 24 = dktJ3_append_1 := dk_seg dksJ3_append_0 24 rfl rfl
theorem dksJ3_append_2 : cJ3_append.data.toList.drop 46 = dktJ3_append_2 := dk_seg dksJ3_append_1 22 rfl rfl
theorem dksJ3_append_3 : cJ3_append.data.toList.drop 68 = dktJ3_append_3 := dk_seg dksJ3_append_2 22 rfl rfl
theorem dJ3_append_0 : decode cJ3_append 0 = .ok (.aload_n 0, 1) := dk_42 (dk_at dksJ3_append_0 0 rfl rfl)
theorem dJ3_append_1 : decode cJ3_append 1 = .ok (.aload_n 0, 1) := dk_42 (dk_at dksJ3_append_0 1 rfl rfl)
theorem dJ3_append_2 : decode cJ3_append 2 = .ok (.getfield 79, 3) := dk_180 0 79 (dk_at dksJ3_append_0 2 rfl rfl)
theorem dJ3_append_5 : decode cJ3_append 5 = .ok (.iconst 1, 1) := dk_4 (dk_at dksJ3_append_0 5 rfl rfl)
theorem dJ3_append_6 : decode cJ3_append 6 = .ok (.iadd, 1) := dk_96 (dk_at dksJ3_append_0 6 rfl rfl)
theorem dJ3_append_7 : decode cJ3_append 7 = .ok (.invokevirtual 100, 3) := dk_182 0 100 (dk_at dksJ3_append_0 7 rfl rfl)
theorem dJ3_append_10 : decode cJ3_append 10 = .ok (.aload_n 0, 1) := dk_42 (dk_at dksJ3_append_0 10 rfl rfl)
theorem dJ3_append_11 : decode cJ3_append 11 = .ok (.invokevirtual 83, 3) := dk_182 0 83 (dk_at dksJ3_append_0 11 rfl rfl)
theorem dJ3_append_14 : decode cJ3_append 14 = .ok (.ifCond .eq 31, 3) := dk_153 0 31 (dk_at dksJ3_append_0 14 rfl rfl)
theorem dJ3_append_17 : decode cJ3_append 17 = .ok (.iload_n 1, 1) := dk_27 (dk_at dksJ3_append_0 17 rfl rfl)
theorem dJ3_append_18 : decode cJ3_append 18 = .ok (.invokestatic 191, 3) := dk_184 0 191 (dk_at dksJ3_append_0 18 rfl rfl)
theorem dJ3_append_21 : decode cJ3_append 21 = .ok (.ifCond .eq 24, 3) := dk_153 0 24 (dk_at dksJ3_append_0 21 rfl rfl)
theorem dJ3_append_24 : decode cJ3_append 24 = .ok (.aload_n 0, 1) := dk_42 (dk_at dksJ3_append_1 0 rfl rfl)
theorem dJ3_append_25 : decode cJ3_append 25 = .ok (.getfield 15, 3) := dk_180 0 15 (dk_at dksJ3_append_1 1 rfl rfl)
theorem dJ3_append_28 : decode cJ3_append 28 = .ok (.aload_n 0, 1) := dk_42 (dk_at dksJ3_append_1 4 rfl rfl)
theorem dJ3_append_29 : decode cJ3_append 29 = .ok (.dup, 1) := dk_89 (dk_at dksJ3_append_1 5 rfl rfl)
theorem dJ3_append_30 : decode cJ3_append 30 = .ok (.getfield 79, 3) := dk_180 0 79 (dk_at dksJ3_append_1 6 rfl rfl)
theorem dJ3_append_33 : decode cJ3_append 33 = .ok (.dup_x1, 1) := dk_90 (dk_at dksJ3_append_1 9 rfl rfl)
theorem dJ3_append_34 : decode cJ3_append 34 = .ok (.iconst 1, 1) := dk_4 (dk_at dksJ3_append_1 10 rfl rfl)
theorem dJ3_append_35 : decode cJ3_append 35 = .ok (.iadd, 1) := dk_96 (dk_at dksJ3_append_1 11 rfl rfl)
theorem dJ3_append_36 : decode cJ3_append 36 = .ok (.putfield 79, 3) := dk_181 0 79 (dk_at dksJ3_append_1 12 rfl rfl)
theorem dJ3_append_39 : decode cJ3_append 39 = .ok (.iload_n 1, 1) := dk_27 (dk_at dksJ3_append_1 15 rfl rfl)
theorem dJ3_append_40 : decode cJ3_append 40 = .ok (.i2b, 1) := dk_145 (dk_at dksJ3_append_1 16 rfl rfl)
theorem dJ3_append_41 : decode cJ3_append 41 = .ok (.bastore, 1) := dk_84 (dk_at dksJ3_append_1 17 rfl rfl)
theorem dJ3_append_42 : decode cJ3_append 42 = .ok (.goto 33, 3) := dk_167 0 33 (dk_at dksJ3_append_1 18 rfl rfl)
theorem dJ3_append_45 : decode cJ3_append 45 = .ok (.aload_n 0, 1) := dk_42 (dk_at dksJ3_append_1 21 rfl rfl)
theorem dJ3_append_46 : decode cJ3_append 46 = .ok (.invokevirtual 83, 3) := dk_182 0 83 (dk_at dksJ3_append_2 0 rfl rfl)
theorem dJ3_append_49 : decode cJ3_append 49 = .ok (.ifCond .eq 7, 3) := dk_153 0 7 (dk_at dksJ3_append_2 3 rfl rfl)
theorem dJ3_append_52 : decode cJ3_append 52 = .ok (.aload_n 0, 1) := dk_42 (dk_at dksJ3_append_2 6 rfl rfl)
theorem dJ3_append_53 : decode cJ3_append 53 = .ok (.invokevirtual 195, 3) := dk_182 0 195 (dk_at dksJ3_append_2 7 rfl rfl)
theorem dJ3_append_56 : decode cJ3_append 56 = .ok (.aload_n 0, 1) := dk_42 (dk_at dksJ3_append_2 10 rfl rfl)
theorem dJ3_append_57 : decode cJ3_append 57 = .ok (.getfield 15, 3) := dk_180 0 15 (dk_at dksJ3_append_2 11 rfl rfl)
theorem dJ3_append_60 : decode cJ3_append 60 = .ok (.aload_n 0, 1) := dk_42 (dk_at dksJ3_append_2 14 rfl rfl)
theorem dJ3_append_61 : decode cJ3_append 61 = .ok (.dup, 1) := dk_89 (dk_at dksJ3_append_2 15 rfl rfl)
theorem dJ3_append_62 : decode cJ3_append 62 = .ok (.getfield 79, 3) := dk_180 0 79 (dk_at dksJ3_append_2 16 rfl rfl)
theorem dJ3_append_65 : decode cJ3_append 65 = .ok (.dup_x1, 1) := dk_90 (dk_at dksJ3_append_2 19 rfl rfl)
theorem dJ3_append_66 : decode cJ3_append 66 = .ok (.iconst 1, 1) := dk_4 (dk_at dksJ3_append_2 20 rfl rfl)
theorem dJ3_append_67 : decode cJ3_append 67 = .ok (.iadd, 1) := dk_96 (dk_at dksJ3_append_2 21 rfl rfl)
theorem dJ3_append_68 : decode cJ3_append 68 = .ok (.putfield 79, 3) := dk_181 0 79 (dk_at dksJ3_append_3 0 rfl rfl)
theorem dJ3_append_71 : decode cJ3_append 71 = .ok (.iload_n 1, 1) := dk_27 (dk_at dksJ3_append_3 3 rfl rfl)
theorem dJ3_append_72 : decode cJ3_append 72 = .ok (.invokestatic 197, 3) := dk_184 0 197 (dk_at dksJ3_append_3 4 rfl rfl)
theorem dJ3_append_75 : decode cJ3_append 75 = .ok (.aload_n 0, 1) := dk_42 (dk_at dksJ3_append_3 7 rfl rfl)
theorem dJ3_append_76 : decode cJ3_append 76 = .ok (.areturn, 1) := dk_176 (dk_at dksJ3_append_3 8 rfl rfl)
def dkwJ3_inflate_1 : List UInt8 := [42, 180, 0, 79, 184, 0, 125, 42, 43, 181, 0, 15, 42, 4, 181, 0, 22, 177]
abbrev dktJ3_inflate_1 : List UInt8 := dkwJ3_inflate_1 ++ []
def dkwJ3_inflate_0 : List UInt8 := [42, 182, 0, 83, 154, 0, 4, 177, 42, 180, 0, 15, 190, 184, 0, 26, 76, 42, 180, 0, 15, 3, 43, 3]
abbrev dktJ3_inflate_0 : List UInt8 := dkwJ3_inflate_0 ++ dktJ3_inflate_1
theorem dksJ3_inflate_0 : cJ3_inflate.data.toList.drop 0 = dktJ3_inflate_0 := by decide +kernel
theorem dksJ3_inflate_1 : cJ3_inflate.data.toList.drop 24 = dktJ3_inflate_1 := dk_seg dksJ3_inflate_0 24 rfl rfl
theorem dJ3_inflate_0 : decode cJ3_inflate 0 = .ok (.aload_n 0, 1) := dk_42 (dk_at dksJ3_inflate_0 0 rfl rfl)
theorem dJ3_inflate_1 : decode cJ3_inflate 1 = .ok (.invokevirtual 83, 3) := dk_182 0 83 (dk_at dksJ3_inflate_0 1 rfl rfl)
theorem dJ3_inflate_4 : decode cJ3_inflate 4 = .ok (.ifCond .ne 4, 3) := dk_154 0 4 (dk_at dksJ3_inflate_0 4 rfl rfl)
theorem dJ3_inflate_7 : decode cJ3_inflate 7 = .ok (.return_, 1) := dk_177 (dk_at dksJ3_inflate_0 7 rfl rfl)
theorem dJ3_inflate_8 : decode cJ3_inflate 8 = .ok (.aload_n 0, 1) := dk_42 (dk_at dksJ3_inflate_0 8 rfl rfl)
theorem dJ3_inflate_9 : decode cJ3_inflate 9 = .ok (.getfield 15, 3) := dk_180 0 15 (dk_at dksJ3_inflate_0 9 rfl rfl)
theorem dJ3_inflate_12 : decode cJ3_inflate 12 = .ok (.arraylength, 1) := dk_190 (dk_at dksJ3_inflate_0 12 rfl rfl)
theorem dJ3_inflate_13 : decode cJ3_inflate 13 = .ok (.invokestatic 26, 3) := dk_184 0 26 (dk_at dksJ3_inflate_0 13 rfl rfl)
theorem dJ3_inflate_16 : decode cJ3_inflate 16 = .ok (.astore_n 1, 1) := dk_76 (dk_at dksJ3_inflate_0 16 rfl rfl)
theorem dJ3_inflate_17 : decode cJ3_inflate 17 = .ok (.aload_n 0, 1) := dk_42 (dk_at dksJ3_inflate_0 17 rfl rfl)
theorem dJ3_inflate_18 : decode cJ3_inflate 18 = .ok (.getfield 15, 3) := dk_180 0 15 (dk_at dksJ3_inflate_0 18 rfl rfl)
theorem dJ3_inflate_21 : decode cJ3_inflate 21 = .ok (.iconst 0, 1) := dk_3 (dk_at dksJ3_inflate_0 21 rfl rfl)
theorem dJ3_inflate_22 : decode cJ3_inflate 22 = .ok (.aload_n 1, 1) := dk_43 (dk_at dksJ3_inflate_0 22 rfl rfl)
theorem dJ3_inflate_23 : decode cJ3_inflate 23 = .ok (.iconst 0, 1) := dk_3 (dk_at dksJ3_inflate_0 23 rfl rfl)
theorem dJ3_inflate_24 : decode cJ3_inflate 24 = .ok (.aload_n 0, 1) := dk_42 (dk_at dksJ3_inflate_1 0 rfl rfl)
theorem dJ3_inflate_25 : decode cJ3_inflate 25 = .ok (.getfield 79, 3) := dk_180 0 79 (dk_at dksJ3_inflate_1 1 rfl rfl)
theorem dJ3_inflate_28 : decode cJ3_inflate 28 = .ok (.invokestatic 125, 3) := dk_184 0 125 (dk_at dksJ3_inflate_1 4 rfl rfl)
theorem dJ3_inflate_31 : decode cJ3_inflate 31 = .ok (.aload_n 0, 1) := dk_42 (dk_at dksJ3_inflate_1 7 rfl rfl)
theorem dJ3_inflate_32 : decode cJ3_inflate 32 = .ok (.aload_n 1, 1) := dk_43 (dk_at dksJ3_inflate_1 8 rfl rfl)
theorem dJ3_inflate_33 : decode cJ3_inflate 33 = .ok (.putfield 15, 3) := dk_181 0 15 (dk_at dksJ3_inflate_1 9 rfl rfl)
theorem dJ3_inflate_36 : decode cJ3_inflate 36 = .ok (.aload_n 0, 1) := dk_42 (dk_at dksJ3_inflate_1 12 rfl rfl)
theorem dJ3_inflate_37 : decode cJ3_inflate 37 = .ok (.iconst 1, 1) := dk_4 (dk_at dksJ3_inflate_1 13 rfl rfl)
theorem dJ3_inflate_38 : decode cJ3_inflate 38 = .ok (.putfield 22, 3) := dk_181 0 22 (dk_at dksJ3_inflate_1 14 rfl rfl)
theorem dJ3_inflate_41 : decode cJ3_inflate 41 = .ok (.return_, 1) := dk_177 (dk_at dksJ3_inflate_1 17 rfl rfl)
theorem dJ3_length_0 : decode cJ3_length 0 = .ok (.aload_n 0, 1) := by decide +kernel
theorem dJ3_length_1 : decode cJ3_length 1 = .ok (.getfield 79, 3) := by decide +kernel
theorem dJ3_length_4 : decode cJ3_length 4 = .ok (.ireturn, 1) := by decide +kernel
def dkwJ3_charAt_1 : List UInt8 := [21, 4, 184, 0, 144, 28, 154, 0, 12, 45, 27, 51, 17, 0, 255, 126, 146, 172, 45, 27, 184, 0, 148, 172]
abbrev dktJ3_charAt_1 : List UInt8 := dkwJ3_charAt_1 ++ []
def dkwJ3_charAt_0 : List UInt8 := [42, 180, 0, 22, 61, 42, 180, 0, 15, 78, 42, 180, 0, 79, 45, 190, 28, 122, 184, 0, 138, 54, 4, 27]
abbrev dktJ3_charAt_0 : List UInt8 := dkwJ3_charAt_0 ++ dktJ3_charAt_1
theorem dksJ3_charAt_0 : cJ3_charAt.data.toList.drop 0 = dktJ3_charAt_0 := by decide +kernel
theorem dksJ3_charAt_1 : cJ3_charAt.data.toList.drop 24 = dktJ3_charAt_1 := dk_seg dksJ3_charAt_0 24 rfl rfl
theorem dJ3_charAt_0 : decode cJ3_charAt 0 = .ok (.aload_n 0, 1) := dk_42 (dk_at dksJ3_charAt_0 0 rfl rfl)
theorem dJ3_charAt_1 : decode cJ3_charAt 1 = .ok (.getfield 22, 3) := dk_180 0 22 (dk_at dksJ3_charAt_0 1 rfl rfl)
theorem dJ3_charAt_4 : decode cJ3_charAt 4 = .ok (.istore_n 2, 1) := dk_61 (dk_at dksJ3_charAt_0 4 rfl rfl)
theorem dJ3_charAt_5 : decode cJ3_charAt 5 = .ok (.aload_n 0, 1) := dk_42 (dk_at dksJ3_charAt_0 5 rfl rfl)
theorem dJ3_charAt_6 : decode cJ3_charAt 6 = .ok (.getfield 15, 3) := dk_180 0 15 (dk_at dksJ3_charAt_0 6 rfl rfl)
theorem dJ3_charAt_9 : decode cJ3_charAt 9 = .ok (.astore_n 3, 1) := dk_78 (dk_at dksJ3_charAt_0 9 rfl rfl)
theorem dJ3_charAt_10 : decode cJ3_charAt 10 = .ok (.aload_n 0, 1) := dk_42 (dk_at dksJ3_charAt_0 10 rfl rfl)
theorem dJ3_charAt_11 : decode cJ3_charAt 11 = .ok (.getfield 79, 3) := dk_180 0 79 (dk_at dksJ3_charAt_0 11 rfl rfl)
theorem dJ3_charAt_14 : decode cJ3_charAt 14 = .ok (.aload_n 3, 1) := dk_45 (dk_at dksJ3_charAt_0 14 rfl rfl)
theorem dJ3_charAt_15 : decode cJ3_charAt 15 = .ok (.arraylength, 1) := dk_190 (dk_at dksJ3_charAt_0 15 rfl rfl)
theorem dJ3_charAt_16 : decode cJ3_charAt 16 = .ok (.iload_n 2, 1) := dk_28 (dk_at dksJ3_charAt_0 16 rfl rfl)
theorem dJ3_charAt_17 : decode cJ3_charAt 17 = .ok (.ishr, 1) := dk_122 (dk_at dksJ3_charAt_0 17 rfl rfl)
theorem dJ3_charAt_18 : decode cJ3_charAt 18 = .ok (.invokestatic 138, 3) := dk_184 0 138 (dk_at dksJ3_charAt_0 18 rfl rfl)
theorem dJ3_charAt_21 : decode cJ3_charAt 21 = .ok (.istore 4, 2) := dk_54 4 (dk_at dksJ3_charAt_0 21 rfl rfl)
theorem dJ3_charAt_23 : decode cJ3_charAt 23 = .ok (.iload_n 1, 1) := dk_27 (dk_at dksJ3_charAt_0 23 rfl rfl)
theorem dJ3_charAt_24 : decode cJ3_charAt 24 = .ok (.iload 4, 2) := dk_21 4 (dk_at dksJ3_charAt_1 0 rfl rfl)
theorem dJ3_charAt_26 : decode cJ3_charAt 26 = .ok (.invokestatic 144, 3) := dk_184 0 144 (dk_at dksJ3_charAt_1 2 rfl rfl)
theorem dJ3_charAt_29 : decode cJ3_charAt 29 = .ok (.iload_n 2, 1) := dk_28 (dk_at dksJ3_charAt_1 5 rfl rfl)
theorem dJ3_charAt_30 : decode cJ3_charAt 30 = .ok (.ifCond .ne 12, 3) := dk_154 0 12 (dk_at dksJ3_charAt_1 6 rfl rfl)
theorem dJ3_charAt_33 : decode cJ3_charAt 33 = .ok (.aload_n 3, 1) := dk_45 (dk_at dksJ3_charAt_1 9 rfl rfl)
theorem dJ3_charAt_34 : decode cJ3_charAt 34 = .ok (.iload_n 1, 1) := dk_27 (dk_at dksJ3_charAt_1 10 rfl rfl)
theorem dJ3_charAt_35 : decode cJ3_charAt 35 = .ok (.baload, 1) := dk_51 (dk_at dksJ3_charAt_1 11 rfl rfl)
theorem dJ3_charAt_36 : decode cJ3_charAt 36 = .ok (.sipush 255, 3) := dk_17 0 255 (dk_at dksJ3_charAt_1 12 rfl rfl)
theorem dJ3_charAt_39 : decode cJ3_charAt 39 = .ok (.iand, 1) := dk_126 (dk_at dksJ3_charAt_1 15 rfl rfl)
theorem dJ3_charAt_40 : decode cJ3_charAt 40 = .ok (.i2c, 1) := dk_146 (dk_at dksJ3_charAt_1 16 rfl rfl)
theorem dJ3_charAt_41 : decode cJ3_charAt 41 = .ok (.ireturn, 1) := dk_172 (dk_at dksJ3_charAt_1 17 rfl rfl)
theorem dJ3_charAt_42 : decode cJ3_charAt 42 = .ok (.aload_n 3, 1) := dk_45 (dk_at dksJ3_charAt_1 18 rfl rfl)
theorem dJ3_charAt_43 : decode cJ3_charAt 43 = .ok (.iload_n 1, 1) := dk_27 (dk_at dksJ3_charAt_1 19 rfl rfl)
theorem dJ3_charAt_44 : decode cJ3_charAt 44 = .ok (.invokestatic 148, 3) := dk_184 0 148 (dk_at dksJ3_charAt_1 20 rfl rfl)
theorem dJ3_charAt_47 : decode cJ3_charAt 47 = .ok (.ireturn, 1) := dk_172 (dk_at dksJ3_charAt_1 23 rfl rfl)
def dkwJ4_init_0 : List UInt8 := [42, 16, 16, 183, 0, 1, 177]
abbrev dktJ4_init_0 : List UInt8 := dkwJ4_init_0 ++ []
theorem dksJ4_init_0 : cJ4_init.data.toList.drop 0 = dktJ4_init_0 := by decide +kernel
theorem dJ4_init_0 : decode cJ4_init 0 = .ok (.aload_n 0, 1) := dk_42 (dk_at dksJ4_init_0 0 rfl rfl)
theorem dJ4_init_1 : decode cJ4_init 1 = .ok (.bipush 16, 2) := dk_16 16 (dk_at dksJ4_init_0 1 rfl rfl)
theorem dJ4_init_3 : decode cJ4_init 3 = .ok (.invokespecial 1, 3) := dk_183 0 1 (dk_at dksJ4_init_0 3 rfl rfl)
theorem dJ4_init_6 : decode cJ4_init 6 = .ok (.return_, 1) := dk_177 (dk_at dksJ4_init_0 6 rfl rfl)
def dkwJ4_setLength_0 : List UInt8 := [42, 27, 183, 1, 77, 177]
abbrev dktJ4_setLength_0 : List UInt8 := dkwJ4_setLength_0 ++ []
theorem dksJ4_setLength_0 : cJ4_setLength.data.toList.drop 0 = dktJ4_setLength_0 := by decide +kernel
theorem dJ4_setLength_0 : decode cJ4_setLength 0 = .ok (.aload_n 0, 1) := dk_42 (dk_at dksJ4_setLength_0 0 rfl rfl)
theorem dJ4_setLength_1 : decode cJ4_setLength 1 = .ok (.iload_n 1, 1) := dk_27 (dk_at dksJ4_setLength_0 1 rfl rfl)
theorem dJ4_setLength_2 : decode cJ4_setLength 2 = .ok (.invokespecial 333, 3) := dk_183 1 77 (dk_at dksJ4_setLength_0 2 rfl rfl)
theorem dJ4_setLength_5 : decode cJ4_setLength 5 = .ok (.return_, 1) := dk_177 (dk_at dksJ4_setLength_0 5 rfl rfl)
def dkwJ4_append_0 : List UInt8 := [42, 27, 183, 0, 50, 87, 42, 176]
abbrev dktJ4_append_0 : List UInt8 := dkwJ4_append_0 ++ []
theorem dksJ4_append_0 : cJ4_append.data.toList.drop 0 = dktJ4_append_0 := by decide +kernel
theorem dJ4_append_0 : decode cJ4_append 0 = .ok (.aload_n 0, 1) := dk_42 (dk_at dksJ4_append_0 0 rfl rfl)
theorem dJ4_append_1 : decode cJ4_append 1 = .ok (.iload_n 1, 1) := dk_27 (dk_at dksJ4_append_0 1 rfl rfl)
theorem dJ4_append_2 : decode cJ4_append 2 = .ok (.invokespecial 50, 3) := dk_183 0 50 (dk_at dksJ4_append_0 2 rfl rfl)
theorem dJ4_append_5 : decode cJ4_append 5 = .ok (.pop, 1) := dk_87 (dk_at dksJ4_append_0 5 rfl rfl)
theorem dJ4_append_6 : decode cJ4_append 6 = .ok (.aload_n 0, 1) := dk_42 (dk_at dksJ4_append_0 6 rfl rfl)
theorem dJ4_append_7 : decode cJ4_append 7 = .ok (.areturn, 1) := dk_176 (dk_at dksJ4_append_0 7 rfl rfl)
theorem dJ4_length_0 : decode cJ4_length 0 = .ok (.aload_n 0, 1) := by decide +kernel
theorem dJ4_length_1 : decode cJ4_length 1 = .ok (.invokespecial 343, 3) := by decide +kernel
theorem dJ4_length_4 : decode cJ4_length 4 = .ok (.ireturn, 1) := by decide +kernel
def dkwJ4_charAt_0 : List UInt8 := [42, 27, 183, 1, 73, 172]
abbrev dktJ4_charAt_0 : List UInt8 := dkwJ4_charAt_0 ++ []
theorem dksJ4_charAt_0 : cJ4_charAt.data.toList.drop 0 = dktJ4_charAt_0 := by decide +kernel
theorem dJ4_charAt_0 : decode cJ4_charAt 0 = .ok (.aload_n 0, 1) := dk_42 (dk_at dksJ4_charAt_0 0 rfl rfl)
theorem dJ4_charAt_1 : decode cJ4_charAt 1 = .ok (.iload_n 1, 1) := dk_27 (dk_at dksJ4_charAt_0 1 rfl rfl)
theorem dJ4_charAt_2 : decode cJ4_charAt 2 = .ok (.invokespecial 329, 3) := dk_183 1 73 (dk_at dksJ4_charAt_0 2 rfl rfl)
theorem dJ4_charAt_5 : decode cJ4_charAt 5 = .ok (.ireturn, 1) := dk_172 (dk_at dksJ4_charAt_0 5 rfl rfl)
def dkwJ5_init_0 : List UInt8 := [42, 43, 28, 29, 43, 28, 29, 184, 0, 30, 183, 0, 27, 177]
abbrev dktJ5_init_0 : List UInt8 := dkwJ5_init_0 ++ []
theorem dksJ5_init_0 : cJ5_init.data.toList.drop 0 = dktJ5_init_0 := by decide +kernel
theorem dJ5_init_0 : decode cJ5_init 0 = .ok (.aload_n 0, 1) := dk_42 (dk_at dksJ5_init_0 0 rfl rfl)
theorem dJ5_init_1 : decode cJ5_init 1 = .ok (.aload_n 1, 1) := dk_43 (dk_at dksJ5_init_0 1 rfl rfl)
theorem dJ5_init_2 : decode cJ5_init 2 = .ok (.iload_n 2, 1) := dk_28 (dk_at dksJ5_init_0 2 rfl rfl)
theorem dJ5_init_3 : decode cJ5_init 3 = .ok (.iload_n 3, 1) := dk_29 (dk_at dksJ5_init_0 3 rfl rfl)
theorem dJ5_init_4 : decode cJ5_init 4 = .ok (.aload_n 1, 1) := dk_43 (dk_at dksJ5_init_0 4 rfl rfl)
theorem dJ5_init_5 : decode cJ5_init 5 = .ok (.iload_n 2, 1) := dk_28 (dk_at dksJ5_init_0 5 rfl rfl)
theorem dJ5_init_6 : decode cJ5_init 6 = .ok (.iload_n 3, 1) := dk_29 (dk_at dksJ5_init_0 6 rfl rfl)
theorem dJ5_init_7 : decode cJ5_init 7 = .ok (.invokestatic 30, 3) := dk_184 0 30 (dk_at dksJ5_init_0 7 rfl rfl)
theorem dJ5_init_10 : decode cJ5_init 10 = .ok (.invokespecial 27, 3) := dk_183 0 27 (dk_at dksJ5_init_0 10 rfl rfl)
theorem dJ5_init_13 : decode cJ5_init 13 = .ok (.return_, 1) := dk_177 (dk_at dksJ5_init_0 13 rfl rfl)
def dkwJ5_rangeCheck_0 : List UInt8 := [27, 28, 42, 190, 184, 0, 34, 87, 1, 176]
abbrev dktJ5_rangeCheck_0 : List UInt8 := dkwJ5_rangeCheck_0 ++ []
theorem dksJ5_rangeCheck_0 : cJ5_rangeCheck.data.toList.drop 0 = dktJ5_rangeCheck_0 := by decide +kernel
theorem dJ5_rangeCheck_0 : decode cJ5_rangeCheck 0 = .ok (.iload_n 1, 1) := dk_27 (dk_at dksJ5_rangeCheck_0 0 rfl rfl)
theorem dJ5_rangeCheck_1 : decode cJ5_rangeCheck 1 = .ok (.iload_n 2, 1) := dk_28 (dk_at dksJ5_rangeCheck_0 1 rfl rfl)
theorem dJ5_rangeCheck_2 : decode cJ5_rangeCheck 2 = .ok (.aload_n 0, 1) := dk_42 (dk_at dksJ5_rangeCheck_0 2 rfl rfl)
theorem dJ5_rangeCheck_3 : decode cJ5_rangeCheck 3 = .ok (.arraylength, 1) := dk_190 (dk_at dksJ5_rangeCheck_0 3 rfl rfl)
theorem dJ5_rangeCheck_4 : decode cJ5_rangeCheck 4 = .ok (.invokestatic 34, 3) := dk_184 0 34 (dk_at dksJ5_rangeCheck_0 4 rfl rfl)
theorem dJ5_rangeCheck_7 : decode cJ5_rangeCheck 7 = .ok (.pop, 1) := dk_87 (dk_at dksJ5_rangeCheck_0 7 rfl rfl)
theorem dJ5_rangeCheck_8 : decode cJ5_rangeCheck 8 = .ok (.aconst_null, 1) := dk_1 (dk_at dksJ5_rangeCheck_0 8 rfl rfl)
theorem dJ5_rangeCheck_9 : decode cJ5_rangeCheck 9 = .ok (.areturn, 1) := dk_176 (dk_at dksJ5_rangeCheck_0 9 rfl rfl)
def dkwJ5_checkBoundsOffCount_0 : List UInt8 := [26, 27, 28, 178, 4, 29, 184, 4, 41, 172]
abbrev dktJ5_checkBoundsOffCount_0 : List UInt8 := dkwJ5_checkBoundsOffCount_0 ++ []
theorem dksJ5_checkBoundsOffCount_0 : cJ5_checkBoundsOffCount.data.toList.drop 0 = dktJ5_checkBoundsOffCount_0 := by decide +kernel
theorem dJ5_checkBoundsOffCount_0 : decode cJ5_checkBoundsOffCount 0 = .ok (.iload_n 0, 1) := dk_26 (dk_at dksJ5_checkBoundsOffCount_0 0 rfl rfl)
theorem dJ5_checkBoundsOffCount_1 : decode cJ5_checkBoundsOffCount 1 = .ok (.iload_n 1, 1) := dk_27 (dk_at dksJ5_checkBoundsOffCount_0 1 rfl rfl)
theorem dJ5_checkBoundsOffCount_2 : decode cJ5_checkBoundsOffCount 2 = .ok (.iload_n 2, 1) := dk_28 (dk_at dksJ5_checkBoundsOffCount_0 2 rfl rfl)
theorem dJ5_checkBoundsOffCount_3 : decode cJ5_checkBoundsOffCount 3 = .ok (.getstatic 1053, 3) := dk_178 4 29 (dk_at dksJ5_checkBoundsOffCount_0 3 rfl rfl)
theorem dJ5_checkBoundsOffCount_6 : decode cJ5_checkBoundsOffCount 6 = .ok (.invokestatic 1065, 3) := dk_184 4 41 (dk_at dksJ5_checkBoundsOffCount_0 6 rfl rfl)
theorem dJ5_checkBoundsOffCount_9 : decode cJ5_checkBoundsOffCount 9 = .ok (.ireturn, 1) := dk_172 (dk_at dksJ5_checkBoundsOffCount_0 9 rfl rfl)
def dkwJ5_init_2_3 : List UInt8 := [184, 0, 180, 181, 0, 9, 177]
abbrev dktJ5_init_2_3 : List UInt8 := dkwJ5_init_2_3 ++ []
def dkwJ5_init_2_2 : List UInt8 := [184, 0, 47, 181, 0, 15, 42, 25, 5, 181, 0, 9, 177, 42, 4, 181, 0, 15, 42, 43, 28, 29]
abbrev dktJ5_init_2_2 : List UInt8 := dkwJ5_init_2_2 ++ dktJ5_init_2_3
def dkwJ5_init_2_1 : List UInt8 := [181, 0, 15, 177, 178, 0, 38, 153, 0, 28, 43, 28, 29, 184, 0, 177, 58, 5, 42, 25, 5, 29]
abbrev dktJ5_init_2_1 : List UInt8 := dkwJ5_init_2_1 ++ dktJ5_init_2_2
def dkwJ5_init_2_0 : List UInt8 := [42, 183, 0, 1, 29, 154, 0, 22, 42, 18, 7, 180, 0, 9, 181, 0, 9, 42, 18, 7, 180, 0, 15]
abbrev dktJ5_init_2_0 : List UInt8 := dkwJ5_init_2_0 ++ dktJ5_init_2_1
theorem dksJ5_init_2_0 : cJ5_init_2.data.toList.drop 0 = dktJ5_init_2_0 := by decide +kernel
theorem dksJ5_init_2_1 : cJ5_init_2.data.toList.drop 23 = dktJ5_init_2_1 := dk_seg dksJ5_init_2_0 23 rfl rfl
theorem dksJ5_init_2_2 : cJ5_init_2.data.toList.drop 45 = dktJ5_init_2_2 := dk_seg dksJ5_init_2_1 22 rfl rfl
theorem dksJ5_init_2_3 : cJ5_init_2.data.toList.drop 67 = dktJ5_init_2_3 := dk_seg dksJ5_init_2_2 22 rfl rfl
theorem dJ5_init_2_0 : decode cJ5_init_2 0 = .ok (.aload_n 0, 1) := dk_42 (dk_at dksJ5_init_2_0 0 rfl rfl)
theorem dJ5_init_2_1 : decode cJ5_init_2 1 = .ok (.invokespecial 1, 3) := dk_183 0 1 (dk_at dksJ5_init_2_0 1 rfl rfl)
theorem dJ5_init_2_4 : decode cJ5_init_2 4 = .ok (.iload_n 3, 1) := dk_29 (dk_at dksJ5_init_2_0 4 rfl rfl)
theorem dJ5_init_2_5 : decode cJ5_init_2 5 = .ok (.ifCond .ne 22, 3) := dk_154 0 22 (dk_at dksJ5_init_2_0 5 rfl rfl)
theorem dJ5_init_2_8 : decode cJ5_init_2 8 = .ok (.aload_n 0, 1) := dk_42 (dk_at dksJ5_init_2_0 8 rfl rfl)
theorem dJ5_init_2_9 : decode cJ5_init_2 9 = .ok (.ldc 7, 2) := dk_18 7 (dk_at dksJ5_init_2_0 9 rfl rfl)
theorem dJ5_init_2_11 : decode cJ5_init_2 11 = .ok (.getfield 9, 3) := dk_180 0 9 (dk_at dksJ5_init_2_0 11 rfl rfl)
theorem dJ5_init_2_14 : decode cJ5_init_2 14 = .ok (.putfield 9, 3) := dk_181 0 9 (dk_at dksJ5_init_2_0 14 rfl rfl)
theorem dJ5_init_2_17 : decode cJ5_init_2 17 = .ok (.aload_n 0, 1) := dk_42 (dk_at dksJ5_init_2_0 17 rfl rfl)
theorem dJ5_init_2_18 : decode cJ5_init_2 18 = .ok (.ldc 7, 2) := dk_18 7 (dk_at dksJ5_init_2_0 18 rfl rfl)
theorem dJ5_init_2_20 : decode cJ5_init_2 20 = .ok (.getfield 15, 3) := dk_180 0 15 (dk_at dksJ5_init_2_0 20 rfl rfl)
theorem dJ5_init_2_23 : decode cJ5_init_2 23 = .ok (.putfield 15, 3) := dk_181 0 15 (dk_at dksJ5_init_2_1 0 rfl rfl)
theorem dJ5_init_2_26 : decode cJ5_init_2 26 = .ok (.return_, 1) := dk_177 (dk_at dksJ5_init_2_1 3 rfl rfl)
theorem dJ5_init_2_27 : decode cJ5_init_2 27 = .ok (.getstatic 38, 3) := dk_178 0 38 (dk_at dksJ5_init_2_1 4 rfl rfl)
theorem dJ5_init_2_30 : decode cJ5_init_2 30 = .ok (.ifCond .eq 28, 3) := dk_153 0 28 (dk_at dksJ5_init_2_1 7 rfl rfl)
theorem dJ5_init_2_33 : decode cJ5_init_2 33 = .ok (.aload_n 1, 1) := dk_43 (dk_at dksJ5_init_2_1 10 rfl rfl)
theorem dJ5_init_2_34 : decode cJ5_init_2 34 = .ok (.iload_n 2, 1) := dk_28 (dk_at dksJ5_init_2_1 11 rfl rfl)
theorem dJ5_init_2_35 : decode cJ5_init_2 35 = .ok (.iload_n 3, 1) := dk_29 (dk_at dksJ5_init_2_1 12 rfl rfl)
theorem dJ5_init_2_36 : decode cJ5_init_2 36 = .ok (.invokestatic 177, 3) := dk_184 0 177 (dk_at dksJ5_init_2_1 13 rfl rfl)
theorem dJ5_init_2_39 : decode cJ5_init_2 39 = .ok (.astore 5, 2) := dk_58 5 (dk_at dksJ5_init_2_1 16 rfl rfl)
theorem dJ5_init_2_41 : decode cJ5_init_2 41 = .ok (.aload_n 0, 1) := dk_42 (dk_at dksJ5_init_2_1 18 rfl rfl)
theorem dJ5_init_2_42 : decode cJ5_init_2 42 = .ok (.aload 5, 2) := dk_25 5 (dk_at dksJ5_init_2_1 19 rfl rfl)
theorem dJ5_init_2_44 : decode cJ5_init_2 44 = .ok (.iload_n 3, 1) := dk_29 (dk_at dksJ5_init_2_1 21 rfl rfl)
theorem dJ5_init_2_45 : decode cJ5_init_2 45 = .ok (.invokestatic 47, 3) := dk_184 0 47 (dk_at dksJ5_init_2_2 0 rfl rfl)
theorem dJ5_init_2_48 : decode cJ5_init_2 48 = .ok (.putfield 15, 3) := dk_181 0 15 (dk_at dksJ5_init_2_2 3 rfl rfl)
theorem dJ5_init_2_51 : decode cJ5_init_2 51 = .ok (.aload_n 0, 1) := dk_42 (dk_at dksJ5_init_2_2 6 rfl rfl)
theorem dJ5_init_2_52 : decode cJ5_init_2 52 = .ok (.aload 5, 2) := dk_25 5 (dk_at dksJ5_init_2_2 7 rfl rfl)
theorem dJ5_init_2_54 : decode cJ5_init_2 54 = .ok (.putfield 9, 3) := dk_181 0 9 (dk_at dksJ5_init_2_2 9 rfl rfl)
theorem dJ5_init_2_57 : decode cJ5_init_2 57 = .ok (.return_, 1) := dk_177 (dk_at dksJ5_init_2_2 12 rfl rfl)
theorem dJ5_init_2_58 : decode cJ5_init_2 58 = .ok (.aload_n 0, 1) := dk_42 (dk_at dksJ5_init_2_2 13 rfl rfl)
theorem dJ5_init_2_59 : decode cJ5_init_2 59 = .ok (.iconst 1, 1) := dk_4 (dk_at dksJ5_init_2_2 14 rfl rfl)
theorem dJ5_init_2_60 : decode cJ5_init_2 60 = .ok (.putfield 15, 3) := dk_181 0 15 (dk_at dksJ5_init_2_2 15 rfl rfl)
theorem dJ5_init_2_63 : decode cJ5_init_2 63 = .ok (.aload_n 0, 1) := dk_42 (dk_at dksJ5_init_2_2 18 rfl rfl)
theorem dJ5_init_2_64 : decode cJ5_init_2 64 = .ok (.aload_n 1, 1) := dk_43 (dk_at dksJ5_init_2_2 19 rfl rfl)
theorem dJ5_init_2_65 : decode cJ5_init_2 65 = .ok (.iload_n 2, 1) := dk_28 (dk_at dksJ5_init_2_2 20 rfl rfl)
theorem dJ5_init_2_66 : decode cJ5_init_2 66 = .ok (.iload_n 3, 1) := dk_29 (dk_at dksJ5_init_2_2 21 rfl rfl)
theorem dJ5_init_2_67 : decode cJ5_init_2 67 = .ok (.invokestatic 180, 3) := dk_184 0 180 (dk_at dksJ5_init_2_3 0 rfl rfl)
theorem dJ5_init_2_70 : decode cJ5_init_2 70 = .ok (.putfield 9, 3) := dk_181 0 9 (dk_at dksJ5_init_2_3 3 rfl rfl)
theorem dJ5_init_2_73 : decode cJ5_init_2 73 = .ok (.return_, 1) := dk_177 (dk_at dksJ5_init_2_3 6 rfl rfl)
def dkwJ5_length_0 : List UInt8 := [42, 180, 0, 9, 190, 42, 182, 1, 79, 122, 172]
abbrev dktJ5_length_0 : List UInt8 := dkwJ5_length_0 ++ []
theorem dksJ5_length_0 : cJ5_length.data.toList.drop 0 = dktJ5_length_0 := by decide +kernel
theorem dJ5_length_0 : decode cJ5_length 0 = .ok (.aload_n 0, 1) := dk_42 (dk_at dksJ5_length_0 0 rfl rfl)
theorem dJ5_length_1 : decode cJ5_length 1 = .ok (.getfield 9, 3) := dk_180 0 9 (dk_at dksJ5_length_0 1 rfl rfl)
theorem dJ5_length_4 : decode cJ5_length 4 = .ok (.arraylength, 1) := dk_190 (dk_at dksJ5_length_0 4 rfl rfl)
theorem dJ5_length_5 : decode cJ5_length 5 = .ok (.aload_n 0, 1) := dk_42 (dk_at dksJ5_length_0 5 rfl rfl)
theorem dJ5_length_6 : decode cJ5_length 6 = .ok (.invokevirtual 335, 3) := dk_182 1 79 (dk_at dksJ5_length_0 6 rfl rfl)
theorem dJ5_length_9 : decode cJ5_length 9 = .ok (.ishr, 1) := dk_122 (dk_at dksJ5_length_0 9 rfl rfl)
theorem dJ5_length_10 : decode cJ5_length 10 = .ok (.ireturn, 1) := dk_172 (dk_at dksJ5_length_0 10 rfl rfl)
def dkwJ5_coder_0 : List UInt8 := [178, 0, 38, 153, 0, 10, 42, 180, 0, 15, 167, 0, 4, 4, 172]
abbrev dktJ5_coder_0 : List UInt8 := dkwJ5_coder_0 ++ []
theorem dksJ5_coder_0 : cJ5_coder.data.toList.drop 0 = dktJ5_coder_0 := by decide +kernel
theorem dJ5_coder_0 : decode cJ5_coder 0 = .ok (.getstatic 38, 3) := dk_178 0 38 (dk_at dksJ5_coder_0 0 rfl rfl)
theorem dJ5_coder_3 : decode cJ5_coder 3 = .ok (.ifCond .eq 10, 3) := dk_153 0 10 (dk_at dksJ5_coder_0 3 rfl rfl)
theorem dJ5_coder_6 : decode cJ5_coder 6 = .ok (.aload_n 0, 1) := dk_42 (dk_at dksJ5_coder_0 6 rfl rfl)
theorem dJ5_coder_7 : decode cJ5_coder 7 = .ok (.getfield 15, 3) := dk_180 0 15 (dk_at dksJ5_coder_0 7 rfl rfl)
theorem dJ5_coder_10 : decode cJ5_coder 10 = .ok (.goto 4, 3) := dk_167 0 4 (dk_at dksJ5_coder_0 10 rfl rfl)
theorem dJ5_coder_13 : decode cJ5_coder 13 = .ok (.iconst 1, 1) := dk_4 (dk_at dksJ5_coder_0 13 rfl rfl)
theorem dJ5_coder_14 : decode cJ5_coder 14 = .ok (.ireturn, 1) := dk_172 (dk_at dksJ5_coder_0 14 rfl rfl)
def dkwJ5_charAt_1 : List UInt8 := [172]
abbrev dktJ5_charAt_1 : List UInt8 := dkwJ5_charAt_1 ++ []
def dkwJ5_charAt_0 : List UInt8 := [42, 182, 1, 236, 153, 0, 12, 42, 180, 0, 9, 27, 184, 1, 239, 172, 42, 180, 0, 9, 27, 184, 1, 242]
abbrev dktJ5_charAt_0 : List UInt8 := dkwJ5_charAt_0 ++ dktJ5_charAt_1
theorem dksJ5_charAt_0 : cJ5_charAt.data.toList.drop 0 = dktJ5_charAt_0 := by decide +kernel
theorem dksJ5_charAt_1 : cJ5_charAt.data.toList.drop 24 = dktJ5_charAt_1 := dk_seg dksJ5_charAt_0 24 rfl rfl
theorem dJ5_charAt_0 : decode cJ5_charAt 0 = .ok (.aload_n 0, 1) := dk_42 (dk_at dksJ5_charAt_0 0 rfl rfl)
theorem dJ5_charAt_1 : decode cJ5_charAt 1 = .ok (.invokevirtual 492, 3) := dk_182 1 236 (dk_at dksJ5_charAt_0 1 rfl rfl)
theorem dJ5_charAt_4 : decode cJ5_charAt 4 = .ok (.ifCond .eq 12, 3) := dk_153 0 12 (dk_at dksJ5_charAt_0 4 rfl rfl)
theorem dJ5_charAt_7 : decode cJ5_charAt 7 = .ok (.aload_n 0, 1) := dk_42 (dk_at dksJ5_charAt_0 7 rfl rfl)
theorem dJ5_charAt_8 : decode cJ5_charAt 8 = .ok (.getfield 9, 3) := dk_180 0 9 (dk_at dksJ5_charAt_0 8 rfl rfl)
theorem dJ5_charAt_11 : decode cJ5_charAt 11 = .ok (.iload_n 1, 1) := dk_27 (dk_at dksJ5_charAt_0 11 rfl rfl)
theorem dJ5_charAt_12 : decode cJ5_charAt 12 = .ok (.invokestatic 495, 3) := dk_184 1 239 (dk_at dksJ5_charAt_0 12 rfl rfl)
theorem dJ5_charAt_15 : decode cJ5_charAt 15 = .ok (.ireturn, 1) := dk_172 (dk_at dksJ5_charAt_0 15 rfl rfl)
theorem dJ5_charAt_16 : decode cJ5_charAt 16 = .ok (.aload_n 0, 1) := dk_42 (dk_at dksJ5_charAt_0 16 rfl rfl)
theorem dJ5_charAt_17 : decode cJ5_charAt 17 = .ok (.getfield 9, 3) := dk_180 0 9 (dk_at dksJ5_charAt_0 17 rfl rfl)
theorem dJ5_charAt_20 : decode cJ5_charAt 20 = .ok (.iload_n 1, 1) := dk_27 (dk_at dksJ5_charAt_0 20 rfl rfl)
theorem dJ5_charAt_21 : decode cJ5_charAt 21 = .ok (.invokestatic 498, 3) := dk_184 1 242 (dk_at dksJ5_charAt_0 21 rfl rfl)
theorem dJ5_charAt_24 : decode cJ5_charAt 24 = .ok (.ireturn, 1) := dk_172 (dk_at dksJ5_charAt_1 0 rfl rfl)
def dkwJ5_isLatin1_0 : List UInt8 := [178, 0, 38, 153, 0, 14, 42, 180, 0, 15, 154, 0, 7, 4, 167, 0, 4, 3, 172]
abbrev dktJ5_isLatin1_0 : List UInt8 := dkwJ5_isLatin1_0 ++ []
theorem dksJ5_isLatin1_0 : cJ5_isLatin1.data.toList.drop 0 = dktJ5_isLatin1_0 := by decide +kernel
theorem dJ5_isLatin1_0 : decode cJ5_isLatin1 0 = .ok (.getstatic 38, 3) := dk_178 0 38 (dk_at dksJ5_isLatin1_0 0 rfl rfl)
theorem dJ5_isLatin1_3 : decode cJ5_isLatin1 3 = .ok (.ifCond .eq 14, 3) := dk_153 0 14 (dk_at dksJ5_isLatin1_0 3 rfl rfl)
theorem dJ5_isLatin1_6 : decode cJ5_isLatin1 6 = .ok (.aload_n 0, 1) := dk_42 (dk_at dksJ5_isLatin1_0 6 rfl rfl)
theorem dJ5_isLatin1_7 : decode cJ5_isLatin1 7 = .ok (.getfield 15, 3) := dk_180 0 15 (dk_at dksJ5_isLatin1_0 7 rfl rfl)
theorem dJ5_isLatin1_10 : decode cJ5_isLatin1 10 = .ok (.ifCond .ne 7, 3) := dk_154 0 7 (dk_at dksJ5_isLatin1_0 10 rfl rfl)
theorem dJ5_isLatin1_13 : decode cJ5_isLatin1 13 = .ok (.iconst 1, 1) := dk_4 (dk_at dksJ5_isLatin1_0 13 rfl rfl)
theorem dJ5_isLatin1_14 : decode cJ5_isLatin1 14 = .ok (.goto 4, 3) := dk_167 0 4 (dk_at dksJ5_isLatin1_0 14 rfl rfl)
theorem dJ5_isLatin1_17 : decode cJ5_isLatin1 17 = .ok (.iconst 0, 1) := dk_3 (dk_at dksJ5_isLatin1_0 17 rfl rfl)
theorem dJ5_isLatin1_18 : decode cJ5_isLatin1 18 = .ok (.ireturn, 1) := dk_172 (dk_at dksJ5_isLatin1_0 18 rfl rfl)
def dkwJ5_checkIndex_0 : List UInt8 := [26, 27, 178, 4, 29, 184, 4, 35, 87, 177]
abbrev dktJ5_checkIndex_0 : List UInt8 := dkwJ5_checkIndex_0 ++ []
theorem dksJ5_checkIndex_0 : cJ5_checkIndex.data.toList.drop 0 = dktJ5_checkIndex_0 := by decide +kernel
theorem dJ5_checkIndex_0 : decode cJ5_checkIndex 0 = .ok (.iload_n 0, 1) := dk_26 (dk_at dksJ5_checkIndex_0 0 rfl rfl)
theorem dJ5_checkIndex_1 : decode cJ5_checkIndex 1 = .ok (.iload_n 1, 1) := dk_27 (dk_at dksJ5_checkIndex_0 1 rfl rfl)
theorem dJ5_checkIndex_2 : decode cJ5_checkIndex 2 = .ok (.getstatic 1053, 3) := dk_178 4 29 (dk_at dksJ5_checkIndex_0 2 rfl rfl)
theorem dJ5_checkIndex_5 : decode cJ5_checkIndex 5 = .ok (.invokestatic 1059, 3) := dk_184 4 35 (dk_at dksJ5_checkIndex_0 5 rfl rfl)
theorem dJ5_checkIndex_8 : decode cJ5_checkIndex 8 = .ok (.pop, 1) := dk_87 (dk_at dksJ5_checkIndex_0 8 rfl rfl)
theorem dJ5_checkIndex_9 : decode cJ5_checkIndex 9 = .ok (.return_, 1) := dk_177 (dk_at dksJ5_checkIndex_0 9 rfl rfl)
def dkwJ5_equals_2 : List UInt8 := [184, 2, 29, 153, 0, 7, 4, 167, 0, 4, 3, 172]
abbrev dktJ5_equals_2 : List UInt8 := dkwJ5_equals_2 ++ []
def dkwJ5_equals_1 : List UInt8 := [153, 0, 14, 42, 180, 0, 15, 44, 180, 0, 15, 160, 0, 21, 42, 180, 0, 9, 44, 180, 0, 9]
abbrev dktJ5_equals_1 : List UInt8 := dkwJ5_equals_1 ++ dktJ5_equals_2
def dkwJ5_equals_0 : List UInt8 := [42, 43, 166, 0, 5, 4, 172, 43, 193, 0, 10, 153, 0, 43, 43, 192, 0, 10, 77, 178, 0, 38]
abbrev dktJ5_equals_0 : List UInt8 := dkwJ5_equals_0 ++ dktJ5_equals_1
theorem dksJ5_equals_0 : cJ5_equals.data.toList.drop 0 = dktJ5_equals_0 := by decide +kernel
theorem dksJ5_equals_1 : cJ5_equals.data.toList.drop 22 = dktJ5_equals_1 := dk_seg dksJ5_equals_0 22 rfl rfl
theorem dksJ5_equals_2 : cJ5_equals.data.toList.drop 44 = dktJ5_equals_2 := dk_seg dksJ5_equals_1 22 rfl rfl
theorem dJ5_equals_0 : decode cJ5_equals 0 = .ok (.aload_n 0, 1) := dk_42 (dk_at dksJ5_equals_0 0 rfl rfl)
theorem dJ5_equals_1 : decode cJ5_equals 1 = .ok (.aload_n 1, 1) := dk_43 (dk_at dksJ5_equals_0 1 rfl rfl)
theorem dJ5_equals_2 : decode cJ5_equals 2 = .ok (.if_acmp .ne 5, 3) := dk_166 0 5 (dk_at dksJ5_equals_0 2 rfl rfl)
theorem dJ5_equals_5 : decode cJ5_equals 5 = .ok (.iconst 1, 1) := dk_4 (dk_at dksJ5_equals_0 5 rfl rfl)
theorem dJ5_equals_6 : decode cJ5_equals 6 = .ok (.ireturn, 1) := dk_172 (dk_at dksJ5_equals_0 6 rfl rfl)
theorem dJ5_equals_7 : decode cJ5_equals 7 = .ok (.aload_n 1, 1) := dk_43 (dk_at dksJ5_equals_0 7 rfl rfl)
theorem dJ5_equals_8 : decode cJ5_equals 8 = .ok (.instanceof 10, 3) := dk_193 0 10 (dk_at dksJ5_equals_0 8 rfl rfl)
theorem dJ5_equals_11 : decode cJ5_equals 11 = .ok (.ifCond .eq 43, 3) := dk_153 0 43 (dk_at dksJ5_equals_0 11 rfl rfl)
theorem dJ5_equals_14 : decode cJ5_equals 14 = .ok (.aload_n 1, 1) := dk_43 (dk_at dksJ5_equals_0 14 rfl rfl)
theorem dJ5_equals_15 : decode cJ5_equals 15 = .ok (.checkcast 10, 3) := dk_192 0 10 (dk_at dksJ5_equals_0 15 rfl rfl)
theorem dJ5_equals_18 : decode cJ5_equals 18 = .ok (.astore_n 2, 1) := dk_77 (dk_at dksJ5_equals_0 18 rfl rfl)
theorem dJ5_equals_19 : decode cJ5_equals 19 = .ok (.getstatic 38, 3) := dk_178 0 38 (dk_at dksJ5_equals_0 19 rfl rfl)
theorem dJ5_equals_22 : decode cJ5_equals 22 = .ok (.ifCond .eq 14, 3) := dk_153 0 14 (dk_at dksJ5_equals_1 0 rfl rfl)
theorem dJ5_equals_25 : decode cJ5_equals 25 = .ok (.aload_n 0, 1) := dk_42 (dk_at dksJ5_equals_1 3 rfl rfl)
theorem dJ5_equals_26 : decode cJ5_equals 26 = .ok (.getfield 15, 3) := dk_180 0 15 (dk_at dksJ5_equals_1 4 rfl rfl)
theorem dJ5_equals_29 : decode cJ5_equals 29 = .ok (.aload_n 2, 1) := dk_44 (dk_at dksJ5_equals_1 7 rfl rfl)
theorem dJ5_equals_30 : decode cJ5_equals 30 = .ok (.getfield 15, 3) := dk_180 0 15 (dk_at dksJ5_equals_1 8 rfl rfl)
theorem dJ5_equals_33 : decode cJ5_equals 33 = .ok (.if_icmp .ne 21, 3) := dk_160 0 21 (dk_at dksJ5_equals_1 11 rfl rfl)
theorem dJ5_equals_36 : decode cJ5_equals 36 = .ok (.aload_n 0, 1) := dk_42 (dk_at dksJ5_equals_1 14 rfl rfl)
theorem dJ5_equals_37 : decode cJ5_equals 37 = .ok (.getfield 9, 3) := dk_180 0 9 (dk_at dksJ5_equals_1 15 rfl rfl)
theorem dJ5_equals_40 : decode cJ5_equals 40 = .ok (.aload_n 2, 1) := dk_44 (dk_at dksJ5_equals_1 18 rfl rfl)
theorem dJ5_equals_41 : decode cJ5_equals 41 = .ok (.getfield 9, 3) := dk_180 0 9 (dk_at dksJ5_equals_1 19 rfl rfl)
theorem dJ5_equals_44 : decode cJ5_equals 44 = .ok (.invokestatic 541, 3) := dk_184 2 29 (dk_at dksJ5_equals_2 0 rfl rfl)
theorem dJ5_equals_47 : decode cJ5_equals 47 = .ok (.ifCond .eq 7, 3) := dk_153 0 7 (dk_at dksJ5_equals_2 3 rfl rfl)
theorem dJ5_equals_50 : decode cJ5_equals 50 = .ok (.iconst 1, 1) := dk_4 (dk_at dksJ5_equals_2 6 rfl rfl)
theorem dJ5_equals_51 : decode cJ5_equals 51 = .ok (.goto 4, 3) := dk_167 0 4 (dk_at dksJ5_equals_2 7 rfl rfl)
theorem dJ5_equals_54 : decode cJ5_equals 54 = .ok (.iconst 0, 1) := dk_3 (dk_at dksJ5_equals_2 10 rfl rfl)
theorem dJ5_equals_55 : decode cJ5_equals 55 = .ok (.ireturn, 1) := dk_172 (dk_at dksJ5_equals_2 11 rfl rfl)
def dkwJ5_isEmpty_0 : List UInt8 := [42, 180, 0, 9, 190, 154, 0, 7, 4, 167, 0, 4, 3, 172]
abbrev dktJ5_isEmpty_0 : List UInt8 := dkwJ5_isEmpty_0 ++ []
theorem dksJ5_isEmpty_0 : cJ5_isEmpty.data.toList.drop 0 = dktJ5_isEmpty_0 := by decide +kernel
theorem dJ5_isEmpty_0 : decode cJ5_isEmpty 0 = .ok (.aload_n 0, 1) := dk_42 (dk_at dksJ5_isEmpty_0 0 rfl rfl)
theorem dJ5_isEmpty_1 : decode cJ5_isEmpty 1 = .ok (.getfield 9, 3) := dk_180 0 9 (dk_at dksJ5_isEmpty_0 1 rfl rfl)
theorem dJ5_isEmpty_4 : decode cJ5_isEmpty 4 = .ok (.arraylength, 1) := dk_190 (dk_at dksJ5_isEmpty_0 4 rfl rfl)
theorem dJ5_isEmpty_5 : decode cJ5_isEmpty 5 = .ok (.ifCond .ne 7, 3) := dk_154 0 7 (dk_at dksJ5_isEmpty_0 5 rfl rfl)
theorem dJ5_isEmpty_8 : decode cJ5_isEmpty 8 = .ok (.iconst 1, 1) := dk_4 (dk_at dksJ5_isEmpty_0 8 rfl rfl)
theorem dJ5_isEmpty_9 : decode cJ5_isEmpty 9 = .ok (.goto 4, 3) := dk_167 0 4 (dk_at dksJ5_isEmpty_0 9 rfl rfl)
theorem dJ5_isEmpty_12 : decode cJ5_isEmpty 12 = .ok (.iconst 0, 1) := dk_3 (dk_at dksJ5_isEmpty_0 12 rfl rfl)
theorem dJ5_isEmpty_13 : decode cJ5_isEmpty 13 = .ok (.ireturn, 1) := dk_172 (dk_at dksJ5_isEmpty_0 13 rfl rfl)
def dkwJ6_newBytesFor_0 : List UInt8 := [26, 184, 0, 11, 188, 8, 176]
abbrev dktJ6_newBytesFor_0 : List UInt8 := dkwJ6_newBytesFor_0 ++ []
theorem dksJ6_newBytesFor_0 : cJ6_newBytesFor.data.toList.drop 0 = dktJ6_newBytesFor_0 := by decide +kernel
theorem dJ6_newBytesFor_0 : decode cJ6_newBytesFor 0 = .ok (.iload_n 0, 1) := dk_26 (dk_at dksJ6_newBytesFor_0 0 rfl rfl)
theorem dJ6_newBytesFor_1 : decode cJ6_newBytesFor 1 = .ok (.invokestatic 11, 3) := dk_184 0 11 (dk_at dksJ6_newBytesFor_0 1 rfl rfl)
theorem dJ6_newBytesFor_4 : decode cJ6_newBytesFor 4 = .ok (.newarray .byte, 2) := dk_188_8 (dk_at dksJ6_newBytesFor_0 4 rfl rfl)
theorem dJ6_newBytesFor_6 : decode cJ6_newBytesFor 6 = .ok (.areturn, 1) := dk_176 (dk_at dksJ6_newBytesFor_0 6 rfl rfl)
def dkwJ6_newBytesLength_2 : List UInt8 := [182, 0, 32, 182, 0, 37, 183, 0, 41, 191, 26, 4, 120, 172]
abbrev dktJ6_newBytesLength_2 : List UInt8 := dkwJ6_newBytesLength_2 ++ []
def dkwJ6_newBytesLength_1 : List UInt8 := [187, 0, 23, 89, 183, 0, 25, 18, 26, 182, 0, 28, 26, 182, 0, 32, 18, 35, 182, 0, 28, 18, 20]
abbrev dktJ6_newBytesLength_1 : List UInt8 := dkwJ6_newBytesLength_1 ++ dktJ6_newBytesLength_2
def dkwJ6_newBytesLength_0 : List UInt8 := [26, 156, 0, 11, 187, 0, 17, 89, 183, 0, 19, 191, 26, 18, 20, 161, 0, 40, 187, 0, 21, 89]
abbrev dktJ6_newBytesLength_0 : List UInt8 := dkwJ6_newBytesLength_0 ++ dktJ6_newBytesLength_1
theorem dksJ6_newBytesLength_0 : cJ6_newBytesLength.data.toList.drop 0 = dktJ6_newBytesLength_0 := by decide +kernel
theorem dksJ6_newBytesLength_1 : cJ6_newBytesLength.data.toList.drop 22 = dktJ6_newBytesLength_1 := dk_seg dksJ6_newBytesLength_0 22 rfl rfl
theorem dksJ6_newBytesLength_2 : cJ6_newBytesLength.data.toList.drop 45 = dktJ6_newBytesLength_2 := dk_seg dksJ6_newBytesLength_1 23 rfl rfl
theorem dJ6_newBytesLength_0 : decode cJ6_newBytesLength 0 = .ok (.iload_n 0, 1) := dk_26 (dk_at dksJ6_newBytesLength_0 0 rfl rfl)
theorem dJ6_newBytesLength_1 : decode cJ6_newBytesLength 1 = .ok (.ifCond .ge 11, 3) := dk_156 0 11 (dk_at dksJ6_newBytesLength_0 1 rfl rfl)
theorem dJ6_newBytesLength_4 : decode cJ6_newBytesLength 4 = .ok (.new 17, 3) := dk_187 0 17 (dk_at dksJ6_newBytesLength_0 4 rfl rfl)
theorem dJ6_newBytesLength_7 : decode cJ6_newBytesLength 7 = .ok (.dup, 1) := dk_89 (dk_at dksJ6_newBytesLength_0 7 rfl rfl)
theorem dJ6_newBytesLength_8 : decode cJ6_newBytesLength 8 = .ok (.invokespecial 19, 3) := dk_183 0 19 (dk_at dksJ6_newBytesLength_0 8 rfl rfl)
theorem dJ6_newBytesLength_11 : decode cJ6_newBytesLength 11 = .ok (.athrow, 1) := dk_191 (dk_at dksJ6_newBytesLength_0 11 rfl rfl)
theorem dJ6_newBytesLength_12 : decode cJ6_newBytesLength 12 = .ok (.iload_n 0, 1) := dk_26 (dk_at dksJ6_newBytesLength_0 12 rfl rfl)
theorem dJ6_newBytesLength_13 : decode cJ6_newBytesLength 13 = .ok (.ldc 20, 2) := dk_18 20 (dk_at dksJ6_newBytesLength_0 13 rfl rfl)
theorem dJ6_newBytesLength_15 : decode cJ6_newBytesLength 15 = .ok (.if_icmp .lt 40, 3) := dk_161 0 40 (dk_at dksJ6_newBytesLength_0 15 rfl rfl)
theorem dJ6_newBytesLength_18 : decode cJ6_newBytesLength 18 = .ok (.new 21, 3) := dk_187 0 21 (dk_at dksJ6_newBytesLength_0 18 rfl rfl)
theorem dJ6_newBytesLength_21 : decode cJ6_newBytesLength 21 = .ok (.dup, 1) := dk_89 (dk_at dksJ6_newBytesLength_0 21 rfl rfl)
theorem dJ6_newBytesLength_22 : decode cJ6_newBytesLength 22 = .ok (.new 23, 3) := dk_187 0 23 (dk_at dksJ6_newBytesLength_1 0 rfl rfl)
theorem dJ6_newBytesLength_25 : decode cJ6_newBytesLength 25 = .ok (.dup, 1) := dk_89 (dk_at dksJ6_newBytesLength_1 3 rfl rfl)
theorem dJ6_newBytesLength_26 : decode cJ6_newBytesLength 26 = .ok (.invokespecial 25, 3) := dk_183 0 25 (dk_at dksJ6_newBytesLength_1 4 rfl rfl)
theorem dJ6_newBytesLength_29 : decode cJ6_newBytesLength 29 = .ok (.ldc 26, 2) := dk_18 26 (dk_at dksJ6_newBytesLength_1 7 rfl rfl)
theorem dJ6_newBytesLength_31 : decode cJ6_newBytesLength 31 = .ok (.invokevirtual 28, 3) := dk_182 0 28 (dk_at dksJ6_newBytesLength_1 9 rfl rfl)
theorem dJ6_newBytesLength_34 : decode cJ6_newBytesLength 34 = .ok (.iload_n 0, 1) := dk_26 (dk_at dksJ6_newBytesLength_1 12 rfl rfl)
theorem dJ6_newBytesLength_35 : decode cJ6_newBytesLength 35 = .ok (.invokevirtual 32, 3) := dk_182 0 32 (dk_at dksJ6_newBytesLength_1 13 rfl rfl)
theorem dJ6_newBytesLength_38 : decode cJ6_newBytesLength 38 = .ok (.ldc 35, 2) := dk_18 35 (dk_at dksJ6_newBytesLength_1 16 rfl rfl)
theorem dJ6_newBytesLength_40 : decode cJ6_newBytesLength 40 = .ok (.invokevirtual 28, 3) := dk_182 0 28 (dk_at dksJ6_newBytesLength_1 18 rfl rfl)
theorem dJ6_newBytesLength_43 : decode cJ6_newBytesLength 43 = .ok (.ldc 20, 2) := dk_18 20 (dk_at dksJ6_newBytesLength_1 21 rfl rfl)
theorem dJ6_newBytesLength_45 : decode cJ6_newBytesLength 45 = .ok (.invokevirtual 32, 3) := dk_182 0 32 (dk_at dksJ6_newBytesLength_2 0 rfl rfl)
theorem dJ6_newBytesLength_48 : decode cJ6_newBytesLength 48 = .ok (.invokevirtual 37, 3) := dk_182 0 37 (dk_at dksJ6_newBytesLength_2 3 rfl rfl)
theorem dJ6_newBytesLength_51 : decode cJ6_newBytesLength 51 = .ok (.invokespecial 41, 3) := dk_183 0 41 (dk_at dksJ6_newBytesLength_2 6 rfl rfl)
theorem dJ6_newBytesLength_54 : decode cJ6_newBytesLength 54 = .ok (.athrow, 1) := dk_191 (dk_at dksJ6_newBytesLength_2 9 rfl rfl)
theorem dJ6_newBytesLength_55 : decode cJ6_newBytesLength 55 = .ok (.iload_n 0, 1) := dk_26 (dk_at dksJ6_newBytesLength_2 10 rfl rfl)
theorem dJ6_newBytesLength_56 : decode cJ6_newBytesLength 56 = .ok (.iconst 1, 1) := dk_4 (dk_at dksJ6_newBytesLength_2 11 rfl rfl)
theorem dJ6_newBytesLength_57 : decode cJ6_newBytesLength 57 = .ok (.ishl, 1) := dk_120 (dk_at dksJ6_newBytesLength_2 12 rfl rfl)
theorem dJ6_newBytesLength_58 : decode cJ6_newBytesLength 58 = .ok (.ireturn, 1) := dk_172 (dk_at dksJ6_newBytesLength_2 13 rfl rfl)
def dkwJ6_compress_2 : List UInt8 := [184, 0, 123, 28, 159, 0, 6, 25, 5, 176, 45, 176]
abbrev dktJ6_compress_2 : List UInt8 := dkwJ6_compress_2 ++ []
def dkwJ6_compress_1 : List UInt8 := [184, 0, 119, 58, 5, 25, 5, 21, 4, 184, 0, 71, 17, 0, 255, 163, 0, 16, 25, 5, 3, 45, 3, 28]
abbrev dktJ6_compress_1 : List UInt8 := dkwJ6_compress_1 ++ dktJ6_compress_2
def dkwJ6_compress_0 : List UInt8 := [28, 188, 8, 78, 42, 27, 45, 3, 28, 184, 0, 115, 54, 4, 21, 4, 28, 159, 0, 40, 42, 27, 28]
abbrev dktJ6_compress_0 : List UInt8 := dkwJ6_compress_0 ++ dktJ6_compress_1
theorem dksJ6_compress_0 : cJ6_compress.data.toList.drop 0 = dktJ6_compress_0 := by decide +kernel
theorem dksJ6_compress_1 : cJ6_compress.data.toList.drop 23 = dktJ6_compress_1 := dk_seg dksJ6_compress_0 23 rfl rfl
theorem dksJ6_compress_2 : cJ6_compress.data.toList.drop 47 = dktJ6_compress_2 := dk_seg dksJ6_compress_1 24 rfl rfl
theorem dJ6_compress_0 : decode cJ6_compress 0 = .ok (.iload_n 2, 1) := dk_28 (dk_at dksJ6_compress_0 0 rfl rfl)
theorem dJ6_compress_1 : decode cJ6_compress 1 = .ok (.newarray .byte, 2) := dk_188_8 (dk_at dksJ6_compress_0 1 rfl rfl)
theorem dJ6_compress_3 : decode cJ6_compress 3 = .ok (.astore_n 3, 1) := dk_78 (dk_at dksJ6_compress_0 3 rfl rfl)
theorem dJ6_compress_4 : decode cJ6_compress 4 = .ok (.aload_n 0, 1) := dk_42 (dk_at dksJ6_compress_0 4 rfl rfl)
theorem dJ6_compress_5 : decode cJ6_compress 5 = .ok (.iload_n 1, 1) := dk_27 (dk_at dksJ6_compress_0 5 rfl rfl)
theorem dJ6_compress_6 : decode cJ6_compress 6 = .ok (.aload_n 3, 1) := dk_45 (dk_at dksJ6_compress_0 6 rfl rfl)
theorem dJ6_compress_7 : decode cJ6_compress 7 = .ok (.iconst 0, 1) := dk_3 (dk_at dksJ6_compress_0 7 rfl rfl)
theorem dJ6_compress_8 : decode cJ6_compress 8 = .ok (.iload_n 2, 1) := dk_28 (dk_at dksJ6_compress_0 8 rfl rfl)
theorem dJ6_compress_9 : decode cJ6_compress 9 = .ok (.invokestatic 115, 3) := dk_184 0 115 (dk_at dksJ6_compress_0 9 rfl rfl)
theorem dJ6_compress_12 : decode cJ6_compress 12 = .ok (.istore 4, 2) := dk_54 4 (dk_at dksJ6_compress_0 12 rfl rfl)
theorem dJ6_compress_14 : decode cJ6_compress 14 = .ok (.iload 4, 2) := dk_21 4 (dk_at dksJ6_compress_0 14 rfl rfl)
theorem dJ6_compress_16 : decode cJ6_compress 16 = .ok (.iload_n 2, 1) := dk_28 (dk_at dksJ6_compress_0 16 rfl rfl)
theorem dJ6_compress_17 : decode cJ6_compress 17 = .ok (.if_icmp .eq 40, 3) := dk_159 0 40 (dk_at dksJ6_compress_0 17 rfl rfl)
theorem dJ6_compress_20 : decode cJ6_compress 20 = .ok (.aload_n 0, 1) := dk_42 (dk_at dksJ6_compress_0 20 rfl rfl)
theorem dJ6_compress_21 : decode cJ6_compress 21 = .ok (.iload_n 1, 1) := dk_27 (dk_at dksJ6_compress_0 21 rfl rfl)
theorem dJ6_compress_22 : decode cJ6_compress 22 = .ok (.iload_n 2, 1) := dk_28 (dk_at dksJ6_compress_0 22 rfl rfl)
theorem dJ6_compress_23 : decode cJ6_compress 23 = .ok (.invokestatic 119, 3) := dk_184 0 119 (dk_at dksJ6_compress_1 0 rfl rfl)
theorem dJ6_compress_26 : decode cJ6_compress 26 = .ok (.astore 5, 2) := dk_58 5 (dk_at dksJ6_compress_1 3 rfl rfl)
theorem dJ6_compress_28 : decode cJ6_compress 28 = .ok (.aload 5, 2) := dk_25 5 (dk_at dksJ6_compress_1 5 rfl rfl)
theorem dJ6_compress_30 : decode cJ6_compress 30 = .ok (.iload 4, 2) := dk_21 4 (dk_at dksJ6_compress_1 7 rfl rfl)
theorem dJ6_compress_32 : decode cJ6_compress 32 = .ok (.invokestatic 71, 3) := dk_184 0 71 (dk_at dksJ6_compress_1 9 rfl rfl)
theorem dJ6_compress_35 : decode cJ6_compress 35 = .ok (.sipush 255, 3) := dk_17 0 255 (dk_at dksJ6_compress_1 12 rfl rfl)
theorem dJ6_compress_38 : decode cJ6_compress 38 = .ok (.if_icmp .gt 16, 3) := dk_163 0 16 (dk_at dksJ6_compress_1 15 rfl rfl)
theorem dJ6_compress_41 : decode cJ6_compress 41 = .ok (.aload 5, 2) := dk_25 5 (dk_at dksJ6_compress_1 18 rfl rfl)
theorem dJ6_compress_43 : decode cJ6_compress 43 = .ok (.iconst 0, 1) := dk_3 (dk_at dksJ6_compress_1 20 rfl rfl)
theorem dJ6_compress_44 : decode cJ6_compress 44 = .ok (.aload_n 3, 1) := dk_45 (dk_at dksJ6_compress_1 21 rfl rfl)
theorem dJ6_compress_45 : decode cJ6_compress 45 = .ok (.iconst 0, 1) := dk_3 (dk_at dksJ6_compress_1 22 rfl rfl)
theorem dJ6_compress_46 : decode cJ6_compress 46 = .ok (.iload_n 2, 1) := dk_28 (dk_at dksJ6_compress_1 23 rfl rfl)
theorem dJ6_compress_47 : decode cJ6_compress 47 = .ok (.invokestatic 123, 3) := dk_184 0 123 (dk_at dksJ6_compress_2 0 rfl rfl)
theorem dJ6_compress_50 : decode cJ6_compress 50 = .ok (.iload_n 2, 1) := dk_28 (dk_at dksJ6_compress_2 3 rfl rfl)
theorem dJ6_compress_51 : decode cJ6_compress 51 = .ok (.if_icmp .eq 6, 3) := dk_159 0 6 (dk_at dksJ6_compress_2 4 rfl rfl)
theorem dJ6_compress_54 : decode cJ6_compress 54 = .ok (.aload 5, 2) := dk_25 5 (dk_at dksJ6_compress_2 7 rfl rfl)
theorem dJ6_compress_56 : decode cJ6_compress 56 = .ok (.areturn, 1) := dk_176 (dk_at dksJ6_compress_2 9 rfl rfl)
theorem dJ6_compress_57 : decode cJ6_compress 57 = .ok (.aload_n 3, 1) := dk_45 (dk_at dksJ6_compress_2 10 rfl rfl)
theorem dJ6_compress_58 : decode cJ6_compress 58 = .ok (.areturn, 1) := dk_176 (dk_at dksJ6_compress_2 11 rfl rfl)
def dkwJ6_compress_2_1 : List UInt8 := [21, 5, 172, 44, 29, 21, 6, 145, 84, 132, 1, 1, 132, 3, 1, 132, 5, 1, 167, 255, 218, 21, 4, 172]
abbrev dktJ6_compress_2_1 : List UInt8 := dkwJ6_compress_2_1 ++ []
def dkwJ6_compress_2_0 : List UInt8 := [3, 54, 5, 21, 5, 21, 4, 162, 0, 37, 42, 27, 52, 54, 6, 21, 6, 17, 0, 255, 164, 0, 6]
abbrev dktJ6_compress_2_0 : List UInt8 := dkwJ6_compress_2_0 ++ dktJ6_compress_2_1
theorem dksJ6_compress_2_0 : cJ6_compress_2.data.toList.drop 0 = dktJ6_compress_2_0 := by decide +kernel
theorem dksJ6_compress_2_1 : cJ6_compress_2.data.toList.drop 23 = dktJ6_compress_2_1 := dk_seg dksJ6_compress_2_0 23 rfl rfl
theorem dJ6_compress_2_0 : decode cJ6_compress_2 0 = .ok (.iconst 0, 1) := dk_3 (dk_at dksJ6_compress_2_0 0 rfl rfl)
theorem dJ6_compress_2_1 : decode cJ6_compress_2 1 = .ok (.istore 5, 2) := dk_54 5 (dk_at dksJ6_compress_2_0 1 rfl rfl)
theorem dJ6_compress_2_3 : decode cJ6_compress_2 3 = .ok (.iload 5, 2) := dk_21 5 (dk_at dksJ6_compress_2_0 3 rfl rfl)
theorem dJ6_compress_2_5 : decode cJ6_compress_2 5 = .ok (.iload 4, 2) := dk_21 4 (dk_at dksJ6_compress_2_0 5 rfl rfl)
theorem dJ6_compress_2_7 : decode cJ6_compress_2 7 = .ok (.if_icmp .ge 37, 3) := dk_162 0 37 (dk_at dksJ6_compress_2_0 7 rfl rfl)
theorem dJ6_compress_2_10 : decode cJ6_compress_2 10 = .ok (.aload_n 0, 1) := dk_42 (dk_at dksJ6_compress_2_0 10 rfl rfl)
theorem dJ6_compress_2_11 : decode cJ6_compress_2 11 = .ok (.iload_n 1, 1) := dk_27 (dk_at dksJ6_compress_2_0 11 rfl rfl)
theorem dJ6_compress_2_12 : decode cJ6_compress_2 12 = .ok (.caload, 1) := dk_52 (dk_at dksJ6_compress_2_0 12 rfl rfl)
theorem dJ6_compress_2_13 : decode cJ6_compress_2 13 = .ok (.istore 6, 2) := dk_54 6 (dk_at dksJ6_compress_2_0 13 rfl rfl)
theorem dJ6_compress_2_15 : decode cJ6_compress_2 15 = .ok (.iload 6, 2) := dk_21 6 (dk_at dksJ6_compress_2_0 15 rfl rfl)
theorem dJ6_compress_2_17 : decode cJ6_compress_2 17 = .ok (.sipush 255, 3) := dk_17 0 255 (dk_at dksJ6_compress_2_0 17 rfl rfl)
theorem dJ6_compress_2_20 : decode cJ6_compress_2 20 = .ok (.if_icmp .le 6, 3) := dk_164 0 6 (dk_at dksJ6_compress_2_0 20 rfl rfl)
theorem dJ6_compress_2_23 : decode cJ6_compress_2 23 = .ok (.iload 5, 2) := dk_21 5 (dk_at dksJ6_compress_2_1 0 rfl rfl)
theorem dJ6_compress_2_25 : decode cJ6_compress_2 25 = .ok (.ireturn, 1) := dk_172 (dk_at dksJ6_compress_2_1 2 rfl rfl)
theorem dJ6_compress_2_26 : decode cJ6_compress_2 26 = .ok (.aload_n 2, 1) := dk_44 (dk_at dksJ6_compress_2_1 3 rfl rfl)
theorem dJ6_compress_2_27 : decode cJ6_compress_2 27 = .ok (.iload_n 3, 1) := dk_29 (dk_at dksJ6_compress_2_1 4 rfl rfl)
theorem dJ6_compress_2_28 : decode cJ6_compress_2 28 = .ok (.iload 6, 2) := dk_21 6 (dk_at dksJ6_compress_2_1 5 rfl rfl)
theorem dJ6_compress_2_30 : decode cJ6_compress_2 30 = .ok (.i2b, 1) := dk_145 (dk_at dksJ6_compress_2_1 7 rfl rfl)
theorem dJ6_compress_2_31 : decode cJ6_compress_2 31 = .ok (.bastore, 1) := dk_84 (dk_at dksJ6_compress_2_1 8 rfl rfl)
theorem dJ6_compress_2_32 : decode cJ6_compress_2 32 = .ok (.iinc 1 1, 3) := dk_132 1 1 (dk_at dksJ6_compress_2_1 9 rfl rfl)
theorem dJ6_compress_2_35 : decode cJ6_compress_2 35 = .ok (.iinc 3 1, 3) := dk_132 3 1 (dk_at dksJ6_compress_2_1 12 rfl rfl)
theorem dJ6_compress_2_38 : decode cJ6_compress_2 38 = .ok (.iinc 5 1, 3) := dk_132 5 1 (dk_at dksJ6_compress_2_1 15 rfl rfl)
theorem dJ6_compress_2_41 : decode cJ6_compress_2 41 = .ok (.goto (-38), 3) := dk_167 255 218 (dk_at dksJ6_compress_2_1 18 rfl rfl)
theorem dJ6_compress_2_44 : decode cJ6_compress_2 44 = .ok (.iload 4, 2) := dk_21 4 (dk_at dksJ6_compress_2_1 21 rfl rfl)
theorem dJ6_compress_2_46 : decode cJ6_compress_2 46 = .ok (.ireturn, 1) := dk_172 (dk_at dksJ6_compress_2_1 23 rfl rfl)
def dkwJ6_toBytes_1 : List UInt8 := [132, 1, 1, 132, 4, 1, 167, 255, 235, 45, 176]
abbrev dktJ6_toBytes_1 : List UInt8 := dkwJ6_toBytes_1 ++ []
def dkwJ6_toBytes_0 : List UInt8 := [28, 184, 0, 107, 78, 3, 54, 4, 21, 4, 28, 162, 0, 21, 45, 21, 4, 42, 27, 52, 184, 0, 111]
abbrev dktJ6_toBytes_0 : List UInt8 := dkwJ6_toBytes_0 ++ dktJ6_toBytes_1
theorem dksJ6_toBytes_0 : cJ6_toBytes.data.toList.drop 0 = dktJ6_toBytes_0 := by decide +kernel
theorem dksJ6_toBytes_1 : cJ6_toBytes.data.toList.drop 23 = dktJ6_toBytes_1 := dk_seg dksJ6_toBytes_0 23 rfl rfl
theorem dJ6_toBytes_0 : decode cJ6_toBytes 0 = .ok (.iload_n 2, 1) := dk_28 (dk_at dksJ6_toBytes_0 0 rfl rfl)
theorem dJ6_toBytes_1 : decode cJ6_toBytes 1 = .ok (.invokestatic 107, 3) := dk_184 0 107 (dk_at dksJ6_toBytes_0 1 rfl rfl)
theorem dJ6_toBytes_4 : decode cJ6_toBytes 4 = .ok (.astore_n 3, 1) := dk_78 (dk_at dksJ6_toBytes_0 4 rfl rfl)
theorem dJ6_toBytes_5 : decode cJ6_toBytes 5 = .ok (.iconst 0, 1) := dk_3 (dk_at dksJ6_toBytes_0 5 rfl rfl)
theorem dJ6_toBytes_6 : decode cJ6_toBytes 6 = .ok (.istore 4, 2) := dk_54 4 (dk_at dksJ6_toBytes_0 6 rfl rfl)
theorem dJ6_toBytes_8 : decode cJ6_toBytes 8 = .ok (.iload 4, 2) := dk_21 4 (dk_at dksJ6_toBytes_0 8 rfl rfl)
theorem dJ6_toBytes_10 : decode cJ6_toBytes 10 = .ok (.iload_n 2, 1) := dk_28 (dk_at dksJ6_toBytes_0 10 rfl rfl)
theorem dJ6_toBytes_11 : decode cJ6_toBytes 11 = .ok (.if_icmp .ge 21, 3) := dk_162 0 21 (dk_at dksJ6_toBytes_0 11 rfl rfl)
theorem dJ6_toBytes_14 : decode cJ6_toBytes 14 = .ok (.aload_n 3, 1) := dk_45 (dk_at dksJ6_toBytes_0 14 rfl rfl)
theorem dJ6_toBytes_15 : decode cJ6_toBytes 15 = .ok (.iload 4, 2) := dk_21 4 (dk_at dksJ6_toBytes_0 15 rfl rfl)
theorem dJ6_toBytes_17 : decode cJ6_toBytes 17 = .ok (.aload_n 0, 1) := dk_42 (dk_at dksJ6_toBytes_0 17 rfl rfl)
theorem dJ6_toBytes_18 : decode cJ6_toBytes 18 = .ok (.iload_n 1, 1) := dk_27 (dk_at dksJ6_toBytes_0 18 rfl rfl)
theorem dJ6_toBytes_19 : decode cJ6_toBytes 19 = .ok (.caload, 1) := dk_52 (dk_at dksJ6_toBytes_0 19 rfl rfl)
theorem dJ6_toBytes_20 : decode cJ6_toBytes 20 = .ok (.invokestatic 111, 3) := dk_184 0 111 (dk_at dksJ6_toBytes_0 20 rfl rfl)
theorem dJ6_toBytes_23 : decode cJ6_toBytes 23 = .ok (.iinc 1 1, 3) := dk_132 1 1 (dk_at dksJ6_toBytes_1 0 rfl rfl)
theorem dJ6_toBytes_26 : decode cJ6_toBytes 26 = .ok (.iinc 4 1, 3) := dk_132 4 1 (dk_at dksJ6_toBytes_1 3 rfl rfl)
theorem dJ6_toBytes_29 : decode cJ6_toBytes 29 = .ok (.goto (-21), 3) := dk_167 255 235 (dk_at dksJ6_toBytes_1 6 rfl rfl)
theorem dJ6_toBytes_32 : decode cJ6_toBytes 32 = .ok (.aload_n 3, 1) := dk_45 (dk_at dksJ6_toBytes_1 9 rfl rfl)
theorem dJ6_toBytes_33 : decode cJ6_toBytes 33 = .ok (.areturn, 1) := dk_176 (dk_at dksJ6_toBytes_1 10 rfl rfl)
def dkwJ6_putChar_2 : List UInt8 := [178, 0, 63, 122, 145, 84, 177]
abbrev dktJ6_putChar_2 : List UInt8 := dkwJ6_putChar_2 ++ []
def dkwJ6_putChar_1 : List UInt8 := [183, 0, 56, 191, 27, 4, 120, 60, 42, 27, 132, 1, 1, 28, 178, 0, 59, 122, 145, 84, 42, 27, 28]
abbrev dktJ6_putChar_1 : List UInt8 := dkwJ6_putChar_1 ++ dktJ6_putChar_2
def dkwJ6_putChar_0 : List UInt8 := [178, 0, 44, 154, 0, 25, 27, 155, 0, 11, 27, 42, 184, 0, 48, 161, 0, 13, 187, 0, 52, 89, 18, 54]
abbrev dktJ6_putChar_0 : List UInt8 := dkwJ6_putChar_0 ++ dktJ6_putChar_1
theorem dksJ6_putChar_0 : cJ6_putChar.data.toList.drop 0 = dktJ6_putChar_0 := by decide +kernel
theorem dksJ6_putChar_1 : cJ6_putChar.data.toList.drop 24 = dktJ6_putChar_1 := dk_seg dksJ6_putChar_0 24 rfl rfl
theorem dksJ6_putChar_2 : cJ6_putChar.data.toList.drop 47 = dktJ6_putChar_2 := dk_seg dksJ6_putChar_1 23 rfl rfl
theorem dJ6_putChar_0 : decode cJ6_putChar 0 = .ok (.getstatic 44, 3) := dk_178 0 44 (dk_at dksJ6_putChar_0 0 rfl rfl)
theorem dJ6_putChar_3 : decode cJ6_putChar 3 = .ok (.ifCond .ne 25, 3) := dk_154 0 25 (dk_at dksJ6_putChar_0 3 rfl rfl)
theorem dJ6_putChar_6 : decode cJ6_putChar 6 = .ok (.iload_n 1, 1) := dk_27 (dk_at dksJ6_putChar_0 6 rfl rfl)
theorem dJ6_putChar_7 : decode cJ6_putChar 7 = .ok (.ifCond .lt 11, 3) := dk_155 0 11 (dk_at dksJ6_putChar_0 7 rfl rfl)
theorem dJ6_putChar_10 : decode cJ6_putChar 10 = .ok (.iload_n 1, 1) := dk_27 (dk_at dksJ6_putChar_0 10 rfl rfl)
theorem dJ6_putChar_11 : decode cJ6_putChar 11 = .ok (.aload_n 0, 1) := dk_42 (dk_at dksJ6_putChar_0 11 rfl rfl)
theorem dJ6_putChar_12 : decode cJ6_putChar 12 = .ok (.invokestatic 48, 3) := dk_184 0 48 (dk_at dksJ6_putChar_0 12 rfl rfl)
theorem dJ6_putChar_15 : decode cJ6_putChar 15 = .ok (.if_icmp .lt 13, 3) := dk_161 0 13 (dk_at dksJ6_putChar_0 15 rfl rfl)
theorem dJ6_putChar_18 : decode cJ6_putChar 18 = .ok (.new 52, 3) := dk_187 0 52 (dk_at dksJ6_putChar_0 18 rfl rfl)
theorem dJ6_putChar_21 : decode cJ6_putChar 21 = .ok (.dup, 1) := dk_89 (dk_at dksJ6_putChar_0 21 rfl rfl)
theorem dJ6_putChar_22 : decode cJ6_putChar 22 = .ok (.ldc 54, 2) := dk_18 54 (dk_at dksJ6_putChar_0 22 rfl rfl)
theorem dJ6_putChar_24 : decode cJ6_putChar 24 = .ok (.invokespecial 56, 3) := dk_183 0 56 (dk_at dksJ6_putChar_1 0 rfl rfl)
theorem dJ6_putChar_27 : decode cJ6_putChar 27 = .ok (.athrow, 1) := dk_191 (dk_at dksJ6_putChar_1 3 rfl rfl)
theorem dJ6_putChar_28 : decode cJ6_putChar 28 = .ok (.iload_n 1, 1) := dk_27 (dk_at dksJ6_putChar_1 4 rfl rfl)
theorem dJ6_putChar_29 : decode cJ6_putChar 29 = .ok (.iconst 1, 1) := dk_4 (dk_at dksJ6_putChar_1 5 rfl rfl)
theorem dJ6_putChar_30 : decode cJ6_putChar 30 = .ok (.ishl, 1) := dk_120 (dk_at dksJ6_putChar_1 6 rfl rfl)
theorem dJ6_putChar_31 : decode cJ6_putChar 31 = .ok (.istore_n 1, 1) := dk_60 (dk_at dksJ6_putChar_1 7 rfl rfl)
theorem dJ6_putChar_32 : decode cJ6_putChar 32 = .ok (.aload_n 0, 1) := dk_42 (dk_at dksJ6_putChar_1 8 rfl rfl)
theorem dJ6_putChar_33 : decode cJ6_putChar 33 = .ok (.iload_n 1, 1) := dk_27 (dk_at dksJ6_putChar_1 9 rfl rfl)
theorem dJ6_putChar_34 : decode cJ6_putChar 34 = .ok (.iinc 1 1, 3) := dk_132 1 1 (dk_at dksJ6_putChar_1 10 rfl rfl)
theorem dJ6_putChar_37 : decode cJ6_putChar 37 = .ok (.iload_n 2, 1) := dk_28 (dk_at dksJ6_putChar_1 13 rfl rfl)
theorem dJ6_putChar_38 : decode cJ6_putChar 38 = .ok (.getstatic 59, 3) := dk_178 0 59 (dk_at dksJ6_putChar_1 14 rfl rfl)
theorem dJ6_putChar_41 : decode cJ6_putChar 41 = .ok (.ishr, 1) := dk_122 (dk_at dksJ6_putChar_1 17 rfl rfl)
theorem dJ6_putChar_42 : decode cJ6_putChar 42 = .ok (.i2b, 1) := dk_145 (dk_at dksJ6_putChar_1 18 rfl rfl)
theorem dJ6_putChar_43 : decode cJ6_putChar 43 = .ok (.bastore, 1) := dk_84 (dk_at dksJ6_putChar_1 19 rfl rfl)
theorem dJ6_putChar_44 : decode cJ6_putChar 44 = .ok (.aload_n 0, 1) := dk_42 (dk_at dksJ6_putChar_1 20 rfl rfl)
theorem dJ6_putChar_45 : decode cJ6_putChar 45 = .ok (.iload_n 1, 1) := dk_27 (dk_at dksJ6_putChar_1 21 rfl rfl)
theorem dJ6_putChar_46 : decode cJ6_putChar 46 = .ok (.iload_n 2, 1) := dk_28 (dk_at dksJ6_putChar_1 22 rfl rfl)
theorem dJ6_putChar_47 : decode cJ6_putChar 47 = .ok (.getstatic 63, 3) := dk_178 0 63 (dk_at dksJ6_putChar_2 0 rfl rfl)
theorem dJ6_putChar_50 : decode cJ6_putChar 50 = .ok (.ishr, 1) := dk_122 (dk_at dksJ6_putChar_2 3 rfl rfl)
theorem dJ6_putChar_51 : decode cJ6_putChar 51 = .ok (.i2b, 1) := dk_145 (dk_at dksJ6_putChar_2 4 rfl rfl)
theorem dJ6_putChar_52 : decode cJ6_putChar 52 = .ok (.bastore, 1) := dk_84 (dk_at dksJ6_putChar_2 5 rfl rfl)
theorem dJ6_putChar_53 : decode cJ6_putChar 53 = .ok (.return_, 1) := dk_177 (dk_at dksJ6_putChar_2 6 rfl rfl)
def dkwJ6_length_0 : List UInt8 := [42, 190, 4, 122, 172]
abbrev dktJ6_length_0 : List UInt8 := dkwJ6_length_0 ++ []
theorem dksJ6_length_0 : cJ6_length.data.toList.drop 0 = dktJ6_length_0 := by decide +kernel
theorem dJ6_length_0 : decode cJ6_length 0 = .ok (.aload_n 0, 1) := dk_42 (dk_at dksJ6_length_0 0 rfl rfl)
theorem dJ6_length_1 : decode cJ6_length 1 = .ok (.arraylength, 1) := dk_190 (dk_at dksJ6_length_0 1 rfl rfl)
theorem dJ6_length_2 : decode cJ6_length 2 = .ok (.iconst 1, 1) := dk_4 (dk_at dksJ6_length_0 2 rfl rfl)
theorem dJ6_length_3 : decode cJ6_length 3 = .ok (.ishr, 1) := dk_122 (dk_at dksJ6_length_0 3 rfl rfl)
theorem dJ6_length_4 : decode cJ6_length 4 = .ok (.ireturn, 1) := dk_172 (dk_at dksJ6_length_0 4 rfl rfl)
def dkwJ6_getChar_2 : List UInt8 := [51, 17, 0, 255, 126, 178, 0, 63, 120, 128, 146, 172]
abbrev dktJ6_getChar_2 : List UInt8 := dkwJ6_getChar_2 ++ []
def dkwJ6_getChar_1 : List UInt8 := [183, 0, 56, 191, 27, 4, 120, 60, 42, 27, 132, 1, 1, 51, 17, 0, 255, 126, 178, 0, 59, 120, 42, 27]
abbrev dktJ6_getChar_1 : List UInt8 := dkwJ6_getChar_1 ++ dktJ6_getChar_2
def dkwJ6_getChar_0 : List UInt8 := [178, 0, 44, 154, 0, 25, 27, 155, 0, 11, 27, 42, 184, 0, 48, 161, 0, 13, 187, 0, 52, 89, 18, 54]
abbrev dktJ6_getChar_0 : List UInt8 := dkwJ6_getChar_0 ++ dktJ6_getChar_1
theorem dksJ6_getChar_0 : cJ6_getChar.data.toList.drop 0 = dktJ6_getChar_0 := by decide +kernel
theorem dksJ6_getChar_1 : cJ6_getChar.data.toList.drop 24 = dktJ6_getChar_1 := dk_seg dksJ6_getChar_0 24 rfl rfl
theorem dksJ6_getChar_2 : cJ6_getChar.data.toList.drop 48 = dktJ6_getChar_2 := dk_seg dksJ6_getChar_1 24 rfl rfl
theorem dJ6_getChar_0 : decode cJ6_getChar 0 = .ok (.getstatic 44, 3) := dk_178 0 44 (dk_at dksJ6_getChar_0 0 rfl rfl)
theorem dJ6_getChar_3 : decode cJ6_getChar 3 = .ok (.ifCond .ne 25, 3) := dk_154 0 25 (dk_at dksJ6_getChar_0 3 rfl rfl)
theorem dJ6_getChar_6 : decode cJ6_getChar 6 = .ok (.iload_n 1, 1) := dk_27 (dk_at dksJ6_getChar_0 6 rfl rfl)
theorem dJ6_getChar_7 : decode cJ6_getChar 7 = .ok (.ifCond .lt 11, 3) := dk_155 0 11 (dk_at dksJ6_getChar_0 7 rfl rfl)
theorem dJ6_getChar_10 : decode cJ6_getChar 10 = .ok (.iload_n 1, 1) := dk_27 (dk_at dksJ6_getChar_0 10 rfl rfl)
theorem dJ6_getChar_11 : decode cJ6_getChar 11 = .ok (.aload_n 0, 1) := dk_42 (dk_at dksJ6_getChar_0 11 rfl rfl)
theorem dJ6_getChar_12 : decode cJ6_getChar 12 = .ok (.invokestatic 48, 3) := dk_184 0 48 (dk_at dksJ6_getChar_0 12 rfl rfl)
theorem dJ6_getChar_15 : decode cJ6_getChar 15 = .ok (.if_icmp .lt 13, 3) := dk_161 0 13 (dk_at dksJ6_getChar_0 15 rfl rfl)
theorem dJ6_getChar_18 : decode cJ6_getChar 18 = .ok (.new 52, 3) := dk_187 0 52 (dk_at dksJ6_getChar_0 18 rfl rfl)
theorem dJ6_getChar_21 : decode cJ6_getChar 21 = .ok (.dup, 1) := dk_89 (dk_at dksJ6_getChar_0 21 rfl rfl)
theorem dJ6_getChar_22 : decode cJ6_getChar 22 = .ok (.ldc 54, 2) := dk_18 54 (dk_at dksJ6_getChar_0 22 rfl rfl)
theorem dJ6_getChar_24 : decode cJ6_getChar 24 = .ok (.invokespecial 56, 3) := dk_183 0 56 (dk_at dksJ6_getChar_1 0 rfl rfl)
theorem dJ6_getChar_27 : decode cJ6_getChar 27 = .ok (.athrow, 1) := dk_191 (dk_at dksJ6_getChar_1 3 rfl rfl)
theorem dJ6_getChar_28 : decode cJ6_getChar 28 = .ok (.iload_n 1, 1) := dk_27 (dk_at dksJ6_getChar_1 4 rfl rfl)
theorem dJ6_getChar_29 : decode cJ6_getChar 29 = .ok (.iconst 1, 1) := dk_4 (dk_at dksJ6_getChar_1 5 rfl rfl)
theorem dJ6_getChar_30 : decode cJ6_getChar 30 = .ok (.ishl, 1) := dk_120 (dk_at dksJ6_getChar_1 6 rfl rfl)
theorem dJ6_getChar_31 : decode cJ6_getChar 31 = .ok (.istore_n 1, 1) := dk_60 (dk_at dksJ6_getChar_1 7 rfl rfl)
theorem dJ6_getChar_32 : decode cJ6_getChar 32 = .ok (.aload_n 0, 1) := dk_42 (dk_at dksJ6_getChar_1 8 rfl rfl)
theorem dJ6_getChar_33 : decode cJ6_getChar 33 = .ok (.iload_n 1, 1) := dk_27 (dk_at dksJ6_getChar_1 9 rfl rfl)
theorem dJ6_getChar_34 : decode cJ6_getChar 34 = .ok (.iinc 1 1, 3) := dk_132 1 1 (dk_at dksJ6_getChar_1 10 rfl rfl)
theorem dJ6_getChar_37 : decode cJ6_getChar 37 = .ok (.baload, 1) := dk_51 (dk_at dksJ6_getChar_1 13 rfl rfl)
theorem dJ6_getChar_38 : decode cJ6_getChar 38 = .ok (.sipush 255, 3) := dk_17 0 255 (dk_at dksJ6_getChar_1 14 rfl rfl)
theorem dJ6_getChar_41 : decode cJ6_getChar 41 = .ok (.iand, 1) := dk_126 (dk_at dksJ6_getChar_1 17 rfl rfl)
theorem dJ6_getChar_42 : decode cJ6_getChar 42 = .ok (.getstatic 59, 3) := dk_178 0 59 (dk_at dksJ6_getChar_1 18 rfl rfl)
theorem dJ6_getChar_45 : decode cJ6_getChar 45 = .ok (.ishl, 1) := dk_120 (dk_at dksJ6_getChar_1 21 rfl rfl)
theorem dJ6_getChar_46 : decode cJ6_getChar 46 = .ok (.aload_n 0, 1) := dk_42 (dk_at dksJ6_getChar_1 22 rfl rfl)
theorem dJ6_getChar_47 : decode cJ6_getChar 47 = .ok (.iload_n 1, 1) := dk_27 (dk_at dksJ6_getChar_1 23 rfl rfl)
theorem dJ6_getChar_48 : decode cJ6_getChar 48 = .ok (.baload, 1) := dk_51 (dk_at dksJ6_getChar_2 0 rfl rfl)
theorem dJ6_getChar_49 : decode cJ6_getChar 49 = .ok (.sipush 255, 3) := dk_17 0 255 (dk_at dksJ6_getChar_2 1 rfl rfl)
theorem dJ6_getChar_52 : decode cJ6_getChar 52 = .ok (.iand, 1) := dk_126 (dk_at dksJ6_getChar_2 4 rfl rfl)
theorem dJ6_getChar_53 : decode cJ6_getChar 53 = .ok (.getstatic 63, 3) := dk_178 0 63 (dk_at dksJ6_getChar_2 5 rfl rfl)
theorem dJ6_getChar_56 : decode cJ6_getChar 56 = .ok (.ishl, 1) := dk_120 (dk_at dksJ6_getChar_2 8 rfl rfl)
theorem dJ6_getChar_57 : decode cJ6_getChar 57 = .ok (.ior, 1) := dk_128 (dk_at dksJ6_getChar_2 9 rfl rfl)
theorem dJ6_getChar_58 : decode cJ6_getChar 58 = .ok (.i2c, 1) := dk_146 (dk_at dksJ6_getChar_2 10 rfl rfl)
theorem dJ6_getChar_59 : decode cJ6_getChar 59 = .ok (.ireturn, 1) := dk_172 (dk_at dksJ6_getChar_2 11 rfl rfl)
def dkwJ6_compress_3_2 : List UInt8 := [132, 5, 1, 167, 255, 216, 21, 4, 172]
abbrev dktJ6_compress_3_2 : List UInt8 := dkwJ6_compress_3_2 ++ []
def dkwJ6_compress_3_1 : List UInt8 := [21, 6, 17, 0, 255, 164, 0, 6, 21, 5, 172, 44, 29, 21, 6, 145, 84, 132, 1, 1, 132, 3, 1]
abbrev dktJ6_compress_3_1 : List UInt8 := dkwJ6_compress_3_1 ++ dktJ6_compress_3_2
def dkwJ6_compress_3_0 : List UInt8 := [27, 21, 4, 42, 184, 0, 173, 3, 54, 5, 21, 5, 21, 4, 162, 0, 39, 42, 27, 184, 0, 71, 54, 6]
abbrev dktJ6_compress_3_0 : List UInt8 := dkwJ6_compress_3_0 ++ dktJ6_compress_3_1
theorem dksJ6_compress_3_0 : cJ6_compress_3.data.toList.drop 0 = dktJ6_compress_3_0 := by decide +kernel
theorem dksJ6_compress_3_1 : cJ6_compress_3.data.toList.drop 24 = dktJ6_compress_3_1 := dk_seg dksJ6_compress_3_0 24 rfl rfl
theorem dksJ6_compress_3_2 : cJ6_compress_3.data.toList.drop 47 = dktJ6_compress_3_2 := dk_seg dksJ6_compress_3_1 23 rfl rfl
theorem dJ6_compress_3_0 : decode cJ6_compress_3 0 = .ok (.iload_n 1, 1) := dk_27 (dk_at dksJ6_compress_3_0 0 rfl rfl)
theorem dJ6_compress_3_1 : decode cJ6_compress_3 1 = .ok (.iload 4, 2) := dk_21 4 (dk_at dksJ6_compress_3_0 1 rfl rfl)
theorem dJ6_compress_3_3 : decode cJ6_compress_3 3 = .ok (.aload_n 0, 1) := dk_42 (dk_at dksJ6_compress_3_0 3 rfl rfl)
theorem dJ6_compress_3_4 : decode cJ6_compress_3 4 = .ok (.invokestatic 173, 3) := dk_184 0 173 (dk_at dksJ6_compress_3_0 4 rfl rfl)
theorem dJ6_compress_3_7 : decode cJ6_compress_3 7 = .ok (.iconst 0, 1) := dk_3 (dk_at dksJ6_compress_3_0 7 rfl rfl)
theorem dJ6_compress_3_8 : decode cJ6_compress_3 8 = .ok (.istore 5, 2) := dk_54 5 (dk_at dksJ6_compress_3_0 8 rfl rfl)
theorem dJ6_compress_3_10 : decode cJ6_compress_3 10 = .ok (.iload 5, 2) := dk_21 5 (dk_at dksJ6_compress_3_0 10 rfl rfl)
theorem dJ6_compress_3_12 : decode cJ6_compress_3 12 = .ok (.iload 4, 2) := dk_21 4 (dk_at dksJ6_compress_3_0 12 rfl rfl)
theorem dJ6_compress_3_14 : decode cJ6_compress_3 14 = .ok (.if_icmp .ge 39, 3) := dk_162 0 39 (dk_at dksJ6_compress_3_0 14 rfl rfl)
theorem dJ6_compress_3_17 : decode cJ6_compress_3 17 = .ok (.aload_n 0, 1) := dk_42 (dk_at dksJ6_compress_3_0 17 rfl rfl)
theorem dJ6_compress_3_18 : decode cJ6_compress_3 18 = .ok (.iload_n 1, 1) := dk_27 (dk_at dksJ6_compress_3_0 18 rfl rfl)
theorem dJ6_compress_3_19 : decode cJ6_compress_3 19 = .ok (.invokestatic 71, 3) := dk_184 0 71 (dk_at dksJ6_compress_3_0 19 rfl rfl)
theorem dJ6_compress_3_22 : decode cJ6_compress_3 22 = .ok (.istore 6, 2) := dk_54 6 (dk_at dksJ6_compress_3_0 22 rfl rfl)
theorem dJ6_compress_3_24 : decode cJ6_compress_3 24 = .ok (.iload 6, 2) := dk_21 6 (dk_at dksJ6_compress_3_1 0 rfl rfl)
theorem dJ6_compress_3_26 : decode cJ6_compress_3 26 = .ok (.sipush 255, 3) := dk_17 0 255 (dk_at dksJ6_compress_3_1 2 rfl rfl)
theorem dJ6_compress_3_29 : decode cJ6_compress_3 29 = .ok (.if_icmp .le 6, 3) := dk_164 0 6 (dk_at dksJ6_compress_3_1 5 rfl rfl)
theorem dJ6_compress_3_32 : decode cJ6_compress_3 32 = .ok (.iload 5, 2) := dk_21 5 (dk_at dksJ6_compress_3_1 8 rfl rfl)
theorem dJ6_compress_3_34 : decode cJ6_compress_3 34 = .ok (.ireturn, 1) := dk_172 (dk_at dksJ6_compress_3_1 10 rfl rfl)
theorem dJ6_compress_3_35 : decode cJ6_compress_3 35 = .ok (.aload_n 2, 1) := dk_44 (dk_at dksJ6_compress_3_1 11 rfl rfl)
theorem dJ6_compress_3_36 : decode cJ6_compress_3 36 = .ok (.iload_n 3, 1) := dk_29 (dk_at dksJ6_compress_3_1 12 rfl rfl)
theorem dJ6_compress_3_37 : decode cJ6_compress_3 37 = .ok (.iload 6, 2) := dk_21 6 (dk_at dksJ6_compress_3_1 13 rfl rfl)
theorem dJ6_compress_3_39 : decode cJ6_compress_3 39 = .ok (.i2b, 1) := dk_145 (dk_at dksJ6_compress_3_1 15 rfl rfl)
theorem dJ6_compress_3_40 : decode cJ6_compress_3 40 = .ok (.bastore, 1) := dk_84 (dk_at dksJ6_compress_3_1 16 rfl rfl)
theorem dJ6_compress_3_41 : decode cJ6_compress_3 41 = .ok (.iinc 1 1, 3) := dk_132 1 1 (dk_at dksJ6_compress_3_1 17 rfl rfl)
theorem dJ6_compress_3_44 : decode cJ6_compress_3 44 = .ok (.iinc 3 1, 3) := dk_132 3 1 (dk_at dksJ6_compress_3_1 20 rfl rfl)
theorem dJ6_compress_3_47 : decode cJ6_compress_3 47 = .ok (.iinc 5 1, 3) := dk_132 5 1 (dk_at dksJ6_compress_3_2 0 rfl rfl)
theorem dJ6_compress_3_50 : decode cJ6_compress_3 50 = .ok (.goto (-40), 3) := dk_167 255 216 (dk_at dksJ6_compress_3_2 3 rfl rfl)
theorem dJ6_compress_3_53 : decode cJ6_compress_3 53 = .ok (.iload 4, 2) := dk_21 4 (dk_at dksJ6_compress_3_2 6 rfl rfl)
theorem dJ6_compress_3_55 : decode cJ6_compress_3 55 = .ok (.ireturn, 1) := dk_172 (dk_at dksJ6_compress_3_2 8 rfl rfl)
def dkwJ6_checkBoundsOffCount_0 : List UInt8 := [26, 27, 44, 184, 0, 48, 184, 1, 163, 87, 177]
abbrev dktJ6_checkBoundsOffCount_0 : List UInt8 := dkwJ6_checkBoundsOffCount_0 ++ []
theorem dksJ6_checkBoundsOffCount_0 : cJ6_checkBoundsOffCount.data.toList.drop 0 = dktJ6_checkBoundsOffCount_0 := by decide +kernel
theorem dJ6_checkBoundsOffCount_0 : decode cJ6_checkBoundsOffCount 0 = .ok (.iload_n 0, 1) := dk_26 (dk_at dksJ6_checkBoundsOffCount_0 0 rfl rfl)
theorem dJ6_checkBoundsOffCount_1 : decode cJ6_checkBoundsOffCount 1 = .ok (.iload_n 1, 1) := dk_27 (dk_at dksJ6_checkBoundsOffCount_0 1 rfl rfl)
theorem dJ6_checkBoundsOffCount_2 : decode cJ6_checkBoundsOffCount 2 = .ok (.aload_n 2, 1) := dk_44 (dk_at dksJ6_checkBoundsOffCount_0 2 rfl rfl)
theorem dJ6_checkBoundsOffCount_3 : decode cJ6_checkBoundsOffCount 3 = .ok (.invokestatic 48, 3) := dk_184 0 48 (dk_at dksJ6_checkBoundsOffCount_0 3 rfl rfl)
theorem dJ6_checkBoundsOffCount_6 : decode cJ6_checkBoundsOffCount 6 = .ok (.invokestatic 419, 3) := dk_184 1 163 (dk_at dksJ6_checkBoundsOffCount_0 6 rfl rfl)
theorem dJ6_checkBoundsOffCount_9 : decode cJ6_checkBoundsOffCount 9 = .ok (.pop, 1) := dk_87 (dk_at dksJ6_checkBoundsOffCount_0 9 rfl rfl)
theorem dJ6_checkBoundsOffCount_10 : decode cJ6_checkBoundsOffCount 10 = .ok (.return_, 1) := dk_177 (dk_at dksJ6_checkBoundsOffCount_0 10 rfl rfl)
def dkwJ6_coderFromArrayLen_0 : List UInt8 := [27, 42, 190, 100, 16, 31, 124, 145, 172]
abbrev dktJ6_coderFromArrayLen_0 : List UInt8 := dkwJ6_coderFromArrayLen_0 ++ []
theorem dksJ6_coderFromArrayLen_0 : cJ6_coderFromArrayLen.data.toList.drop 0 = dktJ6_coderFromArrayLen_0 := by decide +kernel
theorem dJ6_coderFromArrayLen_0 : decode cJ6_coderFromArrayLen 0 = .ok (.iload_n 1, 1) := dk_27 (dk_at dksJ6_coderFromArrayLen_0 0 rfl rfl)
theorem dJ6_coderFromArrayLen_1 : decode cJ6_coderFromArrayLen 1 = .ok (.aload_n 0, 1) := dk_42 (dk_at dksJ6_coderFromArrayLen_0 1 rfl rfl)
theorem dJ6_coderFromArrayLen_2 : decode cJ6_coderFromArrayLen 2 = .ok (.arraylength, 1) := dk_190 (dk_at dksJ6_coderFromArrayLen_0 2 rfl rfl)
theorem dJ6_coderFromArrayLen_3 : decode cJ6_coderFromArrayLen 3 = .ok (.isub, 1) := dk_100 (dk_at dksJ6_coderFromArrayLen_0 3 rfl rfl)
theorem dJ6_coderFromArrayLen_4 : decode cJ6_coderFromArrayLen 4 = .ok (.bipush 31, 2) := dk_16 31 (dk_at dksJ6_coderFromArrayLen_0 4 rfl rfl)
theorem dJ6_coderFromArrayLen_6 : decode cJ6_coderFromArrayLen 6 = .ok (.iushr, 1) := dk_124 (dk_at dksJ6_coderFromArrayLen_0 6 rfl rfl)
theorem dJ6_coderFromArrayLen_7 : decode cJ6_coderFromArrayLen 7 = .ok (.i2b, 1) := dk_145 (dk_at dksJ6_coderFromArrayLen_0 7 rfl rfl)
theorem dJ6_coderFromArrayLen_8 : decode cJ6_coderFromArrayLen 8 = .ok (.ireturn, 1) := dk_172 (dk_at dksJ6_coderFromArrayLen_0 8 rfl rfl)
def dkwJ6_charAt_0 : List UInt8 := [27, 42, 184, 0, 67, 42, 27, 184, 0, 71, 172]
abbrev dktJ6_charAt_0 : List UInt8 := dkwJ6_charAt_0 ++ []
theorem dksJ6_charAt_0 : cJ6_charAt.data.toList.drop 0 = dktJ6_charAt_0 := by decide +kernel
theorem dJ6_charAt_0 : decode cJ6_charAt 0 = .ok (.iload_n 1, 1) := dk_27 (dk_at dksJ6_charAt_0 0 rfl rfl)
theorem dJ6_charAt_1 : decode cJ6_charAt 1 = .ok (.aload_n 0, 1) := dk_42 (dk_at dksJ6_charAt_0 1 rfl rfl)
theorem dJ6_charAt_2 : decode cJ6_charAt 2 = .ok (.invokestatic 67, 3) := dk_184 0 67 (dk_at dksJ6_charAt_0 2 rfl rfl)
theorem dJ6_charAt_5 : decode cJ6_charAt 5 = .ok (.aload_n 0, 1) := dk_42 (dk_at dksJ6_charAt_0 5 rfl rfl)
theorem dJ6_charAt_6 : decode cJ6_charAt 6 = .ok (.iload_n 1, 1) := dk_27 (dk_at dksJ6_charAt_0 6 rfl rfl)
theorem dJ6_charAt_7 : decode cJ6_charAt 7 = .ok (.invokestatic 71, 3) := dk_184 0 71 (dk_at dksJ6_charAt_0 7 rfl rfl)
theorem dJ6_charAt_10 : decode cJ6_charAt 10 = .ok (.ireturn, 1) := dk_172 (dk_at dksJ6_charAt_0 10 rfl rfl)
def dkwJ6_checkIndex_0 : List UInt8 := [26, 43, 184, 0, 48, 184, 1, 158, 177]
abbrev dktJ6_checkIndex_0 : List UInt8 := dkwJ6_checkIndex_0 ++ []
theorem dksJ6_checkIndex_0 : cJ6_checkIndex.data.toList.drop 0 = dktJ6_checkIndex_0 := by decide +kernel
theorem dJ6_checkIndex_0 : decode cJ6_checkIndex 0 = .ok (.iload_n 0, 1) := dk_26 (dk_at dksJ6_checkIndex_0 0 rfl rfl)
theorem dJ6_checkIndex_1 : decode cJ6_checkIndex 1 = .ok (.aload_n 1, 1) := dk_43 (dk_at dksJ6_checkIndex_0 1 rfl rfl)
theorem dJ6_checkIndex_2 : decode cJ6_checkIndex 2 = .ok (.invokestatic 48, 3) := dk_184 0 48 (dk_at dksJ6_checkIndex_0 2 rfl rfl)
theorem dJ6_checkIndex_5 : decode cJ6_checkIndex 5 = .ok (.invokestatic 414, 3) := dk_184 1 158 (dk_at dksJ6_checkIndex_0 5 rfl rfl)
theorem dJ6_checkIndex_8 : decode cJ6_checkIndex 8 = .ok (.return_, 1) := dk_177 (dk_at dksJ6_checkIndex_0 8 rfl rfl)
def dkwJ6_fillNull_0 : List UInt8 := [42, 27, 4, 120, 28, 4, 120, 3, 184, 1, 124, 177]
abbrev dktJ6_fillNull_0 : List UInt8 := dkwJ6_fillNull_0 ++ []
theorem dksJ6_fillNull_0 : cJ6_fillNull.data.toList.drop 0 = dktJ6_fillNull_0 := by decide +kernel
theorem dJ6_fillNull_0 : decode cJ6_fillNull 0 = .ok (.aload_n 0, 1) := dk_42 (dk_at dksJ6_fillNull_0 0 rfl rfl)
theorem dJ6_fillNull_1 : decode cJ6_fillNull 1 = .ok (.iload_n 1, 1) := dk_27 (dk_at dksJ6_fillNull_0 1 rfl rfl)
theorem dJ6_fillNull_2 : decode cJ6_fillNull 2 = .ok (.iconst 1, 1) := dk_4 (dk_at dksJ6_fillNull_0 2 rfl rfl)
theorem dJ6_fillNull_3 : decode cJ6_fillNull 3 = .ok (.ishl, 1) := dk_120 (dk_at dksJ6_fillNull_0 3 rfl rfl)
theorem dJ6_fillNull_4 : decode cJ6_fillNull 4 = .ok (.iload_n 2, 1) := dk_28 (dk_at dksJ6_fillNull_0 4 rfl rfl)
theorem dJ6_fillNull_5 : decode cJ6_fillNull 5 = .ok (.iconst 1, 1) := dk_4 (dk_at dksJ6_fillNull_0 5 rfl rfl)
theorem dJ6_fillNull_6 : decode cJ6_fillNull 6 = .ok (.ishl, 1) := dk_120 (dk_at dksJ6_fillNull_0 6 rfl rfl)
theorem dJ6_fillNull_7 : decode cJ6_fillNull 7 = .ok (.iconst 0, 1) := dk_3 (dk_at dksJ6_fillNull_0 7 rfl rfl)
theorem dJ6_fillNull_8 : decode cJ6_fillNull 8 = .ok (.invokestatic 380, 3) := dk_184 1 124 (dk_at dksJ6_fillNull_0 8 rfl rfl)
theorem dJ6_fillNull_11 : decode cJ6_fillNull 11 = .ok (.return_, 1) := dk_177 (dk_at dksJ6_fillNull_0 11 rfl rfl)
def dkwJ6_inflate_1 : List UInt8 := [132, 1, 1, 51, 17, 0, 255, 126, 184, 0, 111, 132, 5, 1, 167, 255, 228, 177]
abbrev dktJ6_inflate_1 : List UInt8 := dkwJ6_inflate_1 ++ []
def dkwJ6_inflate_0 : List UInt8 := [29, 21, 4, 44, 184, 0, 173, 3, 54, 5, 21, 5, 21, 4, 162, 0, 27, 44, 29, 132, 3, 1, 42, 27]
abbrev dktJ6_inflate_0 : List UInt8 := dkwJ6_inflate_0 ++ dktJ6_inflate_1
theorem dksJ6_inflate_0 : cJ6_inflate.data.toList.drop 0 = dktJ6_inflate_0 := by decide +kernel
theorem dksJ6_inflate_1 : cJ6_inflate.data.toList.drop 24 = dktJ6_inflate_1 := dk_seg dksJ6_inflate_0 24 rfl rfl
theorem dJ6_inflate_0 : decode cJ6_inflate 0 = .ok (.iload_n 3, 1) := dk_29 (dk_at dksJ6_inflate_0 0 rfl rfl)
theorem dJ6_inflate_1 : decode cJ6_inflate 1 = .ok (.iload 4, 2) := dk_21 4 (dk_at dksJ6_inflate_0 1 rfl rfl)
theorem dJ6_inflate_3 : decode cJ6_inflate 3 = .ok (.aload_n 2, 1) := dk_44 (dk_at dksJ6_inflate_0 3 rfl rfl)
theorem dJ6_inflate_4 : decode cJ6_inflate 4 = .ok (.invokestatic 173, 3) := dk_184 0 173 (dk_at dksJ6_inflate_0 4 rfl rfl)
theorem dJ6_inflate_7 : decode cJ6_inflate 7 = .ok (.iconst 0, 1) := dk_3 (dk_at dksJ6_inflate_0 7 rfl rfl)
theorem dJ6_inflate_8 : decode cJ6_inflate 8 = .ok (.istore 5, 2) := dk_54 5 (dk_at dksJ6_inflate_0 8 rfl rfl)
theorem dJ6_inflate_10 : decode cJ6_inflate 10 = .ok (.iload 5, 2) := dk_21 5 (dk_at dksJ6_inflate_0 10 rfl rfl)
theorem dJ6_inflate_12 : decode cJ6_inflate 12 = .ok (.iload 4, 2) := dk_21 4 (dk_at dksJ6_inflate_0 12 rfl rfl)
theorem dJ6_inflate_14 : decode cJ6_inflate 14 = .ok (.if_icmp .ge 27, 3) := dk_162 0 27 (dk_at dksJ6_inflate_0 14 rfl rfl)
theorem dJ6_inflate_17 : decode cJ6_inflate 17 = .ok (.aload_n 2, 1) := dk_44 (dk_at dksJ6_inflate_0 17 rfl rfl)
theorem dJ6_inflate_18 : decode cJ6_inflate 18 = .ok (.iload_n 3, 1) := dk_29 (dk_at dksJ6_inflate_0 18 rfl rfl)
theorem dJ6_inflate_19 : decode cJ6_inflate 19 = .ok (.iinc 3 1, 3) := dk_132 3 1 (dk_at dksJ6_inflate_0 19 rfl rfl)
theorem dJ6_inflate_22 : decode cJ6_inflate 22 = .ok (.aload_n 0, 1) := dk_42 (dk_at dksJ6_inflate_0 22 rfl rfl)
theorem dJ6_inflate_23 : decode cJ6_inflate 23 = .ok (.iload_n 1, 1) := dk_27 (dk_at dksJ6_inflate_0 23 rfl rfl)
theorem dJ6_inflate_24 : decode cJ6_inflate 24 = .ok (.iinc 1 1, 3) := dk_132 1 1 (dk_at dksJ6_inflate_1 0 rfl rfl)
theorem dJ6_inflate_27 : decode cJ6_inflate 27 = .ok (.baload, 1) := dk_51 (dk_at dksJ6_inflate_1 3 rfl rfl)
theorem dJ6_inflate_28 : decode cJ6_inflate 28 = .ok (.sipush 255, 3) := dk_17 0 255 (dk_at dksJ6_inflate_1 4 rfl rfl)
theorem dJ6_inflate_31 : decode cJ6_inflate 31 = .ok (.iand, 1) := dk_126 (dk_at dksJ6_inflate_1 7 rfl rfl)
theorem dJ6_inflate_32 : decode cJ6_inflate 32 = .ok (.invokestatic 111, 3) := dk_184 0 111 (dk_at dksJ6_inflate_1 8 rfl rfl)
theorem dJ6_inflate_35 : decode cJ6_inflate 35 = .ok (.iinc 5 1, 3) := dk_132 5 1 (dk_at dksJ6_inflate_1 11 rfl rfl)
theorem dJ6_inflate_38 : decode cJ6_inflate 38 = .ok (.goto (-28), 3) := dk_167 255 228 (dk_at dksJ6_inflate_1 14 rfl rfl)
theorem dJ6_inflate_41 : decode cJ6_inflate 41 = .ok (.return_, 1) := dk_177 (dk_at dksJ6_inflate_1 17 rfl rfl)
def dkwJ6_putCharSB_0 : List UInt8 := [27, 42, 184, 0, 67, 42, 27, 28, 184, 0, 111, 177]
abbrev dktJ6_putCharSB_0 : List UInt8 := dkwJ6_putCharSB_0 ++ []
theorem dksJ6_putCharSB_0 : cJ6_putCharSB.data.toList.drop 0 = dktJ6_putCharSB_0 := by decide +kernel
theorem dJ6_putCharSB_0 : decode cJ6_putCharSB 0 = .ok (.iload_n 1, 1) := dk_27 (dk_at dksJ6_putCharSB_0 0 rfl rfl)
theorem dJ6_putCharSB_1 : decode cJ6_putCharSB 1 = .ok (.aload_n 0, 1) := dk_42 (dk_at dksJ6_putCharSB_0 1 rfl rfl)
theorem dJ6_putCharSB_2 : decode cJ6_putCharSB 2 = .ok (.invokestatic 67, 3) := dk_184 0 67 (dk_at dksJ6_putCharSB_0 2 rfl rfl)
theorem dJ6_putCharSB_5 : decode cJ6_putCharSB 5 = .ok (.aload_n 0, 1) := dk_42 (dk_at dksJ6_putCharSB_0 5 rfl rfl)
theorem dJ6_putCharSB_6 : decode cJ6_putCharSB 6 = .ok (.iload_n 1, 1) := dk_27 (dk_at dksJ6_putCharSB_0 6 rfl rfl)
theorem dJ6_putCharSB_7 : decode cJ6_putCharSB 7 = .ok (.iload_n 2, 1) := dk_28 (dk_at dksJ6_putCharSB_0 7 rfl rfl)
theorem dJ6_putCharSB_8 : decode cJ6_putCharSB 8 = .ok (.invokestatic 111, 3) := dk_184 0 111 (dk_at dksJ6_putCharSB_0 8 rfl rfl)
theorem dJ6_putCharSB_11 : decode cJ6_putCharSB 11 = .ok (.return_, 1) := dk_177 (dk_at dksJ6_putCharSB_0 11 rfl rfl)
def dkwX10_init_1 : List UInt8 := [177]
abbrev dktX10_init_1 : List UInt8 := dkwX10_init_1 ++ []
def dkwX10_init_0 : List UInt8 := [42, 43, 181, 0, 3, 42, 183, 0, 9, 42, 2, 181, 0, 15, 42, 28, 181, 0, 19, 42, 45, 181, 0, 22]
abbrev dktX10_init_0 : List UInt8 := dkwX10_init_0 ++ dktX10_init_1
theorem dksX10_init_0 : cX10_init.data.toList.drop 0 = dktX10_init_0 := by decide +kernel
theorem dksX10_init_1 : cX10_init.data.toList.drop 24 = dktX10_init_1 := dk_seg dksX10_init_0 24 rfl rfl
theorem dX10_init_0 : decode cX10_init 0 = .ok (.aload_n 0, 1) := dk_42 (dk_at dksX10_init_0 0 rfl rfl)
theorem dX10_init_1 : decode cX10_init 1 = .ok (.aload_n 1, 1) := dk_43 (dk_at dksX10_init_0 1 rfl rfl)
theorem dX10_init_2 : decode cX10_init 2 = .ok (.putfield 3, 3) := dk_181 0 3 (dk_at dksX10_init_0 2 rfl rfl)
theorem dX10_init_5 : decode cX10_init 5 = .ok (.aload_n 0, 1) := dk_42 (dk_at dksX10_init_0 5 rfl rfl)
theorem dX10_init_6 : decode cX10_init 6 = .ok (.invokespecial 9, 3) := dk_183 0 9 (dk_at dksX10_init_0 6 rfl rfl)
theorem dX10_init_9 : decode cX10_init 9 = .ok (.aload_n 0, 1) := dk_42 (dk_at dksX10_init_0 9 rfl rfl)
theorem dX10_init_10 : decode cX10_init 10 = .ok (.iconst (-1), 1) := dk_2 (dk_at dksX10_init_0 10 rfl rfl)
theorem dX10_init_11 : decode cX10_init 11 = .ok (.putfield 15, 3) := dk_181 0 15 (dk_at dksX10_init_0 11 rfl rfl)
theorem dX10_init_14 : decode cX10_init 14 = .ok (.aload_n 0, 1) := dk_42 (dk_at dksX10_init_0 14 rfl rfl)
theorem dX10_init_15 : decode cX10_init 15 = .ok (.iload_n 2, 1) := dk_28 (dk_at dksX10_init_0 15 rfl rfl)
theorem dX10_init_16 : decode cX10_init 16 = .ok (.putfield 19, 3) := dk_181 0 19 (dk_at dksX10_init_0 16 rfl rfl)
theorem dX10_init_19 : decode cX10_init 19 = .ok (.aload_n 0, 1) := dk_42 (dk_at dksX10_init_0 19 rfl rfl)
theorem dX10_init_20 : decode cX10_init 20 = .ok (.aload_n 3, 1) := dk_45 (dk_at dksX10_init_0 20 rfl rfl)
theorem dX10_init_21 : decode cX10_init 21 = .ok (.putfield 22, 3) := dk_181 0 22 (dk_at dksX10_init_0 21 rfl rfl)
theorem dX10_init_24 : decode cX10_init 24 = .ok (.return_, 1) := dk_177 (dk_at dksX10_init_1 0 rfl rfl)
def dkwX10_town_2 : List UInt8 := [182, 1, 35, 132, 1, 1, 167, 255, 218, 42, 180, 0, 22, 176]
abbrev dktX10_town_2 : List UInt8 := dkwX10_town_2 ++ []
def dkwX10_town_1 : List UInt8 := [182, 0, 123, 162, 0, 30, 42, 180, 0, 22, 180, 0, 186, 27, 182, 1, 31, 192, 0, 191, 42, 180, 0, 22]
abbrev dktX10_town_1 : List UInt8 := dkwX10_town_1 ++ dktX10_town_2
def dkwX10_town_0 : List UInt8 := [42, 182, 1, 25, 153, 0, 10, 42, 182, 1, 28, 167, 255, 245, 3, 60, 27, 42, 180, 0, 22, 180, 0, 186]
abbrev dktX10_town_0 : List UInt8 := dkwX10_town_0 ++ dktX10_town_1
theorem dksX10_town_0 : cX10_town.data.toList.drop 0 = dktX10_town_0 := by decide +kernel
theorem dksX10_town_1 : cX10_town.data.toList.drop 24 = dktX10_town_1 := dk_seg dksX10_town_0 24 rfl rfl
theorem dksX10_town_2 : cX10_town.data.toList.drop 48 = dktX10_town_2 := dk_seg dksX10_town_1 24 rfl rfl
theorem dX10_town_0 : decode cX10_town 0 = .ok (.aload_n 0, 1) := dk_42 (dk_at dksX10_town_0 0 rfl rfl)
theorem dX10_town_1 : decode cX10_town 1 = .ok (.invokevirtual 281, 3) := dk_182 1 25 (dk_at dksX10_town_0 1 rfl rfl)
theorem dX10_town_4 : decode cX10_town 4 = .ok (.ifCond .eq 10, 3) := dk_153 0 10 (dk_at dksX10_town_0 4 rfl rfl)
theorem dX10_town_7 : decode cX10_town 7 = .ok (.aload_n 0, 1) := dk_42 (dk_at dksX10_town_0 7 rfl rfl)
theorem dX10_town_8 : decode cX10_town 8 = .ok (.invokevirtual 284, 3) := dk_182 1 28 (dk_at dksX10_town_0 8 rfl rfl)
theorem dX10_town_11 : decode cX10_town 11 = .ok (.goto (-11), 3) := dk_167 255 245 (dk_at dksX10_town_0 11 rfl rfl)
theorem dX10_town_14 : decode cX10_town 14 = .ok (.iconst 0, 1) := dk_3 (dk_at dksX10_town_0 14 rfl rfl)
theorem dX10_town_15 : decode cX10_town 15 = .ok (.istore_n 1, 1) := dk_60 (dk_at dksX10_town_0 15 rfl rfl)
theorem dX10_town_16 : decode cX10_town 16 = .ok (.iload_n 1, 1) := dk_27 (dk_at dksX10_town_0 16 rfl rfl)
theorem dX10_town_17 : decode cX10_town 17 = .ok (.aload_n 0, 1) := dk_42 (dk_at dksX10_town_0 17 rfl rfl)
theorem dX10_town_18 : decode cX10_town 18 = .ok (.getfield 22, 3) := dk_180 0 22 (dk_at dksX10_town_0 18 rfl rfl)
theorem dX10_town_21 : decode cX10_town 21 = .ok (.getfield 186, 3) := dk_180 0 186 (dk_at dksX10_town_0 21 rfl rfl)
theorem dX10_town_24 : decode cX10_town 24 = .ok (.invokevirtual 123, 3) := dk_182 0 123 (dk_at dksX10_town_1 0 rfl rfl)
theorem dX10_town_27 : decode cX10_town 27 = .ok (.if_icmp .ge 30, 3) := dk_162 0 30 (dk_at dksX10_town_1 3 rfl rfl)
theorem dX10_town_30 : decode cX10_town 30 = .ok (.aload_n 0, 1) := dk_42 (dk_at dksX10_town_1 6 rfl rfl)
theorem dX10_town_31 : decode cX10_town 31 = .ok (.getfield 22, 3) := dk_180 0 22 (dk_at dksX10_town_1 7 rfl rfl)
theorem dX10_town_34 : decode cX10_town 34 = .ok (.getfield 186, 3) := dk_180 0 186 (dk_at dksX10_town_1 10 rfl rfl)
theorem dX10_town_37 : decode cX10_town 37 = .ok (.iload_n 1, 1) := dk_27 (dk_at dksX10_town_1 13 rfl rfl)
theorem dX10_town_38 : decode cX10_town 38 = .ok (.invokevirtual 287, 3) := dk_182 1 31 (dk_at dksX10_town_1 14 rfl rfl)
theorem dX10_town_41 : decode cX10_town 41 = .ok (.checkcast 191, 3) := dk_192 0 191 (dk_at dksX10_town_1 17 rfl rfl)
theorem dX10_town_44 : decode cX10_town 44 = .ok (.aload_n 0, 1) := dk_42 (dk_at dksX10_town_1 20 rfl rfl)
theorem dX10_town_45 : decode cX10_town 45 = .ok (.getfield 22, 3) := dk_180 0 22 (dk_at dksX10_town_1 21 rfl rfl)
theorem dX10_town_48 : decode cX10_town 48 = .ok (.invokevirtual 291, 3) := dk_182 1 35 (dk_at dksX10_town_2 0 rfl rfl)
theorem dX10_town_51 : decode cX10_town 51 = .ok (.iinc 1 1, 3) := dk_132 1 1 (dk_at dksX10_town_2 3 rfl rfl)
theorem dX10_town_54 : decode cX10_town 54 = .ok (.goto (-38), 3) := dk_167 255 218 (dk_at dksX10_town_2 6 rfl rfl)
theorem dX10_town_57 : decode cX10_town 57 = .ok (.aload_n 0, 1) := dk_42 (dk_at dksX10_town_2 9 rfl rfl)
theorem dX10_town_58 : decode cX10_town 58 = .ok (.getfield 22, 3) := dk_180 0 22 (dk_at dksX10_town_2 10 rfl rfl)
theorem dX10_town_61 : decode cX10_town 61 = .ok (.areturn, 1) := dk_176 (dk_at dksX10_town_2 13 rfl rfl)
def dkwX10_isMore_3 : List UInt8 := [167, 0, 4, 3, 172]
abbrev dktX10_isMore_3 : List UInt8 := dkwX10_isMore_3 ++ []
def dkwX10_isMore_2 : List UInt8 := [180, 0, 33, 4, 96, 181, 0, 33, 167, 255, 201, 42, 180, 0, 33, 42, 180, 0, 19, 162, 0, 7, 4]
abbrev dktX10_isMore_2 : List UInt8 := dkwX10_isMore_2 ++ dktX10_isMore_3
def dkwX10_isMore_1 : List UInt8 := [16, 32, 159, 0, 20, 42, 180, 0, 3, 180, 0, 36, 42, 180, 0, 33, 52, 16, 10, 160, 0, 16, 42, 89]
abbrev dktX10_isMore_1 : List UInt8 := dkwX10_isMore_1 ++ dktX10_isMore_2
def dkwX10_isMore_0 : List UInt8 := [42, 180, 0, 33, 42, 180, 0, 19, 162, 0, 50, 42, 180, 0, 3, 180, 0, 36, 42, 180, 0, 33, 52]
abbrev dktX10_isMore_0 : List UInt8 := dkwX10_isMore_0 ++ dktX10_isMore_1
theorem dksX10_isMore_0 : cX10_isMore.data.toList.drop 0 = dktX10_isMore_0 := by decide +kernel
theorem dksX10_isMore_1 : cX10_isMore.data.toList.drop 23 = dktX10_isMore_1 := dk_seg dksX10_isMore_0 23 rfl rfl
theorem dksX10_isMore_2 : cX10_isMore.data.toList.drop 47 = dktX10_isMore_2 := dk_seg dksX10_isMore_1 24 rfl rfl
theorem dksX10_isMore_3 : cX10_isMore.data.toList.drop 70 = dktX10_isMore_3 := dk_seg dksX10_isMore_2 23 rfl rfl
theorem dX10_isMore_0 : decode cX10_isMore 0 = .ok (.aload_n 0, 1) := dk_42 (dk_at dksX10_isMore_0 0 rfl rfl)
theorem dX10_isMore_1 : decode cX10_isMore 1 = .ok (.getfield 33, 3) := dk_180 0 33 (dk_at dksX10_isMore_0 1 rfl rfl)
theorem dX10_isMore_4 : decode cX10_isMore 4 = .ok (.aload_n 0, 1) := dk_42 (dk_at dksX10_isMore_0 4 rfl rfl)
theorem dX10_isMore_5 : decode cX10_isMore 5 = .ok (.getfield 19, 3) := dk_180 0 19 (dk_at dksX10_isMore_0 5 rfl rfl)
theorem dX10_isMore_8 : decode cX10_isMore 8 = .ok (.if_icmp .ge 50, 3) := dk_162 0 50 (dk_at dksX10_isMore_0 8 rfl rfl)
theorem dX10_isMore_11 : decode cX10_isMore 11 = .ok (.aload_n 0, 1) := dk_42 (dk_at dksX10_isMore_0 11 rfl rfl)
theorem dX10_isMore_12 : decode cX10_isMore 12 = .ok (.getfield 3, 3) := dk_180 0 3 (dk_at dksX10_isMore_0 12 rfl rfl)
theorem dX10_isMore_15 : decode cX10_isMore 15 = .ok (.getfield 36, 3) := dk_180 0 36 (dk_at dksX10_isMore_0 15 rfl rfl)
theorem dX10_isMore_18 : decode cX10_isMore 18 = .ok (.aload_n 0, 1) := dk_42 (dk_at dksX10_isMore_0 18 rfl rfl)
theorem dX10_isMore_19 : decode cX10_isMore 19 = .ok (.getfield 33, 3) := dk_180 0 33 (dk_at dksX10_isMore_0 19 rfl rfl)
theorem dX10_isMore_22 : decode cX10_isMore 22 = .ok (.caload, 1) := dk_52 (dk_at dksX10_isMore_0 22 rfl rfl)
theorem dX10_isMore_23 : decode cX10_isMore 23 = .ok (.bipush 32, 2) := dk_16 32 (dk_at dksX10_isMore_1 0 rfl rfl)
theorem dX10_isMore_25 : decode cX10_isMore 25 = .ok (.if_icmp .eq 20, 3) := dk_159 0 20 (dk_at dksX10_isMore_1 2 rfl rfl)
theorem dX10_isMore_28 : decode cX10_isMore 28 = .ok (.aload_n 0, 1) := dk_42 (dk_at dksX10_isMore_1 5 rfl rfl)
theorem dX10_isMore_29 : decode cX10_isMore 29 = .ok (.getfield 3, 3) := dk_180 0 3 (dk_at dksX10_isMore_1 6 rfl rfl)
theorem dX10_isMore_32 : decode cX10_isMore 32 = .ok (.getfield 36, 3) := dk_180 0 36 (dk_at dksX10_isMore_1 9 rfl rfl)
theorem dX10_isMore_35 : decode cX10_isMore 35 = .ok (.aload_n 0, 1) := dk_42 (dk_at dksX10_isMore_1 12 rfl rfl)
theorem dX10_isMore_36 : decode cX10_isMore 36 = .ok (.getfield 33, 3) := dk_180 0 33 (dk_at dksX10_isMore_1 13 rfl rfl)
theorem dX10_isMore_39 : decode cX10_isMore 39 = .ok (.caload, 1) := dk_52 (dk_at dksX10_isMore_1 16 rfl rfl)
theorem dX10_isMore_40 : decode cX10_isMore 40 = .ok (.bipush 10, 2) := dk_16 10 (dk_at dksX10_isMore_1 17 rfl rfl)
theorem dX10_isMore_42 : decode cX10_isMore 42 = .ok (.if_icmp .ne 16, 3) := dk_160 0 16 (dk_at dksX10_isMore_1 19 rfl rfl)
theorem dX10_isMore_45 : decode cX10_isMore 45 = .ok (.aload_n 0, 1) := dk_42 (dk_at dksX10_isMore_1 22 rfl rfl)
theorem dX10_isMore_46 : decode cX10_isMore 46 = .ok (.dup, 1) := dk_89 (dk_at dksX10_isMore_1 23 rfl rfl)
theorem dX10_isMore_47 : decode cX10_isMore 47 = .ok (.getfield 33, 3) := dk_180 0 33 (dk_at dksX10_isMore_2 0 rfl rfl)
theorem dX10_isMore_50 : decode cX10_isMore 50 = .ok (.iconst 1, 1) := dk_4 (dk_at dksX10_isMore_2 3 rfl rfl)
theorem dX10_isMore_51 : decode cX10_isMore 51 = .ok (.iadd, 1) := dk_96 (dk_at dksX10_isMore_2 4 rfl rfl)
theorem dX10_isMore_52 : decode cX10_isMore 52 = .ok (.putfield 33, 3) := dk_181 0 33 (dk_at dksX10_isMore_2 5 rfl rfl)
theorem dX10_isMore_55 : decode cX10_isMore 55 = .ok (.goto (-55), 3) := dk_167 255 201 (dk_at dksX10_isMore_2 8 rfl rfl)
theorem dX10_isMore_58 : decode cX10_isMore 58 = .ok (.aload_n 0, 1) := dk_42 (dk_at dksX10_isMore_2 11 rfl rfl)
theorem dX10_isMore_59 : decode cX10_isMore 59 = .ok (.getfield 33, 3) := dk_180 0 33 (dk_at dksX10_isMore_2 12 rfl rfl)
theorem dX10_isMore_62 : decode cX10_isMore 62 = .ok (.aload_n 0, 1) := dk_42 (dk_at dksX10_isMore_2 15 rfl rfl)
theorem dX10_isMore_63 : decode cX10_isMore 63 = .ok (.getfield 19, 3) := dk_180 0 19 (dk_at dksX10_isMore_2 16 rfl rfl)
theorem dX10_isMore_66 : decode cX10_isMore 66 = .ok (.if_icmp .ge 7, 3) := dk_162 0 7 (dk_at dksX10_isMore_2 19 rfl rfl)
theorem dX10_isMore_69 : decode cX10_isMore 69 = .ok (.iconst 1, 1) := dk_4 (dk_at dksX10_isMore_2 22 rfl rfl)
theorem dX10_isMore_70 : decode cX10_isMore 70 = .ok (.goto 4, 3) := dk_167 0 4 (dk_at dksX10_isMore_3 0 rfl rfl)
theorem dX10_isMore_73 : decode cX10_isMore 73 = .ok (.iconst 0, 1) := dk_3 (dk_at dksX10_isMore_3 3 rfl rfl)
theorem dX10_isMore_74 : decode cX10_isMore 74 = .ok (.ireturn, 1) := dk_172 (dk_at dksX10_isMore_3 4 rfl rfl)
def dkwX10_statement_8 : List UInt8 := [181, 0, 247, 177]
abbrev dktX10_statement_8 : List UInt8 := dkwX10_statement_8 ++ []
def dkwX10_statement_7 : List UInt8 := [182, 0, 145, 181, 1, 20, 42, 16, 59, 182, 1, 22, 42, 180, 0, 22, 89, 180, 0, 247, 4, 96]
abbrev dktX10_statement_7 : List UInt8 := dkwX10_statement_7 ++ dktX10_statement_8
def dkwX10_statement_6 : List UInt8 := [182, 0, 145, 181, 1, 16, 167, 0, 24, 42, 19, 1, 18, 182, 0, 141, 42, 180, 0, 22, 42, 3, 16, 20]
abbrev dktX10_statement_6 : List UInt8 := dkwX10_statement_6 ++ dktX10_statement_7
def dkwX10_statement_5 : List UInt8 := [181, 1, 12, 167, 0, 50, 42, 19, 1, 14, 182, 0, 97, 153, 0, 19, 42, 180, 0, 22, 42, 4, 7]
abbrev dktX10_statement_5 : List UInt8 := dkwX10_statement_5 ++ dktX10_statement_6
def dkwX10_statement_4 : List UInt8 := [167, 0, 77, 42, 19, 1, 10, 182, 0, 97, 153, 0, 20, 42, 180, 0, 22, 42, 4, 16, 12, 182, 0, 145]
abbrev dktX10_statement_4 : List UInt8 := dkwX10_statement_4 ++ dktX10_statement_5
def dkwX10_statement_3 : List UInt8 := [42, 27, 182, 1, 4, 167, 0, 95, 42, 19, 1, 6, 182, 0, 97, 153, 0, 11, 42, 27, 182, 1, 8]
abbrev dktX10_statement_3 : List UInt8 := dkwX10_statement_3 ++ dktX10_statement_4
def dkwX10_statement_2 : List UInt8 := [182, 0, 97, 153, 0, 11, 42, 27, 182, 1, 0, 167, 0, 113, 42, 19, 1, 2, 182, 0, 97, 153, 0, 11]
abbrev dktX10_statement_2 : List UInt8 := dkwX10_statement_2 ++ dktX10_statement_3
def dkwX10_statement_1 : List UInt8 := [183, 0, 56, 191, 42, 18, 250, 182, 0, 97, 153, 0, 11, 42, 27, 182, 0, 251, 167, 0, 130, 42, 18, 254]
abbrev dktX10_statement_1 : List UInt8 := dkwX10_statement_1 ++ dktX10_statement_2
def dkwX10_statement_0 : List UInt8 := [42, 180, 0, 33, 60, 42, 180, 0, 22, 180, 0, 247, 16, 90, 160, 0, 13, 187, 0, 54, 89, 8, 27]
abbrev dktX10_statement_0 : List UInt8 := dkwX10_statement_0 ++ dktX10_statement_1
theorem dksX10_statement_0 : cX10_statement.data.toList.drop 0 = dktX10_statement_0 := by decide +kernel
theorem dksX10_statement_1 : cX10_statement.data.toList.drop 23 = dktX10_statement_1 := dk_seg dksX10_statement_0 23 rfl rfl
theorem dksX10_statement_2 : cX10_statement.data.toList.drop 47 = dktX10_statement_2 := dk_seg dksX10_statement_1 24 rfl rfl
theorem dksX10_statement_3 : cX10_statement.data.toList.drop 71 = dktX10_statement_3 := dk_seg dksX10_statement_2 24 rfl rfl
theorem dksX10_statement_4 : cX10_statement.data.toList.drop 94 = dktX10_statement_4 := dk_seg dksX10_statement_3 23 rfl rfl
theorem dksX10_statement_5 : cX10_statement.data.toList.drop 118 = dktX10_statement_5 := dk_seg dksX10_statement_4 24 rfl rfl
theorem dksX10_statement_6 : cX10_statement.data.toList.drop 141 = dktX10_statement_6 := dk_seg dksX10_statement_5 23 rfl rfl
theorem dksX10_statement_7 : cX10_statement.data.toList.drop 165 = dktX10_statement_7 := dk_seg dksX10_statement_6 24 rfl rfl
theorem dksX10_statement_8 : cX10_statement.data.toList.drop 187 = dktX10_statement_8 := dk_seg dksX10_statement_7 22 rfl rfl
theorem dX10_statement_0 : decode cX10_statement 0 = .ok (.aload_n 0, 1) := dk_42 (dk_at dksX10_statement_0 0 rfl rfl)
theorem dX10_statement_1 : decode cX10_statement 1 = .ok (.getfield 33, 3) := dk_180 0 33 (dk_at dksX10_statement_0 1 rfl rfl)
theorem dX10_statement_4 : decode cX10_statement 4 = .ok (.istore_n 1, 1) := dk_60 (dk_at dksX10_statement_0 4 rfl rfl)
theorem dX10_statement_5 : decode cX10_statement 5 = .ok (.aload_n 0, 1) := dk_42 (dk_at dksX10_statement_0 5 rfl rfl)
theorem dX10_statement_6 : decode cX10_statement 6 = .ok (.getfield 22, 3) := dk_180 0 22 (dk_at dksX10_statement_0 6 rfl rfl)
theorem dX10_statement_9 : decode cX10_statement 9 = .ok (.getfield 247, 3) := dk_180 0 247 (dk_at dksX10_statement_0 9 rfl rfl)
theorem dX10_statement_12 : decode cX10_statement 12 = .ok (.bipush 90, 2) := dk_16 90 (dk_at dksX10_statement_0 12 rfl rfl)
theorem dX10_statement_14 : decode cX10_statement 14 = .ok (.if_icmp .ne 13, 3) := dk_160 0 13 (dk_at dksX10_statement_0 14 rfl rfl)
theorem dX10_statement_17 : decode cX10_statement 17 = .ok (.new 54, 3) := dk_187 0 54 (dk_at dksX10_statement_0 17 rfl rfl)
theorem dX10_statement_20 : decode cX10_statement 20 = .ok (.dup, 1) := dk_89 (dk_at dksX10_statement_0 20 rfl rfl)
theorem dX10_statement_21 : decode cX10_statement 21 = .ok (.iconst 5, 1) := dk_8 (dk_at dksX10_statement_0 21 rfl rfl)
theorem dX10_statement_22 : decode cX10_statement 22 = .ok (.iload_n 1, 1) := dk_27 (dk_at dksX10_statement_0 22 rfl rfl)
theorem dX10_statement_23 : decode cX10_statement 23 = .ok (.invokespecial 56, 3) := dk_183 0 56 (dk_at dksX10_statement_1 0 rfl rfl)
theorem dX10_statement_26 : decode cX10_statement 26 = .ok (.athrow, 1) := dk_191 (dk_at dksX10_statement_1 3 rfl rfl)
theorem dX10_statement_27 : decode cX10_statement 27 = .ok (.aload_n 0, 1) := dk_42 (dk_at dksX10_statement_1 4 rfl rfl)
theorem dX10_statement_28 : decode cX10_statement 28 = .ok (.ldc 250, 2) := dk_18 250 (dk_at dksX10_statement_1 5 rfl rfl)
theorem dX10_statement_30 : decode cX10_statement 30 = .ok (.invokevirtual 97, 3) := dk_182 0 97 (dk_at dksX10_statement_1 7 rfl rfl)
theorem dX10_statement_33 : decode cX10_statement 33 = .ok (.ifCond .eq 11, 3) := dk_153 0 11 (dk_at dksX10_statement_1 10 rfl rfl)
theorem dX10_statement_36 : decode cX10_statement 36 = .ok (.aload_n 0, 1) := dk_42 (dk_at dksX10_statement_1 13 rfl rfl)
theorem dX10_statement_37 : decode cX10_statement 37 = .ok (.iload_n 1, 1) := dk_27 (dk_at dksX10_statement_1 14 rfl rfl)
theorem dX10_statement_38 : decode cX10_statement 38 = .ok (.invokevirtual 251, 3) := dk_182 0 251 (dk_at dksX10_statement_1 15 rfl rfl)
theorem dX10_statement_41 : decode cX10_statement 41 = .ok (.goto 130, 3) := dk_167 0 130 (dk_at dksX10_statement_1 18 rfl rfl)
theorem dX10_statement_44 : decode cX10_statement 44 = .ok (.aload_n 0, 1) := dk_42 (dk_at dksX10_statement_1 21 rfl rfl)
theorem dX10_statement_45 : decode cX10_statement 45 = .ok (.ldc 254, 2) := dk_18 254 (dk_at dksX10_statement_1 22 rfl rfl)
theorem dX10_statement_47 : decode cX10_statement 47 = .ok (.invokevirtual 97, 3) := dk_182 0 97 (dk_at dksX10_statement_2 0 rfl rfl)
theorem dX10_statement_50 : decode cX10_statement 50 = .ok (.ifCond .eq 11, 3) := dk_153 0 11 (dk_at dksX10_statement_2 3 rfl rfl)
theorem dX10_statement_53 : decode cX10_statement 53 = .ok (.aload_n 0, 1) := dk_42 (dk_at dksX10_statement_2 6 rfl rfl)
theorem dX10_statement_54 : decode cX10_statement 54 = .ok (.iload_n 1, 1) := dk_27 (dk_at dksX10_statement_2 7 rfl rfl)
theorem dX10_statement_55 : decode cX10_statement 55 = .ok (.invokevirtual 256, 3) := dk_182 1 0 (dk_at dksX10_statement_2 8 rfl rfl)
theorem dX10_statement_58 : decode cX10_statement 58 = .ok (.goto 113, 3) := dk_167 0 113 (dk_at dksX10_statement_2 11 rfl rfl)
theorem dX10_statement_61 : decode cX10_statement 61 = .ok (.aload_n 0, 1) := dk_42 (dk_at dksX10_statement_2 14 rfl rfl)
theorem dX10_statement_62 : decode cX10_statement 62 = .ok (.ldc_w 258, 3) := dk_19 1 2 (dk_at dksX10_statement_2 15 rfl rfl)
theorem dX10_statement_65 : decode cX10_statement 65 = .ok (.invokevirtual 97, 3) := dk_182 0 97 (dk_at dksX10_statement_2 18 rfl rfl)
theorem dX10_statement_68 : decode cX10_statement 68 = .ok (.ifCond .eq 11, 3) := dk_153 0 11 (dk_at dksX10_statement_2 21 rfl rfl)
theorem dX10_statement_71 : decode cX10_statement 71 = .ok (.aload_n 0, 1) := dk_42 (dk_at dksX10_statement_3 0 rfl rfl)
theorem dX10_statement_72 : decode cX10_statement 72 = .ok (.iload_n 1, 1) := dk_27 (dk_at dksX10_statement_3 1 rfl rfl)
theorem dX10_statement_73 : decode cX10_statement 73 = .ok (.invokevirtual 260, 3) := dk_182 1 4 (dk_at dksX10_statement_3 2 rfl rfl)
theorem dX10_statement_76 : decode cX10_statement 76 = .ok (.goto 95, 3) := dk_167 0 95 (dk_at dksX10_statement_3 5 rfl rfl)
theorem dX10_statement_79 : decode cX10_statement 79 = .ok (.aload_n 0, 1) := dk_42 (dk_at dksX10_statement_3 8 rfl rfl)
theorem dX10_statement_80 : decode cX10_statement 80 = .ok (.ldc_w 262, 3) := dk_19 1 6 (dk_at dksX10_statement_3 9 rfl rfl)
theorem dX10_statement_83 : decode cX10_statement 83 = .ok (.invokevirtual 97, 3) := dk_182 0 97 (dk_at dksX10_statement_3 12 rfl rfl)
theorem dX10_statement_86 : decode cX10_statement 86 = .ok (.ifCond .eq 11, 3) := dk_153 0 11 (dk_at dksX10_statement_3 15 rfl rfl)
theorem dX10_statement_89 : decode cX10_statement 89 = .ok (.aload_n 0, 1) := dk_42 (dk_at dksX10_statement_3 18 rfl rfl)
theorem dX10_statement_90 : decode cX10_statement 90 = .ok (.iload_n 1, 1) := dk_27 (dk_at dksX10_statement_3 19 rfl rfl)
theorem dX10_statement_91 : decode cX10_statement 91 = .ok (.invokevirtual 264, 3) := dk_182 1 8 (dk_at dksX10_statement_3 20 rfl rfl)
theorem dX10_statement_94 : decode cX10_statement 94 = .ok (.goto 77, 3) := dk_167 0 77 (dk_at dksX10_statement_4 0 rfl rfl)
theorem dX10_statement_97 : decode cX10_statement 97 = .ok (.aload_n 0, 1) := dk_42 (dk_at dksX10_statement_4 3 rfl rfl)
theorem dX10_statement_98 : decode cX10_statement 98 = .ok (.ldc_w 266, 3) := dk_19 1 10 (dk_at dksX10_statement_4 4 rfl rfl)
theorem dX10_statement_101 : decode cX10_statement 101 = .ok (.invokevirtual 97, 3) := dk_182 0 97 (dk_at dksX10_statement_4 7 rfl rfl)
theorem dX10_statement_104 : decode cX10_statement 104 = .ok (.ifCond .eq 20, 3) := dk_153 0 20 (dk_at dksX10_statement_4 10 rfl rfl)
theorem dX10_statement_107 : decode cX10_statement 107 = .ok (.aload_n 0, 1) := dk_42 (dk_at dksX10_statement_4 13 rfl rfl)
theorem dX10_statement_108 : decode cX10_statement 108 = .ok (.getfield 22, 3) := dk_180 0 22 (dk_at dksX10_statement_4 14 rfl rfl)
theorem dX10_statement_111 : decode cX10_statement 111 = .ok (.aload_n 0, 1) := dk_42 (dk_at dksX10_statement_4 17 rfl rfl)
theorem dX10_statement_112 : decode cX10_statement 112 = .ok (.iconst 1, 1) := dk_4 (dk_at dksX10_statement_4 18 rfl rfl)
theorem dX10_statement_113 : decode cX10_statement 113 = .ok (.bipush 12, 2) := dk_16 12 (dk_at dksX10_statement_4 19 rfl rfl)
theorem dX10_statement_115 : decode cX10_statement 115 = .ok (.invokevirtual 145, 3) := dk_182 0 145 (dk_at dksX10_statement_4 21 rfl rfl)
theorem dX10_statement_118 : decode cX10_statement 118 = .ok (.putfield 268, 3) := dk_181 1 12 (dk_at dksX10_statement_5 0 rfl rfl)
theorem dX10_statement_121 : decode cX10_statement 121 = .ok (.goto 50, 3) := dk_167 0 50 (dk_at dksX10_statement_5 3 rfl rfl)
theorem dX10_statement_124 : decode cX10_statement 124 = .ok (.aload_n 0, 1) := dk_42 (dk_at dksX10_statement_5 6 rfl rfl)
theorem dX10_statement_125 : decode cX10_statement 125 = .ok (.ldc_w 270, 3) := dk_19 1 14 (dk_at dksX10_statement_5 7 rfl rfl)
theorem dX10_statement_128 : decode cX10_statement 128 = .ok (.invokevirtual 97, 3) := dk_182 0 97 (dk_at dksX10_statement_5 10 rfl rfl)
theorem dX10_statement_131 : decode cX10_statement 131 = .ok (.ifCond .eq 19, 3) := dk_153 0 19 (dk_at dksX10_statement_5 13 rfl rfl)
theorem dX10_statement_134 : decode cX10_statement 134 = .ok (.aload_n 0, 1) := dk_42 (dk_at dksX10_statement_5 16 rfl rfl)
theorem dX10_statement_135 : decode cX10_statement 135 = .ok (.getfield 22, 3) := dk_180 0 22 (dk_at dksX10_statement_5 17 rfl rfl)
theorem dX10_statement_138 : decode cX10_statement 138 = .ok (.aload_n 0, 1) := dk_42 (dk_at dksX10_statement_5 20 rfl rfl)
theorem dX10_statement_139 : decode cX10_statement 139 = .ok (.iconst 1, 1) := dk_4 (dk_at dksX10_statement_5 21 rfl rfl)
theorem dX10_statement_140 : decode cX10_statement 140 = .ok (.iconst 4, 1) := dk_7 (dk_at dksX10_statement_5 22 rfl rfl)
theorem dX10_statement_141 : decode cX10_statement 141 = .ok (.invokevirtual 145, 3) := dk_182 0 145 (dk_at dksX10_statement_6 0 rfl rfl)
theorem dX10_statement_144 : decode cX10_statement 144 = .ok (.putfield 272, 3) := dk_181 1 16 (dk_at dksX10_statement_6 3 rfl rfl)
theorem dX10_statement_147 : decode cX10_statement 147 = .ok (.goto 24, 3) := dk_167 0 24 (dk_at dksX10_statement_6 6 rfl rfl)
theorem dX10_statement_150 : decode cX10_statement 150 = .ok (.aload_n 0, 1) := dk_42 (dk_at dksX10_statement_6 9 rfl rfl)
theorem dX10_statement_151 : decode cX10_statement 151 = .ok (.ldc_w 274, 3) := dk_19 1 18 (dk_at dksX10_statement_6 10 rfl rfl)
theorem dX10_statement_154 : decode cX10_statement 154 = .ok (.invokevirtual 141, 3) := dk_182 0 141 (dk_at dksX10_statement_6 13 rfl rfl)
theorem dX10_statement_157 : decode cX10_statement 157 = .ok (.aload_n 0, 1) := dk_42 (dk_at dksX10_statement_6 16 rfl rfl)
theorem dX10_statement_158 : decode cX10_statement 158 = .ok (.getfield 22, 3) := dk_180 0 22 (dk_at dksX10_statement_6 17 rfl rfl)
theorem dX10_statement_161 : decode cX10_statement 161 = .ok (.aload_n 0, 1) := dk_42 (dk_at dksX10_statement_6 20 rfl rfl)
theorem dX10_statement_162 : decode cX10_statement 162 = .ok (.iconst 0, 1) := dk_3 (dk_at dksX10_statement_6 21 rfl rfl)
theorem dX10_statement_163 : decode cX10_statement 163 = .ok (.bipush 20, 2) := dk_16 20 (dk_at dksX10_statement_6 22 rfl rfl)
theorem dX10_statement_165 : decode cX10_statement 165 = .ok (.invokevirtual 145, 3) := dk_182 0 145 (dk_at dksX10_statement_7 0 rfl rfl)
theorem dX10_statement_168 : decode cX10_statement 168 = .ok (.putfield 276, 3) := dk_181 1 20 (dk_at dksX10_statement_7 3 rfl rfl)
theorem dX10_statement_171 : decode cX10_statement 171 = .ok (.aload_n 0, 1) := dk_42 (dk_at dksX10_statement_7 6 rfl rfl)
theorem dX10_statement_172 : decode cX10_statement 172 = .ok (.bipush 59, 2) := dk_16 59 (dk_at dksX10_statement_7 7 rfl rfl)
theorem dX10_statement_174 : decode cX10_statement 174 = .ok (.invokevirtual 278, 3) := dk_182 1 22 (dk_at dksX10_statement_7 9 rfl rfl)
theorem dX10_statement_177 : decode cX10_statement 177 = .ok (.aload_n 0, 1) := dk_42 (dk_at dksX10_statement_7 12 rfl rfl)
theorem dX10_statement_178 : decode cX10_statement 178 = .ok (.getfield 22, 3) := dk_180 0 22 (dk_at dksX10_statement_7 13 rfl rfl)
theorem dX10_statement_181 : decode cX10_statement 181 = .ok (.dup, 1) := dk_89 (dk_at dksX10_statement_7 16 rfl rfl)
theorem dX10_statement_182 : decode cX10_statement 182 = .ok (.getfield 247, 3) := dk_180 0 247 (dk_at dksX10_statement_7 17 rfl rfl)
theorem dX10_statement_185 : decode cX10_statement 185 = .ok (.iconst 1, 1) := dk_4 (dk_at dksX10_statement_7 20 rfl rfl)
theorem dX10_statement_186 : decode cX10_statement 186 = .ok (.iadd, 1) := dk_96 (dk_at dksX10_statement_7 21 rfl rfl)
theorem dX10_statement_187 : decode cX10_statement 187 = .ok (.putfield 247, 3) := dk_181 0 247 (dk_at dksX10_statement_8 0 rfl rfl)
theorem dX10_statement_190 : decode cX10_statement 190 = .ok (.return_, 1) := dk_177 (dk_at dksX10_statement_8 3 rfl rfl)
def dkwX10_takes_0 : List UInt8 := [42, 43, 182, 0, 86, 154, 0, 5, 3, 172, 42, 3, 181, 0, 26, 4, 172]
abbrev dktX10_takes_0 : List UInt8 := dkwX10_takes_0 ++ []
theorem dksX10_takes_0 : cX10_takes.data.toList.drop 0 = dktX10_takes_0 := by decide +kernel
theorem dX10_takes_0 : decode cX10_takes 0 = .ok (.aload_n 0, 1) := dk_42 (dk_at dksX10_takes_0 0 rfl rfl)
theorem dX10_takes_1 : decode cX10_takes 1 = .ok (.aload_n 1, 1) := dk_43 (dk_at dksX10_takes_0 1 rfl rfl)
theorem dX10_takes_2 : decode cX10_takes 2 = .ok (.invokevirtual 86, 3) := dk_182 0 86 (dk_at dksX10_takes_0 2 rfl rfl)
theorem dX10_takes_5 : decode cX10_takes 5 = .ok (.ifCond .ne 5, 3) := dk_154 0 5 (dk_at dksX10_takes_0 5 rfl rfl)
theorem dX10_takes_8 : decode cX10_takes 8 = .ok (.iconst 0, 1) := dk_3 (dk_at dksX10_takes_0 8 rfl rfl)
theorem dX10_takes_9 : decode cX10_takes 9 = .ok (.ireturn, 1) := dk_172 (dk_at dksX10_takes_0 9 rfl rfl)
theorem dX10_takes_10 : decode cX10_takes 10 = .ok (.aload_n 0, 1) := dk_42 (dk_at dksX10_takes_0 10 rfl rfl)
theorem dX10_takes_11 : decode cX10_takes 11 = .ok (.iconst 0, 1) := dk_3 (dk_at dksX10_takes_0 11 rfl rfl)
theorem dX10_takes_12 : decode cX10_takes 12 = .ok (.putfield 26, 3) := dk_181 0 26 (dk_at dksX10_takes_0 12 rfl rfl)
theorem dX10_takes_15 : decode cX10_takes 15 = .ok (.iconst 1, 1) := dk_4 (dk_at dksX10_takes_0 15 rfl rfl)
theorem dX10_takes_16 : decode cX10_takes 16 = .ok (.ireturn, 1) := dk_172 (dk_at dksX10_takes_0 16 rfl rfl)
def dkwX10_isWord_1 : List UInt8 := [172]
abbrev dktX10_isWord_1 : List UInt8 := dkwX10_isWord_1 ++ []
def dkwX10_isWord_0 : List UInt8 := [42, 182, 0, 75, 4, 160, 0, 18, 42, 180, 0, 64, 43, 182, 0, 79, 153, 0, 7, 4, 167, 0, 4, 3]
abbrev dktX10_isWord_0 : List UInt8 := dkwX10_isWord_0 ++ dktX10_isWord_1
theorem dksX10_isWord_0 : cX10_isWord.data.toList.drop 0 = dktX10_isWord_0 := by decide +kernel
theorem dksX10_isWord_1 : cX10_isWord.data.toList.drop 24 = dktX10_isWord_1 := dk_seg dksX10_isWord_0 24 rfl rfl
theorem dX10_isWord_0 : decode cX10_isWord 0 = .ok (.aload_n 0, 1) := dk_42 (dk_at dksX10_isWord_0 0 rfl rfl)
theorem dX10_isWord_1 : decode cX10_isWord 1 = .ok (.invokevirtual 75, 3) := dk_182 0 75 (dk_at dksX10_isWord_0 1 rfl rfl)
theorem dX10_isWord_4 : decode cX10_isWord 4 = .ok (.iconst 1, 1) := dk_4 (dk_at dksX10_isWord_0 4 rfl rfl)
theorem dX10_isWord_5 : decode cX10_isWord 5 = .ok (.if_icmp .ne 18, 3) := dk_160 0 18 (dk_at dksX10_isWord_0 5 rfl rfl)
theorem dX10_isWord_8 : decode cX10_isWord 8 = .ok (.aload_n 0, 1) := dk_42 (dk_at dksX10_isWord_0 8 rfl rfl)
theorem dX10_isWord_9 : decode cX10_isWord 9 = .ok (.getfield 64, 3) := dk_180 0 64 (dk_at dksX10_isWord_0 9 rfl rfl)
theorem dX10_isWord_12 : decode cX10_isWord 12 = .ok (.aload_n 1, 1) := dk_43 (dk_at dksX10_isWord_0 12 rfl rfl)
theorem dX10_isWord_13 : decode cX10_isWord 13 = .ok (.invokevirtual 79, 3) := dk_182 0 79 (dk_at dksX10_isWord_0 13 rfl rfl)
theorem dX10_isWord_16 : decode cX10_isWord 16 = .ok (.ifCond .eq 7, 3) := dk_153 0 7 (dk_at dksX10_isWord_0 16 rfl rfl)
theorem dX10_isWord_19 : decode cX10_isWord 19 = .ok (.iconst 1, 1) := dk_4 (dk_at dksX10_isWord_0 19 rfl rfl)
theorem dX10_isWord_20 : decode cX10_isWord 20 = .ok (.goto 4, 3) := dk_167 0 4 (dk_at dksX10_isWord_0 20 rfl rfl)
theorem dX10_isWord_23 : decode cX10_isWord 23 = .ok (.iconst 0, 1) := dk_3 (dk_at dksX10_isWord_0 23 rfl rfl)
theorem dX10_isWord_24 : decode cX10_isWord 24 = .ok (.ireturn, 1) := dk_172 (dk_at dksX10_isWord_1 0 rfl rfl)
def dkwX10_see_15 : List UInt8 := [167, 0, 4, 5, 181, 0, 30, 42, 180, 0, 30, 172]
abbrev dktX10_see_15 : List UInt8 := dkwX10_see_15 ++ []
def dkwX10_see_14 : List UInt8 := [181, 0, 64, 28, 154, 0, 14, 42, 42, 180, 0, 64, 184, 0, 68, 181, 0, 72, 42, 28, 153, 0, 7, 4]
abbrev dktX10_see_14 : List UInt8 := dkwX10_see_14 ++ dktX10_see_15
def dkwX10_see_13 : List UInt8 := [42, 180, 0, 3, 180, 0, 36, 42, 180, 0, 40, 42, 180, 0, 33, 42, 180, 0, 40, 100, 183, 0, 61]
abbrev dktX10_see_13 : List UInt8 := dkwX10_see_13 ++ dktX10_see_14
def dkwX10_see_12 : List UInt8 := [180, 0, 33, 4, 96, 181, 0, 33, 167, 255, 164, 42, 42, 180, 0, 33, 181, 0, 15, 42, 187, 0, 59, 89]
abbrev dktX10_see_12 : List UInt8 := dkwX10_see_12 ++ dktX10_see_13
def dkwX10_see_11 : List UInt8 := [180, 0, 40, 100, 29, 160, 0, 16, 187, 0, 54, 89, 4, 42, 180, 0, 33, 183, 0, 56, 191, 42, 89]
abbrev dktX10_see_11 : List UInt8 := dkwX10_see_11 ++ dktX10_see_12
def dkwX10_see_10 : List UInt8 := [180, 0, 3, 180, 0, 36, 42, 180, 0, 33, 52, 182, 0, 47, 153, 0, 42, 42, 180, 0, 33, 42]
abbrev dktX10_see_10 : List UInt8 := dkwX10_see_10 ++ dktX10_see_11
def dkwX10_see_9 : List UInt8 := [180, 0, 3, 180, 0, 36, 42, 180, 0, 33, 52, 182, 0, 43, 153, 0, 64, 167, 0, 22, 42, 42]
abbrev dktX10_see_9 : List UInt8 := dkwX10_see_9 ++ dktX10_see_10
def dkwX10_see_8 : List UInt8 := [16, 6, 167, 0, 4, 7, 62, 42, 180, 0, 33, 42, 180, 0, 19, 162, 0, 87, 28, 153, 0, 25, 42, 42]
abbrev dktX10_see_8 : List UInt8 := dkwX10_see_8 ++ dktX10_see_9
def dkwX10_see_7 : List UInt8 := [180, 0, 15, 160, 0, 16, 187, 0, 54, 89, 4, 42, 180, 0, 33, 183, 0, 56, 191, 28, 153, 0, 8]
abbrev dktX10_see_7 : List UInt8 := dkwX10_see_7 ++ dktX10_see_8
def dkwX10_see_6 : List UInt8 := [180, 0, 33, 4, 96, 181, 0, 33, 42, 6, 181, 0, 30, 42, 180, 0, 30, 172, 42, 180, 0, 33, 42]
abbrev dktX10_see_6 : List UInt8 := dkwX10_see_6 ++ dktX10_see_7
def dkwX10_see_5 : List UInt8 := [182, 0, 43, 61, 28, 154, 0, 36, 42, 27, 182, 0, 47, 154, 0, 28, 42, 27, 181, 0, 50, 42, 89]
abbrev dktX10_see_5 : List UInt8 := dkwX10_see_5 ++ dktX10_see_6
def dkwX10_see_4 : List UInt8 := [160, 0, 8, 42, 180, 0, 30, 172, 42, 180, 0, 3, 180, 0, 36, 42, 180, 0, 33, 52, 60, 42, 27]
abbrev dktX10_see_4 : List UInt8 := dkwX10_see_4 ++ dktX10_see_5
def dkwX10_see_3 : List UInt8 := [180, 0, 33, 181, 0, 40, 42, 4, 181, 0, 26, 42, 3, 181, 0, 30, 42, 180, 0, 33, 42, 180, 0, 19]
abbrev dktX10_see_3 : List UInt8 := dkwX10_see_3 ++ dktX10_see_4
def dkwX10_see_2 : List UInt8 := [180, 0, 33, 52, 16, 10, 160, 0, 16, 42, 89, 180, 0, 33, 4, 96, 181, 0, 33, 167, 255, 201, 42, 42]
abbrev dktX10_see_2 : List UInt8 := dkwX10_see_2 ++ dktX10_see_3
def dkwX10_see_1 : List UInt8 := [180, 0, 3, 180, 0, 36, 42, 180, 0, 33, 52, 16, 32, 159, 0, 20, 42, 180, 0, 3, 180, 0, 36, 42]
abbrev dktX10_see_1 : List UInt8 := dkwX10_see_1 ++ dktX10_see_2
def dkwX10_see_0 : List UInt8 := [42, 180, 0, 26, 153, 0, 8, 42, 180, 0, 30, 172, 42, 180, 0, 33, 42, 180, 0, 19, 162, 0, 50, 42]
abbrev dktX10_see_0 : List UInt8 := dkwX10_see_0 ++ dktX10_see_1
theorem dksX10_see_0 : cX10_see.data.toList.drop 0 = dktX10_see_0 := by decide +kernel
theorem dksX10_see_1 : cX10_see.data.toList.drop 24 = dktX10_see_1 := dk_seg dksX10_see_0 24 rfl rfl
theorem dksX10_see_2 : cX10_see.data.toList.drop 48 = dktX10_see_2 := dk_seg dksX10_see_1 24 rfl rfl
theorem dksX10_see_3 : cX10_see.data.toList.drop 72 = dktX10_see_3 := dk_seg dksX10_see_2 24 rfl rfl
theorem dksX10_see_4 : cX10_see.data.toList.drop 96 = dktX10_see_4 := dk_seg dksX10_see_3 24 rfl rfl
theorem dksX10_see_5 : cX10_see.data.toList.drop 119 = dktX10_see_5 := dk_seg dksX10_see_4 23 rfl rfl
theorem dksX10_see_6 : cX10_see.data.toList.drop 142 = dktX10_see_6 := dk_seg dksX10_see_5 23 rfl rfl
theorem dksX10_see_7 : cX10_see.data.toList.drop 165 = dktX10_see_7 := dk_seg dksX10_see_6 23 rfl rfl
theorem dksX10_see_8 : cX10_see.data.toList.drop 188 = dktX10_see_8 := dk_seg dksX10_see_7 23 rfl rfl
theorem dksX10_see_9 : cX10_see.data.toList.drop 212 = dktX10_see_9 := dk_seg dksX10_see_8 24 rfl rfl
theorem dksX10_see_10 : cX10_see.data.toList.drop 234 = dktX10_see_10 := dk_seg dksX10_see_9 22 rfl rfl
theorem dksX10_see_11 : cX10_see.data.toList.drop 256 = dktX10_see_11 := dk_seg dksX10_see_10 22 rfl rfl
theorem dksX10_see_12 : cX10_see.data.toList.drop 279 = dktX10_see_12 := dk_seg dksX10_see_11 23 rfl rfl
theorem dksX10_see_13 : cX10_see.data.toList.drop 303 = dktX10_see_13 := dk_seg dksX10_see_12 24 rfl rfl
theorem dksX10_see_14 : cX10_see.data.toList.drop 326 = dktX10_see_14 := dk_seg dksX10_see_13 23 rfl rfl
theorem dksX10_see_15 : cX10_see.data.toList.drop 350 = dktX10_see_15 := dk_seg dksX10_see_14 24 rfl rfl
theorem dX10_see_0 : decode cX10_see 0 = .ok (.aload_n 0, 1) := dk_42 (dk_at dksX10_see_0 0 rfl rfl)
theorem dX10_see_1 : decode cX10_see 1 = .ok (.getfield 26, 3) := dk_180 0 26 (dk_at dksX10_see_0 1 rfl rfl)
theorem dX10_see_4 : decode cX10_see 4 = .ok (.ifCond .eq 8, 3) := dk_153 0 8 (dk_at dksX10_see_0 4 rfl rfl)
theorem dX10_see_7 : decode cX10_see 7 = .ok (.aload_n 0, 1) := dk_42 (dk_at dksX10_see_0 7 rfl rfl)
theorem dX10_see_8 : decode cX10_see 8 = .ok (.getfield 30, 3) := dk_180 0 30 (dk_at dksX10_see_0 8 rfl rfl)
theorem dX10_see_11 : decode cX10_see 11 = .ok (.ireturn, 1) := dk_172 (dk_at dksX10_see_0 11 rfl rfl)
theorem dX10_see_12 : decode cX10_see 12 = .ok (.aload_n 0, 1) := dk_42 (dk_at dksX10_see_0 12 rfl rfl)
theorem dX10_see_13 : decode cX10_see 13 = .ok (.getfield 33, 3) := dk_180 0 33 (dk_at dksX10_see_0 13 rfl rfl)
theorem dX10_see_16 : decode cX10_see 16 = .ok (.aload_n 0, 1) := dk_42 (dk_at dksX10_see_0 16 rfl rfl)
theorem dX10_see_17 : decode cX10_see 17 = .ok (.getfield 19, 3) := dk_180 0 19 (dk_at dksX10_see_0 17 rfl rfl)
theorem dX10_see_20 : decode cX10_see 20 = .ok (.if_icmp .ge 50, 3) := dk_162 0 50 (dk_at dksX10_see_0 20 rfl rfl)
theorem dX10_see_23 : decode cX10_see 23 = .ok (.aload_n 0, 1) := dk_42 (dk_at dksX10_see_0 23 rfl rfl)
theorem dX10_see_24 : decode cX10_see 24 = .ok (.getfield 3, 3) := dk_180 0 3 (dk_at dksX10_see_1 0 rfl rfl)
theorem dX10_see_27 : decode cX10_see 27 = .ok (.getfield 36, 3) := dk_180 0 36 (dk_at dksX10_see_1 3 rfl rfl)
theorem dX10_see_30 : decode cX10_see 30 = .ok (.aload_n 0, 1) := dk_42 (dk_at dksX10_see_1 6 rfl rfl)
theorem dX10_see_31 : decode cX10_see 31 = .ok (.getfield 33, 3) := dk_180 0 33 (dk_at dksX10_see_1 7 rfl rfl)
theorem dX10_see_34 : decode cX10_see 34 = .ok (.caload, 1) := dk_52 (dk_at dksX10_see_1 10 rfl rfl)
theorem dX10_see_35 : decode cX10_see 35 = .ok (.bipush 32, 2) := dk_16 32 (dk_at dksX10_see_1 11 rfl rfl)
theorem dX10_see_37 : decode cX10_see 37 = .ok (.if_icmp .eq 20, 3) := dk_159 0 20 (dk_at dksX10_see_1 13 rfl rfl)
theorem dX10_see_40 : decode cX10_see 40 = .ok (.aload_n 0, 1) := dk_42 (dk_at dksX10_see_1 16 rfl rfl)
theorem dX10_see_41 : decode cX10_see 41 = .ok (.getfield 3, 3) := dk_180 0 3 (dk_at dksX10_see_1 17 rfl rfl)
theorem dX10_see_44 : decode cX10_see 44 = .ok (.getfield 36, 3) := dk_180 0 36 (dk_at dksX10_see_1 20 rfl rfl)
theorem dX10_see_47 : decode cX10_see 47 = .ok (.aload_n 0, 1) := dk_42 (dk_at dksX10_see_1 23 rfl rfl)
theorem dX10_see_48 : decode cX10_see 48 = .ok (.getfield 33, 3) := dk_180 0 33 (dk_at dksX10_see_2 0 rfl rfl)
theorem dX10_see_51 : decode cX10_see 51 = .ok (.caload, 1) := dk_52 (dk_at dksX10_see_2 3 rfl rfl)
theorem dX10_see_52 : decode cX10_see 52 = .ok (.bipush 10, 2) := dk_16 10 (dk_at dksX10_see_2 4 rfl rfl)
theorem dX10_see_54 : decode cX10_see 54 = .ok (.if_icmp .ne 16, 3) := dk_160 0 16 (dk_at dksX10_see_2 6 rfl rfl)
theorem dX10_see_57 : decode cX10_see 57 = .ok (.aload_n 0, 1) := dk_42 (dk_at dksX10_see_2 9 rfl rfl)
theorem dX10_see_58 : decode cX10_see 58 = .ok (.dup, 1) := dk_89 (dk_at dksX10_see_2 10 rfl rfl)
theorem dX10_see_59 : decode cX10_see 59 = .ok (.getfield 33, 3) := dk_180 0 33 (dk_at dksX10_see_2 11 rfl rfl)
theorem dX10_see_62 : decode cX10_see 62 = .ok (.iconst 1, 1) := dk_4 (dk_at dksX10_see_2 14 rfl rfl)
theorem dX10_see_63 : decode cX10_see 63 = .ok (.iadd, 1) := dk_96 (dk_at dksX10_see_2 15 rfl rfl)
theorem dX10_see_64 : decode cX10_see 64 = .ok (.putfield 33, 3) := dk_181 0 33 (dk_at dksX10_see_2 16 rfl rfl)
theorem dX10_see_67 : decode cX10_see 67 = .ok (.goto (-55), 3) := dk_167 255 201 (dk_at dksX10_see_2 19 rfl rfl)
theorem dX10_see_70 : decode cX10_see 70 = .ok (.aload_n 0, 1) := dk_42 (dk_at dksX10_see_2 22 rfl rfl)
theorem dX10_see_71 : decode cX10_see 71 = .ok (.aload_n 0, 1) := dk_42 (dk_at dksX10_see_2 23 rfl rfl)
theorem dX10_see_72 : decode cX10_see 72 = .ok (.getfield 33, 3) := dk_180 0 33 (dk_at dksX10_see_3 0 rfl rfl)
theorem dX10_see_75 : decode cX10_see 75 = .ok (.putfield 40, 3) := dk_181 0 40 (dk_at dksX10_see_3 3 rfl rfl)
theorem dX10_see_78 : decode cX10_see 78 = .ok (.aload_n 0, 1) := dk_42 (dk_at dksX10_see_3 6 rfl rfl)
theorem dX10_see_79 : decode cX10_see 79 = .ok (.iconst 1, 1) := dk_4 (dk_at dksX10_see_3 7 rfl rfl)
theorem dX10_see_80 : decode cX10_see 80 = .ok (.putfield 26, 3) := dk_181 0 26 (dk_at dksX10_see_3 8 rfl rfl)
theorem dX10_see_83 : decode cX10_see 83 = .ok (.aload_n 0, 1) := dk_42 (dk_at dksX10_see_3 11 rfl rfl)
theorem dX10_see_84 : decode cX10_see 84 = .ok (.iconst 0, 1) := dk_3 (dk_at dksX10_see_3 12 rfl rfl)
theorem dX10_see_85 : decode cX10_see 85 = .ok (.putfield 30, 3) := dk_181 0 30 (dk_at dksX10_see_3 13 rfl rfl)
theorem dX10_see_88 : decode cX10_see 88 = .ok (.aload_n 0, 1) := dk_42 (dk_at dksX10_see_3 16 rfl rfl)
theorem dX10_see_89 : decode cX10_see 89 = .ok (.getfield 33, 3) := dk_180 0 33 (dk_at dksX10_see_3 17 rfl rfl)
theorem dX10_see_92 : decode cX10_see 92 = .ok (.aload_n 0, 1) := dk_42 (dk_at dksX10_see_3 20 rfl rfl)
theorem dX10_see_93 : decode cX10_see 93 = .ok (.getfield 19, 3) := dk_180 0 19 (dk_at dksX10_see_3 21 rfl rfl)
theorem dX10_see_96 : decode cX10_see 96 = .ok (.if_icmp .ne 8, 3) := dk_160 0 8 (dk_at dksX10_see_4 0 rfl rfl)
theorem dX10_see_99 : decode cX10_see 99 = .ok (.aload_n 0, 1) := dk_42 (dk_at dksX10_see_4 3 rfl rfl)
theorem dX10_see_100 : decode cX10_see 100 = .ok (.getfield 30, 3) := dk_180 0 30 (dk_at dksX10_see_4 4 rfl rfl)
theorem dX10_see_103 : decode cX10_see 103 = .ok (.ireturn, 1) := dk_172 (dk_at dksX10_see_4 7 rfl rfl)
theorem dX10_see_104 : decode cX10_see 104 = .ok (.aload_n 0, 1) := dk_42 (dk_at dksX10_see_4 8 rfl rfl)
theorem dX10_see_105 : decode cX10_see 105 = .ok (.getfield 3, 3) := dk_180 0 3 (dk_at dksX10_see_4 9 rfl rfl)
theorem dX10_see_108 : decode cX10_see 108 = .ok (.getfield 36, 3) := dk_180 0 36 (dk_at dksX10_see_4 12 rfl rfl)
theorem dX10_see_111 : decode cX10_see 111 = .ok (.aload_n 0, 1) := dk_42 (dk_at dksX10_see_4 15 rfl rfl)
theorem dX10_see_112 : decode cX10_see 112 = .ok (.getfield 33, 3) := dk_180 0 33 (dk_at dksX10_see_4 16 rfl rfl)
theorem dX10_see_115 : decode cX10_see 115 = .ok (.caload, 1) := dk_52 (dk_at dksX10_see_4 19 rfl rfl)
theorem dX10_see_116 : decode cX10_see 116 = .ok (.istore_n 1, 1) := dk_60 (dk_at dksX10_see_4 20 rfl rfl)
theorem dX10_see_117 : decode cX10_see 117 = .ok (.aload_n 0, 1) := dk_42 (dk_at dksX10_see_4 21 rfl rfl)
theorem dX10_see_118 : decode cX10_see 118 = .ok (.iload_n 1, 1) := dk_27 (dk_at dksX10_see_4 22 rfl rfl)
theorem dX10_see_119 : decode cX10_see 119 = .ok (.invokevirtual 43, 3) := dk_182 0 43 (dk_at dksX10_see_5 0 rfl rfl)
theorem dX10_see_122 : decode cX10_see 122 = .ok (.istore_n 2, 1) := dk_61 (dk_at dksX10_see_5 3 rfl rfl)
theorem dX10_see_123 : decode cX10_see 123 = .ok (.iload_n 2, 1) := dk_28 (dk_at dksX10_see_5 4 rfl rfl)
theorem dX10_see_124 : decode cX10_see 124 = .ok (.ifCond .ne 36, 3) := dk_154 0 36 (dk_at dksX10_see_5 5 rfl rfl)
theorem dX10_see_127 : decode cX10_see 127 = .ok (.aload_n 0, 1) := dk_42 (dk_at dksX10_see_5 8 rfl rfl)
theorem dX10_see_128 : decode cX10_see 128 = .ok (.iload_n 1, 1) := dk_27 (dk_at dksX10_see_5 9 rfl rfl)
theorem dX10_see_129 : decode cX10_see 129 = .ok (.invokevirtual 47, 3) := dk_182 0 47 (dk_at dksX10_see_5 10 rfl rfl)
theorem dX10_see_132 : decode cX10_see 132 = .ok (.ifCond .ne 28, 3) := dk_154 0 28 (dk_at dksX10_see_5 13 rfl rfl)
theorem dX10_see_135 : decode cX10_see 135 = .ok (.aload_n 0, 1) := dk_42 (dk_at dksX10_see_5 16 rfl rfl)
theorem dX10_see_136 : decode cX10_see 136 = .ok (.iload_n 1, 1) := dk_27 (dk_at dksX10_see_5 17 rfl rfl)
theorem dX10_see_137 : decode cX10_see 137 = .ok (.putfield 50, 3) := dk_181 0 50 (dk_at dksX10_see_5 18 rfl rfl)
theorem dX10_see_140 : decode cX10_see 140 = .ok (.aload_n 0, 1) := dk_42 (dk_at dksX10_see_5 21 rfl rfl)
theorem dX10_see_141 : decode cX10_see 141 = .ok (.dup, 1) := dk_89 (dk_at dksX10_see_5 22 rfl rfl)
theorem dX10_see_142 : decode cX10_see 142 = .ok (.getfield 33, 3) := dk_180 0 33 (dk_at dksX10_see_6 0 rfl rfl)
theorem dX10_see_145 : decode cX10_see 145 = .ok (.iconst 1, 1) := dk_4 (dk_at dksX10_see_6 3 rfl rfl)
theorem dX10_see_146 : decode cX10_see 146 = .ok (.iadd, 1) := dk_96 (dk_at dksX10_see_6 4 rfl rfl)
theorem dX10_see_147 : decode cX10_see 147 = .ok (.putfield 33, 3) := dk_181 0 33 (dk_at dksX10_see_6 5 rfl rfl)
theorem dX10_see_150 : decode cX10_see 150 = .ok (.aload_n 0, 1) := dk_42 (dk_at dksX10_see_6 8 rfl rfl)
theorem dX10_see_151 : decode cX10_see 151 = .ok (.iconst 3, 1) := dk_6 (dk_at dksX10_see_6 9 rfl rfl)
theorem dX10_see_152 : decode cX10_see 152 = .ok (.putfield 30, 3) := dk_181 0 30 (dk_at dksX10_see_6 10 rfl rfl)
theorem dX10_see_155 : decode cX10_see 155 = .ok (.aload_n 0, 1) := dk_42 (dk_at dksX10_see_6 13 rfl rfl)
theorem dX10_see_156 : decode cX10_see 156 = .ok (.getfield 30, 3) := dk_180 0 30 (dk_at dksX10_see_6 14 rfl rfl)
theorem dX10_see_159 : decode cX10_see 159 = .ok (.ireturn, 1) := dk_172 (dk_at dksX10_see_6 17 rfl rfl)
theorem dX10_see_160 : decode cX10_see 160 = .ok (.aload_n 0, 1) := dk_42 (dk_at dksX10_see_6 18 rfl rfl)
theorem dX10_see_161 : decode cX10_see 161 = .ok (.getfield 33, 3) := dk_180 0 33 (dk_at dksX10_see_6 19 rfl rfl)
theorem dX10_see_164 : decode cX10_see 164 = .ok (.aload_n 0, 1) := dk_42 (dk_at dksX10_see_6 22 rfl rfl)
theorem dX10_see_165 : decode cX10_see 165 = .ok (.getfield 15, 3) := dk_180 0 15 (dk_at dksX10_see_7 0 rfl rfl)
theorem dX10_see_168 : decode cX10_see 168 = .ok (.if_icmp .ne 16, 3) := dk_160 0 16 (dk_at dksX10_see_7 3 rfl rfl)
theorem dX10_see_171 : decode cX10_see 171 = .ok (.new 54, 3) := dk_187 0 54 (dk_at dksX10_see_7 6 rfl rfl)
theorem dX10_see_174 : decode cX10_see 174 = .ok (.dup, 1) := dk_89 (dk_at dksX10_see_7 9 rfl rfl)
theorem dX10_see_175 : decode cX10_see 175 = .ok (.iconst 1, 1) := dk_4 (dk_at dksX10_see_7 10 rfl rfl)
theorem dX10_see_176 : decode cX10_see 176 = .ok (.aload_n 0, 1) := dk_42 (dk_at dksX10_see_7 11 rfl rfl)
theorem dX10_see_177 : decode cX10_see 177 = .ok (.getfield 33, 3) := dk_180 0 33 (dk_at dksX10_see_7 12 rfl rfl)
theorem dX10_see_180 : decode cX10_see 180 = .ok (.invokespecial 56, 3) := dk_183 0 56 (dk_at dksX10_see_7 15 rfl rfl)
theorem dX10_see_183 : decode cX10_see 183 = .ok (.athrow, 1) := dk_191 (dk_at dksX10_see_7 18 rfl rfl)
theorem dX10_see_184 : decode cX10_see 184 = .ok (.iload_n 2, 1) := dk_28 (dk_at dksX10_see_7 19 rfl rfl)
theorem dX10_see_185 : decode cX10_see 185 = .ok (.ifCond .eq 8, 3) := dk_153 0 8 (dk_at dksX10_see_7 20 rfl rfl)
theorem dX10_see_188 : decode cX10_see 188 = .ok (.bipush 6, 2) := dk_16 6 (dk_at dksX10_see_8 0 rfl rfl)
theorem dX10_see_190 : decode cX10_see 190 = .ok (.goto 4, 3) := dk_167 0 4 (dk_at dksX10_see_8 2 rfl rfl)
theorem dX10_see_193 : decode cX10_see 193 = .ok (.iconst 4, 1) := dk_7 (dk_at dksX10_see_8 5 rfl rfl)
theorem dX10_see_194 : decode cX10_see 194 = .ok (.istore_n 3, 1) := dk_62 (dk_at dksX10_see_8 6 rfl rfl)
theorem dX10_see_195 : decode cX10_see 195 = .ok (.aload_n 0, 1) := dk_42 (dk_at dksX10_see_8 7 rfl rfl)
theorem dX10_see_196 : decode cX10_see 196 = .ok (.getfield 33, 3) := dk_180 0 33 (dk_at dksX10_see_8 8 rfl rfl)
theorem dX10_see_199 : decode cX10_see 199 = .ok (.aload_n 0, 1) := dk_42 (dk_at dksX10_see_8 11 rfl rfl)
theorem dX10_see_200 : decode cX10_see 200 = .ok (.getfield 19, 3) := dk_180 0 19 (dk_at dksX10_see_8 12 rfl rfl)
theorem dX10_see_203 : decode cX10_see 203 = .ok (.if_icmp .ge 87, 3) := dk_162 0 87 (dk_at dksX10_see_8 15 rfl rfl)
theorem dX10_see_206 : decode cX10_see 206 = .ok (.iload_n 2, 1) := dk_28 (dk_at dksX10_see_8 18 rfl rfl)
theorem dX10_see_207 : decode cX10_see 207 = .ok (.ifCond .eq 25, 3) := dk_153 0 25 (dk_at dksX10_see_8 19 rfl rfl)
theorem dX10_see_210 : decode cX10_see 210 = .ok (.aload_n 0, 1) := dk_42 (dk_at dksX10_see_8 22 rfl rfl)
theorem dX10_see_211 : decode cX10_see 211 = .ok (.aload_n 0, 1) := dk_42 (dk_at dksX10_see_8 23 rfl rfl)
theorem dX10_see_212 : decode cX10_see 212 = .ok (.getfield 3, 3) := dk_180 0 3 (dk_at dksX10_see_9 0 rfl rfl)
theorem dX10_see_215 : decode cX10_see 215 = .ok (.getfield 36, 3) := dk_180 0 36 (dk_at dksX10_see_9 3 rfl rfl)
theorem dX10_see_218 : decode cX10_see 218 = .ok (.aload_n 0, 1) := dk_42 (dk_at dksX10_see_9 6 rfl rfl)
theorem dX10_see_219 : decode cX10_see 219 = .ok (.getfield 33, 3) := dk_180 0 33 (dk_at dksX10_see_9 7 rfl rfl)
theorem dX10_see_222 : decode cX10_see 222 = .ok (.caload, 1) := dk_52 (dk_at dksX10_see_9 10 rfl rfl)
theorem dX10_see_223 : decode cX10_see 223 = .ok (.invokevirtual 43, 3) := dk_182 0 43 (dk_at dksX10_see_9 11 rfl rfl)
theorem dX10_see_226 : decode cX10_see 226 = .ok (.ifCond .eq 64, 3) := dk_153 0 64 (dk_at dksX10_see_9 14 rfl rfl)
theorem dX10_see_229 : decode cX10_see 229 = .ok (.goto 22, 3) := dk_167 0 22 (dk_at dksX10_see_9 17 rfl rfl)
theorem dX10_see_232 : decode cX10_see 232 = .ok (.aload_n 0, 1) := dk_42 (dk_at dksX10_see_9 20 rfl rfl)
theorem dX10_see_233 : decode cX10_see 233 = .ok (.aload_n 0, 1) := dk_42 (dk_at dksX10_see_9 21 rfl rfl)
theorem dX10_see_234 : decode cX10_see 234 = .ok (.getfield 3, 3) := dk_180 0 3 (dk_at dksX10_see_10 0 rfl rfl)
theorem dX10_see_237 : decode cX10_see 237 = .ok (.getfield 36, 3) := dk_180 0 36 (dk_at dksX10_see_10 3 rfl rfl)
theorem dX10_see_240 : decode cX10_see 240 = .ok (.aload_n 0, 1) := dk_42 (dk_at dksX10_see_10 6 rfl rfl)
theorem dX10_see_241 : decode cX10_see 241 = .ok (.getfield 33, 3) := dk_180 0 33 (dk_at dksX10_see_10 7 rfl rfl)
theorem dX10_see_244 : decode cX10_see 244 = .ok (.caload, 1) := dk_52 (dk_at dksX10_see_10 10 rfl rfl)
theorem dX10_see_245 : decode cX10_see 245 = .ok (.invokevirtual 47, 3) := dk_182 0 47 (dk_at dksX10_see_10 11 rfl rfl)
theorem dX10_see_248 : decode cX10_see 248 = .ok (.ifCond .eq 42, 3) := dk_153 0 42 (dk_at dksX10_see_10 14 rfl rfl)
theorem dX10_see_251 : decode cX10_see 251 = .ok (.aload_n 0, 1) := dk_42 (dk_at dksX10_see_10 17 rfl rfl)
theorem dX10_see_252 : decode cX10_see 252 = .ok (.getfield 33, 3) := dk_180 0 33 (dk_at dksX10_see_10 18 rfl rfl)
theorem dX10_see_255 : decode cX10_see 255 = .ok (.aload_n 0, 1) := dk_42 (dk_at dksX10_see_10 21 rfl rfl)
theorem dX10_see_256 : decode cX10_see 256 = .ok (.getfield 40, 3) := dk_180 0 40 (dk_at dksX10_see_11 0 rfl rfl)
theorem dX10_see_259 : decode cX10_see 259 = .ok (.isub, 1) := dk_100 (dk_at dksX10_see_11 3 rfl rfl)
theorem dX10_see_260 : decode cX10_see 260 = .ok (.iload_n 3, 1) := dk_29 (dk_at dksX10_see_11 4 rfl rfl)
theorem dX10_see_261 : decode cX10_see 261 = .ok (.if_icmp .ne 16, 3) := dk_160 0 16 (dk_at dksX10_see_11 5 rfl rfl)
theorem dX10_see_264 : decode cX10_see 264 = .ok (.new 54, 3) := dk_187 0 54 (dk_at dksX10_see_11 8 rfl rfl)
theorem dX10_see_267 : decode cX10_see 267 = .ok (.dup, 1) := dk_89 (dk_at dksX10_see_11 11 rfl rfl)
theorem dX10_see_268 : decode cX10_see 268 = .ok (.iconst 1, 1) := dk_4 (dk_at dksX10_see_11 12 rfl rfl)
theorem dX10_see_269 : decode cX10_see 269 = .ok (.aload_n 0, 1) := dk_42 (dk_at dksX10_see_11 13 rfl rfl)
theorem dX10_see_270 : decode cX10_see 270 = .ok (.getfield 33, 3) := dk_180 0 33 (dk_at dksX10_see_11 14 rfl rfl)
theorem dX10_see_273 : decode cX10_see 273 = .ok (.invokespecial 56, 3) := dk_183 0 56 (dk_at dksX10_see_11 17 rfl rfl)
theorem dX10_see_276 : decode cX10_see 276 = .ok (.athrow, 1) := dk_191 (dk_at dksX10_see_11 20 rfl rfl)
theorem dX10_see_277 : decode cX10_see 277 = .ok (.aload_n 0, 1) := dk_42 (dk_at dksX10_see_11 21 rfl rfl)
theorem dX10_see_278 : decode cX10_see 278 = .ok (.dup, 1) := dk_89 (dk_at dksX10_see_11 22 rfl rfl)
theorem dX10_see_279 : decode cX10_see 279 = .ok (.getfield 33, 3) := dk_180 0 33 (dk_at dksX10_see_12 0 rfl rfl)
theorem dX10_see_282 : decode cX10_see 282 = .ok (.iconst 1, 1) := dk_4 (dk_at dksX10_see_12 3 rfl rfl)
theorem dX10_see_283 : decode cX10_see 283 = .ok (.iadd, 1) := dk_96 (dk_at dksX10_see_12 4 rfl rfl)
theorem dX10_see_284 : decode cX10_see 284 = .ok (.putfield 33, 3) := dk_181 0 33 (dk_at dksX10_see_12 5 rfl rfl)
theorem dX10_see_287 : decode cX10_see 287 = .ok (.goto (-92), 3) := dk_167 255 164 (dk_at dksX10_see_12 8 rfl rfl)
theorem dX10_see_290 : decode cX10_see 290 = .ok (.aload_n 0, 1) := dk_42 (dk_at dksX10_see_12 11 rfl rfl)
theorem dX10_see_291 : decode cX10_see 291 = .ok (.aload_n 0, 1) := dk_42 (dk_at dksX10_see_12 12 rfl rfl)
theorem dX10_see_292 : decode cX10_see 292 = .ok (.getfield 33, 3) := dk_180 0 33 (dk_at dksX10_see_12 13 rfl rfl)
theorem dX10_see_295 : decode cX10_see 295 = .ok (.putfield 15, 3) := dk_181 0 15 (dk_at dksX10_see_12 16 rfl rfl)
theorem dX10_see_298 : decode cX10_see 298 = .ok (.aload_n 0, 1) := dk_42 (dk_at dksX10_see_12 19 rfl rfl)
theorem dX10_see_299 : decode cX10_see 299 = .ok (.new 59, 3) := dk_187 0 59 (dk_at dksX10_see_12 20 rfl rfl)
theorem dX10_see_302 : decode cX10_see 302 = .ok (.dup, 1) := dk_89 (dk_at dksX10_see_12 23 rfl rfl)
theorem dX10_see_303 : decode cX10_see 303 = .ok (.aload_n 0, 1) := dk_42 (dk_at dksX10_see_13 0 rfl rfl)
theorem dX10_see_304 : decode cX10_see 304 = .ok (.getfield 3, 3) := dk_180 0 3 (dk_at dksX10_see_13 1 rfl rfl)
theorem dX10_see_307 : decode cX10_see 307 = .ok (.getfield 36, 3) := dk_180 0 36 (dk_at dksX10_see_13 4 rfl rfl)
theorem dX10_see_310 : decode cX10_see 310 = .ok (.aload_n 0, 1) := dk_42 (dk_at dksX10_see_13 7 rfl rfl)
theorem dX10_see_311 : decode cX10_see 311 = .ok (.getfield 40, 3) := dk_180 0 40 (dk_at dksX10_see_13 8 rfl rfl)
theorem dX10_see_314 : decode cX10_see 314 = .ok (.aload_n 0, 1) := dk_42 (dk_at dksX10_see_13 11 rfl rfl)
theorem dX10_see_315 : decode cX10_see 315 = .ok (.getfield 33, 3) := dk_180 0 33 (dk_at dksX10_see_13 12 rfl rfl)
theorem dX10_see_318 : decode cX10_see 318 = .ok (.aload_n 0, 1) := dk_42 (dk_at dksX10_see_13 15 rfl rfl)
theorem dX10_see_319 : decode cX10_see 319 = .ok (.getfield 40, 3) := dk_180 0 40 (dk_at dksX10_see_13 16 rfl rfl)
theorem dX10_see_322 : decode cX10_see 322 = .ok (.isub, 1) := dk_100 (dk_at dksX10_see_13 19 rfl rfl)
theorem dX10_see_323 : decode cX10_see 323 = .ok (.invokespecial 61, 3) := dk_183 0 61 (dk_at dksX10_see_13 20 rfl rfl)
theorem dX10_see_326 : decode cX10_see 326 = .ok (.putfield 64, 3) := dk_181 0 64 (dk_at dksX10_see_14 0 rfl rfl)
theorem dX10_see_329 : decode cX10_see 329 = .ok (.iload_n 2, 1) := dk_28 (dk_at dksX10_see_14 3 rfl rfl)
theorem dX10_see_330 : decode cX10_see 330 = .ok (.ifCond .ne 14, 3) := dk_154 0 14 (dk_at dksX10_see_14 4 rfl rfl)
theorem dX10_see_333 : decode cX10_see 333 = .ok (.aload_n 0, 1) := dk_42 (dk_at dksX10_see_14 7 rfl rfl)
theorem dX10_see_334 : decode cX10_see 334 = .ok (.aload_n 0, 1) := dk_42 (dk_at dksX10_see_14 8 rfl rfl)
theorem dX10_see_335 : decode cX10_see 335 = .ok (.getfield 64, 3) := dk_180 0 64 (dk_at dksX10_see_14 9 rfl rfl)
theorem dX10_see_338 : decode cX10_see 338 = .ok (.invokestatic 68, 3) := dk_184 0 68 (dk_at dksX10_see_14 12 rfl rfl)
theorem dX10_see_341 : decode cX10_see 341 = .ok (.putfield 72, 3) := dk_181 0 72 (dk_at dksX10_see_14 15 rfl rfl)
theorem dX10_see_344 : decode cX10_see 344 = .ok (.aload_n 0, 1) := dk_42 (dk_at dksX10_see_14 18 rfl rfl)
theorem dX10_see_345 : decode cX10_see 345 = .ok (.iload_n 2, 1) := dk_28 (dk_at dksX10_see_14 19 rfl rfl)
theorem dX10_see_346 : decode cX10_see 346 = .ok (.ifCond .eq 7, 3) := dk_153 0 7 (dk_at dksX10_see_14 20 rfl rfl)
theorem dX10_see_349 : decode cX10_see 349 = .ok (.iconst 1, 1) := dk_4 (dk_at dksX10_see_14 23 rfl rfl)
theorem dX10_see_350 : decode cX10_see 350 = .ok (.goto 4, 3) := dk_167 0 4 (dk_at dksX10_see_15 0 rfl rfl)
theorem dX10_see_353 : decode cX10_see 353 = .ok (.iconst 2, 1) := dk_5 (dk_at dksX10_see_15 3 rfl rfl)
theorem dX10_see_354 : decode cX10_see 354 = .ok (.putfield 30, 3) := dk_181 0 30 (dk_at dksX10_see_15 4 rfl rfl)
theorem dX10_see_357 : decode cX10_see 357 = .ok (.aload_n 0, 1) := dk_42 (dk_at dksX10_see_15 7 rfl rfl)
theorem dX10_see_358 : decode cX10_see 358 = .ok (.getfield 30, 3) := dk_180 0 30 (dk_at dksX10_see_15 8 rfl rfl)
theorem dX10_see_361 : decode cX10_see 361 = .ok (.ireturn, 1) := dk_172 (dk_at dksX10_see_15 11 rfl rfl)
def dkwX10_isLetter_0 : List UInt8 := [27, 16, 97, 161, 0, 13, 27, 16, 122, 163, 0, 7, 4, 167, 0, 4, 3, 172]
abbrev dktX10_isLetter_0 : List UInt8 := dkwX10_isLetter_0 ++ []
theorem dksX10_isLetter_0 : cX10_isLetter.data.toList.drop 0 = dktX10_isLetter_0 := by decide +kernel
theorem dX10_isLetter_0 : decode cX10_isLetter 0 = .ok (.iload_n 1, 1) := dk_27 (dk_at dksX10_isLetter_0 0 rfl rfl)
theorem dX10_isLetter_1 : decode cX10_isLetter 1 = .ok (.bipush 97, 2) := dk_16 97 (dk_at dksX10_isLetter_0 1 rfl rfl)
theorem dX10_isLetter_3 : decode cX10_isLetter 3 = .ok (.if_icmp .lt 13, 3) := dk_161 0 13 (dk_at dksX10_isLetter_0 3 rfl rfl)
theorem dX10_isLetter_6 : decode cX10_isLetter 6 = .ok (.iload_n 1, 1) := dk_27 (dk_at dksX10_isLetter_0 6 rfl rfl)
theorem dX10_isLetter_7 : decode cX10_isLetter 7 = .ok (.bipush 122, 2) := dk_16 122 (dk_at dksX10_isLetter_0 7 rfl rfl)
theorem dX10_isLetter_9 : decode cX10_isLetter 9 = .ok (.if_icmp .gt 7, 3) := dk_163 0 7 (dk_at dksX10_isLetter_0 9 rfl rfl)
theorem dX10_isLetter_12 : decode cX10_isLetter 12 = .ok (.iconst 1, 1) := dk_4 (dk_at dksX10_isLetter_0 12 rfl rfl)
theorem dX10_isLetter_13 : decode cX10_isLetter 13 = .ok (.goto 4, 3) := dk_167 0 4 (dk_at dksX10_isLetter_0 13 rfl rfl)
theorem dX10_isLetter_16 : decode cX10_isLetter 16 = .ok (.iconst 0, 1) := dk_3 (dk_at dksX10_isLetter_0 16 rfl rfl)
theorem dX10_isLetter_17 : decode cX10_isLetter 17 = .ok (.ireturn, 1) := dk_172 (dk_at dksX10_isLetter_0 17 rfl rfl)
def dkwX10_isDigit_0 : List UInt8 := [27, 16, 48, 161, 0, 13, 27, 16, 57, 163, 0, 7, 4, 167, 0, 4, 3, 172]
abbrev dktX10_isDigit_0 : List UInt8 := dkwX10_isDigit_0 ++ []
theorem dksX10_isDigit_0 : cX10_isDigit.data.toList.drop 0 = dktX10_isDigit_0 := by decide +kernel
theorem dX10_isDigit_0 : decode cX10_isDigit 0 = .ok (.iload_n 1, 1) := dk_27 (dk_at dksX10_isDigit_0 0 rfl rfl)
theorem dX10_isDigit_1 : decode cX10_isDigit 1 = .ok (.bipush 48, 2) := dk_16 48 (dk_at dksX10_isDigit_0 1 rfl rfl)
theorem dX10_isDigit_3 : decode cX10_isDigit 3 = .ok (.if_icmp .lt 13, 3) := dk_161 0 13 (dk_at dksX10_isDigit_0 3 rfl rfl)
theorem dX10_isDigit_6 : decode cX10_isDigit 6 = .ok (.iload_n 1, 1) := dk_27 (dk_at dksX10_isDigit_0 6 rfl rfl)
theorem dX10_isDigit_7 : decode cX10_isDigit 7 = .ok (.bipush 57, 2) := dk_16 57 (dk_at dksX10_isDigit_0 7 rfl rfl)
theorem dX10_isDigit_9 : decode cX10_isDigit 9 = .ok (.if_icmp .gt 7, 3) := dk_163 0 7 (dk_at dksX10_isDigit_0 9 rfl rfl)
theorem dX10_isDigit_12 : decode cX10_isDigit 12 = .ok (.iconst 1, 1) := dk_4 (dk_at dksX10_isDigit_0 12 rfl rfl)
theorem dX10_isDigit_13 : decode cX10_isDigit 13 = .ok (.goto 4, 3) := dk_167 0 4 (dk_at dksX10_isDigit_0 13 rfl rfl)
theorem dX10_isDigit_16 : decode cX10_isDigit 16 = .ok (.iconst 0, 1) := dk_3 (dk_at dksX10_isDigit_0 16 rfl rfl)
theorem dX10_isDigit_17 : decode cX10_isDigit 17 = .ok (.ireturn, 1) := dk_172 (dk_at dksX10_isDigit_0 17 rfl rfl)
def dkwX10_word_5 : List UInt8 := [180, 0, 119, 44, 182, 0, 166, 87, 177]
abbrev dktX10_word_5 : List UInt8 := dkwX10_word_5 ++ []
def dkwX10_word_4 : List UInt8 := [16, 99, 182, 0, 145, 181, 0, 160, 44, 42, 18, 162, 182, 0, 97, 181, 0, 164, 42, 180, 0, 22]
abbrev dktX10_word_4 : List UInt8 := dkwX10_word_4 ++ dktX10_word_5
def dkwX10_word_3 : List UInt8 := [181, 0, 152, 44, 42, 3, 16, 9, 182, 0, 145, 181, 0, 155, 42, 18, 158, 182, 0, 141, 44, 42, 3]
abbrev dktX10_word_3 : List UInt8 := dkwX10_word_3 ++ dktX10_word_4
def dkwX10_word_2 : List UInt8 := [42, 4, 16, 9, 182, 0, 145, 181, 0, 148, 42, 18, 150, 182, 0, 141, 44, 42, 3, 16, 9, 182, 0, 145]
abbrev dktX10_word_2 : List UInt8 := dkwX10_word_2 ++ dktX10_word_3
def dkwX10_word_1 : List UInt8 := [182, 0, 133, 42, 180, 0, 22, 180, 0, 119, 182, 0, 123, 183, 0, 136, 77, 42, 18, 139, 182, 0, 141, 44]
abbrev dktX10_word_1 : List UInt8 := dkwX10_word_1 ++ dktX10_word_2
def dkwX10_word_0 : List UInt8 := [42, 42, 180, 0, 22, 180, 0, 119, 182, 0, 123, 16, 24, 27, 182, 0, 127, 187, 0, 131, 89, 42]
abbrev dktX10_word_0 : List UInt8 := dkwX10_word_0 ++ dktX10_word_1
theorem dksX10_word_0 : cX10_word.data.toList.drop 0 = dktX10_word_0 := by decide +kernel
theorem dksX10_word_1 : cX10_word.data.toList.drop 22 = dktX10_word_1 := dk_seg dksX10_word_0 22 rfl rfl
theorem dksX10_word_2 : cX10_word.data.toList.drop 46 = dktX10_word_2 := dk_seg dksX10_word_1 24 rfl rfl
theorem dksX10_word_3 : cX10_word.data.toList.drop 70 = dktX10_word_3 := dk_seg dksX10_word_2 24 rfl rfl
theorem dksX10_word_4 : cX10_word.data.toList.drop 93 = dktX10_word_4 := dk_seg dksX10_word_3 23 rfl rfl
theorem dksX10_word_5 : cX10_word.data.toList.drop 115 = dktX10_word_5 := dk_seg dksX10_word_4 22 rfl rfl
theorem dX10_word_0 : decode cX10_word 0 = .ok (.aload_n 0, 1) := dk_42 (dk_at dksX10_word_0 0 rfl rfl)
theorem dX10_word_1 : decode cX10_word 1 = .ok (.aload_n 0, 1) := dk_42 (dk_at dksX10_word_0 1 rfl rfl)
theorem dX10_word_2 : decode cX10_word 2 = .ok (.getfield 22, 3) := dk_180 0 22 (dk_at dksX10_word_0 2 rfl rfl)
theorem dX10_word_5 : decode cX10_word 5 = .ok (.getfield 119, 3) := dk_180 0 119 (dk_at dksX10_word_0 5 rfl rfl)
theorem dX10_word_8 : decode cX10_word 8 = .ok (.invokevirtual 123, 3) := dk_182 0 123 (dk_at dksX10_word_0 8 rfl rfl)
theorem dX10_word_11 : decode cX10_word 11 = .ok (.bipush 24, 2) := dk_16 24 (dk_at dksX10_word_0 11 rfl rfl)
theorem dX10_word_13 : decode cX10_word 13 = .ok (.iload_n 1, 1) := dk_27 (dk_at dksX10_word_0 13 rfl rfl)
theorem dX10_word_14 : decode cX10_word 14 = .ok (.invokevirtual 127, 3) := dk_182 0 127 (dk_at dksX10_word_0 14 rfl rfl)
theorem dX10_word_17 : decode cX10_word 17 = .ok (.new 131, 3) := dk_187 0 131 (dk_at dksX10_word_0 17 rfl rfl)
theorem dX10_word_20 : decode cX10_word 20 = .ok (.dup, 1) := dk_89 (dk_at dksX10_word_0 20 rfl rfl)
theorem dX10_word_21 : decode cX10_word 21 = .ok (.aload_n 0, 1) := dk_42 (dk_at dksX10_word_0 21 rfl rfl)
theorem dX10_word_22 : decode cX10_word 22 = .ok (.invokevirtual 133, 3) := dk_182 0 133 (dk_at dksX10_word_1 0 rfl rfl)
theorem dX10_word_25 : decode cX10_word 25 = .ok (.aload_n 0, 1) := dk_42 (dk_at dksX10_word_1 3 rfl rfl)
theorem dX10_word_26 : decode cX10_word 26 = .ok (.getfield 22, 3) := dk_180 0 22 (dk_at dksX10_word_1 4 rfl rfl)
theorem dX10_word_29 : decode cX10_word 29 = .ok (.getfield 119, 3) := dk_180 0 119 (dk_at dksX10_word_1 7 rfl rfl)
theorem dX10_word_32 : decode cX10_word 32 = .ok (.invokevirtual 123, 3) := dk_182 0 123 (dk_at dksX10_word_1 10 rfl rfl)
theorem dX10_word_35 : decode cX10_word 35 = .ok (.invokespecial 136, 3) := dk_183 0 136 (dk_at dksX10_word_1 13 rfl rfl)
theorem dX10_word_38 : decode cX10_word 38 = .ok (.astore_n 2, 1) := dk_77 (dk_at dksX10_word_1 16 rfl rfl)
theorem dX10_word_39 : decode cX10_word 39 = .ok (.aload_n 0, 1) := dk_42 (dk_at dksX10_word_1 17 rfl rfl)
theorem dX10_word_40 : decode cX10_word 40 = .ok (.ldc 139, 2) := dk_18 139 (dk_at dksX10_word_1 18 rfl rfl)
theorem dX10_word_42 : decode cX10_word 42 = .ok (.invokevirtual 141, 3) := dk_182 0 141 (dk_at dksX10_word_1 20 rfl rfl)
theorem dX10_word_45 : decode cX10_word 45 = .ok (.aload_n 2, 1) := dk_44 (dk_at dksX10_word_1 23 rfl rfl)
theorem dX10_word_46 : decode cX10_word 46 = .ok (.aload_n 0, 1) := dk_42 (dk_at dksX10_word_2 0 rfl rfl)
theorem dX10_word_47 : decode cX10_word 47 = .ok (.iconst 1, 1) := dk_4 (dk_at dksX10_word_2 1 rfl rfl)
theorem dX10_word_48 : decode cX10_word 48 = .ok (.bipush 9, 2) := dk_16 9 (dk_at dksX10_word_2 2 rfl rfl)
theorem dX10_word_50 : decode cX10_word 50 = .ok (.invokevirtual 145, 3) := dk_182 0 145 (dk_at dksX10_word_2 4 rfl rfl)
theorem dX10_word_53 : decode cX10_word 53 = .ok (.putfield 148, 3) := dk_181 0 148 (dk_at dksX10_word_2 7 rfl rfl)
theorem dX10_word_56 : decode cX10_word 56 = .ok (.aload_n 0, 1) := dk_42 (dk_at dksX10_word_2 10 rfl rfl)
theorem dX10_word_57 : decode cX10_word 57 = .ok (.ldc 150, 2) := dk_18 150 (dk_at dksX10_word_2 11 rfl rfl)
theorem dX10_word_59 : decode cX10_word 59 = .ok (.invokevirtual 141, 3) := dk_182 0 141 (dk_at dksX10_word_2 13 rfl rfl)
theorem dX10_word_62 : decode cX10_word 62 = .ok (.aload_n 2, 1) := dk_44 (dk_at dksX10_word_2 16 rfl rfl)
theorem dX10_word_63 : decode cX10_word 63 = .ok (.aload_n 0, 1) := dk_42 (dk_at dksX10_word_2 17 rfl rfl)
theorem dX10_word_64 : decode cX10_word 64 = .ok (.iconst 0, 1) := dk_3 (dk_at dksX10_word_2 18 rfl rfl)
theorem dX10_word_65 : decode cX10_word 65 = .ok (.bipush 9, 2) := dk_16 9 (dk_at dksX10_word_2 19 rfl rfl)
theorem dX10_word_67 : decode cX10_word 67 = .ok (.invokevirtual 145, 3) := dk_182 0 145 (dk_at dksX10_word_2 21 rfl rfl)
theorem dX10_word_70 : decode cX10_word 70 = .ok (.putfield 152, 3) := dk_181 0 152 (dk_at dksX10_word_3 0 rfl rfl)
theorem dX10_word_73 : decode cX10_word 73 = .ok (.aload_n 2, 1) := dk_44 (dk_at dksX10_word_3 3 rfl rfl)
theorem dX10_word_74 : decode cX10_word 74 = .ok (.aload_n 0, 1) := dk_42 (dk_at dksX10_word_3 4 rfl rfl)
theorem dX10_word_75 : decode cX10_word 75 = .ok (.iconst 0, 1) := dk_3 (dk_at dksX10_word_3 5 rfl rfl)
theorem dX10_word_76 : decode cX10_word 76 = .ok (.bipush 9, 2) := dk_16 9 (dk_at dksX10_word_3 6 rfl rfl)
theorem dX10_word_78 : decode cX10_word 78 = .ok (.invokevirtual 145, 3) := dk_182 0 145 (dk_at dksX10_word_3 8 rfl rfl)
theorem dX10_word_81 : decode cX10_word 81 = .ok (.putfield 155, 3) := dk_181 0 155 (dk_at dksX10_word_3 11 rfl rfl)
theorem dX10_word_84 : decode cX10_word 84 = .ok (.aload_n 0, 1) := dk_42 (dk_at dksX10_word_3 14 rfl rfl)
theorem dX10_word_85 : decode cX10_word 85 = .ok (.ldc 158, 2) := dk_18 158 (dk_at dksX10_word_3 15 rfl rfl)
theorem dX10_word_87 : decode cX10_word 87 = .ok (.invokevirtual 141, 3) := dk_182 0 141 (dk_at dksX10_word_3 17 rfl rfl)
theorem dX10_word_90 : decode cX10_word 90 = .ok (.aload_n 2, 1) := dk_44 (dk_at dksX10_word_3 20 rfl rfl)
theorem dX10_word_91 : decode cX10_word 91 = .ok (.aload_n 0, 1) := dk_42 (dk_at dksX10_word_3 21 rfl rfl)
theorem dX10_word_92 : decode cX10_word 92 = .ok (.iconst 0, 1) := dk_3 (dk_at dksX10_word_3 22 rfl rfl)
theorem dX10_word_93 : decode cX10_word 93 = .ok (.bipush 99, 2) := dk_16 99 (dk_at dksX10_word_4 0 rfl rfl)
theorem dX10_word_95 : decode cX10_word 95 = .ok (.invokevirtual 145, 3) := dk_182 0 145 (dk_at dksX10_word_4 2 rfl rfl)
theorem dX10_word_98 : decode cX10_word 98 = .ok (.putfield 160, 3) := dk_181 0 160 (dk_at dksX10_word_4 5 rfl rfl)
theorem dX10_word_101 : decode cX10_word 101 = .ok (.aload_n 2, 1) := dk_44 (dk_at dksX10_word_4 8 rfl rfl)
theorem dX10_word_102 : decode cX10_word 102 = .ok (.aload_n 0, 1) := dk_42 (dk_at dksX10_word_4 9 rfl rfl)
theorem dX10_word_103 : decode cX10_word 103 = .ok (.ldc 162, 2) := dk_18 162 (dk_at dksX10_word_4 10 rfl rfl)
theorem dX10_word_105 : decode cX10_word 105 = .ok (.invokevirtual 97, 3) := dk_182 0 97 (dk_at dksX10_word_4 12 rfl rfl)
theorem dX10_word_108 : decode cX10_word 108 = .ok (.putfield 164, 3) := dk_181 0 164 (dk_at dksX10_word_4 15 rfl rfl)
theorem dX10_word_111 : decode cX10_word 111 = .ok (.aload_n 0, 1) := dk_42 (dk_at dksX10_word_4 18 rfl rfl)
theorem dX10_word_112 : decode cX10_word 112 = .ok (.getfield 22, 3) := dk_180 0 22 (dk_at dksX10_word_4 19 rfl rfl)
theorem dX10_word_115 : decode cX10_word 115 = .ok (.getfield 119, 3) := dk_180 0 119 (dk_at dksX10_word_5 0 rfl rfl)
theorem dX10_word_118 : decode cX10_word 118 = .ok (.aload_n 2, 1) := dk_44 (dk_at dksX10_word_5 3 rfl rfl)
theorem dX10_word_119 : decode cX10_word 119 = .ok (.invokevirtual 166, 3) := dk_182 0 166 (dk_at dksX10_word_5 4 rfl rfl)
theorem dX10_word_122 : decode cX10_word 122 = .ok (.pop, 1) := dk_87 (dk_at dksX10_word_5 7 rfl rfl)
theorem dX10_word_123 : decode cX10_word 123 = .ok (.return_, 1) := dk_177 (dk_at dksX10_word_5 8 rfl rfl)
def dkwX10_space_0 : List UInt8 := [27, 28, 160, 0, 13, 187, 0, 54, 89, 8, 29, 183, 0, 56, 191, 177]
abbrev dktX10_space_0 : List UInt8 := dkwX10_space_0 ++ []
theorem dksX10_space_0 : cX10_space.data.toList.drop 0 = dktX10_space_0 := by decide +kernel
theorem dX10_space_0 : decode cX10_space 0 = .ok (.iload_n 1, 1) := dk_27 (dk_at dksX10_space_0 0 rfl rfl)
theorem dX10_space_1 : decode cX10_space 1 = .ok (.iload_n 2, 1) := dk_28 (dk_at dksX10_space_0 1 rfl rfl)
theorem dX10_space_2 : decode cX10_space 2 = .ok (.if_icmp .ne 13, 3) := dk_160 0 13 (dk_at dksX10_space_0 2 rfl rfl)
theorem dX10_space_5 : decode cX10_space 5 = .ok (.new 54, 3) := dk_187 0 54 (dk_at dksX10_space_0 5 rfl rfl)
theorem dX10_space_8 : decode cX10_space 8 = .ok (.dup, 1) := dk_89 (dk_at dksX10_space_0 8 rfl rfl)
theorem dX10_space_9 : decode cX10_space 9 = .ok (.iconst 5, 1) := dk_8 (dk_at dksX10_space_0 9 rfl rfl)
theorem dX10_space_10 : decode cX10_space 10 = .ok (.iload_n 3, 1) := dk_29 (dk_at dksX10_space_0 10 rfl rfl)
theorem dX10_space_11 : decode cX10_space 11 = .ok (.invokespecial 56, 3) := dk_183 0 56 (dk_at dksX10_space_0 11 rfl rfl)
theorem dX10_space_14 : decode cX10_space 14 = .ok (.athrow, 1) := dk_191 (dk_at dksX10_space_0 14 rfl rfl)
theorem dX10_space_15 : decode cX10_space 15 = .ok (.return_, 1) := dk_177 (dk_at dksX10_space_0 15 rfl rfl)
def dkwX10_newName_1 : List UInt8 := [180, 0, 40, 183, 0, 56, 191, 42, 3, 181, 0, 26, 43, 176]
abbrev dktX10_newName_1 : List UInt8 := dkwX10_newName_1 ++ []
def dkwX10_newName_0 : List UInt8 := [42, 182, 0, 106, 76, 42, 180, 0, 22, 43, 182, 0, 110, 153, 0, 16, 187, 0, 54, 89, 5, 42]
abbrev dktX10_newName_0 : List UInt8 := dkwX10_newName_0 ++ dktX10_newName_1
theorem dksX10_newName_0 : cX10_newName.data.toList.drop 0 = dktX10_newName_0 := by decide +kernel
theorem dksX10_newName_1 : cX10_newName.data.toList.drop 22 = dktX10_newName_1 := dk_seg dksX10_newName_0 22 rfl rfl
theorem dX10_newName_0 : decode cX10_newName 0 = .ok (.aload_n 0, 1) := dk_42 (dk_at dksX10_newName_0 0 rfl rfl)
theorem dX10_newName_1 : decode cX10_newName 1 = .ok (.invokevirtual 106, 3) := dk_182 0 106 (dk_at dksX10_newName_0 1 rfl rfl)
theorem dX10_newName_4 : decode cX10_newName 4 = .ok (.astore_n 1, 1) := dk_76 (dk_at dksX10_newName_0 4 rfl rfl)
theorem dX10_newName_5 : decode cX10_newName 5 = .ok (.aload_n 0, 1) := dk_42 (dk_at dksX10_newName_0 5 rfl rfl)
theorem dX10_newName_6 : decode cX10_newName 6 = .ok (.getfield 22, 3) := dk_180 0 22 (dk_at dksX10_newName_0 6 rfl rfl)
theorem dX10_newName_9 : decode cX10_newName 9 = .ok (.aload_n 1, 1) := dk_43 (dk_at dksX10_newName_0 9 rfl rfl)
theorem dX10_newName_10 : decode cX10_newName 10 = .ok (.invokevirtual 110, 3) := dk_182 0 110 (dk_at dksX10_newName_0 10 rfl rfl)
theorem dX10_newName_13 : decode cX10_newName 13 = .ok (.ifCond .eq 16, 3) := dk_153 0 16 (dk_at dksX10_newName_0 13 rfl rfl)
theorem dX10_newName_16 : decode cX10_newName 16 = .ok (.new 54, 3) := dk_187 0 54 (dk_at dksX10_newName_0 16 rfl rfl)
theorem dX10_newName_19 : decode cX10_newName 19 = .ok (.dup, 1) := dk_89 (dk_at dksX10_newName_0 19 rfl rfl)
theorem dX10_newName_20 : decode cX10_newName 20 = .ok (.iconst 2, 1) := dk_5 (dk_at dksX10_newName_0 20 rfl rfl)
theorem dX10_newName_21 : decode cX10_newName 21 = .ok (.aload_n 0, 1) := dk_42 (dk_at dksX10_newName_0 21 rfl rfl)
theorem dX10_newName_22 : decode cX10_newName 22 = .ok (.getfield 40, 3) := dk_180 0 40 (dk_at dksX10_newName_1 0 rfl rfl)
theorem dX10_newName_25 : decode cX10_newName 25 = .ok (.invokespecial 56, 3) := dk_183 0 56 (dk_at dksX10_newName_1 3 rfl rfl)
theorem dX10_newName_28 : decode cX10_newName 28 = .ok (.athrow, 1) := dk_191 (dk_at dksX10_newName_1 6 rfl rfl)
theorem dX10_newName_29 : decode cX10_newName 29 = .ok (.aload_n 0, 1) := dk_42 (dk_at dksX10_newName_1 7 rfl rfl)
theorem dX10_newName_30 : decode cX10_newName 30 = .ok (.iconst 0, 1) := dk_3 (dk_at dksX10_newName_1 8 rfl rfl)
theorem dX10_newName_31 : decode cX10_newName 31 = .ok (.putfield 26, 3) := dk_181 0 26 (dk_at dksX10_newName_1 9 rfl rfl)
theorem dX10_newName_34 : decode cX10_newName 34 = .ok (.aload_n 1, 1) := dk_43 (dk_at dksX10_newName_1 12 rfl rfl)
theorem dX10_newName_35 : decode cX10_newName 35 = .ok (.areturn, 1) := dk_176 (dk_at dksX10_newName_1 13 rfl rfl)
def dkwX10_name_1 : List UInt8 := [180, 0, 64, 176]
abbrev dktX10_name_1 : List UInt8 := dkwX10_name_1 ++ []
def dkwX10_name_0 : List UInt8 := [42, 182, 0, 75, 4, 160, 0, 13, 42, 180, 0, 64, 184, 0, 103, 153, 0, 8, 42, 182, 0, 93, 191, 42]
abbrev dktX10_name_0 : List UInt8 := dkwX10_name_0 ++ dktX10_name_1
theorem dksX10_name_0 : cX10_name.data.toList.drop 0 = dktX10_name_0 := by decide +kernel
theorem dksX10_name_1 : cX10_name.data.toList.drop 24 = dktX10_name_1 := dk_seg dksX10_name_0 24 rfl rfl
theorem dX10_name_0 : decode cX10_name 0 = .ok (.aload_n 0, 1) := dk_42 (dk_at dksX10_name_0 0 rfl rfl)
theorem dX10_name_1 : decode cX10_name 1 = .ok (.invokevirtual 75, 3) := dk_182 0 75 (dk_at dksX10_name_0 1 rfl rfl)
theorem dX10_name_4 : decode cX10_name 4 = .ok (.iconst 1, 1) := dk_4 (dk_at dksX10_name_0 4 rfl rfl)
theorem dX10_name_5 : decode cX10_name 5 = .ok (.if_icmp .ne 13, 3) := dk_160 0 13 (dk_at dksX10_name_0 5 rfl rfl)
theorem dX10_name_8 : decode cX10_name 8 = .ok (.aload_n 0, 1) := dk_42 (dk_at dksX10_name_0 8 rfl rfl)
theorem dX10_name_9 : decode cX10_name 9 = .ok (.getfield 64, 3) := dk_180 0 64 (dk_at dksX10_name_0 9 rfl rfl)
theorem dX10_name_12 : decode cX10_name 12 = .ok (.invokestatic 103, 3) := dk_184 0 103 (dk_at dksX10_name_0 12 rfl rfl)
theorem dX10_name_15 : decode cX10_name 15 = .ok (.ifCond .eq 8, 3) := dk_153 0 8 (dk_at dksX10_name_0 15 rfl rfl)
theorem dX10_name_18 : decode cX10_name 18 = .ok (.aload_n 0, 1) := dk_42 (dk_at dksX10_name_0 18 rfl rfl)
theorem dX10_name_19 : decode cX10_name 19 = .ok (.invokevirtual 93, 3) := dk_182 0 93 (dk_at dksX10_name_0 19 rfl rfl)
theorem dX10_name_22 : decode cX10_name 22 = .ok (.athrow, 1) := dk_191 (dk_at dksX10_name_0 22 rfl rfl)
theorem dX10_name_23 : decode cX10_name 23 = .ok (.aload_n 0, 1) := dk_42 (dk_at dksX10_name_0 23 rfl rfl)
theorem dX10_name_24 : decode cX10_name 24 = .ok (.getfield 64, 3) := dk_180 0 64 (dk_at dksX10_name_1 0 rfl rfl)
theorem dX10_name_27 : decode cX10_name 27 = .ok (.areturn, 1) := dk_176 (dk_at dksX10_name_1 3 rfl rfl)
def dkwX10_wrong_0 : List UInt8 := [187, 0, 54, 89, 4, 42, 180, 0, 40, 183, 0, 56, 176]
abbrev dktX10_wrong_0 : List UInt8 := dkwX10_wrong_0 ++ []
theorem dksX10_wrong_0 : cX10_wrong.data.toList.drop 0 = dktX10_wrong_0 := by decide +kernel
theorem dX10_wrong_0 : decode cX10_wrong 0 = .ok (.new 54, 3) := dk_187 0 54 (dk_at dksX10_wrong_0 0 rfl rfl)
theorem dX10_wrong_3 : decode cX10_wrong 3 = .ok (.dup, 1) := dk_89 (dk_at dksX10_wrong_0 3 rfl rfl)
theorem dX10_wrong_4 : decode cX10_wrong 4 = .ok (.iconst 1, 1) := dk_4 (dk_at dksX10_wrong_0 4 rfl rfl)
theorem dX10_wrong_5 : decode cX10_wrong 5 = .ok (.aload_n 0, 1) := dk_42 (dk_at dksX10_wrong_0 5 rfl rfl)
theorem dX10_wrong_6 : decode cX10_wrong 6 = .ok (.getfield 40, 3) := dk_180 0 40 (dk_at dksX10_wrong_0 6 rfl rfl)
theorem dX10_wrong_9 : decode cX10_wrong 9 = .ok (.invokespecial 56, 3) := dk_183 0 56 (dk_at dksX10_wrong_0 9 rfl rfl)
theorem dX10_wrong_12 : decode cX10_wrong 12 = .ok (.areturn, 1) := dk_176 (dk_at dksX10_wrong_0 12 rfl rfl)
def dkwX10_asks_0 : List UInt8 := [42, 43, 182, 0, 97, 154, 0, 8, 42, 182, 0, 93, 191, 177]
abbrev dktX10_asks_0 : List UInt8 := dkwX10_asks_0 ++ []
theorem dksX10_asks_0 : cX10_asks.data.toList.drop 0 = dktX10_asks_0 := by decide +kernel
theorem dX10_asks_0 : decode cX10_asks 0 = .ok (.aload_n 0, 1) := dk_42 (dk_at dksX10_asks_0 0 rfl rfl)
theorem dX10_asks_1 : decode cX10_asks 1 = .ok (.aload_n 1, 1) := dk_43 (dk_at dksX10_asks_0 1 rfl rfl)
theorem dX10_asks_2 : decode cX10_asks 2 = .ok (.invokevirtual 97, 3) := dk_182 0 97 (dk_at dksX10_asks_0 2 rfl rfl)
theorem dX10_asks_5 : decode cX10_asks 5 = .ok (.ifCond .ne 8, 3) := dk_154 0 8 (dk_at dksX10_asks_0 5 rfl rfl)
theorem dX10_asks_8 : decode cX10_asks 8 = .ok (.aload_n 0, 1) := dk_42 (dk_at dksX10_asks_0 8 rfl rfl)
theorem dX10_asks_9 : decode cX10_asks 9 = .ok (.invokevirtual 93, 3) := dk_182 0 93 (dk_at dksX10_asks_0 9 rfl rfl)
theorem dX10_asks_12 : decode cX10_asks 12 = .ok (.athrow, 1) := dk_191 (dk_at dksX10_asks_0 12 rfl rfl)
theorem dX10_asks_13 : decode cX10_asks 13 = .ok (.return_, 1) := dk_177 (dk_at dksX10_asks_0 13 rfl rfl)
def dkwX10_number_2 : List UInt8 := [42, 180, 0, 72, 172]
abbrev dktX10_number_2 : List UInt8 := dkwX10_number_2 ++ []
def dkwX10_number_1 : List UInt8 := [184, 0, 99, 154, 0, 16, 187, 0, 54, 89, 7, 42, 180, 0, 40, 183, 0, 56, 191, 42, 3, 181, 0, 26]
abbrev dktX10_number_1 : List UInt8 := dkwX10_number_1 ++ dktX10_number_2
def dkwX10_number_0 : List UInt8 := [42, 182, 0, 75, 5, 159, 0, 8, 42, 182, 0, 93, 191, 42, 180, 0, 72, 133, 27, 133, 28, 133]
abbrev dktX10_number_0 : List UInt8 := dkwX10_number_0 ++ dktX10_number_1
theorem dksX10_number_0 : cX10_number.data.toList.drop 0 = dktX10_number_0 := by decide +kernel
theorem dksX10_number_1 : cX10_number.data.toList.drop 22 = dktX10_number_1 := dk_seg dksX10_number_0 22 rfl rfl
theorem dksX10_number_2 : cX10_number.data.toList.drop 46 = dktX10_number_2 := dk_seg dksX10_number_1 24 rfl rfl
theorem dX10_number_0 : decode cX10_number 0 = .ok (.aload_n 0, 1) := dk_42 (dk_at dksX10_number_0 0 rfl rfl)
theorem dX10_number_1 : decode cX10_number 1 = .ok (.invokevirtual 75, 3) := dk_182 0 75 (dk_at dksX10_number_0 1 rfl rfl)
theorem dX10_number_4 : decode cX10_number 4 = .ok (.iconst 2, 1) := dk_5 (dk_at dksX10_number_0 4 rfl rfl)
theorem dX10_number_5 : decode cX10_number 5 = .ok (.if_icmp .eq 8, 3) := dk_159 0 8 (dk_at dksX10_number_0 5 rfl rfl)
theorem dX10_number_8 : decode cX10_number 8 = .ok (.aload_n 0, 1) := dk_42 (dk_at dksX10_number_0 8 rfl rfl)
theorem dX10_number_9 : decode cX10_number 9 = .ok (.invokevirtual 93, 3) := dk_182 0 93 (dk_at dksX10_number_0 9 rfl rfl)
theorem dX10_number_12 : decode cX10_number 12 = .ok (.athrow, 1) := dk_191 (dk_at dksX10_number_0 12 rfl rfl)
theorem dX10_number_13 : decode cX10_number 13 = .ok (.aload_n 0, 1) := dk_42 (dk_at dksX10_number_0 13 rfl rfl)
theorem dX10_number_14 : decode cX10_number 14 = .ok (.getfield 72, 3) := dk_180 0 72 (dk_at dksX10_number_0 14 rfl rfl)
theorem dX10_number_17 : decode cX10_number 17 = .ok (.i2l, 1) := dk_133 (dk_at dksX10_number_0 17 rfl rfl)
theorem dX10_number_18 : decode cX10_number 18 = .ok (.iload_n 1, 1) := dk_27 (dk_at dksX10_number_0 18 rfl rfl)
theorem dX10_number_19 : decode cX10_number 19 = .ok (.i2l, 1) := dk_133 (dk_at dksX10_number_0 19 rfl rfl)
theorem dX10_number_20 : decode cX10_number 20 = .ok (.iload_n 2, 1) := dk_28 (dk_at dksX10_number_0 20 rfl rfl)
theorem dX10_number_21 : decode cX10_number 21 = .ok (.i2l, 1) := dk_133 (dk_at dksX10_number_0 21 rfl rfl)
theorem dX10_number_22 : decode cX10_number 22 = .ok (.invokestatic 99, 3) := dk_184 0 99 (dk_at dksX10_number_1 0 rfl rfl)
theorem dX10_number_25 : decode cX10_number 25 = .ok (.ifCond .ne 16, 3) := dk_154 0 16 (dk_at dksX10_number_1 3 rfl rfl)
theorem dX10_number_28 : decode cX10_number 28 = .ok (.new 54, 3) := dk_187 0 54 (dk_at dksX10_number_1 6 rfl rfl)
theorem dX10_number_31 : decode cX10_number 31 = .ok (.dup, 1) := dk_89 (dk_at dksX10_number_1 9 rfl rfl)
theorem dX10_number_32 : decode cX10_number 32 = .ok (.iconst 4, 1) := dk_7 (dk_at dksX10_number_1 10 rfl rfl)
theorem dX10_number_33 : decode cX10_number 33 = .ok (.aload_n 0, 1) := dk_42 (dk_at dksX10_number_1 11 rfl rfl)
theorem dX10_number_34 : decode cX10_number 34 = .ok (.getfield 40, 3) := dk_180 0 40 (dk_at dksX10_number_1 12 rfl rfl)
theorem dX10_number_37 : decode cX10_number 37 = .ok (.invokespecial 56, 3) := dk_183 0 56 (dk_at dksX10_number_1 15 rfl rfl)
theorem dX10_number_40 : decode cX10_number 40 = .ok (.athrow, 1) := dk_191 (dk_at dksX10_number_1 18 rfl rfl)
theorem dX10_number_41 : decode cX10_number 41 = .ok (.aload_n 0, 1) := dk_42 (dk_at dksX10_number_1 19 rfl rfl)
theorem dX10_number_42 : decode cX10_number 42 = .ok (.iconst 0, 1) := dk_3 (dk_at dksX10_number_1 20 rfl rfl)
theorem dX10_number_43 : decode cX10_number 43 = .ok (.putfield 26, 3) := dk_181 0 26 (dk_at dksX10_number_1 21 rfl rfl)
theorem dX10_number_46 : decode cX10_number 46 = .ok (.aload_n 0, 1) := dk_42 (dk_at dksX10_number_2 0 rfl rfl)
theorem dX10_number_47 : decode cX10_number 47 = .ok (.getfield 72, 3) := dk_180 0 72 (dk_at dksX10_number_2 1 rfl rfl)
theorem dX10_number_50 : decode cX10_number 50 = .ok (.ireturn, 1) := dk_172 (dk_at dksX10_number_2 4 rfl rfl)
def dkwX10_street_5 : List UInt8 := [192, 0, 131, 83, 167, 255, 179, 42, 180, 0, 22, 180, 0, 169, 44, 182, 0, 166, 87, 177]
abbrev dktX10_street_5 : List UInt8 := dkwX10_street_5 ++ []
def dkwX10_street_4 : List UInt8 := [182, 0, 141, 44, 180, 0, 179, 45, 180, 0, 183, 42, 42, 180, 0, 22, 180, 0, 119, 182, 0, 175]
abbrev dktX10_street_4 : List UInt8 := dkwX10_street_4 ++ dktX10_street_5
def dkwX10_street_3 : List UInt8 := [180, 0, 183, 50, 198, 0, 16, 187, 0, 54, 89, 6, 42, 180, 0, 40, 183, 0, 56, 191, 42, 18, 184]
abbrev dktX10_street_3 : List UInt8 := dkwX10_street_3 ++ dktX10_street_4
def dkwX10_street_2 : List UInt8 := [160, 0, 75, 42, 42, 180, 0, 22, 180, 0, 119, 182, 0, 175, 192, 0, 131, 78, 44, 180, 0, 179, 45]
abbrev dktX10_street_2 : List UInt8 := dkwX10_street_2 ++ dktX10_street_3
def dkwX10_street_1 : List UInt8 := [182, 0, 133, 42, 180, 0, 22, 180, 0, 169, 182, 0, 123, 183, 0, 174, 77, 42, 182, 0, 75, 4]
abbrev dktX10_street_1 : List UInt8 := dkwX10_street_1 ++ dktX10_street_2
def dkwX10_street_0 : List UInt8 := [42, 42, 180, 0, 22, 180, 0, 169, 182, 0, 123, 16, 6, 27, 182, 0, 127, 187, 0, 172, 89, 42]
abbrev dktX10_street_0 : List UInt8 := dkwX10_street_0 ++ dktX10_street_1
theorem dksX10_street_0 : cX10_street.data.toList.drop 0 = dktX10_street_0 := by decide +kernel
theorem dksX10_street_1 : cX10_street.data.toList.drop 22 = dktX10_street_1 := dk_seg dksX10_street_0 22 rfl rfl
theorem dksX10_street_2 : cX10_street.data.toList.drop 44 = dktX10_street_2 := dk_seg dksX10_street_1 22 rfl rfl
theorem dksX10_street_3 : cX10_street.data.toList.drop 67 = dktX10_street_3 := dk_seg dksX10_street_2 23 rfl rfl
theorem dksX10_street_4 : cX10_street.data.toList.drop 90 = dktX10_street_4 := dk_seg dksX10_street_3 23 rfl rfl
theorem dksX10_street_5 : cX10_street.data.toList.drop 112 = dktX10_street_5 := dk_seg dksX10_street_4 22 rfl rfl
theorem dX10_street_0 : decode cX10_street 0 = .ok (.aload_n 0, 1) := dk_42 (dk_at dksX10_street_0 0 rfl rfl)
theorem dX10_street_1 : decode cX10_street 1 = .ok (.aload_n 0, 1) := dk_42 (dk_at dksX10_street_0 1 rfl rfl)
theorem dX10_street_2 : decode cX10_street 2 = .ok (.getfield 22, 3) := dk_180 0 22 (dk_at dksX10_street_0 2 rfl rfl)
theorem dX10_street_5 : decode cX10_street 5 = .ok (.getfield 169, 3) := dk_180 0 169 (dk_at dksX10_street_0 5 rfl rfl)
theorem dX10_street_8 : decode cX10_street 8 = .ok (.invokevirtual 123, 3) := dk_182 0 123 (dk_at dksX10_street_0 8 rfl rfl)
theorem dX10_street_11 : decode cX10_street 11 = .ok (.bipush 6, 2) := dk_16 6 (dk_at dksX10_street_0 11 rfl rfl)
theorem dX10_street_13 : decode cX10_street 13 = .ok (.iload_n 1, 1) := dk_27 (dk_at dksX10_street_0 13 rfl rfl)
theorem dX10_street_14 : decode cX10_street 14 = .ok (.invokevirtual 127, 3) := dk_182 0 127 (dk_at dksX10_street_0 14 rfl rfl)
theorem dX10_street_17 : decode cX10_street 17 = .ok (.new 172, 3) := dk_187 0 172 (dk_at dksX10_street_0 17 rfl rfl)
theorem dX10_street_20 : decode cX10_street 20 = .ok (.dup, 1) := dk_89 (dk_at dksX10_street_0 20 rfl rfl)
theorem dX10_street_21 : decode cX10_street 21 = .ok (.aload_n 0, 1) := dk_42 (dk_at dksX10_street_0 21 rfl rfl)
theorem dX10_street_22 : decode cX10_street 22 = .ok (.invokevirtual 133, 3) := dk_182 0 133 (dk_at dksX10_street_1 0 rfl rfl)
theorem dX10_street_25 : decode cX10_street 25 = .ok (.aload_n 0, 1) := dk_42 (dk_at dksX10_street_1 3 rfl rfl)
theorem dX10_street_26 : decode cX10_street 26 = .ok (.getfield 22, 3) := dk_180 0 22 (dk_at dksX10_street_1 4 rfl rfl)
theorem dX10_street_29 : decode cX10_street 29 = .ok (.getfield 169, 3) := dk_180 0 169 (dk_at dksX10_street_1 7 rfl rfl)
theorem dX10_street_32 : decode cX10_street 32 = .ok (.invokevirtual 123, 3) := dk_182 0 123 (dk_at dksX10_street_1 10 rfl rfl)
theorem dX10_street_35 : decode cX10_street 35 = .ok (.invokespecial 174, 3) := dk_183 0 174 (dk_at dksX10_street_1 13 rfl rfl)
theorem dX10_street_38 : decode cX10_street 38 = .ok (.astore_n 2, 1) := dk_77 (dk_at dksX10_street_1 16 rfl rfl)
theorem dX10_street_39 : decode cX10_street 39 = .ok (.aload_n 0, 1) := dk_42 (dk_at dksX10_street_1 17 rfl rfl)
theorem dX10_street_40 : decode cX10_street 40 = .ok (.invokevirtual 75, 3) := dk_182 0 75 (dk_at dksX10_street_1 18 rfl rfl)
theorem dX10_street_43 : decode cX10_street 43 = .ok (.iconst 1, 1) := dk_4 (dk_at dksX10_street_1 21 rfl rfl)
theorem dX10_street_44 : decode cX10_street 44 = .ok (.if_icmp .ne 75, 3) := dk_160 0 75 (dk_at dksX10_street_2 0 rfl rfl)
theorem dX10_street_47 : decode cX10_street 47 = .ok (.aload_n 0, 1) := dk_42 (dk_at dksX10_street_2 3 rfl rfl)
theorem dX10_street_48 : decode cX10_street 48 = .ok (.aload_n 0, 1) := dk_42 (dk_at dksX10_street_2 4 rfl rfl)
theorem dX10_street_49 : decode cX10_street 49 = .ok (.getfield 22, 3) := dk_180 0 22 (dk_at dksX10_street_2 5 rfl rfl)
theorem dX10_street_52 : decode cX10_street 52 = .ok (.getfield 119, 3) := dk_180 0 119 (dk_at dksX10_street_2 8 rfl rfl)
theorem dX10_street_55 : decode cX10_street 55 = .ok (.invokevirtual 175, 3) := dk_182 0 175 (dk_at dksX10_street_2 11 rfl rfl)
theorem dX10_street_58 : decode cX10_street 58 = .ok (.checkcast 131, 3) := dk_192 0 131 (dk_at dksX10_street_2 14 rfl rfl)
theorem dX10_street_61 : decode cX10_street 61 = .ok (.astore_n 3, 1) := dk_78 (dk_at dksX10_street_2 17 rfl rfl)
theorem dX10_street_62 : decode cX10_street 62 = .ok (.aload_n 2, 1) := dk_44 (dk_at dksX10_street_2 18 rfl rfl)
theorem dX10_street_63 : decode cX10_street 63 = .ok (.getfield 179, 3) := dk_180 0 179 (dk_at dksX10_street_2 19 rfl rfl)
theorem dX10_street_66 : decode cX10_street 66 = .ok (.aload_n 3, 1) := dk_45 (dk_at dksX10_street_2 22 rfl rfl)
theorem dX10_street_67 : decode cX10_street 67 = .ok (.getfield 183, 3) := dk_180 0 183 (dk_at dksX10_street_3 0 rfl rfl)
theorem dX10_street_70 : decode cX10_street 70 = .ok (.aaload, 1) := dk_50 (dk_at dksX10_street_3 3 rfl rfl)
theorem dX10_street_71 : decode cX10_street 71 = .ok (.ifnull 16, 3) := dk_198 0 16 (dk_at dksX10_street_3 4 rfl rfl)
theorem dX10_street_74 : decode cX10_street 74 = .ok (.new 54, 3) := dk_187 0 54 (dk_at dksX10_street_3 7 rfl rfl)
theorem dX10_street_77 : decode cX10_street 77 = .ok (.dup, 1) := dk_89 (dk_at dksX10_street_3 10 rfl rfl)
theorem dX10_street_78 : decode cX10_street 78 = .ok (.iconst 3, 1) := dk_6 (dk_at dksX10_street_3 11 rfl rfl)
theorem dX10_street_79 : decode cX10_street 79 = .ok (.aload_n 0, 1) := dk_42 (dk_at dksX10_street_3 12 rfl rfl)
theorem dX10_street_80 : decode cX10_street 80 = .ok (.getfield 40, 3) := dk_180 0 40 (dk_at dksX10_street_3 13 rfl rfl)
theorem dX10_street_83 : decode cX10_street 83 = .ok (.invokespecial 56, 3) := dk_183 0 56 (dk_at dksX10_street_3 16 rfl rfl)
theorem dX10_street_86 : decode cX10_street 86 = .ok (.athrow, 1) := dk_191 (dk_at dksX10_street_3 19 rfl rfl)
theorem dX10_street_87 : decode cX10_street 87 = .ok (.aload_n 0, 1) := dk_42 (dk_at dksX10_street_3 20 rfl rfl)
theorem dX10_street_88 : decode cX10_street 88 = .ok (.ldc 184, 2) := dk_18 184 (dk_at dksX10_street_3 21 rfl rfl)
theorem dX10_street_90 : decode cX10_street 90 = .ok (.invokevirtual 141, 3) := dk_182 0 141 (dk_at dksX10_street_4 0 rfl rfl)
theorem dX10_street_93 : decode cX10_street 93 = .ok (.aload_n 2, 1) := dk_44 (dk_at dksX10_street_4 3 rfl rfl)
theorem dX10_street_94 : decode cX10_street 94 = .ok (.getfield 179, 3) := dk_180 0 179 (dk_at dksX10_street_4 4 rfl rfl)
theorem dX10_street_97 : decode cX10_street 97 = .ok (.aload_n 3, 1) := dk_45 (dk_at dksX10_street_4 7 rfl rfl)
theorem dX10_street_98 : decode cX10_street 98 = .ok (.getfield 183, 3) := dk_180 0 183 (dk_at dksX10_street_4 8 rfl rfl)
theorem dX10_street_101 : decode cX10_street 101 = .ok (.aload_n 0, 1) := dk_42 (dk_at dksX10_street_4 11 rfl rfl)
theorem dX10_street_102 : decode cX10_street 102 = .ok (.aload_n 0, 1) := dk_42 (dk_at dksX10_street_4 12 rfl rfl)
theorem dX10_street_103 : decode cX10_street 103 = .ok (.getfield 22, 3) := dk_180 0 22 (dk_at dksX10_street_4 13 rfl rfl)
theorem dX10_street_106 : decode cX10_street 106 = .ok (.getfield 119, 3) := dk_180 0 119 (dk_at dksX10_street_4 16 rfl rfl)
theorem dX10_street_109 : decode cX10_street 109 = .ok (.invokevirtual 175, 3) := dk_182 0 175 (dk_at dksX10_street_4 19 rfl rfl)
theorem dX10_street_112 : decode cX10_street 112 = .ok (.checkcast 131, 3) := dk_192 0 131 (dk_at dksX10_street_5 0 rfl rfl)
theorem dX10_street_115 : decode cX10_street 115 = .ok (.aastore, 1) := dk_83 (dk_at dksX10_street_5 3 rfl rfl)
theorem dX10_street_116 : decode cX10_street 116 = .ok (.goto (-77), 3) := dk_167 255 179 (dk_at dksX10_street_5 4 rfl rfl)
theorem dX10_street_119 : decode cX10_street 119 = .ok (.aload_n 0, 1) := dk_42 (dk_at dksX10_street_5 7 rfl rfl)
theorem dX10_street_120 : decode cX10_street 120 = .ok (.getfield 22, 3) := dk_180 0 22 (dk_at dksX10_street_5 8 rfl rfl)
theorem dX10_street_123 : decode cX10_street 123 = .ok (.getfield 169, 3) := dk_180 0 169 (dk_at dksX10_street_5 11 rfl rfl)
theorem dX10_street_126 : decode cX10_street 126 = .ok (.aload_n 2, 1) := dk_44 (dk_at dksX10_street_5 14 rfl rfl)
theorem dX10_street_127 : decode cX10_street 127 = .ok (.invokevirtual 166, 3) := dk_182 0 166 (dk_at dksX10_street_5 15 rfl rfl)
theorem dX10_street_130 : decode cX10_street 130 = .ok (.pop, 1) := dk_87 (dk_at dksX10_street_5 18 rfl rfl)
theorem dX10_street_131 : decode cX10_street 131 = .ok (.return_, 1) := dk_177 (dk_at dksX10_street_5 19 rfl rfl)
def dkwX10_known_1 : List UInt8 := [183, 0, 56, 191, 42, 3, 181, 0, 26, 44, 176]
abbrev dktX10_known_1 : List UInt8 := dkwX10_known_1 ++ []
def dkwX10_known_0 : List UInt8 := [43, 42, 182, 0, 106, 184, 0, 115, 77, 44, 199, 0, 16, 187, 0, 54, 89, 6, 42, 180, 0, 40]
abbrev dktX10_known_0 : List UInt8 := dkwX10_known_0 ++ dktX10_known_1
theorem dksX10_known_0 : cX10_known.data.toList.drop 0 = dktX10_known_0 := by decide +kernel
theorem dksX10_known_1 : cX10_known.data.toList.drop 22 = dktX10_known_1 := dk_seg dksX10_known_0 22 rfl rfl
theorem dX10_known_0 : decode cX10_known 0 = .ok (.aload_n 1, 1) := dk_43 (dk_at dksX10_known_0 0 rfl rfl)
theorem dX10_known_1 : decode cX10_known 1 = .ok (.aload_n 0, 1) := dk_42 (dk_at dksX10_known_0 1 rfl rfl)
theorem dX10_known_2 : decode cX10_known 2 = .ok (.invokevirtual 106, 3) := dk_182 0 106 (dk_at dksX10_known_0 2 rfl rfl)
theorem dX10_known_5 : decode cX10_known 5 = .ok (.invokestatic 115, 3) := dk_184 0 115 (dk_at dksX10_known_0 5 rfl rfl)
theorem dX10_known_8 : decode cX10_known 8 = .ok (.astore_n 2, 1) := dk_77 (dk_at dksX10_known_0 8 rfl rfl)
theorem dX10_known_9 : decode cX10_known 9 = .ok (.aload_n 2, 1) := dk_44 (dk_at dksX10_known_0 9 rfl rfl)
theorem dX10_known_10 : decode cX10_known 10 = .ok (.ifnonnull 16, 3) := dk_199 0 16 (dk_at dksX10_known_0 10 rfl rfl)
theorem dX10_known_13 : decode cX10_known 13 = .ok (.new 54, 3) := dk_187 0 54 (dk_at dksX10_known_0 13 rfl rfl)
theorem dX10_known_16 : decode cX10_known 16 = .ok (.dup, 1) := dk_89 (dk_at dksX10_known_0 16 rfl rfl)
theorem dX10_known_17 : decode cX10_known 17 = .ok (.iconst 3, 1) := dk_6 (dk_at dksX10_known_0 17 rfl rfl)
theorem dX10_known_18 : decode cX10_known 18 = .ok (.aload_n 0, 1) := dk_42 (dk_at dksX10_known_0 18 rfl rfl)
theorem dX10_known_19 : decode cX10_known 19 = .ok (.getfield 40, 3) := dk_180 0 40 (dk_at dksX10_known_0 19 rfl rfl)
theorem dX10_known_22 : decode cX10_known 22 = .ok (.invokespecial 56, 3) := dk_183 0 56 (dk_at dksX10_known_1 0 rfl rfl)
theorem dX10_known_25 : decode cX10_known 25 = .ok (.athrow, 1) := dk_191 (dk_at dksX10_known_1 3 rfl rfl)
theorem dX10_known_26 : decode cX10_known 26 = .ok (.aload_n 0, 1) := dk_42 (dk_at dksX10_known_1 4 rfl rfl)
theorem dX10_known_27 : decode cX10_known 27 = .ok (.iconst 0, 1) := dk_3 (dk_at dksX10_known_1 5 rfl rfl)
theorem dX10_known_28 : decode cX10_known 28 = .ok (.putfield 26, 3) := dk_181 0 26 (dk_at dksX10_known_1 6 rfl rfl)
theorem dX10_known_31 : decode cX10_known 31 = .ok (.aload_n 2, 1) := dk_44 (dk_at dksX10_known_1 9 rfl rfl)
theorem dX10_known_32 : decode cX10_known 32 = .ok (.areturn, 1) := dk_176 (dk_at dksX10_known_1 10 rfl rfl)
def dkwX10_child_7 : List UInt8 := [87, 177]
abbrev dktX10_child_7 : List UInt8 := dkwX10_child_7 ++ []
def dkwX10_child_6 : List UInt8 := [45, 89, 180, 0, 203, 4, 96, 181, 0, 203, 167, 255, 185, 42, 180, 0, 22, 180, 0, 186, 45, 182, 0, 166]
abbrev dktX10_child_6 : List UInt8 := dkwX10_child_6 ++ dktX10_child_7
def dkwX10_child_5 : List UInt8 := [187, 0, 54, 89, 6, 42, 180, 0, 40, 183, 0, 56, 191, 45, 180, 0, 200, 25, 4, 180, 0, 183, 4, 84]
abbrev dktX10_child_5 : List UInt8 := dkwX10_child_5 ++ dktX10_child_6
def dkwX10_child_4 : List UInt8 := [180, 0, 119, 182, 0, 175, 192, 0, 131, 58, 4, 45, 180, 0, 200, 25, 4, 180, 0, 183, 51, 153, 0, 16]
abbrev dktX10_child_4 : List UInt8 := dkwX10_child_4 ++ dktX10_child_5
def dkwX10_child_3 : List UInt8 := [4, 16, 60, 182, 0, 145, 181, 0, 198, 42, 182, 0, 75, 4, 160, 0, 69, 42, 42, 180, 0, 22]
abbrev dktX10_child_3 : List UInt8 := dkwX10_child_3 ++ dktX10_child_4
def dkwX10_child_2 : List UInt8 := [180, 0, 22, 180, 0, 169, 182, 0, 175, 192, 0, 172, 183, 0, 193, 78, 42, 18, 196, 182, 0, 141, 45, 42]
abbrev dktX10_child_2 : List UInt8 := dkwX10_child_2 ++ dktX10_child_3
def dkwX10_child_1 : List UInt8 := [18, 189, 182, 0, 141, 187, 0, 191, 89, 44, 42, 180, 0, 22, 180, 0, 186, 182, 0, 123, 42, 42]
abbrev dktX10_child_1 : List UInt8 := dkwX10_child_1 ++ dktX10_child_2
def dkwX10_child_0 : List UInt8 := [42, 42, 180, 0, 22, 180, 0, 186, 182, 0, 123, 16, 10, 27, 182, 0, 127, 42, 182, 0, 133, 77, 42]
abbrev dktX10_child_0 : List UInt8 := dkwX10_child_0 ++ dktX10_child_1
theorem dksX10_child_0 : cX10_child.data.toList.drop 0 = dktX10_child_0 := by decide +kernel
theorem dksX10_child_1 : cX10_child.data.toList.drop 23 = dktX10_child_1 := dk_seg dksX10_child_0 23 rfl rfl
theorem dksX10_child_2 : cX10_child.data.toList.drop 45 = dktX10_child_2 := dk_seg dksX10_child_1 22 rfl rfl
theorem dksX10_child_3 : cX10_child.data.toList.drop 69 = dktX10_child_3 := dk_seg dksX10_child_2 24 rfl rfl
theorem dksX10_child_4 : cX10_child.data.toList.drop 91 = dktX10_child_4 := dk_seg dksX10_child_3 22 rfl rfl
theorem dksX10_child_5 : cX10_child.data.toList.drop 115 = dktX10_child_5 := dk_seg dksX10_child_4 24 rfl rfl
theorem dksX10_child_6 : cX10_child.data.toList.drop 139 = dktX10_child_6 := dk_seg dksX10_child_5 24 rfl rfl
theorem dksX10_child_7 : cX10_child.data.toList.drop 163 = dktX10_child_7 := dk_seg dksX10_child_6 24 rfl rfl
theorem dX10_child_0 : decode cX10_child 0 = .ok (.aload_n 0, 1) := dk_42 (dk_at dksX10_child_0 0 rfl rfl)
theorem dX10_child_1 : decode cX10_child 1 = .ok (.aload_n 0, 1) := dk_42 (dk_at dksX10_child_0 1 rfl rfl)
theorem dX10_child_2 : decode cX10_child 2 = .ok (.getfield 22, 3) := dk_180 0 22 (dk_at dksX10_child_0 2 rfl rfl)
theorem dX10_child_5 : decode cX10_child 5 = .ok (.getfield 186, 3) := dk_180 0 186 (dk_at dksX10_child_0 5 rfl rfl)
theorem dX10_child_8 : decode cX10_child 8 = .ok (.invokevirtual 123, 3) := dk_182 0 123 (dk_at dksX10_child_0 8 rfl rfl)
theorem dX10_child_11 : decode cX10_child 11 = .ok (.bipush 10, 2) := dk_16 10 (dk_at dksX10_child_0 11 rfl rfl)
theorem dX10_child_13 : decode cX10_child 13 = .ok (.iload_n 1, 1) := dk_27 (dk_at dksX10_child_0 13 rfl rfl)
theorem dX10_child_14 : decode cX10_child 14 = .ok (.invokevirtual 127, 3) := dk_182 0 127 (dk_at dksX10_child_0 14 rfl rfl)
theorem dX10_child_17 : decode cX10_child 17 = .ok (.aload_n 0, 1) := dk_42 (dk_at dksX10_child_0 17 rfl rfl)
theorem dX10_child_18 : decode cX10_child 18 = .ok (.invokevirtual 133, 3) := dk_182 0 133 (dk_at dksX10_child_0 18 rfl rfl)
theorem dX10_child_21 : decode cX10_child 21 = .ok (.astore_n 2, 1) := dk_77 (dk_at dksX10_child_0 21 rfl rfl)
theorem dX10_child_22 : decode cX10_child 22 = .ok (.aload_n 0, 1) := dk_42 (dk_at dksX10_child_0 22 rfl rfl)
theorem dX10_child_23 : decode cX10_child 23 = .ok (.ldc 189, 2) := dk_18 189 (dk_at dksX10_child_1 0 rfl rfl)
theorem dX10_child_25 : decode cX10_child 25 = .ok (.invokevirtual 141, 3) := dk_182 0 141 (dk_at dksX10_child_1 2 rfl rfl)
theorem dX10_child_28 : decode cX10_child 28 = .ok (.new 191, 3) := dk_187 0 191 (dk_at dksX10_child_1 5 rfl rfl)
theorem dX10_child_31 : decode cX10_child 31 = .ok (.dup, 1) := dk_89 (dk_at dksX10_child_1 8 rfl rfl)
theorem dX10_child_32 : decode cX10_child 32 = .ok (.aload_n 2, 1) := dk_44 (dk_at dksX10_child_1 9 rfl rfl)
theorem dX10_child_33 : decode cX10_child 33 = .ok (.aload_n 0, 1) := dk_42 (dk_at dksX10_child_1 10 rfl rfl)
theorem dX10_child_34 : decode cX10_child 34 = .ok (.getfield 22, 3) := dk_180 0 22 (dk_at dksX10_child_1 11 rfl rfl)
theorem dX10_child_37 : decode cX10_child 37 = .ok (.getfield 186, 3) := dk_180 0 186 (dk_at dksX10_child_1 14 rfl rfl)
theorem dX10_child_40 : decode cX10_child 40 = .ok (.invokevirtual 123, 3) := dk_182 0 123 (dk_at dksX10_child_1 17 rfl rfl)
theorem dX10_child_43 : decode cX10_child 43 = .ok (.aload_n 0, 1) := dk_42 (dk_at dksX10_child_1 20 rfl rfl)
theorem dX10_child_44 : decode cX10_child 44 = .ok (.aload_n 0, 1) := dk_42 (dk_at dksX10_child_1 21 rfl rfl)
theorem dX10_child_45 : decode cX10_child 45 = .ok (.getfield 22, 3) := dk_180 0 22 (dk_at dksX10_child_2 0 rfl rfl)
theorem dX10_child_48 : decode cX10_child 48 = .ok (.getfield 169, 3) := dk_180 0 169 (dk_at dksX10_child_2 3 rfl rfl)
theorem dX10_child_51 : decode cX10_child 51 = .ok (.invokevirtual 175, 3) := dk_182 0 175 (dk_at dksX10_child_2 6 rfl rfl)
theorem dX10_child_54 : decode cX10_child 54 = .ok (.checkcast 172, 3) := dk_192 0 172 (dk_at dksX10_child_2 9 rfl rfl)
theorem dX10_child_57 : decode cX10_child 57 = .ok (.invokespecial 193, 3) := dk_183 0 193 (dk_at dksX10_child_2 12 rfl rfl)
theorem dX10_child_60 : decode cX10_child 60 = .ok (.astore_n 3, 1) := dk_78 (dk_at dksX10_child_2 15 rfl rfl)
theorem dX10_child_61 : decode cX10_child 61 = .ok (.aload_n 0, 1) := dk_42 (dk_at dksX10_child_2 16 rfl rfl)
theorem dX10_child_62 : decode cX10_child 62 = .ok (.ldc 196, 2) := dk_18 196 (dk_at dksX10_child_2 17 rfl rfl)
theorem dX10_child_64 : decode cX10_child 64 = .ok (.invokevirtual 141, 3) := dk_182 0 141 (dk_at dksX10_child_2 19 rfl rfl)
theorem dX10_child_67 : decode cX10_child 67 = .ok (.aload_n 3, 1) := dk_45 (dk_at dksX10_child_2 22 rfl rfl)
theorem dX10_child_68 : decode cX10_child 68 = .ok (.aload_n 0, 1) := dk_42 (dk_at dksX10_child_2 23 rfl rfl)
theorem dX10_child_69 : decode cX10_child 69 = .ok (.iconst 1, 1) := dk_4 (dk_at dksX10_child_3 0 rfl rfl)
theorem dX10_child_70 : decode cX10_child 70 = .ok (.bipush 60, 2) := dk_16 60 (dk_at dksX10_child_3 1 rfl rfl)
theorem dX10_child_72 : decode cX10_child 72 = .ok (.invokevirtual 145, 3) := dk_182 0 145 (dk_at dksX10_child_3 3 rfl rfl)
theorem dX10_child_75 : decode cX10_child 75 = .ok (.putfield 198, 3) := dk_181 0 198 (dk_at dksX10_child_3 6 rfl rfl)
theorem dX10_child_78 : decode cX10_child 78 = .ok (.aload_n 0, 1) := dk_42 (dk_at dksX10_child_3 9 rfl rfl)
theorem dX10_child_79 : decode cX10_child 79 = .ok (.invokevirtual 75, 3) := dk_182 0 75 (dk_at dksX10_child_3 10 rfl rfl)
theorem dX10_child_82 : decode cX10_child 82 = .ok (.iconst 1, 1) := dk_4 (dk_at dksX10_child_3 13 rfl rfl)
theorem dX10_child_83 : decode cX10_child 83 = .ok (.if_icmp .ne 69, 3) := dk_160 0 69 (dk_at dksX10_child_3 14 rfl rfl)
theorem dX10_child_86 : decode cX10_child 86 = .ok (.aload_n 0, 1) := dk_42 (dk_at dksX10_child_3 17 rfl rfl)
theorem dX10_child_87 : decode cX10_child 87 = .ok (.aload_n 0, 1) := dk_42 (dk_at dksX10_child_3 18 rfl rfl)
theorem dX10_child_88 : decode cX10_child 88 = .ok (.getfield 22, 3) := dk_180 0 22 (dk_at dksX10_child_3 19 rfl rfl)
theorem dX10_child_91 : decode cX10_child 91 = .ok (.getfield 119, 3) := dk_180 0 119 (dk_at dksX10_child_4 0 rfl rfl)
theorem dX10_child_94 : decode cX10_child 94 = .ok (.invokevirtual 175, 3) := dk_182 0 175 (dk_at dksX10_child_4 3 rfl rfl)
theorem dX10_child_97 : decode cX10_child 97 = .ok (.checkcast 131, 3) := dk_192 0 131 (dk_at dksX10_child_4 6 rfl rfl)
theorem dX10_child_100 : decode cX10_child 100 = .ok (.astore 4, 2) := dk_58 4 (dk_at dksX10_child_4 9 rfl rfl)
theorem dX10_child_102 : decode cX10_child 102 = .ok (.aload_n 3, 1) := dk_45 (dk_at dksX10_child_4 11 rfl rfl)
theorem dX10_child_103 : decode cX10_child 103 = .ok (.getfield 200, 3) := dk_180 0 200 (dk_at dksX10_child_4 12 rfl rfl)
theorem dX10_child_106 : decode cX10_child 106 = .ok (.aload 4, 2) := dk_25 4 (dk_at dksX10_child_4 15 rfl rfl)
theorem dX10_child_108 : decode cX10_child 108 = .ok (.getfield 183, 3) := dk_180 0 183 (dk_at dksX10_child_4 17 rfl rfl)
theorem dX10_child_111 : decode cX10_child 111 = .ok (.baload, 1) := dk_51 (dk_at dksX10_child_4 20 rfl rfl)
theorem dX10_child_112 : decode cX10_child 112 = .ok (.ifCond .eq 16, 3) := dk_153 0 16 (dk_at dksX10_child_4 21 rfl rfl)
theorem dX10_child_115 : decode cX10_child 115 = .ok (.new 54, 3) := dk_187 0 54 (dk_at dksX10_child_5 0 rfl rfl)
theorem dX10_child_118 : decode cX10_child 118 = .ok (.dup, 1) := dk_89 (dk_at dksX10_child_5 3 rfl rfl)
theorem dX10_child_119 : decode cX10_child 119 = .ok (.iconst 3, 1) := dk_6 (dk_at dksX10_child_5 4 rfl rfl)
theorem dX10_child_120 : decode cX10_child 120 = .ok (.aload_n 0, 1) := dk_42 (dk_at dksX10_child_5 5 rfl rfl)
theorem dX10_child_121 : decode cX10_child 121 = .ok (.getfield 40, 3) := dk_180 0 40 (dk_at dksX10_child_5 6 rfl rfl)
theorem dX10_child_124 : decode cX10_child 124 = .ok (.invokespecial 56, 3) := dk_183 0 56 (dk_at dksX10_child_5 9 rfl rfl)
theorem dX10_child_127 : decode cX10_child 127 = .ok (.athrow, 1) := dk_191 (dk_at dksX10_child_5 12 rfl rfl)
theorem dX10_child_128 : decode cX10_child 128 = .ok (.aload_n 3, 1) := dk_45 (dk_at dksX10_child_5 13 rfl rfl)
theorem dX10_child_129 : decode cX10_child 129 = .ok (.getfield 200, 3) := dk_180 0 200 (dk_at dksX10_child_5 14 rfl rfl)
theorem dX10_child_132 : decode cX10_child 132 = .ok (.aload 4, 2) := dk_25 4 (dk_at dksX10_child_5 17 rfl rfl)
theorem dX10_child_134 : decode cX10_child 134 = .ok (.getfield 183, 3) := dk_180 0 183 (dk_at dksX10_child_5 19 rfl rfl)
theorem dX10_child_137 : decode cX10_child 137 = .ok (.iconst 1, 1) := dk_4 (dk_at dksX10_child_5 22 rfl rfl)
theorem dX10_child_138 : decode cX10_child 138 = .ok (.bastore, 1) := dk_84 (dk_at dksX10_child_5 23 rfl rfl)
theorem dX10_child_139 : decode cX10_child 139 = .ok (.aload_n 3, 1) := dk_45 (dk_at dksX10_child_6 0 rfl rfl)
theorem dX10_child_140 : decode cX10_child 140 = .ok (.dup, 1) := dk_89 (dk_at dksX10_child_6 1 rfl rfl)
theorem dX10_child_141 : decode cX10_child 141 = .ok (.getfield 203, 3) := dk_180 0 203 (dk_at dksX10_child_6 2 rfl rfl)
theorem dX10_child_144 : decode cX10_child 144 = .ok (.iconst 1, 1) := dk_4 (dk_at dksX10_child_6 5 rfl rfl)
theorem dX10_child_145 : decode cX10_child 145 = .ok (.iadd, 1) := dk_96 (dk_at dksX10_child_6 6 rfl rfl)
theorem dX10_child_146 : decode cX10_child 146 = .ok (.putfield 203, 3) := dk_181 0 203 (dk_at dksX10_child_6 7 rfl rfl)
theorem dX10_child_149 : decode cX10_child 149 = .ok (.goto (-71), 3) := dk_167 255 185 (dk_at dksX10_child_6 10 rfl rfl)
theorem dX10_child_152 : decode cX10_child 152 = .ok (.aload_n 0, 1) := dk_42 (dk_at dksX10_child_6 13 rfl rfl)
theorem dX10_child_153 : decode cX10_child 153 = .ok (.getfield 22, 3) := dk_180 0 22 (dk_at dksX10_child_6 14 rfl rfl)
theorem dX10_child_156 : decode cX10_child 156 = .ok (.getfield 186, 3) := dk_180 0 186 (dk_at dksX10_child_6 17 rfl rfl)
theorem dX10_child_159 : decode cX10_child 159 = .ok (.aload_n 3, 1) := dk_45 (dk_at dksX10_child_6 20 rfl rfl)
theorem dX10_child_160 : decode cX10_child 160 = .ok (.invokevirtual 166, 3) := dk_182 0 166 (dk_at dksX10_child_6 21 rfl rfl)
theorem dX10_child_163 : decode cX10_child 163 = .ok (.pop, 1) := dk_87 (dk_at dksX10_child_7 0 rfl rfl)
theorem dX10_child_164 : decode cX10_child 164 = .ok (.return_, 1) := dk_177 (dk_at dksX10_child_7 1 rfl rfl)
def dkwX10_law_3 : List UInt8 := [180, 0, 230, 44, 182, 0, 166, 87, 42, 180, 0, 22, 180, 0, 244, 44, 182, 0, 166, 87, 177]
abbrev dktX10_law_3 : List UInt8 := dkwX10_law_3 ++ []
def dkwX10_law_2 : List UInt8 := [181, 0, 238, 42, 18, 240, 182, 0, 141, 42, 44, 180, 0, 241, 182, 0, 226, 87, 42, 180, 0, 22]
abbrev dktX10_law_2 : List UInt8 := dkwX10_law_2 ++ dktX10_law_3
def dkwX10_law_1 : List UInt8 := [182, 0, 133, 42, 180, 0, 22, 180, 0, 230, 182, 0, 123, 183, 0, 235, 77, 44, 42, 18, 236, 182, 0, 97]
abbrev dktX10_law_1 : List UInt8 := dkwX10_law_1 ++ dktX10_law_2
def dkwX10_law_0 : List UInt8 := [42, 42, 180, 0, 22, 180, 0, 230, 182, 0, 123, 16, 12, 27, 182, 0, 127, 187, 0, 233, 89, 42]
abbrev dktX10_law_0 : List UInt8 := dkwX10_law_0 ++ dktX10_law_1
theorem dksX10_law_0 : cX10_law.data.toList.drop 0 = dktX10_law_0 := by decide +kernel
theorem dksX10_law_1 : cX10_law.data.toList.drop 22 = dktX10_law_1 := dk_seg dksX10_law_0 22 rfl rfl
theorem dksX10_law_2 : cX10_law.data.toList.drop 46 = dktX10_law_2 := dk_seg dksX10_law_1 24 rfl rfl
theorem dksX10_law_3 : cX10_law.data.toList.drop 68 = dktX10_law_3 := dk_seg dksX10_law_2 22 rfl rfl
theorem dX10_law_0 : decode cX10_law 0 = .ok (.aload_n 0, 1) := dk_42 (dk_at dksX10_law_0 0 rfl rfl)
theorem dX10_law_1 : decode cX10_law 1 = .ok (.aload_n 0, 1) := dk_42 (dk_at dksX10_law_0 1 rfl rfl)
theorem dX10_law_2 : decode cX10_law 2 = .ok (.getfield 22, 3) := dk_180 0 22 (dk_at dksX10_law_0 2 rfl rfl)
theorem dX10_law_5 : decode cX10_law 5 = .ok (.getfield 230, 3) := dk_180 0 230 (dk_at dksX10_law_0 5 rfl rfl)
theorem dX10_law_8 : decode cX10_law 8 = .ok (.invokevirtual 123, 3) := dk_182 0 123 (dk_at dksX10_law_0 8 rfl rfl)
theorem dX10_law_11 : decode cX10_law 11 = .ok (.bipush 12, 2) := dk_16 12 (dk_at dksX10_law_0 11 rfl rfl)
theorem dX10_law_13 : decode cX10_law 13 = .ok (.iload_n 1, 1) := dk_27 (dk_at dksX10_law_0 13 rfl rfl)
theorem dX10_law_14 : decode cX10_law 14 = .ok (.invokevirtual 127, 3) := dk_182 0 127 (dk_at dksX10_law_0 14 rfl rfl)
theorem dX10_law_17 : decode cX10_law 17 = .ok (.new 233, 3) := dk_187 0 233 (dk_at dksX10_law_0 17 rfl rfl)
theorem dX10_law_20 : decode cX10_law 20 = .ok (.dup, 1) := dk_89 (dk_at dksX10_law_0 20 rfl rfl)
theorem dX10_law_21 : decode cX10_law 21 = .ok (.aload_n 0, 1) := dk_42 (dk_at dksX10_law_0 21 rfl rfl)
theorem dX10_law_22 : decode cX10_law 22 = .ok (.invokevirtual 133, 3) := dk_182 0 133 (dk_at dksX10_law_1 0 rfl rfl)
theorem dX10_law_25 : decode cX10_law 25 = .ok (.aload_n 0, 1) := dk_42 (dk_at dksX10_law_1 3 rfl rfl)
theorem dX10_law_26 : decode cX10_law 26 = .ok (.getfield 22, 3) := dk_180 0 22 (dk_at dksX10_law_1 4 rfl rfl)
theorem dX10_law_29 : decode cX10_law 29 = .ok (.getfield 230, 3) := dk_180 0 230 (dk_at dksX10_law_1 7 rfl rfl)
theorem dX10_law_32 : decode cX10_law 32 = .ok (.invokevirtual 123, 3) := dk_182 0 123 (dk_at dksX10_law_1 10 rfl rfl)
theorem dX10_law_35 : decode cX10_law 35 = .ok (.invokespecial 235, 3) := dk_183 0 235 (dk_at dksX10_law_1 13 rfl rfl)
theorem dX10_law_38 : decode cX10_law 38 = .ok (.astore_n 2, 1) := dk_77 (dk_at dksX10_law_1 16 rfl rfl)
theorem dX10_law_39 : decode cX10_law 39 = .ok (.aload_n 2, 1) := dk_44 (dk_at dksX10_law_1 17 rfl rfl)
theorem dX10_law_40 : decode cX10_law 40 = .ok (.aload_n 0, 1) := dk_42 (dk_at dksX10_law_1 18 rfl rfl)
theorem dX10_law_41 : decode cX10_law 41 = .ok (.ldc 236, 2) := dk_18 236 (dk_at dksX10_law_1 19 rfl rfl)
theorem dX10_law_43 : decode cX10_law 43 = .ok (.invokevirtual 97, 3) := dk_182 0 97 (dk_at dksX10_law_1 21 rfl rfl)
theorem dX10_law_46 : decode cX10_law 46 = .ok (.putfield 238, 3) := dk_181 0 238 (dk_at dksX10_law_2 0 rfl rfl)
theorem dX10_law_49 : decode cX10_law 49 = .ok (.aload_n 0, 1) := dk_42 (dk_at dksX10_law_2 3 rfl rfl)
theorem dX10_law_50 : decode cX10_law 50 = .ok (.ldc 240, 2) := dk_18 240 (dk_at dksX10_law_2 4 rfl rfl)
theorem dX10_law_52 : decode cX10_law 52 = .ok (.invokevirtual 141, 3) := dk_182 0 141 (dk_at dksX10_law_2 6 rfl rfl)
theorem dX10_law_55 : decode cX10_law 55 = .ok (.aload_n 0, 1) := dk_42 (dk_at dksX10_law_2 9 rfl rfl)
theorem dX10_law_56 : decode cX10_law 56 = .ok (.aload_n 2, 1) := dk_44 (dk_at dksX10_law_2 10 rfl rfl)
theorem dX10_law_57 : decode cX10_law 57 = .ok (.getfield 241, 3) := dk_180 0 241 (dk_at dksX10_law_2 11 rfl rfl)
theorem dX10_law_60 : decode cX10_law 60 = .ok (.invokevirtual 226, 3) := dk_182 0 226 (dk_at dksX10_law_2 14 rfl rfl)
theorem dX10_law_63 : decode cX10_law 63 = .ok (.pop, 1) := dk_87 (dk_at dksX10_law_2 17 rfl rfl)
theorem dX10_law_64 : decode cX10_law 64 = .ok (.aload_n 0, 1) := dk_42 (dk_at dksX10_law_2 18 rfl rfl)
theorem dX10_law_65 : decode cX10_law 65 = .ok (.getfield 22, 3) := dk_180 0 22 (dk_at dksX10_law_2 19 rfl rfl)
theorem dX10_law_68 : decode cX10_law 68 = .ok (.getfield 230, 3) := dk_180 0 230 (dk_at dksX10_law_3 0 rfl rfl)
theorem dX10_law_71 : decode cX10_law 71 = .ok (.aload_n 2, 1) := dk_44 (dk_at dksX10_law_3 3 rfl rfl)
theorem dX10_law_72 : decode cX10_law 72 = .ok (.invokevirtual 166, 3) := dk_182 0 166 (dk_at dksX10_law_3 4 rfl rfl)
theorem dX10_law_75 : decode cX10_law 75 = .ok (.pop, 1) := dk_87 (dk_at dksX10_law_3 7 rfl rfl)
theorem dX10_law_76 : decode cX10_law 76 = .ok (.aload_n 0, 1) := dk_42 (dk_at dksX10_law_3 8 rfl rfl)
theorem dX10_law_77 : decode cX10_law 77 = .ok (.getfield 22, 3) := dk_180 0 22 (dk_at dksX10_law_3 9 rfl rfl)
theorem dX10_law_80 : decode cX10_law 80 = .ok (.getfield 244, 3) := dk_180 0 244 (dk_at dksX10_law_3 12 rfl rfl)
theorem dX10_law_83 : decode cX10_law 83 = .ok (.aload_n 2, 1) := dk_44 (dk_at dksX10_law_3 15 rfl rfl)
theorem dX10_law_84 : decode cX10_law 84 = .ok (.invokevirtual 166, 3) := dk_182 0 166 (dk_at dksX10_law_3 16 rfl rfl)
theorem dX10_law_87 : decode cX10_law 87 = .ok (.pop, 1) := dk_87 (dk_at dksX10_law_3 19 rfl rfl)
theorem dX10_law_88 : decode cX10_law 88 = .ok (.return_, 1) := dk_177 (dk_at dksX10_law_3 20 rfl rfl)
def dkwX10_row_1 : List UInt8 := [43, 180, 0, 219, 7, 182, 0, 216, 167, 0, 4, 3, 181, 0, 224, 43, 176]
abbrev dktX10_row_1 : List UInt8 := dkwX10_row_1 ++ []
def dkwX10_row_0 : List UInt8 := [43, 42, 43, 3, 16, 8, 182, 0, 216, 181, 0, 219, 43, 42, 18, 222, 182, 0, 97, 153, 0, 16, 42, 43]
abbrev dktX10_row_0 : List UInt8 := dkwX10_row_0 ++ dktX10_row_1
theorem dksX10_row_0 : cX10_row.data.toList.drop 0 = dktX10_row_0 := by decide +kernel
theorem dksX10_row_1 : cX10_row.data.toList.drop 24 = dktX10_row_1 := dk_seg dksX10_row_0 24 rfl rfl
theorem dX10_row_0 : decode cX10_row 0 = .ok (.aload_n 1, 1) := dk_43 (dk_at dksX10_row_0 0 rfl rfl)
theorem dX10_row_1 : decode cX10_row 1 = .ok (.aload_n 0, 1) := dk_42 (dk_at dksX10_row_0 1 rfl rfl)
theorem dX10_row_2 : decode cX10_row 2 = .ok (.aload_n 1, 1) := dk_43 (dk_at dksX10_row_0 2 rfl rfl)
theorem dX10_row_3 : decode cX10_row 3 = .ok (.iconst 0, 1) := dk_3 (dk_at dksX10_row_0 3 rfl rfl)
theorem dX10_row_4 : decode cX10_row 4 = .ok (.bipush 8, 2) := dk_16 8 (dk_at dksX10_row_0 4 rfl rfl)
theorem dX10_row_6 : decode cX10_row 6 = .ok (.invokevirtual 216, 3) := dk_182 0 216 (dk_at dksX10_row_0 6 rfl rfl)
theorem dX10_row_9 : decode cX10_row 9 = .ok (.putfield 219, 3) := dk_181 0 219 (dk_at dksX10_row_0 9 rfl rfl)
theorem dX10_row_12 : decode cX10_row 12 = .ok (.aload_n 1, 1) := dk_43 (dk_at dksX10_row_0 12 rfl rfl)
theorem dX10_row_13 : decode cX10_row 13 = .ok (.aload_n 0, 1) := dk_42 (dk_at dksX10_row_0 13 rfl rfl)
theorem dX10_row_14 : decode cX10_row 14 = .ok (.ldc 222, 2) := dk_18 222 (dk_at dksX10_row_0 14 rfl rfl)
theorem dX10_row_16 : decode cX10_row 16 = .ok (.invokevirtual 97, 3) := dk_182 0 97 (dk_at dksX10_row_0 16 rfl rfl)
theorem dX10_row_19 : decode cX10_row 19 = .ok (.ifCond .eq 16, 3) := dk_153 0 16 (dk_at dksX10_row_0 19 rfl rfl)
theorem dX10_row_22 : decode cX10_row 22 = .ok (.aload_n 0, 1) := dk_42 (dk_at dksX10_row_0 22 rfl rfl)
theorem dX10_row_23 : decode cX10_row 23 = .ok (.aload_n 1, 1) := dk_43 (dk_at dksX10_row_0 23 rfl rfl)
theorem dX10_row_24 : decode cX10_row 24 = .ok (.aload_n 1, 1) := dk_43 (dk_at dksX10_row_1 0 rfl rfl)
theorem dX10_row_25 : decode cX10_row 25 = .ok (.getfield 219, 3) := dk_180 0 219 (dk_at dksX10_row_1 1 rfl rfl)
theorem dX10_row_28 : decode cX10_row 28 = .ok (.iconst 4, 1) := dk_7 (dk_at dksX10_row_1 4 rfl rfl)
theorem dX10_row_29 : decode cX10_row 29 = .ok (.invokevirtual 216, 3) := dk_182 0 216 (dk_at dksX10_row_1 5 rfl rfl)
theorem dX10_row_32 : decode cX10_row 32 = .ok (.goto 4, 3) := dk_167 0 4 (dk_at dksX10_row_1 8 rfl rfl)
theorem dX10_row_35 : decode cX10_row 35 = .ok (.iconst 0, 1) := dk_3 (dk_at dksX10_row_1 11 rfl rfl)
theorem dX10_row_36 : decode cX10_row 36 = .ok (.putfield 224, 3) := dk_181 0 224 (dk_at dksX10_row_1 12 rfl rfl)
theorem dX10_row_39 : decode cX10_row 39 = .ok (.aload_n 1, 1) := dk_43 (dk_at dksX10_row_1 15 rfl rfl)
theorem dX10_row_40 : decode cX10_row 40 = .ok (.areturn, 1) := dk_176 (dk_at dksX10_row_1 16 rfl rfl)
def dkwX10_words_4 : List UInt8 := [167, 255, 189, 21, 4, 172]
abbrev dktX10_words_4 : List UInt8 := dkwX10_words_4 ++ []
def dkwX10_words_3 : List UInt8 := [42, 42, 180, 0, 22, 180, 0, 119, 182, 0, 175, 192, 0, 131, 83, 132, 4, 1, 42, 182, 0, 209, 58, 5]
abbrev dktX10_words_3 : List UInt8 := dkwX10_words_3 ++ dktX10_words_4
def dkwX10_words_2 : List UInt8 := [160, 0, 16, 187, 0, 54, 89, 8, 42, 180, 0, 40, 183, 0, 56, 191, 43, 180, 0, 205, 28, 21, 4, 96]
abbrev dktX10_words_2 : List UInt8 := dkwX10_words_2 ++ dktX10_words_3
def dkwX10_words_1 : List UInt8 := [182, 0, 209, 58, 5, 25, 5, 182, 0, 212, 154, 0, 65, 25, 5, 184, 0, 103, 154, 0, 57, 21, 4, 29]
abbrev dktX10_words_1 : List UInt8 := dkwX10_words_1 ++ dktX10_words_2
def dkwX10_words_0 : List UInt8 := [43, 180, 0, 205, 28, 42, 42, 180, 0, 22, 180, 0, 119, 182, 0, 175, 192, 0, 131, 83, 4, 54, 4, 42]
abbrev dktX10_words_0 : List UInt8 := dkwX10_words_0 ++ dktX10_words_1
theorem dksX10_words_0 : cX10_words.data.toList.drop 0 = dktX10_words_0 := by decide +kernel
theorem dksX10_words_1 : cX10_words.data.toList.drop 24 = dktX10_words_1 := dk_seg dksX10_words_0 24 rfl rfl
theorem dksX10_words_2 : cX10_words.data.toList.drop 48 = dktX10_words_2 := dk_seg dksX10_words_1 24 rfl rfl
theorem dksX10_words_3 : cX10_words.data.toList.drop 72 = dktX10_words_3 := dk_seg dksX10_words_2 24 rfl rfl
theorem dksX10_words_4 : cX10_words.data.toList.drop 96 = dktX10_words_4 := dk_seg dksX10_words_3 24 rfl rfl
theorem dX10_words_0 : decode cX10_words 0 = .ok (.aload_n 1, 1) := dk_43 (dk_at dksX10_words_0 0 rfl rfl)
theorem dX10_words_1 : decode cX10_words 1 = .ok (.getfield 205, 3) := dk_180 0 205 (dk_at dksX10_words_0 1 rfl rfl)
theorem dX10_words_4 : decode cX10_words 4 = .ok (.iload_n 2, 1) := dk_28 (dk_at dksX10_words_0 4 rfl rfl)
theorem dX10_words_5 : decode cX10_words 5 = .ok (.aload_n 0, 1) := dk_42 (dk_at dksX10_words_0 5 rfl rfl)
theorem dX10_words_6 : decode cX10_words 6 = .ok (.aload_n 0, 1) := dk_42 (dk_at dksX10_words_0 6 rfl rfl)
theorem dX10_words_7 : decode cX10_words 7 = .ok (.getfield 22, 3) := dk_180 0 22 (dk_at dksX10_words_0 7 rfl rfl)
theorem dX10_words_10 : decode cX10_words 10 = .ok (.getfield 119, 3) := dk_180 0 119 (dk_at dksX10_words_0 10 rfl rfl)
theorem dX10_words_13 : decode cX10_words 13 = .ok (.invokevirtual 175, 3) := dk_182 0 175 (dk_at dksX10_words_0 13 rfl rfl)
theorem dX10_words_16 : decode cX10_words 16 = .ok (.checkcast 131, 3) := dk_192 0 131 (dk_at dksX10_words_0 16 rfl rfl)
theorem dX10_words_19 : decode cX10_words 19 = .ok (.aastore, 1) := dk_83 (dk_at dksX10_words_0 19 rfl rfl)
theorem dX10_words_20 : decode cX10_words 20 = .ok (.iconst 1, 1) := dk_4 (dk_at dksX10_words_0 20 rfl rfl)
theorem dX10_words_21 : decode cX10_words 21 = .ok (.istore 4, 2) := dk_54 4 (dk_at dksX10_words_0 21 rfl rfl)
theorem dX10_words_23 : decode cX10_words 23 = .ok (.aload_n 0, 1) := dk_42 (dk_at dksX10_words_0 23 rfl rfl)
theorem dX10_words_24 : decode cX10_words 24 = .ok (.invokevirtual 209, 3) := dk_182 0 209 (dk_at dksX10_words_1 0 rfl rfl)
theorem dX10_words_27 : decode cX10_words 27 = .ok (.astore 5, 2) := dk_58 5 (dk_at dksX10_words_1 3 rfl rfl)
theorem dX10_words_29 : decode cX10_words 29 = .ok (.aload 5, 2) := dk_25 5 (dk_at dksX10_words_1 5 rfl rfl)
theorem dX10_words_31 : decode cX10_words 31 = .ok (.invokevirtual 212, 3) := dk_182 0 212 (dk_at dksX10_words_1 7 rfl rfl)
theorem dX10_words_34 : decode cX10_words 34 = .ok (.ifCond .ne 65, 3) := dk_154 0 65 (dk_at dksX10_words_1 10 rfl rfl)
theorem dX10_words_37 : decode cX10_words 37 = .ok (.aload 5, 2) := dk_25 5 (dk_at dksX10_words_1 13 rfl rfl)
theorem dX10_words_39 : decode cX10_words 39 = .ok (.invokestatic 103, 3) := dk_184 0 103 (dk_at dksX10_words_1 15 rfl rfl)
theorem dX10_words_42 : decode cX10_words 42 = .ok (.ifCond .ne 57, 3) := dk_154 0 57 (dk_at dksX10_words_1 18 rfl rfl)
theorem dX10_words_45 : decode cX10_words 45 = .ok (.iload 4, 2) := dk_21 4 (dk_at dksX10_words_1 21 rfl rfl)
theorem dX10_words_47 : decode cX10_words 47 = .ok (.iload_n 3, 1) := dk_29 (dk_at dksX10_words_1 23 rfl rfl)
theorem dX10_words_48 : decode cX10_words 48 = .ok (.if_icmp .ne 16, 3) := dk_160 0 16 (dk_at dksX10_words_2 0 rfl rfl)
theorem dX10_words_51 : decode cX10_words 51 = .ok (.new 54, 3) := dk_187 0 54 (dk_at dksX10_words_2 3 rfl rfl)
theorem dX10_words_54 : decode cX10_words 54 = .ok (.dup, 1) := dk_89 (dk_at dksX10_words_2 6 rfl rfl)
theorem dX10_words_55 : decode cX10_words 55 = .ok (.iconst 5, 1) := dk_8 (dk_at dksX10_words_2 7 rfl rfl)
theorem dX10_words_56 : decode cX10_words 56 = .ok (.aload_n 0, 1) := dk_42 (dk_at dksX10_words_2 8 rfl rfl)
theorem dX10_words_57 : decode cX10_words 57 = .ok (.getfield 40, 3) := dk_180 0 40 (dk_at dksX10_words_2 9 rfl rfl)
theorem dX10_words_60 : decode cX10_words 60 = .ok (.invokespecial 56, 3) := dk_183 0 56 (dk_at dksX10_words_2 12 rfl rfl)
theorem dX10_words_63 : decode cX10_words 63 = .ok (.athrow, 1) := dk_191 (dk_at dksX10_words_2 15 rfl rfl)
theorem dX10_words_64 : decode cX10_words 64 = .ok (.aload_n 1, 1) := dk_43 (dk_at dksX10_words_2 16 rfl rfl)
theorem dX10_words_65 : decode cX10_words 65 = .ok (.getfield 205, 3) := dk_180 0 205 (dk_at dksX10_words_2 17 rfl rfl)
theorem dX10_words_68 : decode cX10_words 68 = .ok (.iload_n 2, 1) := dk_28 (dk_at dksX10_words_2 20 rfl rfl)
theorem dX10_words_69 : decode cX10_words 69 = .ok (.iload 4, 2) := dk_21 4 (dk_at dksX10_words_2 21 rfl rfl)
theorem dX10_words_71 : decode cX10_words 71 = .ok (.iadd, 1) := dk_96 (dk_at dksX10_words_2 23 rfl rfl)
theorem dX10_words_72 : decode cX10_words 72 = .ok (.aload_n 0, 1) := dk_42 (dk_at dksX10_words_3 0 rfl rfl)
theorem dX10_words_73 : decode cX10_words 73 = .ok (.aload_n 0, 1) := dk_42 (dk_at dksX10_words_3 1 rfl rfl)
theorem dX10_words_74 : decode cX10_words 74 = .ok (.getfield 22, 3) := dk_180 0 22 (dk_at dksX10_words_3 2 rfl rfl)
theorem dX10_words_77 : decode cX10_words 77 = .ok (.getfield 119, 3) := dk_180 0 119 (dk_at dksX10_words_3 5 rfl rfl)
theorem dX10_words_80 : decode cX10_words 80 = .ok (.invokevirtual 175, 3) := dk_182 0 175 (dk_at dksX10_words_3 8 rfl rfl)
theorem dX10_words_83 : decode cX10_words 83 = .ok (.checkcast 131, 3) := dk_192 0 131 (dk_at dksX10_words_3 11 rfl rfl)
theorem dX10_words_86 : decode cX10_words 86 = .ok (.aastore, 1) := dk_83 (dk_at dksX10_words_3 14 rfl rfl)
theorem dX10_words_87 : decode cX10_words 87 = .ok (.iinc 4 1, 3) := dk_132 4 1 (dk_at dksX10_words_3 15 rfl rfl)
theorem dX10_words_90 : decode cX10_words 90 = .ok (.aload_n 0, 1) := dk_42 (dk_at dksX10_words_3 18 rfl rfl)
theorem dX10_words_91 : decode cX10_words 91 = .ok (.invokevirtual 209, 3) := dk_182 0 209 (dk_at dksX10_words_3 19 rfl rfl)
theorem dX10_words_94 : decode cX10_words 94 = .ok (.astore 5, 2) := dk_58 5 (dk_at dksX10_words_3 22 rfl rfl)
theorem dX10_words_96 : decode cX10_words 96 = .ok (.goto (-67), 3) := dk_167 255 189 (dk_at dksX10_words_4 0 rfl rfl)
theorem dX10_words_99 : decode cX10_words 99 = .ok (.iload 4, 2) := dk_21 4 (dk_at dksX10_words_4 3 rfl rfl)
theorem dX10_words_101 : decode cX10_words 101 = .ok (.ireturn, 1) := dk_172 (dk_at dksX10_words_4 5 rfl rfl)
def dkwX10_ahead_4 : List UInt8 := [180, 0, 36, 27, 28, 27, 100, 183, 0, 61, 176]
abbrev dktX10_ahead_4 : List UInt8 := dkwX10_ahead_4 ++ []
def dkwX10_ahead_3 : List UInt8 := [153, 0, 9, 132, 2, 1, 167, 255, 229, 42, 27, 181, 0, 40, 187, 0, 59, 89, 42, 180, 0, 3]
abbrev dktX10_ahead_3 : List UInt8 := dkwX10_ahead_3 ++ dktX10_ahead_4
def dkwX10_ahead_2 : List UInt8 := [61, 28, 42, 180, 0, 19, 162, 0, 25, 42, 42, 180, 0, 3, 180, 0, 36, 28, 52, 182, 0, 43]
abbrev dktX10_ahead_2 : List UInt8 := dkwX10_ahead_2 ++ dktX10_ahead_3
def dkwX10_ahead_1 : List UInt8 := [159, 0, 17, 42, 180, 0, 3, 180, 0, 36, 27, 52, 16, 10, 160, 0, 9, 132, 1, 1, 167, 255, 217, 27]
abbrev dktX10_ahead_1 : List UInt8 := dkwX10_ahead_1 ++ dktX10_ahead_2
def dkwX10_ahead_0 : List UInt8 := [42, 180, 0, 33, 60, 27, 42, 180, 0, 19, 162, 0, 37, 42, 180, 0, 3, 180, 0, 36, 27, 52, 16, 32]
abbrev dktX10_ahead_0 : List UInt8 := dkwX10_ahead_0 ++ dktX10_ahead_1
theorem dksX10_ahead_0 : cX10_ahead.data.toList.drop 0 = dktX10_ahead_0 := by decide +kernel
theorem dksX10_ahead_1 : cX10_ahead.data.toList.drop 24 = dktX10_ahead_1 := dk_seg dksX10_ahead_0 24 rfl rfl
theorem dksX10_ahead_2 : cX10_ahead.data.toList.drop 48 = dktX10_ahead_2 := dk_seg dksX10_ahead_1 24 rfl rfl
theorem dksX10_ahead_3 : cX10_ahead.data.toList.drop 70 = dktX10_ahead_3 := dk_seg dksX10_ahead_2 22 rfl rfl
theorem dksX10_ahead_4 : cX10_ahead.data.toList.drop 92 = dktX10_ahead_4 := dk_seg dksX10_ahead_3 22 rfl rfl
theorem dX10_ahead_0 : decode cX10_ahead 0 = .ok (.aload_n 0, 1) := dk_42 (dk_at dksX10_ahead_0 0 rfl rfl)
theorem dX10_ahead_1 : decode cX10_ahead 1 = .ok (.getfield 33, 3) := dk_180 0 33 (dk_at dksX10_ahead_0 1 rfl rfl)
theorem dX10_ahead_4 : decode cX10_ahead 4 = .ok (.istore_n 1, 1) := dk_60 (dk_at dksX10_ahead_0 4 rfl rfl)
theorem dX10_ahead_5 : decode cX10_ahead 5 = .ok (.iload_n 1, 1) := dk_27 (dk_at dksX10_ahead_0 5 rfl rfl)
theorem dX10_ahead_6 : decode cX10_ahead 6 = .ok (.aload_n 0, 1) := dk_42 (dk_at dksX10_ahead_0 6 rfl rfl)
theorem dX10_ahead_7 : decode cX10_ahead 7 = .ok (.getfield 19, 3) := dk_180 0 19 (dk_at dksX10_ahead_0 7 rfl rfl)
theorem dX10_ahead_10 : decode cX10_ahead 10 = .ok (.if_icmp .ge 37, 3) := dk_162 0 37 (dk_at dksX10_ahead_0 10 rfl rfl)
theorem dX10_ahead_13 : decode cX10_ahead 13 = .ok (.aload_n 0, 1) := dk_42 (dk_at dksX10_ahead_0 13 rfl rfl)
theorem dX10_ahead_14 : decode cX10_ahead 14 = .ok (.getfield 3, 3) := dk_180 0 3 (dk_at dksX10_ahead_0 14 rfl rfl)
theorem dX10_ahead_17 : decode cX10_ahead 17 = .ok (.getfield 36, 3) := dk_180 0 36 (dk_at dksX10_ahead_0 17 rfl rfl)
theorem dX10_ahead_20 : decode cX10_ahead 20 = .ok (.iload_n 1, 1) := dk_27 (dk_at dksX10_ahead_0 20 rfl rfl)
theorem dX10_ahead_21 : decode cX10_ahead 21 = .ok (.caload, 1) := dk_52 (dk_at dksX10_ahead_0 21 rfl rfl)
theorem dX10_ahead_22 : decode cX10_ahead 22 = .ok (.bipush 32, 2) := dk_16 32 (dk_at dksX10_ahead_0 22 rfl rfl)
theorem dX10_ahead_24 : decode cX10_ahead 24 = .ok (.if_icmp .eq 17, 3) := dk_159 0 17 (dk_at dksX10_ahead_1 0 rfl rfl)
theorem dX10_ahead_27 : decode cX10_ahead 27 = .ok (.aload_n 0, 1) := dk_42 (dk_at dksX10_ahead_1 3 rfl rfl)
theorem dX10_ahead_28 : decode cX10_ahead 28 = .ok (.getfield 3, 3) := dk_180 0 3 (dk_at dksX10_ahead_1 4 rfl rfl)
theorem dX10_ahead_31 : decode cX10_ahead 31 = .ok (.getfield 36, 3) := dk_180 0 36 (dk_at dksX10_ahead_1 7 rfl rfl)
theorem dX10_ahead_34 : decode cX10_ahead 34 = .ok (.iload_n 1, 1) := dk_27 (dk_at dksX10_ahead_1 10 rfl rfl)
theorem dX10_ahead_35 : decode cX10_ahead 35 = .ok (.caload, 1) := dk_52 (dk_at dksX10_ahead_1 11 rfl rfl)
theorem dX10_ahead_36 : decode cX10_ahead 36 = .ok (.bipush 10, 2) := dk_16 10 (dk_at dksX10_ahead_1 12 rfl rfl)
theorem dX10_ahead_38 : decode cX10_ahead 38 = .ok (.if_icmp .ne 9, 3) := dk_160 0 9 (dk_at dksX10_ahead_1 14 rfl rfl)
theorem dX10_ahead_41 : decode cX10_ahead 41 = .ok (.iinc 1 1, 3) := dk_132 1 1 (dk_at dksX10_ahead_1 17 rfl rfl)
theorem dX10_ahead_44 : decode cX10_ahead 44 = .ok (.goto (-39), 3) := dk_167 255 217 (dk_at dksX10_ahead_1 20 rfl rfl)
theorem dX10_ahead_47 : decode cX10_ahead 47 = .ok (.iload_n 1, 1) := dk_27 (dk_at dksX10_ahead_1 23 rfl rfl)
theorem dX10_ahead_48 : decode cX10_ahead 48 = .ok (.istore_n 2, 1) := dk_61 (dk_at dksX10_ahead_2 0 rfl rfl)
theorem dX10_ahead_49 : decode cX10_ahead 49 = .ok (.iload_n 2, 1) := dk_28 (dk_at dksX10_ahead_2 1 rfl rfl)
theorem dX10_ahead_50 : decode cX10_ahead 50 = .ok (.aload_n 0, 1) := dk_42 (dk_at dksX10_ahead_2 2 rfl rfl)
theorem dX10_ahead_51 : decode cX10_ahead 51 = .ok (.getfield 19, 3) := dk_180 0 19 (dk_at dksX10_ahead_2 3 rfl rfl)
theorem dX10_ahead_54 : decode cX10_ahead 54 = .ok (.if_icmp .ge 25, 3) := dk_162 0 25 (dk_at dksX10_ahead_2 6 rfl rfl)
theorem dX10_ahead_57 : decode cX10_ahead 57 = .ok (.aload_n 0, 1) := dk_42 (dk_at dksX10_ahead_2 9 rfl rfl)
theorem dX10_ahead_58 : decode cX10_ahead 58 = .ok (.aload_n 0, 1) := dk_42 (dk_at dksX10_ahead_2 10 rfl rfl)
theorem dX10_ahead_59 : decode cX10_ahead 59 = .ok (.getfield 3, 3) := dk_180 0 3 (dk_at dksX10_ahead_2 11 rfl rfl)
theorem dX10_ahead_62 : decode cX10_ahead 62 = .ok (.getfield 36, 3) := dk_180 0 36 (dk_at dksX10_ahead_2 14 rfl rfl)
theorem dX10_ahead_65 : decode cX10_ahead 65 = .ok (.iload_n 2, 1) := dk_28 (dk_at dksX10_ahead_2 17 rfl rfl)
theorem dX10_ahead_66 : decode cX10_ahead 66 = .ok (.caload, 1) := dk_52 (dk_at dksX10_ahead_2 18 rfl rfl)
theorem dX10_ahead_67 : decode cX10_ahead 67 = .ok (.invokevirtual 43, 3) := dk_182 0 43 (dk_at dksX10_ahead_2 19 rfl rfl)
theorem dX10_ahead_70 : decode cX10_ahead 70 = .ok (.ifCond .eq 9, 3) := dk_153 0 9 (dk_at dksX10_ahead_3 0 rfl rfl)
theorem dX10_ahead_73 : decode cX10_ahead 73 = .ok (.iinc 2 1, 3) := dk_132 2 1 (dk_at dksX10_ahead_3 3 rfl rfl)
theorem dX10_ahead_76 : decode cX10_ahead 76 = .ok (.goto (-27), 3) := dk_167 255 229 (dk_at dksX10_ahead_3 6 rfl rfl)
theorem dX10_ahead_79 : decode cX10_ahead 79 = .ok (.aload_n 0, 1) := dk_42 (dk_at dksX10_ahead_3 9 rfl rfl)
theorem dX10_ahead_80 : decode cX10_ahead 80 = .ok (.iload_n 1, 1) := dk_27 (dk_at dksX10_ahead_3 10 rfl rfl)
theorem dX10_ahead_81 : decode cX10_ahead 81 = .ok (.putfield 40, 3) := dk_181 0 40 (dk_at dksX10_ahead_3 11 rfl rfl)
theorem dX10_ahead_84 : decode cX10_ahead 84 = .ok (.new 59, 3) := dk_187 0 59 (dk_at dksX10_ahead_3 14 rfl rfl)
theorem dX10_ahead_87 : decode cX10_ahead 87 = .ok (.dup, 1) := dk_89 (dk_at dksX10_ahead_3 17 rfl rfl)
theorem dX10_ahead_88 : decode cX10_ahead 88 = .ok (.aload_n 0, 1) := dk_42 (dk_at dksX10_ahead_3 18 rfl rfl)
theorem dX10_ahead_89 : decode cX10_ahead 89 = .ok (.getfield 3, 3) := dk_180 0 3 (dk_at dksX10_ahead_3 19 rfl rfl)
theorem dX10_ahead_92 : decode cX10_ahead 92 = .ok (.getfield 36, 3) := dk_180 0 36 (dk_at dksX10_ahead_4 0 rfl rfl)
theorem dX10_ahead_95 : decode cX10_ahead 95 = .ok (.iload_n 1, 1) := dk_27 (dk_at dksX10_ahead_4 3 rfl rfl)
theorem dX10_ahead_96 : decode cX10_ahead 96 = .ok (.iload_n 2, 1) := dk_28 (dk_at dksX10_ahead_4 4 rfl rfl)
theorem dX10_ahead_97 : decode cX10_ahead 97 = .ok (.iload_n 1, 1) := dk_27 (dk_at dksX10_ahead_4 5 rfl rfl)
theorem dX10_ahead_98 : decode cX10_ahead 98 = .ok (.isub, 1) := dk_100 (dk_at dksX10_ahead_4 6 rfl rfl)
theorem dX10_ahead_99 : decode cX10_ahead 99 = .ok (.invokespecial 61, 3) := dk_183 0 61 (dk_at dksX10_ahead_4 7 rfl rfl)
theorem dX10_ahead_102 : decode cX10_ahead 102 = .ok (.areturn, 1) := dk_176 (dk_at dksX10_ahead_4 10 rfl rfl)
def dkwX10_asks_2_0 : List UInt8 := [42, 27, 182, 0, 90, 154, 0, 8, 42, 182, 0, 93, 191, 177]
abbrev dktX10_asks_2_0 : List UInt8 := dkwX10_asks_2_0 ++ []
theorem dksX10_asks_2_0 : cX10_asks_2.data.toList.drop 0 = dktX10_asks_2_0 := by decide +kernel
theorem dX10_asks_2_0 : decode cX10_asks_2 0 = .ok (.aload_n 0, 1) := dk_42 (dk_at dksX10_asks_2_0 0 rfl rfl)
theorem dX10_asks_2_1 : decode cX10_asks_2 1 = .ok (.iload_n 1, 1) := dk_27 (dk_at dksX10_asks_2_0 1 rfl rfl)
theorem dX10_asks_2_2 : decode cX10_asks_2 2 = .ok (.invokevirtual 90, 3) := dk_182 0 90 (dk_at dksX10_asks_2_0 2 rfl rfl)
theorem dX10_asks_2_5 : decode cX10_asks_2 5 = .ok (.ifCond .ne 8, 3) := dk_154 0 8 (dk_at dksX10_asks_2_0 5 rfl rfl)
theorem dX10_asks_2_8 : decode cX10_asks_2 8 = .ok (.aload_n 0, 1) := dk_42 (dk_at dksX10_asks_2_0 8 rfl rfl)
theorem dX10_asks_2_9 : decode cX10_asks_2 9 = .ok (.invokevirtual 93, 3) := dk_182 0 93 (dk_at dksX10_asks_2_0 9 rfl rfl)
theorem dX10_asks_2_12 : decode cX10_asks_2 12 = .ok (.athrow, 1) := dk_191 (dk_at dksX10_asks_2_0 12 rfl rfl)
theorem dX10_asks_2_13 : decode cX10_asks_2 13 = .ok (.return_, 1) := dk_177 (dk_at dksX10_asks_2_0 13 rfl rfl)
def dkwX10_takes_2_0 : List UInt8 := [42, 27, 182, 0, 83, 154, 0, 5, 3, 172, 42, 3, 181, 0, 26, 4, 172]
abbrev dktX10_takes_2_0 : List UInt8 := dkwX10_takes_2_0 ++ []
theorem dksX10_takes_2_0 : cX10_takes_2.data.toList.drop 0 = dktX10_takes_2_0 := by decide +kernel
theorem dX10_takes_2_0 : decode cX10_takes_2 0 = .ok (.aload_n 0, 1) := dk_42 (dk_at dksX10_takes_2_0 0 rfl rfl)
theorem dX10_takes_2_1 : decode cX10_takes_2 1 = .ok (.iload_n 1, 1) := dk_27 (dk_at dksX10_takes_2_0 1 rfl rfl)
theorem dX10_takes_2_2 : decode cX10_takes_2 2 = .ok (.invokevirtual 83, 3) := dk_182 0 83 (dk_at dksX10_takes_2_0 2 rfl rfl)
theorem dX10_takes_2_5 : decode cX10_takes_2 5 = .ok (.ifCond .ne 5, 3) := dk_154 0 5 (dk_at dksX10_takes_2_0 5 rfl rfl)
theorem dX10_takes_2_8 : decode cX10_takes_2 8 = .ok (.iconst 0, 1) := dk_3 (dk_at dksX10_takes_2_0 8 rfl rfl)
theorem dX10_takes_2_9 : decode cX10_takes_2 9 = .ok (.ireturn, 1) := dk_172 (dk_at dksX10_takes_2_0 9 rfl rfl)
theorem dX10_takes_2_10 : decode cX10_takes_2 10 = .ok (.aload_n 0, 1) := dk_42 (dk_at dksX10_takes_2_0 10 rfl rfl)
theorem dX10_takes_2_11 : decode cX10_takes_2 11 = .ok (.iconst 0, 1) := dk_3 (dk_at dksX10_takes_2_0 11 rfl rfl)
theorem dX10_takes_2_12 : decode cX10_takes_2 12 = .ok (.putfield 26, 3) := dk_181 0 26 (dk_at dksX10_takes_2_0 12 rfl rfl)
theorem dX10_takes_2_15 : decode cX10_takes_2 15 = .ok (.iconst 1, 1) := dk_4 (dk_at dksX10_takes_2_0 15 rfl rfl)
theorem dX10_takes_2_16 : decode cX10_takes_2 16 = .ok (.ireturn, 1) := dk_172 (dk_at dksX10_takes_2_0 16 rfl rfl)
def dkwX10_isSign_0 : List UInt8 := [42, 182, 0, 75, 6, 160, 0, 15, 42, 180, 0, 50, 27, 160, 0, 7, 4, 167, 0, 4, 3, 172]
abbrev dktX10_isSign_0 : List UInt8 := dkwX10_isSign_0 ++ []
theorem dksX10_isSign_0 : cX10_isSign.data.toList.drop 0 = dktX10_isSign_0 := by decide +kernel
theorem dX10_isSign_0 : decode cX10_isSign 0 = .ok (.aload_n 0, 1) := dk_42 (dk_at dksX10_isSign_0 0 rfl rfl)
theorem dX10_isSign_1 : decode cX10_isSign 1 = .ok (.invokevirtual 75, 3) := dk_182 0 75 (dk_at dksX10_isSign_0 1 rfl rfl)
theorem dX10_isSign_4 : decode cX10_isSign 4 = .ok (.iconst 3, 1) := dk_6 (dk_at dksX10_isSign_0 4 rfl rfl)
theorem dX10_isSign_5 : decode cX10_isSign 5 = .ok (.if_icmp .ne 15, 3) := dk_160 0 15 (dk_at dksX10_isSign_0 5 rfl rfl)
theorem dX10_isSign_8 : decode cX10_isSign 8 = .ok (.aload_n 0, 1) := dk_42 (dk_at dksX10_isSign_0 8 rfl rfl)
theorem dX10_isSign_9 : decode cX10_isSign 9 = .ok (.getfield 50, 3) := dk_180 0 50 (dk_at dksX10_isSign_0 9 rfl rfl)
theorem dX10_isSign_12 : decode cX10_isSign 12 = .ok (.iload_n 1, 1) := dk_27 (dk_at dksX10_isSign_0 12 rfl rfl)
theorem dX10_isSign_13 : decode cX10_isSign 13 = .ok (.if_icmp .ne 7, 3) := dk_160 0 7 (dk_at dksX10_isSign_0 13 rfl rfl)
theorem dX10_isSign_16 : decode cX10_isSign 16 = .ok (.iconst 1, 1) := dk_4 (dk_at dksX10_isSign_0 16 rfl rfl)
theorem dX10_isSign_17 : decode cX10_isSign 17 = .ok (.goto 4, 3) := dk_167 0 4 (dk_at dksX10_isSign_0 17 rfl rfl)
theorem dX10_isSign_20 : decode cX10_isSign 20 = .ok (.iconst 0, 1) := dk_3 (dk_at dksX10_isSign_0 20 rfl rfl)
theorem dX10_isSign_21 : decode cX10_isSign 21 = .ok (.ireturn, 1) := dk_172 (dk_at dksX10_isSign_0 21 rfl rfl)
def dkwX10_rowAlone_0 : List UInt8 := [42, 43, 182, 0, 226, 87, 42, 182, 0, 75, 153, 0, 8, 42, 182, 0, 93, 191, 43, 176]
abbrev dktX10_rowAlone_0 : List UInt8 := dkwX10_rowAlone_0 ++ []
theorem dksX10_rowAlone_0 : cX10_rowAlone.data.toList.drop 0 = dktX10_rowAlone_0 := by decide +kernel
theorem dX10_rowAlone_0 : decode cX10_rowAlone 0 = .ok (.aload_n 0, 1) := dk_42 (dk_at dksX10_rowAlone_0 0 rfl rfl)
theorem dX10_rowAlone_1 : decode cX10_rowAlone 1 = .ok (.aload_n 1, 1) := dk_43 (dk_at dksX10_rowAlone_0 1 rfl rfl)
theorem dX10_rowAlone_2 : decode cX10_rowAlone 2 = .ok (.invokevirtual 226, 3) := dk_182 0 226 (dk_at dksX10_rowAlone_0 2 rfl rfl)
theorem dX10_rowAlone_5 : decode cX10_rowAlone 5 = .ok (.pop, 1) := dk_87 (dk_at dksX10_rowAlone_0 5 rfl rfl)
theorem dX10_rowAlone_6 : decode cX10_rowAlone 6 = .ok (.aload_n 0, 1) := dk_42 (dk_at dksX10_rowAlone_0 6 rfl rfl)
theorem dX10_rowAlone_7 : decode cX10_rowAlone 7 = .ok (.invokevirtual 75, 3) := dk_182 0 75 (dk_at dksX10_rowAlone_0 7 rfl rfl)
theorem dX10_rowAlone_10 : decode cX10_rowAlone 10 = .ok (.ifCond .eq 8, 3) := dk_153 0 8 (dk_at dksX10_rowAlone_0 10 rfl rfl)
theorem dX10_rowAlone_13 : decode cX10_rowAlone 13 = .ok (.aload_n 0, 1) := dk_42 (dk_at dksX10_rowAlone_0 13 rfl rfl)
theorem dX10_rowAlone_14 : decode cX10_rowAlone 14 = .ok (.invokevirtual 93, 3) := dk_182 0 93 (dk_at dksX10_rowAlone_0 14 rfl rfl)
theorem dX10_rowAlone_17 : decode cX10_rowAlone 17 = .ok (.athrow, 1) := dk_191 (dk_at dksX10_rowAlone_0 17 rfl rfl)
theorem dX10_rowAlone_18 : decode cX10_rowAlone 18 = .ok (.aload_n 1, 1) := dk_43 (dk_at dksX10_rowAlone_0 18 rfl rfl)
theorem dX10_rowAlone_19 : decode cX10_rowAlone 19 = .ok (.areturn, 1) := dk_176 (dk_at dksX10_rowAlone_0 19 rfl rfl)
def dkwJ7_init_1 : List UInt8 := [182, 0, 27, 87, 177]
abbrev dktJ7_init_1 : List UInt8 := dkwJ7_init_1 ++ []
def dkwJ7_init_0 : List UInt8 := [42, 183, 0, 1, 42, 42, 181, 0, 7, 42, 178, 0, 13, 181, 0, 17, 42, 178, 0, 20, 181, 0, 24, 42]
abbrev dktJ7_init_0 : List UInt8 := dkwJ7_init_0 ++ dktJ7_init_1
theorem dksJ7_init_0 : cJ7_init.data.toList.drop 0 = dktJ7_init_0 := by decide +kernel
theorem dksJ7_init_1 : cJ7_init.data.toList.drop 24 = dktJ7_init_1 := dk_seg dksJ7_init_0 24 rfl rfl
theorem dJ7_init_0 : decode cJ7_init 0 = .ok (.aload_n 0, 1) := dk_42 (dk_at dksJ7_init_0 0 rfl rfl)
theorem dJ7_init_1 : decode cJ7_init 1 = .ok (.invokespecial 1, 3) := dk_183 0 1 (dk_at dksJ7_init_0 1 rfl rfl)
theorem dJ7_init_4 : decode cJ7_init 4 = .ok (.aload_n 0, 1) := dk_42 (dk_at dksJ7_init_0 4 rfl rfl)
theorem dJ7_init_5 : decode cJ7_init 5 = .ok (.aload_n 0, 1) := dk_42 (dk_at dksJ7_init_0 5 rfl rfl)
theorem dJ7_init_6 : decode cJ7_init 6 = .ok (.putfield 7, 3) := dk_181 0 7 (dk_at dksJ7_init_0 6 rfl rfl)
theorem dJ7_init_9 : decode cJ7_init 9 = .ok (.aload_n 0, 1) := dk_42 (dk_at dksJ7_init_0 9 rfl rfl)
theorem dJ7_init_10 : decode cJ7_init 10 = .ok (.getstatic 13, 3) := dk_178 0 13 (dk_at dksJ7_init_0 10 rfl rfl)
theorem dJ7_init_13 : decode cJ7_init 13 = .ok (.putfield 17, 3) := dk_181 0 17 (dk_at dksJ7_init_0 13 rfl rfl)
theorem dJ7_init_16 : decode cJ7_init 16 = .ok (.aload_n 0, 1) := dk_42 (dk_at dksJ7_init_0 16 rfl rfl)
theorem dJ7_init_17 : decode cJ7_init 17 = .ok (.getstatic 20, 3) := dk_178 0 20 (dk_at dksJ7_init_0 17 rfl rfl)
theorem dJ7_init_20 : decode cJ7_init 20 = .ok (.putfield 24, 3) := dk_181 0 24 (dk_at dksJ7_init_0 20 rfl rfl)
theorem dJ7_init_23 : decode cJ7_init 23 = .ok (.aload_n 0, 1) := dk_42 (dk_at dksJ7_init_0 23 rfl rfl)
theorem dJ7_init_24 : decode cJ7_init 24 = .ok (.invokevirtual 27, 3) := dk_182 0 27 (dk_at dksJ7_init_1 0 rfl rfl)
theorem dJ7_init_27 : decode cJ7_init 27 = .ok (.pop, 1) := dk_87 (dk_at dksJ7_init_1 3 rfl rfl)
theorem dJ7_init_28 : decode cJ7_init 28 = .ok (.return_, 1) := dk_177 (dk_at dksJ7_init_1 4 rfl rfl)
theorem dJ8_init_0 : decode cJ8_init 0 = .ok (.aload_n 0, 1) := by decide +kernel
theorem dJ8_init_1 : decode cJ8_init 1 = .ok (.invokespecial 1, 3) := by decide +kernel
theorem dJ8_init_4 : decode cJ8_init 4 = .ok (.return_, 1) := by decide +kernel
def dkwX11_init_0 : List UInt8 := [42, 183, 0, 1, 42, 27, 181, 0, 7, 42, 28, 181, 0, 13, 177]
abbrev dktX11_init_0 : List UInt8 := dkwX11_init_0 ++ []
theorem dksX11_init_0 : cX11_init.data.toList.drop 0 = dktX11_init_0 := by decide +kernel
theorem dX11_init_0 : decode cX11_init 0 = .ok (.aload_n 0, 1) := dk_42 (dk_at dksX11_init_0 0 rfl rfl)
theorem dX11_init_1 : decode cX11_init 1 = .ok (.invokespecial 1, 3) := dk_183 0 1 (dk_at dksX11_init_0 1 rfl rfl)
theorem dX11_init_4 : decode cX11_init 4 = .ok (.aload_n 0, 1) := dk_42 (dk_at dksX11_init_0 4 rfl rfl)
theorem dX11_init_5 : decode cX11_init 5 = .ok (.iload_n 1, 1) := dk_27 (dk_at dksX11_init_0 5 rfl rfl)
theorem dX11_init_6 : decode cX11_init 6 = .ok (.putfield 7, 3) := dk_181 0 7 (dk_at dksX11_init_0 6 rfl rfl)
theorem dX11_init_9 : decode cX11_init 9 = .ok (.aload_n 0, 1) := dk_42 (dk_at dksX11_init_0 9 rfl rfl)
theorem dX11_init_10 : decode cX11_init 10 = .ok (.iload_n 2, 1) := dk_28 (dk_at dksX11_init_0 10 rfl rfl)
theorem dX11_init_11 : decode cX11_init 11 = .ok (.putfield 13, 3) := dk_181 0 13 (dk_at dksX11_init_0 11 rfl rfl)
theorem dX11_init_14 : decode cX11_init 14 = .ok (.return_, 1) := dk_177 (dk_at dksX11_init_0 14 rfl rfl)
def dkwJ9_checkFromIndexSize_1 : List UInt8 := [172]
abbrev dktJ9_checkFromIndexSize_1 : List UInt8 := dkwJ9_checkFromIndexSize_1 ++ []
def dkwJ9_checkFromIndexSize_0 : List UInt8 := [28, 26, 128, 27, 128, 155, 0, 10, 27, 28, 26, 100, 164, 0, 11, 45, 26, 27, 28, 184, 0, 103, 191, 26]
abbrev dktJ9_checkFromIndexSize_0 : List UInt8 := dkwJ9_checkFromIndexSize_0 ++ dktJ9_checkFromIndexSize_1
theorem dksJ9_checkFromIndexSize_0 : cJ9_checkFromIndexSize.data.toList.drop 0 = dktJ9_checkFromIndexSize_0 := by decide +kernel
theorem dksJ9_checkFromIndexSize_1 : cJ9_checkFromIndexSize.data.toList.drop 24 = dktJ9_checkFromIndexSize_1 := dk_seg dksJ9_checkFromIndexSize_0 24 rfl rfl
theorem dJ9_checkFromIndexSize_0 : decode cJ9_checkFromIndexSize 0 = .ok (.iload_n 2, 1) := dk_28 (dk_at dksJ9_checkFromIndexSize_0 0 rfl rfl)
theorem dJ9_checkFromIndexSize_1 : decode cJ9_checkFromIndexSize 1 = .ok (.iload_n 0, 1) := dk_26 (dk_at dksJ9_checkFromIndexSize_0 1 rfl rfl)
theorem dJ9_checkFromIndexSize_2 : decode cJ9_checkFromIndexSize 2 = .ok (.ior, 1) := dk_128 (dk_at dksJ9_checkFromIndexSize_0 2 rfl rfl)
theorem dJ9_checkFromIndexSize_3 : decode cJ9_checkFromIndexSize 3 = .ok (.iload_n 1, 1) := dk_27 (dk_at dksJ9_checkFromIndexSize_0 3 rfl rfl)
theorem dJ9_checkFromIndexSize_4 : decode cJ9_checkFromIndexSize 4 = .ok (.ior, 1) := dk_128 (dk_at dksJ9_checkFromIndexSize_0 4 rfl rfl)
theorem dJ9_checkFromIndexSize_5 : decode cJ9_checkFromIndexSize 5 = .ok (.ifCond .lt 10, 3) := dk_155 0 10 (dk_at dksJ9_checkFromIndexSize_0 5 rfl rfl)
theorem dJ9_checkFromIndexSize_8 : decode cJ9_checkFromIndexSize 8 = .ok (.iload_n 1, 1) := dk_27 (dk_at dksJ9_checkFromIndexSize_0 8 rfl rfl)
theorem dJ9_checkFromIndexSize_9 : decode cJ9_checkFromIndexSize 9 = .ok (.iload_n 2, 1) := dk_28 (dk_at dksJ9_checkFromIndexSize_0 9 rfl rfl)
theorem dJ9_checkFromIndexSize_10 : decode cJ9_checkFromIndexSize 10 = .ok (.iload_n 0, 1) := dk_26 (dk_at dksJ9_checkFromIndexSize_0 10 rfl rfl)
theorem dJ9_checkFromIndexSize_11 : decode cJ9_checkFromIndexSize 11 = .ok (.isub, 1) := dk_100 (dk_at dksJ9_checkFromIndexSize_0 11 rfl rfl)
theorem dJ9_checkFromIndexSize_12 : decode cJ9_checkFromIndexSize 12 = .ok (.if_icmp .le 11, 3) := dk_164 0 11 (dk_at dksJ9_checkFromIndexSize_0 12 rfl rfl)
theorem dJ9_checkFromIndexSize_15 : decode cJ9_checkFromIndexSize 15 = .ok (.aload_n 3, 1) := dk_45 (dk_at dksJ9_checkFromIndexSize_0 15 rfl rfl)
theorem dJ9_checkFromIndexSize_16 : decode cJ9_checkFromIndexSize 16 = .ok (.iload_n 0, 1) := dk_26 (dk_at dksJ9_checkFromIndexSize_0 16 rfl rfl)
theorem dJ9_checkFromIndexSize_17 : decode cJ9_checkFromIndexSize 17 = .ok (.iload_n 1, 1) := dk_27 (dk_at dksJ9_checkFromIndexSize_0 17 rfl rfl)
theorem dJ9_checkFromIndexSize_18 : decode cJ9_checkFromIndexSize 18 = .ok (.iload_n 2, 1) := dk_28 (dk_at dksJ9_checkFromIndexSize_0 18 rfl rfl)
theorem dJ9_checkFromIndexSize_19 : decode cJ9_checkFromIndexSize 19 = .ok (.invokestatic 103, 3) := dk_184 0 103 (dk_at dksJ9_checkFromIndexSize_0 19 rfl rfl)
theorem dJ9_checkFromIndexSize_22 : decode cJ9_checkFromIndexSize 22 = .ok (.athrow, 1) := dk_191 (dk_at dksJ9_checkFromIndexSize_0 22 rfl rfl)
theorem dJ9_checkFromIndexSize_23 : decode cJ9_checkFromIndexSize 23 = .ok (.iload_n 0, 1) := dk_26 (dk_at dksJ9_checkFromIndexSize_0 23 rfl rfl)
theorem dJ9_checkFromIndexSize_24 : decode cJ9_checkFromIndexSize 24 = .ok (.ireturn, 1) := dk_172 (dk_at dksJ9_checkFromIndexSize_1 0 rfl rfl)
def dkwJ9_checkIndex_0 : List UInt8 := [26, 155, 0, 8, 26, 27, 161, 0, 10, 44, 26, 27, 184, 0, 95, 191, 26, 172]
abbrev dktJ9_checkIndex_0 : List UInt8 := dkwJ9_checkIndex_0 ++ []
theorem dksJ9_checkIndex_0 : cJ9_checkIndex.data.toList.drop 0 = dktJ9_checkIndex_0 := by decide +kernel
theorem dJ9_checkIndex_0 : decode cJ9_checkIndex 0 = .ok (.iload_n 0, 1) := dk_26 (dk_at dksJ9_checkIndex_0 0 rfl rfl)
theorem dJ9_checkIndex_1 : decode cJ9_checkIndex 1 = .ok (.ifCond .lt 8, 3) := dk_155 0 8 (dk_at dksJ9_checkIndex_0 1 rfl rfl)
theorem dJ9_checkIndex_4 : decode cJ9_checkIndex 4 = .ok (.iload_n 0, 1) := dk_26 (dk_at dksJ9_checkIndex_0 4 rfl rfl)
theorem dJ9_checkIndex_5 : decode cJ9_checkIndex 5 = .ok (.iload_n 1, 1) := dk_27 (dk_at dksJ9_checkIndex_0 5 rfl rfl)
theorem dJ9_checkIndex_6 : decode cJ9_checkIndex 6 = .ok (.if_icmp .lt 10, 3) := dk_161 0 10 (dk_at dksJ9_checkIndex_0 6 rfl rfl)
theorem dJ9_checkIndex_9 : decode cJ9_checkIndex 9 = .ok (.aload_n 2, 1) := dk_44 (dk_at dksJ9_checkIndex_0 9 rfl rfl)
theorem dJ9_checkIndex_10 : decode cJ9_checkIndex 10 = .ok (.iload_n 0, 1) := dk_26 (dk_at dksJ9_checkIndex_0 10 rfl rfl)
theorem dJ9_checkIndex_11 : decode cJ9_checkIndex 11 = .ok (.iload_n 1, 1) := dk_27 (dk_at dksJ9_checkIndex_0 11 rfl rfl)
theorem dJ9_checkIndex_12 : decode cJ9_checkIndex 12 = .ok (.invokestatic 95, 3) := dk_184 0 95 (dk_at dksJ9_checkIndex_0 12 rfl rfl)
theorem dJ9_checkIndex_15 : decode cJ9_checkIndex 15 = .ok (.athrow, 1) := dk_191 (dk_at dksJ9_checkIndex_0 15 rfl rfl)
theorem dJ9_checkIndex_16 : decode cJ9_checkIndex 16 = .ok (.iload_n 0, 1) := dk_26 (dk_at dksJ9_checkIndex_0 16 rfl rfl)
theorem dJ9_checkIndex_17 : decode cJ9_checkIndex 17 = .ok (.ireturn, 1) := dk_172 (dk_at dksJ9_checkIndex_0 17 rfl rfl)
def dkwJ10_charAt_0 : List UInt8 := [27, 42, 190, 184, 0, 9, 42, 27, 51, 17, 0, 255, 126, 146, 172]
abbrev dktJ10_charAt_0 : List UInt8 := dkwJ10_charAt_0 ++ []
theorem dksJ10_charAt_0 : cJ10_charAt.data.toList.drop 0 = dktJ10_charAt_0 := by decide +kernel
theorem dJ10_charAt_0 : decode cJ10_charAt 0 = .ok (.iload_n 1, 1) := dk_27 (dk_at dksJ10_charAt_0 0 rfl rfl)
theorem dJ10_charAt_1 : decode cJ10_charAt 1 = .ok (.aload_n 0, 1) := dk_42 (dk_at dksJ10_charAt_0 1 rfl rfl)
theorem dJ10_charAt_2 : decode cJ10_charAt 2 = .ok (.arraylength, 1) := dk_190 (dk_at dksJ10_charAt_0 2 rfl rfl)
theorem dJ10_charAt_3 : decode cJ10_charAt 3 = .ok (.invokestatic 9, 3) := dk_184 0 9 (dk_at dksJ10_charAt_0 3 rfl rfl)
theorem dJ10_charAt_6 : decode cJ10_charAt 6 = .ok (.aload_n 0, 1) := dk_42 (dk_at dksJ10_charAt_0 6 rfl rfl)
theorem dJ10_charAt_7 : decode cJ10_charAt 7 = .ok (.iload_n 1, 1) := dk_27 (dk_at dksJ10_charAt_0 7 rfl rfl)
theorem dJ10_charAt_8 : decode cJ10_charAt 8 = .ok (.baload, 1) := dk_51 (dk_at dksJ10_charAt_0 8 rfl rfl)
theorem dJ10_charAt_9 : decode cJ10_charAt 9 = .ok (.sipush 255, 3) := dk_17 0 255 (dk_at dksJ10_charAt_0 9 rfl rfl)
theorem dJ10_charAt_12 : decode cJ10_charAt 12 = .ok (.iand, 1) := dk_126 (dk_at dksJ10_charAt_0 12 rfl rfl)
theorem dJ10_charAt_13 : decode cJ10_charAt 13 = .ok (.i2c, 1) := dk_146 (dk_at dksJ10_charAt_0 13 rfl rfl)
theorem dJ10_charAt_14 : decode cJ10_charAt 14 = .ok (.ireturn, 1) := dk_172 (dk_at dksJ10_charAt_0 14 rfl rfl)
def dkwJ10_equals_1 : List UInt8 := [3, 172, 132, 2, 1, 167, 255, 236, 4, 172, 3, 172]
abbrev dktJ10_equals_1 : List UInt8 := dkwJ10_equals_1 ++ []
def dkwJ10_equals_0 : List UInt8 := [42, 190, 43, 190, 160, 0, 30, 3, 61, 28, 42, 190, 162, 0, 20, 42, 28, 51, 43, 28, 51, 159, 0, 5]
abbrev dktJ10_equals_0 : List UInt8 := dkwJ10_equals_0 ++ dktJ10_equals_1
theorem dksJ10_equals_0 : cJ10_equals.data.toList.drop 0 = dktJ10_equals_0 := by decide +kernel
theorem dksJ10_equals_1 : cJ10_equals.data.toList.drop 24 = dktJ10_equals_1 := dk_seg dksJ10_equals_0 24 rfl rfl
theorem dJ10_equals_0 : decode cJ10_equals 0 = .ok (.aload_n 0, 1) := dk_42 (dk_at dksJ10_equals_0 0 rfl rfl)
theorem dJ10_equals_1 : decode cJ10_equals 1 = .ok (.arraylength, 1) := dk_190 (dk_at dksJ10_equals_0 1 rfl rfl)
theorem dJ10_equals_2 : decode cJ10_equals 2 = .ok (.aload_n 1, 1) := dk_43 (dk_at dksJ10_equals_0 2 rfl rfl)
theorem dJ10_equals_3 : decode cJ10_equals 3 = .ok (.arraylength, 1) := dk_190 (dk_at dksJ10_equals_0 3 rfl rfl)
theorem dJ10_equals_4 : decode cJ10_equals 4 = .ok (.if_icmp .ne 30, 3) := dk_160 0 30 (dk_at dksJ10_equals_0 4 rfl rfl)
theorem dJ10_equals_7 : decode cJ10_equals 7 = .ok (.iconst 0, 1) := dk_3 (dk_at dksJ10_equals_0 7 rfl rfl)
theorem dJ10_equals_8 : decode cJ10_equals 8 = .ok (.istore_n 2, 1) := dk_61 (dk_at dksJ10_equals_0 8 rfl rfl)
theorem dJ10_equals_9 : decode cJ10_equals 9 = .ok (.iload_n 2, 1) := dk_28 (dk_at dksJ10_equals_0 9 rfl rfl)
theorem dJ10_equals_10 : decode cJ10_equals 10 = .ok (.aload_n 0, 1) := dk_42 (dk_at dksJ10_equals_0 10 rfl rfl)
theorem dJ10_equals_11 : decode cJ10_equals 11 = .ok (.arraylength, 1) := dk_190 (dk_at dksJ10_equals_0 11 rfl rfl)
theorem dJ10_equals_12 : decode cJ10_equals 12 = .ok (.if_icmp .ge 20, 3) := dk_162 0 20 (dk_at dksJ10_equals_0 12 rfl rfl)
theorem dJ10_equals_15 : decode cJ10_equals 15 = .ok (.aload_n 0, 1) := dk_42 (dk_at dksJ10_equals_0 15 rfl rfl)
theorem dJ10_equals_16 : decode cJ10_equals 16 = .ok (.iload_n 2, 1) := dk_28 (dk_at dksJ10_equals_0 16 rfl rfl)
theorem dJ10_equals_17 : decode cJ10_equals 17 = .ok (.baload, 1) := dk_51 (dk_at dksJ10_equals_0 17 rfl rfl)
theorem dJ10_equals_18 : decode cJ10_equals 18 = .ok (.aload_n 1, 1) := dk_43 (dk_at dksJ10_equals_0 18 rfl rfl)
theorem dJ10_equals_19 : decode cJ10_equals 19 = .ok (.iload_n 2, 1) := dk_28 (dk_at dksJ10_equals_0 19 rfl rfl)
theorem dJ10_equals_20 : decode cJ10_equals 20 = .ok (.baload, 1) := dk_51 (dk_at dksJ10_equals_0 20 rfl rfl)
theorem dJ10_equals_21 : decode cJ10_equals 21 = .ok (.if_icmp .eq 5, 3) := dk_159 0 5 (dk_at dksJ10_equals_0 21 rfl rfl)
theorem dJ10_equals_24 : decode cJ10_equals 24 = .ok (.iconst 0, 1) := dk_3 (dk_at dksJ10_equals_1 0 rfl rfl)
theorem dJ10_equals_25 : decode cJ10_equals 25 = .ok (.ireturn, 1) := dk_172 (dk_at dksJ10_equals_1 1 rfl rfl)
theorem dJ10_equals_26 : decode cJ10_equals 26 = .ok (.iinc 2 1, 3) := dk_132 2 1 (dk_at dksJ10_equals_1 2 rfl rfl)
theorem dJ10_equals_29 : decode cJ10_equals 29 = .ok (.goto (-20), 3) := dk_167 255 236 (dk_at dksJ10_equals_1 5 rfl rfl)
theorem dJ10_equals_32 : decode cJ10_equals 32 = .ok (.iconst 1, 1) := dk_4 (dk_at dksJ10_equals_1 8 rfl rfl)
theorem dJ10_equals_33 : decode cJ10_equals 33 = .ok (.ireturn, 1) := dk_172 (dk_at dksJ10_equals_1 9 rfl rfl)
theorem dJ10_equals_34 : decode cJ10_equals 34 = .ok (.iconst 0, 1) := dk_3 (dk_at dksJ10_equals_1 10 rfl rfl)
theorem dJ10_equals_35 : decode cJ10_equals 35 = .ok (.ireturn, 1) := dk_172 (dk_at dksJ10_equals_1 11 rfl rfl)
def dkwJ10_fillNull_0 : List UInt8 := [42, 27, 28, 3, 184, 0, 236, 177]
abbrev dktJ10_fillNull_0 : List UInt8 := dkwJ10_fillNull_0 ++ []
theorem dksJ10_fillNull_0 : cJ10_fillNull.data.toList.drop 0 = dktJ10_fillNull_0 := by decide +kernel
theorem dJ10_fillNull_0 : decode cJ10_fillNull 0 = .ok (.aload_n 0, 1) := dk_42 (dk_at dksJ10_fillNull_0 0 rfl rfl)
theorem dJ10_fillNull_1 : decode cJ10_fillNull 1 = .ok (.iload_n 1, 1) := dk_27 (dk_at dksJ10_fillNull_0 1 rfl rfl)
theorem dJ10_fillNull_2 : decode cJ10_fillNull 2 = .ok (.iload_n 2, 1) := dk_28 (dk_at dksJ10_fillNull_0 2 rfl rfl)
theorem dJ10_fillNull_3 : decode cJ10_fillNull 3 = .ok (.iconst 0, 1) := dk_3 (dk_at dksJ10_fillNull_0 3 rfl rfl)
theorem dJ10_fillNull_4 : decode cJ10_fillNull 4 = .ok (.invokestatic 236, 3) := dk_184 0 236 (dk_at dksJ10_fillNull_0 4 rfl rfl)
theorem dJ10_fillNull_7 : decode cJ10_fillNull 7 = .ok (.return_, 1) := dk_177 (dk_at dksJ10_fillNull_0 7 rfl rfl)
def dkwJ10_canEncode_0 : List UInt8 := [26, 17, 0, 255, 163, 0, 7, 4, 167, 0, 4, 3, 172]
abbrev dktJ10_canEncode_0 : List UInt8 := dkwJ10_canEncode_0 ++ []
theorem dksJ10_canEncode_0 : cJ10_canEncode.data.toList.drop 0 = dktJ10_canEncode_0 := by decide +kernel
theorem dJ10_canEncode_0 : decode cJ10_canEncode 0 = .ok (.iload_n 0, 1) := dk_26 (dk_at dksJ10_canEncode_0 0 rfl rfl)
theorem dJ10_canEncode_1 : decode cJ10_canEncode 1 = .ok (.sipush 255, 3) := dk_17 0 255 (dk_at dksJ10_canEncode_0 1 rfl rfl)
theorem dJ10_canEncode_4 : decode cJ10_canEncode 4 = .ok (.if_icmp .gt 7, 3) := dk_163 0 7 (dk_at dksJ10_canEncode_0 4 rfl rfl)
theorem dJ10_canEncode_7 : decode cJ10_canEncode 7 = .ok (.iconst 1, 1) := dk_4 (dk_at dksJ10_canEncode_0 7 rfl rfl)
theorem dJ10_canEncode_8 : decode cJ10_canEncode 8 = .ok (.goto 4, 3) := dk_167 0 4 (dk_at dksJ10_canEncode_0 8 rfl rfl)
theorem dJ10_canEncode_11 : decode cJ10_canEncode 11 = .ok (.iconst 0, 1) := dk_3 (dk_at dksJ10_canEncode_0 11 rfl rfl)
theorem dJ10_canEncode_12 : decode cJ10_canEncode 12 = .ok (.ireturn, 1) := dk_172 (dk_at dksJ10_canEncode_0 12 rfl rfl)
def dkwJ10_inflate_0 : List UInt8 := [42, 27, 44, 29, 21, 4, 184, 0, 240, 177]
abbrev dktJ10_inflate_0 : List UInt8 := dkwJ10_inflate_0 ++ []
theorem dksJ10_inflate_0 : cJ10_inflate.data.toList.drop 0 = dktJ10_inflate_0 := by decide +kernel
theorem dJ10_inflate_0 : decode cJ10_inflate 0 = .ok (.aload_n 0, 1) := dk_42 (dk_at dksJ10_inflate_0 0 rfl rfl)
theorem dJ10_inflate_1 : decode cJ10_inflate 1 = .ok (.iload_n 1, 1) := dk_27 (dk_at dksJ10_inflate_0 1 rfl rfl)
theorem dJ10_inflate_2 : decode cJ10_inflate 2 = .ok (.aload_n 2, 1) := dk_44 (dk_at dksJ10_inflate_0 2 rfl rfl)
theorem dJ10_inflate_3 : decode cJ10_inflate 3 = .ok (.iload_n 3, 1) := dk_29 (dk_at dksJ10_inflate_0 3 rfl rfl)
theorem dJ10_inflate_4 : decode cJ10_inflate 4 = .ok (.iload 4, 2) := dk_21 4 (dk_at dksJ10_inflate_0 4 rfl rfl)
theorem dJ10_inflate_6 : decode cJ10_inflate 6 = .ok (.invokestatic 240, 3) := dk_184 0 240 (dk_at dksJ10_inflate_0 6 rfl rfl)
theorem dJ10_inflate_9 : decode cJ10_inflate 9 = .ok (.return_, 1) := dk_177 (dk_at dksJ10_inflate_0 9 rfl rfl)
def dkwX12_init_0 : List UInt8 := [42, 183, 0, 1, 42, 43, 181, 0, 7, 42, 28, 181, 0, 13, 177]
abbrev dktX12_init_0 : List UInt8 := dkwX12_init_0 ++ []
theorem dksX12_init_0 : cX12_init.data.toList.drop 0 = dktX12_init_0 := by decide +kernel
theorem dX12_init_0 : decode cX12_init 0 = .ok (.aload_n 0, 1) := dk_42 (dk_at dksX12_init_0 0 rfl rfl)
theorem dX12_init_1 : decode cX12_init 1 = .ok (.invokespecial 1, 3) := dk_183 0 1 (dk_at dksX12_init_0 1 rfl rfl)
theorem dX12_init_4 : decode cX12_init 4 = .ok (.aload_n 0, 1) := dk_42 (dk_at dksX12_init_0 4 rfl rfl)
theorem dX12_init_5 : decode cX12_init 5 = .ok (.aload_n 1, 1) := dk_43 (dk_at dksX12_init_0 5 rfl rfl)
theorem dX12_init_6 : decode cX12_init 6 = .ok (.putfield 7, 3) := dk_181 0 7 (dk_at dksX12_init_0 6 rfl rfl)
theorem dX12_init_9 : decode cX12_init 9 = .ok (.aload_n 0, 1) := dk_42 (dk_at dksX12_init_0 9 rfl rfl)
theorem dX12_init_10 : decode cX12_init 10 = .ok (.iload_n 2, 1) := dk_28 (dk_at dksX12_init_0 10 rfl rfl)
theorem dX12_init_11 : decode cX12_init 11 = .ok (.putfield 13, 3) := dk_181 0 13 (dk_at dksX12_init_0 11 rfl rfl)
theorem dX12_init_14 : decode cX12_init 14 = .ok (.return_, 1) := dk_177 (dk_at dksX12_init_0 14 rfl rfl)
def dkwX13_init_0 : List UInt8 := [42, 43, 28, 183, 0, 1, 177]
abbrev dktX13_init_0 : List UInt8 := dkwX13_init_0 ++ []
theorem dksX13_init_0 : cX13_init.data.toList.drop 0 = dktX13_init_0 := by decide +kernel
theorem dX13_init_0 : decode cX13_init 0 = .ok (.aload_n 0, 1) := dk_42 (dk_at dksX13_init_0 0 rfl rfl)
theorem dX13_init_1 : decode cX13_init 1 = .ok (.aload_n 1, 1) := dk_43 (dk_at dksX13_init_0 1 rfl rfl)
theorem dX13_init_2 : decode cX13_init 2 = .ok (.iload_n 2, 1) := dk_28 (dk_at dksX13_init_0 2 rfl rfl)
theorem dX13_init_3 : decode cX13_init 3 = .ok (.invokespecial 1, 3) := dk_183 0 1 (dk_at dksX13_init_0 3 rfl rfl)
theorem dX13_init_6 : decode cX13_init 6 = .ok (.return_, 1) := dk_177 (dk_at dksX13_init_0 6 rfl rfl)
def dkwX13_alike_2 : List UInt8 := [3, 96, 172]
abbrev dktX13_alike_2 : List UInt8 := dkwX13_alike_2 ++ []
def dkwX13_alike_1 : List UInt8 := [160, 0, 7, 4, 167, 0, 4, 3, 96, 42, 180, 0, 16, 43, 180, 0, 16, 160, 0, 7, 4, 167, 0, 4]
abbrev dktX13_alike_1 : List UInt8 := dkwX13_alike_1 ++ dktX13_alike_2
def dkwX13_alike_0 : List UInt8 := [42, 180, 0, 7, 43, 180, 0, 7, 160, 0, 7, 5, 167, 0, 4, 3, 42, 180, 0, 13, 43, 180, 0, 13]
abbrev dktX13_alike_0 : List UInt8 := dkwX13_alike_0 ++ dktX13_alike_1
theorem dksX13_alike_0 : cX13_alike.data.toList.drop 0 = dktX13_alike_0 := by decide +kernel
theorem dksX13_alike_1 : cX13_alike.data.toList.drop 24 = dktX13_alike_1 := dk_seg dksX13_alike_0 24 rfl rfl
theorem dksX13_alike_2 : cX13_alike.data.toList.drop 48 = dktX13_alike_2 := dk_seg dksX13_alike_1 24 rfl rfl
theorem dX13_alike_0 : decode cX13_alike 0 = .ok (.aload_n 0, 1) := dk_42 (dk_at dksX13_alike_0 0 rfl rfl)
theorem dX13_alike_1 : decode cX13_alike 1 = .ok (.getfield 7, 3) := dk_180 0 7 (dk_at dksX13_alike_0 1 rfl rfl)
theorem dX13_alike_4 : decode cX13_alike 4 = .ok (.aload_n 1, 1) := dk_43 (dk_at dksX13_alike_0 4 rfl rfl)
theorem dX13_alike_5 : decode cX13_alike 5 = .ok (.getfield 7, 3) := dk_180 0 7 (dk_at dksX13_alike_0 5 rfl rfl)
theorem dX13_alike_8 : decode cX13_alike 8 = .ok (.if_icmp .ne 7, 3) := dk_160 0 7 (dk_at dksX13_alike_0 8 rfl rfl)
theorem dX13_alike_11 : decode cX13_alike 11 = .ok (.iconst 2, 1) := dk_5 (dk_at dksX13_alike_0 11 rfl rfl)
theorem dX13_alike_12 : decode cX13_alike 12 = .ok (.goto 4, 3) := dk_167 0 4 (dk_at dksX13_alike_0 12 rfl rfl)
theorem dX13_alike_15 : decode cX13_alike 15 = .ok (.iconst 0, 1) := dk_3 (dk_at dksX13_alike_0 15 rfl rfl)
theorem dX13_alike_16 : decode cX13_alike 16 = .ok (.aload_n 0, 1) := dk_42 (dk_at dksX13_alike_0 16 rfl rfl)
theorem dX13_alike_17 : decode cX13_alike 17 = .ok (.getfield 13, 3) := dk_180 0 13 (dk_at dksX13_alike_0 17 rfl rfl)
theorem dX13_alike_20 : decode cX13_alike 20 = .ok (.aload_n 1, 1) := dk_43 (dk_at dksX13_alike_0 20 rfl rfl)
theorem dX13_alike_21 : decode cX13_alike 21 = .ok (.getfield 13, 3) := dk_180 0 13 (dk_at dksX13_alike_0 21 rfl rfl)
theorem dX13_alike_24 : decode cX13_alike 24 = .ok (.if_icmp .ne 7, 3) := dk_160 0 7 (dk_at dksX13_alike_1 0 rfl rfl)
theorem dX13_alike_27 : decode cX13_alike 27 = .ok (.iconst 1, 1) := dk_4 (dk_at dksX13_alike_1 3 rfl rfl)
theorem dX13_alike_28 : decode cX13_alike 28 = .ok (.goto 4, 3) := dk_167 0 4 (dk_at dksX13_alike_1 4 rfl rfl)
theorem dX13_alike_31 : decode cX13_alike 31 = .ok (.iconst 0, 1) := dk_3 (dk_at dksX13_alike_1 7 rfl rfl)
theorem dX13_alike_32 : decode cX13_alike 32 = .ok (.iadd, 1) := dk_96 (dk_at dksX13_alike_1 8 rfl rfl)
theorem dX13_alike_33 : decode cX13_alike 33 = .ok (.aload_n 0, 1) := dk_42 (dk_at dksX13_alike_1 9 rfl rfl)
theorem dX13_alike_34 : decode cX13_alike 34 = .ok (.getfield 16, 3) := dk_180 0 16 (dk_at dksX13_alike_1 10 rfl rfl)
theorem dX13_alike_37 : decode cX13_alike 37 = .ok (.aload_n 1, 1) := dk_43 (dk_at dksX13_alike_1 13 rfl rfl)
theorem dX13_alike_38 : decode cX13_alike 38 = .ok (.getfield 16, 3) := dk_180 0 16 (dk_at dksX13_alike_1 14 rfl rfl)
theorem dX13_alike_41 : decode cX13_alike 41 = .ok (.if_icmp .ne 7, 3) := dk_160 0 7 (dk_at dksX13_alike_1 17 rfl rfl)
theorem dX13_alike_44 : decode cX13_alike 44 = .ok (.iconst 1, 1) := dk_4 (dk_at dksX13_alike_1 20 rfl rfl)
theorem dX13_alike_45 : decode cX13_alike 45 = .ok (.goto 4, 3) := dk_167 0 4 (dk_at dksX13_alike_1 21 rfl rfl)
theorem dX13_alike_48 : decode cX13_alike 48 = .ok (.iconst 0, 1) := dk_3 (dk_at dksX13_alike_2 0 rfl rfl)
theorem dX13_alike_49 : decode cX13_alike 49 = .ok (.iadd, 1) := dk_96 (dk_at dksX13_alike_2 1 rfl rfl)
theorem dX13_alike_50 : decode cX13_alike 50 = .ok (.ireturn, 1) := dk_172 (dk_at dksX13_alike_2 2 rfl rfl)
def dkwX13_takes_1 : List UInt8 := [42, 180, 0, 16, 172]
abbrev dktX13_takes_1 : List UInt8 := dkwX13_takes_1 ++ []
def dkwX13_takes_0 : List UInt8 := [43, 198, 0, 23, 43, 180, 0, 7, 42, 180, 0, 7, 160, 0, 12, 42, 180, 0, 16, 4, 100, 167, 0, 7]
abbrev dktX13_takes_0 : List UInt8 := dkwX13_takes_0 ++ dktX13_takes_1
theorem dksX13_takes_0 : cX13_takes.data.toList.drop 0 = dktX13_takes_0 := by decide +kernel
theorem dksX13_takes_1 : cX13_takes.data.toList.drop 24 = dktX13_takes_1 := dk_seg dksX13_takes_0 24 rfl rfl
theorem dX13_takes_0 : decode cX13_takes 0 = .ok (.aload_n 1, 1) := dk_43 (dk_at dksX13_takes_0 0 rfl rfl)
theorem dX13_takes_1 : decode cX13_takes 1 = .ok (.ifnull 23, 3) := dk_198 0 23 (dk_at dksX13_takes_0 1 rfl rfl)
theorem dX13_takes_4 : decode cX13_takes 4 = .ok (.aload_n 1, 1) := dk_43 (dk_at dksX13_takes_0 4 rfl rfl)
theorem dX13_takes_5 : decode cX13_takes 5 = .ok (.getfield 7, 3) := dk_180 0 7 (dk_at dksX13_takes_0 5 rfl rfl)
theorem dX13_takes_8 : decode cX13_takes 8 = .ok (.aload_n 0, 1) := dk_42 (dk_at dksX13_takes_0 8 rfl rfl)
theorem dX13_takes_9 : decode cX13_takes 9 = .ok (.getfield 7, 3) := dk_180 0 7 (dk_at dksX13_takes_0 9 rfl rfl)
theorem dX13_takes_12 : decode cX13_takes 12 = .ok (.if_icmp .ne 12, 3) := dk_160 0 12 (dk_at dksX13_takes_0 12 rfl rfl)
theorem dX13_takes_15 : decode cX13_takes 15 = .ok (.aload_n 0, 1) := dk_42 (dk_at dksX13_takes_0 15 rfl rfl)
theorem dX13_takes_16 : decode cX13_takes 16 = .ok (.getfield 16, 3) := dk_180 0 16 (dk_at dksX13_takes_0 16 rfl rfl)
theorem dX13_takes_19 : decode cX13_takes 19 = .ok (.iconst 1, 1) := dk_4 (dk_at dksX13_takes_0 19 rfl rfl)
theorem dX13_takes_20 : decode cX13_takes 20 = .ok (.isub, 1) := dk_100 (dk_at dksX13_takes_0 20 rfl rfl)
theorem dX13_takes_21 : decode cX13_takes 21 = .ok (.goto 7, 3) := dk_167 0 7 (dk_at dksX13_takes_0 21 rfl rfl)
theorem dX13_takes_24 : decode cX13_takes 24 = .ok (.aload_n 0, 1) := dk_42 (dk_at dksX13_takes_1 0 rfl rfl)
theorem dX13_takes_25 : decode cX13_takes 25 = .ok (.getfield 16, 3) := dk_180 0 16 (dk_at dksX13_takes_1 1 rfl rfl)
theorem dX13_takes_28 : decode cX13_takes 28 = .ok (.ireturn, 1) := dk_172 (dk_at dksX13_takes_1 4 rfl rfl)
def dkwJ11_checkIndex_0 : List UInt8 := [26, 27, 1, 184, 0, 105, 172]
abbrev dktJ11_checkIndex_0 : List UInt8 := dkwJ11_checkIndex_0 ++ []
theorem dksJ11_checkIndex_0 : cJ11_checkIndex.data.toList.drop 0 = dktJ11_checkIndex_0 := by decide +kernel
theorem dJ11_checkIndex_0 : decode cJ11_checkIndex 0 = .ok (.iload_n 0, 1) := dk_26 (dk_at dksJ11_checkIndex_0 0 rfl rfl)
theorem dJ11_checkIndex_1 : decode cJ11_checkIndex 1 = .ok (.iload_n 1, 1) := dk_27 (dk_at dksJ11_checkIndex_0 1 rfl rfl)
theorem dJ11_checkIndex_2 : decode cJ11_checkIndex 2 = .ok (.aconst_null, 1) := dk_1 (dk_at dksJ11_checkIndex_0 2 rfl rfl)
theorem dJ11_checkIndex_3 : decode cJ11_checkIndex 3 = .ok (.invokestatic 105, 3) := dk_184 0 105 (dk_at dksJ11_checkIndex_0 3 rfl rfl)
theorem dJ11_checkIndex_6 : decode cJ11_checkIndex 6 = .ok (.ireturn, 1) := dk_172 (dk_at dksJ11_checkIndex_0 6 rfl rfl)
def dkwJ12_newLength_1 : List UInt8 := [184, 0, 201, 172]
abbrev dktJ12_newLength_1 : List UInt8 := dkwJ12_newLength_1 ++ []
def dkwJ12_newLength_0 : List UInt8 := [26, 27, 28, 184, 0, 194, 96, 62, 3, 29, 162, 0, 11, 29, 18, 200, 163, 0, 5, 29, 172, 26, 27]
abbrev dktJ12_newLength_0 : List UInt8 := dkwJ12_newLength_0 ++ dktJ12_newLength_1
theorem dksJ12_newLength_0 : cJ12_newLength.data.toList.drop 0 = dktJ12_newLength_0 := by decide +kernel
theorem dksJ12_newLength_1 : cJ12_newLength.data.toList.drop 23 = dktJ12_newLength_1 := dk_seg dksJ12_newLength_0 23 rfl rfl
theorem dJ12_newLength_0 : decode cJ12_newLength 0 = .ok (.iload_n 0, 1) := dk_26 (dk_at dksJ12_newLength_0 0 rfl rfl)
theorem dJ12_newLength_1 : decode cJ12_newLength 1 = .ok (.iload_n 1, 1) := dk_27 (dk_at dksJ12_newLength_0 1 rfl rfl)
theorem dJ12_newLength_2 : decode cJ12_newLength 2 = .ok (.iload_n 2, 1) := dk_28 (dk_at dksJ12_newLength_0 2 rfl rfl)
theorem dJ12_newLength_3 : decode cJ12_newLength 3 = .ok (.invokestatic 194, 3) := dk_184 0 194 (dk_at dksJ12_newLength_0 3 rfl rfl)
theorem dJ12_newLength_6 : decode cJ12_newLength 6 = .ok (.iadd, 1) := dk_96 (dk_at dksJ12_newLength_0 6 rfl rfl)
theorem dJ12_newLength_7 : decode cJ12_newLength 7 = .ok (.istore_n 3, 1) := dk_62 (dk_at dksJ12_newLength_0 7 rfl rfl)
theorem dJ12_newLength_8 : decode cJ12_newLength 8 = .ok (.iconst 0, 1) := dk_3 (dk_at dksJ12_newLength_0 8 rfl rfl)
theorem dJ12_newLength_9 : decode cJ12_newLength 9 = .ok (.iload_n 3, 1) := dk_29 (dk_at dksJ12_newLength_0 9 rfl rfl)
theorem dJ12_newLength_10 : decode cJ12_newLength 10 = .ok (.if_icmp .ge 11, 3) := dk_162 0 11 (dk_at dksJ12_newLength_0 10 rfl rfl)
theorem dJ12_newLength_13 : decode cJ12_newLength 13 = .ok (.iload_n 3, 1) := dk_29 (dk_at dksJ12_newLength_0 13 rfl rfl)
theorem dJ12_newLength_14 : decode cJ12_newLength 14 = .ok (.ldc 200, 2) := dk_18 200 (dk_at dksJ12_newLength_0 14 rfl rfl)
theorem dJ12_newLength_16 : decode cJ12_newLength 16 = .ok (.if_icmp .gt 5, 3) := dk_163 0 5 (dk_at dksJ12_newLength_0 16 rfl rfl)
theorem dJ12_newLength_19 : decode cJ12_newLength 19 = .ok (.iload_n 3, 1) := dk_29 (dk_at dksJ12_newLength_0 19 rfl rfl)
theorem dJ12_newLength_20 : decode cJ12_newLength 20 = .ok (.ireturn, 1) := dk_172 (dk_at dksJ12_newLength_0 20 rfl rfl)
theorem dJ12_newLength_21 : decode cJ12_newLength 21 = .ok (.iload_n 0, 1) := dk_26 (dk_at dksJ12_newLength_0 21 rfl rfl)
theorem dJ12_newLength_22 : decode cJ12_newLength 22 = .ok (.iload_n 1, 1) := dk_27 (dk_at dksJ12_newLength_0 22 rfl rfl)
theorem dJ12_newLength_23 : decode cJ12_newLength 23 = .ok (.invokestatic 201, 3) := dk_184 0 201 (dk_at dksJ12_newLength_1 0 rfl rfl)
theorem dJ12_newLength_26 : decode cJ12_newLength 26 = .ok (.ireturn, 1) := dk_172 (dk_at dksJ12_newLength_1 3 rfl rfl)
def dkwJ12_hugeLength_2 : List UInt8 := [191, 28, 18, 200, 163, 0, 6, 18, 200, 172, 28, 172]
abbrev dktJ12_hugeLength_2 : List UInt8 := dkwJ12_hugeLength_2 ++ []
def dkwJ12_hugeLength_1 : List UInt8 := [26, 182, 0, 98, 18, 208, 182, 0, 94, 27, 182, 0, 98, 18, 210, 182, 0, 94, 182, 0, 101, 183, 0, 212]
abbrev dktJ12_hugeLength_1 : List UInt8 := dkwJ12_hugeLength_1 ++ dktJ12_hugeLength_2
def dkwJ12_hugeLength_0 : List UInt8 := [26, 27, 96, 61, 28, 156, 0, 44, 187, 0, 204, 89, 187, 0, 89, 89, 183, 0, 91, 18, 206, 182, 0, 94]
abbrev dktJ12_hugeLength_0 : List UInt8 := dkwJ12_hugeLength_0 ++ dktJ12_hugeLength_1
theorem dksJ12_hugeLength_0 : cJ12_hugeLength.data.toList.drop 0 = dktJ12_hugeLength_0 := by decide +kernel
theorem dksJ12_hugeLength_1 : cJ12_hugeLength.data.toList.drop 24 = dktJ12_hugeLength_1 := dk_seg dksJ12_hugeLength_0 24 rfl rfl
theorem dksJ12_hugeLength_2 : cJ12_hugeLength.data.toList.drop 48 = dktJ12_hugeLength_2 := dk_seg dksJ12_hugeLength_1 24 rfl rfl
theorem dJ12_hugeLength_0 : decode cJ12_hugeLength 0 = .ok (.iload_n 0, 1) := dk_26 (dk_at dksJ12_hugeLength_0 0 rfl rfl)
theorem dJ12_hugeLength_1 : decode cJ12_hugeLength 1 = .ok (.iload_n 1, 1) := dk_27 (dk_at dksJ12_hugeLength_0 1 rfl rfl)
theorem dJ12_hugeLength_2 : decode cJ12_hugeLength 2 = .ok (.iadd, 1) := dk_96 (dk_at dksJ12_hugeLength_0 2 rfl rfl)
theorem dJ12_hugeLength_3 : decode cJ12_hugeLength 3 = .ok (.istore_n 2, 1) := dk_61 (dk_at dksJ12_hugeLength_0 3 rfl rfl)
theorem dJ12_hugeLength_4 : decode cJ12_hugeLength 4 = .ok (.iload_n 2, 1) := dk_28 (dk_at dksJ12_hugeLength_0 4 rfl rfl)
theorem dJ12_hugeLength_5 : decode cJ12_hugeLength 5 = .ok (.ifCond .ge 44, 3) := dk_156 0 44 (dk_at dksJ12_hugeLength_0 5 rfl rfl)
theorem dJ12_hugeLength_8 : decode cJ12_hugeLength 8 = .ok (.new 204, 3) := dk_187 0 204 (dk_at dksJ12_hugeLength_0 8 rfl rfl)
theorem dJ12_hugeLength_11 : decode cJ12_hugeLength 11 = .ok (.dup, 1) := dk_89 (dk_at dksJ12_hugeLength_0 11 rfl rfl)
theorem dJ12_hugeLength_12 : decode cJ12_hugeLength 12 = .ok (.new 89, 3) := dk_187 0 89 (dk_at dksJ12_hugeLength_0 12 rfl rfl)
theorem dJ12_hugeLength_15 : decode cJ12_hugeLength 15 = .ok (.dup, 1) := dk_89 (dk_at dksJ12_hugeLength_0 15 rfl rfl)
theorem dJ12_hugeLength_16 : decode cJ12_hugeLength 16 = .ok (.invokespecial 91, 3) := dk_183 0 91 (dk_at dksJ12_hugeLength_0 16 rfl rfl)
theorem dJ12_hugeLength_19 : decode cJ12_hugeLength 19 = .ok (.ldc 206, 2) := dk_18 206 (dk_at dksJ12_hugeLength_0 19 rfl rfl)
theorem dJ12_hugeLength_21 : decode cJ12_hugeLength 21 = .ok (.invokevirtual 94, 3) := dk_182 0 94 (dk_at dksJ12_hugeLength_0 21 rfl rfl)
theorem dJ12_hugeLength_24 : decode cJ12_hugeLength 24 = .ok (.iload_n 0, 1) := dk_26 (dk_at dksJ12_hugeLength_1 0 rfl rfl)
theorem dJ12_hugeLength_25 : decode cJ12_hugeLength 25 = .ok (.invokevirtual 98, 3) := dk_182 0 98 (dk_at dksJ12_hugeLength_1 1 rfl rfl)
theorem dJ12_hugeLength_28 : decode cJ12_hugeLength 28 = .ok (.ldc 208, 2) := dk_18 208 (dk_at dksJ12_hugeLength_1 4 rfl rfl)
theorem dJ12_hugeLength_30 : decode cJ12_hugeLength 30 = .ok (.invokevirtual 94, 3) := dk_182 0 94 (dk_at dksJ12_hugeLength_1 6 rfl rfl)
theorem dJ12_hugeLength_33 : decode cJ12_hugeLength 33 = .ok (.iload_n 1, 1) := dk_27 (dk_at dksJ12_hugeLength_1 9 rfl rfl)
theorem dJ12_hugeLength_34 : decode cJ12_hugeLength 34 = .ok (.invokevirtual 98, 3) := dk_182 0 98 (dk_at dksJ12_hugeLength_1 10 rfl rfl)
theorem dJ12_hugeLength_37 : decode cJ12_hugeLength 37 = .ok (.ldc 210, 2) := dk_18 210 (dk_at dksJ12_hugeLength_1 13 rfl rfl)
theorem dJ12_hugeLength_39 : decode cJ12_hugeLength 39 = .ok (.invokevirtual 94, 3) := dk_182 0 94 (dk_at dksJ12_hugeLength_1 15 rfl rfl)
theorem dJ12_hugeLength_42 : decode cJ12_hugeLength 42 = .ok (.invokevirtual 101, 3) := dk_182 0 101 (dk_at dksJ12_hugeLength_1 18 rfl rfl)
theorem dJ12_hugeLength_45 : decode cJ12_hugeLength 45 = .ok (.invokespecial 212, 3) := dk_183 0 212 (dk_at dksJ12_hugeLength_1 21 rfl rfl)
theorem dJ12_hugeLength_48 : decode cJ12_hugeLength 48 = .ok (.athrow, 1) := dk_191 (dk_at dksJ12_hugeLength_2 0 rfl rfl)
theorem dJ12_hugeLength_49 : decode cJ12_hugeLength 49 = .ok (.iload_n 2, 1) := dk_28 (dk_at dksJ12_hugeLength_2 1 rfl rfl)
theorem dJ12_hugeLength_50 : decode cJ12_hugeLength 50 = .ok (.ldc 200, 2) := dk_18 200 (dk_at dksJ12_hugeLength_2 2 rfl rfl)
theorem dJ12_hugeLength_52 : decode cJ12_hugeLength 52 = .ok (.if_icmp .gt 6, 3) := dk_163 0 6 (dk_at dksJ12_hugeLength_2 4 rfl rfl)
theorem dJ12_hugeLength_55 : decode cJ12_hugeLength 55 = .ok (.ldc 200, 2) := dk_18 200 (dk_at dksJ12_hugeLength_2 7 rfl rfl)
theorem dJ12_hugeLength_57 : decode cJ12_hugeLength 57 = .ok (.ireturn, 1) := dk_172 (dk_at dksJ12_hugeLength_2 9 rfl rfl)
theorem dJ12_hugeLength_58 : decode cJ12_hugeLength 58 = .ok (.iload_n 2, 1) := dk_28 (dk_at dksJ12_hugeLength_2 10 rfl rfl)
theorem dJ12_hugeLength_59 : decode cJ12_hugeLength 59 = .ok (.ireturn, 1) := dk_172 (dk_at dksJ12_hugeLength_2 11 rfl rfl)
def dkwJ13_max_0 : List UInt8 := [26, 27, 161, 0, 7, 26, 167, 0, 4, 27, 172]
abbrev dktJ13_max_0 : List UInt8 := dkwJ13_max_0 ++ []
theorem dksJ13_max_0 : cJ13_max.data.toList.drop 0 = dktJ13_max_0 := by decide +kernel
theorem dJ13_max_0 : decode cJ13_max 0 = .ok (.iload_n 0, 1) := dk_26 (dk_at dksJ13_max_0 0 rfl rfl)
theorem dJ13_max_1 : decode cJ13_max 1 = .ok (.iload_n 1, 1) := dk_27 (dk_at dksJ13_max_0 1 rfl rfl)
theorem dJ13_max_2 : decode cJ13_max 2 = .ok (.if_icmp .lt 7, 3) := dk_161 0 7 (dk_at dksJ13_max_0 2 rfl rfl)
theorem dJ13_max_5 : decode cJ13_max 5 = .ok (.iload_n 0, 1) := dk_26 (dk_at dksJ13_max_0 5 rfl rfl)
theorem dJ13_max_6 : decode cJ13_max 6 = .ok (.goto 4, 3) := dk_167 0 4 (dk_at dksJ13_max_0 6 rfl rfl)
theorem dJ13_max_9 : decode cJ13_max 9 = .ok (.iload_n 1, 1) := dk_27 (dk_at dksJ13_max_0 9 rfl rfl)
theorem dJ13_max_10 : decode cJ13_max 10 = .ok (.ireturn, 1) := dk_172 (dk_at dksJ13_max_0 10 rfl rfl)
def dkwJ13_min_0 : List UInt8 := [26, 27, 163, 0, 7, 26, 167, 0, 4, 27, 172]
abbrev dktJ13_min_0 : List UInt8 := dkwJ13_min_0 ++ []
theorem dksJ13_min_0 : cJ13_min.data.toList.drop 0 = dktJ13_min_0 := by decide +kernel
theorem dJ13_min_0 : decode cJ13_min 0 = .ok (.iload_n 0, 1) := dk_26 (dk_at dksJ13_min_0 0 rfl rfl)
theorem dJ13_min_1 : decode cJ13_min 1 = .ok (.iload_n 1, 1) := dk_27 (dk_at dksJ13_min_0 1 rfl rfl)
theorem dJ13_min_2 : decode cJ13_min 2 = .ok (.if_icmp .gt 7, 3) := dk_163 0 7 (dk_at dksJ13_min_0 2 rfl rfl)
theorem dJ13_min_5 : decode cJ13_min 5 = .ok (.iload_n 0, 1) := dk_26 (dk_at dksJ13_min_0 5 rfl rfl)
theorem dJ13_min_6 : decode cJ13_min 6 = .ok (.goto 4, 3) := dk_167 0 4 (dk_at dksJ13_min_0 6 rfl rfl)
theorem dJ13_min_9 : decode cJ13_min 9 = .ok (.iload_n 1, 1) := dk_27 (dk_at dksJ13_min_0 9 rfl rfl)
theorem dJ13_min_10 : decode cJ13_min 10 = .ok (.ireturn, 1) := dk_172 (dk_at dksJ13_min_0 10 rfl rfl)
def dkwJ13_abs_0 : List UInt8 := [26, 156, 0, 8, 26, 116, 167, 0, 4, 26, 172]
abbrev dktJ13_abs_0 : List UInt8 := dkwJ13_abs_0 ++ []
theorem dksJ13_abs_0 : cJ13_abs.data.toList.drop 0 = dktJ13_abs_0 := by decide +kernel
theorem dJ13_abs_0 : decode cJ13_abs 0 = .ok (.iload_n 0, 1) := dk_26 (dk_at dksJ13_abs_0 0 rfl rfl)
theorem dJ13_abs_1 : decode cJ13_abs 1 = .ok (.ifCond .ge 8, 3) := dk_156 0 8 (dk_at dksJ13_abs_0 1 rfl rfl)
theorem dJ13_abs_4 : decode cJ13_abs 4 = .ok (.iload_n 0, 1) := dk_26 (dk_at dksJ13_abs_0 4 rfl rfl)
theorem dJ13_abs_5 : decode cJ13_abs 5 = .ok (.ineg, 1) := dk_116 (dk_at dksJ13_abs_0 5 rfl rfl)
theorem dJ13_abs_6 : decode cJ13_abs 6 = .ok (.goto 4, 3) := dk_167 0 4 (dk_at dksJ13_abs_0 6 rfl rfl)
theorem dJ13_abs_9 : decode cJ13_abs 9 = .ok (.iload_n 0, 1) := dk_26 (dk_at dksJ13_abs_0 9 rfl rfl)
theorem dJ13_abs_10 : decode cJ13_abs 10 = .ok (.ireturn, 1) := dk_172 (dk_at dksJ13_abs_0 10 rfl rfl)
def dkwJ14_copyOf_0 : List UInt8 := [42, 27, 42, 182, 0, 86, 184, 1, 44, 176]
abbrev dktJ14_copyOf_0 : List UInt8 := dkwJ14_copyOf_0 ++ []
theorem dksJ14_copyOf_0 : cJ14_copyOf.data.toList.drop 0 = dktJ14_copyOf_0 := by decide +kernel
theorem dJ14_copyOf_0 : decode cJ14_copyOf 0 = .ok (.aload_n 0, 1) := dk_42 (dk_at dksJ14_copyOf_0 0 rfl rfl)
theorem dJ14_copyOf_1 : decode cJ14_copyOf 1 = .ok (.iload_n 1, 1) := dk_27 (dk_at dksJ14_copyOf_0 1 rfl rfl)
theorem dJ14_copyOf_2 : decode cJ14_copyOf 2 = .ok (.aload_n 0, 1) := dk_42 (dk_at dksJ14_copyOf_0 2 rfl rfl)
theorem dJ14_copyOf_3 : decode cJ14_copyOf 3 = .ok (.invokevirtual 86, 3) := dk_182 0 86 (dk_at dksJ14_copyOf_0 3 rfl rfl)
theorem dJ14_copyOf_6 : decode cJ14_copyOf 6 = .ok (.invokestatic 300, 3) := dk_184 1 44 (dk_at dksJ14_copyOf_0 6 rfl rfl)
theorem dJ14_copyOf_9 : decode cJ14_copyOf 9 = .ok (.areturn, 1) := dk_176 (dk_at dksJ14_copyOf_0 9 rfl rfl)
def dkwJ14_copyOf_2_1 : List UInt8 := [78, 42, 3, 45, 3, 42, 190, 27, 184, 1, 48, 184, 0, 150, 45, 176]
abbrev dktJ14_copyOf_2_1 : List UInt8 := dkwJ14_copyOf_2_1 ++ []
def dkwJ14_copyOf_2_0 : List UInt8 := [44, 18, 110, 166, 0, 10, 27, 189, 0, 2, 167, 0, 14, 44, 182, 0, 90, 27, 184, 0, 95, 192, 0, 110]
abbrev dktJ14_copyOf_2_0 : List UInt8 := dkwJ14_copyOf_2_0 ++ dktJ14_copyOf_2_1
theorem dksJ14_copyOf_2_0 : cJ14_copyOf_2.data.toList.drop 0 = dktJ14_copyOf_2_0 := by decide +kernel
theorem dksJ14_copyOf_2_1 : cJ14_copyOf_2.data.toList.drop 24 = dktJ14_copyOf_2_1 := dk_seg dksJ14_copyOf_2_0 24 rfl rfl
theorem dJ14_copyOf_2_0 : decode cJ14_copyOf_2 0 = .ok (.aload_n 2, 1) := dk_44 (dk_at dksJ14_copyOf_2_0 0 rfl rfl)
theorem dJ14_copyOf_2_1 : decode cJ14_copyOf_2 1 = .ok (.ldc 110, 2) := dk_18 110 (dk_at dksJ14_copyOf_2_0 1 rfl rfl)
theorem dJ14_copyOf_2_3 : decode cJ14_copyOf_2 3 = .ok (.if_acmp .ne 10, 3) := dk_166 0 10 (dk_at dksJ14_copyOf_2_0 3 rfl rfl)
theorem dJ14_copyOf_2_6 : decode cJ14_copyOf_2 6 = .ok (.iload_n 1, 1) := dk_27 (dk_at dksJ14_copyOf_2_0 6 rfl rfl)
theorem dJ14_copyOf_2_7 : decode cJ14_copyOf_2 7 = .ok (.anewarray 2, 3) := dk_189 0 2 (dk_at dksJ14_copyOf_2_0 7 rfl rfl)
theorem dJ14_copyOf_2_10 : decode cJ14_copyOf_2 10 = .ok (.goto 14, 3) := dk_167 0 14 (dk_at dksJ14_copyOf_2_0 10 rfl rfl)
theorem dJ14_copyOf_2_13 : decode cJ14_copyOf_2 13 = .ok (.aload_n 2, 1) := dk_44 (dk_at dksJ14_copyOf_2_0 13 rfl rfl)
theorem dJ14_copyOf_2_14 : decode cJ14_copyOf_2 14 = .ok (.invokevirtual 90, 3) := dk_182 0 90 (dk_at dksJ14_copyOf_2_0 14 rfl rfl)
theorem dJ14_copyOf_2_17 : decode cJ14_copyOf_2 17 = .ok (.iload_n 1, 1) := dk_27 (dk_at dksJ14_copyOf_2_0 17 rfl rfl)
theorem dJ14_copyOf_2_18 : decode cJ14_copyOf_2 18 = .ok (.invokestatic 95, 3) := dk_184 0 95 (dk_at dksJ14_copyOf_2_0 18 rfl rfl)
theorem dJ14_copyOf_2_21 : decode cJ14_copyOf_2 21 = .ok (.checkcast 110, 3) := dk_192 0 110 (dk_at dksJ14_copyOf_2_0 21 rfl rfl)
theorem dJ14_copyOf_2_24 : decode cJ14_copyOf_2 24 = .ok (.astore_n 3, 1) := dk_78 (dk_at dksJ14_copyOf_2_1 0 rfl rfl)
theorem dJ14_copyOf_2_25 : decode cJ14_copyOf_2 25 = .ok (.aload_n 0, 1) := dk_42 (dk_at dksJ14_copyOf_2_1 1 rfl rfl)
theorem dJ14_copyOf_2_26 : decode cJ14_copyOf_2 26 = .ok (.iconst 0, 1) := dk_3 (dk_at dksJ14_copyOf_2_1 2 rfl rfl)
theorem dJ14_copyOf_2_27 : decode cJ14_copyOf_2 27 = .ok (.aload_n 3, 1) := dk_45 (dk_at dksJ14_copyOf_2_1 3 rfl rfl)
theorem dJ14_copyOf_2_28 : decode cJ14_copyOf_2 28 = .ok (.iconst 0, 1) := dk_3 (dk_at dksJ14_copyOf_2_1 4 rfl rfl)
theorem dJ14_copyOf_2_29 : decode cJ14_copyOf_2 29 = .ok (.aload_n 0, 1) := dk_42 (dk_at dksJ14_copyOf_2_1 5 rfl rfl)
theorem dJ14_copyOf_2_30 : decode cJ14_copyOf_2 30 = .ok (.arraylength, 1) := dk_190 (dk_at dksJ14_copyOf_2_1 6 rfl rfl)
theorem dJ14_copyOf_2_31 : decode cJ14_copyOf_2 31 = .ok (.iload_n 1, 1) := dk_27 (dk_at dksJ14_copyOf_2_1 7 rfl rfl)
theorem dJ14_copyOf_2_32 : decode cJ14_copyOf_2 32 = .ok (.invokestatic 304, 3) := dk_184 1 48 (dk_at dksJ14_copyOf_2_1 8 rfl rfl)
theorem dJ14_copyOf_2_35 : decode cJ14_copyOf_2 35 = .ok (.invokestatic 150, 3) := dk_184 0 150 (dk_at dksJ14_copyOf_2_1 11 rfl rfl)
theorem dJ14_copyOf_2_38 : decode cJ14_copyOf_2 38 = .ok (.aload_n 3, 1) := dk_45 (dk_at dksJ14_copyOf_2_1 14 rfl rfl)
theorem dJ14_copyOf_2_39 : decode cJ14_copyOf_2 39 = .ok (.areturn, 1) := dk_176 (dk_at dksJ14_copyOf_2_1 15 rfl rfl)
def dkwJ14_copyOf_3_1 : List UInt8 := [27, 184, 1, 48, 184, 0, 150, 44, 176]
abbrev dktJ14_copyOf_3_1 : List UInt8 := dkwJ14_copyOf_3_1 ++ []
def dkwJ14_copyOf_3_0 : List UInt8 := [27, 42, 190, 160, 0, 11, 42, 182, 1, 54, 192, 1, 55, 176, 27, 188, 8, 77, 42, 3, 44, 3, 42, 190]
abbrev dktJ14_copyOf_3_0 : List UInt8 := dkwJ14_copyOf_3_0 ++ dktJ14_copyOf_3_1
theorem dksJ14_copyOf_3_0 : cJ14_copyOf_3.data.toList.drop 0 = dktJ14_copyOf_3_0 := by decide +kernel
theorem dksJ14_copyOf_3_1 : cJ14_copyOf_3.data.toList.drop 24 = dktJ14_copyOf_3_1 := dk_seg dksJ14_copyOf_3_0 24 rfl rfl
theorem dJ14_copyOf_3_0 : decode cJ14_copyOf_3 0 = .ok (.iload_n 1, 1) := dk_27 (dk_at dksJ14_copyOf_3_0 0 rfl rfl)
theorem dJ14_copyOf_3_1 : decode cJ14_copyOf_3 1 = .ok (.aload_n 0, 1) := dk_42 (dk_at dksJ14_copyOf_3_0 1 rfl rfl)
theorem dJ14_copyOf_3_2 : decode cJ14_copyOf_3 2 = .ok (.arraylength, 1) := dk_190 (dk_at dksJ14_copyOf_3_0 2 rfl rfl)
theorem dJ14_copyOf_3_3 : decode cJ14_copyOf_3 3 = .ok (.if_icmp .ne 11, 3) := dk_160 0 11 (dk_at dksJ14_copyOf_3_0 3 rfl rfl)
theorem dJ14_copyOf_3_6 : decode cJ14_copyOf_3 6 = .ok (.aload_n 0, 1) := dk_42 (dk_at dksJ14_copyOf_3_0 6 rfl rfl)
theorem dJ14_copyOf_3_7 : decode cJ14_copyOf_3 7 = .ok (.invokevirtual 310, 3) := dk_182 1 54 (dk_at dksJ14_copyOf_3_0 7 rfl rfl)
theorem dJ14_copyOf_3_10 : decode cJ14_copyOf_3 10 = .ok (.checkcast 311, 3) := dk_192 1 55 (dk_at dksJ14_copyOf_3_0 10 rfl rfl)
theorem dJ14_copyOf_3_13 : decode cJ14_copyOf_3 13 = .ok (.areturn, 1) := dk_176 (dk_at dksJ14_copyOf_3_0 13 rfl rfl)
theorem dJ14_copyOf_3_14 : decode cJ14_copyOf_3 14 = .ok (.iload_n 1, 1) := dk_27 (dk_at dksJ14_copyOf_3_0 14 rfl rfl)
theorem dJ14_copyOf_3_15 : decode cJ14_copyOf_3 15 = .ok (.newarray .byte, 2) := dk_188_8 (dk_at dksJ14_copyOf_3_0 15 rfl rfl)
theorem dJ14_copyOf_3_17 : decode cJ14_copyOf_3 17 = .ok (.astore_n 2, 1) := dk_77 (dk_at dksJ14_copyOf_3_0 17 rfl rfl)
theorem dJ14_copyOf_3_18 : decode cJ14_copyOf_3 18 = .ok (.aload_n 0, 1) := dk_42 (dk_at dksJ14_copyOf_3_0 18 rfl rfl)
theorem dJ14_copyOf_3_19 : decode cJ14_copyOf_3 19 = .ok (.iconst 0, 1) := dk_3 (dk_at dksJ14_copyOf_3_0 19 rfl rfl)
theorem dJ14_copyOf_3_20 : decode cJ14_copyOf_3 20 = .ok (.aload_n 2, 1) := dk_44 (dk_at dksJ14_copyOf_3_0 20 rfl rfl)
theorem dJ14_copyOf_3_21 : decode cJ14_copyOf_3 21 = .ok (.iconst 0, 1) := dk_3 (dk_at dksJ14_copyOf_3_0 21 rfl rfl)
theorem dJ14_copyOf_3_22 : decode cJ14_copyOf_3 22 = .ok (.aload_n 0, 1) := dk_42 (dk_at dksJ14_copyOf_3_0 22 rfl rfl)
theorem dJ14_copyOf_3_23 : decode cJ14_copyOf_3 23 = .ok (.arraylength, 1) := dk_190 (dk_at dksJ14_copyOf_3_0 23 rfl rfl)
theorem dJ14_copyOf_3_24 : decode cJ14_copyOf_3 24 = .ok (.iload_n 1, 1) := dk_27 (dk_at dksJ14_copyOf_3_1 0 rfl rfl)
theorem dJ14_copyOf_3_25 : decode cJ14_copyOf_3 25 = .ok (.invokestatic 304, 3) := dk_184 1 48 (dk_at dksJ14_copyOf_3_1 1 rfl rfl)
theorem dJ14_copyOf_3_28 : decode cJ14_copyOf_3 28 = .ok (.invokestatic 150, 3) := dk_184 0 150 (dk_at dksJ14_copyOf_3_1 4 rfl rfl)
theorem dJ14_copyOf_3_31 : decode cJ14_copyOf_3 31 = .ok (.aload_n 2, 1) := dk_44 (dk_at dksJ14_copyOf_3_1 7 rfl rfl)
theorem dJ14_copyOf_3_32 : decode cJ14_copyOf_3 32 = .ok (.areturn, 1) := dk_176 (dk_at dksJ14_copyOf_3_1 8 rfl rfl)
def dkwJ14_fill_1 : List UInt8 := [167, 255, 242, 177]
abbrev dktJ14_fill_1 : List UInt8 := dkwJ14_fill_1 ++ []
def dkwJ14_fill_0 : List UInt8 := [42, 190, 27, 28, 184, 0, 13, 27, 54, 4, 21, 4, 28, 162, 0, 14, 42, 21, 4, 29, 84, 132, 4, 1]
abbrev dktJ14_fill_0 : List UInt8 := dkwJ14_fill_0 ++ dktJ14_fill_1
theorem dksJ14_fill_0 : cJ14_fill.data.toList.drop 0 = dktJ14_fill_0 := by decide +kernel
theorem dksJ14_fill_1 : cJ14_fill.data.toList.drop 24 = dktJ14_fill_1 := dk_seg dksJ14_fill_0 24 rfl rfl
theorem dJ14_fill_0 : decode cJ14_fill 0 = .ok (.aload_n 0, 1) := dk_42 (dk_at dksJ14_fill_0 0 rfl rfl)
theorem dJ14_fill_1 : decode cJ14_fill 1 = .ok (.arraylength, 1) := dk_190 (dk_at dksJ14_fill_0 1 rfl rfl)
theorem dJ14_fill_2 : decode cJ14_fill 2 = .ok (.iload_n 1, 1) := dk_27 (dk_at dksJ14_fill_0 2 rfl rfl)
theorem dJ14_fill_3 : decode cJ14_fill 3 = .ok (.iload_n 2, 1) := dk_28 (dk_at dksJ14_fill_0 3 rfl rfl)
theorem dJ14_fill_4 : decode cJ14_fill 4 = .ok (.invokestatic 13, 3) := dk_184 0 13 (dk_at dksJ14_fill_0 4 rfl rfl)
theorem dJ14_fill_7 : decode cJ14_fill 7 = .ok (.iload_n 1, 1) := dk_27 (dk_at dksJ14_fill_0 7 rfl rfl)
theorem dJ14_fill_8 : decode cJ14_fill 8 = .ok (.istore 4, 2) := dk_54 4 (dk_at dksJ14_fill_0 8 rfl rfl)
theorem dJ14_fill_10 : decode cJ14_fill 10 = .ok (.iload 4, 2) := dk_21 4 (dk_at dksJ14_fill_0 10 rfl rfl)
theorem dJ14_fill_12 : decode cJ14_fill 12 = .ok (.iload_n 2, 1) := dk_28 (dk_at dksJ14_fill_0 12 rfl rfl)
theorem dJ14_fill_13 : decode cJ14_fill 13 = .ok (.if_icmp .ge 14, 3) := dk_162 0 14 (dk_at dksJ14_fill_0 13 rfl rfl)
theorem dJ14_fill_16 : decode cJ14_fill 16 = .ok (.aload_n 0, 1) := dk_42 (dk_at dksJ14_fill_0 16 rfl rfl)
theorem dJ14_fill_17 : decode cJ14_fill 17 = .ok (.iload 4, 2) := dk_21 4 (dk_at dksJ14_fill_0 17 rfl rfl)
theorem dJ14_fill_19 : decode cJ14_fill 19 = .ok (.iload_n 3, 1) := dk_29 (dk_at dksJ14_fill_0 19 rfl rfl)
theorem dJ14_fill_20 : decode cJ14_fill 20 = .ok (.bastore, 1) := dk_84 (dk_at dksJ14_fill_0 20 rfl rfl)
theorem dJ14_fill_21 : decode cJ14_fill 21 = .ok (.iinc 4 1, 3) := dk_132 4 1 (dk_at dksJ14_fill_0 21 rfl rfl)
theorem dJ14_fill_24 : decode cJ14_fill 24 = .ok (.goto (-14), 3) := dk_167 255 242 (dk_at dksJ14_fill_1 0 rfl rfl)
theorem dJ14_fill_27 : decode cJ14_fill 27 = .ok (.return_, 1) := dk_177 (dk_at dksJ14_fill_1 3 rfl rfl)
def dkwJ14_rangeCheck_3 : List UInt8 := [183, 0, 70, 191, 177]
abbrev dktJ14_rangeCheck_3 : List UInt8 := dkwJ14_rangeCheck_3 ++ []
def dkwJ14_rangeCheck_2 : List UInt8 := [27, 156, 0, 12, 187, 0, 68, 89, 27, 183, 0, 70, 191, 28, 26, 164, 0, 12, 187, 0, 68, 89, 28]
abbrev dktJ14_rangeCheck_2 : List UInt8 := dkwJ14_rangeCheck_2 ++ dktJ14_rangeCheck_3
def dkwJ14_rangeCheck_1 : List UInt8 := [182, 0, 54, 18, 57, 182, 0, 50, 28, 182, 0, 54, 18, 59, 182, 0, 50, 182, 0, 61, 183, 0, 65, 191]
abbrev dktJ14_rangeCheck_1 : List UInt8 := dkwJ14_rangeCheck_1 ++ dktJ14_rangeCheck_2
def dkwJ14_rangeCheck_0 : List UInt8 := [27, 28, 164, 0, 44, 187, 0, 43, 89, 187, 0, 45, 89, 183, 0, 47, 18, 48, 182, 0, 50, 27]
abbrev dktJ14_rangeCheck_0 : List UInt8 := dkwJ14_rangeCheck_0 ++ dktJ14_rangeCheck_1
theorem dksJ14_rangeCheck_0 : cJ14_rangeCheck.data.toList.drop 0 = dktJ14_rangeCheck_0 := by decide +kernel
theorem dksJ14_rangeCheck_1 : cJ14_rangeCheck.data.toList.drop 22 = dktJ14_rangeCheck_1 := dk_seg dksJ14_rangeCheck_0 22 rfl rfl
theorem dksJ14_rangeCheck_2 : cJ14_rangeCheck.data.toList.drop 46 = dktJ14_rangeCheck_2 := dk_seg dksJ14_rangeCheck_1 24 rfl rfl
theorem dksJ14_rangeCheck_3 : cJ14_rangeCheck.data.toList.drop 69 = dktJ14_rangeCheck_3 := dk_seg dksJ14_rangeCheck_2 23 rfl rfl
theorem dJ14_rangeCheck_0 : decode cJ14_rangeCheck 0 = .ok (.iload_n 1, 1) := dk_27 (dk_at dksJ14_rangeCheck_0 0 rfl rfl)
theorem dJ14_rangeCheck_1 : decode cJ14_rangeCheck 1 = .ok (.iload_n 2, 1) := dk_28 (dk_at dksJ14_rangeCheck_0 1 rfl rfl)
theorem dJ14_rangeCheck_2 : decode cJ14_rangeCheck 2 = .ok (.if_icmp .le 44, 3) := dk_164 0 44 (dk_at dksJ14_rangeCheck_0 2 rfl rfl)
theorem dJ14_rangeCheck_5 : decode cJ14_rangeCheck 5 = .ok (.new 43, 3) := dk_187 0 43 (dk_at dksJ14_rangeCheck_0 5 rfl rfl)
theorem dJ14_rangeCheck_8 : decode cJ14_rangeCheck 8 = .ok (.dup, 1) := dk_89 (dk_at dksJ14_rangeCheck_0 8 rfl rfl)
theorem dJ14_rangeCheck_9 : decode cJ14_rangeCheck 9 = .ok (.new 45, 3) := dk_187 0 45 (dk_at dksJ14_rangeCheck_0 9 rfl rfl)
theorem dJ14_rangeCheck_12 : decode cJ14_rangeCheck 12 = .ok (.dup, 1) := dk_89 (dk_at dksJ14_rangeCheck_0 12 rfl rfl)
theorem dJ14_rangeCheck_13 : decode cJ14_rangeCheck 13 = .ok (.invokespecial 47, 3) := dk_183 0 47 (dk_at dksJ14_rangeCheck_0 13 rfl rfl)
theorem dJ14_rangeCheck_16 : decode cJ14_rangeCheck 16 = .ok (.ldc 48, 2) := dk_18 48 (dk_at dksJ14_rangeCheck_0 16 rfl rfl)
theorem dJ14_rangeCheck_18 : decode cJ14_rangeCheck 18 = .ok (.invokevirtual 50, 3) := dk_182 0 50 (dk_at dksJ14_rangeCheck_0 18 rfl rfl)
theorem dJ14_rangeCheck_21 : decode cJ14_rangeCheck 21 = .ok (.iload_n 1, 1) := dk_27 (dk_at dksJ14_rangeCheck_0 21 rfl rfl)
theorem dJ14_rangeCheck_22 : decode cJ14_rangeCheck 22 = .ok (.invokevirtual 54, 3) := dk_182 0 54 (dk_at dksJ14_rangeCheck_1 0 rfl rfl)
theorem dJ14_rangeCheck_25 : decode cJ14_rangeCheck 25 = .ok (.ldc 57, 2) := dk_18 57 (dk_at dksJ14_rangeCheck_1 3 rfl rfl)
theorem dJ14_rangeCheck_27 : decode cJ14_rangeCheck 27 = .ok (.invokevirtual 50, 3) := dk_182 0 50 (dk_at dksJ14_rangeCheck_1 5 rfl rfl)
theorem dJ14_rangeCheck_30 : decode cJ14_rangeCheck 30 = .ok (.iload_n 2, 1) := dk_28 (dk_at dksJ14_rangeCheck_1 8 rfl rfl)
theorem dJ14_rangeCheck_31 : decode cJ14_rangeCheck 31 = .ok (.invokevirtual 54, 3) := dk_182 0 54 (dk_at dksJ14_rangeCheck_1 9 rfl rfl)
theorem dJ14_rangeCheck_34 : decode cJ14_rangeCheck 34 = .ok (.ldc 59, 2) := dk_18 59 (dk_at dksJ14_rangeCheck_1 12 rfl rfl)
theorem dJ14_rangeCheck_36 : decode cJ14_rangeCheck 36 = .ok (.invokevirtual 50, 3) := dk_182 0 50 (dk_at dksJ14_rangeCheck_1 14 rfl rfl)
theorem dJ14_rangeCheck_39 : decode cJ14_rangeCheck 39 = .ok (.invokevirtual 61, 3) := dk_182 0 61 (dk_at dksJ14_rangeCheck_1 17 rfl rfl)
theorem dJ14_rangeCheck_42 : decode cJ14_rangeCheck 42 = .ok (.invokespecial 65, 3) := dk_183 0 65 (dk_at dksJ14_rangeCheck_1 20 rfl rfl)
theorem dJ14_rangeCheck_45 : decode cJ14_rangeCheck 45 = .ok (.athrow, 1) := dk_191 (dk_at dksJ14_rangeCheck_1 23 rfl rfl)
theorem dJ14_rangeCheck_46 : decode cJ14_rangeCheck 46 = .ok (.iload_n 1, 1) := dk_27 (dk_at dksJ14_rangeCheck_2 0 rfl rfl)
theorem dJ14_rangeCheck_47 : decode cJ14_rangeCheck 47 = .ok (.ifCond .ge 12, 3) := dk_156 0 12 (dk_at dksJ14_rangeCheck_2 1 rfl rfl)
theorem dJ14_rangeCheck_50 : decode cJ14_rangeCheck 50 = .ok (.new 68, 3) := dk_187 0 68 (dk_at dksJ14_rangeCheck_2 4 rfl rfl)
theorem dJ14_rangeCheck_53 : decode cJ14_rangeCheck 53 = .ok (.dup, 1) := dk_89 (dk_at dksJ14_rangeCheck_2 7 rfl rfl)
theorem dJ14_rangeCheck_54 : decode cJ14_rangeCheck 54 = .ok (.iload_n 1, 1) := dk_27 (dk_at dksJ14_rangeCheck_2 8 rfl rfl)
theorem dJ14_rangeCheck_55 : decode cJ14_rangeCheck 55 = .ok (.invokespecial 70, 3) := dk_183 0 70 (dk_at dksJ14_rangeCheck_2 9 rfl rfl)
theorem dJ14_rangeCheck_58 : decode cJ14_rangeCheck 58 = .ok (.athrow, 1) := dk_191 (dk_at dksJ14_rangeCheck_2 12 rfl rfl)
theorem dJ14_rangeCheck_59 : decode cJ14_rangeCheck 59 = .ok (.iload_n 2, 1) := dk_28 (dk_at dksJ14_rangeCheck_2 13 rfl rfl)
theorem dJ14_rangeCheck_60 : decode cJ14_rangeCheck 60 = .ok (.iload_n 0, 1) := dk_26 (dk_at dksJ14_rangeCheck_2 14 rfl rfl)
theorem dJ14_rangeCheck_61 : decode cJ14_rangeCheck 61 = .ok (.if_icmp .le 12, 3) := dk_164 0 12 (dk_at dksJ14_rangeCheck_2 15 rfl rfl)
theorem dJ14_rangeCheck_64 : decode cJ14_rangeCheck 64 = .ok (.new 68, 3) := dk_187 0 68 (dk_at dksJ14_rangeCheck_2 18 rfl rfl)
theorem dJ14_rangeCheck_67 : decode cJ14_rangeCheck 67 = .ok (.dup, 1) := dk_89 (dk_at dksJ14_rangeCheck_2 21 rfl rfl)
theorem dJ14_rangeCheck_68 : decode cJ14_rangeCheck 68 = .ok (.iload_n 2, 1) := dk_28 (dk_at dksJ14_rangeCheck_2 22 rfl rfl)
theorem dJ14_rangeCheck_69 : decode cJ14_rangeCheck 69 = .ok (.invokespecial 70, 3) := dk_183 0 70 (dk_at dksJ14_rangeCheck_3 0 rfl rfl)
theorem dJ14_rangeCheck_72 : decode cJ14_rangeCheck 72 = .ok (.athrow, 1) := dk_191 (dk_at dksJ14_rangeCheck_3 3 rfl rfl)
theorem dJ14_rangeCheck_73 : decode cJ14_rangeCheck 73 = .ok (.return_, 1) := dk_177 (dk_at dksJ14_rangeCheck_3 4 rfl rfl)
def dkwX14_init_0 : List UInt8 := [42, 43, 28, 183, 0, 3, 42, 16, 24, 189, 0, 9, 181, 0, 11, 177]
abbrev dktX14_init_0 : List UInt8 := dkwX14_init_0 ++ []
theorem dksX14_init_0 : cX14_init.data.toList.drop 0 = dktX14_init_0 := by decide +kernel
theorem dX14_init_0 : decode cX14_init 0 = .ok (.aload_n 0, 1) := dk_42 (dk_at dksX14_init_0 0 rfl rfl)
theorem dX14_init_1 : decode cX14_init 1 = .ok (.aload_n 1, 1) := dk_43 (dk_at dksX14_init_0 1 rfl rfl)
theorem dX14_init_2 : decode cX14_init 2 = .ok (.iload_n 2, 1) := dk_28 (dk_at dksX14_init_0 2 rfl rfl)
theorem dX14_init_3 : decode cX14_init 3 = .ok (.invokespecial 3, 3) := dk_183 0 3 (dk_at dksX14_init_0 3 rfl rfl)
theorem dX14_init_6 : decode cX14_init 6 = .ok (.aload_n 0, 1) := dk_42 (dk_at dksX14_init_0 6 rfl rfl)
theorem dX14_init_7 : decode cX14_init 7 = .ok (.bipush 24, 2) := dk_16 24 (dk_at dksX14_init_0 7 rfl rfl)
theorem dX14_init_9 : decode cX14_init 9 = .ok (.anewarray 9, 3) := dk_189 0 9 (dk_at dksX14_init_0 9 rfl rfl)
theorem dX14_init_12 : decode cX14_init 12 = .ok (.putfield 11, 3) := dk_181 0 11 (dk_at dksX14_init_0 12 rfl rfl)
theorem dX14_init_15 : decode cX14_init 15 = .ok (.return_, 1) := dk_177 (dk_at dksX14_init_0 15 rfl rfl)
def dkwX14_heard_1 : List UInt8 := [50, 176]
abbrev dktX14_heard_1 : List UInt8 := dkwX14_heard_1 ++ []
def dkwX14_heard_0 : List UInt8 := [42, 180, 0, 11, 43, 180, 0, 17, 50, 199, 0, 7, 43, 167, 0, 12, 42, 180, 0, 11, 43, 180, 0, 17]
abbrev dktX14_heard_0 : List UInt8 := dkwX14_heard_0 ++ dktX14_heard_1
theorem dksX14_heard_0 : cX14_heard.data.toList.drop 0 = dktX14_heard_0 := by decide +kernel
theorem dksX14_heard_1 : cX14_heard.data.toList.drop 24 = dktX14_heard_1 := dk_seg dksX14_heard_0 24 rfl rfl
theorem dX14_heard_0 : decode cX14_heard 0 = .ok (.aload_n 0, 1) := dk_42 (dk_at dksX14_heard_0 0 rfl rfl)
theorem dX14_heard_1 : decode cX14_heard 1 = .ok (.getfield 11, 3) := dk_180 0 11 (dk_at dksX14_heard_0 1 rfl rfl)
theorem dX14_heard_4 : decode cX14_heard 4 = .ok (.aload_n 1, 1) := dk_43 (dk_at dksX14_heard_0 4 rfl rfl)
theorem dX14_heard_5 : decode cX14_heard 5 = .ok (.getfield 17, 3) := dk_180 0 17 (dk_at dksX14_heard_0 5 rfl rfl)
theorem dX14_heard_8 : decode cX14_heard 8 = .ok (.aaload, 1) := dk_50 (dk_at dksX14_heard_0 8 rfl rfl)
theorem dX14_heard_9 : decode cX14_heard 9 = .ok (.ifnonnull 7, 3) := dk_199 0 7 (dk_at dksX14_heard_0 9 rfl rfl)
theorem dX14_heard_12 : decode cX14_heard 12 = .ok (.aload_n 1, 1) := dk_43 (dk_at dksX14_heard_0 12 rfl rfl)
theorem dX14_heard_13 : decode cX14_heard 13 = .ok (.goto 12, 3) := dk_167 0 12 (dk_at dksX14_heard_0 13 rfl rfl)
theorem dX14_heard_16 : decode cX14_heard 16 = .ok (.aload_n 0, 1) := dk_42 (dk_at dksX14_heard_0 16 rfl rfl)
theorem dX14_heard_17 : decode cX14_heard 17 = .ok (.getfield 11, 3) := dk_180 0 11 (dk_at dksX14_heard_0 17 rfl rfl)
theorem dX14_heard_20 : decode cX14_heard 20 = .ok (.aload_n 1, 1) := dk_43 (dk_at dksX14_heard_0 20 rfl rfl)
theorem dX14_heard_21 : decode cX14_heard 21 = .ok (.getfield 17, 3) := dk_180 0 17 (dk_at dksX14_heard_0 21 rfl rfl)
theorem dX14_heard_24 : decode cX14_heard 24 = .ok (.aaload, 1) := dk_50 (dk_at dksX14_heard_1 0 rfl rfl)
theorem dX14_heard_25 : decode cX14_heard 25 = .ok (.areturn, 1) := dk_176 (dk_at dksX14_heard_1 1 rfl rfl)
def dkwX15_init_1 : List UInt8 := [45, 181, 0, 21, 177]
abbrev dktX15_init_1 : List UInt8 := dkwX15_init_1 ++ []
def dkwX15_init_0 : List UInt8 := [42, 43, 28, 183, 0, 3, 42, 16, 24, 188, 4, 181, 0, 9, 42, 16, 24, 189, 0, 15, 181, 0, 17, 42]
abbrev dktX15_init_0 : List UInt8 := dkwX15_init_0 ++ dktX15_init_1
theorem dksX15_init_0 : cX15_init.data.toList.drop 0 = dktX15_init_0 := by decide +kernel
theorem dksX15_init_1 : cX15_init.data.toList.drop 24 = dktX15_init_1 := dk_seg dksX15_init_0 24 rfl rfl
theorem dX15_init_0 : decode cX15_init 0 = .ok (.aload_n 0, 1) := dk_42 (dk_at dksX15_init_0 0 rfl rfl)
theorem dX15_init_1 : decode cX15_init 1 = .ok (.aload_n 1, 1) := dk_43 (dk_at dksX15_init_0 1 rfl rfl)
theorem dX15_init_2 : decode cX15_init 2 = .ok (.iload_n 2, 1) := dk_28 (dk_at dksX15_init_0 2 rfl rfl)
theorem dX15_init_3 : decode cX15_init 3 = .ok (.invokespecial 3, 3) := dk_183 0 3 (dk_at dksX15_init_0 3 rfl rfl)
theorem dX15_init_6 : decode cX15_init 6 = .ok (.aload_n 0, 1) := dk_42 (dk_at dksX15_init_0 6 rfl rfl)
theorem dX15_init_7 : decode cX15_init 7 = .ok (.bipush 24, 2) := dk_16 24 (dk_at dksX15_init_0 7 rfl rfl)
theorem dX15_init_9 : decode cX15_init 9 = .ok (.newarray .boolean, 2) := dk_188_4 (dk_at dksX15_init_0 9 rfl rfl)
theorem dX15_init_11 : decode cX15_init 11 = .ok (.putfield 9, 3) := dk_181 0 9 (dk_at dksX15_init_0 11 rfl rfl)
theorem dX15_init_14 : decode cX15_init 14 = .ok (.aload_n 0, 1) := dk_42 (dk_at dksX15_init_0 14 rfl rfl)
theorem dX15_init_15 : decode cX15_init 15 = .ok (.bipush 24, 2) := dk_16 24 (dk_at dksX15_init_0 15 rfl rfl)
theorem dX15_init_17 : decode cX15_init 17 = .ok (.anewarray 15, 3) := dk_189 0 15 (dk_at dksX15_init_0 17 rfl rfl)
theorem dX15_init_20 : decode cX15_init 20 = .ok (.putfield 17, 3) := dk_181 0 17 (dk_at dksX15_init_0 20 rfl rfl)
theorem dX15_init_23 : decode cX15_init 23 = .ok (.aload_n 0, 1) := dk_42 (dk_at dksX15_init_0 23 rfl rfl)
theorem dX15_init_24 : decode cX15_init 24 = .ok (.aload_n 3, 1) := dk_45 (dk_at dksX15_init_1 0 rfl rfl)
theorem dX15_init_25 : decode cX15_init 25 = .ok (.putfield 21, 3) := dk_181 0 21 (dk_at dksX15_init_1 1 rfl rfl)
theorem dX15_init_28 : decode cX15_init 28 = .ok (.return_, 1) := dk_177 (dk_at dksX15_init_1 4 rfl rfl)
def dkwX15_learns_2 : List UInt8 := [177]
abbrev dktX15_learns_2 : List UInt8 := dkwX15_learns_2 ++ []
def dkwX15_learns_1 : List UInt8 := [180, 0, 25, 28, 182, 0, 37, 192, 0, 15, 182, 0, 41, 43, 182, 0, 47, 83, 132, 2, 1, 167, 255, 213]
abbrev dktX15_learns_1 : List UInt8 := dkwX15_learns_1 ++ dktX15_learns_2
def dkwX15_learns_0 : List UInt8 := [3, 61, 28, 43, 180, 0, 25, 182, 0, 31, 162, 0, 38, 42, 180, 0, 17, 28, 42, 42, 180, 0, 21, 43]
abbrev dktX15_learns_0 : List UInt8 := dkwX15_learns_0 ++ dktX15_learns_1
theorem dksX15_learns_0 : cX15_learns.data.toList.drop 0 = dktX15_learns_0 := by decide +kernel
theorem dksX15_learns_1 : cX15_learns.data.toList.drop 24 = dktX15_learns_1 := dk_seg dksX15_learns_0 24 rfl rfl
theorem dksX15_learns_2 : cX15_learns.data.toList.drop 48 = dktX15_learns_2 := dk_seg dksX15_learns_1 24 rfl rfl
theorem dX15_learns_0 : decode cX15_learns 0 = .ok (.iconst 0, 1) := dk_3 (dk_at dksX15_learns_0 0 rfl rfl)
theorem dX15_learns_1 : decode cX15_learns 1 = .ok (.istore_n 2, 1) := dk_61 (dk_at dksX15_learns_0 1 rfl rfl)
theorem dX15_learns_2 : decode cX15_learns 2 = .ok (.iload_n 2, 1) := dk_28 (dk_at dksX15_learns_0 2 rfl rfl)
theorem dX15_learns_3 : decode cX15_learns 3 = .ok (.aload_n 1, 1) := dk_43 (dk_at dksX15_learns_0 3 rfl rfl)
theorem dX15_learns_4 : decode cX15_learns 4 = .ok (.getfield 25, 3) := dk_180 0 25 (dk_at dksX15_learns_0 4 rfl rfl)
theorem dX15_learns_7 : decode cX15_learns 7 = .ok (.invokevirtual 31, 3) := dk_182 0 31 (dk_at dksX15_learns_0 7 rfl rfl)
theorem dX15_learns_10 : decode cX15_learns 10 = .ok (.if_icmp .ge 38, 3) := dk_162 0 38 (dk_at dksX15_learns_0 10 rfl rfl)
theorem dX15_learns_13 : decode cX15_learns 13 = .ok (.aload_n 0, 1) := dk_42 (dk_at dksX15_learns_0 13 rfl rfl)
theorem dX15_learns_14 : decode cX15_learns 14 = .ok (.getfield 17, 3) := dk_180 0 17 (dk_at dksX15_learns_0 14 rfl rfl)
theorem dX15_learns_17 : decode cX15_learns 17 = .ok (.iload_n 2, 1) := dk_28 (dk_at dksX15_learns_0 17 rfl rfl)
theorem dX15_learns_18 : decode cX15_learns 18 = .ok (.aload_n 0, 1) := dk_42 (dk_at dksX15_learns_0 18 rfl rfl)
theorem dX15_learns_19 : decode cX15_learns 19 = .ok (.aload_n 0, 1) := dk_42 (dk_at dksX15_learns_0 19 rfl rfl)
theorem dX15_learns_20 : decode cX15_learns 20 = .ok (.getfield 21, 3) := dk_180 0 21 (dk_at dksX15_learns_0 20 rfl rfl)
theorem dX15_learns_23 : decode cX15_learns 23 = .ok (.aload_n 1, 1) := dk_43 (dk_at dksX15_learns_0 23 rfl rfl)
theorem dX15_learns_24 : decode cX15_learns 24 = .ok (.getfield 25, 3) := dk_180 0 25 (dk_at dksX15_learns_1 0 rfl rfl)
theorem dX15_learns_27 : decode cX15_learns 27 = .ok (.iload_n 2, 1) := dk_28 (dk_at dksX15_learns_1 3 rfl rfl)
theorem dX15_learns_28 : decode cX15_learns 28 = .ok (.invokevirtual 37, 3) := dk_182 0 37 (dk_at dksX15_learns_1 4 rfl rfl)
theorem dX15_learns_31 : decode cX15_learns 31 = .ok (.checkcast 15, 3) := dk_192 0 15 (dk_at dksX15_learns_1 7 rfl rfl)
theorem dX15_learns_34 : decode cX15_learns 34 = .ok (.invokevirtual 41, 3) := dk_182 0 41 (dk_at dksX15_learns_1 10 rfl rfl)
theorem dX15_learns_37 : decode cX15_learns 37 = .ok (.aload_n 1, 1) := dk_43 (dk_at dksX15_learns_1 13 rfl rfl)
theorem dX15_learns_38 : decode cX15_learns 38 = .ok (.invokevirtual 47, 3) := dk_182 0 47 (dk_at dksX15_learns_1 14 rfl rfl)
theorem dX15_learns_41 : decode cX15_learns 41 = .ok (.aastore, 1) := dk_83 (dk_at dksX15_learns_1 17 rfl rfl)
theorem dX15_learns_42 : decode cX15_learns 42 = .ok (.iinc 2 1, 3) := dk_132 2 1 (dk_at dksX15_learns_1 18 rfl rfl)
theorem dX15_learns_45 : decode cX15_learns 45 = .ok (.goto (-43), 3) := dk_167 255 213 (dk_at dksX15_learns_1 21 rfl rfl)
theorem dX15_learns_48 : decode cX15_learns 48 = .ok (.return_, 1) := dk_177 (dk_at dksX15_learns_2 0 rfl rfl)
def dkwX15_nearest_4 : List UInt8 := [176]
abbrev dktX15_nearest_4 : List UInt8 := dkwX15_nearest_4 ++ []
def dkwX15_nearest_3 : List UInt8 := [163, 0, 6, 167, 0, 14, 25, 6, 78, 25, 6, 43, 182, 0, 58, 54, 4, 132, 5, 1, 167, 255, 192, 45]
abbrev dktX15_nearest_3 : List UInt8 := dkwX15_nearest_3 ++ dktX15_nearest_4
def dkwX15_nearest_2 : List UInt8 := [192, 0, 15, 58, 6, 42, 180, 0, 9, 21, 5, 51, 153, 0, 28, 25, 6, 43, 182, 0, 58, 21, 4]
abbrev dktX15_nearest_2 : List UInt8 := dkwX15_nearest_2 ++ dktX15_nearest_3
def dkwX15_nearest_1 : List UInt8 := [3, 54, 5, 21, 5, 44, 180, 0, 25, 182, 0, 31, 162, 0, 58, 44, 180, 0, 25, 21, 5, 182, 0, 37]
abbrev dktX15_nearest_1 : List UInt8 := dkwX15_nearest_1 ++ dktX15_nearest_2
def dkwX15_nearest_0 : List UInt8 := [42, 180, 0, 9, 43, 180, 0, 51, 51, 153, 0, 5, 43, 176, 43, 78, 44, 180, 0, 55, 4, 100, 54, 4]
abbrev dktX15_nearest_0 : List UInt8 := dkwX15_nearest_0 ++ dktX15_nearest_1
theorem dksX15_nearest_0 : cX15_nearest.data.toList.drop 0 = dktX15_nearest_0 := by decide +kernel
theorem dksX15_nearest_1 : cX15_nearest.data.toList.drop 24 = dktX15_nearest_1 := dk_seg dksX15_nearest_0 24 rfl rfl
theorem dksX15_nearest_2 : cX15_nearest.data.toList.drop 48 = dktX15_nearest_2 := dk_seg dksX15_nearest_1 24 rfl rfl
theorem dksX15_nearest_3 : cX15_nearest.data.toList.drop 71 = dktX15_nearest_3 := dk_seg dksX15_nearest_2 23 rfl rfl
theorem dksX15_nearest_4 : cX15_nearest.data.toList.drop 95 = dktX15_nearest_4 := dk_seg dksX15_nearest_3 24 rfl rfl
theorem dX15_nearest_0 : decode cX15_nearest 0 = .ok (.aload_n 0, 1) := dk_42 (dk_at dksX15_nearest_0 0 rfl rfl)
theorem dX15_nearest_1 : decode cX15_nearest 1 = .ok (.getfield 9, 3) := dk_180 0 9 (dk_at dksX15_nearest_0 1 rfl rfl)
theorem dX15_nearest_4 : decode cX15_nearest 4 = .ok (.aload_n 1, 1) := dk_43 (dk_at dksX15_nearest_0 4 rfl rfl)
theorem dX15_nearest_5 : decode cX15_nearest 5 = .ok (.getfield 51, 3) := dk_180 0 51 (dk_at dksX15_nearest_0 5 rfl rfl)
theorem dX15_nearest_8 : decode cX15_nearest 8 = .ok (.baload, 1) := dk_51 (dk_at dksX15_nearest_0 8 rfl rfl)
theorem dX15_nearest_9 : decode cX15_nearest 9 = .ok (.ifCond .eq 5, 3) := dk_153 0 5 (dk_at dksX15_nearest_0 9 rfl rfl)
theorem dX15_nearest_12 : decode cX15_nearest 12 = .ok (.aload_n 1, 1) := dk_43 (dk_at dksX15_nearest_0 12 rfl rfl)
theorem dX15_nearest_13 : decode cX15_nearest 13 = .ok (.areturn, 1) := dk_176 (dk_at dksX15_nearest_0 13 rfl rfl)
theorem dX15_nearest_14 : decode cX15_nearest 14 = .ok (.aload_n 1, 1) := dk_43 (dk_at dksX15_nearest_0 14 rfl rfl)
theorem dX15_nearest_15 : decode cX15_nearest 15 = .ok (.astore_n 3, 1) := dk_78 (dk_at dksX15_nearest_0 15 rfl rfl)
theorem dX15_nearest_16 : decode cX15_nearest 16 = .ok (.aload_n 2, 1) := dk_44 (dk_at dksX15_nearest_0 16 rfl rfl)
theorem dX15_nearest_17 : decode cX15_nearest 17 = .ok (.getfield 55, 3) := dk_180 0 55 (dk_at dksX15_nearest_0 17 rfl rfl)
theorem dX15_nearest_20 : decode cX15_nearest 20 = .ok (.iconst 1, 1) := dk_4 (dk_at dksX15_nearest_0 20 rfl rfl)
theorem dX15_nearest_21 : decode cX15_nearest 21 = .ok (.isub, 1) := dk_100 (dk_at dksX15_nearest_0 21 rfl rfl)
theorem dX15_nearest_22 : decode cX15_nearest 22 = .ok (.istore 4, 2) := dk_54 4 (dk_at dksX15_nearest_0 22 rfl rfl)
theorem dX15_nearest_24 : decode cX15_nearest 24 = .ok (.iconst 0, 1) := dk_3 (dk_at dksX15_nearest_1 0 rfl rfl)
theorem dX15_nearest_25 : decode cX15_nearest 25 = .ok (.istore 5, 2) := dk_54 5 (dk_at dksX15_nearest_1 1 rfl rfl)
theorem dX15_nearest_27 : decode cX15_nearest 27 = .ok (.iload 5, 2) := dk_21 5 (dk_at dksX15_nearest_1 3 rfl rfl)
theorem dX15_nearest_29 : decode cX15_nearest 29 = .ok (.aload_n 2, 1) := dk_44 (dk_at dksX15_nearest_1 5 rfl rfl)
theorem dX15_nearest_30 : decode cX15_nearest 30 = .ok (.getfield 25, 3) := dk_180 0 25 (dk_at dksX15_nearest_1 6 rfl rfl)
theorem dX15_nearest_33 : decode cX15_nearest 33 = .ok (.invokevirtual 31, 3) := dk_182 0 31 (dk_at dksX15_nearest_1 9 rfl rfl)
theorem dX15_nearest_36 : decode cX15_nearest 36 = .ok (.if_icmp .ge 58, 3) := dk_162 0 58 (dk_at dksX15_nearest_1 12 rfl rfl)
theorem dX15_nearest_39 : decode cX15_nearest 39 = .ok (.aload_n 2, 1) := dk_44 (dk_at dksX15_nearest_1 15 rfl rfl)
theorem dX15_nearest_40 : decode cX15_nearest 40 = .ok (.getfield 25, 3) := dk_180 0 25 (dk_at dksX15_nearest_1 16 rfl rfl)
theorem dX15_nearest_43 : decode cX15_nearest 43 = .ok (.iload 5, 2) := dk_21 5 (dk_at dksX15_nearest_1 19 rfl rfl)
theorem dX15_nearest_45 : decode cX15_nearest 45 = .ok (.invokevirtual 37, 3) := dk_182 0 37 (dk_at dksX15_nearest_1 21 rfl rfl)
theorem dX15_nearest_48 : decode cX15_nearest 48 = .ok (.checkcast 15, 3) := dk_192 0 15 (dk_at dksX15_nearest_2 0 rfl rfl)
theorem dX15_nearest_51 : decode cX15_nearest 51 = .ok (.astore 6, 2) := dk_58 6 (dk_at dksX15_nearest_2 3 rfl rfl)
theorem dX15_nearest_53 : decode cX15_nearest 53 = .ok (.aload_n 0, 1) := dk_42 (dk_at dksX15_nearest_2 5 rfl rfl)
theorem dX15_nearest_54 : decode cX15_nearest 54 = .ok (.getfield 9, 3) := dk_180 0 9 (dk_at dksX15_nearest_2 6 rfl rfl)
theorem dX15_nearest_57 : decode cX15_nearest 57 = .ok (.iload 5, 2) := dk_21 5 (dk_at dksX15_nearest_2 9 rfl rfl)
theorem dX15_nearest_59 : decode cX15_nearest 59 = .ok (.baload, 1) := dk_51 (dk_at dksX15_nearest_2 11 rfl rfl)
theorem dX15_nearest_60 : decode cX15_nearest 60 = .ok (.ifCond .eq 28, 3) := dk_153 0 28 (dk_at dksX15_nearest_2 12 rfl rfl)
theorem dX15_nearest_63 : decode cX15_nearest 63 = .ok (.aload 6, 2) := dk_25 6 (dk_at dksX15_nearest_2 15 rfl rfl)
theorem dX15_nearest_65 : decode cX15_nearest 65 = .ok (.aload_n 1, 1) := dk_43 (dk_at dksX15_nearest_2 17 rfl rfl)
theorem dX15_nearest_66 : decode cX15_nearest 66 = .ok (.invokevirtual 58, 3) := dk_182 0 58 (dk_at dksX15_nearest_2 18 rfl rfl)
theorem dX15_nearest_69 : decode cX15_nearest 69 = .ok (.iload 4, 2) := dk_21 4 (dk_at dksX15_nearest_2 21 rfl rfl)
theorem dX15_nearest_71 : decode cX15_nearest 71 = .ok (.if_icmp .gt 6, 3) := dk_163 0 6 (dk_at dksX15_nearest_3 0 rfl rfl)
theorem dX15_nearest_74 : decode cX15_nearest 74 = .ok (.goto 14, 3) := dk_167 0 14 (dk_at dksX15_nearest_3 3 rfl rfl)
theorem dX15_nearest_77 : decode cX15_nearest 77 = .ok (.aload 6, 2) := dk_25 6 (dk_at dksX15_nearest_3 6 rfl rfl)
theorem dX15_nearest_79 : decode cX15_nearest 79 = .ok (.astore_n 3, 1) := dk_78 (dk_at dksX15_nearest_3 8 rfl rfl)
theorem dX15_nearest_80 : decode cX15_nearest 80 = .ok (.aload 6, 2) := dk_25 6 (dk_at dksX15_nearest_3 9 rfl rfl)
theorem dX15_nearest_82 : decode cX15_nearest 82 = .ok (.aload_n 1, 1) := dk_43 (dk_at dksX15_nearest_3 11 rfl rfl)
theorem dX15_nearest_83 : decode cX15_nearest 83 = .ok (.invokevirtual 58, 3) := dk_182 0 58 (dk_at dksX15_nearest_3 12 rfl rfl)
theorem dX15_nearest_86 : decode cX15_nearest 86 = .ok (.istore 4, 2) := dk_54 4 (dk_at dksX15_nearest_3 15 rfl rfl)
theorem dX15_nearest_88 : decode cX15_nearest 88 = .ok (.iinc 5 1, 3) := dk_132 5 1 (dk_at dksX15_nearest_3 17 rfl rfl)
theorem dX15_nearest_91 : decode cX15_nearest 91 = .ok (.goto (-64), 3) := dk_167 255 192 (dk_at dksX15_nearest_3 20 rfl rfl)
theorem dX15_nearest_94 : decode cX15_nearest 94 = .ok (.aload_n 3, 1) := dk_45 (dk_at dksX15_nearest_3 23 rfl rfl)
theorem dX15_nearest_95 : decode cX15_nearest 95 = .ok (.areturn, 1) := dk_176 (dk_at dksX15_nearest_4 0 rfl rfl)
def dkwX16_init_0 : List UInt8 := [42, 43, 28, 183, 0, 1, 42, 187, 0, 7, 89, 183, 0, 9, 181, 0, 12, 177]
abbrev dktX16_init_0 : List UInt8 := dkwX16_init_0 ++ []
theorem dksX16_init_0 : cX16_init.data.toList.drop 0 = dktX16_init_0 := by decide +kernel
theorem dX16_init_0 : decode cX16_init 0 = .ok (.aload_n 0, 1) := dk_42 (dk_at dksX16_init_0 0 rfl rfl)
theorem dX16_init_1 : decode cX16_init 1 = .ok (.aload_n 1, 1) := dk_43 (dk_at dksX16_init_0 1 rfl rfl)
theorem dX16_init_2 : decode cX16_init 2 = .ok (.iload_n 2, 1) := dk_28 (dk_at dksX16_init_0 2 rfl rfl)
theorem dX16_init_3 : decode cX16_init 3 = .ok (.invokespecial 1, 3) := dk_183 0 1 (dk_at dksX16_init_0 3 rfl rfl)
theorem dX16_init_6 : decode cX16_init 6 = .ok (.aload_n 0, 1) := dk_42 (dk_at dksX16_init_0 6 rfl rfl)
theorem dX16_init_7 : decode cX16_init 7 = .ok (.new 7, 3) := dk_187 0 7 (dk_at dksX16_init_0 7 rfl rfl)
theorem dX16_init_10 : decode cX16_init 10 = .ok (.dup, 1) := dk_89 (dk_at dksX16_init_0 10 rfl rfl)
theorem dX16_init_11 : decode cX16_init 11 = .ok (.invokespecial 9, 3) := dk_183 0 9 (dk_at dksX16_init_0 11 rfl rfl)
theorem dX16_init_14 : decode cX16_init 14 = .ok (.putfield 12, 3) := dk_181 0 12 (dk_at dksX16_init_0 14 rfl rfl)
theorem dX16_init_17 : decode cX16_init 17 = .ok (.return_, 1) := dk_177 (dk_at dksX16_init_0 17 rfl rfl)
def dkwX17_comesBack_7 : List UInt8 := [177]
abbrev dktX17_comesBack_7 : List UInt8 := dkwX17_comesBack_7 ++ []
def dkwX17_comesBack_6 : List UInt8 := [180, 0, 77, 42, 180, 0, 56, 27, 182, 0, 60, 192, 0, 78, 182, 0, 80, 87, 132, 1, 1, 167, 255, 217]
abbrev dktX17_comesBack_6 : List UInt8 := dkwX17_comesBack_6 ++ dktX17_comesBack_7
def dkwX17_comesBack_5 : List UInt8 := [182, 0, 88, 3, 60, 27, 42, 180, 0, 56, 182, 0, 30, 162, 0, 34, 42, 180, 0, 3, 180, 0, 15]
abbrev dktX17_comesBack_5 : List UInt8 := dkwX17_comesBack_5 ++ dktX17_comesBack_6
def dkwX17_comesBack_4 : List UInt8 := [180, 0, 51, 27, 51, 181, 0, 74, 132, 1, 1, 167, 255, 168, 42, 180, 0, 3, 180, 0, 15, 180, 0, 77]
abbrev dktX17_comesBack_4 : List UInt8 := dkwX17_comesBack_4 ++ dktX17_comesBack_5
def dkwX17_comesBack_3 : List UInt8 := [182, 0, 84, 87, 42, 180, 0, 3, 180, 0, 15, 180, 0, 26, 27, 182, 0, 60, 192, 0, 45, 42]
abbrev dktX17_comesBack_3 : List UInt8 := dkwX17_comesBack_3 ++ dktX17_comesBack_4
def dkwX17_comesBack_2 : List UInt8 := [27, 50, 182, 0, 68, 87, 42, 180, 0, 3, 180, 0, 15, 180, 0, 72, 27, 42, 180, 0, 47, 27, 50]
abbrev dktX17_comesBack_2 : List UInt8 := dkwX17_comesBack_2 ++ dktX17_comesBack_3
def dkwX17_comesBack_1 : List UInt8 := [42, 180, 0, 3, 180, 0, 15, 180, 0, 26, 27, 182, 0, 60, 192, 0, 45, 180, 0, 64, 42, 180, 0, 41]
abbrev dktX17_comesBack_1 : List UInt8 := dkwX17_comesBack_1 ++ dktX17_comesBack_2
def dkwX17_comesBack_0 : List UInt8 := [42, 180, 0, 3, 180, 0, 15, 42, 180, 0, 25, 181, 0, 19, 3, 60, 27, 42, 180, 0, 36, 162, 0, 86]
abbrev dktX17_comesBack_0 : List UInt8 := dkwX17_comesBack_0 ++ dktX17_comesBack_1
theorem dksX17_comesBack_0 : cX17_comesBack.data.toList.drop 0 = dktX17_comesBack_0 := by decide +kernel
theorem dksX17_comesBack_1 : cX17_comesBack.data.toList.drop 24 = dktX17_comesBack_1 := dk_seg dksX17_comesBack_0 24 rfl rfl
theorem dksX17_comesBack_2 : cX17_comesBack.data.toList.drop 48 = dktX17_comesBack_2 := dk_seg dksX17_comesBack_1 24 rfl rfl
theorem dksX17_comesBack_3 : cX17_comesBack.data.toList.drop 71 = dktX17_comesBack_3 := dk_seg dksX17_comesBack_2 23 rfl rfl
theorem dksX17_comesBack_4 : cX17_comesBack.data.toList.drop 93 = dktX17_comesBack_4 := dk_seg dksX17_comesBack_3 22 rfl rfl
theorem dksX17_comesBack_5 : cX17_comesBack.data.toList.drop 117 = dktX17_comesBack_5 := dk_seg dksX17_comesBack_4 24 rfl rfl
theorem dksX17_comesBack_6 : cX17_comesBack.data.toList.drop 140 = dktX17_comesBack_6 := dk_seg dksX17_comesBack_5 23 rfl rfl
theorem dksX17_comesBack_7 : cX17_comesBack.data.toList.drop 164 = dktX17_comesBack_7 := dk_seg dksX17_comesBack_6 24 rfl rfl
theorem dX17_comesBack_0 : decode cX17_comesBack 0 = .ok (.aload_n 0, 1) := dk_42 (dk_at dksX17_comesBack_0 0 rfl rfl)
theorem dX17_comesBack_1 : decode cX17_comesBack 1 = .ok (.getfield 3, 3) := dk_180 0 3 (dk_at dksX17_comesBack_0 1 rfl rfl)
theorem dX17_comesBack_4 : decode cX17_comesBack 4 = .ok (.getfield 15, 3) := dk_180 0 15 (dk_at dksX17_comesBack_0 4 rfl rfl)
theorem dX17_comesBack_7 : decode cX17_comesBack 7 = .ok (.aload_n 0, 1) := dk_42 (dk_at dksX17_comesBack_0 7 rfl rfl)
theorem dX17_comesBack_8 : decode cX17_comesBack 8 = .ok (.getfield 25, 3) := dk_180 0 25 (dk_at dksX17_comesBack_0 8 rfl rfl)
theorem dX17_comesBack_11 : decode cX17_comesBack 11 = .ok (.putfield 19, 3) := dk_181 0 19 (dk_at dksX17_comesBack_0 11 rfl rfl)
theorem dX17_comesBack_14 : decode cX17_comesBack 14 = .ok (.iconst 0, 1) := dk_3 (dk_at dksX17_comesBack_0 14 rfl rfl)
theorem dX17_comesBack_15 : decode cX17_comesBack 15 = .ok (.istore_n 1, 1) := dk_60 (dk_at dksX17_comesBack_0 15 rfl rfl)
theorem dX17_comesBack_16 : decode cX17_comesBack 16 = .ok (.iload_n 1, 1) := dk_27 (dk_at dksX17_comesBack_0 16 rfl rfl)
theorem dX17_comesBack_17 : decode cX17_comesBack 17 = .ok (.aload_n 0, 1) := dk_42 (dk_at dksX17_comesBack_0 17 rfl rfl)
theorem dX17_comesBack_18 : decode cX17_comesBack 18 = .ok (.getfield 36, 3) := dk_180 0 36 (dk_at dksX17_comesBack_0 18 rfl rfl)
theorem dX17_comesBack_21 : decode cX17_comesBack 21 = .ok (.if_icmp .ge 86, 3) := dk_162 0 86 (dk_at dksX17_comesBack_0 21 rfl rfl)
theorem dX17_comesBack_24 : decode cX17_comesBack 24 = .ok (.aload_n 0, 1) := dk_42 (dk_at dksX17_comesBack_1 0 rfl rfl)
theorem dX17_comesBack_25 : decode cX17_comesBack 25 = .ok (.getfield 3, 3) := dk_180 0 3 (dk_at dksX17_comesBack_1 1 rfl rfl)
theorem dX17_comesBack_28 : decode cX17_comesBack 28 = .ok (.getfield 15, 3) := dk_180 0 15 (dk_at dksX17_comesBack_1 4 rfl rfl)
theorem dX17_comesBack_31 : decode cX17_comesBack 31 = .ok (.getfield 26, 3) := dk_180 0 26 (dk_at dksX17_comesBack_1 7 rfl rfl)
theorem dX17_comesBack_34 : decode cX17_comesBack 34 = .ok (.iload_n 1, 1) := dk_27 (dk_at dksX17_comesBack_1 10 rfl rfl)
theorem dX17_comesBack_35 : decode cX17_comesBack 35 = .ok (.invokevirtual 60, 3) := dk_182 0 60 (dk_at dksX17_comesBack_1 11 rfl rfl)
theorem dX17_comesBack_38 : decode cX17_comesBack 38 = .ok (.checkcast 45, 3) := dk_192 0 45 (dk_at dksX17_comesBack_1 14 rfl rfl)
theorem dX17_comesBack_41 : decode cX17_comesBack 41 = .ok (.getfield 64, 3) := dk_180 0 64 (dk_at dksX17_comesBack_1 17 rfl rfl)
theorem dX17_comesBack_44 : decode cX17_comesBack 44 = .ok (.aload_n 0, 1) := dk_42 (dk_at dksX17_comesBack_1 20 rfl rfl)
theorem dX17_comesBack_45 : decode cX17_comesBack 45 = .ok (.getfield 41, 3) := dk_180 0 41 (dk_at dksX17_comesBack_1 21 rfl rfl)
theorem dX17_comesBack_48 : decode cX17_comesBack 48 = .ok (.iload_n 1, 1) := dk_27 (dk_at dksX17_comesBack_2 0 rfl rfl)
theorem dX17_comesBack_49 : decode cX17_comesBack 49 = .ok (.aaload, 1) := dk_50 (dk_at dksX17_comesBack_2 1 rfl rfl)
theorem dX17_comesBack_50 : decode cX17_comesBack 50 = .ok (.invokevirtual 68, 3) := dk_182 0 68 (dk_at dksX17_comesBack_2 2 rfl rfl)
theorem dX17_comesBack_53 : decode cX17_comesBack 53 = .ok (.pop, 1) := dk_87 (dk_at dksX17_comesBack_2 5 rfl rfl)
theorem dX17_comesBack_54 : decode cX17_comesBack 54 = .ok (.aload_n 0, 1) := dk_42 (dk_at dksX17_comesBack_2 6 rfl rfl)
theorem dX17_comesBack_55 : decode cX17_comesBack 55 = .ok (.getfield 3, 3) := dk_180 0 3 (dk_at dksX17_comesBack_2 7 rfl rfl)
theorem dX17_comesBack_58 : decode cX17_comesBack 58 = .ok (.getfield 15, 3) := dk_180 0 15 (dk_at dksX17_comesBack_2 10 rfl rfl)
theorem dX17_comesBack_61 : decode cX17_comesBack 61 = .ok (.getfield 72, 3) := dk_180 0 72 (dk_at dksX17_comesBack_2 13 rfl rfl)
theorem dX17_comesBack_64 : decode cX17_comesBack 64 = .ok (.iload_n 1, 1) := dk_27 (dk_at dksX17_comesBack_2 16 rfl rfl)
theorem dX17_comesBack_65 : decode cX17_comesBack 65 = .ok (.aload_n 0, 1) := dk_42 (dk_at dksX17_comesBack_2 17 rfl rfl)
theorem dX17_comesBack_66 : decode cX17_comesBack 66 = .ok (.getfield 47, 3) := dk_180 0 47 (dk_at dksX17_comesBack_2 18 rfl rfl)
theorem dX17_comesBack_69 : decode cX17_comesBack 69 = .ok (.iload_n 1, 1) := dk_27 (dk_at dksX17_comesBack_2 21 rfl rfl)
theorem dX17_comesBack_70 : decode cX17_comesBack 70 = .ok (.aaload, 1) := dk_50 (dk_at dksX17_comesBack_2 22 rfl rfl)
theorem dX17_comesBack_71 : decode cX17_comesBack 71 = .ok (.invokevirtual 84, 3) := dk_182 0 84 (dk_at dksX17_comesBack_3 0 rfl rfl)
theorem dX17_comesBack_74 : decode cX17_comesBack 74 = .ok (.pop, 1) := dk_87 (dk_at dksX17_comesBack_3 3 rfl rfl)
theorem dX17_comesBack_75 : decode cX17_comesBack 75 = .ok (.aload_n 0, 1) := dk_42 (dk_at dksX17_comesBack_3 4 rfl rfl)
theorem dX17_comesBack_76 : decode cX17_comesBack 76 = .ok (.getfield 3, 3) := dk_180 0 3 (dk_at dksX17_comesBack_3 5 rfl rfl)
theorem dX17_comesBack_79 : decode cX17_comesBack 79 = .ok (.getfield 15, 3) := dk_180 0 15 (dk_at dksX17_comesBack_3 8 rfl rfl)
theorem dX17_comesBack_82 : decode cX17_comesBack 82 = .ok (.getfield 26, 3) := dk_180 0 26 (dk_at dksX17_comesBack_3 11 rfl rfl)
theorem dX17_comesBack_85 : decode cX17_comesBack 85 = .ok (.iload_n 1, 1) := dk_27 (dk_at dksX17_comesBack_3 14 rfl rfl)
theorem dX17_comesBack_86 : decode cX17_comesBack 86 = .ok (.invokevirtual 60, 3) := dk_182 0 60 (dk_at dksX17_comesBack_3 15 rfl rfl)
theorem dX17_comesBack_89 : decode cX17_comesBack 89 = .ok (.checkcast 45, 3) := dk_192 0 45 (dk_at dksX17_comesBack_3 18 rfl rfl)
theorem dX17_comesBack_92 : decode cX17_comesBack 92 = .ok (.aload_n 0, 1) := dk_42 (dk_at dksX17_comesBack_3 21 rfl rfl)
theorem dX17_comesBack_93 : decode cX17_comesBack 93 = .ok (.getfield 51, 3) := dk_180 0 51 (dk_at dksX17_comesBack_4 0 rfl rfl)
theorem dX17_comesBack_96 : decode cX17_comesBack 96 = .ok (.iload_n 1, 1) := dk_27 (dk_at dksX17_comesBack_4 3 rfl rfl)
theorem dX17_comesBack_97 : decode cX17_comesBack 97 = .ok (.baload, 1) := dk_51 (dk_at dksX17_comesBack_4 4 rfl rfl)
theorem dX17_comesBack_98 : decode cX17_comesBack 98 = .ok (.putfield 74, 3) := dk_181 0 74 (dk_at dksX17_comesBack_4 5 rfl rfl)
theorem dX17_comesBack_101 : decode cX17_comesBack 101 = .ok (.iinc 1 1, 3) := dk_132 1 1 (dk_at dksX17_comesBack_4 8 rfl rfl)
theorem dX17_comesBack_104 : decode cX17_comesBack 104 = .ok (.goto (-88), 3) := dk_167 255 168 (dk_at dksX17_comesBack_4 11 rfl rfl)
theorem dX17_comesBack_107 : decode cX17_comesBack 107 = .ok (.aload_n 0, 1) := dk_42 (dk_at dksX17_comesBack_4 14 rfl rfl)
theorem dX17_comesBack_108 : decode cX17_comesBack 108 = .ok (.getfield 3, 3) := dk_180 0 3 (dk_at dksX17_comesBack_4 15 rfl rfl)
theorem dX17_comesBack_111 : decode cX17_comesBack 111 = .ok (.getfield 15, 3) := dk_180 0 15 (dk_at dksX17_comesBack_4 18 rfl rfl)
theorem dX17_comesBack_114 : decode cX17_comesBack 114 = .ok (.getfield 77, 3) := dk_180 0 77 (dk_at dksX17_comesBack_4 21 rfl rfl)
theorem dX17_comesBack_117 : decode cX17_comesBack 117 = .ok (.invokevirtual 88, 3) := dk_182 0 88 (dk_at dksX17_comesBack_5 0 rfl rfl)
theorem dX17_comesBack_120 : decode cX17_comesBack 120 = .ok (.iconst 0, 1) := dk_3 (dk_at dksX17_comesBack_5 3 rfl rfl)
theorem dX17_comesBack_121 : decode cX17_comesBack 121 = .ok (.istore_n 1, 1) := dk_60 (dk_at dksX17_comesBack_5 4 rfl rfl)
theorem dX17_comesBack_122 : decode cX17_comesBack 122 = .ok (.iload_n 1, 1) := dk_27 (dk_at dksX17_comesBack_5 5 rfl rfl)
theorem dX17_comesBack_123 : decode cX17_comesBack 123 = .ok (.aload_n 0, 1) := dk_42 (dk_at dksX17_comesBack_5 6 rfl rfl)
theorem dX17_comesBack_124 : decode cX17_comesBack 124 = .ok (.getfield 56, 3) := dk_180 0 56 (dk_at dksX17_comesBack_5 7 rfl rfl)
theorem dX17_comesBack_127 : decode cX17_comesBack 127 = .ok (.invokevirtual 30, 3) := dk_182 0 30 (dk_at dksX17_comesBack_5 10 rfl rfl)
theorem dX17_comesBack_130 : decode cX17_comesBack 130 = .ok (.if_icmp .ge 34, 3) := dk_162 0 34 (dk_at dksX17_comesBack_5 13 rfl rfl)
theorem dX17_comesBack_133 : decode cX17_comesBack 133 = .ok (.aload_n 0, 1) := dk_42 (dk_at dksX17_comesBack_5 16 rfl rfl)
theorem dX17_comesBack_134 : decode cX17_comesBack 134 = .ok (.getfield 3, 3) := dk_180 0 3 (dk_at dksX17_comesBack_5 17 rfl rfl)
theorem dX17_comesBack_137 : decode cX17_comesBack 137 = .ok (.getfield 15, 3) := dk_180 0 15 (dk_at dksX17_comesBack_5 20 rfl rfl)
theorem dX17_comesBack_140 : decode cX17_comesBack 140 = .ok (.getfield 77, 3) := dk_180 0 77 (dk_at dksX17_comesBack_6 0 rfl rfl)
theorem dX17_comesBack_143 : decode cX17_comesBack 143 = .ok (.aload_n 0, 1) := dk_42 (dk_at dksX17_comesBack_6 3 rfl rfl)
theorem dX17_comesBack_144 : decode cX17_comesBack 144 = .ok (.getfield 56, 3) := dk_180 0 56 (dk_at dksX17_comesBack_6 4 rfl rfl)
theorem dX17_comesBack_147 : decode cX17_comesBack 147 = .ok (.iload_n 1, 1) := dk_27 (dk_at dksX17_comesBack_6 7 rfl rfl)
theorem dX17_comesBack_148 : decode cX17_comesBack 148 = .ok (.invokevirtual 60, 3) := dk_182 0 60 (dk_at dksX17_comesBack_6 8 rfl rfl)
theorem dX17_comesBack_151 : decode cX17_comesBack 151 = .ok (.checkcast 78, 3) := dk_192 0 78 (dk_at dksX17_comesBack_6 11 rfl rfl)
theorem dX17_comesBack_154 : decode cX17_comesBack 154 = .ok (.invokevirtual 80, 3) := dk_182 0 80 (dk_at dksX17_comesBack_6 14 rfl rfl)
theorem dX17_comesBack_157 : decode cX17_comesBack 157 = .ok (.pop, 1) := dk_87 (dk_at dksX17_comesBack_6 17 rfl rfl)
theorem dX17_comesBack_158 : decode cX17_comesBack 158 = .ok (.iinc 1 1, 3) := dk_132 1 1 (dk_at dksX17_comesBack_6 18 rfl rfl)
theorem dX17_comesBack_161 : decode cX17_comesBack 161 = .ok (.goto (-39), 3) := dk_167 255 217 (dk_at dksX17_comesBack_6 21 rfl rfl)
theorem dX17_comesBack_164 : decode cX17_comesBack 164 = .ok (.return_, 1) := dk_177 (dk_at dksX17_comesBack_7 0 rfl rfl)
def dkwX17_init_9 : List UInt8 := [167, 255, 217, 177]
abbrev dktX17_init_9 : List UInt8 := dkwX17_init_9 ++ []
def dkwX17_init_8 : List UInt8 := [180, 0, 56, 43, 180, 0, 15, 180, 0, 77, 28, 182, 0, 60, 192, 0, 78, 182, 0, 80, 87, 132, 2, 1]
abbrev dktX17_init_8 : List UInt8 := dkwX17_init_8 ++ dktX17_init_9
def dkwX17_init_7 : List UInt8 := [132, 2, 1, 167, 255, 169, 3, 61, 28, 43, 180, 0, 15, 180, 0, 77, 182, 0, 30, 162, 0, 31, 42]
abbrev dktX17_init_7 : List UInt8 := dkwX17_init_7 ++ dktX17_init_8
def dkwX17_init_6 : List UInt8 := [42, 180, 0, 51, 28, 43, 180, 0, 15, 180, 0, 26, 28, 182, 0, 60, 192, 0, 45, 180, 0, 74, 84]
abbrev dktX17_init_6 : List UInt8 := dkwX17_init_6 ++ dktX17_init_7
def dkwX17_init_5 : List UInt8 := [182, 0, 68, 83, 42, 180, 0, 47, 28, 43, 180, 0, 15, 180, 0, 72, 28, 182, 0, 60, 192, 0, 45, 83]
abbrev dktX17_init_5 : List UInt8 := dkwX17_init_5 ++ dktX17_init_6
def dkwX17_init_4 : List UInt8 := [187, 0, 39, 89, 183, 0, 59, 43, 180, 0, 15, 180, 0, 26, 28, 182, 0, 60, 192, 0, 45, 180, 0, 64]
abbrev dktX17_init_4 : List UInt8 := dkwX17_init_4 ++ dktX17_init_5
def dkwX17_init_3 : List UInt8 := [89, 183, 0, 55, 181, 0, 56, 3, 61, 28, 42, 180, 0, 36, 162, 0, 85, 42, 180, 0, 41, 28]
abbrev dktX17_init_3 : List UInt8 := dkwX17_init_3 ++ dktX17_init_4
def dkwX17_init_2 : List UInt8 := [181, 0, 41, 42, 16, 12, 189, 0, 45, 181, 0, 47, 42, 16, 12, 188, 4, 181, 0, 51, 42, 187, 0, 31]
abbrev dktX17_init_2 : List UInt8 := dkwX17_init_2 ++ dktX17_init_3
def dkwX17_init_1 : List UInt8 := [42, 180, 0, 3, 180, 0, 15, 180, 0, 26, 182, 0, 30, 181, 0, 36, 42, 16, 12, 189, 0, 39]
abbrev dktX17_init_1 : List UInt8 := dkwX17_init_1 ++ dktX17_init_2
def dkwX17_init_0 : List UInt8 := [42, 43, 181, 0, 3, 42, 183, 0, 9, 42, 42, 180, 0, 3, 180, 0, 15, 180, 0, 19, 181, 0, 25, 42]
abbrev dktX17_init_0 : List UInt8 := dkwX17_init_0 ++ dktX17_init_1
theorem dksX17_init_0 : cX17_init.data.toList.drop 0 = dktX17_init_0 := by decide +kernel
theorem dksX17_init_1 : cX17_init.data.toList.drop 24 = dktX17_init_1 := dk_seg dksX17_init_0 24 rfl rfl
theorem dksX17_init_2 : cX17_init.data.toList.drop 46 = dktX17_init_2 := dk_seg dksX17_init_1 22 rfl rfl
theorem dksX17_init_3 : cX17_init.data.toList.drop 70 = dktX17_init_3 := dk_seg dksX17_init_2 24 rfl rfl
theorem dksX17_init_4 : cX17_init.data.toList.drop 92 = dktX17_init_4 := dk_seg dksX17_init_3 22 rfl rfl
theorem dksX17_init_5 : cX17_init.data.toList.drop 116 = dktX17_init_5 := dk_seg dksX17_init_4 24 rfl rfl
theorem dksX17_init_6 : cX17_init.data.toList.drop 140 = dktX17_init_6 := dk_seg dksX17_init_5 24 rfl rfl
theorem dksX17_init_7 : cX17_init.data.toList.drop 163 = dktX17_init_7 := dk_seg dksX17_init_6 23 rfl rfl
theorem dksX17_init_8 : cX17_init.data.toList.drop 186 = dktX17_init_8 := dk_seg dksX17_init_7 23 rfl rfl
theorem dksX17_init_9 : cX17_init.data.toList.drop 210 = dktX17_init_9 := dk_seg dksX17_init_8 24 rfl rfl
theorem dX17_init_0 : decode cX17_init 0 = .ok (.aload_n 0, 1) := dk_42 (dk_at dksX17_init_0 0 rfl rfl)
theorem dX17_init_1 : decode cX17_init 1 = .ok (.aload_n 1, 1) := dk_43 (dk_at dksX17_init_0 1 rfl rfl)
theorem dX17_init_2 : decode cX17_init 2 = .ok (.putfield 3, 3) := dk_181 0 3 (dk_at dksX17_init_0 2 rfl rfl)
theorem dX17_init_5 : decode cX17_init 5 = .ok (.aload_n 0, 1) := dk_42 (dk_at dksX17_init_0 5 rfl rfl)
theorem dX17_init_6 : decode cX17_init 6 = .ok (.invokespecial 9, 3) := dk_183 0 9 (dk_at dksX17_init_0 6 rfl rfl)
theorem dX17_init_9 : decode cX17_init 9 = .ok (.aload_n 0, 1) := dk_42 (dk_at dksX17_init_0 9 rfl rfl)
theorem dX17_init_10 : decode cX17_init 10 = .ok (.aload_n 0, 1) := dk_42 (dk_at dksX17_init_0 10 rfl rfl)
theorem dX17_init_11 : decode cX17_init 11 = .ok (.getfield 3, 3) := dk_180 0 3 (dk_at dksX17_init_0 11 rfl rfl)
theorem dX17_init_14 : decode cX17_init 14 = .ok (.getfield 15, 3) := dk_180 0 15 (dk_at dksX17_init_0 14 rfl rfl)
theorem dX17_init_17 : decode cX17_init 17 = .ok (.getfield 19, 3) := dk_180 0 19 (dk_at dksX17_init_0 17 rfl rfl)
theorem dX17_init_20 : decode cX17_init 20 = .ok (.putfield 25, 3) := dk_181 0 25 (dk_at dksX17_init_0 20 rfl rfl)
theorem dX17_init_23 : decode cX17_init 23 = .ok (.aload_n 0, 1) := dk_42 (dk_at dksX17_init_0 23 rfl rfl)
theorem dX17_init_24 : decode cX17_init 24 = .ok (.aload_n 0, 1) := dk_42 (dk_at dksX17_init_1 0 rfl rfl)
theorem dX17_init_25 : decode cX17_init 25 = .ok (.getfield 3, 3) := dk_180 0 3 (dk_at dksX17_init_1 1 rfl rfl)
theorem dX17_init_28 : decode cX17_init 28 = .ok (.getfield 15, 3) := dk_180 0 15 (dk_at dksX17_init_1 4 rfl rfl)
theorem dX17_init_31 : decode cX17_init 31 = .ok (.getfield 26, 3) := dk_180 0 26 (dk_at dksX17_init_1 7 rfl rfl)
theorem dX17_init_34 : decode cX17_init 34 = .ok (.invokevirtual 30, 3) := dk_182 0 30 (dk_at dksX17_init_1 10 rfl rfl)
theorem dX17_init_37 : decode cX17_init 37 = .ok (.putfield 36, 3) := dk_181 0 36 (dk_at dksX17_init_1 13 rfl rfl)
theorem dX17_init_40 : decode cX17_init 40 = .ok (.aload_n 0, 1) := dk_42 (dk_at dksX17_init_1 16 rfl rfl)
theorem dX17_init_41 : decode cX17_init 41 = .ok (.bipush 12, 2) := dk_16 12 (dk_at dksX17_init_1 17 rfl rfl)
theorem dX17_init_43 : decode cX17_init 43 = .ok (.anewarray 39, 3) := dk_189 0 39 (dk_at dksX17_init_1 19 rfl rfl)
theorem dX17_init_46 : decode cX17_init 46 = .ok (.putfield 41, 3) := dk_181 0 41 (dk_at dksX17_init_2 0 rfl rfl)
theorem dX17_init_49 : decode cX17_init 49 = .ok (.aload_n 0, 1) := dk_42 (dk_at dksX17_init_2 3 rfl rfl)
theorem dX17_init_50 : decode cX17_init 50 = .ok (.bipush 12, 2) := dk_16 12 (dk_at dksX17_init_2 4 rfl rfl)
theorem dX17_init_52 : decode cX17_init 52 = .ok (.anewarray 45, 3) := dk_189 0 45 (dk_at dksX17_init_2 6 rfl rfl)
theorem dX17_init_55 : decode cX17_init 55 = .ok (.putfield 47, 3) := dk_181 0 47 (dk_at dksX17_init_2 9 rfl rfl)
theorem dX17_init_58 : decode cX17_init 58 = .ok (.aload_n 0, 1) := dk_42 (dk_at dksX17_init_2 12 rfl rfl)
theorem dX17_init_59 : decode cX17_init 59 = .ok (.bipush 12, 2) := dk_16 12 (dk_at dksX17_init_2 13 rfl rfl)
theorem dX17_init_61 : decode cX17_init 61 = .ok (.newarray .boolean, 2) := dk_188_4 (dk_at dksX17_init_2 15 rfl rfl)
theorem dX17_init_63 : decode cX17_init 63 = .ok (.putfield 51, 3) := dk_181 0 51 (dk_at dksX17_init_2 17 rfl rfl)
theorem dX17_init_66 : decode cX17_init 66 = .ok (.aload_n 0, 1) := dk_42 (dk_at dksX17_init_2 20 rfl rfl)
theorem dX17_init_67 : decode cX17_init 67 = .ok (.new 31, 3) := dk_187 0 31 (dk_at dksX17_init_2 21 rfl rfl)
theorem dX17_init_70 : decode cX17_init 70 = .ok (.dup, 1) := dk_89 (dk_at dksX17_init_3 0 rfl rfl)
theorem dX17_init_71 : decode cX17_init 71 = .ok (.invokespecial 55, 3) := dk_183 0 55 (dk_at dksX17_init_3 1 rfl rfl)
theorem dX17_init_74 : decode cX17_init 74 = .ok (.putfield 56, 3) := dk_181 0 56 (dk_at dksX17_init_3 4 rfl rfl)
theorem dX17_init_77 : decode cX17_init 77 = .ok (.iconst 0, 1) := dk_3 (dk_at dksX17_init_3 7 rfl rfl)
theorem dX17_init_78 : decode cX17_init 78 = .ok (.istore_n 2, 1) := dk_61 (dk_at dksX17_init_3 8 rfl rfl)
theorem dX17_init_79 : decode cX17_init 79 = .ok (.iload_n 2, 1) := dk_28 (dk_at dksX17_init_3 9 rfl rfl)
theorem dX17_init_80 : decode cX17_init 80 = .ok (.aload_n 0, 1) := dk_42 (dk_at dksX17_init_3 10 rfl rfl)
theorem dX17_init_81 : decode cX17_init 81 = .ok (.getfield 36, 3) := dk_180 0 36 (dk_at dksX17_init_3 11 rfl rfl)
theorem dX17_init_84 : decode cX17_init 84 = .ok (.if_icmp .ge 85, 3) := dk_162 0 85 (dk_at dksX17_init_3 14 rfl rfl)
theorem dX17_init_87 : decode cX17_init 87 = .ok (.aload_n 0, 1) := dk_42 (dk_at dksX17_init_3 17 rfl rfl)
theorem dX17_init_88 : decode cX17_init 88 = .ok (.getfield 41, 3) := dk_180 0 41 (dk_at dksX17_init_3 18 rfl rfl)
theorem dX17_init_91 : decode cX17_init 91 = .ok (.iload_n 2, 1) := dk_28 (dk_at dksX17_init_3 21 rfl rfl)
theorem dX17_init_92 : decode cX17_init 92 = .ok (.new 39, 3) := dk_187 0 39 (dk_at dksX17_init_4 0 rfl rfl)
theorem dX17_init_95 : decode cX17_init 95 = .ok (.dup, 1) := dk_89 (dk_at dksX17_init_4 3 rfl rfl)
theorem dX17_init_96 : decode cX17_init 96 = .ok (.invokespecial 59, 3) := dk_183 0 59 (dk_at dksX17_init_4 4 rfl rfl)
theorem dX17_init_99 : decode cX17_init 99 = .ok (.aload_n 1, 1) := dk_43 (dk_at dksX17_init_4 7 rfl rfl)
theorem dX17_init_100 : decode cX17_init 100 = .ok (.getfield 15, 3) := dk_180 0 15 (dk_at dksX17_init_4 8 rfl rfl)
theorem dX17_init_103 : decode cX17_init 103 = .ok (.getfield 26, 3) := dk_180 0 26 (dk_at dksX17_init_4 11 rfl rfl)
theorem dX17_init_106 : decode cX17_init 106 = .ok (.iload_n 2, 1) := dk_28 (dk_at dksX17_init_4 14 rfl rfl)
theorem dX17_init_107 : decode cX17_init 107 = .ok (.invokevirtual 60, 3) := dk_182 0 60 (dk_at dksX17_init_4 15 rfl rfl)
theorem dX17_init_110 : decode cX17_init 110 = .ok (.checkcast 45, 3) := dk_192 0 45 (dk_at dksX17_init_4 18 rfl rfl)
theorem dX17_init_113 : decode cX17_init 113 = .ok (.getfield 64, 3) := dk_180 0 64 (dk_at dksX17_init_4 21 rfl rfl)
theorem dX17_init_116 : decode cX17_init 116 = .ok (.invokevirtual 68, 3) := dk_182 0 68 (dk_at dksX17_init_5 0 rfl rfl)
theorem dX17_init_119 : decode cX17_init 119 = .ok (.aastore, 1) := dk_83 (dk_at dksX17_init_5 3 rfl rfl)
theorem dX17_init_120 : decode cX17_init 120 = .ok (.aload_n 0, 1) := dk_42 (dk_at dksX17_init_5 4 rfl rfl)
theorem dX17_init_121 : decode cX17_init 121 = .ok (.getfield 47, 3) := dk_180 0 47 (dk_at dksX17_init_5 5 rfl rfl)
theorem dX17_init_124 : decode cX17_init 124 = .ok (.iload_n 2, 1) := dk_28 (dk_at dksX17_init_5 8 rfl rfl)
theorem dX17_init_125 : decode cX17_init 125 = .ok (.aload_n 1, 1) := dk_43 (dk_at dksX17_init_5 9 rfl rfl)
theorem dX17_init_126 : decode cX17_init 126 = .ok (.getfield 15, 3) := dk_180 0 15 (dk_at dksX17_init_5 10 rfl rfl)
theorem dX17_init_129 : decode cX17_init 129 = .ok (.getfield 72, 3) := dk_180 0 72 (dk_at dksX17_init_5 13 rfl rfl)
theorem dX17_init_132 : decode cX17_init 132 = .ok (.iload_n 2, 1) := dk_28 (dk_at dksX17_init_5 16 rfl rfl)
theorem dX17_init_133 : decode cX17_init 133 = .ok (.invokevirtual 60, 3) := dk_182 0 60 (dk_at dksX17_init_5 17 rfl rfl)
theorem dX17_init_136 : decode cX17_init 136 = .ok (.checkcast 45, 3) := dk_192 0 45 (dk_at dksX17_init_5 20 rfl rfl)
theorem dX17_init_139 : decode cX17_init 139 = .ok (.aastore, 1) := dk_83 (dk_at dksX17_init_5 23 rfl rfl)
theorem dX17_init_140 : decode cX17_init 140 = .ok (.aload_n 0, 1) := dk_42 (dk_at dksX17_init_6 0 rfl rfl)
theorem dX17_init_141 : decode cX17_init 141 = .ok (.getfield 51, 3) := dk_180 0 51 (dk_at dksX17_init_6 1 rfl rfl)
theorem dX17_init_144 : decode cX17_init 144 = .ok (.iload_n 2, 1) := dk_28 (dk_at dksX17_init_6 4 rfl rfl)
theorem dX17_init_145 : decode cX17_init 145 = .ok (.aload_n 1, 1) := dk_43 (dk_at dksX17_init_6 5 rfl rfl)
theorem dX17_init_146 : decode cX17_init 146 = .ok (.getfield 15, 3) := dk_180 0 15 (dk_at dksX17_init_6 6 rfl rfl)
theorem dX17_init_149 : decode cX17_init 149 = .ok (.getfield 26, 3) := dk_180 0 26 (dk_at dksX17_init_6 9 rfl rfl)
theorem dX17_init_152 : decode cX17_init 152 = .ok (.iload_n 2, 1) := dk_28 (dk_at dksX17_init_6 12 rfl rfl)
theorem dX17_init_153 : decode cX17_init 153 = .ok (.invokevirtual 60, 3) := dk_182 0 60 (dk_at dksX17_init_6 13 rfl rfl)
theorem dX17_init_156 : decode cX17_init 156 = .ok (.checkcast 45, 3) := dk_192 0 45 (dk_at dksX17_init_6 16 rfl rfl)
theorem dX17_init_159 : decode cX17_init 159 = .ok (.getfield 74, 3) := dk_180 0 74 (dk_at dksX17_init_6 19 rfl rfl)
theorem dX17_init_162 : decode cX17_init 162 = .ok (.bastore, 1) := dk_84 (dk_at dksX17_init_6 22 rfl rfl)
theorem dX17_init_163 : decode cX17_init 163 = .ok (.iinc 2 1, 3) := dk_132 2 1 (dk_at dksX17_init_7 0 rfl rfl)
theorem dX17_init_166 : decode cX17_init 166 = .ok (.goto (-87), 3) := dk_167 255 169 (dk_at dksX17_init_7 3 rfl rfl)
theorem dX17_init_169 : decode cX17_init 169 = .ok (.iconst 0, 1) := dk_3 (dk_at dksX17_init_7 6 rfl rfl)
theorem dX17_init_170 : decode cX17_init 170 = .ok (.istore_n 2, 1) := dk_61 (dk_at dksX17_init_7 7 rfl rfl)
theorem dX17_init_171 : decode cX17_init 171 = .ok (.iload_n 2, 1) := dk_28 (dk_at dksX17_init_7 8 rfl rfl)
theorem dX17_init_172 : decode cX17_init 172 = .ok (.aload_n 1, 1) := dk_43 (dk_at dksX17_init_7 9 rfl rfl)
theorem dX17_init_173 : decode cX17_init 173 = .ok (.getfield 15, 3) := dk_180 0 15 (dk_at dksX17_init_7 10 rfl rfl)
theorem dX17_init_176 : decode cX17_init 176 = .ok (.getfield 77, 3) := dk_180 0 77 (dk_at dksX17_init_7 13 rfl rfl)
theorem dX17_init_179 : decode cX17_init 179 = .ok (.invokevirtual 30, 3) := dk_182 0 30 (dk_at dksX17_init_7 16 rfl rfl)
theorem dX17_init_182 : decode cX17_init 182 = .ok (.if_icmp .ge 31, 3) := dk_162 0 31 (dk_at dksX17_init_7 19 rfl rfl)
theorem dX17_init_185 : decode cX17_init 185 = .ok (.aload_n 0, 1) := dk_42 (dk_at dksX17_init_7 22 rfl rfl)
theorem dX17_init_186 : decode cX17_init 186 = .ok (.getfield 56, 3) := dk_180 0 56 (dk_at dksX17_init_8 0 rfl rfl)
theorem dX17_init_189 : decode cX17_init 189 = .ok (.aload_n 1, 1) := dk_43 (dk_at dksX17_init_8 3 rfl rfl)
theorem dX17_init_190 : decode cX17_init 190 = .ok (.getfield 15, 3) := dk_180 0 15 (dk_at dksX17_init_8 4 rfl rfl)
theorem dX17_init_193 : decode cX17_init 193 = .ok (.getfield 77, 3) := dk_180 0 77 (dk_at dksX17_init_8 7 rfl rfl)
theorem dX17_init_196 : decode cX17_init 196 = .ok (.iload_n 2, 1) := dk_28 (dk_at dksX17_init_8 10 rfl rfl)
theorem dX17_init_197 : decode cX17_init 197 = .ok (.invokevirtual 60, 3) := dk_182 0 60 (dk_at dksX17_init_8 11 rfl rfl)
theorem dX17_init_200 : decode cX17_init 200 = .ok (.checkcast 78, 3) := dk_192 0 78 (dk_at dksX17_init_8 14 rfl rfl)
theorem dX17_init_203 : decode cX17_init 203 = .ok (.invokevirtual 80, 3) := dk_182 0 80 (dk_at dksX17_init_8 17 rfl rfl)
theorem dX17_init_206 : decode cX17_init 206 = .ok (.pop, 1) := dk_87 (dk_at dksX17_init_8 20 rfl rfl)
theorem dX17_init_207 : decode cX17_init 207 = .ok (.iinc 2 1, 3) := dk_132 2 1 (dk_at dksX17_init_8 21 rfl rfl)
theorem dX17_init_210 : decode cX17_init 210 = .ok (.goto (-39), 3) := dk_167 255 217 (dk_at dksX17_init_9 0 rfl rfl)
theorem dX17_init_213 : decode cX17_init 213 = .ok (.return_, 1) := dk_177 (dk_at dksX17_init_9 3 rfl rfl)
def dkwX18_init_1 : List UInt8 := [181, 0, 19, 177]
abbrev dktX18_init_1 : List UInt8 := dkwX18_init_1 ++ []
def dkwX18_init_0 : List UInt8 := [42, 183, 0, 1, 42, 27, 181, 0, 7, 42, 28, 181, 0, 13, 42, 29, 181, 0, 16, 42, 21, 4]
abbrev dktX18_init_0 : List UInt8 := dkwX18_init_0 ++ dktX18_init_1
theorem dksX18_init_0 : cX18_init.data.toList.drop 0 = dktX18_init_0 := by decide +kernel
theorem dksX18_init_1 : cX18_init.data.toList.drop 22 = dktX18_init_1 := dk_seg dksX18_init_0 22 rfl rfl
theorem dX18_init_0 : decode cX18_init 0 = .ok (.aload_n 0, 1) := dk_42 (dk_at dksX18_init_0 0 rfl rfl)
theorem dX18_init_1 : decode cX18_init 1 = .ok (.invokespecial 1, 3) := dk_183 0 1 (dk_at dksX18_init_0 1 rfl rfl)
theorem dX18_init_4 : decode cX18_init 4 = .ok (.aload_n 0, 1) := dk_42 (dk_at dksX18_init_0 4 rfl rfl)
theorem dX18_init_5 : decode cX18_init 5 = .ok (.iload_n 1, 1) := dk_27 (dk_at dksX18_init_0 5 rfl rfl)
theorem dX18_init_6 : decode cX18_init 6 = .ok (.putfield 7, 3) := dk_181 0 7 (dk_at dksX18_init_0 6 rfl rfl)
theorem dX18_init_9 : decode cX18_init 9 = .ok (.aload_n 0, 1) := dk_42 (dk_at dksX18_init_0 9 rfl rfl)
theorem dX18_init_10 : decode cX18_init 10 = .ok (.iload_n 2, 1) := dk_28 (dk_at dksX18_init_0 10 rfl rfl)
theorem dX18_init_11 : decode cX18_init 11 = .ok (.putfield 13, 3) := dk_181 0 13 (dk_at dksX18_init_0 11 rfl rfl)
theorem dX18_init_14 : decode cX18_init 14 = .ok (.aload_n 0, 1) := dk_42 (dk_at dksX18_init_0 14 rfl rfl)
theorem dX18_init_15 : decode cX18_init 15 = .ok (.iload_n 3, 1) := dk_29 (dk_at dksX18_init_0 15 rfl rfl)
theorem dX18_init_16 : decode cX18_init 16 = .ok (.putfield 16, 3) := dk_181 0 16 (dk_at dksX18_init_0 16 rfl rfl)
theorem dX18_init_19 : decode cX18_init 19 = .ok (.aload_n 0, 1) := dk_42 (dk_at dksX18_init_0 19 rfl rfl)
theorem dX18_init_20 : decode cX18_init 20 = .ok (.iload 4, 2) := dk_21 4 (dk_at dksX18_init_0 20 rfl rfl)
theorem dX18_init_22 : decode cX18_init 22 = .ok (.putfield 19, 3) := dk_181 0 19 (dk_at dksX18_init_1 0 rfl rfl)
theorem dX18_init_25 : decode cX18_init 25 = .ok (.return_, 1) := dk_177 (dk_at dksX18_init_1 3 rfl rfl)
theorem dJ15_init_0 : decode cJ15_init 0 = .ok (.return_, 1) := by decide +kernel
def dkwJ15_equals_0 : List UInt8 := [42, 43, 166, 0, 7, 4, 167, 0, 4, 3, 172]
abbrev dktJ15_equals_0 : List UInt8 := dkwJ15_equals_0 ++ []
theorem dksJ15_equals_0 : cJ15_equals.data.toList.drop 0 = dktJ15_equals_0 := by decide +kernel
theorem dJ15_equals_0 : decode cJ15_equals 0 = .ok (.aload_n 0, 1) := dk_42 (dk_at dksJ15_equals_0 0 rfl rfl)
theorem dJ15_equals_1 : decode cJ15_equals 1 = .ok (.aload_n 1, 1) := dk_43 (dk_at dksJ15_equals_0 1 rfl rfl)
theorem dJ15_equals_2 : decode cJ15_equals 2 = .ok (.if_acmp .ne 7, 3) := dk_166 0 7 (dk_at dksJ15_equals_0 2 rfl rfl)
theorem dJ15_equals_5 : decode cJ15_equals 5 = .ok (.iconst 1, 1) := dk_4 (dk_at dksJ15_equals_0 5 rfl rfl)
theorem dJ15_equals_6 : decode cJ15_equals 6 = .ok (.goto 4, 3) := dk_167 0 4 (dk_at dksJ15_equals_0 6 rfl rfl)
theorem dJ15_equals_9 : decode cJ15_equals 9 = .ok (.iconst 0, 1) := dk_3 (dk_at dksJ15_equals_0 9 rfl rfl)
theorem dJ15_equals_10 : decode cJ15_equals 10 = .ok (.ireturn, 1) := dk_172 (dk_at dksJ15_equals_0 10 rfl rfl)
def dkwL_law_59 : List UInt8 := [132, 3, 6, 167, 250, 11, 4, 172]
abbrev dktL_law_59 : List UInt8 := dkwL_law_59 ++ []
def dkwL_law_58 : List UInt8 := [172, 43, 42, 29, 4, 96, 46, 182, 0, 188, 44, 42, 29, 4, 96, 46, 182, 0, 191, 159, 0, 5, 3, 172]
abbrev dktL_law_58 : List UInt8 := dkwL_law_58 ++ dktL_law_59
def dkwL_law_57 : List UInt8 := [29, 4, 96, 46, 182, 0, 183, 159, 0, 41, 3, 172, 43, 182, 0, 184, 44, 182, 0, 187, 159, 0, 28, 3]
abbrev dktL_law_57 : List UInt8 := dkwL_law_57 ++ dktL_law_58
def dkwL_law_56 : List UInt8 := [43, 182, 0, 176, 44, 182, 0, 179, 159, 0, 64, 3, 172, 43, 42, 29, 4, 96, 46, 182, 0, 180, 44, 42]
abbrev dktL_law_56 : List UInt8 := dkwL_law_56 ++ dktL_law_57
def dkwL_law_55 : List UInt8 := [44, 42, 29, 4, 96, 46, 42, 29, 5, 96, 46, 42, 29, 6, 96, 46, 182, 0, 175, 159, 0, 77, 3, 172]
abbrev dktL_law_55 : List UInt8 := dkwL_law_55 ++ dktL_law_56
def dkwL_law_54 : List UInt8 := [159, 0, 120, 3, 172, 43, 42, 29, 4, 96, 46, 42, 29, 5, 96, 46, 42, 29, 6, 96, 46, 182, 0, 172]
abbrev dktL_law_54 : List UInt8 := dkwL_law_54 ++ dktL_law_55
def dkwL_law_53 : List UInt8 := [96, 46, 42, 29, 5, 96, 46, 182, 0, 168, 44, 42, 29, 4, 96, 46, 42, 29, 5, 96, 46, 182, 0, 171]
abbrev dktL_law_53 : List UInt8 := dkwL_law_53 ++ dktL_law_54
def dkwL_law_52 : List UInt8 := [4, 96, 46, 182, 0, 164, 44, 42, 29, 4, 96, 46, 182, 0, 167, 159, 0, 153, 3, 172, 43, 42, 29, 4]
abbrev dktL_law_52 : List UInt8 := dkwL_law_52 ++ dktL_law_53
def dkwL_law_51 : List UInt8 := [29, 4, 96, 46, 182, 0, 160, 44, 42, 29, 4, 96, 46, 182, 0, 163, 159, 0, 176, 3, 172, 43, 42, 29]
abbrev dktL_law_51 : List UInt8 := dkwL_law_51 ++ dktL_law_52
def dkwL_law_50 : List UInt8 := [29, 5, 96, 46, 42, 29, 6, 96, 46, 42, 29, 7, 96, 46, 182, 0, 159, 159, 0, 199, 3, 172, 43, 42]
abbrev dktL_law_50 : List UInt8 := dkwL_law_50 ++ dktL_law_51
def dkwL_law_49 : List UInt8 := [29, 5, 96, 46, 42, 29, 6, 96, 46, 42, 29, 7, 96, 46, 182, 0, 155, 44, 42, 29, 4, 96, 46, 42]
abbrev dktL_law_49 : List UInt8 := dkwL_law_49 ++ dktL_law_50
def dkwL_law_48 : List UInt8 := [182, 0, 151, 44, 42, 29, 4, 96, 46, 182, 0, 154, 159, 0, 252, 3, 172, 43, 42, 29, 4, 96, 46, 42]
abbrev dktL_law_48 : List UInt8 := dkwL_law_48 ++ dktL_law_49
def dkwL_law_47 : List UInt8 := [182, 0, 147, 44, 42, 29, 4, 96, 46, 182, 0, 150, 159, 1, 19, 3, 172, 43, 42, 29, 4, 96, 46]
abbrev dktL_law_47 : List UInt8 := dkwL_law_47 ++ dktL_law_48
def dkwL_law_46 : List UInt8 := [29, 4, 96, 46, 42, 29, 5, 96, 46, 182, 0, 146, 159, 1, 42, 3, 172, 43, 42, 29, 4, 96, 46]
abbrev dktL_law_46 : List UInt8 := dkwL_law_46 ++ dktL_law_47
def dkwL_law_45 : List UInt8 := [182, 0, 142, 159, 1, 75, 3, 172, 43, 42, 29, 4, 96, 46, 42, 29, 5, 96, 46, 182, 0, 143, 44, 42]
abbrev dktL_law_45 : List UInt8 := dkwL_law_45 ++ dktL_law_46
def dkwL_law_44 : List UInt8 := [42, 29, 4, 96, 46, 42, 29, 5, 96, 46, 182, 0, 139, 44, 42, 29, 4, 96, 46, 42, 29, 5, 96, 46]
abbrev dktL_law_44 : List UInt8 := dkwL_law_44 ++ dktL_law_45
def dkwL_law_43 : List UInt8 := [46, 182, 0, 135, 44, 42, 29, 4, 96, 46, 42, 29, 5, 96, 46, 182, 0, 138, 159, 1, 108, 3, 172, 43]
abbrev dktL_law_43 : List UInt8 := dkwL_law_43 ++ dktL_law_44
def dkwL_law_42 : List UInt8 := [46, 42, 29, 5, 96, 46, 182, 0, 134, 159, 1, 141, 3, 172, 43, 42, 29, 4, 96, 46, 42, 29, 5, 96]
abbrev dktL_law_42 : List UInt8 := dkwL_law_42 ++ dktL_law_43
def dkwL_law_41 : List UInt8 := [159, 1, 174, 3, 172, 43, 42, 29, 4, 96, 46, 42, 29, 5, 96, 46, 182, 0, 131, 44, 42, 29, 4, 96]
abbrev dktL_law_41 : List UInt8 := dkwL_law_41 ++ dktL_law_42
def dkwL_law_40 : List UInt8 := [182, 0, 127, 44, 42, 29, 4, 96, 46, 42, 29, 5, 96, 46, 42, 29, 6, 96, 46, 182, 0, 130]
abbrev dktL_law_40 : List UInt8 := dkwL_law_40 ++ dktL_law_41
def dkwL_law_39 : List UInt8 := [182, 0, 126, 159, 1, 217, 3, 172, 43, 42, 29, 4, 96, 46, 42, 29, 5, 96, 46, 42, 29, 6, 96, 46]
abbrev dktL_law_39 : List UInt8 := dkwL_law_39 ++ dktL_law_40
def dkwL_law_38 : List UInt8 := [44, 42, 29, 4, 96, 46, 42, 29, 5, 96, 46, 42, 29, 6, 96, 46, 153, 0, 7, 4, 167, 0, 4, 3]
abbrev dktL_law_38 : List UInt8 := dkwL_law_38 ++ dktL_law_39
def dkwL_law_37 : List UInt8 := [4, 96, 46, 42, 29, 5, 96, 46, 42, 29, 6, 96, 46, 153, 0, 7, 4, 167, 0, 4, 3, 182, 0, 123]
abbrev dktL_law_37 : List UInt8 := dkwL_law_37 ++ dktL_law_38
def dkwL_law_36 : List UInt8 := [29, 4, 96, 46, 182, 0, 119, 44, 42, 29, 4, 96, 46, 182, 0, 122, 159, 2, 20, 3, 172, 43, 42, 29]
abbrev dktL_law_36 : List UInt8 := dkwL_law_36 ++ dktL_law_37
def dkwL_law_35 : List UInt8 := [182, 0, 115, 44, 42, 29, 4, 96, 46, 42, 29, 5, 96, 46, 182, 0, 118, 159, 2, 43, 3, 172, 43, 42]
abbrev dktL_law_35 : List UInt8 := dkwL_law_35 ++ dktL_law_36
def dkwL_law_34 : List UInt8 := [4, 96, 46, 182, 0, 114, 159, 2, 76, 3, 172, 43, 42, 29, 4, 96, 46, 42, 29, 5, 96, 46]
abbrev dktL_law_34 : List UInt8 := dkwL_law_34 ++ dktL_law_35
def dkwL_law_33 : List UInt8 := [182, 0, 106, 44, 182, 0, 110, 159, 2, 99, 3, 172, 43, 42, 29, 4, 96, 46, 182, 0, 111, 44, 42, 29]
abbrev dktL_law_33 : List UInt8 := dkwL_law_33 ++ dktL_law_34
def dkwL_law_32 : List UInt8 := [29, 4, 96, 46, 182, 0, 102, 44, 42, 29, 4, 96, 46, 182, 0, 105, 159, 2, 112, 3, 172, 43]
abbrev dktL_law_32 : List UInt8 := dkwL_law_32 ++ dktL_law_33
def dkwL_law_31 : List UInt8 := [182, 0, 97, 44, 42, 29, 4, 96, 46, 42, 29, 5, 96, 46, 182, 0, 101, 159, 2, 135, 3, 172, 43, 42]
abbrev dktL_law_31 : List UInt8 := dkwL_law_31 ++ dktL_law_32
def dkwL_law_30 : List UInt8 := [167, 0, 4, 3, 182, 0, 96, 159, 2, 168, 3, 172, 43, 42, 29, 4, 96, 46, 42, 29, 5, 96, 46]
abbrev dktL_law_30 : List UInt8 := dkwL_law_30 ++ dktL_law_31
def dkwL_law_29 : List UInt8 := [167, 0, 4, 3, 182, 0, 92, 44, 42, 29, 4, 96, 46, 42, 29, 5, 96, 46, 153, 0, 7, 4]
abbrev dktL_law_29 : List UInt8 := dkwL_law_29 ++ dktL_law_30
def dkwL_law_28 : List UInt8 := [182, 0, 91, 159, 2, 217, 3, 172, 43, 42, 29, 4, 96, 46, 42, 29, 5, 96, 46, 153, 0, 7, 4]
abbrev dktL_law_28 : List UInt8 := dkwL_law_28 ++ dktL_law_29
def dkwL_law_27 : List UInt8 := [182, 0, 87, 159, 2, 240, 3, 172, 43, 42, 29, 4, 96, 46, 182, 0, 88, 44, 42, 29, 4, 96, 46]
abbrev dktL_law_27 : List UInt8 := dkwL_law_27 ++ dktL_law_28
def dkwL_law_26 : List UInt8 := [46, 182, 0, 83, 159, 3, 7, 3, 172, 43, 42, 29, 4, 96, 46, 182, 0, 84, 44, 42, 29, 4, 96, 46]
abbrev dktL_law_26 : List UInt8 := dkwL_law_26 ++ dktL_law_27
def dkwL_law_25 : List UInt8 := [43, 42, 29, 4, 96, 46, 42, 29, 5, 96, 46, 182, 0, 80, 44, 42, 29, 4, 96, 46, 42, 29, 5, 96]
abbrev dktL_law_25 : List UInt8 := dkwL_law_25 ++ dktL_law_26
def dkwL_law_24 : List UInt8 := [96, 46, 182, 0, 76, 44, 42, 29, 4, 96, 46, 42, 29, 5, 96, 46, 182, 0, 79, 159, 3, 40, 3, 172]
abbrev dktL_law_24 : List UInt8 := dkwL_law_24 ++ dktL_law_25
def dkwL_law_23 : List UInt8 := [96, 46, 42, 29, 6, 96, 46, 182, 0, 75, 159, 3, 73, 3, 172, 43, 42, 29, 4, 96, 46, 42, 29, 5]
abbrev dktL_law_23 : List UInt8 := dkwL_law_23 ++ dktL_law_24
def dkwL_law_22 : List UInt8 := [96, 46, 42, 29, 5, 96, 46, 42, 29, 6, 96, 46, 182, 0, 72, 44, 42, 29, 4, 96, 46, 42, 29, 5]
abbrev dktL_law_22 : List UInt8 := dkwL_law_22 ++ dktL_law_23
def dkwL_law_21 : List UInt8 := [96, 46, 42, 29, 5, 96, 46, 42, 29, 6, 96, 46, 182, 0, 71, 159, 3, 116, 3, 172, 43, 42, 29, 4]
abbrev dktL_law_21 : List UInt8 := dkwL_law_21 ++ dktL_law_22
def dkwL_law_20 : List UInt8 := [172, 43, 42, 29, 4, 96, 46, 42, 29, 5, 96, 46, 42, 29, 6, 96, 46, 182, 0, 68, 44, 42, 29, 4]
abbrev dktL_law_20 : List UInt8 := dkwL_law_20 ++ dktL_law_21
def dkwL_law_19 : List UInt8 := [29, 5, 96, 46, 42, 29, 6, 96, 46, 153, 0, 7, 4, 167, 0, 4, 3, 182, 0, 67, 159, 3, 159, 3]
abbrev dktL_law_19 : List UInt8 := dkwL_law_19 ++ dktL_law_20
def dkwL_law_18 : List UInt8 := [46, 42, 29, 6, 96, 46, 153, 0, 7, 4, 167, 0, 4, 3, 182, 0, 63, 44, 42, 29, 4, 96, 46, 42]
abbrev dktL_law_18 : List UInt8 := dkwL_law_18 ++ dktL_law_19
def dkwL_law_17 : List UInt8 := [46, 42, 29, 5, 96, 46, 182, 0, 62, 159, 3, 218, 3, 172, 43, 42, 29, 4, 96, 46, 42, 29, 5, 96]
abbrev dktL_law_17 : List UInt8 := dkwL_law_17 ++ dktL_law_18
def dkwL_law_16 : List UInt8 := [159, 3, 251, 3, 172, 43, 42, 29, 4, 96, 46, 42, 29, 5, 96, 46, 182, 0, 59, 44, 42, 29, 4, 96]
abbrev dktL_law_16 : List UInt8 := dkwL_law_16 ++ dktL_law_17
def dkwL_law_15 : List UInt8 := [159, 4, 18, 3, 172, 43, 42, 29, 4, 96, 46, 182, 0, 55, 44, 42, 29, 4, 96, 46, 182, 0, 58]
abbrev dktL_law_15 : List UInt8 := dkwL_law_15 ++ dktL_law_16
def dkwL_law_14 : List UInt8 := [42, 29, 5, 96, 46, 182, 0, 51, 44, 42, 29, 4, 96, 46, 42, 29, 5, 96, 46, 182, 0, 54]
abbrev dktL_law_14 : List UInt8 := dkwL_law_14 ++ dktL_law_15
def dkwL_law_13 : List UInt8 := [42, 29, 4, 96, 46, 42, 29, 5, 96, 46, 182, 0, 50, 159, 4, 51, 3, 172, 43, 42, 29, 4, 96, 46]
abbrev dktL_law_13 : List UInt8 := dkwL_law_13 ++ dktL_law_14
def dkwL_law_12 : List UInt8 := [46, 182, 0, 46, 159, 4, 84, 3, 172, 43, 42, 29, 4, 96, 46, 42, 29, 5, 96, 46, 182, 0, 47, 44]
abbrev dktL_law_12 : List UInt8 := dkwL_law_12 ++ dktL_law_13
def dkwL_law_11 : List UInt8 := [43, 42, 29, 4, 96, 46, 42, 29, 5, 96, 46, 182, 0, 42, 44, 42, 29, 4, 96, 46, 42, 29, 5, 96]
abbrev dktL_law_11 : List UInt8 := dkwL_law_11 ++ dktL_law_12
def dkwL_law_10 : List UInt8 := [44, 42, 29, 4, 96, 46, 42, 29, 5, 96, 46, 42, 29, 6, 96, 46, 182, 0, 41, 159, 4, 117, 3, 172]
abbrev dktL_law_10 : List UInt8 := dkwL_law_10 ++ dktL_law_11
def dkwL_law_9 : List UInt8 := [159, 4, 160, 3, 172, 43, 42, 29, 4, 96, 46, 42, 29, 5, 96, 46, 42, 29, 6, 96, 46, 182, 0, 37]
abbrev dktL_law_9 : List UInt8 := dkwL_law_9 ++ dktL_law_10
def dkwL_law_8 : List UInt8 := [159, 4, 183, 3, 172, 43, 42, 29, 4, 96, 46, 182, 0, 33, 44, 42, 29, 4, 96, 46, 182, 0, 36]
abbrev dktL_law_8 : List UInt8 := dkwL_law_8 ++ dktL_law_9
def dkwL_law_7 : List UInt8 := [159, 4, 206, 3, 172, 43, 42, 29, 4, 96, 46, 182, 0, 28, 44, 42, 29, 4, 96, 46, 182, 0, 32]
abbrev dktL_law_7 : List UInt8 := dkwL_law_7 ++ dktL_law_8
def dkwL_law_6 : List UInt8 := [44, 42, 29, 4, 96, 46, 182, 0, 22, 159, 4, 219, 3, 172, 43, 182, 0, 23, 44, 182, 0, 27]
abbrev dktL_law_6 : List UInt8 := dkwL_law_6 ++ dktL_law_7
def dkwL_law_5 : List UInt8 := [96, 46, 42, 29, 8, 96, 46, 182, 0, 17, 159, 4, 242, 3, 172, 43, 42, 29, 4, 96, 46, 182, 0, 18]
abbrev dktL_law_5 : List UInt8 := dkwL_law_5 ++ dktL_law_6
def dkwL_law_4 : List UInt8 := [96, 46, 182, 0, 13, 44, 42, 29, 4, 96, 46, 42, 29, 5, 96, 46, 42, 29, 6, 96, 46, 42, 29, 7]
abbrev dktL_law_4 : List UInt8 := dkwL_law_4 ++ dktL_law_5
def dkwL_law_3 : List UInt8 := [43, 42, 29, 4, 96, 46, 42, 29, 5, 96, 46, 42, 29, 6, 96, 46, 42, 29, 7, 96, 46, 42, 29, 8]
abbrev dktL_law_3 : List UInt8 := dkwL_law_3 ++ dktL_law_4
def dkwL_law_2 : List UInt8 := [170, 0, 0, 0, 0, 5, 227, 0, 0, 0, 0, 0, 0, 0, 41, 0, 0, 0, 183, 0, 0, 0, 246, 0, 0, 1, 13, 0, 0, 1, 26, 0, 0, 1, 49, 0, 0, 1, 72, 0, 0, 1, 115, 0, 0, 1, 148, 0, 0, 1, 181, 0, 0, 1, 214, 0, 0, 1, 237, 0, 0, 2, 14, 0, 0, 2, 73, 0, 0, 2, 116, 0, 0, 2, 159, 0, 0, 2, 192, 0, 0, 2, 225, 0, 0, 2, 248, 0, 0, 3, 15, 0, 0, 3, 64, 0, 0, 3, 97, 0, 0, 3, 120, 0, 0, 3, 133, 0, 0, 3, 156, 0, 0, 3, 189, 0, 0, 3, 212, 0, 0, 4, 15, 0, 0, 4, 58, 0, 0, 4, 91, 0, 0, 4, 124, 0, 0, 4, 157, 0, 0, 4, 190, 0, 0, 4, 213, 0, 0, 4, 236, 0, 0, 5, 33, 0, 0, 5, 56, 0, 0, 5, 79, 0, 0, 5, 112, 0, 0, 5, 155, 0, 0, 5, 168, 0, 0, 5, 191, 0, 0, 5, 204]
abbrev dktL_law_2 : List UInt8 := dkwL_law_2 ++ dktL_law_3
def dkwL_law_1 : List UInt8 := [163, 5, 242, 42, 29, 46, 16, 63, 126]
abbrev dktL_law_1 : List UInt8 := dkwL_law_1 ++ dktL_law_2
def dkwL_law_0 : List UInt8 := [187, 0, 7, 89, 183, 0, 9, 76, 187, 0, 10, 89, 183, 0, 12, 77, 3, 62, 29, 42, 190, 16, 6, 100]
abbrev dktL_law_0 : List UInt8 := dkwL_law_0 ++ dktL_law_1
theorem dksL_law_0 : cL_law.data.toList.drop 0 = dktL_law_0 := by decide +kernel
theorem dksL_law_1 : cL_law.data.toList.drop 24 = dktL_law_1 := dk_seg dksL_law_0 24 rfl rfl
theorem dksL_law_2 : cL_law.data.toList.drop 33 = dktL_law_2 := dk_seg dksL_law_1 9 rfl rfl
theorem dksL_law_3 : cL_law.data.toList.drop 216 = dktL_law_3 := dk_seg dksL_law_2 183 rfl rfl
theorem dksL_law_4 : cL_law.data.toList.drop 240 = dktL_law_4 := dk_seg dksL_law_3 24 rfl rfl
theorem dksL_law_5 : cL_law.data.toList.drop 264 = dktL_law_5 := dk_seg dksL_law_4 24 rfl rfl
theorem dksL_law_6 : cL_law.data.toList.drop 288 = dktL_law_6 := dk_seg dksL_law_5 24 rfl rfl
theorem dksL_law_7 : cL_law.data.toList.drop 310 = dktL_law_7 := dk_seg dksL_law_6 22 rfl rfl
theorem dksL_law_8 : cL_law.data.toList.drop 333 = dktL_law_8 := dk_seg dksL_law_7 23 rfl rfl
theorem dksL_law_9 : cL_law.data.toList.drop 356 = dktL_law_9 := dk_seg dksL_law_8 23 rfl rfl
theorem dksL_law_10 : cL_law.data.toList.drop 380 = dktL_law_10 := dk_seg dksL_law_9 24 rfl rfl
theorem dksL_law_11 : cL_law.data.toList.drop 404 = dktL_law_11 := dk_seg dksL_law_10 24 rfl rfl
theorem dksL_law_12 : cL_law.data.toList.drop 428 = dktL_law_12 := dk_seg dksL_law_11 24 rfl rfl
theorem dksL_law_13 : cL_law.data.toList.drop 452 = dktL_law_13 := dk_seg dksL_law_12 24 rfl rfl
theorem dksL_law_14 : cL_law.data.toList.drop 476 = dktL_law_14 := dk_seg dksL_law_13 24 rfl rfl
theorem dksL_law_15 : cL_law.data.toList.drop 498 = dktL_law_15 := dk_seg dksL_law_14 22 rfl rfl
theorem dksL_law_16 : cL_law.data.toList.drop 521 = dktL_law_16 := dk_seg dksL_law_15 23 rfl rfl
theorem dksL_law_17 : cL_law.data.toList.drop 545 = dktL_law_17 := dk_seg dksL_law_16 24 rfl rfl
theorem dksL_law_18 : cL_law.data.toList.drop 569 = dktL_law_18 := dk_seg dksL_law_17 24 rfl rfl
theorem dksL_law_19 : cL_law.data.toList.drop 593 = dktL_law_19 := dk_seg dksL_law_18 24 rfl rfl
theorem dksL_law_20 : cL_law.data.toList.drop 617 = dktL_law_20 := dk_seg dksL_law_19 24 rfl rfl
theorem dksL_law_21 : cL_law.data.toList.drop 641 = dktL_law_21 := dk_seg dksL_law_20 24 rfl rfl
theorem dksL_law_22 : cL_law.data.toList.drop 665 = dktL_law_22 := dk_seg dksL_law_21 24 rfl rfl
theorem dksL_law_23 : cL_law.data.toList.drop 689 = dktL_law_23 := dk_seg dksL_law_22 24 rfl rfl
theorem dksL_law_24 : cL_law.data.toList.drop 713 = dktL_law_24 := dk_seg dksL_law_23 24 rfl rfl
theorem dksL_law_25 : cL_law.data.toList.drop 737 = dktL_law_25 := dk_seg dksL_law_24 24 rfl rfl
theorem dksL_law_26 : cL_law.data.toList.drop 761 = dktL_law_26 := dk_seg dksL_law_25 24 rfl rfl
theorem dksL_law_27 : cL_law.data.toList.drop 785 = dktL_law_27 := dk_seg dksL_law_26 24 rfl rfl
theorem dksL_law_28 : cL_law.data.toList.drop 808 = dktL_law_28 := dk_seg dksL_law_27 23 rfl rfl
theorem dksL_law_29 : cL_law.data.toList.drop 831 = dktL_law_29 := dk_seg dksL_law_28 23 rfl rfl
theorem dksL_law_30 : cL_law.data.toList.drop 853 = dktL_law_30 := dk_seg dksL_law_29 22 rfl rfl
theorem dksL_law_31 : cL_law.data.toList.drop 876 = dktL_law_31 := dk_seg dksL_law_30 23 rfl rfl
theorem dksL_law_32 : cL_law.data.toList.drop 900 = dktL_law_32 := dk_seg dksL_law_31 24 rfl rfl
theorem dksL_law_33 : cL_law.data.toList.drop 922 = dktL_law_33 := dk_seg dksL_law_32 22 rfl rfl
theorem dksL_law_34 : cL_law.data.toList.drop 946 = dktL_law_34 := dk_seg dksL_law_33 24 rfl rfl
theorem dksL_law_35 : cL_law.data.toList.drop 968 = dktL_law_35 := dk_seg dksL_law_34 22 rfl rfl
theorem dksL_law_36 : cL_law.data.toList.drop 992 = dktL_law_36 := dk_seg dksL_law_35 24 rfl rfl
theorem dksL_law_37 : cL_law.data.toList.drop 1016 = dktL_law_37 := dk_seg dksL_law_36 24 rfl rfl
theorem dksL_law_38 : cL_law.data.toList.drop 1040 = dktL_law_38 := dk_seg dksL_law_37 24 rfl rfl
theorem dksL_law_39 : cL_law.data.toList.drop 1064 = dktL_law_39 := dk_seg dksL_law_38 24 rfl rfl
theorem dksL_law_40 : cL_law.data.toList.drop 1088 = dktL_law_40 := dk_seg dksL_law_39 24 rfl rfl
theorem dksL_law_41 : cL_law.data.toList.drop 1110 = dktL_law_41 := dk_seg dksL_law_40 22 rfl rfl
theorem dksL_law_42 : cL_law.data.toList.drop 1134 = dktL_law_42 := dk_seg dksL_law_41 24 rfl rfl
theorem dksL_law_43 : cL_law.data.toList.drop 1158 = dktL_law_43 := dk_seg dksL_law_42 24 rfl rfl
theorem dksL_law_44 : cL_law.data.toList.drop 1182 = dktL_law_44 := dk_seg dksL_law_43 24 rfl rfl
theorem dksL_law_45 : cL_law.data.toList.drop 1206 = dktL_law_45 := dk_seg dksL_law_44 24 rfl rfl
theorem dksL_law_46 : cL_law.data.toList.drop 1230 = dktL_law_46 := dk_seg dksL_law_45 24 rfl rfl
theorem dksL_law_47 : cL_law.data.toList.drop 1253 = dktL_law_47 := dk_seg dksL_law_46 23 rfl rfl
theorem dksL_law_48 : cL_law.data.toList.drop 1276 = dktL_law_48 := dk_seg dksL_law_47 23 rfl rfl
theorem dksL_law_49 : cL_law.data.toList.drop 1300 = dktL_law_49 := dk_seg dksL_law_48 24 rfl rfl
theorem dksL_law_50 : cL_law.data.toList.drop 1324 = dktL_law_50 := dk_seg dksL_law_49 24 rfl rfl
theorem dksL_law_51 : cL_law.data.toList.drop 1348 = dktL_law_51 := dk_seg dksL_law_50 24 rfl rfl
theorem dksL_law_52 : cL_law.data.toList.drop 1372 = dktL_law_52 := dk_seg dksL_law_51 24 rfl rfl
theorem dksL_law_53 : cL_law.data.toList.drop 1396 = dktL_law_53 := dk_seg dksL_law_52 24 rfl rfl
theorem dksL_law_54 : cL_law.data.toList.drop 1420 = dktL_law_54 := dk_seg dksL_law_53 24 rfl rfl
theorem dksL_law_55 : cL_law.data.toList.drop 1444 = dktL_law_55 := dk_seg dksL_law_54 24 rfl rfl
theorem dksL_law_56 : cL_law.data.toList.drop 1468 = dktL_law_56 := dk_seg dksL_law_55 24 rfl rfl
theorem dksL_law_57 : cL_law.data.toList.drop 1492 = dktL_law_57 := dk_seg dksL_law_56 24 rfl rfl
theorem dksL_law_58 : cL_law.data.toList.drop 1516 = dktL_law_58 := dk_seg dksL_law_57 24 rfl rfl
theorem dksL_law_59 : cL_law.data.toList.drop 1540 = dktL_law_59 := dk_seg dksL_law_58 24 rfl rfl
theorem dL_law_0 : decode cL_law 0 = .ok (.new 7, 3) := dk_187 0 7 (dk_at dksL_law_0 0 rfl rfl)
theorem dL_law_3 : decode cL_law 3 = .ok (.dup, 1) := dk_89 (dk_at dksL_law_0 3 rfl rfl)
theorem dL_law_4 : decode cL_law 4 = .ok (.invokespecial 9, 3) := dk_183 0 9 (dk_at dksL_law_0 4 rfl rfl)
theorem dL_law_7 : decode cL_law 7 = .ok (.astore_n 1, 1) := dk_76 (dk_at dksL_law_0 7 rfl rfl)
theorem dL_law_8 : decode cL_law 8 = .ok (.new 10, 3) := dk_187 0 10 (dk_at dksL_law_0 8 rfl rfl)
theorem dL_law_11 : decode cL_law 11 = .ok (.dup, 1) := dk_89 (dk_at dksL_law_0 11 rfl rfl)
theorem dL_law_12 : decode cL_law 12 = .ok (.invokespecial 12, 3) := dk_183 0 12 (dk_at dksL_law_0 12 rfl rfl)
theorem dL_law_15 : decode cL_law 15 = .ok (.astore_n 2, 1) := dk_77 (dk_at dksL_law_0 15 rfl rfl)
theorem dL_law_16 : decode cL_law 16 = .ok (.iconst 0, 1) := dk_3 (dk_at dksL_law_0 16 rfl rfl)
theorem dL_law_17 : decode cL_law 17 = .ok (.istore_n 3, 1) := dk_62 (dk_at dksL_law_0 17 rfl rfl)
theorem dL_law_18 : decode cL_law 18 = .ok (.iload_n 3, 1) := dk_29 (dk_at dksL_law_0 18 rfl rfl)
theorem dL_law_19 : decode cL_law 19 = .ok (.aload_n 0, 1) := dk_42 (dk_at dksL_law_0 19 rfl rfl)
theorem dL_law_20 : decode cL_law 20 = .ok (.arraylength, 1) := dk_190 (dk_at dksL_law_0 20 rfl rfl)
theorem dL_law_21 : decode cL_law 21 = .ok (.bipush 6, 2) := dk_16 6 (dk_at dksL_law_0 21 rfl rfl)
theorem dL_law_23 : decode cL_law 23 = .ok (.isub, 1) := dk_100 (dk_at dksL_law_0 23 rfl rfl)
theorem dL_law_24 : decode cL_law 24 = .ok (.if_icmp .gt 1522, 3) := dk_163 5 242 (dk_at dksL_law_1 0 rfl rfl)
theorem dL_law_27 : decode cL_law 27 = .ok (.aload_n 0, 1) := dk_42 (dk_at dksL_law_1 3 rfl rfl)
theorem dL_law_28 : decode cL_law 28 = .ok (.iload_n 3, 1) := dk_29 (dk_at dksL_law_1 4 rfl rfl)
theorem dL_law_29 : decode cL_law 29 = .ok (.iaload, 1) := dk_46 (dk_at dksL_law_1 5 rfl rfl)
theorem dL_law_30 : decode cL_law 30 = .ok (.bipush 63, 2) := dk_16 63 (dk_at dksL_law_1 6 rfl rfl)
theorem dL_law_32 : decode cL_law 32 = .ok (.iand, 1) := dk_126 (dk_at dksL_law_1 8 rfl rfl)
theorem dL_law_33 : decode cL_law 33 = .ok (.tableswitch 1507 0 41 #[183, 246, 269, 282, 305, 328, 371, 404, 437, 470, 493, 526, 585, 628, 671, 704, 737, 760, 783, 832, 865, 888, 901, 924, 957, 980, 1039, 1082, 1115, 1148, 1181, 1214, 1237, 1260, 1313, 1336, 1359, 1392, 1435, 1448, 1471, 1484], 183) := by decide +kernel
theorem dL_law_216 : decode cL_law 216 = .ok (.aload_n 1, 1) := dk_43 (dk_at dksL_law_3 0 rfl rfl)
theorem dL_law_217 : decode cL_law 217 = .ok (.aload_n 0, 1) := dk_42 (dk_at dksL_law_3 1 rfl rfl)
theorem dL_law_218 : decode cL_law 218 = .ok (.iload_n 3, 1) := dk_29 (dk_at dksL_law_3 2 rfl rfl)
theorem dL_law_219 : decode cL_law 219 = .ok (.iconst 1, 1) := dk_4 (dk_at dksL_law_3 3 rfl rfl)
theorem dL_law_220 : decode cL_law 220 = .ok (.iadd, 1) := dk_96 (dk_at dksL_law_3 4 rfl rfl)
theorem dL_law_221 : decode cL_law 221 = .ok (.iaload, 1) := dk_46 (dk_at dksL_law_3 5 rfl rfl)
theorem dL_law_222 : decode cL_law 222 = .ok (.aload_n 0, 1) := dk_42 (dk_at dksL_law_3 6 rfl rfl)
theorem dL_law_223 : decode cL_law 223 = .ok (.iload_n 3, 1) := dk_29 (dk_at dksL_law_3 7 rfl rfl)
theorem dL_law_224 : decode cL_law 224 = .ok (.iconst 2, 1) := dk_5 (dk_at dksL_law_3 8 rfl rfl)
theorem dL_law_225 : decode cL_law 225 = .ok (.iadd, 1) := dk_96 (dk_at dksL_law_3 9 rfl rfl)
theorem dL_law_226 : decode cL_law 226 = .ok (.iaload, 1) := dk_46 (dk_at dksL_law_3 10 rfl rfl)
theorem dL_law_227 : decode cL_law 227 = .ok (.aload_n 0, 1) := dk_42 (dk_at dksL_law_3 11 rfl rfl)
theorem dL_law_228 : decode cL_law 228 = .ok (.iload_n 3, 1) := dk_29 (dk_at dksL_law_3 12 rfl rfl)
theorem dL_law_229 : decode cL_law 229 = .ok (.iconst 3, 1) := dk_6 (dk_at dksL_law_3 13 rfl rfl)
theorem dL_law_230 : decode cL_law 230 = .ok (.iadd, 1) := dk_96 (dk_at dksL_law_3 14 rfl rfl)
theorem dL_law_231 : decode cL_law 231 = .ok (.iaload, 1) := dk_46 (dk_at dksL_law_3 15 rfl rfl)
theorem dL_law_232 : decode cL_law 232 = .ok (.aload_n 0, 1) := dk_42 (dk_at dksL_law_3 16 rfl rfl)
theorem dL_law_233 : decode cL_law 233 = .ok (.iload_n 3, 1) := dk_29 (dk_at dksL_law_3 17 rfl rfl)
theorem dL_law_234 : decode cL_law 234 = .ok (.iconst 4, 1) := dk_7 (dk_at dksL_law_3 18 rfl rfl)
theorem dL_law_235 : decode cL_law 235 = .ok (.iadd, 1) := dk_96 (dk_at dksL_law_3 19 rfl rfl)
theorem dL_law_236 : decode cL_law 236 = .ok (.iaload, 1) := dk_46 (dk_at dksL_law_3 20 rfl rfl)
theorem dL_law_237 : decode cL_law 237 = .ok (.aload_n 0, 1) := dk_42 (dk_at dksL_law_3 21 rfl rfl)
theorem dL_law_238 : decode cL_law 238 = .ok (.iload_n 3, 1) := dk_29 (dk_at dksL_law_3 22 rfl rfl)
theorem dL_law_239 : decode cL_law 239 = .ok (.iconst 5, 1) := dk_8 (dk_at dksL_law_3 23 rfl rfl)
theorem dL_law_240 : decode cL_law 240 = .ok (.iadd, 1) := dk_96 (dk_at dksL_law_4 0 rfl rfl)
theorem dL_law_241 : decode cL_law 241 = .ok (.iaload, 1) := dk_46 (dk_at dksL_law_4 1 rfl rfl)
theorem dL_law_242 : decode cL_law 242 = .ok (.invokevirtual 13, 3) := dk_182 0 13 (dk_at dksL_law_4 2 rfl rfl)
theorem dL_law_245 : decode cL_law 245 = .ok (.aload_n 2, 1) := dk_44 (dk_at dksL_law_4 5 rfl rfl)
theorem dL_law_246 : decode cL_law 246 = .ok (.aload_n 0, 1) := dk_42 (dk_at dksL_law_4 6 rfl rfl)
theorem dL_law_247 : decode cL_law 247 = .ok (.iload_n 3, 1) := dk_29 (dk_at dksL_law_4 7 rfl rfl)
theorem dL_law_248 : decode cL_law 248 = .ok (.iconst 1, 1) := dk_4 (dk_at dksL_law_4 8 rfl rfl)
theorem dL_law_249 : decode cL_law 249 = .ok (.iadd, 1) := dk_96 (dk_at dksL_law_4 9 rfl rfl)
theorem dL_law_250 : decode cL_law 250 = .ok (.iaload, 1) := dk_46 (dk_at dksL_law_4 10 rfl rfl)
theorem dL_law_251 : decode cL_law 251 = .ok (.aload_n 0, 1) := dk_42 (dk_at dksL_law_4 11 rfl rfl)
theorem dL_law_252 : decode cL_law 252 = .ok (.iload_n 3, 1) := dk_29 (dk_at dksL_law_4 12 rfl rfl)
theorem dL_law_253 : decode cL_law 253 = .ok (.iconst 2, 1) := dk_5 (dk_at dksL_law_4 13 rfl rfl)
theorem dL_law_254 : decode cL_law 254 = .ok (.iadd, 1) := dk_96 (dk_at dksL_law_4 14 rfl rfl)
theorem dL_law_255 : decode cL_law 255 = .ok (.iaload, 1) := dk_46 (dk_at dksL_law_4 15 rfl rfl)
theorem dL_law_256 : decode cL_law 256 = .ok (.aload_n 0, 1) := dk_42 (dk_at dksL_law_4 16 rfl rfl)
theorem dL_law_257 : decode cL_law 257 = .ok (.iload_n 3, 1) := dk_29 (dk_at dksL_law_4 17 rfl rfl)
theorem dL_law_258 : decode cL_law 258 = .ok (.iconst 3, 1) := dk_6 (dk_at dksL_law_4 18 rfl rfl)
theorem dL_law_259 : decode cL_law 259 = .ok (.iadd, 1) := dk_96 (dk_at dksL_law_4 19 rfl rfl)
theorem dL_law_260 : decode cL_law 260 = .ok (.iaload, 1) := dk_46 (dk_at dksL_law_4 20 rfl rfl)
theorem dL_law_261 : decode cL_law 261 = .ok (.aload_n 0, 1) := dk_42 (dk_at dksL_law_4 21 rfl rfl)
theorem dL_law_262 : decode cL_law 262 = .ok (.iload_n 3, 1) := dk_29 (dk_at dksL_law_4 22 rfl rfl)
theorem dL_law_263 : decode cL_law 263 = .ok (.iconst 4, 1) := dk_7 (dk_at dksL_law_4 23 rfl rfl)
theorem dL_law_264 : decode cL_law 264 = .ok (.iadd, 1) := dk_96 (dk_at dksL_law_5 0 rfl rfl)
theorem dL_law_265 : decode cL_law 265 = .ok (.iaload, 1) := dk_46 (dk_at dksL_law_5 1 rfl rfl)
theorem dL_law_266 : decode cL_law 266 = .ok (.aload_n 0, 1) := dk_42 (dk_at dksL_law_5 2 rfl rfl)
theorem dL_law_267 : decode cL_law 267 = .ok (.iload_n 3, 1) := dk_29 (dk_at dksL_law_5 3 rfl rfl)
theorem dL_law_268 : decode cL_law 268 = .ok (.iconst 5, 1) := dk_8 (dk_at dksL_law_5 4 rfl rfl)
theorem dL_law_269 : decode cL_law 269 = .ok (.iadd, 1) := dk_96 (dk_at dksL_law_5 5 rfl rfl)
theorem dL_law_270 : decode cL_law 270 = .ok (.iaload, 1) := dk_46 (dk_at dksL_law_5 6 rfl rfl)
theorem dL_law_271 : decode cL_law 271 = .ok (.invokevirtual 17, 3) := dk_182 0 17 (dk_at dksL_law_5 7 rfl rfl)
theorem dL_law_274 : decode cL_law 274 = .ok (.if_icmp .eq 1266, 3) := dk_159 4 242 (dk_at dksL_law_5 10 rfl rfl)
theorem dL_law_277 : decode cL_law 277 = .ok (.iconst 0, 1) := dk_3 (dk_at dksL_law_5 13 rfl rfl)
theorem dL_law_278 : decode cL_law 278 = .ok (.ireturn, 1) := dk_172 (dk_at dksL_law_5 14 rfl rfl)
theorem dL_law_279 : decode cL_law 279 = .ok (.aload_n 1, 1) := dk_43 (dk_at dksL_law_5 15 rfl rfl)
theorem dL_law_280 : decode cL_law 280 = .ok (.aload_n 0, 1) := dk_42 (dk_at dksL_law_5 16 rfl rfl)
theorem dL_law_281 : decode cL_law 281 = .ok (.iload_n 3, 1) := dk_29 (dk_at dksL_law_5 17 rfl rfl)
theorem dL_law_282 : decode cL_law 282 = .ok (.iconst 1, 1) := dk_4 (dk_at dksL_law_5 18 rfl rfl)
theorem dL_law_283 : decode cL_law 283 = .ok (.iadd, 1) := dk_96 (dk_at dksL_law_5 19 rfl rfl)
theorem dL_law_284 : decode cL_law 284 = .ok (.iaload, 1) := dk_46 (dk_at dksL_law_5 20 rfl rfl)
theorem dL_law_285 : decode cL_law 285 = .ok (.invokevirtual 18, 3) := dk_182 0 18 (dk_at dksL_law_5 21 rfl rfl)
theorem dL_law_288 : decode cL_law 288 = .ok (.aload_n 2, 1) := dk_44 (dk_at dksL_law_6 0 rfl rfl)
theorem dL_law_289 : decode cL_law 289 = .ok (.aload_n 0, 1) := dk_42 (dk_at dksL_law_6 1 rfl rfl)
theorem dL_law_290 : decode cL_law 290 = .ok (.iload_n 3, 1) := dk_29 (dk_at dksL_law_6 2 rfl rfl)
theorem dL_law_291 : decode cL_law 291 = .ok (.iconst 1, 1) := dk_4 (dk_at dksL_law_6 3 rfl rfl)
theorem dL_law_292 : decode cL_law 292 = .ok (.iadd, 1) := dk_96 (dk_at dksL_law_6 4 rfl rfl)
theorem dL_law_293 : decode cL_law 293 = .ok (.iaload, 1) := dk_46 (dk_at dksL_law_6 5 rfl rfl)
theorem dL_law_294 : decode cL_law 294 = .ok (.invokevirtual 22, 3) := dk_182 0 22 (dk_at dksL_law_6 6 rfl rfl)
theorem dL_law_297 : decode cL_law 297 = .ok (.if_icmp .eq 1243, 3) := dk_159 4 219 (dk_at dksL_law_6 9 rfl rfl)
theorem dL_law_300 : decode cL_law 300 = .ok (.iconst 0, 1) := dk_3 (dk_at dksL_law_6 12 rfl rfl)
theorem dL_law_301 : decode cL_law 301 = .ok (.ireturn, 1) := dk_172 (dk_at dksL_law_6 13 rfl rfl)
theorem dL_law_302 : decode cL_law 302 = .ok (.aload_n 1, 1) := dk_43 (dk_at dksL_law_6 14 rfl rfl)
theorem dL_law_303 : decode cL_law 303 = .ok (.invokevirtual 23, 3) := dk_182 0 23 (dk_at dksL_law_6 15 rfl rfl)
theorem dL_law_306 : decode cL_law 306 = .ok (.aload_n 2, 1) := dk_44 (dk_at dksL_law_6 18 rfl rfl)
theorem dL_law_307 : decode cL_law 307 = .ok (.invokevirtual 27, 3) := dk_182 0 27 (dk_at dksL_law_6 19 rfl rfl)
theorem dL_law_310 : decode cL_law 310 = .ok (.if_icmp .eq 1230, 3) := dk_159 4 206 (dk_at dksL_law_7 0 rfl rfl)
theorem dL_law_313 : decode cL_law 313 = .ok (.iconst 0, 1) := dk_3 (dk_at dksL_law_7 3 rfl rfl)
theorem dL_law_314 : decode cL_law 314 = .ok (.ireturn, 1) := dk_172 (dk_at dksL_law_7 4 rfl rfl)
theorem dL_law_315 : decode cL_law 315 = .ok (.aload_n 1, 1) := dk_43 (dk_at dksL_law_7 5 rfl rfl)
theorem dL_law_316 : decode cL_law 316 = .ok (.aload_n 0, 1) := dk_42 (dk_at dksL_law_7 6 rfl rfl)
theorem dL_law_317 : decode cL_law 317 = .ok (.iload_n 3, 1) := dk_29 (dk_at dksL_law_7 7 rfl rfl)
theorem dL_law_318 : decode cL_law 318 = .ok (.iconst 1, 1) := dk_4 (dk_at dksL_law_7 8 rfl rfl)
theorem dL_law_319 : decode cL_law 319 = .ok (.iadd, 1) := dk_96 (dk_at dksL_law_7 9 rfl rfl)
theorem dL_law_320 : decode cL_law 320 = .ok (.iaload, 1) := dk_46 (dk_at dksL_law_7 10 rfl rfl)
theorem dL_law_321 : decode cL_law 321 = .ok (.invokevirtual 28, 3) := dk_182 0 28 (dk_at dksL_law_7 11 rfl rfl)
theorem dL_law_324 : decode cL_law 324 = .ok (.aload_n 2, 1) := dk_44 (dk_at dksL_law_7 14 rfl rfl)
theorem dL_law_325 : decode cL_law 325 = .ok (.aload_n 0, 1) := dk_42 (dk_at dksL_law_7 15 rfl rfl)
theorem dL_law_326 : decode cL_law 326 = .ok (.iload_n 3, 1) := dk_29 (dk_at dksL_law_7 16 rfl rfl)
theorem dL_law_327 : decode cL_law 327 = .ok (.iconst 1, 1) := dk_4 (dk_at dksL_law_7 17 rfl rfl)
theorem dL_law_328 : decode cL_law 328 = .ok (.iadd, 1) := dk_96 (dk_at dksL_law_7 18 rfl rfl)
theorem dL_law_329 : decode cL_law 329 = .ok (.iaload, 1) := dk_46 (dk_at dksL_law_7 19 rfl rfl)
theorem dL_law_330 : decode cL_law 330 = .ok (.invokevirtual 32, 3) := dk_182 0 32 (dk_at dksL_law_7 20 rfl rfl)
theorem dL_law_333 : decode cL_law 333 = .ok (.if_icmp .eq 1207, 3) := dk_159 4 183 (dk_at dksL_law_8 0 rfl rfl)
theorem dL_law_336 : decode cL_law 336 = .ok (.iconst 0, 1) := dk_3 (dk_at dksL_law_8 3 rfl rfl)
theorem dL_law_337 : decode cL_law 337 = .ok (.ireturn, 1) := dk_172 (dk_at dksL_law_8 4 rfl rfl)
theorem dL_law_338 : decode cL_law 338 = .ok (.aload_n 1, 1) := dk_43 (dk_at dksL_law_8 5 rfl rfl)
theorem dL_law_339 : decode cL_law 339 = .ok (.aload_n 0, 1) := dk_42 (dk_at dksL_law_8 6 rfl rfl)
theorem dL_law_340 : decode cL_law 340 = .ok (.iload_n 3, 1) := dk_29 (dk_at dksL_law_8 7 rfl rfl)
theorem dL_law_341 : decode cL_law 341 = .ok (.iconst 1, 1) := dk_4 (dk_at dksL_law_8 8 rfl rfl)
theorem dL_law_342 : decode cL_law 342 = .ok (.iadd, 1) := dk_96 (dk_at dksL_law_8 9 rfl rfl)
theorem dL_law_343 : decode cL_law 343 = .ok (.iaload, 1) := dk_46 (dk_at dksL_law_8 10 rfl rfl)
theorem dL_law_344 : decode cL_law 344 = .ok (.invokevirtual 33, 3) := dk_182 0 33 (dk_at dksL_law_8 11 rfl rfl)
theorem dL_law_347 : decode cL_law 347 = .ok (.aload_n 2, 1) := dk_44 (dk_at dksL_law_8 14 rfl rfl)
theorem dL_law_348 : decode cL_law 348 = .ok (.aload_n 0, 1) := dk_42 (dk_at dksL_law_8 15 rfl rfl)
theorem dL_law_349 : decode cL_law 349 = .ok (.iload_n 3, 1) := dk_29 (dk_at dksL_law_8 16 rfl rfl)
theorem dL_law_350 : decode cL_law 350 = .ok (.iconst 1, 1) := dk_4 (dk_at dksL_law_8 17 rfl rfl)
theorem dL_law_351 : decode cL_law 351 = .ok (.iadd, 1) := dk_96 (dk_at dksL_law_8 18 rfl rfl)
theorem dL_law_352 : decode cL_law 352 = .ok (.iaload, 1) := dk_46 (dk_at dksL_law_8 19 rfl rfl)
theorem dL_law_353 : decode cL_law 353 = .ok (.invokevirtual 36, 3) := dk_182 0 36 (dk_at dksL_law_8 20 rfl rfl)
theorem dL_law_356 : decode cL_law 356 = .ok (.if_icmp .eq 1184, 3) := dk_159 4 160 (dk_at dksL_law_9 0 rfl rfl)
theorem dL_law_359 : decode cL_law 359 = .ok (.iconst 0, 1) := dk_3 (dk_at dksL_law_9 3 rfl rfl)
theorem dL_law_360 : decode cL_law 360 = .ok (.ireturn, 1) := dk_172 (dk_at dksL_law_9 4 rfl rfl)
theorem dL_law_361 : decode cL_law 361 = .ok (.aload_n 1, 1) := dk_43 (dk_at dksL_law_9 5 rfl rfl)
theorem dL_law_362 : decode cL_law 362 = .ok (.aload_n 0, 1) := dk_42 (dk_at dksL_law_9 6 rfl rfl)
theorem dL_law_363 : decode cL_law 363 = .ok (.iload_n 3, 1) := dk_29 (dk_at dksL_law_9 7 rfl rfl)
theorem dL_law_364 : decode cL_law 364 = .ok (.iconst 1, 1) := dk_4 (dk_at dksL_law_9 8 rfl rfl)
theorem dL_law_365 : decode cL_law 365 = .ok (.iadd, 1) := dk_96 (dk_at dksL_law_9 9 rfl rfl)
theorem dL_law_366 : decode cL_law 366 = .ok (.iaload, 1) := dk_46 (dk_at dksL_law_9 10 rfl rfl)
theorem dL_law_367 : decode cL_law 367 = .ok (.aload_n 0, 1) := dk_42 (dk_at dksL_law_9 11 rfl rfl)
theorem dL_law_368 : decode cL_law 368 = .ok (.iload_n 3, 1) := dk_29 (dk_at dksL_law_9 12 rfl rfl)
theorem dL_law_369 : decode cL_law 369 = .ok (.iconst 2, 1) := dk_5 (dk_at dksL_law_9 13 rfl rfl)
theorem dL_law_370 : decode cL_law 370 = .ok (.iadd, 1) := dk_96 (dk_at dksL_law_9 14 rfl rfl)
theorem dL_law_371 : decode cL_law 371 = .ok (.iaload, 1) := dk_46 (dk_at dksL_law_9 15 rfl rfl)
theorem dL_law_372 : decode cL_law 372 = .ok (.aload_n 0, 1) := dk_42 (dk_at dksL_law_9 16 rfl rfl)
theorem dL_law_373 : decode cL_law 373 = .ok (.iload_n 3, 1) := dk_29 (dk_at dksL_law_9 17 rfl rfl)
theorem dL_law_374 : decode cL_law 374 = .ok (.iconst 3, 1) := dk_6 (dk_at dksL_law_9 18 rfl rfl)
theorem dL_law_375 : decode cL_law 375 = .ok (.iadd, 1) := dk_96 (dk_at dksL_law_9 19 rfl rfl)
theorem dL_law_376 : decode cL_law 376 = .ok (.iaload, 1) := dk_46 (dk_at dksL_law_9 20 rfl rfl)
theorem dL_law_377 : decode cL_law 377 = .ok (.invokevirtual 37, 3) := dk_182 0 37 (dk_at dksL_law_9 21 rfl rfl)
theorem dL_law_380 : decode cL_law 380 = .ok (.aload_n 2, 1) := dk_44 (dk_at dksL_law_10 0 rfl rfl)
theorem dL_law_381 : decode cL_law 381 = .ok (.aload_n 0, 1) := dk_42 (dk_at dksL_law_10 1 rfl rfl)
theorem dL_law_382 : decode cL_law 382 = .ok (.iload_n 3, 1) := dk_29 (dk_at dksL_law_10 2 rfl rfl)
theorem dL_law_383 : decode cL_law 383 = .ok (.iconst 1, 1) := dk_4 (dk_at dksL_law_10 3 rfl rfl)
theorem dL_law_384 : decode cL_law 384 = .ok (.iadd, 1) := dk_96 (dk_at dksL_law_10 4 rfl rfl)
theorem dL_law_385 : decode cL_law 385 = .ok (.iaload, 1) := dk_46 (dk_at dksL_law_10 5 rfl rfl)
theorem dL_law_386 : decode cL_law 386 = .ok (.aload_n 0, 1) := dk_42 (dk_at dksL_law_10 6 rfl rfl)
theorem dL_law_387 : decode cL_law 387 = .ok (.iload_n 3, 1) := dk_29 (dk_at dksL_law_10 7 rfl rfl)
theorem dL_law_388 : decode cL_law 388 = .ok (.iconst 2, 1) := dk_5 (dk_at dksL_law_10 8 rfl rfl)
theorem dL_law_389 : decode cL_law 389 = .ok (.iadd, 1) := dk_96 (dk_at dksL_law_10 9 rfl rfl)
theorem dL_law_390 : decode cL_law 390 = .ok (.iaload, 1) := dk_46 (dk_at dksL_law_10 10 rfl rfl)
theorem dL_law_391 : decode cL_law 391 = .ok (.aload_n 0, 1) := dk_42 (dk_at dksL_law_10 11 rfl rfl)
theorem dL_law_392 : decode cL_law 392 = .ok (.iload_n 3, 1) := dk_29 (dk_at dksL_law_10 12 rfl rfl)
theorem dL_law_393 : decode cL_law 393 = .ok (.iconst 3, 1) := dk_6 (dk_at dksL_law_10 13 rfl rfl)
theorem dL_law_394 : decode cL_law 394 = .ok (.iadd, 1) := dk_96 (dk_at dksL_law_10 14 rfl rfl)
theorem dL_law_395 : decode cL_law 395 = .ok (.iaload, 1) := dk_46 (dk_at dksL_law_10 15 rfl rfl)
theorem dL_law_396 : decode cL_law 396 = .ok (.invokevirtual 41, 3) := dk_182 0 41 (dk_at dksL_law_10 16 rfl rfl)
theorem dL_law_399 : decode cL_law 399 = .ok (.if_icmp .eq 1141, 3) := dk_159 4 117 (dk_at dksL_law_10 19 rfl rfl)
theorem dL_law_402 : decode cL_law 402 = .ok (.iconst 0, 1) := dk_3 (dk_at dksL_law_10 22 rfl rfl)
theorem dL_law_403 : decode cL_law 403 = .ok (.ireturn, 1) := dk_172 (dk_at dksL_law_10 23 rfl rfl)
theorem dL_law_404 : decode cL_law 404 = .ok (.aload_n 1, 1) := dk_43 (dk_at dksL_law_11 0 rfl rfl)
theorem dL_law_405 : decode cL_law 405 = .ok (.aload_n 0, 1) := dk_42 (dk_at dksL_law_11 1 rfl rfl)
theorem dL_law_406 : decode cL_law 406 = .ok (.iload_n 3, 1) := dk_29 (dk_at dksL_law_11 2 rfl rfl)
theorem dL_law_407 : decode cL_law 407 = .ok (.iconst 1, 1) := dk_4 (dk_at dksL_law_11 3 rfl rfl)
theorem dL_law_408 : decode cL_law 408 = .ok (.iadd, 1) := dk_96 (dk_at dksL_law_11 4 rfl rfl)
theorem dL_law_409 : decode cL_law 409 = .ok (.iaload, 1) := dk_46 (dk_at dksL_law_11 5 rfl rfl)
theorem dL_law_410 : decode cL_law 410 = .ok (.aload_n 0, 1) := dk_42 (dk_at dksL_law_11 6 rfl rfl)
theorem dL_law_411 : decode cL_law 411 = .ok (.iload_n 3, 1) := dk_29 (dk_at dksL_law_11 7 rfl rfl)
theorem dL_law_412 : decode cL_law 412 = .ok (.iconst 2, 1) := dk_5 (dk_at dksL_law_11 8 rfl rfl)
theorem dL_law_413 : decode cL_law 413 = .ok (.iadd, 1) := dk_96 (dk_at dksL_law_11 9 rfl rfl)
theorem dL_law_414 : decode cL_law 414 = .ok (.iaload, 1) := dk_46 (dk_at dksL_law_11 10 rfl rfl)
theorem dL_law_415 : decode cL_law 415 = .ok (.invokevirtual 42, 3) := dk_182 0 42 (dk_at dksL_law_11 11 rfl rfl)
theorem dL_law_418 : decode cL_law 418 = .ok (.aload_n 2, 1) := dk_44 (dk_at dksL_law_11 14 rfl rfl)
theorem dL_law_419 : decode cL_law 419 = .ok (.aload_n 0, 1) := dk_42 (dk_at dksL_law_11 15 rfl rfl)
theorem dL_law_420 : decode cL_law 420 = .ok (.iload_n 3, 1) := dk_29 (dk_at dksL_law_11 16 rfl rfl)
theorem dL_law_421 : decode cL_law 421 = .ok (.iconst 1, 1) := dk_4 (dk_at dksL_law_11 17 rfl rfl)
theorem dL_law_422 : decode cL_law 422 = .ok (.iadd, 1) := dk_96 (dk_at dksL_law_11 18 rfl rfl)
theorem dL_law_423 : decode cL_law 423 = .ok (.iaload, 1) := dk_46 (dk_at dksL_law_11 19 rfl rfl)
theorem dL_law_424 : decode cL_law 424 = .ok (.aload_n 0, 1) := dk_42 (dk_at dksL_law_11 20 rfl rfl)
theorem dL_law_425 : decode cL_law 425 = .ok (.iload_n 3, 1) := dk_29 (dk_at dksL_law_11 21 rfl rfl)
theorem dL_law_426 : decode cL_law 426 = .ok (.iconst 2, 1) := dk_5 (dk_at dksL_law_11 22 rfl rfl)
theorem dL_law_427 : decode cL_law 427 = .ok (.iadd, 1) := dk_96 (dk_at dksL_law_11 23 rfl rfl)
theorem dL_law_428 : decode cL_law 428 = .ok (.iaload, 1) := dk_46 (dk_at dksL_law_12 0 rfl rfl)
theorem dL_law_429 : decode cL_law 429 = .ok (.invokevirtual 46, 3) := dk_182 0 46 (dk_at dksL_law_12 1 rfl rfl)
theorem dL_law_432 : decode cL_law 432 = .ok (.if_icmp .eq 1108, 3) := dk_159 4 84 (dk_at dksL_law_12 4 rfl rfl)
theorem dL_law_435 : decode cL_law 435 = .ok (.iconst 0, 1) := dk_3 (dk_at dksL_law_12 7 rfl rfl)
theorem dL_law_436 : decode cL_law 436 = .ok (.ireturn, 1) := dk_172 (dk_at dksL_law_12 8 rfl rfl)
theorem dL_law_437 : decode cL_law 437 = .ok (.aload_n 1, 1) := dk_43 (dk_at dksL_law_12 9 rfl rfl)
theorem dL_law_438 : decode cL_law 438 = .ok (.aload_n 0, 1) := dk_42 (dk_at dksL_law_12 10 rfl rfl)
theorem dL_law_439 : decode cL_law 439 = .ok (.iload_n 3, 1) := dk_29 (dk_at dksL_law_12 11 rfl rfl)
theorem dL_law_440 : decode cL_law 440 = .ok (.iconst 1, 1) := dk_4 (dk_at dksL_law_12 12 rfl rfl)
theorem dL_law_441 : decode cL_law 441 = .ok (.iadd, 1) := dk_96 (dk_at dksL_law_12 13 rfl rfl)
theorem dL_law_442 : decode cL_law 442 = .ok (.iaload, 1) := dk_46 (dk_at dksL_law_12 14 rfl rfl)
theorem dL_law_443 : decode cL_law 443 = .ok (.aload_n 0, 1) := dk_42 (dk_at dksL_law_12 15 rfl rfl)
theorem dL_law_444 : decode cL_law 444 = .ok (.iload_n 3, 1) := dk_29 (dk_at dksL_law_12 16 rfl rfl)
theorem dL_law_445 : decode cL_law 445 = .ok (.iconst 2, 1) := dk_5 (dk_at dksL_law_12 17 rfl rfl)
theorem dL_law_446 : decode cL_law 446 = .ok (.iadd, 1) := dk_96 (dk_at dksL_law_12 18 rfl rfl)
theorem dL_law_447 : decode cL_law 447 = .ok (.iaload, 1) := dk_46 (dk_at dksL_law_12 19 rfl rfl)
theorem dL_law_448 : decode cL_law 448 = .ok (.invokevirtual 47, 3) := dk_182 0 47 (dk_at dksL_law_12 20 rfl rfl)
theorem dL_law_451 : decode cL_law 451 = .ok (.aload_n 2, 1) := dk_44 (dk_at dksL_law_12 23 rfl rfl)
theorem dL_law_452 : decode cL_law 452 = .ok (.aload_n 0, 1) := dk_42 (dk_at dksL_law_13 0 rfl rfl)
theorem dL_law_453 : decode cL_law 453 = .ok (.iload_n 3, 1) := dk_29 (dk_at dksL_law_13 1 rfl rfl)
theorem dL_law_454 : decode cL_law 454 = .ok (.iconst 1, 1) := dk_4 (dk_at dksL_law_13 2 rfl rfl)
theorem dL_law_455 : decode cL_law 455 = .ok (.iadd, 1) := dk_96 (dk_at dksL_law_13 3 rfl rfl)
theorem dL_law_456 : decode cL_law 456 = .ok (.iaload, 1) := dk_46 (dk_at dksL_law_13 4 rfl rfl)
theorem dL_law_457 : decode cL_law 457 = .ok (.aload_n 0, 1) := dk_42 (dk_at dksL_law_13 5 rfl rfl)
theorem dL_law_458 : decode cL_law 458 = .ok (.iload_n 3, 1) := dk_29 (dk_at dksL_law_13 6 rfl rfl)
theorem dL_law_459 : decode cL_law 459 = .ok (.iconst 2, 1) := dk_5 (dk_at dksL_law_13 7 rfl rfl)
theorem dL_law_460 : decode cL_law 460 = .ok (.iadd, 1) := dk_96 (dk_at dksL_law_13 8 rfl rfl)
theorem dL_law_461 : decode cL_law 461 = .ok (.iaload, 1) := dk_46 (dk_at dksL_law_13 9 rfl rfl)
theorem dL_law_462 : decode cL_law 462 = .ok (.invokevirtual 50, 3) := dk_182 0 50 (dk_at dksL_law_13 10 rfl rfl)
theorem dL_law_465 : decode cL_law 465 = .ok (.if_icmp .eq 1075, 3) := dk_159 4 51 (dk_at dksL_law_13 13 rfl rfl)
theorem dL_law_468 : decode cL_law 468 = .ok (.iconst 0, 1) := dk_3 (dk_at dksL_law_13 16 rfl rfl)
theorem dL_law_469 : decode cL_law 469 = .ok (.ireturn, 1) := dk_172 (dk_at dksL_law_13 17 rfl rfl)
theorem dL_law_470 : decode cL_law 470 = .ok (.aload_n 1, 1) := dk_43 (dk_at dksL_law_13 18 rfl rfl)
theorem dL_law_471 : decode cL_law 471 = .ok (.aload_n 0, 1) := dk_42 (dk_at dksL_law_13 19 rfl rfl)
theorem dL_law_472 : decode cL_law 472 = .ok (.iload_n 3, 1) := dk_29 (dk_at dksL_law_13 20 rfl rfl)
theorem dL_law_473 : decode cL_law 473 = .ok (.iconst 1, 1) := dk_4 (dk_at dksL_law_13 21 rfl rfl)
theorem dL_law_474 : decode cL_law 474 = .ok (.iadd, 1) := dk_96 (dk_at dksL_law_13 22 rfl rfl)
theorem dL_law_475 : decode cL_law 475 = .ok (.iaload, 1) := dk_46 (dk_at dksL_law_13 23 rfl rfl)
theorem dL_law_476 : decode cL_law 476 = .ok (.aload_n 0, 1) := dk_42 (dk_at dksL_law_14 0 rfl rfl)
theorem dL_law_477 : decode cL_law 477 = .ok (.iload_n 3, 1) := dk_29 (dk_at dksL_law_14 1 rfl rfl)
theorem dL_law_478 : decode cL_law 478 = .ok (.iconst 2, 1) := dk_5 (dk_at dksL_law_14 2 rfl rfl)
theorem dL_law_479 : decode cL_law 479 = .ok (.iadd, 1) := dk_96 (dk_at dksL_law_14 3 rfl rfl)
theorem dL_law_480 : decode cL_law 480 = .ok (.iaload, 1) := dk_46 (dk_at dksL_law_14 4 rfl rfl)
theorem dL_law_481 : decode cL_law 481 = .ok (.invokevirtual 51, 3) := dk_182 0 51 (dk_at dksL_law_14 5 rfl rfl)
theorem dL_law_484 : decode cL_law 484 = .ok (.aload_n 2, 1) := dk_44 (dk_at dksL_law_14 8 rfl rfl)
theorem dL_law_485 : decode cL_law 485 = .ok (.aload_n 0, 1) := dk_42 (dk_at dksL_law_14 9 rfl rfl)
theorem dL_law_486 : decode cL_law 486 = .ok (.iload_n 3, 1) := dk_29 (dk_at dksL_law_14 10 rfl rfl)
theorem dL_law_487 : decode cL_law 487 = .ok (.iconst 1, 1) := dk_4 (dk_at dksL_law_14 11 rfl rfl)
theorem dL_law_488 : decode cL_law 488 = .ok (.iadd, 1) := dk_96 (dk_at dksL_law_14 12 rfl rfl)
theorem dL_law_489 : decode cL_law 489 = .ok (.iaload, 1) := dk_46 (dk_at dksL_law_14 13 rfl rfl)
theorem dL_law_490 : decode cL_law 490 = .ok (.aload_n 0, 1) := dk_42 (dk_at dksL_law_14 14 rfl rfl)
theorem dL_law_491 : decode cL_law 491 = .ok (.iload_n 3, 1) := dk_29 (dk_at dksL_law_14 15 rfl rfl)
theorem dL_law_492 : decode cL_law 492 = .ok (.iconst 2, 1) := dk_5 (dk_at dksL_law_14 16 rfl rfl)
theorem dL_law_493 : decode cL_law 493 = .ok (.iadd, 1) := dk_96 (dk_at dksL_law_14 17 rfl rfl)
theorem dL_law_494 : decode cL_law 494 = .ok (.iaload, 1) := dk_46 (dk_at dksL_law_14 18 rfl rfl)
theorem dL_law_495 : decode cL_law 495 = .ok (.invokevirtual 54, 3) := dk_182 0 54 (dk_at dksL_law_14 19 rfl rfl)
theorem dL_law_498 : decode cL_law 498 = .ok (.if_icmp .eq 1042, 3) := dk_159 4 18 (dk_at dksL_law_15 0 rfl rfl)
theorem dL_law_501 : decode cL_law 501 = .ok (.iconst 0, 1) := dk_3 (dk_at dksL_law_15 3 rfl rfl)
theorem dL_law_502 : decode cL_law 502 = .ok (.ireturn, 1) := dk_172 (dk_at dksL_law_15 4 rfl rfl)
theorem dL_law_503 : decode cL_law 503 = .ok (.aload_n 1, 1) := dk_43 (dk_at dksL_law_15 5 rfl rfl)
theorem dL_law_504 : decode cL_law 504 = .ok (.aload_n 0, 1) := dk_42 (dk_at dksL_law_15 6 rfl rfl)
theorem dL_law_505 : decode cL_law 505 = .ok (.iload_n 3, 1) := dk_29 (dk_at dksL_law_15 7 rfl rfl)
theorem dL_law_506 : decode cL_law 506 = .ok (.iconst 1, 1) := dk_4 (dk_at dksL_law_15 8 rfl rfl)
theorem dL_law_507 : decode cL_law 507 = .ok (.iadd, 1) := dk_96 (dk_at dksL_law_15 9 rfl rfl)
theorem dL_law_508 : decode cL_law 508 = .ok (.iaload, 1) := dk_46 (dk_at dksL_law_15 10 rfl rfl)
theorem dL_law_509 : decode cL_law 509 = .ok (.invokevirtual 55, 3) := dk_182 0 55 (dk_at dksL_law_15 11 rfl rfl)
theorem dL_law_512 : decode cL_law 512 = .ok (.aload_n 2, 1) := dk_44 (dk_at dksL_law_15 14 rfl rfl)
theorem dL_law_513 : decode cL_law 513 = .ok (.aload_n 0, 1) := dk_42 (dk_at dksL_law_15 15 rfl rfl)
theorem dL_law_514 : decode cL_law 514 = .ok (.iload_n 3, 1) := dk_29 (dk_at dksL_law_15 16 rfl rfl)
theorem dL_law_515 : decode cL_law 515 = .ok (.iconst 1, 1) := dk_4 (dk_at dksL_law_15 17 rfl rfl)
theorem dL_law_516 : decode cL_law 516 = .ok (.iadd, 1) := dk_96 (dk_at dksL_law_15 18 rfl rfl)
theorem dL_law_517 : decode cL_law 517 = .ok (.iaload, 1) := dk_46 (dk_at dksL_law_15 19 rfl rfl)
theorem dL_law_518 : decode cL_law 518 = .ok (.invokevirtual 58, 3) := dk_182 0 58 (dk_at dksL_law_15 20 rfl rfl)
theorem dL_law_521 : decode cL_law 521 = .ok (.if_icmp .eq 1019, 3) := dk_159 3 251 (dk_at dksL_law_16 0 rfl rfl)
theorem dL_law_524 : decode cL_law 524 = .ok (.iconst 0, 1) := dk_3 (dk_at dksL_law_16 3 rfl rfl)
theorem dL_law_525 : decode cL_law 525 = .ok (.ireturn, 1) := dk_172 (dk_at dksL_law_16 4 rfl rfl)
theorem dL_law_526 : decode cL_law 526 = .ok (.aload_n 1, 1) := dk_43 (dk_at dksL_law_16 5 rfl rfl)
theorem dL_law_527 : decode cL_law 527 = .ok (.aload_n 0, 1) := dk_42 (dk_at dksL_law_16 6 rfl rfl)
theorem dL_law_528 : decode cL_law 528 = .ok (.iload_n 3, 1) := dk_29 (dk_at dksL_law_16 7 rfl rfl)
theorem dL_law_529 : decode cL_law 529 = .ok (.iconst 1, 1) := dk_4 (dk_at dksL_law_16 8 rfl rfl)
theorem dL_law_530 : decode cL_law 530 = .ok (.iadd, 1) := dk_96 (dk_at dksL_law_16 9 rfl rfl)
theorem dL_law_531 : decode cL_law 531 = .ok (.iaload, 1) := dk_46 (dk_at dksL_law_16 10 rfl rfl)
theorem dL_law_532 : decode cL_law 532 = .ok (.aload_n 0, 1) := dk_42 (dk_at dksL_law_16 11 rfl rfl)
theorem dL_law_533 : decode cL_law 533 = .ok (.iload_n 3, 1) := dk_29 (dk_at dksL_law_16 12 rfl rfl)
theorem dL_law_534 : decode cL_law 534 = .ok (.iconst 2, 1) := dk_5 (dk_at dksL_law_16 13 rfl rfl)
theorem dL_law_535 : decode cL_law 535 = .ok (.iadd, 1) := dk_96 (dk_at dksL_law_16 14 rfl rfl)
theorem dL_law_536 : decode cL_law 536 = .ok (.iaload, 1) := dk_46 (dk_at dksL_law_16 15 rfl rfl)
theorem dL_law_537 : decode cL_law 537 = .ok (.invokevirtual 59, 3) := dk_182 0 59 (dk_at dksL_law_16 16 rfl rfl)
theorem dL_law_540 : decode cL_law 540 = .ok (.aload_n 2, 1) := dk_44 (dk_at dksL_law_16 19 rfl rfl)
theorem dL_law_541 : decode cL_law 541 = .ok (.aload_n 0, 1) := dk_42 (dk_at dksL_law_16 20 rfl rfl)
theorem dL_law_542 : decode cL_law 542 = .ok (.iload_n 3, 1) := dk_29 (dk_at dksL_law_16 21 rfl rfl)
theorem dL_law_543 : decode cL_law 543 = .ok (.iconst 1, 1) := dk_4 (dk_at dksL_law_16 22 rfl rfl)
theorem dL_law_544 : decode cL_law 544 = .ok (.iadd, 1) := dk_96 (dk_at dksL_law_16 23 rfl rfl)
theorem dL_law_545 : decode cL_law 545 = .ok (.iaload, 1) := dk_46 (dk_at dksL_law_17 0 rfl rfl)
theorem dL_law_546 : decode cL_law 546 = .ok (.aload_n 0, 1) := dk_42 (dk_at dksL_law_17 1 rfl rfl)
theorem dL_law_547 : decode cL_law 547 = .ok (.iload_n 3, 1) := dk_29 (dk_at dksL_law_17 2 rfl rfl)
theorem dL_law_548 : decode cL_law 548 = .ok (.iconst 2, 1) := dk_5 (dk_at dksL_law_17 3 rfl rfl)
theorem dL_law_549 : decode cL_law 549 = .ok (.iadd, 1) := dk_96 (dk_at dksL_law_17 4 rfl rfl)
theorem dL_law_550 : decode cL_law 550 = .ok (.iaload, 1) := dk_46 (dk_at dksL_law_17 5 rfl rfl)
theorem dL_law_551 : decode cL_law 551 = .ok (.invokevirtual 62, 3) := dk_182 0 62 (dk_at dksL_law_17 6 rfl rfl)
theorem dL_law_554 : decode cL_law 554 = .ok (.if_icmp .eq 986, 3) := dk_159 3 218 (dk_at dksL_law_17 9 rfl rfl)
theorem dL_law_557 : decode cL_law 557 = .ok (.iconst 0, 1) := dk_3 (dk_at dksL_law_17 12 rfl rfl)
theorem dL_law_558 : decode cL_law 558 = .ok (.ireturn, 1) := dk_172 (dk_at dksL_law_17 13 rfl rfl)
theorem dL_law_559 : decode cL_law 559 = .ok (.aload_n 1, 1) := dk_43 (dk_at dksL_law_17 14 rfl rfl)
theorem dL_law_560 : decode cL_law 560 = .ok (.aload_n 0, 1) := dk_42 (dk_at dksL_law_17 15 rfl rfl)
theorem dL_law_561 : decode cL_law 561 = .ok (.iload_n 3, 1) := dk_29 (dk_at dksL_law_17 16 rfl rfl)
theorem dL_law_562 : decode cL_law 562 = .ok (.iconst 1, 1) := dk_4 (dk_at dksL_law_17 17 rfl rfl)
theorem dL_law_563 : decode cL_law 563 = .ok (.iadd, 1) := dk_96 (dk_at dksL_law_17 18 rfl rfl)
theorem dL_law_564 : decode cL_law 564 = .ok (.iaload, 1) := dk_46 (dk_at dksL_law_17 19 rfl rfl)
theorem dL_law_565 : decode cL_law 565 = .ok (.aload_n 0, 1) := dk_42 (dk_at dksL_law_17 20 rfl rfl)
theorem dL_law_566 : decode cL_law 566 = .ok (.iload_n 3, 1) := dk_29 (dk_at dksL_law_17 21 rfl rfl)
theorem dL_law_567 : decode cL_law 567 = .ok (.iconst 2, 1) := dk_5 (dk_at dksL_law_17 22 rfl rfl)
theorem dL_law_568 : decode cL_law 568 = .ok (.iadd, 1) := dk_96 (dk_at dksL_law_17 23 rfl rfl)
theorem dL_law_569 : decode cL_law 569 = .ok (.iaload, 1) := dk_46 (dk_at dksL_law_18 0 rfl rfl)
theorem dL_law_570 : decode cL_law 570 = .ok (.aload_n 0, 1) := dk_42 (dk_at dksL_law_18 1 rfl rfl)
theorem dL_law_571 : decode cL_law 571 = .ok (.iload_n 3, 1) := dk_29 (dk_at dksL_law_18 2 rfl rfl)
theorem dL_law_572 : decode cL_law 572 = .ok (.iconst 3, 1) := dk_6 (dk_at dksL_law_18 3 rfl rfl)
theorem dL_law_573 : decode cL_law 573 = .ok (.iadd, 1) := dk_96 (dk_at dksL_law_18 4 rfl rfl)
theorem dL_law_574 : decode cL_law 574 = .ok (.iaload, 1) := dk_46 (dk_at dksL_law_18 5 rfl rfl)
theorem dL_law_575 : decode cL_law 575 = .ok (.ifCond .eq 7, 3) := dk_153 0 7 (dk_at dksL_law_18 6 rfl rfl)
theorem dL_law_578 : decode cL_law 578 = .ok (.iconst 1, 1) := dk_4 (dk_at dksL_law_18 9 rfl rfl)
theorem dL_law_579 : decode cL_law 579 = .ok (.goto 4, 3) := dk_167 0 4 (dk_at dksL_law_18 10 rfl rfl)
theorem dL_law_582 : decode cL_law 582 = .ok (.iconst 0, 1) := dk_3 (dk_at dksL_law_18 13 rfl rfl)
theorem dL_law_583 : decode cL_law 583 = .ok (.invokevirtual 63, 3) := dk_182 0 63 (dk_at dksL_law_18 14 rfl rfl)
theorem dL_law_586 : decode cL_law 586 = .ok (.aload_n 2, 1) := dk_44 (dk_at dksL_law_18 17 rfl rfl)
theorem dL_law_587 : decode cL_law 587 = .ok (.aload_n 0, 1) := dk_42 (dk_at dksL_law_18 18 rfl rfl)
theorem dL_law_588 : decode cL_law 588 = .ok (.iload_n 3, 1) := dk_29 (dk_at dksL_law_18 19 rfl rfl)
theorem dL_law_589 : decode cL_law 589 = .ok (.iconst 1, 1) := dk_4 (dk_at dksL_law_18 20 rfl rfl)
theorem dL_law_590 : decode cL_law 590 = .ok (.iadd, 1) := dk_96 (dk_at dksL_law_18 21 rfl rfl)
theorem dL_law_591 : decode cL_law 591 = .ok (.iaload, 1) := dk_46 (dk_at dksL_law_18 22 rfl rfl)
theorem dL_law_592 : decode cL_law 592 = .ok (.aload_n 0, 1) := dk_42 (dk_at dksL_law_18 23 rfl rfl)
theorem dL_law_593 : decode cL_law 593 = .ok (.iload_n 3, 1) := dk_29 (dk_at dksL_law_19 0 rfl rfl)
theorem dL_law_594 : decode cL_law 594 = .ok (.iconst 2, 1) := dk_5 (dk_at dksL_law_19 1 rfl rfl)
theorem dL_law_595 : decode cL_law 595 = .ok (.iadd, 1) := dk_96 (dk_at dksL_law_19 2 rfl rfl)
theorem dL_law_596 : decode cL_law 596 = .ok (.iaload, 1) := dk_46 (dk_at dksL_law_19 3 rfl rfl)
theorem dL_law_597 : decode cL_law 597 = .ok (.aload_n 0, 1) := dk_42 (dk_at dksL_law_19 4 rfl rfl)
theorem dL_law_598 : decode cL_law 598 = .ok (.iload_n 3, 1) := dk_29 (dk_at dksL_law_19 5 rfl rfl)
theorem dL_law_599 : decode cL_law 599 = .ok (.iconst 3, 1) := dk_6 (dk_at dksL_law_19 6 rfl rfl)
theorem dL_law_600 : decode cL_law 600 = .ok (.iadd, 1) := dk_96 (dk_at dksL_law_19 7 rfl rfl)
theorem dL_law_601 : decode cL_law 601 = .ok (.iaload, 1) := dk_46 (dk_at dksL_law_19 8 rfl rfl)
theorem dL_law_602 : decode cL_law 602 = .ok (.ifCond .eq 7, 3) := dk_153 0 7 (dk_at dksL_law_19 9 rfl rfl)
theorem dL_law_605 : decode cL_law 605 = .ok (.iconst 1, 1) := dk_4 (dk_at dksL_law_19 12 rfl rfl)
theorem dL_law_606 : decode cL_law 606 = .ok (.goto 4, 3) := dk_167 0 4 (dk_at dksL_law_19 13 rfl rfl)
theorem dL_law_609 : decode cL_law 609 = .ok (.iconst 0, 1) := dk_3 (dk_at dksL_law_19 16 rfl rfl)
theorem dL_law_610 : decode cL_law 610 = .ok (.invokevirtual 67, 3) := dk_182 0 67 (dk_at dksL_law_19 17 rfl rfl)
theorem dL_law_613 : decode cL_law 613 = .ok (.if_icmp .eq 927, 3) := dk_159 3 159 (dk_at dksL_law_19 20 rfl rfl)
theorem dL_law_616 : decode cL_law 616 = .ok (.iconst 0, 1) := dk_3 (dk_at dksL_law_19 23 rfl rfl)
theorem dL_law_617 : decode cL_law 617 = .ok (.ireturn, 1) := dk_172 (dk_at dksL_law_20 0 rfl rfl)
theorem dL_law_618 : decode cL_law 618 = .ok (.aload_n 1, 1) := dk_43 (dk_at dksL_law_20 1 rfl rfl)
theorem dL_law_619 : decode cL_law 619 = .ok (.aload_n 0, 1) := dk_42 (dk_at dksL_law_20 2 rfl rfl)
theorem dL_law_620 : decode cL_law 620 = .ok (.iload_n 3, 1) := dk_29 (dk_at dksL_law_20 3 rfl rfl)
theorem dL_law_621 : decode cL_law 621 = .ok (.iconst 1, 1) := dk_4 (dk_at dksL_law_20 4 rfl rfl)
theorem dL_law_622 : decode cL_law 622 = .ok (.iadd, 1) := dk_96 (dk_at dksL_law_20 5 rfl rfl)
theorem dL_law_623 : decode cL_law 623 = .ok (.iaload, 1) := dk_46 (dk_at dksL_law_20 6 rfl rfl)
theorem dL_law_624 : decode cL_law 624 = .ok (.aload_n 0, 1) := dk_42 (dk_at dksL_law_20 7 rfl rfl)
theorem dL_law_625 : decode cL_law 625 = .ok (.iload_n 3, 1) := dk_29 (dk_at dksL_law_20 8 rfl rfl)
theorem dL_law_626 : decode cL_law 626 = .ok (.iconst 2, 1) := dk_5 (dk_at dksL_law_20 9 rfl rfl)
theorem dL_law_627 : decode cL_law 627 = .ok (.iadd, 1) := dk_96 (dk_at dksL_law_20 10 rfl rfl)
theorem dL_law_628 : decode cL_law 628 = .ok (.iaload, 1) := dk_46 (dk_at dksL_law_20 11 rfl rfl)
theorem dL_law_629 : decode cL_law 629 = .ok (.aload_n 0, 1) := dk_42 (dk_at dksL_law_20 12 rfl rfl)
theorem dL_law_630 : decode cL_law 630 = .ok (.iload_n 3, 1) := dk_29 (dk_at dksL_law_20 13 rfl rfl)
theorem dL_law_631 : decode cL_law 631 = .ok (.iconst 3, 1) := dk_6 (dk_at dksL_law_20 14 rfl rfl)
theorem dL_law_632 : decode cL_law 632 = .ok (.iadd, 1) := dk_96 (dk_at dksL_law_20 15 rfl rfl)
theorem dL_law_633 : decode cL_law 633 = .ok (.iaload, 1) := dk_46 (dk_at dksL_law_20 16 rfl rfl)
theorem dL_law_634 : decode cL_law 634 = .ok (.invokevirtual 68, 3) := dk_182 0 68 (dk_at dksL_law_20 17 rfl rfl)
theorem dL_law_637 : decode cL_law 637 = .ok (.aload_n 2, 1) := dk_44 (dk_at dksL_law_20 20 rfl rfl)
theorem dL_law_638 : decode cL_law 638 = .ok (.aload_n 0, 1) := dk_42 (dk_at dksL_law_20 21 rfl rfl)
theorem dL_law_639 : decode cL_law 639 = .ok (.iload_n 3, 1) := dk_29 (dk_at dksL_law_20 22 rfl rfl)
theorem dL_law_640 : decode cL_law 640 = .ok (.iconst 1, 1) := dk_4 (dk_at dksL_law_20 23 rfl rfl)
theorem dL_law_641 : decode cL_law 641 = .ok (.iadd, 1) := dk_96 (dk_at dksL_law_21 0 rfl rfl)
theorem dL_law_642 : decode cL_law 642 = .ok (.iaload, 1) := dk_46 (dk_at dksL_law_21 1 rfl rfl)
theorem dL_law_643 : decode cL_law 643 = .ok (.aload_n 0, 1) := dk_42 (dk_at dksL_law_21 2 rfl rfl)
theorem dL_law_644 : decode cL_law 644 = .ok (.iload_n 3, 1) := dk_29 (dk_at dksL_law_21 3 rfl rfl)
theorem dL_law_645 : decode cL_law 645 = .ok (.iconst 2, 1) := dk_5 (dk_at dksL_law_21 4 rfl rfl)
theorem dL_law_646 : decode cL_law 646 = .ok (.iadd, 1) := dk_96 (dk_at dksL_law_21 5 rfl rfl)
theorem dL_law_647 : decode cL_law 647 = .ok (.iaload, 1) := dk_46 (dk_at dksL_law_21 6 rfl rfl)
theorem dL_law_648 : decode cL_law 648 = .ok (.aload_n 0, 1) := dk_42 (dk_at dksL_law_21 7 rfl rfl)
theorem dL_law_649 : decode cL_law 649 = .ok (.iload_n 3, 1) := dk_29 (dk_at dksL_law_21 8 rfl rfl)
theorem dL_law_650 : decode cL_law 650 = .ok (.iconst 3, 1) := dk_6 (dk_at dksL_law_21 9 rfl rfl)
theorem dL_law_651 : decode cL_law 651 = .ok (.iadd, 1) := dk_96 (dk_at dksL_law_21 10 rfl rfl)
theorem dL_law_652 : decode cL_law 652 = .ok (.iaload, 1) := dk_46 (dk_at dksL_law_21 11 rfl rfl)
theorem dL_law_653 : decode cL_law 653 = .ok (.invokevirtual 71, 3) := dk_182 0 71 (dk_at dksL_law_21 12 rfl rfl)
theorem dL_law_656 : decode cL_law 656 = .ok (.if_icmp .eq 884, 3) := dk_159 3 116 (dk_at dksL_law_21 15 rfl rfl)
theorem dL_law_659 : decode cL_law 659 = .ok (.iconst 0, 1) := dk_3 (dk_at dksL_law_21 18 rfl rfl)
theorem dL_law_660 : decode cL_law 660 = .ok (.ireturn, 1) := dk_172 (dk_at dksL_law_21 19 rfl rfl)
theorem dL_law_661 : decode cL_law 661 = .ok (.aload_n 1, 1) := dk_43 (dk_at dksL_law_21 20 rfl rfl)
theorem dL_law_662 : decode cL_law 662 = .ok (.aload_n 0, 1) := dk_42 (dk_at dksL_law_21 21 rfl rfl)
theorem dL_law_663 : decode cL_law 663 = .ok (.iload_n 3, 1) := dk_29 (dk_at dksL_law_21 22 rfl rfl)
theorem dL_law_664 : decode cL_law 664 = .ok (.iconst 1, 1) := dk_4 (dk_at dksL_law_21 23 rfl rfl)
theorem dL_law_665 : decode cL_law 665 = .ok (.iadd, 1) := dk_96 (dk_at dksL_law_22 0 rfl rfl)
theorem dL_law_666 : decode cL_law 666 = .ok (.iaload, 1) := dk_46 (dk_at dksL_law_22 1 rfl rfl)
theorem dL_law_667 : decode cL_law 667 = .ok (.aload_n 0, 1) := dk_42 (dk_at dksL_law_22 2 rfl rfl)
theorem dL_law_668 : decode cL_law 668 = .ok (.iload_n 3, 1) := dk_29 (dk_at dksL_law_22 3 rfl rfl)
theorem dL_law_669 : decode cL_law 669 = .ok (.iconst 2, 1) := dk_5 (dk_at dksL_law_22 4 rfl rfl)
theorem dL_law_670 : decode cL_law 670 = .ok (.iadd, 1) := dk_96 (dk_at dksL_law_22 5 rfl rfl)
theorem dL_law_671 : decode cL_law 671 = .ok (.iaload, 1) := dk_46 (dk_at dksL_law_22 6 rfl rfl)
theorem dL_law_672 : decode cL_law 672 = .ok (.aload_n 0, 1) := dk_42 (dk_at dksL_law_22 7 rfl rfl)
theorem dL_law_673 : decode cL_law 673 = .ok (.iload_n 3, 1) := dk_29 (dk_at dksL_law_22 8 rfl rfl)
theorem dL_law_674 : decode cL_law 674 = .ok (.iconst 3, 1) := dk_6 (dk_at dksL_law_22 9 rfl rfl)
theorem dL_law_675 : decode cL_law 675 = .ok (.iadd, 1) := dk_96 (dk_at dksL_law_22 10 rfl rfl)
theorem dL_law_676 : decode cL_law 676 = .ok (.iaload, 1) := dk_46 (dk_at dksL_law_22 11 rfl rfl)
theorem dL_law_677 : decode cL_law 677 = .ok (.invokevirtual 72, 3) := dk_182 0 72 (dk_at dksL_law_22 12 rfl rfl)
theorem dL_law_680 : decode cL_law 680 = .ok (.aload_n 2, 1) := dk_44 (dk_at dksL_law_22 15 rfl rfl)
theorem dL_law_681 : decode cL_law 681 = .ok (.aload_n 0, 1) := dk_42 (dk_at dksL_law_22 16 rfl rfl)
theorem dL_law_682 : decode cL_law 682 = .ok (.iload_n 3, 1) := dk_29 (dk_at dksL_law_22 17 rfl rfl)
theorem dL_law_683 : decode cL_law 683 = .ok (.iconst 1, 1) := dk_4 (dk_at dksL_law_22 18 rfl rfl)
theorem dL_law_684 : decode cL_law 684 = .ok (.iadd, 1) := dk_96 (dk_at dksL_law_22 19 rfl rfl)
theorem dL_law_685 : decode cL_law 685 = .ok (.iaload, 1) := dk_46 (dk_at dksL_law_22 20 rfl rfl)
theorem dL_law_686 : decode cL_law 686 = .ok (.aload_n 0, 1) := dk_42 (dk_at dksL_law_22 21 rfl rfl)
theorem dL_law_687 : decode cL_law 687 = .ok (.iload_n 3, 1) := dk_29 (dk_at dksL_law_22 22 rfl rfl)
theorem dL_law_688 : decode cL_law 688 = .ok (.iconst 2, 1) := dk_5 (dk_at dksL_law_22 23 rfl rfl)
theorem dL_law_689 : decode cL_law 689 = .ok (.iadd, 1) := dk_96 (dk_at dksL_law_23 0 rfl rfl)
theorem dL_law_690 : decode cL_law 690 = .ok (.iaload, 1) := dk_46 (dk_at dksL_law_23 1 rfl rfl)
theorem dL_law_691 : decode cL_law 691 = .ok (.aload_n 0, 1) := dk_42 (dk_at dksL_law_23 2 rfl rfl)
theorem dL_law_692 : decode cL_law 692 = .ok (.iload_n 3, 1) := dk_29 (dk_at dksL_law_23 3 rfl rfl)
theorem dL_law_693 : decode cL_law 693 = .ok (.iconst 3, 1) := dk_6 (dk_at dksL_law_23 4 rfl rfl)
theorem dL_law_694 : decode cL_law 694 = .ok (.iadd, 1) := dk_96 (dk_at dksL_law_23 5 rfl rfl)
theorem dL_law_695 : decode cL_law 695 = .ok (.iaload, 1) := dk_46 (dk_at dksL_law_23 6 rfl rfl)
theorem dL_law_696 : decode cL_law 696 = .ok (.invokevirtual 75, 3) := dk_182 0 75 (dk_at dksL_law_23 7 rfl rfl)
theorem dL_law_699 : decode cL_law 699 = .ok (.if_icmp .eq 841, 3) := dk_159 3 73 (dk_at dksL_law_23 10 rfl rfl)
theorem dL_law_702 : decode cL_law 702 = .ok (.iconst 0, 1) := dk_3 (dk_at dksL_law_23 13 rfl rfl)
theorem dL_law_703 : decode cL_law 703 = .ok (.ireturn, 1) := dk_172 (dk_at dksL_law_23 14 rfl rfl)
theorem dL_law_704 : decode cL_law 704 = .ok (.aload_n 1, 1) := dk_43 (dk_at dksL_law_23 15 rfl rfl)
theorem dL_law_705 : decode cL_law 705 = .ok (.aload_n 0, 1) := dk_42 (dk_at dksL_law_23 16 rfl rfl)
theorem dL_law_706 : decode cL_law 706 = .ok (.iload_n 3, 1) := dk_29 (dk_at dksL_law_23 17 rfl rfl)
theorem dL_law_707 : decode cL_law 707 = .ok (.iconst 1, 1) := dk_4 (dk_at dksL_law_23 18 rfl rfl)
theorem dL_law_708 : decode cL_law 708 = .ok (.iadd, 1) := dk_96 (dk_at dksL_law_23 19 rfl rfl)
theorem dL_law_709 : decode cL_law 709 = .ok (.iaload, 1) := dk_46 (dk_at dksL_law_23 20 rfl rfl)
theorem dL_law_710 : decode cL_law 710 = .ok (.aload_n 0, 1) := dk_42 (dk_at dksL_law_23 21 rfl rfl)
theorem dL_law_711 : decode cL_law 711 = .ok (.iload_n 3, 1) := dk_29 (dk_at dksL_law_23 22 rfl rfl)
theorem dL_law_712 : decode cL_law 712 = .ok (.iconst 2, 1) := dk_5 (dk_at dksL_law_23 23 rfl rfl)
theorem dL_law_713 : decode cL_law 713 = .ok (.iadd, 1) := dk_96 (dk_at dksL_law_24 0 rfl rfl)
theorem dL_law_714 : decode cL_law 714 = .ok (.iaload, 1) := dk_46 (dk_at dksL_law_24 1 rfl rfl)
theorem dL_law_715 : decode cL_law 715 = .ok (.invokevirtual 76, 3) := dk_182 0 76 (dk_at dksL_law_24 2 rfl rfl)
theorem dL_law_718 : decode cL_law 718 = .ok (.aload_n 2, 1) := dk_44 (dk_at dksL_law_24 5 rfl rfl)
theorem dL_law_719 : decode cL_law 719 = .ok (.aload_n 0, 1) := dk_42 (dk_at dksL_law_24 6 rfl rfl)
theorem dL_law_720 : decode cL_law 720 = .ok (.iload_n 3, 1) := dk_29 (dk_at dksL_law_24 7 rfl rfl)
theorem dL_law_721 : decode cL_law 721 = .ok (.iconst 1, 1) := dk_4 (dk_at dksL_law_24 8 rfl rfl)
theorem dL_law_722 : decode cL_law 722 = .ok (.iadd, 1) := dk_96 (dk_at dksL_law_24 9 rfl rfl)
theorem dL_law_723 : decode cL_law 723 = .ok (.iaload, 1) := dk_46 (dk_at dksL_law_24 10 rfl rfl)
theorem dL_law_724 : decode cL_law 724 = .ok (.aload_n 0, 1) := dk_42 (dk_at dksL_law_24 11 rfl rfl)
theorem dL_law_725 : decode cL_law 725 = .ok (.iload_n 3, 1) := dk_29 (dk_at dksL_law_24 12 rfl rfl)
theorem dL_law_726 : decode cL_law 726 = .ok (.iconst 2, 1) := dk_5 (dk_at dksL_law_24 13 rfl rfl)
theorem dL_law_727 : decode cL_law 727 = .ok (.iadd, 1) := dk_96 (dk_at dksL_law_24 14 rfl rfl)
theorem dL_law_728 : decode cL_law 728 = .ok (.iaload, 1) := dk_46 (dk_at dksL_law_24 15 rfl rfl)
theorem dL_law_729 : decode cL_law 729 = .ok (.invokevirtual 79, 3) := dk_182 0 79 (dk_at dksL_law_24 16 rfl rfl)
theorem dL_law_732 : decode cL_law 732 = .ok (.if_icmp .eq 808, 3) := dk_159 3 40 (dk_at dksL_law_24 19 rfl rfl)
theorem dL_law_735 : decode cL_law 735 = .ok (.iconst 0, 1) := dk_3 (dk_at dksL_law_24 22 rfl rfl)
theorem dL_law_736 : decode cL_law 736 = .ok (.ireturn, 1) := dk_172 (dk_at dksL_law_24 23 rfl rfl)
theorem dL_law_737 : decode cL_law 737 = .ok (.aload_n 1, 1) := dk_43 (dk_at dksL_law_25 0 rfl rfl)
theorem dL_law_738 : decode cL_law 738 = .ok (.aload_n 0, 1) := dk_42 (dk_at dksL_law_25 1 rfl rfl)
theorem dL_law_739 : decode cL_law 739 = .ok (.iload_n 3, 1) := dk_29 (dk_at dksL_law_25 2 rfl rfl)
theorem dL_law_740 : decode cL_law 740 = .ok (.iconst 1, 1) := dk_4 (dk_at dksL_law_25 3 rfl rfl)
theorem dL_law_741 : decode cL_law 741 = .ok (.iadd, 1) := dk_96 (dk_at dksL_law_25 4 rfl rfl)
theorem dL_law_742 : decode cL_law 742 = .ok (.iaload, 1) := dk_46 (dk_at dksL_law_25 5 rfl rfl)
theorem dL_law_743 : decode cL_law 743 = .ok (.aload_n 0, 1) := dk_42 (dk_at dksL_law_25 6 rfl rfl)
theorem dL_law_744 : decode cL_law 744 = .ok (.iload_n 3, 1) := dk_29 (dk_at dksL_law_25 7 rfl rfl)
theorem dL_law_745 : decode cL_law 745 = .ok (.iconst 2, 1) := dk_5 (dk_at dksL_law_25 8 rfl rfl)
theorem dL_law_746 : decode cL_law 746 = .ok (.iadd, 1) := dk_96 (dk_at dksL_law_25 9 rfl rfl)
theorem dL_law_747 : decode cL_law 747 = .ok (.iaload, 1) := dk_46 (dk_at dksL_law_25 10 rfl rfl)
theorem dL_law_748 : decode cL_law 748 = .ok (.invokevirtual 80, 3) := dk_182 0 80 (dk_at dksL_law_25 11 rfl rfl)
theorem dL_law_751 : decode cL_law 751 = .ok (.aload_n 2, 1) := dk_44 (dk_at dksL_law_25 14 rfl rfl)
theorem dL_law_752 : decode cL_law 752 = .ok (.aload_n 0, 1) := dk_42 (dk_at dksL_law_25 15 rfl rfl)
theorem dL_law_753 : decode cL_law 753 = .ok (.iload_n 3, 1) := dk_29 (dk_at dksL_law_25 16 rfl rfl)
theorem dL_law_754 : decode cL_law 754 = .ok (.iconst 1, 1) := dk_4 (dk_at dksL_law_25 17 rfl rfl)
theorem dL_law_755 : decode cL_law 755 = .ok (.iadd, 1) := dk_96 (dk_at dksL_law_25 18 rfl rfl)
theorem dL_law_756 : decode cL_law 756 = .ok (.iaload, 1) := dk_46 (dk_at dksL_law_25 19 rfl rfl)
theorem dL_law_757 : decode cL_law 757 = .ok (.aload_n 0, 1) := dk_42 (dk_at dksL_law_25 20 rfl rfl)
theorem dL_law_758 : decode cL_law 758 = .ok (.iload_n 3, 1) := dk_29 (dk_at dksL_law_25 21 rfl rfl)
theorem dL_law_759 : decode cL_law 759 = .ok (.iconst 2, 1) := dk_5 (dk_at dksL_law_25 22 rfl rfl)
theorem dL_law_760 : decode cL_law 760 = .ok (.iadd, 1) := dk_96 (dk_at dksL_law_25 23 rfl rfl)
theorem dL_law_761 : decode cL_law 761 = .ok (.iaload, 1) := dk_46 (dk_at dksL_law_26 0 rfl rfl)
theorem dL_law_762 : decode cL_law 762 = .ok (.invokevirtual 83, 3) := dk_182 0 83 (dk_at dksL_law_26 1 rfl rfl)
theorem dL_law_765 : decode cL_law 765 = .ok (.if_icmp .eq 775, 3) := dk_159 3 7 (dk_at dksL_law_26 4 rfl rfl)
theorem dL_law_768 : decode cL_law 768 = .ok (.iconst 0, 1) := dk_3 (dk_at dksL_law_26 7 rfl rfl)
theorem dL_law_769 : decode cL_law 769 = .ok (.ireturn, 1) := dk_172 (dk_at dksL_law_26 8 rfl rfl)
theorem dL_law_770 : decode cL_law 770 = .ok (.aload_n 1, 1) := dk_43 (dk_at dksL_law_26 9 rfl rfl)
theorem dL_law_771 : decode cL_law 771 = .ok (.aload_n 0, 1) := dk_42 (dk_at dksL_law_26 10 rfl rfl)
theorem dL_law_772 : decode cL_law 772 = .ok (.iload_n 3, 1) := dk_29 (dk_at dksL_law_26 11 rfl rfl)
theorem dL_law_773 : decode cL_law 773 = .ok (.iconst 1, 1) := dk_4 (dk_at dksL_law_26 12 rfl rfl)
theorem dL_law_774 : decode cL_law 774 = .ok (.iadd, 1) := dk_96 (dk_at dksL_law_26 13 rfl rfl)
theorem dL_law_775 : decode cL_law 775 = .ok (.iaload, 1) := dk_46 (dk_at dksL_law_26 14 rfl rfl)
theorem dL_law_776 : decode cL_law 776 = .ok (.invokevirtual 84, 3) := dk_182 0 84 (dk_at dksL_law_26 15 rfl rfl)
theorem dL_law_779 : decode cL_law 779 = .ok (.aload_n 2, 1) := dk_44 (dk_at dksL_law_26 18 rfl rfl)
theorem dL_law_780 : decode cL_law 780 = .ok (.aload_n 0, 1) := dk_42 (dk_at dksL_law_26 19 rfl rfl)
theorem dL_law_781 : decode cL_law 781 = .ok (.iload_n 3, 1) := dk_29 (dk_at dksL_law_26 20 rfl rfl)
theorem dL_law_782 : decode cL_law 782 = .ok (.iconst 1, 1) := dk_4 (dk_at dksL_law_26 21 rfl rfl)
theorem dL_law_783 : decode cL_law 783 = .ok (.iadd, 1) := dk_96 (dk_at dksL_law_26 22 rfl rfl)
theorem dL_law_784 : decode cL_law 784 = .ok (.iaload, 1) := dk_46 (dk_at dksL_law_26 23 rfl rfl)
theorem dL_law_785 : decode cL_law 785 = .ok (.invokevirtual 87, 3) := dk_182 0 87 (dk_at dksL_law_27 0 rfl rfl)
theorem dL_law_788 : decode cL_law 788 = .ok (.if_icmp .eq 752, 3) := dk_159 2 240 (dk_at dksL_law_27 3 rfl rfl)
theorem dL_law_791 : decode cL_law 791 = .ok (.iconst 0, 1) := dk_3 (dk_at dksL_law_27 6 rfl rfl)
theorem dL_law_792 : decode cL_law 792 = .ok (.ireturn, 1) := dk_172 (dk_at dksL_law_27 7 rfl rfl)
theorem dL_law_793 : decode cL_law 793 = .ok (.aload_n 1, 1) := dk_43 (dk_at dksL_law_27 8 rfl rfl)
theorem dL_law_794 : decode cL_law 794 = .ok (.aload_n 0, 1) := dk_42 (dk_at dksL_law_27 9 rfl rfl)
theorem dL_law_795 : decode cL_law 795 = .ok (.iload_n 3, 1) := dk_29 (dk_at dksL_law_27 10 rfl rfl)
theorem dL_law_796 : decode cL_law 796 = .ok (.iconst 1, 1) := dk_4 (dk_at dksL_law_27 11 rfl rfl)
theorem dL_law_797 : decode cL_law 797 = .ok (.iadd, 1) := dk_96 (dk_at dksL_law_27 12 rfl rfl)
theorem dL_law_798 : decode cL_law 798 = .ok (.iaload, 1) := dk_46 (dk_at dksL_law_27 13 rfl rfl)
theorem dL_law_799 : decode cL_law 799 = .ok (.invokevirtual 88, 3) := dk_182 0 88 (dk_at dksL_law_27 14 rfl rfl)
theorem dL_law_802 : decode cL_law 802 = .ok (.aload_n 2, 1) := dk_44 (dk_at dksL_law_27 17 rfl rfl)
theorem dL_law_803 : decode cL_law 803 = .ok (.aload_n 0, 1) := dk_42 (dk_at dksL_law_27 18 rfl rfl)
theorem dL_law_804 : decode cL_law 804 = .ok (.iload_n 3, 1) := dk_29 (dk_at dksL_law_27 19 rfl rfl)
theorem dL_law_805 : decode cL_law 805 = .ok (.iconst 1, 1) := dk_4 (dk_at dksL_law_27 20 rfl rfl)
theorem dL_law_806 : decode cL_law 806 = .ok (.iadd, 1) := dk_96 (dk_at dksL_law_27 21 rfl rfl)
theorem dL_law_807 : decode cL_law 807 = .ok (.iaload, 1) := dk_46 (dk_at dksL_law_27 22 rfl rfl)
theorem dL_law_808 : decode cL_law 808 = .ok (.invokevirtual 91, 3) := dk_182 0 91 (dk_at dksL_law_28 0 rfl rfl)
theorem dL_law_811 : decode cL_law 811 = .ok (.if_icmp .eq 729, 3) := dk_159 2 217 (dk_at dksL_law_28 3 rfl rfl)
theorem dL_law_814 : decode cL_law 814 = .ok (.iconst 0, 1) := dk_3 (dk_at dksL_law_28 6 rfl rfl)
theorem dL_law_815 : decode cL_law 815 = .ok (.ireturn, 1) := dk_172 (dk_at dksL_law_28 7 rfl rfl)
theorem dL_law_816 : decode cL_law 816 = .ok (.aload_n 1, 1) := dk_43 (dk_at dksL_law_28 8 rfl rfl)
theorem dL_law_817 : decode cL_law 817 = .ok (.aload_n 0, 1) := dk_42 (dk_at dksL_law_28 9 rfl rfl)
theorem dL_law_818 : decode cL_law 818 = .ok (.iload_n 3, 1) := dk_29 (dk_at dksL_law_28 10 rfl rfl)
theorem dL_law_819 : decode cL_law 819 = .ok (.iconst 1, 1) := dk_4 (dk_at dksL_law_28 11 rfl rfl)
theorem dL_law_820 : decode cL_law 820 = .ok (.iadd, 1) := dk_96 (dk_at dksL_law_28 12 rfl rfl)
theorem dL_law_821 : decode cL_law 821 = .ok (.iaload, 1) := dk_46 (dk_at dksL_law_28 13 rfl rfl)
theorem dL_law_822 : decode cL_law 822 = .ok (.aload_n 0, 1) := dk_42 (dk_at dksL_law_28 14 rfl rfl)
theorem dL_law_823 : decode cL_law 823 = .ok (.iload_n 3, 1) := dk_29 (dk_at dksL_law_28 15 rfl rfl)
theorem dL_law_824 : decode cL_law 824 = .ok (.iconst 2, 1) := dk_5 (dk_at dksL_law_28 16 rfl rfl)
theorem dL_law_825 : decode cL_law 825 = .ok (.iadd, 1) := dk_96 (dk_at dksL_law_28 17 rfl rfl)
theorem dL_law_826 : decode cL_law 826 = .ok (.iaload, 1) := dk_46 (dk_at dksL_law_28 18 rfl rfl)
theorem dL_law_827 : decode cL_law 827 = .ok (.ifCond .eq 7, 3) := dk_153 0 7 (dk_at dksL_law_28 19 rfl rfl)
theorem dL_law_830 : decode cL_law 830 = .ok (.iconst 1, 1) := dk_4 (dk_at dksL_law_28 22 rfl rfl)
theorem dL_law_831 : decode cL_law 831 = .ok (.goto 4, 3) := dk_167 0 4 (dk_at dksL_law_29 0 rfl rfl)
theorem dL_law_834 : decode cL_law 834 = .ok (.iconst 0, 1) := dk_3 (dk_at dksL_law_29 3 rfl rfl)
theorem dL_law_835 : decode cL_law 835 = .ok (.invokevirtual 92, 3) := dk_182 0 92 (dk_at dksL_law_29 4 rfl rfl)
theorem dL_law_838 : decode cL_law 838 = .ok (.aload_n 2, 1) := dk_44 (dk_at dksL_law_29 7 rfl rfl)
theorem dL_law_839 : decode cL_law 839 = .ok (.aload_n 0, 1) := dk_42 (dk_at dksL_law_29 8 rfl rfl)
theorem dL_law_840 : decode cL_law 840 = .ok (.iload_n 3, 1) := dk_29 (dk_at dksL_law_29 9 rfl rfl)
theorem dL_law_841 : decode cL_law 841 = .ok (.iconst 1, 1) := dk_4 (dk_at dksL_law_29 10 rfl rfl)
theorem dL_law_842 : decode cL_law 842 = .ok (.iadd, 1) := dk_96 (dk_at dksL_law_29 11 rfl rfl)
theorem dL_law_843 : decode cL_law 843 = .ok (.iaload, 1) := dk_46 (dk_at dksL_law_29 12 rfl rfl)
theorem dL_law_844 : decode cL_law 844 = .ok (.aload_n 0, 1) := dk_42 (dk_at dksL_law_29 13 rfl rfl)
theorem dL_law_845 : decode cL_law 845 = .ok (.iload_n 3, 1) := dk_29 (dk_at dksL_law_29 14 rfl rfl)
theorem dL_law_846 : decode cL_law 846 = .ok (.iconst 2, 1) := dk_5 (dk_at dksL_law_29 15 rfl rfl)
theorem dL_law_847 : decode cL_law 847 = .ok (.iadd, 1) := dk_96 (dk_at dksL_law_29 16 rfl rfl)
theorem dL_law_848 : decode cL_law 848 = .ok (.iaload, 1) := dk_46 (dk_at dksL_law_29 17 rfl rfl)
theorem dL_law_849 : decode cL_law 849 = .ok (.ifCond .eq 7, 3) := dk_153 0 7 (dk_at dksL_law_29 18 rfl rfl)
theorem dL_law_852 : decode cL_law 852 = .ok (.iconst 1, 1) := dk_4 (dk_at dksL_law_29 21 rfl rfl)
theorem dL_law_853 : decode cL_law 853 = .ok (.goto 4, 3) := dk_167 0 4 (dk_at dksL_law_30 0 rfl rfl)
theorem dL_law_856 : decode cL_law 856 = .ok (.iconst 0, 1) := dk_3 (dk_at dksL_law_30 3 rfl rfl)
theorem dL_law_857 : decode cL_law 857 = .ok (.invokevirtual 96, 3) := dk_182 0 96 (dk_at dksL_law_30 4 rfl rfl)
theorem dL_law_860 : decode cL_law 860 = .ok (.if_icmp .eq 680, 3) := dk_159 2 168 (dk_at dksL_law_30 7 rfl rfl)
theorem dL_law_863 : decode cL_law 863 = .ok (.iconst 0, 1) := dk_3 (dk_at dksL_law_30 10 rfl rfl)
theorem dL_law_864 : decode cL_law 864 = .ok (.ireturn, 1) := dk_172 (dk_at dksL_law_30 11 rfl rfl)
theorem dL_law_865 : decode cL_law 865 = .ok (.aload_n 1, 1) := dk_43 (dk_at dksL_law_30 12 rfl rfl)
theorem dL_law_866 : decode cL_law 866 = .ok (.aload_n 0, 1) := dk_42 (dk_at dksL_law_30 13 rfl rfl)
theorem dL_law_867 : decode cL_law 867 = .ok (.iload_n 3, 1) := dk_29 (dk_at dksL_law_30 14 rfl rfl)
theorem dL_law_868 : decode cL_law 868 = .ok (.iconst 1, 1) := dk_4 (dk_at dksL_law_30 15 rfl rfl)
theorem dL_law_869 : decode cL_law 869 = .ok (.iadd, 1) := dk_96 (dk_at dksL_law_30 16 rfl rfl)
theorem dL_law_870 : decode cL_law 870 = .ok (.iaload, 1) := dk_46 (dk_at dksL_law_30 17 rfl rfl)
theorem dL_law_871 : decode cL_law 871 = .ok (.aload_n 0, 1) := dk_42 (dk_at dksL_law_30 18 rfl rfl)
theorem dL_law_872 : decode cL_law 872 = .ok (.iload_n 3, 1) := dk_29 (dk_at dksL_law_30 19 rfl rfl)
theorem dL_law_873 : decode cL_law 873 = .ok (.iconst 2, 1) := dk_5 (dk_at dksL_law_30 20 rfl rfl)
theorem dL_law_874 : decode cL_law 874 = .ok (.iadd, 1) := dk_96 (dk_at dksL_law_30 21 rfl rfl)
theorem dL_law_875 : decode cL_law 875 = .ok (.iaload, 1) := dk_46 (dk_at dksL_law_30 22 rfl rfl)
theorem dL_law_876 : decode cL_law 876 = .ok (.invokevirtual 97, 3) := dk_182 0 97 (dk_at dksL_law_31 0 rfl rfl)
theorem dL_law_879 : decode cL_law 879 = .ok (.aload_n 2, 1) := dk_44 (dk_at dksL_law_31 3 rfl rfl)
theorem dL_law_880 : decode cL_law 880 = .ok (.aload_n 0, 1) := dk_42 (dk_at dksL_law_31 4 rfl rfl)
theorem dL_law_881 : decode cL_law 881 = .ok (.iload_n 3, 1) := dk_29 (dk_at dksL_law_31 5 rfl rfl)
theorem dL_law_882 : decode cL_law 882 = .ok (.iconst 1, 1) := dk_4 (dk_at dksL_law_31 6 rfl rfl)
theorem dL_law_883 : decode cL_law 883 = .ok (.iadd, 1) := dk_96 (dk_at dksL_law_31 7 rfl rfl)
theorem dL_law_884 : decode cL_law 884 = .ok (.iaload, 1) := dk_46 (dk_at dksL_law_31 8 rfl rfl)
theorem dL_law_885 : decode cL_law 885 = .ok (.aload_n 0, 1) := dk_42 (dk_at dksL_law_31 9 rfl rfl)
theorem dL_law_886 : decode cL_law 886 = .ok (.iload_n 3, 1) := dk_29 (dk_at dksL_law_31 10 rfl rfl)
theorem dL_law_887 : decode cL_law 887 = .ok (.iconst 2, 1) := dk_5 (dk_at dksL_law_31 11 rfl rfl)
theorem dL_law_888 : decode cL_law 888 = .ok (.iadd, 1) := dk_96 (dk_at dksL_law_31 12 rfl rfl)
theorem dL_law_889 : decode cL_law 889 = .ok (.iaload, 1) := dk_46 (dk_at dksL_law_31 13 rfl rfl)
theorem dL_law_890 : decode cL_law 890 = .ok (.invokevirtual 101, 3) := dk_182 0 101 (dk_at dksL_law_31 14 rfl rfl)
theorem dL_law_893 : decode cL_law 893 = .ok (.if_icmp .eq 647, 3) := dk_159 2 135 (dk_at dksL_law_31 17 rfl rfl)
theorem dL_law_896 : decode cL_law 896 = .ok (.iconst 0, 1) := dk_3 (dk_at dksL_law_31 20 rfl rfl)
theorem dL_law_897 : decode cL_law 897 = .ok (.ireturn, 1) := dk_172 (dk_at dksL_law_31 21 rfl rfl)
theorem dL_law_898 : decode cL_law 898 = .ok (.aload_n 1, 1) := dk_43 (dk_at dksL_law_31 22 rfl rfl)
theorem dL_law_899 : decode cL_law 899 = .ok (.aload_n 0, 1) := dk_42 (dk_at dksL_law_31 23 rfl rfl)
theorem dL_law_900 : decode cL_law 900 = .ok (.iload_n 3, 1) := dk_29 (dk_at dksL_law_32 0 rfl rfl)
theorem dL_law_901 : decode cL_law 901 = .ok (.iconst 1, 1) := dk_4 (dk_at dksL_law_32 1 rfl rfl)
theorem dL_law_902 : decode cL_law 902 = .ok (.iadd, 1) := dk_96 (dk_at dksL_law_32 2 rfl rfl)
theorem dL_law_903 : decode cL_law 903 = .ok (.iaload, 1) := dk_46 (dk_at dksL_law_32 3 rfl rfl)
theorem dL_law_904 : decode cL_law 904 = .ok (.invokevirtual 102, 3) := dk_182 0 102 (dk_at dksL_law_32 4 rfl rfl)
theorem dL_law_907 : decode cL_law 907 = .ok (.aload_n 2, 1) := dk_44 (dk_at dksL_law_32 7 rfl rfl)
theorem dL_law_908 : decode cL_law 908 = .ok (.aload_n 0, 1) := dk_42 (dk_at dksL_law_32 8 rfl rfl)
theorem dL_law_909 : decode cL_law 909 = .ok (.iload_n 3, 1) := dk_29 (dk_at dksL_law_32 9 rfl rfl)
theorem dL_law_910 : decode cL_law 910 = .ok (.iconst 1, 1) := dk_4 (dk_at dksL_law_32 10 rfl rfl)
theorem dL_law_911 : decode cL_law 911 = .ok (.iadd, 1) := dk_96 (dk_at dksL_law_32 11 rfl rfl)
theorem dL_law_912 : decode cL_law 912 = .ok (.iaload, 1) := dk_46 (dk_at dksL_law_32 12 rfl rfl)
theorem dL_law_913 : decode cL_law 913 = .ok (.invokevirtual 105, 3) := dk_182 0 105 (dk_at dksL_law_32 13 rfl rfl)
theorem dL_law_916 : decode cL_law 916 = .ok (.if_icmp .eq 624, 3) := dk_159 2 112 (dk_at dksL_law_32 16 rfl rfl)
theorem dL_law_919 : decode cL_law 919 = .ok (.iconst 0, 1) := dk_3 (dk_at dksL_law_32 19 rfl rfl)
theorem dL_law_920 : decode cL_law 920 = .ok (.ireturn, 1) := dk_172 (dk_at dksL_law_32 20 rfl rfl)
theorem dL_law_921 : decode cL_law 921 = .ok (.aload_n 1, 1) := dk_43 (dk_at dksL_law_32 21 rfl rfl)
theorem dL_law_922 : decode cL_law 922 = .ok (.invokevirtual 106, 3) := dk_182 0 106 (dk_at dksL_law_33 0 rfl rfl)
theorem dL_law_925 : decode cL_law 925 = .ok (.aload_n 2, 1) := dk_44 (dk_at dksL_law_33 3 rfl rfl)
theorem dL_law_926 : decode cL_law 926 = .ok (.invokevirtual 110, 3) := dk_182 0 110 (dk_at dksL_law_33 4 rfl rfl)
theorem dL_law_929 : decode cL_law 929 = .ok (.if_icmp .eq 611, 3) := dk_159 2 99 (dk_at dksL_law_33 7 rfl rfl)
theorem dL_law_932 : decode cL_law 932 = .ok (.iconst 0, 1) := dk_3 (dk_at dksL_law_33 10 rfl rfl)
theorem dL_law_933 : decode cL_law 933 = .ok (.ireturn, 1) := dk_172 (dk_at dksL_law_33 11 rfl rfl)
theorem dL_law_934 : decode cL_law 934 = .ok (.aload_n 1, 1) := dk_43 (dk_at dksL_law_33 12 rfl rfl)
theorem dL_law_935 : decode cL_law 935 = .ok (.aload_n 0, 1) := dk_42 (dk_at dksL_law_33 13 rfl rfl)
theorem dL_law_936 : decode cL_law 936 = .ok (.iload_n 3, 1) := dk_29 (dk_at dksL_law_33 14 rfl rfl)
theorem dL_law_937 : decode cL_law 937 = .ok (.iconst 1, 1) := dk_4 (dk_at dksL_law_33 15 rfl rfl)
theorem dL_law_938 : decode cL_law 938 = .ok (.iadd, 1) := dk_96 (dk_at dksL_law_33 16 rfl rfl)
theorem dL_law_939 : decode cL_law 939 = .ok (.iaload, 1) := dk_46 (dk_at dksL_law_33 17 rfl rfl)
theorem dL_law_940 : decode cL_law 940 = .ok (.invokevirtual 111, 3) := dk_182 0 111 (dk_at dksL_law_33 18 rfl rfl)
theorem dL_law_943 : decode cL_law 943 = .ok (.aload_n 2, 1) := dk_44 (dk_at dksL_law_33 21 rfl rfl)
theorem dL_law_944 : decode cL_law 944 = .ok (.aload_n 0, 1) := dk_42 (dk_at dksL_law_33 22 rfl rfl)
theorem dL_law_945 : decode cL_law 945 = .ok (.iload_n 3, 1) := dk_29 (dk_at dksL_law_33 23 rfl rfl)
theorem dL_law_946 : decode cL_law 946 = .ok (.iconst 1, 1) := dk_4 (dk_at dksL_law_34 0 rfl rfl)
theorem dL_law_947 : decode cL_law 947 = .ok (.iadd, 1) := dk_96 (dk_at dksL_law_34 1 rfl rfl)
theorem dL_law_948 : decode cL_law 948 = .ok (.iaload, 1) := dk_46 (dk_at dksL_law_34 2 rfl rfl)
theorem dL_law_949 : decode cL_law 949 = .ok (.invokevirtual 114, 3) := dk_182 0 114 (dk_at dksL_law_34 3 rfl rfl)
theorem dL_law_952 : decode cL_law 952 = .ok (.if_icmp .eq 588, 3) := dk_159 2 76 (dk_at dksL_law_34 6 rfl rfl)
theorem dL_law_955 : decode cL_law 955 = .ok (.iconst 0, 1) := dk_3 (dk_at dksL_law_34 9 rfl rfl)
theorem dL_law_956 : decode cL_law 956 = .ok (.ireturn, 1) := dk_172 (dk_at dksL_law_34 10 rfl rfl)
theorem dL_law_957 : decode cL_law 957 = .ok (.aload_n 1, 1) := dk_43 (dk_at dksL_law_34 11 rfl rfl)
theorem dL_law_958 : decode cL_law 958 = .ok (.aload_n 0, 1) := dk_42 (dk_at dksL_law_34 12 rfl rfl)
theorem dL_law_959 : decode cL_law 959 = .ok (.iload_n 3, 1) := dk_29 (dk_at dksL_law_34 13 rfl rfl)
theorem dL_law_960 : decode cL_law 960 = .ok (.iconst 1, 1) := dk_4 (dk_at dksL_law_34 14 rfl rfl)
theorem dL_law_961 : decode cL_law 961 = .ok (.iadd, 1) := dk_96 (dk_at dksL_law_34 15 rfl rfl)
theorem dL_law_962 : decode cL_law 962 = .ok (.iaload, 1) := dk_46 (dk_at dksL_law_34 16 rfl rfl)
theorem dL_law_963 : decode cL_law 963 = .ok (.aload_n 0, 1) := dk_42 (dk_at dksL_law_34 17 rfl rfl)
theorem dL_law_964 : decode cL_law 964 = .ok (.iload_n 3, 1) := dk_29 (dk_at dksL_law_34 18 rfl rfl)
theorem dL_law_965 : decode cL_law 965 = .ok (.iconst 2, 1) := dk_5 (dk_at dksL_law_34 19 rfl rfl)
theorem dL_law_966 : decode cL_law 966 = .ok (.iadd, 1) := dk_96 (dk_at dksL_law_34 20 rfl rfl)
theorem dL_law_967 : decode cL_law 967 = .ok (.iaload, 1) := dk_46 (dk_at dksL_law_34 21 rfl rfl)
theorem dL_law_968 : decode cL_law 968 = .ok (.invokevirtual 115, 3) := dk_182 0 115 (dk_at dksL_law_35 0 rfl rfl)
theorem dL_law_971 : decode cL_law 971 = .ok (.aload_n 2, 1) := dk_44 (dk_at dksL_law_35 3 rfl rfl)
theorem dL_law_972 : decode cL_law 972 = .ok (.aload_n 0, 1) := dk_42 (dk_at dksL_law_35 4 rfl rfl)
theorem dL_law_973 : decode cL_law 973 = .ok (.iload_n 3, 1) := dk_29 (dk_at dksL_law_35 5 rfl rfl)
theorem dL_law_974 : decode cL_law 974 = .ok (.iconst 1, 1) := dk_4 (dk_at dksL_law_35 6 rfl rfl)
theorem dL_law_975 : decode cL_law 975 = .ok (.iadd, 1) := dk_96 (dk_at dksL_law_35 7 rfl rfl)
theorem dL_law_976 : decode cL_law 976 = .ok (.iaload, 1) := dk_46 (dk_at dksL_law_35 8 rfl rfl)
theorem dL_law_977 : decode cL_law 977 = .ok (.aload_n 0, 1) := dk_42 (dk_at dksL_law_35 9 rfl rfl)
theorem dL_law_978 : decode cL_law 978 = .ok (.iload_n 3, 1) := dk_29 (dk_at dksL_law_35 10 rfl rfl)
theorem dL_law_979 : decode cL_law 979 = .ok (.iconst 2, 1) := dk_5 (dk_at dksL_law_35 11 rfl rfl)
theorem dL_law_980 : decode cL_law 980 = .ok (.iadd, 1) := dk_96 (dk_at dksL_law_35 12 rfl rfl)
theorem dL_law_981 : decode cL_law 981 = .ok (.iaload, 1) := dk_46 (dk_at dksL_law_35 13 rfl rfl)
theorem dL_law_982 : decode cL_law 982 = .ok (.invokevirtual 118, 3) := dk_182 0 118 (dk_at dksL_law_35 14 rfl rfl)
theorem dL_law_985 : decode cL_law 985 = .ok (.if_icmp .eq 555, 3) := dk_159 2 43 (dk_at dksL_law_35 17 rfl rfl)
theorem dL_law_988 : decode cL_law 988 = .ok (.iconst 0, 1) := dk_3 (dk_at dksL_law_35 20 rfl rfl)
theorem dL_law_989 : decode cL_law 989 = .ok (.ireturn, 1) := dk_172 (dk_at dksL_law_35 21 rfl rfl)
theorem dL_law_990 : decode cL_law 990 = .ok (.aload_n 1, 1) := dk_43 (dk_at dksL_law_35 22 rfl rfl)
theorem dL_law_991 : decode cL_law 991 = .ok (.aload_n 0, 1) := dk_42 (dk_at dksL_law_35 23 rfl rfl)
theorem dL_law_992 : decode cL_law 992 = .ok (.iload_n 3, 1) := dk_29 (dk_at dksL_law_36 0 rfl rfl)
theorem dL_law_993 : decode cL_law 993 = .ok (.iconst 1, 1) := dk_4 (dk_at dksL_law_36 1 rfl rfl)
theorem dL_law_994 : decode cL_law 994 = .ok (.iadd, 1) := dk_96 (dk_at dksL_law_36 2 rfl rfl)
theorem dL_law_995 : decode cL_law 995 = .ok (.iaload, 1) := dk_46 (dk_at dksL_law_36 3 rfl rfl)
theorem dL_law_996 : decode cL_law 996 = .ok (.invokevirtual 119, 3) := dk_182 0 119 (dk_at dksL_law_36 4 rfl rfl)
theorem dL_law_999 : decode cL_law 999 = .ok (.aload_n 2, 1) := dk_44 (dk_at dksL_law_36 7 rfl rfl)
theorem dL_law_1000 : decode cL_law 1000 = .ok (.aload_n 0, 1) := dk_42 (dk_at dksL_law_36 8 rfl rfl)
theorem dL_law_1001 : decode cL_law 1001 = .ok (.iload_n 3, 1) := dk_29 (dk_at dksL_law_36 9 rfl rfl)
theorem dL_law_1002 : decode cL_law 1002 = .ok (.iconst 1, 1) := dk_4 (dk_at dksL_law_36 10 rfl rfl)
theorem dL_law_1003 : decode cL_law 1003 = .ok (.iadd, 1) := dk_96 (dk_at dksL_law_36 11 rfl rfl)
theorem dL_law_1004 : decode cL_law 1004 = .ok (.iaload, 1) := dk_46 (dk_at dksL_law_36 12 rfl rfl)
theorem dL_law_1005 : decode cL_law 1005 = .ok (.invokevirtual 122, 3) := dk_182 0 122 (dk_at dksL_law_36 13 rfl rfl)
theorem dL_law_1008 : decode cL_law 1008 = .ok (.if_icmp .eq 532, 3) := dk_159 2 20 (dk_at dksL_law_36 16 rfl rfl)
theorem dL_law_1011 : decode cL_law 1011 = .ok (.iconst 0, 1) := dk_3 (dk_at dksL_law_36 19 rfl rfl)
theorem dL_law_1012 : decode cL_law 1012 = .ok (.ireturn, 1) := dk_172 (dk_at dksL_law_36 20 rfl rfl)
theorem dL_law_1013 : decode cL_law 1013 = .ok (.aload_n 1, 1) := dk_43 (dk_at dksL_law_36 21 rfl rfl)
theorem dL_law_1014 : decode cL_law 1014 = .ok (.aload_n 0, 1) := dk_42 (dk_at dksL_law_36 22 rfl rfl)
theorem dL_law_1015 : decode cL_law 1015 = .ok (.iload_n 3, 1) := dk_29 (dk_at dksL_law_36 23 rfl rfl)
theorem dL_law_1016 : decode cL_law 1016 = .ok (.iconst 1, 1) := dk_4 (dk_at dksL_law_37 0 rfl rfl)
theorem dL_law_1017 : decode cL_law 1017 = .ok (.iadd, 1) := dk_96 (dk_at dksL_law_37 1 rfl rfl)
theorem dL_law_1018 : decode cL_law 1018 = .ok (.iaload, 1) := dk_46 (dk_at dksL_law_37 2 rfl rfl)
theorem dL_law_1019 : decode cL_law 1019 = .ok (.aload_n 0, 1) := dk_42 (dk_at dksL_law_37 3 rfl rfl)
theorem dL_law_1020 : decode cL_law 1020 = .ok (.iload_n 3, 1) := dk_29 (dk_at dksL_law_37 4 rfl rfl)
theorem dL_law_1021 : decode cL_law 1021 = .ok (.iconst 2, 1) := dk_5 (dk_at dksL_law_37 5 rfl rfl)
theorem dL_law_1022 : decode cL_law 1022 = .ok (.iadd, 1) := dk_96 (dk_at dksL_law_37 6 rfl rfl)
theorem dL_law_1023 : decode cL_law 1023 = .ok (.iaload, 1) := dk_46 (dk_at dksL_law_37 7 rfl rfl)
theorem dL_law_1024 : decode cL_law 1024 = .ok (.aload_n 0, 1) := dk_42 (dk_at dksL_law_37 8 rfl rfl)
theorem dL_law_1025 : decode cL_law 1025 = .ok (.iload_n 3, 1) := dk_29 (dk_at dksL_law_37 9 rfl rfl)
theorem dL_law_1026 : decode cL_law 1026 = .ok (.iconst 3, 1) := dk_6 (dk_at dksL_law_37 10 rfl rfl)
theorem dL_law_1027 : decode cL_law 1027 = .ok (.iadd, 1) := dk_96 (dk_at dksL_law_37 11 rfl rfl)
theorem dL_law_1028 : decode cL_law 1028 = .ok (.iaload, 1) := dk_46 (dk_at dksL_law_37 12 rfl rfl)
theorem dL_law_1029 : decode cL_law 1029 = .ok (.ifCond .eq 7, 3) := dk_153 0 7 (dk_at dksL_law_37 13 rfl rfl)
theorem dL_law_1032 : decode cL_law 1032 = .ok (.iconst 1, 1) := dk_4 (dk_at dksL_law_37 16 rfl rfl)
theorem dL_law_1033 : decode cL_law 1033 = .ok (.goto 4, 3) := dk_167 0 4 (dk_at dksL_law_37 17 rfl rfl)
theorem dL_law_1036 : decode cL_law 1036 = .ok (.iconst 0, 1) := dk_3 (dk_at dksL_law_37 20 rfl rfl)
theorem dL_law_1037 : decode cL_law 1037 = .ok (.invokevirtual 123, 3) := dk_182 0 123 (dk_at dksL_law_37 21 rfl rfl)
theorem dL_law_1040 : decode cL_law 1040 = .ok (.aload_n 2, 1) := dk_44 (dk_at dksL_law_38 0 rfl rfl)
theorem dL_law_1041 : decode cL_law 1041 = .ok (.aload_n 0, 1) := dk_42 (dk_at dksL_law_38 1 rfl rfl)
theorem dL_law_1042 : decode cL_law 1042 = .ok (.iload_n 3, 1) := dk_29 (dk_at dksL_law_38 2 rfl rfl)
theorem dL_law_1043 : decode cL_law 1043 = .ok (.iconst 1, 1) := dk_4 (dk_at dksL_law_38 3 rfl rfl)
theorem dL_law_1044 : decode cL_law 1044 = .ok (.iadd, 1) := dk_96 (dk_at dksL_law_38 4 rfl rfl)
theorem dL_law_1045 : decode cL_law 1045 = .ok (.iaload, 1) := dk_46 (dk_at dksL_law_38 5 rfl rfl)
theorem dL_law_1046 : decode cL_law 1046 = .ok (.aload_n 0, 1) := dk_42 (dk_at dksL_law_38 6 rfl rfl)
theorem dL_law_1047 : decode cL_law 1047 = .ok (.iload_n 3, 1) := dk_29 (dk_at dksL_law_38 7 rfl rfl)
theorem dL_law_1048 : decode cL_law 1048 = .ok (.iconst 2, 1) := dk_5 (dk_at dksL_law_38 8 rfl rfl)
theorem dL_law_1049 : decode cL_law 1049 = .ok (.iadd, 1) := dk_96 (dk_at dksL_law_38 9 rfl rfl)
theorem dL_law_1050 : decode cL_law 1050 = .ok (.iaload, 1) := dk_46 (dk_at dksL_law_38 10 rfl rfl)
theorem dL_law_1051 : decode cL_law 1051 = .ok (.aload_n 0, 1) := dk_42 (dk_at dksL_law_38 11 rfl rfl)
theorem dL_law_1052 : decode cL_law 1052 = .ok (.iload_n 3, 1) := dk_29 (dk_at dksL_law_38 12 rfl rfl)
theorem dL_law_1053 : decode cL_law 1053 = .ok (.iconst 3, 1) := dk_6 (dk_at dksL_law_38 13 rfl rfl)
theorem dL_law_1054 : decode cL_law 1054 = .ok (.iadd, 1) := dk_96 (dk_at dksL_law_38 14 rfl rfl)
theorem dL_law_1055 : decode cL_law 1055 = .ok (.iaload, 1) := dk_46 (dk_at dksL_law_38 15 rfl rfl)
theorem dL_law_1056 : decode cL_law 1056 = .ok (.ifCond .eq 7, 3) := dk_153 0 7 (dk_at dksL_law_38 16 rfl rfl)
theorem dL_law_1059 : decode cL_law 1059 = .ok (.iconst 1, 1) := dk_4 (dk_at dksL_law_38 19 rfl rfl)
theorem dL_law_1060 : decode cL_law 1060 = .ok (.goto 4, 3) := dk_167 0 4 (dk_at dksL_law_38 20 rfl rfl)
theorem dL_law_1063 : decode cL_law 1063 = .ok (.iconst 0, 1) := dk_3 (dk_at dksL_law_38 23 rfl rfl)
theorem dL_law_1064 : decode cL_law 1064 = .ok (.invokevirtual 126, 3) := dk_182 0 126 (dk_at dksL_law_39 0 rfl rfl)
theorem dL_law_1067 : decode cL_law 1067 = .ok (.if_icmp .eq 473, 3) := dk_159 1 217 (dk_at dksL_law_39 3 rfl rfl)
theorem dL_law_1070 : decode cL_law 1070 = .ok (.iconst 0, 1) := dk_3 (dk_at dksL_law_39 6 rfl rfl)
theorem dL_law_1071 : decode cL_law 1071 = .ok (.ireturn, 1) := dk_172 (dk_at dksL_law_39 7 rfl rfl)
theorem dL_law_1072 : decode cL_law 1072 = .ok (.aload_n 1, 1) := dk_43 (dk_at dksL_law_39 8 rfl rfl)
theorem dL_law_1073 : decode cL_law 1073 = .ok (.aload_n 0, 1) := dk_42 (dk_at dksL_law_39 9 rfl rfl)
theorem dL_law_1074 : decode cL_law 1074 = .ok (.iload_n 3, 1) := dk_29 (dk_at dksL_law_39 10 rfl rfl)
theorem dL_law_1075 : decode cL_law 1075 = .ok (.iconst 1, 1) := dk_4 (dk_at dksL_law_39 11 rfl rfl)
theorem dL_law_1076 : decode cL_law 1076 = .ok (.iadd, 1) := dk_96 (dk_at dksL_law_39 12 rfl rfl)
theorem dL_law_1077 : decode cL_law 1077 = .ok (.iaload, 1) := dk_46 (dk_at dksL_law_39 13 rfl rfl)
theorem dL_law_1078 : decode cL_law 1078 = .ok (.aload_n 0, 1) := dk_42 (dk_at dksL_law_39 14 rfl rfl)
theorem dL_law_1079 : decode cL_law 1079 = .ok (.iload_n 3, 1) := dk_29 (dk_at dksL_law_39 15 rfl rfl)
theorem dL_law_1080 : decode cL_law 1080 = .ok (.iconst 2, 1) := dk_5 (dk_at dksL_law_39 16 rfl rfl)
theorem dL_law_1081 : decode cL_law 1081 = .ok (.iadd, 1) := dk_96 (dk_at dksL_law_39 17 rfl rfl)
theorem dL_law_1082 : decode cL_law 1082 = .ok (.iaload, 1) := dk_46 (dk_at dksL_law_39 18 rfl rfl)
theorem dL_law_1083 : decode cL_law 1083 = .ok (.aload_n 0, 1) := dk_42 (dk_at dksL_law_39 19 rfl rfl)
theorem dL_law_1084 : decode cL_law 1084 = .ok (.iload_n 3, 1) := dk_29 (dk_at dksL_law_39 20 rfl rfl)
theorem dL_law_1085 : decode cL_law 1085 = .ok (.iconst 3, 1) := dk_6 (dk_at dksL_law_39 21 rfl rfl)
theorem dL_law_1086 : decode cL_law 1086 = .ok (.iadd, 1) := dk_96 (dk_at dksL_law_39 22 rfl rfl)
theorem dL_law_1087 : decode cL_law 1087 = .ok (.iaload, 1) := dk_46 (dk_at dksL_law_39 23 rfl rfl)
theorem dL_law_1088 : decode cL_law 1088 = .ok (.invokevirtual 127, 3) := dk_182 0 127 (dk_at dksL_law_40 0 rfl rfl)
theorem dL_law_1091 : decode cL_law 1091 = .ok (.aload_n 2, 1) := dk_44 (dk_at dksL_law_40 3 rfl rfl)
theorem dL_law_1092 : decode cL_law 1092 = .ok (.aload_n 0, 1) := dk_42 (dk_at dksL_law_40 4 rfl rfl)
theorem dL_law_1093 : decode cL_law 1093 = .ok (.iload_n 3, 1) := dk_29 (dk_at dksL_law_40 5 rfl rfl)
theorem dL_law_1094 : decode cL_law 1094 = .ok (.iconst 1, 1) := dk_4 (dk_at dksL_law_40 6 rfl rfl)
theorem dL_law_1095 : decode cL_law 1095 = .ok (.iadd, 1) := dk_96 (dk_at dksL_law_40 7 rfl rfl)
theorem dL_law_1096 : decode cL_law 1096 = .ok (.iaload, 1) := dk_46 (dk_at dksL_law_40 8 rfl rfl)
theorem dL_law_1097 : decode cL_law 1097 = .ok (.aload_n 0, 1) := dk_42 (dk_at dksL_law_40 9 rfl rfl)
theorem dL_law_1098 : decode cL_law 1098 = .ok (.iload_n 3, 1) := dk_29 (dk_at dksL_law_40 10 rfl rfl)
theorem dL_law_1099 : decode cL_law 1099 = .ok (.iconst 2, 1) := dk_5 (dk_at dksL_law_40 11 rfl rfl)
theorem dL_law_1100 : decode cL_law 1100 = .ok (.iadd, 1) := dk_96 (dk_at dksL_law_40 12 rfl rfl)
theorem dL_law_1101 : decode cL_law 1101 = .ok (.iaload, 1) := dk_46 (dk_at dksL_law_40 13 rfl rfl)
theorem dL_law_1102 : decode cL_law 1102 = .ok (.aload_n 0, 1) := dk_42 (dk_at dksL_law_40 14 rfl rfl)
theorem dL_law_1103 : decode cL_law 1103 = .ok (.iload_n 3, 1) := dk_29 (dk_at dksL_law_40 15 rfl rfl)
theorem dL_law_1104 : decode cL_law 1104 = .ok (.iconst 3, 1) := dk_6 (dk_at dksL_law_40 16 rfl rfl)
theorem dL_law_1105 : decode cL_law 1105 = .ok (.iadd, 1) := dk_96 (dk_at dksL_law_40 17 rfl rfl)
theorem dL_law_1106 : decode cL_law 1106 = .ok (.iaload, 1) := dk_46 (dk_at dksL_law_40 18 rfl rfl)
theorem dL_law_1107 : decode cL_law 1107 = .ok (.invokevirtual 130, 3) := dk_182 0 130 (dk_at dksL_law_40 19 rfl rfl)
theorem dL_law_1110 : decode cL_law 1110 = .ok (.if_icmp .eq 430, 3) := dk_159 1 174 (dk_at dksL_law_41 0 rfl rfl)
theorem dL_law_1113 : decode cL_law 1113 = .ok (.iconst 0, 1) := dk_3 (dk_at dksL_law_41 3 rfl rfl)
theorem dL_law_1114 : decode cL_law 1114 = .ok (.ireturn, 1) := dk_172 (dk_at dksL_law_41 4 rfl rfl)
theorem dL_law_1115 : decode cL_law 1115 = .ok (.aload_n 1, 1) := dk_43 (dk_at dksL_law_41 5 rfl rfl)
theorem dL_law_1116 : decode cL_law 1116 = .ok (.aload_n 0, 1) := dk_42 (dk_at dksL_law_41 6 rfl rfl)
theorem dL_law_1117 : decode cL_law 1117 = .ok (.iload_n 3, 1) := dk_29 (dk_at dksL_law_41 7 rfl rfl)
theorem dL_law_1118 : decode cL_law 1118 = .ok (.iconst 1, 1) := dk_4 (dk_at dksL_law_41 8 rfl rfl)
theorem dL_law_1119 : decode cL_law 1119 = .ok (.iadd, 1) := dk_96 (dk_at dksL_law_41 9 rfl rfl)
theorem dL_law_1120 : decode cL_law 1120 = .ok (.iaload, 1) := dk_46 (dk_at dksL_law_41 10 rfl rfl)
theorem dL_law_1121 : decode cL_law 1121 = .ok (.aload_n 0, 1) := dk_42 (dk_at dksL_law_41 11 rfl rfl)
theorem dL_law_1122 : decode cL_law 1122 = .ok (.iload_n 3, 1) := dk_29 (dk_at dksL_law_41 12 rfl rfl)
theorem dL_law_1123 : decode cL_law 1123 = .ok (.iconst 2, 1) := dk_5 (dk_at dksL_law_41 13 rfl rfl)
theorem dL_law_1124 : decode cL_law 1124 = .ok (.iadd, 1) := dk_96 (dk_at dksL_law_41 14 rfl rfl)
theorem dL_law_1125 : decode cL_law 1125 = .ok (.iaload, 1) := dk_46 (dk_at dksL_law_41 15 rfl rfl)
theorem dL_law_1126 : decode cL_law 1126 = .ok (.invokevirtual 131, 3) := dk_182 0 131 (dk_at dksL_law_41 16 rfl rfl)
theorem dL_law_1129 : decode cL_law 1129 = .ok (.aload_n 2, 1) := dk_44 (dk_at dksL_law_41 19 rfl rfl)
theorem dL_law_1130 : decode cL_law 1130 = .ok (.aload_n 0, 1) := dk_42 (dk_at dksL_law_41 20 rfl rfl)
theorem dL_law_1131 : decode cL_law 1131 = .ok (.iload_n 3, 1) := dk_29 (dk_at dksL_law_41 21 rfl rfl)
theorem dL_law_1132 : decode cL_law 1132 = .ok (.iconst 1, 1) := dk_4 (dk_at dksL_law_41 22 rfl rfl)
theorem dL_law_1133 : decode cL_law 1133 = .ok (.iadd, 1) := dk_96 (dk_at dksL_law_41 23 rfl rfl)
theorem dL_law_1134 : decode cL_law 1134 = .ok (.iaload, 1) := dk_46 (dk_at dksL_law_42 0 rfl rfl)
theorem dL_law_1135 : decode cL_law 1135 = .ok (.aload_n 0, 1) := dk_42 (dk_at dksL_law_42 1 rfl rfl)
theorem dL_law_1136 : decode cL_law 1136 = .ok (.iload_n 3, 1) := dk_29 (dk_at dksL_law_42 2 rfl rfl)
theorem dL_law_1137 : decode cL_law 1137 = .ok (.iconst 2, 1) := dk_5 (dk_at dksL_law_42 3 rfl rfl)
theorem dL_law_1138 : decode cL_law 1138 = .ok (.iadd, 1) := dk_96 (dk_at dksL_law_42 4 rfl rfl)
theorem dL_law_1139 : decode cL_law 1139 = .ok (.iaload, 1) := dk_46 (dk_at dksL_law_42 5 rfl rfl)
theorem dL_law_1140 : decode cL_law 1140 = .ok (.invokevirtual 134, 3) := dk_182 0 134 (dk_at dksL_law_42 6 rfl rfl)
theorem dL_law_1143 : decode cL_law 1143 = .ok (.if_icmp .eq 397, 3) := dk_159 1 141 (dk_at dksL_law_42 9 rfl rfl)
theorem dL_law_1146 : decode cL_law 1146 = .ok (.iconst 0, 1) := dk_3 (dk_at dksL_law_42 12 rfl rfl)
theorem dL_law_1147 : decode cL_law 1147 = .ok (.ireturn, 1) := dk_172 (dk_at dksL_law_42 13 rfl rfl)
theorem dL_law_1148 : decode cL_law 1148 = .ok (.aload_n 1, 1) := dk_43 (dk_at dksL_law_42 14 rfl rfl)
theorem dL_law_1149 : decode cL_law 1149 = .ok (.aload_n 0, 1) := dk_42 (dk_at dksL_law_42 15 rfl rfl)
theorem dL_law_1150 : decode cL_law 1150 = .ok (.iload_n 3, 1) := dk_29 (dk_at dksL_law_42 16 rfl rfl)
theorem dL_law_1151 : decode cL_law 1151 = .ok (.iconst 1, 1) := dk_4 (dk_at dksL_law_42 17 rfl rfl)
theorem dL_law_1152 : decode cL_law 1152 = .ok (.iadd, 1) := dk_96 (dk_at dksL_law_42 18 rfl rfl)
theorem dL_law_1153 : decode cL_law 1153 = .ok (.iaload, 1) := dk_46 (dk_at dksL_law_42 19 rfl rfl)
theorem dL_law_1154 : decode cL_law 1154 = .ok (.aload_n 0, 1) := dk_42 (dk_at dksL_law_42 20 rfl rfl)
theorem dL_law_1155 : decode cL_law 1155 = .ok (.iload_n 3, 1) := dk_29 (dk_at dksL_law_42 21 rfl rfl)
theorem dL_law_1156 : decode cL_law 1156 = .ok (.iconst 2, 1) := dk_5 (dk_at dksL_law_42 22 rfl rfl)
theorem dL_law_1157 : decode cL_law 1157 = .ok (.iadd, 1) := dk_96 (dk_at dksL_law_42 23 rfl rfl)
theorem dL_law_1158 : decode cL_law 1158 = .ok (.iaload, 1) := dk_46 (dk_at dksL_law_43 0 rfl rfl)
theorem dL_law_1159 : decode cL_law 1159 = .ok (.invokevirtual 135, 3) := dk_182 0 135 (dk_at dksL_law_43 1 rfl rfl)
theorem dL_law_1162 : decode cL_law 1162 = .ok (.aload_n 2, 1) := dk_44 (dk_at dksL_law_43 4 rfl rfl)
theorem dL_law_1163 : decode cL_law 1163 = .ok (.aload_n 0, 1) := dk_42 (dk_at dksL_law_43 5 rfl rfl)
theorem dL_law_1164 : decode cL_law 1164 = .ok (.iload_n 3, 1) := dk_29 (dk_at dksL_law_43 6 rfl rfl)
theorem dL_law_1165 : decode cL_law 1165 = .ok (.iconst 1, 1) := dk_4 (dk_at dksL_law_43 7 rfl rfl)
theorem dL_law_1166 : decode cL_law 1166 = .ok (.iadd, 1) := dk_96 (dk_at dksL_law_43 8 rfl rfl)
theorem dL_law_1167 : decode cL_law 1167 = .ok (.iaload, 1) := dk_46 (dk_at dksL_law_43 9 rfl rfl)
theorem dL_law_1168 : decode cL_law 1168 = .ok (.aload_n 0, 1) := dk_42 (dk_at dksL_law_43 10 rfl rfl)
theorem dL_law_1169 : decode cL_law 1169 = .ok (.iload_n 3, 1) := dk_29 (dk_at dksL_law_43 11 rfl rfl)
theorem dL_law_1170 : decode cL_law 1170 = .ok (.iconst 2, 1) := dk_5 (dk_at dksL_law_43 12 rfl rfl)
theorem dL_law_1171 : decode cL_law 1171 = .ok (.iadd, 1) := dk_96 (dk_at dksL_law_43 13 rfl rfl)
theorem dL_law_1172 : decode cL_law 1172 = .ok (.iaload, 1) := dk_46 (dk_at dksL_law_43 14 rfl rfl)
theorem dL_law_1173 : decode cL_law 1173 = .ok (.invokevirtual 138, 3) := dk_182 0 138 (dk_at dksL_law_43 15 rfl rfl)
theorem dL_law_1176 : decode cL_law 1176 = .ok (.if_icmp .eq 364, 3) := dk_159 1 108 (dk_at dksL_law_43 18 rfl rfl)
theorem dL_law_1179 : decode cL_law 1179 = .ok (.iconst 0, 1) := dk_3 (dk_at dksL_law_43 21 rfl rfl)
theorem dL_law_1180 : decode cL_law 1180 = .ok (.ireturn, 1) := dk_172 (dk_at dksL_law_43 22 rfl rfl)
theorem dL_law_1181 : decode cL_law 1181 = .ok (.aload_n 1, 1) := dk_43 (dk_at dksL_law_43 23 rfl rfl)
theorem dL_law_1182 : decode cL_law 1182 = .ok (.aload_n 0, 1) := dk_42 (dk_at dksL_law_44 0 rfl rfl)
theorem dL_law_1183 : decode cL_law 1183 = .ok (.iload_n 3, 1) := dk_29 (dk_at dksL_law_44 1 rfl rfl)
theorem dL_law_1184 : decode cL_law 1184 = .ok (.iconst 1, 1) := dk_4 (dk_at dksL_law_44 2 rfl rfl)
theorem dL_law_1185 : decode cL_law 1185 = .ok (.iadd, 1) := dk_96 (dk_at dksL_law_44 3 rfl rfl)
theorem dL_law_1186 : decode cL_law 1186 = .ok (.iaload, 1) := dk_46 (dk_at dksL_law_44 4 rfl rfl)
theorem dL_law_1187 : decode cL_law 1187 = .ok (.aload_n 0, 1) := dk_42 (dk_at dksL_law_44 5 rfl rfl)
theorem dL_law_1188 : decode cL_law 1188 = .ok (.iload_n 3, 1) := dk_29 (dk_at dksL_law_44 6 rfl rfl)
theorem dL_law_1189 : decode cL_law 1189 = .ok (.iconst 2, 1) := dk_5 (dk_at dksL_law_44 7 rfl rfl)
theorem dL_law_1190 : decode cL_law 1190 = .ok (.iadd, 1) := dk_96 (dk_at dksL_law_44 8 rfl rfl)
theorem dL_law_1191 : decode cL_law 1191 = .ok (.iaload, 1) := dk_46 (dk_at dksL_law_44 9 rfl rfl)
theorem dL_law_1192 : decode cL_law 1192 = .ok (.invokevirtual 139, 3) := dk_182 0 139 (dk_at dksL_law_44 10 rfl rfl)
theorem dL_law_1195 : decode cL_law 1195 = .ok (.aload_n 2, 1) := dk_44 (dk_at dksL_law_44 13 rfl rfl)
theorem dL_law_1196 : decode cL_law 1196 = .ok (.aload_n 0, 1) := dk_42 (dk_at dksL_law_44 14 rfl rfl)
theorem dL_law_1197 : decode cL_law 1197 = .ok (.iload_n 3, 1) := dk_29 (dk_at dksL_law_44 15 rfl rfl)
theorem dL_law_1198 : decode cL_law 1198 = .ok (.iconst 1, 1) := dk_4 (dk_at dksL_law_44 16 rfl rfl)
theorem dL_law_1199 : decode cL_law 1199 = .ok (.iadd, 1) := dk_96 (dk_at dksL_law_44 17 rfl rfl)
theorem dL_law_1200 : decode cL_law 1200 = .ok (.iaload, 1) := dk_46 (dk_at dksL_law_44 18 rfl rfl)
theorem dL_law_1201 : decode cL_law 1201 = .ok (.aload_n 0, 1) := dk_42 (dk_at dksL_law_44 19 rfl rfl)
theorem dL_law_1202 : decode cL_law 1202 = .ok (.iload_n 3, 1) := dk_29 (dk_at dksL_law_44 20 rfl rfl)
theorem dL_law_1203 : decode cL_law 1203 = .ok (.iconst 2, 1) := dk_5 (dk_at dksL_law_44 21 rfl rfl)
theorem dL_law_1204 : decode cL_law 1204 = .ok (.iadd, 1) := dk_96 (dk_at dksL_law_44 22 rfl rfl)
theorem dL_law_1205 : decode cL_law 1205 = .ok (.iaload, 1) := dk_46 (dk_at dksL_law_44 23 rfl rfl)
theorem dL_law_1206 : decode cL_law 1206 = .ok (.invokevirtual 142, 3) := dk_182 0 142 (dk_at dksL_law_45 0 rfl rfl)
theorem dL_law_1209 : decode cL_law 1209 = .ok (.if_icmp .eq 331, 3) := dk_159 1 75 (dk_at dksL_law_45 3 rfl rfl)
theorem dL_law_1212 : decode cL_law 1212 = .ok (.iconst 0, 1) := dk_3 (dk_at dksL_law_45 6 rfl rfl)
theorem dL_law_1213 : decode cL_law 1213 = .ok (.ireturn, 1) := dk_172 (dk_at dksL_law_45 7 rfl rfl)
theorem dL_law_1214 : decode cL_law 1214 = .ok (.aload_n 1, 1) := dk_43 (dk_at dksL_law_45 8 rfl rfl)
theorem dL_law_1215 : decode cL_law 1215 = .ok (.aload_n 0, 1) := dk_42 (dk_at dksL_law_45 9 rfl rfl)
theorem dL_law_1216 : decode cL_law 1216 = .ok (.iload_n 3, 1) := dk_29 (dk_at dksL_law_45 10 rfl rfl)
theorem dL_law_1217 : decode cL_law 1217 = .ok (.iconst 1, 1) := dk_4 (dk_at dksL_law_45 11 rfl rfl)
theorem dL_law_1218 : decode cL_law 1218 = .ok (.iadd, 1) := dk_96 (dk_at dksL_law_45 12 rfl rfl)
theorem dL_law_1219 : decode cL_law 1219 = .ok (.iaload, 1) := dk_46 (dk_at dksL_law_45 13 rfl rfl)
theorem dL_law_1220 : decode cL_law 1220 = .ok (.aload_n 0, 1) := dk_42 (dk_at dksL_law_45 14 rfl rfl)
theorem dL_law_1221 : decode cL_law 1221 = .ok (.iload_n 3, 1) := dk_29 (dk_at dksL_law_45 15 rfl rfl)
theorem dL_law_1222 : decode cL_law 1222 = .ok (.iconst 2, 1) := dk_5 (dk_at dksL_law_45 16 rfl rfl)
theorem dL_law_1223 : decode cL_law 1223 = .ok (.iadd, 1) := dk_96 (dk_at dksL_law_45 17 rfl rfl)
theorem dL_law_1224 : decode cL_law 1224 = .ok (.iaload, 1) := dk_46 (dk_at dksL_law_45 18 rfl rfl)
theorem dL_law_1225 : decode cL_law 1225 = .ok (.invokevirtual 143, 3) := dk_182 0 143 (dk_at dksL_law_45 19 rfl rfl)
theorem dL_law_1228 : decode cL_law 1228 = .ok (.aload_n 2, 1) := dk_44 (dk_at dksL_law_45 22 rfl rfl)
theorem dL_law_1229 : decode cL_law 1229 = .ok (.aload_n 0, 1) := dk_42 (dk_at dksL_law_45 23 rfl rfl)
theorem dL_law_1230 : decode cL_law 1230 = .ok (.iload_n 3, 1) := dk_29 (dk_at dksL_law_46 0 rfl rfl)
theorem dL_law_1231 : decode cL_law 1231 = .ok (.iconst 1, 1) := dk_4 (dk_at dksL_law_46 1 rfl rfl)
theorem dL_law_1232 : decode cL_law 1232 = .ok (.iadd, 1) := dk_96 (dk_at dksL_law_46 2 rfl rfl)
theorem dL_law_1233 : decode cL_law 1233 = .ok (.iaload, 1) := dk_46 (dk_at dksL_law_46 3 rfl rfl)
theorem dL_law_1234 : decode cL_law 1234 = .ok (.aload_n 0, 1) := dk_42 (dk_at dksL_law_46 4 rfl rfl)
theorem dL_law_1235 : decode cL_law 1235 = .ok (.iload_n 3, 1) := dk_29 (dk_at dksL_law_46 5 rfl rfl)
theorem dL_law_1236 : decode cL_law 1236 = .ok (.iconst 2, 1) := dk_5 (dk_at dksL_law_46 6 rfl rfl)
theorem dL_law_1237 : decode cL_law 1237 = .ok (.iadd, 1) := dk_96 (dk_at dksL_law_46 7 rfl rfl)
theorem dL_law_1238 : decode cL_law 1238 = .ok (.iaload, 1) := dk_46 (dk_at dksL_law_46 8 rfl rfl)
theorem dL_law_1239 : decode cL_law 1239 = .ok (.invokevirtual 146, 3) := dk_182 0 146 (dk_at dksL_law_46 9 rfl rfl)
theorem dL_law_1242 : decode cL_law 1242 = .ok (.if_icmp .eq 298, 3) := dk_159 1 42 (dk_at dksL_law_46 12 rfl rfl)
theorem dL_law_1245 : decode cL_law 1245 = .ok (.iconst 0, 1) := dk_3 (dk_at dksL_law_46 15 rfl rfl)
theorem dL_law_1246 : decode cL_law 1246 = .ok (.ireturn, 1) := dk_172 (dk_at dksL_law_46 16 rfl rfl)
theorem dL_law_1247 : decode cL_law 1247 = .ok (.aload_n 1, 1) := dk_43 (dk_at dksL_law_46 17 rfl rfl)
theorem dL_law_1248 : decode cL_law 1248 = .ok (.aload_n 0, 1) := dk_42 (dk_at dksL_law_46 18 rfl rfl)
theorem dL_law_1249 : decode cL_law 1249 = .ok (.iload_n 3, 1) := dk_29 (dk_at dksL_law_46 19 rfl rfl)
theorem dL_law_1250 : decode cL_law 1250 = .ok (.iconst 1, 1) := dk_4 (dk_at dksL_law_46 20 rfl rfl)
theorem dL_law_1251 : decode cL_law 1251 = .ok (.iadd, 1) := dk_96 (dk_at dksL_law_46 21 rfl rfl)
theorem dL_law_1252 : decode cL_law 1252 = .ok (.iaload, 1) := dk_46 (dk_at dksL_law_46 22 rfl rfl)
theorem dL_law_1253 : decode cL_law 1253 = .ok (.invokevirtual 147, 3) := dk_182 0 147 (dk_at dksL_law_47 0 rfl rfl)
theorem dL_law_1256 : decode cL_law 1256 = .ok (.aload_n 2, 1) := dk_44 (dk_at dksL_law_47 3 rfl rfl)
theorem dL_law_1257 : decode cL_law 1257 = .ok (.aload_n 0, 1) := dk_42 (dk_at dksL_law_47 4 rfl rfl)
theorem dL_law_1258 : decode cL_law 1258 = .ok (.iload_n 3, 1) := dk_29 (dk_at dksL_law_47 5 rfl rfl)
theorem dL_law_1259 : decode cL_law 1259 = .ok (.iconst 1, 1) := dk_4 (dk_at dksL_law_47 6 rfl rfl)
theorem dL_law_1260 : decode cL_law 1260 = .ok (.iadd, 1) := dk_96 (dk_at dksL_law_47 7 rfl rfl)
theorem dL_law_1261 : decode cL_law 1261 = .ok (.iaload, 1) := dk_46 (dk_at dksL_law_47 8 rfl rfl)
theorem dL_law_1262 : decode cL_law 1262 = .ok (.invokevirtual 150, 3) := dk_182 0 150 (dk_at dksL_law_47 9 rfl rfl)
theorem dL_law_1265 : decode cL_law 1265 = .ok (.if_icmp .eq 275, 3) := dk_159 1 19 (dk_at dksL_law_47 12 rfl rfl)
theorem dL_law_1268 : decode cL_law 1268 = .ok (.iconst 0, 1) := dk_3 (dk_at dksL_law_47 15 rfl rfl)
theorem dL_law_1269 : decode cL_law 1269 = .ok (.ireturn, 1) := dk_172 (dk_at dksL_law_47 16 rfl rfl)
theorem dL_law_1270 : decode cL_law 1270 = .ok (.aload_n 1, 1) := dk_43 (dk_at dksL_law_47 17 rfl rfl)
theorem dL_law_1271 : decode cL_law 1271 = .ok (.aload_n 0, 1) := dk_42 (dk_at dksL_law_47 18 rfl rfl)
theorem dL_law_1272 : decode cL_law 1272 = .ok (.iload_n 3, 1) := dk_29 (dk_at dksL_law_47 19 rfl rfl)
theorem dL_law_1273 : decode cL_law 1273 = .ok (.iconst 1, 1) := dk_4 (dk_at dksL_law_47 20 rfl rfl)
theorem dL_law_1274 : decode cL_law 1274 = .ok (.iadd, 1) := dk_96 (dk_at dksL_law_47 21 rfl rfl)
theorem dL_law_1275 : decode cL_law 1275 = .ok (.iaload, 1) := dk_46 (dk_at dksL_law_47 22 rfl rfl)
theorem dL_law_1276 : decode cL_law 1276 = .ok (.invokevirtual 151, 3) := dk_182 0 151 (dk_at dksL_law_48 0 rfl rfl)
theorem dL_law_1279 : decode cL_law 1279 = .ok (.aload_n 2, 1) := dk_44 (dk_at dksL_law_48 3 rfl rfl)
theorem dL_law_1280 : decode cL_law 1280 = .ok (.aload_n 0, 1) := dk_42 (dk_at dksL_law_48 4 rfl rfl)
theorem dL_law_1281 : decode cL_law 1281 = .ok (.iload_n 3, 1) := dk_29 (dk_at dksL_law_48 5 rfl rfl)
theorem dL_law_1282 : decode cL_law 1282 = .ok (.iconst 1, 1) := dk_4 (dk_at dksL_law_48 6 rfl rfl)
theorem dL_law_1283 : decode cL_law 1283 = .ok (.iadd, 1) := dk_96 (dk_at dksL_law_48 7 rfl rfl)
theorem dL_law_1284 : decode cL_law 1284 = .ok (.iaload, 1) := dk_46 (dk_at dksL_law_48 8 rfl rfl)
theorem dL_law_1285 : decode cL_law 1285 = .ok (.invokevirtual 154, 3) := dk_182 0 154 (dk_at dksL_law_48 9 rfl rfl)
theorem dL_law_1288 : decode cL_law 1288 = .ok (.if_icmp .eq 252, 3) := dk_159 0 252 (dk_at dksL_law_48 12 rfl rfl)
theorem dL_law_1291 : decode cL_law 1291 = .ok (.iconst 0, 1) := dk_3 (dk_at dksL_law_48 15 rfl rfl)
theorem dL_law_1292 : decode cL_law 1292 = .ok (.ireturn, 1) := dk_172 (dk_at dksL_law_48 16 rfl rfl)
theorem dL_law_1293 : decode cL_law 1293 = .ok (.aload_n 1, 1) := dk_43 (dk_at dksL_law_48 17 rfl rfl)
theorem dL_law_1294 : decode cL_law 1294 = .ok (.aload_n 0, 1) := dk_42 (dk_at dksL_law_48 18 rfl rfl)
theorem dL_law_1295 : decode cL_law 1295 = .ok (.iload_n 3, 1) := dk_29 (dk_at dksL_law_48 19 rfl rfl)
theorem dL_law_1296 : decode cL_law 1296 = .ok (.iconst 1, 1) := dk_4 (dk_at dksL_law_48 20 rfl rfl)
theorem dL_law_1297 : decode cL_law 1297 = .ok (.iadd, 1) := dk_96 (dk_at dksL_law_48 21 rfl rfl)
theorem dL_law_1298 : decode cL_law 1298 = .ok (.iaload, 1) := dk_46 (dk_at dksL_law_48 22 rfl rfl)
theorem dL_law_1299 : decode cL_law 1299 = .ok (.aload_n 0, 1) := dk_42 (dk_at dksL_law_48 23 rfl rfl)
theorem dL_law_1300 : decode cL_law 1300 = .ok (.iload_n 3, 1) := dk_29 (dk_at dksL_law_49 0 rfl rfl)
theorem dL_law_1301 : decode cL_law 1301 = .ok (.iconst 2, 1) := dk_5 (dk_at dksL_law_49 1 rfl rfl)
theorem dL_law_1302 : decode cL_law 1302 = .ok (.iadd, 1) := dk_96 (dk_at dksL_law_49 2 rfl rfl)
theorem dL_law_1303 : decode cL_law 1303 = .ok (.iaload, 1) := dk_46 (dk_at dksL_law_49 3 rfl rfl)
theorem dL_law_1304 : decode cL_law 1304 = .ok (.aload_n 0, 1) := dk_42 (dk_at dksL_law_49 4 rfl rfl)
theorem dL_law_1305 : decode cL_law 1305 = .ok (.iload_n 3, 1) := dk_29 (dk_at dksL_law_49 5 rfl rfl)
theorem dL_law_1306 : decode cL_law 1306 = .ok (.iconst 3, 1) := dk_6 (dk_at dksL_law_49 6 rfl rfl)
theorem dL_law_1307 : decode cL_law 1307 = .ok (.iadd, 1) := dk_96 (dk_at dksL_law_49 7 rfl rfl)
theorem dL_law_1308 : decode cL_law 1308 = .ok (.iaload, 1) := dk_46 (dk_at dksL_law_49 8 rfl rfl)
theorem dL_law_1309 : decode cL_law 1309 = .ok (.aload_n 0, 1) := dk_42 (dk_at dksL_law_49 9 rfl rfl)
theorem dL_law_1310 : decode cL_law 1310 = .ok (.iload_n 3, 1) := dk_29 (dk_at dksL_law_49 10 rfl rfl)
theorem dL_law_1311 : decode cL_law 1311 = .ok (.iconst 4, 1) := dk_7 (dk_at dksL_law_49 11 rfl rfl)
theorem dL_law_1312 : decode cL_law 1312 = .ok (.iadd, 1) := dk_96 (dk_at dksL_law_49 12 rfl rfl)
theorem dL_law_1313 : decode cL_law 1313 = .ok (.iaload, 1) := dk_46 (dk_at dksL_law_49 13 rfl rfl)
theorem dL_law_1314 : decode cL_law 1314 = .ok (.invokevirtual 155, 3) := dk_182 0 155 (dk_at dksL_law_49 14 rfl rfl)
theorem dL_law_1317 : decode cL_law 1317 = .ok (.aload_n 2, 1) := dk_44 (dk_at dksL_law_49 17 rfl rfl)
theorem dL_law_1318 : decode cL_law 1318 = .ok (.aload_n 0, 1) := dk_42 (dk_at dksL_law_49 18 rfl rfl)
theorem dL_law_1319 : decode cL_law 1319 = .ok (.iload_n 3, 1) := dk_29 (dk_at dksL_law_49 19 rfl rfl)
theorem dL_law_1320 : decode cL_law 1320 = .ok (.iconst 1, 1) := dk_4 (dk_at dksL_law_49 20 rfl rfl)
theorem dL_law_1321 : decode cL_law 1321 = .ok (.iadd, 1) := dk_96 (dk_at dksL_law_49 21 rfl rfl)
theorem dL_law_1322 : decode cL_law 1322 = .ok (.iaload, 1) := dk_46 (dk_at dksL_law_49 22 rfl rfl)
theorem dL_law_1323 : decode cL_law 1323 = .ok (.aload_n 0, 1) := dk_42 (dk_at dksL_law_49 23 rfl rfl)
theorem dL_law_1324 : decode cL_law 1324 = .ok (.iload_n 3, 1) := dk_29 (dk_at dksL_law_50 0 rfl rfl)
theorem dL_law_1325 : decode cL_law 1325 = .ok (.iconst 2, 1) := dk_5 (dk_at dksL_law_50 1 rfl rfl)
theorem dL_law_1326 : decode cL_law 1326 = .ok (.iadd, 1) := dk_96 (dk_at dksL_law_50 2 rfl rfl)
theorem dL_law_1327 : decode cL_law 1327 = .ok (.iaload, 1) := dk_46 (dk_at dksL_law_50 3 rfl rfl)
theorem dL_law_1328 : decode cL_law 1328 = .ok (.aload_n 0, 1) := dk_42 (dk_at dksL_law_50 4 rfl rfl)
theorem dL_law_1329 : decode cL_law 1329 = .ok (.iload_n 3, 1) := dk_29 (dk_at dksL_law_50 5 rfl rfl)
theorem dL_law_1330 : decode cL_law 1330 = .ok (.iconst 3, 1) := dk_6 (dk_at dksL_law_50 6 rfl rfl)
theorem dL_law_1331 : decode cL_law 1331 = .ok (.iadd, 1) := dk_96 (dk_at dksL_law_50 7 rfl rfl)
theorem dL_law_1332 : decode cL_law 1332 = .ok (.iaload, 1) := dk_46 (dk_at dksL_law_50 8 rfl rfl)
theorem dL_law_1333 : decode cL_law 1333 = .ok (.aload_n 0, 1) := dk_42 (dk_at dksL_law_50 9 rfl rfl)
theorem dL_law_1334 : decode cL_law 1334 = .ok (.iload_n 3, 1) := dk_29 (dk_at dksL_law_50 10 rfl rfl)
theorem dL_law_1335 : decode cL_law 1335 = .ok (.iconst 4, 1) := dk_7 (dk_at dksL_law_50 11 rfl rfl)
theorem dL_law_1336 : decode cL_law 1336 = .ok (.iadd, 1) := dk_96 (dk_at dksL_law_50 12 rfl rfl)
theorem dL_law_1337 : decode cL_law 1337 = .ok (.iaload, 1) := dk_46 (dk_at dksL_law_50 13 rfl rfl)
theorem dL_law_1338 : decode cL_law 1338 = .ok (.invokevirtual 159, 3) := dk_182 0 159 (dk_at dksL_law_50 14 rfl rfl)
theorem dL_law_1341 : decode cL_law 1341 = .ok (.if_icmp .eq 199, 3) := dk_159 0 199 (dk_at dksL_law_50 17 rfl rfl)
theorem dL_law_1344 : decode cL_law 1344 = .ok (.iconst 0, 1) := dk_3 (dk_at dksL_law_50 20 rfl rfl)
theorem dL_law_1345 : decode cL_law 1345 = .ok (.ireturn, 1) := dk_172 (dk_at dksL_law_50 21 rfl rfl)
theorem dL_law_1346 : decode cL_law 1346 = .ok (.aload_n 1, 1) := dk_43 (dk_at dksL_law_50 22 rfl rfl)
theorem dL_law_1347 : decode cL_law 1347 = .ok (.aload_n 0, 1) := dk_42 (dk_at dksL_law_50 23 rfl rfl)
theorem dL_law_1348 : decode cL_law 1348 = .ok (.iload_n 3, 1) := dk_29 (dk_at dksL_law_51 0 rfl rfl)
theorem dL_law_1349 : decode cL_law 1349 = .ok (.iconst 1, 1) := dk_4 (dk_at dksL_law_51 1 rfl rfl)
theorem dL_law_1350 : decode cL_law 1350 = .ok (.iadd, 1) := dk_96 (dk_at dksL_law_51 2 rfl rfl)
theorem dL_law_1351 : decode cL_law 1351 = .ok (.iaload, 1) := dk_46 (dk_at dksL_law_51 3 rfl rfl)
theorem dL_law_1352 : decode cL_law 1352 = .ok (.invokevirtual 160, 3) := dk_182 0 160 (dk_at dksL_law_51 4 rfl rfl)
theorem dL_law_1355 : decode cL_law 1355 = .ok (.aload_n 2, 1) := dk_44 (dk_at dksL_law_51 7 rfl rfl)
theorem dL_law_1356 : decode cL_law 1356 = .ok (.aload_n 0, 1) := dk_42 (dk_at dksL_law_51 8 rfl rfl)
theorem dL_law_1357 : decode cL_law 1357 = .ok (.iload_n 3, 1) := dk_29 (dk_at dksL_law_51 9 rfl rfl)
theorem dL_law_1358 : decode cL_law 1358 = .ok (.iconst 1, 1) := dk_4 (dk_at dksL_law_51 10 rfl rfl)
theorem dL_law_1359 : decode cL_law 1359 = .ok (.iadd, 1) := dk_96 (dk_at dksL_law_51 11 rfl rfl)
theorem dL_law_1360 : decode cL_law 1360 = .ok (.iaload, 1) := dk_46 (dk_at dksL_law_51 12 rfl rfl)
theorem dL_law_1361 : decode cL_law 1361 = .ok (.invokevirtual 163, 3) := dk_182 0 163 (dk_at dksL_law_51 13 rfl rfl)
theorem dL_law_1364 : decode cL_law 1364 = .ok (.if_icmp .eq 176, 3) := dk_159 0 176 (dk_at dksL_law_51 16 rfl rfl)
theorem dL_law_1367 : decode cL_law 1367 = .ok (.iconst 0, 1) := dk_3 (dk_at dksL_law_51 19 rfl rfl)
theorem dL_law_1368 : decode cL_law 1368 = .ok (.ireturn, 1) := dk_172 (dk_at dksL_law_51 20 rfl rfl)
theorem dL_law_1369 : decode cL_law 1369 = .ok (.aload_n 1, 1) := dk_43 (dk_at dksL_law_51 21 rfl rfl)
theorem dL_law_1370 : decode cL_law 1370 = .ok (.aload_n 0, 1) := dk_42 (dk_at dksL_law_51 22 rfl rfl)
theorem dL_law_1371 : decode cL_law 1371 = .ok (.iload_n 3, 1) := dk_29 (dk_at dksL_law_51 23 rfl rfl)
theorem dL_law_1372 : decode cL_law 1372 = .ok (.iconst 1, 1) := dk_4 (dk_at dksL_law_52 0 rfl rfl)
theorem dL_law_1373 : decode cL_law 1373 = .ok (.iadd, 1) := dk_96 (dk_at dksL_law_52 1 rfl rfl)
theorem dL_law_1374 : decode cL_law 1374 = .ok (.iaload, 1) := dk_46 (dk_at dksL_law_52 2 rfl rfl)
theorem dL_law_1375 : decode cL_law 1375 = .ok (.invokevirtual 164, 3) := dk_182 0 164 (dk_at dksL_law_52 3 rfl rfl)
theorem dL_law_1378 : decode cL_law 1378 = .ok (.aload_n 2, 1) := dk_44 (dk_at dksL_law_52 6 rfl rfl)
theorem dL_law_1379 : decode cL_law 1379 = .ok (.aload_n 0, 1) := dk_42 (dk_at dksL_law_52 7 rfl rfl)
theorem dL_law_1380 : decode cL_law 1380 = .ok (.iload_n 3, 1) := dk_29 (dk_at dksL_law_52 8 rfl rfl)
theorem dL_law_1381 : decode cL_law 1381 = .ok (.iconst 1, 1) := dk_4 (dk_at dksL_law_52 9 rfl rfl)
theorem dL_law_1382 : decode cL_law 1382 = .ok (.iadd, 1) := dk_96 (dk_at dksL_law_52 10 rfl rfl)
theorem dL_law_1383 : decode cL_law 1383 = .ok (.iaload, 1) := dk_46 (dk_at dksL_law_52 11 rfl rfl)
theorem dL_law_1384 : decode cL_law 1384 = .ok (.invokevirtual 167, 3) := dk_182 0 167 (dk_at dksL_law_52 12 rfl rfl)
theorem dL_law_1387 : decode cL_law 1387 = .ok (.if_icmp .eq 153, 3) := dk_159 0 153 (dk_at dksL_law_52 15 rfl rfl)
theorem dL_law_1390 : decode cL_law 1390 = .ok (.iconst 0, 1) := dk_3 (dk_at dksL_law_52 18 rfl rfl)
theorem dL_law_1391 : decode cL_law 1391 = .ok (.ireturn, 1) := dk_172 (dk_at dksL_law_52 19 rfl rfl)
theorem dL_law_1392 : decode cL_law 1392 = .ok (.aload_n 1, 1) := dk_43 (dk_at dksL_law_52 20 rfl rfl)
theorem dL_law_1393 : decode cL_law 1393 = .ok (.aload_n 0, 1) := dk_42 (dk_at dksL_law_52 21 rfl rfl)
theorem dL_law_1394 : decode cL_law 1394 = .ok (.iload_n 3, 1) := dk_29 (dk_at dksL_law_52 22 rfl rfl)
theorem dL_law_1395 : decode cL_law 1395 = .ok (.iconst 1, 1) := dk_4 (dk_at dksL_law_52 23 rfl rfl)
theorem dL_law_1396 : decode cL_law 1396 = .ok (.iadd, 1) := dk_96 (dk_at dksL_law_53 0 rfl rfl)
theorem dL_law_1397 : decode cL_law 1397 = .ok (.iaload, 1) := dk_46 (dk_at dksL_law_53 1 rfl rfl)
theorem dL_law_1398 : decode cL_law 1398 = .ok (.aload_n 0, 1) := dk_42 (dk_at dksL_law_53 2 rfl rfl)
theorem dL_law_1399 : decode cL_law 1399 = .ok (.iload_n 3, 1) := dk_29 (dk_at dksL_law_53 3 rfl rfl)
theorem dL_law_1400 : decode cL_law 1400 = .ok (.iconst 2, 1) := dk_5 (dk_at dksL_law_53 4 rfl rfl)
theorem dL_law_1401 : decode cL_law 1401 = .ok (.iadd, 1) := dk_96 (dk_at dksL_law_53 5 rfl rfl)
theorem dL_law_1402 : decode cL_law 1402 = .ok (.iaload, 1) := dk_46 (dk_at dksL_law_53 6 rfl rfl)
theorem dL_law_1403 : decode cL_law 1403 = .ok (.invokevirtual 168, 3) := dk_182 0 168 (dk_at dksL_law_53 7 rfl rfl)
theorem dL_law_1406 : decode cL_law 1406 = .ok (.aload_n 2, 1) := dk_44 (dk_at dksL_law_53 10 rfl rfl)
theorem dL_law_1407 : decode cL_law 1407 = .ok (.aload_n 0, 1) := dk_42 (dk_at dksL_law_53 11 rfl rfl)
theorem dL_law_1408 : decode cL_law 1408 = .ok (.iload_n 3, 1) := dk_29 (dk_at dksL_law_53 12 rfl rfl)
theorem dL_law_1409 : decode cL_law 1409 = .ok (.iconst 1, 1) := dk_4 (dk_at dksL_law_53 13 rfl rfl)
theorem dL_law_1410 : decode cL_law 1410 = .ok (.iadd, 1) := dk_96 (dk_at dksL_law_53 14 rfl rfl)
theorem dL_law_1411 : decode cL_law 1411 = .ok (.iaload, 1) := dk_46 (dk_at dksL_law_53 15 rfl rfl)
theorem dL_law_1412 : decode cL_law 1412 = .ok (.aload_n 0, 1) := dk_42 (dk_at dksL_law_53 16 rfl rfl)
theorem dL_law_1413 : decode cL_law 1413 = .ok (.iload_n 3, 1) := dk_29 (dk_at dksL_law_53 17 rfl rfl)
theorem dL_law_1414 : decode cL_law 1414 = .ok (.iconst 2, 1) := dk_5 (dk_at dksL_law_53 18 rfl rfl)
theorem dL_law_1415 : decode cL_law 1415 = .ok (.iadd, 1) := dk_96 (dk_at dksL_law_53 19 rfl rfl)
theorem dL_law_1416 : decode cL_law 1416 = .ok (.iaload, 1) := dk_46 (dk_at dksL_law_53 20 rfl rfl)
theorem dL_law_1417 : decode cL_law 1417 = .ok (.invokevirtual 171, 3) := dk_182 0 171 (dk_at dksL_law_53 21 rfl rfl)
theorem dL_law_1420 : decode cL_law 1420 = .ok (.if_icmp .eq 120, 3) := dk_159 0 120 (dk_at dksL_law_54 0 rfl rfl)
theorem dL_law_1423 : decode cL_law 1423 = .ok (.iconst 0, 1) := dk_3 (dk_at dksL_law_54 3 rfl rfl)
theorem dL_law_1424 : decode cL_law 1424 = .ok (.ireturn, 1) := dk_172 (dk_at dksL_law_54 4 rfl rfl)
theorem dL_law_1425 : decode cL_law 1425 = .ok (.aload_n 1, 1) := dk_43 (dk_at dksL_law_54 5 rfl rfl)
theorem dL_law_1426 : decode cL_law 1426 = .ok (.aload_n 0, 1) := dk_42 (dk_at dksL_law_54 6 rfl rfl)
theorem dL_law_1427 : decode cL_law 1427 = .ok (.iload_n 3, 1) := dk_29 (dk_at dksL_law_54 7 rfl rfl)
theorem dL_law_1428 : decode cL_law 1428 = .ok (.iconst 1, 1) := dk_4 (dk_at dksL_law_54 8 rfl rfl)
theorem dL_law_1429 : decode cL_law 1429 = .ok (.iadd, 1) := dk_96 (dk_at dksL_law_54 9 rfl rfl)
theorem dL_law_1430 : decode cL_law 1430 = .ok (.iaload, 1) := dk_46 (dk_at dksL_law_54 10 rfl rfl)
theorem dL_law_1431 : decode cL_law 1431 = .ok (.aload_n 0, 1) := dk_42 (dk_at dksL_law_54 11 rfl rfl)
theorem dL_law_1432 : decode cL_law 1432 = .ok (.iload_n 3, 1) := dk_29 (dk_at dksL_law_54 12 rfl rfl)
theorem dL_law_1433 : decode cL_law 1433 = .ok (.iconst 2, 1) := dk_5 (dk_at dksL_law_54 13 rfl rfl)
theorem dL_law_1434 : decode cL_law 1434 = .ok (.iadd, 1) := dk_96 (dk_at dksL_law_54 14 rfl rfl)
theorem dL_law_1435 : decode cL_law 1435 = .ok (.iaload, 1) := dk_46 (dk_at dksL_law_54 15 rfl rfl)
theorem dL_law_1436 : decode cL_law 1436 = .ok (.aload_n 0, 1) := dk_42 (dk_at dksL_law_54 16 rfl rfl)
theorem dL_law_1437 : decode cL_law 1437 = .ok (.iload_n 3, 1) := dk_29 (dk_at dksL_law_54 17 rfl rfl)
theorem dL_law_1438 : decode cL_law 1438 = .ok (.iconst 3, 1) := dk_6 (dk_at dksL_law_54 18 rfl rfl)
theorem dL_law_1439 : decode cL_law 1439 = .ok (.iadd, 1) := dk_96 (dk_at dksL_law_54 19 rfl rfl)
theorem dL_law_1440 : decode cL_law 1440 = .ok (.iaload, 1) := dk_46 (dk_at dksL_law_54 20 rfl rfl)
theorem dL_law_1441 : decode cL_law 1441 = .ok (.invokevirtual 172, 3) := dk_182 0 172 (dk_at dksL_law_54 21 rfl rfl)
theorem dL_law_1444 : decode cL_law 1444 = .ok (.aload_n 2, 1) := dk_44 (dk_at dksL_law_55 0 rfl rfl)
theorem dL_law_1445 : decode cL_law 1445 = .ok (.aload_n 0, 1) := dk_42 (dk_at dksL_law_55 1 rfl rfl)
theorem dL_law_1446 : decode cL_law 1446 = .ok (.iload_n 3, 1) := dk_29 (dk_at dksL_law_55 2 rfl rfl)
theorem dL_law_1447 : decode cL_law 1447 = .ok (.iconst 1, 1) := dk_4 (dk_at dksL_law_55 3 rfl rfl)
theorem dL_law_1448 : decode cL_law 1448 = .ok (.iadd, 1) := dk_96 (dk_at dksL_law_55 4 rfl rfl)
theorem dL_law_1449 : decode cL_law 1449 = .ok (.iaload, 1) := dk_46 (dk_at dksL_law_55 5 rfl rfl)
theorem dL_law_1450 : decode cL_law 1450 = .ok (.aload_n 0, 1) := dk_42 (dk_at dksL_law_55 6 rfl rfl)
theorem dL_law_1451 : decode cL_law 1451 = .ok (.iload_n 3, 1) := dk_29 (dk_at dksL_law_55 7 rfl rfl)
theorem dL_law_1452 : decode cL_law 1452 = .ok (.iconst 2, 1) := dk_5 (dk_at dksL_law_55 8 rfl rfl)
theorem dL_law_1453 : decode cL_law 1453 = .ok (.iadd, 1) := dk_96 (dk_at dksL_law_55 9 rfl rfl)
theorem dL_law_1454 : decode cL_law 1454 = .ok (.iaload, 1) := dk_46 (dk_at dksL_law_55 10 rfl rfl)
theorem dL_law_1455 : decode cL_law 1455 = .ok (.aload_n 0, 1) := dk_42 (dk_at dksL_law_55 11 rfl rfl)
theorem dL_law_1456 : decode cL_law 1456 = .ok (.iload_n 3, 1) := dk_29 (dk_at dksL_law_55 12 rfl rfl)
theorem dL_law_1457 : decode cL_law 1457 = .ok (.iconst 3, 1) := dk_6 (dk_at dksL_law_55 13 rfl rfl)
theorem dL_law_1458 : decode cL_law 1458 = .ok (.iadd, 1) := dk_96 (dk_at dksL_law_55 14 rfl rfl)
theorem dL_law_1459 : decode cL_law 1459 = .ok (.iaload, 1) := dk_46 (dk_at dksL_law_55 15 rfl rfl)
theorem dL_law_1460 : decode cL_law 1460 = .ok (.invokevirtual 175, 3) := dk_182 0 175 (dk_at dksL_law_55 16 rfl rfl)
theorem dL_law_1463 : decode cL_law 1463 = .ok (.if_icmp .eq 77, 3) := dk_159 0 77 (dk_at dksL_law_55 19 rfl rfl)
theorem dL_law_1466 : decode cL_law 1466 = .ok (.iconst 0, 1) := dk_3 (dk_at dksL_law_55 22 rfl rfl)
theorem dL_law_1467 : decode cL_law 1467 = .ok (.ireturn, 1) := dk_172 (dk_at dksL_law_55 23 rfl rfl)
theorem dL_law_1468 : decode cL_law 1468 = .ok (.aload_n 1, 1) := dk_43 (dk_at dksL_law_56 0 rfl rfl)
theorem dL_law_1469 : decode cL_law 1469 = .ok (.invokevirtual 176, 3) := dk_182 0 176 (dk_at dksL_law_56 1 rfl rfl)
theorem dL_law_1472 : decode cL_law 1472 = .ok (.aload_n 2, 1) := dk_44 (dk_at dksL_law_56 4 rfl rfl)
theorem dL_law_1473 : decode cL_law 1473 = .ok (.invokevirtual 179, 3) := dk_182 0 179 (dk_at dksL_law_56 5 rfl rfl)
theorem dL_law_1476 : decode cL_law 1476 = .ok (.if_icmp .eq 64, 3) := dk_159 0 64 (dk_at dksL_law_56 8 rfl rfl)
theorem dL_law_1479 : decode cL_law 1479 = .ok (.iconst 0, 1) := dk_3 (dk_at dksL_law_56 11 rfl rfl)
theorem dL_law_1480 : decode cL_law 1480 = .ok (.ireturn, 1) := dk_172 (dk_at dksL_law_56 12 rfl rfl)
theorem dL_law_1481 : decode cL_law 1481 = .ok (.aload_n 1, 1) := dk_43 (dk_at dksL_law_56 13 rfl rfl)
theorem dL_law_1482 : decode cL_law 1482 = .ok (.aload_n 0, 1) := dk_42 (dk_at dksL_law_56 14 rfl rfl)
theorem dL_law_1483 : decode cL_law 1483 = .ok (.iload_n 3, 1) := dk_29 (dk_at dksL_law_56 15 rfl rfl)
theorem dL_law_1484 : decode cL_law 1484 = .ok (.iconst 1, 1) := dk_4 (dk_at dksL_law_56 16 rfl rfl)
theorem dL_law_1485 : decode cL_law 1485 = .ok (.iadd, 1) := dk_96 (dk_at dksL_law_56 17 rfl rfl)
theorem dL_law_1486 : decode cL_law 1486 = .ok (.iaload, 1) := dk_46 (dk_at dksL_law_56 18 rfl rfl)
theorem dL_law_1487 : decode cL_law 1487 = .ok (.invokevirtual 180, 3) := dk_182 0 180 (dk_at dksL_law_56 19 rfl rfl)
theorem dL_law_1490 : decode cL_law 1490 = .ok (.aload_n 2, 1) := dk_44 (dk_at dksL_law_56 22 rfl rfl)
theorem dL_law_1491 : decode cL_law 1491 = .ok (.aload_n 0, 1) := dk_42 (dk_at dksL_law_56 23 rfl rfl)
theorem dL_law_1492 : decode cL_law 1492 = .ok (.iload_n 3, 1) := dk_29 (dk_at dksL_law_57 0 rfl rfl)
theorem dL_law_1493 : decode cL_law 1493 = .ok (.iconst 1, 1) := dk_4 (dk_at dksL_law_57 1 rfl rfl)
theorem dL_law_1494 : decode cL_law 1494 = .ok (.iadd, 1) := dk_96 (dk_at dksL_law_57 2 rfl rfl)
theorem dL_law_1495 : decode cL_law 1495 = .ok (.iaload, 1) := dk_46 (dk_at dksL_law_57 3 rfl rfl)
theorem dL_law_1496 : decode cL_law 1496 = .ok (.invokevirtual 183, 3) := dk_182 0 183 (dk_at dksL_law_57 4 rfl rfl)
theorem dL_law_1499 : decode cL_law 1499 = .ok (.if_icmp .eq 41, 3) := dk_159 0 41 (dk_at dksL_law_57 7 rfl rfl)
theorem dL_law_1502 : decode cL_law 1502 = .ok (.iconst 0, 1) := dk_3 (dk_at dksL_law_57 10 rfl rfl)
theorem dL_law_1503 : decode cL_law 1503 = .ok (.ireturn, 1) := dk_172 (dk_at dksL_law_57 11 rfl rfl)
theorem dL_law_1504 : decode cL_law 1504 = .ok (.aload_n 1, 1) := dk_43 (dk_at dksL_law_57 12 rfl rfl)
theorem dL_law_1505 : decode cL_law 1505 = .ok (.invokevirtual 184, 3) := dk_182 0 184 (dk_at dksL_law_57 13 rfl rfl)
theorem dL_law_1508 : decode cL_law 1508 = .ok (.aload_n 2, 1) := dk_44 (dk_at dksL_law_57 16 rfl rfl)
theorem dL_law_1509 : decode cL_law 1509 = .ok (.invokevirtual 187, 3) := dk_182 0 187 (dk_at dksL_law_57 17 rfl rfl)
theorem dL_law_1512 : decode cL_law 1512 = .ok (.if_icmp .eq 28, 3) := dk_159 0 28 (dk_at dksL_law_57 20 rfl rfl)
theorem dL_law_1515 : decode cL_law 1515 = .ok (.iconst 0, 1) := dk_3 (dk_at dksL_law_57 23 rfl rfl)
theorem dL_law_1516 : decode cL_law 1516 = .ok (.ireturn, 1) := dk_172 (dk_at dksL_law_58 0 rfl rfl)
theorem dL_law_1517 : decode cL_law 1517 = .ok (.aload_n 1, 1) := dk_43 (dk_at dksL_law_58 1 rfl rfl)
theorem dL_law_1518 : decode cL_law 1518 = .ok (.aload_n 0, 1) := dk_42 (dk_at dksL_law_58 2 rfl rfl)
theorem dL_law_1519 : decode cL_law 1519 = .ok (.iload_n 3, 1) := dk_29 (dk_at dksL_law_58 3 rfl rfl)
theorem dL_law_1520 : decode cL_law 1520 = .ok (.iconst 1, 1) := dk_4 (dk_at dksL_law_58 4 rfl rfl)
theorem dL_law_1521 : decode cL_law 1521 = .ok (.iadd, 1) := dk_96 (dk_at dksL_law_58 5 rfl rfl)
theorem dL_law_1522 : decode cL_law 1522 = .ok (.iaload, 1) := dk_46 (dk_at dksL_law_58 6 rfl rfl)
theorem dL_law_1523 : decode cL_law 1523 = .ok (.invokevirtual 188, 3) := dk_182 0 188 (dk_at dksL_law_58 7 rfl rfl)
theorem dL_law_1526 : decode cL_law 1526 = .ok (.aload_n 2, 1) := dk_44 (dk_at dksL_law_58 10 rfl rfl)
theorem dL_law_1527 : decode cL_law 1527 = .ok (.aload_n 0, 1) := dk_42 (dk_at dksL_law_58 11 rfl rfl)
theorem dL_law_1528 : decode cL_law 1528 = .ok (.iload_n 3, 1) := dk_29 (dk_at dksL_law_58 12 rfl rfl)
theorem dL_law_1529 : decode cL_law 1529 = .ok (.iconst 1, 1) := dk_4 (dk_at dksL_law_58 13 rfl rfl)
theorem dL_law_1530 : decode cL_law 1530 = .ok (.iadd, 1) := dk_96 (dk_at dksL_law_58 14 rfl rfl)
theorem dL_law_1531 : decode cL_law 1531 = .ok (.iaload, 1) := dk_46 (dk_at dksL_law_58 15 rfl rfl)
theorem dL_law_1532 : decode cL_law 1532 = .ok (.invokevirtual 191, 3) := dk_182 0 191 (dk_at dksL_law_58 16 rfl rfl)
theorem dL_law_1535 : decode cL_law 1535 = .ok (.if_icmp .eq 5, 3) := dk_159 0 5 (dk_at dksL_law_58 19 rfl rfl)
theorem dL_law_1538 : decode cL_law 1538 = .ok (.iconst 0, 1) := dk_3 (dk_at dksL_law_58 22 rfl rfl)
theorem dL_law_1539 : decode cL_law 1539 = .ok (.ireturn, 1) := dk_172 (dk_at dksL_law_58 23 rfl rfl)
theorem dL_law_1540 : decode cL_law 1540 = .ok (.iinc 3 6, 3) := dk_132 3 6 (dk_at dksL_law_59 0 rfl rfl)
theorem dL_law_1543 : decode cL_law 1543 = .ok (.goto (-1525), 3) := dk_167 250 11 (dk_at dksL_law_59 3 rfl rfl)
theorem dL_law_1546 : decode cL_law 1546 = .ok (.iconst 1, 1) := dk_4 (dk_at dksL_law_59 6 rfl rfl)
theorem dL_law_1547 : decode cL_law 1547 = .ok (.ireturn, 1) := dk_172 (dk_at dksL_law_59 7 rfl rfl)
