set_option maxRecDepth 100000
def dkwX9_isWordOf_0 : List UInt8 := [27, 155, 0, 20, 27, 42, 180, 0, 54, 42, 180, 0, 51, 46, 162, 0, 7, 4, 167, 0, 4, 3, 172]
abbrev dktX9_isWordOf_0 : List UInt8 := dkwX9_isWordOf_0 ++ []
theorem dksX9_isWordOf_0 : cX9_isWordOf.data.toList.drop 0 = dktX9_isWordOf_0 := by decide +kernel
theorem dX9_isWordOf_0 : decode cX9_isWordOf 0 = .ok (.iload_n 1, 1) := dk_27 (dk_at dksX9_isWordOf_0 0 rfl rfl)
theorem dX9_isWordOf_1 : decode cX9_isWordOf 1 = .ok (.ifCond .lt 20, 3) := dk_155 0 20 (dk_at dksX9_isWordOf_0 1 rfl rfl)
theorem dX9_isWordOf_4 : decode cX9_isWordOf 4 = .ok (.iload_n 1, 1) := dk_27 (dk_at dksX9_isWordOf_0 4 rfl rfl)
theorem dX9_isWordOf_5 : decode cX9_isWordOf 5 = .ok (.aload_n 0, 1) := dk_42 (dk_at dksX9_isWordOf_0 5 rfl rfl)
theorem dX9_isWordOf_6 : decode cX9_isWordOf 6 = .ok (.getfield 54, 3) := dk_180 0 54 (dk_at dksX9_isWordOf_0 6 rfl rfl)
theorem dX9_isWordOf_9 : decode cX9_isWordOf 9 = .ok (.aload_n 0, 1) := dk_42 (dk_at dksX9_isWordOf_0 9 rfl rfl)
theorem dX9_isWordOf_10 : decode cX9_isWordOf 10 = .ok (.getfield 51, 3) := dk_180 0 51 (dk_at dksX9_isWordOf_0 10 rfl rfl)
theorem dX9_isWordOf_13 : decode cX9_isWordOf 13 = .ok (.iaload, 1) := dk_46 (dk_at dksX9_isWordOf_0 13 rfl rfl)
theorem dX9_isWordOf_14 : decode cX9_isWordOf 14 = .ok (.if_icmp .ge 7, 3) := dk_162 0 7 (dk_at dksX9_isWordOf_0 14 rfl rfl)
theorem dX9_isWordOf_17 : decode cX9_isWordOf 17 = .ok (.iconst 1, 1) := dk_4 (dk_at dksX9_isWordOf_0 17 rfl rfl)
theorem dX9_isWordOf_18 : decode cX9_isWordOf 18 = .ok (.goto 4, 3) := dk_167 0 4 (dk_at dksX9_isWordOf_0 18 rfl rfl)
theorem dX9_isWordOf_21 : decode cX9_isWordOf 21 = .ok (.iconst 0, 1) := dk_3 (dk_at dksX9_isWordOf_0 21 rfl rfl)
theorem dX9_isWordOf_22 : decode cX9_isWordOf 22 = .ok (.ireturn, 1) := dk_172 (dk_at dksX9_isWordOf_0 22 rfl rfl)
def dkwX9_likes_3 : List UInt8 := [42, 180, 0, 61, 21, 4, 46, 160, 0, 7, 4, 167, 0, 4, 3, 96, 172]
abbrev dktX9_likes_3 : List UInt8 := dkwX9_likes_3 ++ []
def dkwX9_likes_2 : List UInt8 := [29, 46, 42, 180, 0, 64, 21, 4, 46, 160, 0, 7, 4, 167, 0, 4, 3, 96, 42, 180, 0, 61, 29, 46]
abbrev dktX9_likes_2 : List UInt8 := dkwX9_likes_2 ++ dktX9_likes_3
def dkwX9_likes_1 : List UInt8 := [180, 0, 67, 29, 46, 42, 180, 0, 67, 21, 4, 46, 160, 0, 7, 5, 167, 0, 4, 3, 42, 180, 0, 64]
abbrev dktX9_likes_1 : List UInt8 := dkwX9_likes_1 ++ dktX9_likes_2
def dkwX9_likes_0 : List UInt8 := [16, 24, 42, 180, 0, 51, 104, 27, 96, 62, 16, 24, 42, 180, 0, 51, 104, 28, 96, 54, 4, 42]
abbrev dktX9_likes_0 : List UInt8 := dkwX9_likes_0 ++ dktX9_likes_1
theorem dksX9_likes_0 : cX9_likes.data.toList.drop 0 = dktX9_likes_0 := by decide +kernel
theorem dksX9_likes_1 : cX9_likes.data.toList.drop 22 = dktX9_likes_1 := dk_seg dksX9_likes_0 22 rfl rfl
theorem dksX9_likes_2 : cX9_likes.data.toList.drop 46 = dktX9_likes_2 := dk_seg dksX9_likes_1 24 rfl rfl
theorem dksX9_likes_3 : cX9_likes.data.toList.drop 70 = dktX9_likes_3 := dk_seg dksX9_likes_2 24 rfl rfl
theorem dX9_likes_0 : decode cX9_likes 0 = .ok (.bipush 24, 2) := dk_16 24 (dk_at dksX9_likes_0 0 rfl rfl)
theorem dX9_likes_2 : decode cX9_likes 2 = .ok (.aload_n 0, 1) := dk_42 (dk_at dksX9_likes_0 2 rfl rfl)
theorem dX9_likes_3 : decode cX9_likes 3 = .ok (.getfield 51, 3) := dk_180 0 51 (dk_at dksX9_likes_0 3 rfl rfl)
theorem dX9_likes_6 : decode cX9_likes 6 = .ok (.imul, 1) := dk_104 (dk_at dksX9_likes_0 6 rfl rfl)
theorem dX9_likes_7 : decode cX9_likes 7 = .ok (.iload_n 1, 1) := dk_27 (dk_at dksX9_likes_0 7 rfl rfl)
theorem dX9_likes_8 : decode cX9_likes 8 = .ok (.iadd, 1) := dk_96 (dk_at dksX9_likes_0 8 rfl rfl)
theorem dX9_likes_9 : decode cX9_likes 9 = .ok (.istore_n 3, 1) := dk_62 (dk_at dksX9_likes_0 9 rfl rfl)
theorem dX9_likes_10 : decode cX9_likes 10 = .ok (.bipush 24, 2) := dk_16 24 (dk_at dksX9_likes_0 10 rfl rfl)
theorem dX9_likes_12 : decode cX9_likes 12 = .ok (.aload_n 0, 1) := dk_42 (dk_at dksX9_likes_0 12 rfl rfl)
theorem dX9_likes_13 : decode cX9_likes 13 = .ok (.getfield 51, 3) := dk_180 0 51 (dk_at dksX9_likes_0 13 rfl rfl)
theorem dX9_likes_16 : decode cX9_likes 16 = .ok (.imul, 1) := dk_104 (dk_at dksX9_likes_0 16 rfl rfl)
theorem dX9_likes_17 : decode cX9_likes 17 = .ok (.iload_n 2, 1) := dk_28 (dk_at dksX9_likes_0 17 rfl rfl)
theorem dX9_likes_18 : decode cX9_likes 18 = .ok (.iadd, 1) := dk_96 (dk_at dksX9_likes_0 18 rfl rfl)
theorem dX9_likes_19 : decode cX9_likes 19 = .ok (.istore 4, 2) := dk_54 4 (dk_at dksX9_likes_0 19 rfl rfl)
theorem dX9_likes_21 : decode cX9_likes 21 = .ok (.aload_n 0, 1) := dk_42 (dk_at dksX9_likes_0 21 rfl rfl)
theorem dX9_likes_22 : decode cX9_likes 22 = .ok (.getfield 67, 3) := dk_180 0 67 (dk_at dksX9_likes_1 0 rfl rfl)
theorem dX9_likes_25 : decode cX9_likes 25 = .ok (.iload_n 3, 1) := dk_29 (dk_at dksX9_likes_1 3 rfl rfl)
theorem dX9_likes_26 : decode cX9_likes 26 = .ok (.iaload, 1) := dk_46 (dk_at dksX9_likes_1 4 rfl rfl)
theorem dX9_likes_27 : decode cX9_likes 27 = .ok (.aload_n 0, 1) := dk_42 (dk_at dksX9_likes_1 5 rfl rfl)
theorem dX9_likes_28 : decode cX9_likes 28 = .ok (.getfield 67, 3) := dk_180 0 67 (dk_at dksX9_likes_1 6 rfl rfl)
theorem dX9_likes_31 : decode cX9_likes 31 = .ok (.iload 4, 2) := dk_21 4 (dk_at dksX9_likes_1 9 rfl rfl)
theorem dX9_likes_33 : decode cX9_likes 33 = .ok (.iaload, 1) := dk_46 (dk_at dksX9_likes_1 11 rfl rfl)
theorem dX9_likes_34 : decode cX9_likes 34 = .ok (.if_icmp .ne 7, 3) := dk_160 0 7 (dk_at dksX9_likes_1 12 rfl rfl)
theorem dX9_likes_37 : decode cX9_likes 37 = .ok (.iconst 2, 1) := dk_5 (dk_at dksX9_likes_1 15 rfl rfl)
theorem dX9_likes_38 : decode cX9_likes 38 = .ok (.goto 4, 3) := dk_167 0 4 (dk_at dksX9_likes_1 16 rfl rfl)
theorem dX9_likes_41 : decode cX9_likes 41 = .ok (.iconst 0, 1) := dk_3 (dk_at dksX9_likes_1 19 rfl rfl)
theorem dX9_likes_42 : decode cX9_likes 42 = .ok (.aload_n 0, 1) := dk_42 (dk_at dksX9_likes_1 20 rfl rfl)
theorem dX9_likes_43 : decode cX9_likes 43 = .ok (.getfield 64, 3) := dk_180 0 64 (dk_at dksX9_likes_1 21 rfl rfl)
theorem dX9_likes_46 : decode cX9_likes 46 = .ok (.iload_n 3, 1) := dk_29 (dk_at dksX9_likes_2 0 rfl rfl)
theorem dX9_likes_47 : decode cX9_likes 47 = .ok (.iaload, 1) := dk_46 (dk_at dksX9_likes_2 1 rfl rfl)
theorem dX9_likes_48 : decode cX9_likes 48 = .ok (.aload_n 0, 1) := dk_42 (dk_at dksX9_likes_2 2 rfl rfl)
theorem dX9_likes_49 : decode cX9_likes 49 = .ok (.getfield 64, 3) := dk_180 0 64 (dk_at dksX9_likes_2 3 rfl rfl)
theorem dX9_likes_52 : decode cX9_likes 52 = .ok (.iload 4, 2) := dk_21 4 (dk_at dksX9_likes_2 6 rfl rfl)
theorem dX9_likes_54 : decode cX9_likes 54 = .ok (.iaload, 1) := dk_46 (dk_at dksX9_likes_2 8 rfl rfl)
theorem dX9_likes_55 : decode cX9_likes 55 = .ok (.if_icmp .ne 7, 3) := dk_160 0 7 (dk_at dksX9_likes_2 9 rfl rfl)
theorem dX9_likes_58 : decode cX9_likes 58 = .ok (.iconst 1, 1) := dk_4 (dk_at dksX9_likes_2 12 rfl rfl)
theorem dX9_likes_59 : decode cX9_likes 59 = .ok (.goto 4, 3) := dk_167 0 4 (dk_at dksX9_likes_2 13 rfl rfl)
theorem dX9_likes_62 : decode cX9_likes 62 = .ok (.iconst 0, 1) := dk_3 (dk_at dksX9_likes_2 16 rfl rfl)
theorem dX9_likes_63 : decode cX9_likes 63 = .ok (.iadd, 1) := dk_96 (dk_at dksX9_likes_2 17 rfl rfl)
theorem dX9_likes_64 : decode cX9_likes 64 = .ok (.aload_n 0, 1) := dk_42 (dk_at dksX9_likes_2 18 rfl rfl)
theorem dX9_likes_65 : decode cX9_likes 65 = .ok (.getfield 61, 3) := dk_180 0 61 (dk_at dksX9_likes_2 19 rfl rfl)
theorem dX9_likes_68 : decode cX9_likes 68 = .ok (.iload_n 3, 1) := dk_29 (dk_at dksX9_likes_2 22 rfl rfl)
theorem dX9_likes_69 : decode cX9_likes 69 = .ok (.iaload, 1) := dk_46 (dk_at dksX9_likes_2 23 rfl rfl)
theorem dX9_likes_70 : decode cX9_likes 70 = .ok (.aload_n 0, 1) := dk_42 (dk_at dksX9_likes_3 0 rfl rfl)
theorem dX9_likes_71 : decode cX9_likes 71 = .ok (.getfield 61, 3) := dk_180 0 61 (dk_at dksX9_likes_3 1 rfl rfl)
theorem dX9_likes_74 : decode cX9_likes 74 = .ok (.iload 4, 2) := dk_21 4 (dk_at dksX9_likes_3 4 rfl rfl)
theorem dX9_likes_76 : decode cX9_likes 76 = .ok (.iaload, 1) := dk_46 (dk_at dksX9_likes_3 6 rfl rfl)
theorem dX9_likes_77 : decode cX9_likes 77 = .ok (.if_icmp .ne 7, 3) := dk_160 0 7 (dk_at dksX9_likes_3 7 rfl rfl)
theorem dX9_likes_80 : decode cX9_likes 80 = .ok (.iconst 1, 1) := dk_4 (dk_at dksX9_likes_3 10 rfl rfl)
theorem dX9_likes_81 : decode cX9_likes 81 = .ok (.goto 4, 3) := dk_167 0 4 (dk_at dksX9_likes_3 11 rfl rfl)
theorem dX9_likes_84 : decode cX9_likes 84 = .ok (.iconst 0, 1) := dk_3 (dk_at dksX9_likes_3 14 rfl rfl)
theorem dX9_likes_85 : decode cX9_likes 85 = .ok (.iadd, 1) := dk_96 (dk_at dksX9_likes_3 15 rfl rfl)
theorem dX9_likes_86 : decode cX9_likes 86 = .ok (.ireturn, 1) := dk_172 (dk_at dksX9_likes_3 16 rfl rfl)
def dkwX9_hears_1 : List UInt8 := [42, 27, 28, 182, 1, 167, 167, 0, 9, 42, 27, 28, 182, 1, 159, 172]
abbrev dktX9_hears_1 : List UInt8 := dkwX9_hears_1 ++ []
def dkwX9_hears_0 : List UInt8 := [42, 27, 182, 1, 164, 153, 0, 11, 42, 28, 182, 1, 153, 154, 0, 7, 2, 167, 0, 22, 29, 153, 0, 12]
abbrev dktX9_hears_0 : List UInt8 := dkwX9_hears_0 ++ dktX9_hears_1
theorem dksX9_hears_0 : cX9_hears.data.toList.drop 0 = dktX9_hears_0 := by decide +kernel
theorem dksX9_hears_1 : cX9_hears.data.toList.drop 24 = dktX9_hears_1 := dk_seg dksX9_hears_0 24 rfl rfl
theorem dX9_hears_0 : decode cX9_hears 0 = .ok (.aload_n 0, 1) := dk_42 (dk_at dksX9_hears_0 0 rfl rfl)
theorem dX9_hears_1 : decode cX9_hears 1 = .ok (.iload_n 1, 1) := dk_27 (dk_at dksX9_hears_0 1 rfl rfl)
theorem dX9_hears_2 : decode cX9_hears 2 = .ok (.invokevirtual 420, 3) := dk_182 1 164 (dk_at dksX9_hears_0 2 rfl rfl)
theorem dX9_hears_5 : decode cX9_hears 5 = .ok (.ifCond .eq 11, 3) := dk_153 0 11 (dk_at dksX9_hears_0 5 rfl rfl)
theorem dX9_hears_8 : decode cX9_hears 8 = .ok (.aload_n 0, 1) := dk_42 (dk_at dksX9_hears_0 8 rfl rfl)
theorem dX9_hears_9 : decode cX9_hears 9 = .ok (.iload_n 2, 1) := dk_28 (dk_at dksX9_hears_0 9 rfl rfl)
theorem dX9_hears_10 : decode cX9_hears 10 = .ok (.invokevirtual 409, 3) := dk_182 1 153 (dk_at dksX9_hears_0 10 rfl rfl)
theorem dX9_hears_13 : decode cX9_hears 13 = .ok (.ifCond .ne 7, 3) := dk_154 0 7 (dk_at dksX9_hears_0 13 rfl rfl)
theorem dX9_hears_16 : decode cX9_hears 16 = .ok (.iconst (-1), 1) := dk_2 (dk_at dksX9_hears_0 16 rfl rfl)
theorem dX9_hears_17 : decode cX9_hears 17 = .ok (.goto 22, 3) := dk_167 0 22 (dk_at dksX9_hears_0 17 rfl rfl)
theorem dX9_hears_20 : decode cX9_hears 20 = .ok (.iload_n 3, 1) := dk_29 (dk_at dksX9_hears_0 20 rfl rfl)
theorem dX9_hears_21 : decode cX9_hears 21 = .ok (.ifCond .eq 12, 3) := dk_153 0 12 (dk_at dksX9_hears_0 21 rfl rfl)
theorem dX9_hears_24 : decode cX9_hears 24 = .ok (.aload_n 0, 1) := dk_42 (dk_at dksX9_hears_1 0 rfl rfl)
theorem dX9_hears_25 : decode cX9_hears 25 = .ok (.iload_n 1, 1) := dk_27 (dk_at dksX9_hears_1 1 rfl rfl)
theorem dX9_hears_26 : decode cX9_hears 26 = .ok (.iload_n 2, 1) := dk_28 (dk_at dksX9_hears_1 2 rfl rfl)
theorem dX9_hears_27 : decode cX9_hears 27 = .ok (.invokevirtual 423, 3) := dk_182 1 167 (dk_at dksX9_hears_1 3 rfl rfl)
theorem dX9_hears_30 : decode cX9_hears 30 = .ok (.goto 9, 3) := dk_167 0 9 (dk_at dksX9_hears_1 6 rfl rfl)
theorem dX9_hears_33 : decode cX9_hears 33 = .ok (.aload_n 0, 1) := dk_42 (dk_at dksX9_hears_1 9 rfl rfl)
theorem dX9_hears_34 : decode cX9_hears 34 = .ok (.iload_n 1, 1) := dk_27 (dk_at dksX9_hears_1 10 rfl rfl)
theorem dX9_hears_35 : decode cX9_hears 35 = .ok (.iload_n 2, 1) := dk_28 (dk_at dksX9_hears_1 11 rfl rfl)
theorem dX9_hears_36 : decode cX9_hears 36 = .ok (.invokevirtual 415, 3) := dk_182 1 159 (dk_at dksX9_hears_1 12 rfl rfl)
theorem dX9_hears_39 : decode cX9_hears 39 = .ok (.ireturn, 1) := dk_172 (dk_at dksX9_hears_1 15 rfl rfl)
def dkwX9_isChild_0 : List UInt8 := [27, 155, 0, 20, 27, 42, 180, 0, 85, 42, 180, 0, 51, 46, 162, 0, 7, 4, 167, 0, 4, 3, 172]
abbrev dktX9_isChild_0 : List UInt8 := dkwX9_isChild_0 ++ []
theorem dksX9_isChild_0 : cX9_isChild.data.toList.drop 0 = dktX9_isChild_0 := by decide +kernel
theorem dX9_isChild_0 : decode cX9_isChild 0 = .ok (.iload_n 1, 1) := dk_27 (dk_at dksX9_isChild_0 0 rfl rfl)
theorem dX9_isChild_1 : decode cX9_isChild 1 = .ok (.ifCond .lt 20, 3) := dk_155 0 20 (dk_at dksX9_isChild_0 1 rfl rfl)
theorem dX9_isChild_4 : decode cX9_isChild 4 = .ok (.iload_n 1, 1) := dk_27 (dk_at dksX9_isChild_0 4 rfl rfl)
theorem dX9_isChild_5 : decode cX9_isChild 5 = .ok (.aload_n 0, 1) := dk_42 (dk_at dksX9_isChild_0 5 rfl rfl)
theorem dX9_isChild_6 : decode cX9_isChild 6 = .ok (.getfield 85, 3) := dk_180 0 85 (dk_at dksX9_isChild_0 6 rfl rfl)
theorem dX9_isChild_9 : decode cX9_isChild 9 = .ok (.aload_n 0, 1) := dk_42 (dk_at dksX9_isChild_0 9 rfl rfl)
theorem dX9_isChild_10 : decode cX9_isChild 10 = .ok (.getfield 51, 3) := dk_180 0 51 (dk_at dksX9_isChild_0 10 rfl rfl)
theorem dX9_isChild_13 : decode cX9_isChild 13 = .ok (.iaload, 1) := dk_46 (dk_at dksX9_isChild_0 13 rfl rfl)
theorem dX9_isChild_14 : decode cX9_isChild 14 = .ok (.if_icmp .ge 7, 3) := dk_162 0 7 (dk_at dksX9_isChild_0 14 rfl rfl)
theorem dX9_isChild_17 : decode cX9_isChild 17 = .ok (.iconst 1, 1) := dk_4 (dk_at dksX9_isChild_0 17 rfl rfl)
theorem dX9_isChild_18 : decode cX9_isChild 18 = .ok (.goto 4, 3) := dk_167 0 4 (dk_at dksX9_isChild_0 18 rfl rfl)
theorem dX9_isChild_21 : decode cX9_isChild 21 = .ok (.iconst 0, 1) := dk_3 (dk_at dksX9_isChild_0 21 rfl rfl)
theorem dX9_isChild_22 : decode cX9_isChild 22 = .ok (.ireturn, 1) := dk_172 (dk_at dksX9_isChild_0 22 rfl rfl)
def dkwX9_saidBy_4 : List UInt8 := [167, 255, 201, 21, 4, 172]
abbrev dktX9_saidBy_4 : List UInt8 := dkwX9_saidBy_4 ++ []
def dkwX9_saidBy_3 : List UInt8 := [21, 5, 163, 0, 6, 167, 0, 16, 21, 6, 54, 4, 42, 21, 6, 29, 182, 1, 156, 54, 5, 132, 6, 1]
abbrev dktX9_saidBy_3 : List UInt8 := dkwX9_saidBy_3 ++ dktX9_saidBy_4
def dkwX9_saidBy_2 : List UInt8 := [180, 0, 51, 46, 162, 0, 47, 42, 27, 21, 6, 182, 1, 162, 153, 0, 31, 42, 21, 6, 29, 182, 1, 156]
abbrev dktX9_saidBy_2 : List UInt8 := dkwX9_saidBy_2 ++ dktX9_saidBy_3
def dkwX9_saidBy_1 : List UInt8 := [180, 0, 121, 42, 180, 0, 51, 46, 4, 100, 54, 5, 3, 54, 6, 21, 6, 42, 180, 0, 54, 42]
abbrev dktX9_saidBy_1 : List UInt8 := dkwX9_saidBy_1 ++ dktX9_saidBy_2
def dkwX9_saidBy_0 : List UInt8 := [42, 27, 28, 182, 1, 159, 62, 42, 27, 29, 182, 1, 162, 153, 0, 5, 29, 172, 29, 54, 4, 42]
abbrev dktX9_saidBy_0 : List UInt8 := dkwX9_saidBy_0 ++ dktX9_saidBy_1
theorem dksX9_saidBy_0 : cX9_saidBy.data.toList.drop 0 = dktX9_saidBy_0 := by decide +kernel
theorem dksX9_saidBy_1 : cX9_saidBy.data.toList.drop 22 = dktX9_saidBy_1 := dk_seg dksX9_saidBy_0 22 rfl rfl
theorem dksX9_saidBy_2 : cX9_saidBy.data.toList.drop 44 = dktX9_saidBy_2 := dk_seg dksX9_saidBy_1 22 rfl rfl
theorem dksX9_saidBy_3 : cX9_saidBy.data.toList.drop 68 = dktX9_saidBy_3 := dk_seg dksX9_saidBy_2 24 rfl rfl
theorem dksX9_saidBy_4 : cX9_saidBy.data.toList.drop 92 = dktX9_saidBy_4 := dk_seg dksX9_saidBy_3 24 rfl rfl
theorem dX9_saidBy_0 : decode cX9_saidBy 0 = .ok (.aload_n 0, 1) := dk_42 (dk_at dksX9_saidBy_0 0 rfl rfl)
theorem dX9_saidBy_1 : decode cX9_saidBy 1 = .ok (.iload_n 1, 1) := dk_27 (dk_at dksX9_saidBy_0 1 rfl rfl)
theorem dX9_saidBy_2 : decode cX9_saidBy 2 = .ok (.iload_n 2, 1) := dk_28 (dk_at dksX9_saidBy_0 2 rfl rfl)
theorem dX9_saidBy_3 : decode cX9_saidBy 3 = .ok (.invokevirtual 415, 3) := dk_182 1 159 (dk_at dksX9_saidBy_0 3 rfl rfl)
theorem dX9_saidBy_6 : decode cX9_saidBy 6 = .ok (.istore_n 3, 1) := dk_62 (dk_at dksX9_saidBy_0 6 rfl rfl)
theorem dX9_saidBy_7 : decode cX9_saidBy 7 = .ok (.aload_n 0, 1) := dk_42 (dk_at dksX9_saidBy_0 7 rfl rfl)
theorem dX9_saidBy_8 : decode cX9_saidBy 8 = .ok (.iload_n 1, 1) := dk_27 (dk_at dksX9_saidBy_0 8 rfl rfl)
theorem dX9_saidBy_9 : decode cX9_saidBy 9 = .ok (.iload_n 3, 1) := dk_29 (dk_at dksX9_saidBy_0 9 rfl rfl)
theorem dX9_saidBy_10 : decode cX9_saidBy 10 = .ok (.invokevirtual 418, 3) := dk_182 1 162 (dk_at dksX9_saidBy_0 10 rfl rfl)
theorem dX9_saidBy_13 : decode cX9_saidBy 13 = .ok (.ifCond .eq 5, 3) := dk_153 0 5 (dk_at dksX9_saidBy_0 13 rfl rfl)
theorem dX9_saidBy_16 : decode cX9_saidBy 16 = .ok (.iload_n 3, 1) := dk_29 (dk_at dksX9_saidBy_0 16 rfl rfl)
theorem dX9_saidBy_17 : decode cX9_saidBy 17 = .ok (.ireturn, 1) := dk_172 (dk_at dksX9_saidBy_0 17 rfl rfl)
theorem dX9_saidBy_18 : decode cX9_saidBy 18 = .ok (.iload_n 3, 1) := dk_29 (dk_at dksX9_saidBy_0 18 rfl rfl)
theorem dX9_saidBy_19 : decode cX9_saidBy 19 = .ok (.istore 4, 2) := dk_54 4 (dk_at dksX9_saidBy_0 19 rfl rfl)
theorem dX9_saidBy_21 : decode cX9_saidBy 21 = .ok (.aload_n 0, 1) := dk_42 (dk_at dksX9_saidBy_0 21 rfl rfl)
theorem dX9_saidBy_22 : decode cX9_saidBy 22 = .ok (.getfield 121, 3) := dk_180 0 121 (dk_at dksX9_saidBy_1 0 rfl rfl)
theorem dX9_saidBy_25 : decode cX9_saidBy 25 = .ok (.aload_n 0, 1) := dk_42 (dk_at dksX9_saidBy_1 3 rfl rfl)
theorem dX9_saidBy_26 : decode cX9_saidBy 26 = .ok (.getfield 51, 3) := dk_180 0 51 (dk_at dksX9_saidBy_1 4 rfl rfl)
theorem dX9_saidBy_29 : decode cX9_saidBy 29 = .ok (.iaload, 1) := dk_46 (dk_at dksX9_saidBy_1 7 rfl rfl)
theorem dX9_saidBy_30 : decode cX9_saidBy 30 = .ok (.iconst 1, 1) := dk_4 (dk_at dksX9_saidBy_1 8 rfl rfl)
theorem dX9_saidBy_31 : decode cX9_saidBy 31 = .ok (.isub, 1) := dk_100 (dk_at dksX9_saidBy_1 9 rfl rfl)
theorem dX9_saidBy_32 : decode cX9_saidBy 32 = .ok (.istore 5, 2) := dk_54 5 (dk_at dksX9_saidBy_1 10 rfl rfl)
theorem dX9_saidBy_34 : decode cX9_saidBy 34 = .ok (.iconst 0, 1) := dk_3 (dk_at dksX9_saidBy_1 12 rfl rfl)
theorem dX9_saidBy_35 : decode cX9_saidBy 35 = .ok (.istore 6, 2) := dk_54 6 (dk_at dksX9_saidBy_1 13 rfl rfl)
theorem dX9_saidBy_37 : decode cX9_saidBy 37 = .ok (.iload 6, 2) := dk_21 6 (dk_at dksX9_saidBy_1 15 rfl rfl)
theorem dX9_saidBy_39 : decode cX9_saidBy 39 = .ok (.aload_n 0, 1) := dk_42 (dk_at dksX9_saidBy_1 17 rfl rfl)
theorem dX9_saidBy_40 : decode cX9_saidBy 40 = .ok (.getfield 54, 3) := dk_180 0 54 (dk_at dksX9_saidBy_1 18 rfl rfl)
theorem dX9_saidBy_43 : decode cX9_saidBy 43 = .ok (.aload_n 0, 1) := dk_42 (dk_at dksX9_saidBy_1 21 rfl rfl)
theorem dX9_saidBy_44 : decode cX9_saidBy 44 = .ok (.getfield 51, 3) := dk_180 0 51 (dk_at dksX9_saidBy_2 0 rfl rfl)
theorem dX9_saidBy_47 : decode cX9_saidBy 47 = .ok (.iaload, 1) := dk_46 (dk_at dksX9_saidBy_2 3 rfl rfl)
theorem dX9_saidBy_48 : decode cX9_saidBy 48 = .ok (.if_icmp .ge 47, 3) := dk_162 0 47 (dk_at dksX9_saidBy_2 4 rfl rfl)
theorem dX9_saidBy_51 : decode cX9_saidBy 51 = .ok (.aload_n 0, 1) := dk_42 (dk_at dksX9_saidBy_2 7 rfl rfl)
theorem dX9_saidBy_52 : decode cX9_saidBy 52 = .ok (.iload_n 1, 1) := dk_27 (dk_at dksX9_saidBy_2 8 rfl rfl)
theorem dX9_saidBy_53 : decode cX9_saidBy 53 = .ok (.iload 6, 2) := dk_21 6 (dk_at dksX9_saidBy_2 9 rfl rfl)
theorem dX9_saidBy_55 : decode cX9_saidBy 55 = .ok (.invokevirtual 418, 3) := dk_182 1 162 (dk_at dksX9_saidBy_2 11 rfl rfl)
theorem dX9_saidBy_58 : decode cX9_saidBy 58 = .ok (.ifCond .eq 31, 3) := dk_153 0 31 (dk_at dksX9_saidBy_2 14 rfl rfl)
theorem dX9_saidBy_61 : decode cX9_saidBy 61 = .ok (.aload_n 0, 1) := dk_42 (dk_at dksX9_saidBy_2 17 rfl rfl)
theorem dX9_saidBy_62 : decode cX9_saidBy 62 = .ok (.iload 6, 2) := dk_21 6 (dk_at dksX9_saidBy_2 18 rfl rfl)
theorem dX9_saidBy_64 : decode cX9_saidBy 64 = .ok (.iload_n 3, 1) := dk_29 (dk_at dksX9_saidBy_2 20 rfl rfl)
theorem dX9_saidBy_65 : decode cX9_saidBy 65 = .ok (.invokevirtual 412, 3) := dk_182 1 156 (dk_at dksX9_saidBy_2 21 rfl rfl)
theorem dX9_saidBy_68 : decode cX9_saidBy 68 = .ok (.iload 5, 2) := dk_21 5 (dk_at dksX9_saidBy_3 0 rfl rfl)
theorem dX9_saidBy_70 : decode cX9_saidBy 70 = .ok (.if_icmp .gt 6, 3) := dk_163 0 6 (dk_at dksX9_saidBy_3 2 rfl rfl)
theorem dX9_saidBy_73 : decode cX9_saidBy 73 = .ok (.goto 16, 3) := dk_167 0 16 (dk_at dksX9_saidBy_3 5 rfl rfl)
theorem dX9_saidBy_76 : decode cX9_saidBy 76 = .ok (.iload 6, 2) := dk_21 6 (dk_at dksX9_saidBy_3 8 rfl rfl)
theorem dX9_saidBy_78 : decode cX9_saidBy 78 = .ok (.istore 4, 2) := dk_54 4 (dk_at dksX9_saidBy_3 10 rfl rfl)
theorem dX9_saidBy_80 : decode cX9_saidBy 80 = .ok (.aload_n 0, 1) := dk_42 (dk_at dksX9_saidBy_3 12 rfl rfl)
theorem dX9_saidBy_81 : decode cX9_saidBy 81 = .ok (.iload 6, 2) := dk_21 6 (dk_at dksX9_saidBy_3 13 rfl rfl)
theorem dX9_saidBy_83 : decode cX9_saidBy 83 = .ok (.iload_n 3, 1) := dk_29 (dk_at dksX9_saidBy_3 15 rfl rfl)
theorem dX9_saidBy_84 : decode cX9_saidBy 84 = .ok (.invokevirtual 412, 3) := dk_182 1 156 (dk_at dksX9_saidBy_3 16 rfl rfl)
theorem dX9_saidBy_87 : decode cX9_saidBy 87 = .ok (.istore 5, 2) := dk_54 5 (dk_at dksX9_saidBy_3 19 rfl rfl)
theorem dX9_saidBy_89 : decode cX9_saidBy 89 = .ok (.iinc 6 1, 3) := dk_132 6 1 (dk_at dksX9_saidBy_3 21 rfl rfl)
theorem dX9_saidBy_92 : decode cX9_saidBy 92 = .ok (.goto (-55), 3) := dk_167 255 201 (dk_at dksX9_saidBy_4 0 rfl rfl)
theorem dX9_saidBy_95 : decode cX9_saidBy 95 = .ok (.iload 4, 2) := dk_21 4 (dk_at dksX9_saidBy_4 3 rfl rfl)
theorem dX9_saidBy_97 : decode cX9_saidBy 97 = .ok (.ireturn, 1) := dk_172 (dk_at dksX9_saidBy_4 5 rfl rfl)
def dkwX9_heardBy_1 : List UInt8 := [27, 96, 46, 96, 104, 28, 96, 46, 62, 29, 2, 160, 0, 7, 28, 167, 0, 4, 29, 172]
abbrev dktX9_heardBy_1 : List UInt8 := dkwX9_heardBy_1 ++ []
def dkwX9_heardBy_0 : List UInt8 := [42, 180, 0, 82, 16, 24, 16, 6, 42, 180, 0, 51, 104, 42, 180, 0, 91, 16, 10, 42, 180, 0, 51, 104]
abbrev dktX9_heardBy_0 : List UInt8 := dkwX9_heardBy_0 ++ dktX9_heardBy_1
theorem dksX9_heardBy_0 : cX9_heardBy.data.toList.drop 0 = dktX9_heardBy_0 := by decide +kernel
theorem dksX9_heardBy_1 : cX9_heardBy.data.toList.drop 24 = dktX9_heardBy_1 := dk_seg dksX9_heardBy_0 24 rfl rfl
theorem dX9_heardBy_0 : decode cX9_heardBy 0 = .ok (.aload_n 0, 1) := dk_42 (dk_at dksX9_heardBy_0 0 rfl rfl)
theorem dX9_heardBy_1 : decode cX9_heardBy 1 = .ok (.getfield 82, 3) := dk_180 0 82 (dk_at dksX9_heardBy_0 1 rfl rfl)
theorem dX9_heardBy_4 : decode cX9_heardBy 4 = .ok (.bipush 24, 2) := dk_16 24 (dk_at dksX9_heardBy_0 4 rfl rfl)
theorem dX9_heardBy_6 : decode cX9_heardBy 6 = .ok (.bipush 6, 2) := dk_16 6 (dk_at dksX9_heardBy_0 6 rfl rfl)
theorem dX9_heardBy_8 : decode cX9_heardBy 8 = .ok (.aload_n 0, 1) := dk_42 (dk_at dksX9_heardBy_0 8 rfl rfl)
theorem dX9_heardBy_9 : decode cX9_heardBy 9 = .ok (.getfield 51, 3) := dk_180 0 51 (dk_at dksX9_heardBy_0 9 rfl rfl)
theorem dX9_heardBy_12 : decode cX9_heardBy 12 = .ok (.imul, 1) := dk_104 (dk_at dksX9_heardBy_0 12 rfl rfl)
theorem dX9_heardBy_13 : decode cX9_heardBy 13 = .ok (.aload_n 0, 1) := dk_42 (dk_at dksX9_heardBy_0 13 rfl rfl)
theorem dX9_heardBy_14 : decode cX9_heardBy 14 = .ok (.getfield 91, 3) := dk_180 0 91 (dk_at dksX9_heardBy_0 14 rfl rfl)
theorem dX9_heardBy_17 : decode cX9_heardBy 17 = .ok (.bipush 10, 2) := dk_16 10 (dk_at dksX9_heardBy_0 17 rfl rfl)
theorem dX9_heardBy_19 : decode cX9_heardBy 19 = .ok (.aload_n 0, 1) := dk_42 (dk_at dksX9_heardBy_0 19 rfl rfl)
theorem dX9_heardBy_20 : decode cX9_heardBy 20 = .ok (.getfield 51, 3) := dk_180 0 51 (dk_at dksX9_heardBy_0 20 rfl rfl)
theorem dX9_heardBy_23 : decode cX9_heardBy 23 = .ok (.imul, 1) := dk_104 (dk_at dksX9_heardBy_0 23 rfl rfl)
theorem dX9_heardBy_24 : decode cX9_heardBy 24 = .ok (.iload_n 1, 1) := dk_27 (dk_at dksX9_heardBy_1 0 rfl rfl)
theorem dX9_heardBy_25 : decode cX9_heardBy 25 = .ok (.iadd, 1) := dk_96 (dk_at dksX9_heardBy_1 1 rfl rfl)
theorem dX9_heardBy_26 : decode cX9_heardBy 26 = .ok (.iaload, 1) := dk_46 (dk_at dksX9_heardBy_1 2 rfl rfl)
theorem dX9_heardBy_27 : decode cX9_heardBy 27 = .ok (.iadd, 1) := dk_96 (dk_at dksX9_heardBy_1 3 rfl rfl)
theorem dX9_heardBy_28 : decode cX9_heardBy 28 = .ok (.imul, 1) := dk_104 (dk_at dksX9_heardBy_1 4 rfl rfl)
theorem dX9_heardBy_29 : decode cX9_heardBy 29 = .ok (.iload_n 2, 1) := dk_28 (dk_at dksX9_heardBy_1 5 rfl rfl)
theorem dX9_heardBy_30 : decode cX9_heardBy 30 = .ok (.iadd, 1) := dk_96 (dk_at dksX9_heardBy_1 6 rfl rfl)
theorem dX9_heardBy_31 : decode cX9_heardBy 31 = .ok (.iaload, 1) := dk_46 (dk_at dksX9_heardBy_1 7 rfl rfl)
theorem dX9_heardBy_32 : decode cX9_heardBy 32 = .ok (.istore_n 3, 1) := dk_62 (dk_at dksX9_heardBy_1 8 rfl rfl)
theorem dX9_heardBy_33 : decode cX9_heardBy 33 = .ok (.iload_n 3, 1) := dk_29 (dk_at dksX9_heardBy_1 9 rfl rfl)
theorem dX9_heardBy_34 : decode cX9_heardBy 34 = .ok (.iconst (-1), 1) := dk_2 (dk_at dksX9_heardBy_1 10 rfl rfl)
theorem dX9_heardBy_35 : decode cX9_heardBy 35 = .ok (.if_icmp .ne 7, 3) := dk_160 0 7 (dk_at dksX9_heardBy_1 11 rfl rfl)
theorem dX9_heardBy_38 : decode cX9_heardBy 38 = .ok (.iload_n 2, 1) := dk_28 (dk_at dksX9_heardBy_1 14 rfl rfl)
theorem dX9_heardBy_39 : decode cX9_heardBy 39 = .ok (.goto 4, 3) := dk_167 0 4 (dk_at dksX9_heardBy_1 15 rfl rfl)
theorem dX9_heardBy_42 : decode cX9_heardBy 42 = .ok (.iload_n 3, 1) := dk_29 (dk_at dksX9_heardBy_1 18 rfl rfl)
theorem dX9_heardBy_43 : decode cX9_heardBy 43 = .ok (.ireturn, 1) := dk_172 (dk_at dksX9_heardBy_1 19 rfl rfl)
def dkwX9_knows_1 : List UInt8 := [167, 0, 4, 3, 172]
abbrev dktX9_knows_1 : List UInt8 := dkwX9_knows_1 ++ []
def dkwX9_knows_0 : List UInt8 := [42, 180, 0, 97, 16, 24, 16, 10, 42, 180, 0, 51, 104, 27, 96, 104, 28, 96, 46, 4, 160, 0, 7, 4]
abbrev dktX9_knows_0 : List UInt8 := dkwX9_knows_0 ++ dktX9_knows_1
theorem dksX9_knows_0 : cX9_knows.data.toList.drop 0 = dktX9_knows_0 := by decide +kernel
theorem dksX9_knows_1 : cX9_knows.data.toList.drop 24 = dktX9_knows_1 := dk_seg dksX9_knows_0 24 rfl rfl
theorem dX9_knows_0 : decode cX9_knows 0 = .ok (.aload_n 0, 1) := dk_42 (dk_at dksX9_knows_0 0 rfl rfl)
theorem dX9_knows_1 : decode cX9_knows 1 = .ok (.getfield 97, 3) := dk_180 0 97 (dk_at dksX9_knows_0 1 rfl rfl)
theorem dX9_knows_4 : decode cX9_knows 4 = .ok (.bipush 24, 2) := dk_16 24 (dk_at dksX9_knows_0 4 rfl rfl)
theorem dX9_knows_6 : decode cX9_knows 6 = .ok (.bipush 10, 2) := dk_16 10 (dk_at dksX9_knows_0 6 rfl rfl)
theorem dX9_knows_8 : decode cX9_knows 8 = .ok (.aload_n 0, 1) := dk_42 (dk_at dksX9_knows_0 8 rfl rfl)
theorem dX9_knows_9 : decode cX9_knows 9 = .ok (.getfield 51, 3) := dk_180 0 51 (dk_at dksX9_knows_0 9 rfl rfl)
theorem dX9_knows_12 : decode cX9_knows 12 = .ok (.imul, 1) := dk_104 (dk_at dksX9_knows_0 12 rfl rfl)
theorem dX9_knows_13 : decode cX9_knows 13 = .ok (.iload_n 1, 1) := dk_27 (dk_at dksX9_knows_0 13 rfl rfl)
theorem dX9_knows_14 : decode cX9_knows 14 = .ok (.iadd, 1) := dk_96 (dk_at dksX9_knows_0 14 rfl rfl)
theorem dX9_knows_15 : decode cX9_knows 15 = .ok (.imul, 1) := dk_104 (dk_at dksX9_knows_0 15 rfl rfl)
theorem dX9_knows_16 : decode cX9_knows 16 = .ok (.iload_n 2, 1) := dk_28 (dk_at dksX9_knows_0 16 rfl rfl)
theorem dX9_knows_17 : decode cX9_knows 17 = .ok (.iadd, 1) := dk_96 (dk_at dksX9_knows_0 17 rfl rfl)
theorem dX9_knows_18 : decode cX9_knows 18 = .ok (.iaload, 1) := dk_46 (dk_at dksX9_knows_0 18 rfl rfl)
theorem dX9_knows_19 : decode cX9_knows 19 = .ok (.iconst 1, 1) := dk_4 (dk_at dksX9_knows_0 19 rfl rfl)
theorem dX9_knows_20 : decode cX9_knows 20 = .ok (.if_icmp .ne 7, 3) := dk_160 0 7 (dk_at dksX9_knows_0 20 rfl rfl)
theorem dX9_knows_23 : decode cX9_knows 23 = .ok (.iconst 1, 1) := dk_4 (dk_at dksX9_knows_0 23 rfl rfl)
theorem dX9_knows_24 : decode cX9_knows 24 = .ok (.goto 4, 3) := dk_167 0 4 (dk_at dksX9_knows_1 0 rfl rfl)
theorem dX9_knows_27 : decode cX9_knows 27 = .ok (.iconst 0, 1) := dk_3 (dk_at dksX9_knows_1 3 rfl rfl)
theorem dX9_knows_28 : decode cX9_knows 28 = .ok (.ireturn, 1) := dk_172 (dk_at dksX9_knows_1 4 rfl rfl)
def dkwX9_says_3 : List UInt8 := [184, 1, 68, 153, 0, 12, 42, 180, 0, 188, 29, 46, 167, 0, 4, 2, 172]
abbrev dktX9_says_3 : List UInt8 := dkwX9_says_3 ++ []
def dkwX9_says_2 : List UInt8 := [180, 0, 191, 42, 180, 0, 194, 96, 167, 0, 32, 29, 3, 42, 180, 0, 191, 42, 180, 0, 194, 96, 4, 100]
abbrev dktX9_says_2 : List UInt8 := dkwX9_says_2 ++ dktX9_says_3
def dkwX9_says_1 : List UInt8 := [42, 27, 182, 1, 179, 29, 2, 160, 0, 10, 42, 180, 0, 197, 167, 0, 50, 29, 16, 20, 160, 0, 15, 42]
abbrev dktX9_says_1 : List UInt8 := dkwX9_says_1 ++ dktX9_says_2
def dkwX9_says_0 : List UInt8 := [42, 27, 182, 1, 164, 153, 0, 11, 42, 28, 182, 1, 173, 154, 0, 5, 2, 172, 42, 3, 28, 182, 1, 176]
abbrev dktX9_says_0 : List UInt8 := dkwX9_says_0 ++ dktX9_says_1
theorem dksX9_says_0 : cX9_says.data.toList.drop 0 = dktX9_says_0 := by decide +kernel
theorem dksX9_says_1 : cX9_says.data.toList.drop 24 = dktX9_says_1 := dk_seg dksX9_says_0 24 rfl rfl
theorem dksX9_says_2 : cX9_says.data.toList.drop 48 = dktX9_says_2 := dk_seg dksX9_says_1 24 rfl rfl
theorem dksX9_says_3 : cX9_says.data.toList.drop 72 = dktX9_says_3 := dk_seg dksX9_says_2 24 rfl rfl
theorem dX9_says_0 : decode cX9_says 0 = .ok (.aload_n 0, 1) := dk_42 (dk_at dksX9_says_0 0 rfl rfl)
theorem dX9_says_1 : decode cX9_says 1 = .ok (.iload_n 1, 1) := dk_27 (dk_at dksX9_says_0 1 rfl rfl)
theorem dX9_says_2 : decode cX9_says 2 = .ok (.invokevirtual 420, 3) := dk_182 1 164 (dk_at dksX9_says_0 2 rfl rfl)
theorem dX9_says_5 : decode cX9_says 5 = .ok (.ifCond .eq 11, 3) := dk_153 0 11 (dk_at dksX9_says_0 5 rfl rfl)
theorem dX9_says_8 : decode cX9_says 8 = .ok (.aload_n 0, 1) := dk_42 (dk_at dksX9_says_0 8 rfl rfl)
theorem dX9_says_9 : decode cX9_says 9 = .ok (.iload_n 2, 1) := dk_28 (dk_at dksX9_says_0 9 rfl rfl)
theorem dX9_says_10 : decode cX9_says 10 = .ok (.invokevirtual 429, 3) := dk_182 1 173 (dk_at dksX9_says_0 10 rfl rfl)
theorem dX9_says_13 : decode cX9_says 13 = .ok (.ifCond .ne 5, 3) := dk_154 0 5 (dk_at dksX9_says_0 13 rfl rfl)
theorem dX9_says_16 : decode cX9_says 16 = .ok (.iconst (-1), 1) := dk_2 (dk_at dksX9_says_0 16 rfl rfl)
theorem dX9_says_17 : decode cX9_says 17 = .ok (.ireturn, 1) := dk_172 (dk_at dksX9_says_0 17 rfl rfl)
theorem dX9_says_18 : decode cX9_says 18 = .ok (.aload_n 0, 1) := dk_42 (dk_at dksX9_says_0 18 rfl rfl)
theorem dX9_says_19 : decode cX9_says 19 = .ok (.iconst 0, 1) := dk_3 (dk_at dksX9_says_0 19 rfl rfl)
theorem dX9_says_20 : decode cX9_says 20 = .ok (.iload_n 2, 1) := dk_28 (dk_at dksX9_says_0 20 rfl rfl)
theorem dX9_says_21 : decode cX9_says 21 = .ok (.invokevirtual 432, 3) := dk_182 1 176 (dk_at dksX9_says_0 21 rfl rfl)
theorem dX9_says_24 : decode cX9_says 24 = .ok (.aload_n 0, 1) := dk_42 (dk_at dksX9_says_1 0 rfl rfl)
theorem dX9_says_25 : decode cX9_says 25 = .ok (.iload_n 1, 1) := dk_27 (dk_at dksX9_says_1 1 rfl rfl)
theorem dX9_says_26 : decode cX9_says 26 = .ok (.invokevirtual 435, 3) := dk_182 1 179 (dk_at dksX9_says_1 2 rfl rfl)
theorem dX9_says_29 : decode cX9_says 29 = .ok (.iload_n 3, 1) := dk_29 (dk_at dksX9_says_1 5 rfl rfl)
theorem dX9_says_30 : decode cX9_says 30 = .ok (.iconst (-1), 1) := dk_2 (dk_at dksX9_says_1 6 rfl rfl)
theorem dX9_says_31 : decode cX9_says 31 = .ok (.if_icmp .ne 10, 3) := dk_160 0 10 (dk_at dksX9_says_1 7 rfl rfl)
theorem dX9_says_34 : decode cX9_says 34 = .ok (.aload_n 0, 1) := dk_42 (dk_at dksX9_says_1 10 rfl rfl)
theorem dX9_says_35 : decode cX9_says 35 = .ok (.getfield 197, 3) := dk_180 0 197 (dk_at dksX9_says_1 11 rfl rfl)
theorem dX9_says_38 : decode cX9_says 38 = .ok (.goto 50, 3) := dk_167 0 50 (dk_at dksX9_says_1 14 rfl rfl)
theorem dX9_says_41 : decode cX9_says 41 = .ok (.iload_n 3, 1) := dk_29 (dk_at dksX9_says_1 17 rfl rfl)
theorem dX9_says_42 : decode cX9_says 42 = .ok (.bipush 20, 2) := dk_16 20 (dk_at dksX9_says_1 18 rfl rfl)
theorem dX9_says_44 : decode cX9_says 44 = .ok (.if_icmp .ne 15, 3) := dk_160 0 15 (dk_at dksX9_says_1 20 rfl rfl)
theorem dX9_says_47 : decode cX9_says 47 = .ok (.aload_n 0, 1) := dk_42 (dk_at dksX9_says_1 23 rfl rfl)
theorem dX9_says_48 : decode cX9_says 48 = .ok (.getfield 191, 3) := dk_180 0 191 (dk_at dksX9_says_2 0 rfl rfl)
theorem dX9_says_51 : decode cX9_says 51 = .ok (.aload_n 0, 1) := dk_42 (dk_at dksX9_says_2 3 rfl rfl)
theorem dX9_says_52 : decode cX9_says 52 = .ok (.getfield 194, 3) := dk_180 0 194 (dk_at dksX9_says_2 4 rfl rfl)
theorem dX9_says_55 : decode cX9_says 55 = .ok (.iadd, 1) := dk_96 (dk_at dksX9_says_2 7 rfl rfl)
theorem dX9_says_56 : decode cX9_says 56 = .ok (.goto 32, 3) := dk_167 0 32 (dk_at dksX9_says_2 8 rfl rfl)
theorem dX9_says_59 : decode cX9_says 59 = .ok (.iload_n 3, 1) := dk_29 (dk_at dksX9_says_2 11 rfl rfl)
theorem dX9_says_60 : decode cX9_says 60 = .ok (.iconst 0, 1) := dk_3 (dk_at dksX9_says_2 12 rfl rfl)
theorem dX9_says_61 : decode cX9_says 61 = .ok (.aload_n 0, 1) := dk_42 (dk_at dksX9_says_2 13 rfl rfl)
theorem dX9_says_62 : decode cX9_says 62 = .ok (.getfield 191, 3) := dk_180 0 191 (dk_at dksX9_says_2 14 rfl rfl)
theorem dX9_says_65 : decode cX9_says 65 = .ok (.aload_n 0, 1) := dk_42 (dk_at dksX9_says_2 17 rfl rfl)
theorem dX9_says_66 : decode cX9_says 66 = .ok (.getfield 194, 3) := dk_180 0 194 (dk_at dksX9_says_2 18 rfl rfl)
theorem dX9_says_69 : decode cX9_says 69 = .ok (.iadd, 1) := dk_96 (dk_at dksX9_says_2 21 rfl rfl)
theorem dX9_says_70 : decode cX9_says 70 = .ok (.iconst 1, 1) := dk_4 (dk_at dksX9_says_2 22 rfl rfl)
theorem dX9_says_71 : decode cX9_says 71 = .ok (.isub, 1) := dk_100 (dk_at dksX9_says_2 23 rfl rfl)
theorem dX9_says_72 : decode cX9_says 72 = .ok (.invokestatic 324, 3) := dk_184 1 68 (dk_at dksX9_says_3 0 rfl rfl)
theorem dX9_says_75 : decode cX9_says 75 = .ok (.ifCond .eq 12, 3) := dk_153 0 12 (dk_at dksX9_says_3 3 rfl rfl)
theorem dX9_says_78 : decode cX9_says 78 = .ok (.aload_n 0, 1) := dk_42 (dk_at dksX9_says_3 6 rfl rfl)
theorem dX9_says_79 : decode cX9_says 79 = .ok (.getfield 188, 3) := dk_180 0 188 (dk_at dksX9_says_3 7 rfl rfl)
theorem dX9_says_82 : decode cX9_says 82 = .ok (.iload_n 3, 1) := dk_29 (dk_at dksX9_says_3 10 rfl rfl)
theorem dX9_says_83 : decode cX9_says 83 = .ok (.iaload, 1) := dk_46 (dk_at dksX9_says_3 11 rfl rfl)
theorem dX9_says_84 : decode cX9_says 84 = .ok (.goto 4, 3) := dk_167 0 4 (dk_at dksX9_says_3 12 rfl rfl)
theorem dX9_says_87 : decode cX9_says 87 = .ok (.iconst (-1), 1) := dk_2 (dk_at dksX9_says_3 15 rfl rfl)
theorem dX9_says_88 : decode cX9_says 88 = .ok (.ireturn, 1) := dk_172 (dk_at dksX9_says_3 16 rfl rfl)
def dkwX9_isStanding_0 : List UInt8 := [42, 27, 182, 1, 140, 153, 0, 16, 42, 3, 27, 182, 1, 143, 153, 0, 7, 4, 167, 0, 4, 3, 172]
abbrev dktX9_isStanding_0 : List UInt8 := dkwX9_isStanding_0 ++ []
theorem dksX9_isStanding_0 : cX9_isStanding.data.toList.drop 0 = dktX9_isStanding_0 := by decide +kernel
theorem dX9_isStanding_0 : decode cX9_isStanding 0 = .ok (.aload_n 0, 1) := dk_42 (dk_at dksX9_isStanding_0 0 rfl rfl)
theorem dX9_isStanding_1 : decode cX9_isStanding 1 = .ok (.iload_n 1, 1) := dk_27 (dk_at dksX9_isStanding_0 1 rfl rfl)
theorem dX9_isStanding_2 : decode cX9_isStanding 2 = .ok (.invokevirtual 396, 3) := dk_182 1 140 (dk_at dksX9_isStanding_0 2 rfl rfl)
theorem dX9_isStanding_5 : decode cX9_isStanding 5 = .ok (.ifCond .eq 16, 3) := dk_153 0 16 (dk_at dksX9_isStanding_0 5 rfl rfl)
theorem dX9_isStanding_8 : decode cX9_isStanding 8 = .ok (.aload_n 0, 1) := dk_42 (dk_at dksX9_isStanding_0 8 rfl rfl)
theorem dX9_isStanding_9 : decode cX9_isStanding 9 = .ok (.iconst 0, 1) := dk_3 (dk_at dksX9_isStanding_0 9 rfl rfl)
theorem dX9_isStanding_10 : decode cX9_isStanding 10 = .ok (.iload_n 1, 1) := dk_27 (dk_at dksX9_isStanding_0 10 rfl rfl)
theorem dX9_isStanding_11 : decode cX9_isStanding 11 = .ok (.invokevirtual 399, 3) := dk_182 1 143 (dk_at dksX9_isStanding_0 11 rfl rfl)
theorem dX9_isStanding_14 : decode cX9_isStanding 14 = .ok (.ifCond .eq 7, 3) := dk_153 0 7 (dk_at dksX9_isStanding_0 14 rfl rfl)
theorem dX9_isStanding_17 : decode cX9_isStanding 17 = .ok (.iconst 1, 1) := dk_4 (dk_at dksX9_isStanding_0 17 rfl rfl)
theorem dX9_isStanding_18 : decode cX9_isStanding 18 = .ok (.goto 4, 3) := dk_167 0 4 (dk_at dksX9_isStanding_0 18 rfl rfl)
theorem dX9_isStanding_21 : decode cX9_isStanding 21 = .ok (.iconst 0, 1) := dk_3 (dk_at dksX9_isStanding_0 21 rfl rfl)
theorem dX9_isStanding_22 : decode cX9_isStanding 22 = .ok (.ireturn, 1) := dk_172 (dk_at dksX9_isStanding_0 22 rfl rfl)
def dkwX9_isLaw_0 : List UInt8 := [27, 155, 0, 20, 27, 42, 180, 0, 100, 42, 180, 0, 51, 46, 162, 0, 7, 4, 167, 0, 4, 3, 172]
abbrev dktX9_isLaw_0 : List UInt8 := dkwX9_isLaw_0 ++ []
theorem dksX9_isLaw_0 : cX9_isLaw.data.toList.drop 0 = dktX9_isLaw_0 := by decide +kernel
theorem dX9_isLaw_0 : decode cX9_isLaw 0 = .ok (.iload_n 1, 1) := dk_27 (dk_at dksX9_isLaw_0 0 rfl rfl)
theorem dX9_isLaw_1 : decode cX9_isLaw 1 = .ok (.ifCond .lt 20, 3) := dk_155 0 20 (dk_at dksX9_isLaw_0 1 rfl rfl)
theorem dX9_isLaw_4 : decode cX9_isLaw 4 = .ok (.iload_n 1, 1) := dk_27 (dk_at dksX9_isLaw_0 4 rfl rfl)
theorem dX9_isLaw_5 : decode cX9_isLaw 5 = .ok (.aload_n 0, 1) := dk_42 (dk_at dksX9_isLaw_0 5 rfl rfl)
theorem dX9_isLaw_6 : decode cX9_isLaw 6 = .ok (.getfield 100, 3) := dk_180 0 100 (dk_at dksX9_isLaw_0 6 rfl rfl)
theorem dX9_isLaw_9 : decode cX9_isLaw 9 = .ok (.aload_n 0, 1) := dk_42 (dk_at dksX9_isLaw_0 9 rfl rfl)
theorem dX9_isLaw_10 : decode cX9_isLaw 10 = .ok (.getfield 51, 3) := dk_180 0 51 (dk_at dksX9_isLaw_0 10 rfl rfl)
theorem dX9_isLaw_13 : decode cX9_isLaw 13 = .ok (.iaload, 1) := dk_46 (dk_at dksX9_isLaw_0 13 rfl rfl)
theorem dX9_isLaw_14 : decode cX9_isLaw 14 = .ok (.if_icmp .ge 7, 3) := dk_162 0 7 (dk_at dksX9_isLaw_0 14 rfl rfl)
theorem dX9_isLaw_17 : decode cX9_isLaw 17 = .ok (.iconst 1, 1) := dk_4 (dk_at dksX9_isLaw_0 17 rfl rfl)
theorem dX9_isLaw_18 : decode cX9_isLaw 18 = .ok (.goto 4, 3) := dk_167 0 4 (dk_at dksX9_isLaw_0 18 rfl rfl)
theorem dX9_isLaw_21 : decode cX9_isLaw 21 = .ok (.iconst 0, 1) := dk_3 (dk_at dksX9_isLaw_0 21 rfl rfl)
theorem dX9_isLaw_22 : decode cX9_isLaw 22 = .ok (.ireturn, 1) := dk_172 (dk_at dksX9_isLaw_0 22 rfl rfl)
def dkwX9_stands_0 : List UInt8 := [42, 180, 0, 148, 16, 12, 27, 104, 28, 96, 46, 158, 0, 7, 4, 167, 0, 4, 3, 172]
abbrev dktX9_stands_0 : List UInt8 := dkwX9_stands_0 ++ []
theorem dksX9_stands_0 : cX9_stands.data.toList.drop 0 = dktX9_stands_0 := by decide +kernel
theorem dX9_stands_0 : decode cX9_stands 0 = .ok (.aload_n 0, 1) := dk_42 (dk_at dksX9_stands_0 0 rfl rfl)
theorem dX9_stands_1 : decode cX9_stands 1 = .ok (.getfield 148, 3) := dk_180 0 148 (dk_at dksX9_stands_0 1 rfl rfl)
theorem dX9_stands_4 : decode cX9_stands 4 = .ok (.bipush 12, 2) := dk_16 12 (dk_at dksX9_stands_0 4 rfl rfl)
theorem dX9_stands_6 : decode cX9_stands 6 = .ok (.iload_n 1, 1) := dk_27 (dk_at dksX9_stands_0 6 rfl rfl)
theorem dX9_stands_7 : decode cX9_stands 7 = .ok (.imul, 1) := dk_104 (dk_at dksX9_stands_0 7 rfl rfl)
theorem dX9_stands_8 : decode cX9_stands 8 = .ok (.iload_n 2, 1) := dk_28 (dk_at dksX9_stands_0 8 rfl rfl)
theorem dX9_stands_9 : decode cX9_stands 9 = .ok (.iadd, 1) := dk_96 (dk_at dksX9_stands_0 9 rfl rfl)
theorem dX9_stands_10 : decode cX9_stands 10 = .ok (.iaload, 1) := dk_46 (dk_at dksX9_stands_0 10 rfl rfl)
theorem dX9_stands_11 : decode cX9_stands 11 = .ok (.ifCond .le 7, 3) := dk_158 0 7 (dk_at dksX9_stands_0 11 rfl rfl)
theorem dX9_stands_14 : decode cX9_stands 14 = .ok (.iconst 1, 1) := dk_4 (dk_at dksX9_stands_0 14 rfl rfl)
theorem dX9_stands_15 : decode cX9_stands 15 = .ok (.goto 4, 3) := dk_167 0 4 (dk_at dksX9_stands_0 15 rfl rfl)
theorem dX9_stands_18 : decode cX9_stands 18 = .ok (.iconst 0, 1) := dk_3 (dk_at dksX9_stands_0 18 rfl rfl)
theorem dX9_stands_19 : decode cX9_stands 19 = .ok (.ireturn, 1) := dk_172 (dk_at dksX9_stands_0 19 rfl rfl)
def dkwX9_loads_3 : List UInt8 := [180, 0, 157, 16, 12, 29, 104, 21, 4, 96, 46, 79, 132, 4, 1, 167, 255, 220, 177]
abbrev dktX9_loads_3 : List UInt8 := dkwX9_loads_3 ++ []
def dkwX9_loads_2 : List UInt8 := [54, 4, 21, 4, 42, 180, 0, 178, 42, 180, 0, 181, 96, 162, 0, 28, 42, 180, 0, 175, 21, 4, 42]
abbrev dktX9_loads_2 : List UInt8 := dkwX9_loads_2 ++ dktX9_loads_3
def dkwX9_loads_1 : List UInt8 := [181, 0, 181, 42, 42, 180, 0, 154, 29, 46, 4, 160, 0, 7, 4, 167, 0, 4, 3, 181, 0, 184, 3]
abbrev dktX9_loads_1 : List UInt8 := dkwX9_loads_1 ++ dktX9_loads_2
def dkwX9_loads_0 : List UInt8 := [16, 12, 27, 104, 28, 96, 62, 42, 42, 180, 0, 148, 29, 46, 181, 0, 178, 42, 42, 180, 0, 151, 29, 46]
abbrev dktX9_loads_0 : List UInt8 := dkwX9_loads_0 ++ dktX9_loads_1
theorem dksX9_loads_0 : cX9_loads.data.toList.drop 0 = dktX9_loads_0 := by decide +kernel
theorem dksX9_loads_1 : cX9_loads.data.toList.drop 24 = dktX9_loads_1 := dk_seg dksX9_loads_0 24 rfl rfl
theorem dksX9_loads_2 : cX9_loads.data.toList.drop 47 = dktX9_loads_2 := dk_seg dksX9_loads_1 23 rfl rfl
theorem dksX9_loads_3 : cX9_loads.data.toList.drop 70 = dktX9_loads_3 := dk_seg dksX9_loads_2 23 rfl rfl
theorem dX9_loads_0 : decode cX9_loads 0 = .ok (.bipush 12, 2) := dk_16 12 (dk_at dksX9_loads_0 0 rfl rfl)
theorem dX9_loads_2 : decode cX9_loads 2 = .ok (.iload_n 1, 1) := dk_27 (dk_at dksX9_loads_0 2 rfl rfl)
theorem dX9_loads_3 : decode cX9_loads 3 = .ok (.imul, 1) := dk_104 (dk_at dksX9_loads_0 3 rfl rfl)
theorem dX9_loads_4 : decode cX9_loads 4 = .ok (.iload_n 2, 1) := dk_28 (dk_at dksX9_loads_0 4 rfl rfl)
theorem dX9_loads_5 : decode cX9_loads 5 = .ok (.iadd, 1) := dk_96 (dk_at dksX9_loads_0 5 rfl rfl)
theorem dX9_loads_6 : decode cX9_loads 6 = .ok (.istore_n 3, 1) := dk_62 (dk_at dksX9_loads_0 6 rfl rfl)
theorem dX9_loads_7 : decode cX9_loads 7 = .ok (.aload_n 0, 1) := dk_42 (dk_at dksX9_loads_0 7 rfl rfl)
theorem dX9_loads_8 : decode cX9_loads 8 = .ok (.aload_n 0, 1) := dk_42 (dk_at dksX9_loads_0 8 rfl rfl)
theorem dX9_loads_9 : decode cX9_loads 9 = .ok (.getfield 148, 3) := dk_180 0 148 (dk_at dksX9_loads_0 9 rfl rfl)
theorem dX9_loads_12 : decode cX9_loads 12 = .ok (.iload_n 3, 1) := dk_29 (dk_at dksX9_loads_0 12 rfl rfl)
theorem dX9_loads_13 : decode cX9_loads 13 = .ok (.iaload, 1) := dk_46 (dk_at dksX9_loads_0 13 rfl rfl)
theorem dX9_loads_14 : decode cX9_loads 14 = .ok (.putfield 178, 3) := dk_181 0 178 (dk_at dksX9_loads_0 14 rfl rfl)
theorem dX9_loads_17 : decode cX9_loads 17 = .ok (.aload_n 0, 1) := dk_42 (dk_at dksX9_loads_0 17 rfl rfl)
theorem dX9_loads_18 : decode cX9_loads 18 = .ok (.aload_n 0, 1) := dk_42 (dk_at dksX9_loads_0 18 rfl rfl)
theorem dX9_loads_19 : decode cX9_loads 19 = .ok (.getfield 151, 3) := dk_180 0 151 (dk_at dksX9_loads_0 19 rfl rfl)
theorem dX9_loads_22 : decode cX9_loads 22 = .ok (.iload_n 3, 1) := dk_29 (dk_at dksX9_loads_0 22 rfl rfl)
theorem dX9_loads_23 : decode cX9_loads 23 = .ok (.iaload, 1) := dk_46 (dk_at dksX9_loads_0 23 rfl rfl)
theorem dX9_loads_24 : decode cX9_loads 24 = .ok (.putfield 181, 3) := dk_181 0 181 (dk_at dksX9_loads_1 0 rfl rfl)
theorem dX9_loads_27 : decode cX9_loads 27 = .ok (.aload_n 0, 1) := dk_42 (dk_at dksX9_loads_1 3 rfl rfl)
theorem dX9_loads_28 : decode cX9_loads 28 = .ok (.aload_n 0, 1) := dk_42 (dk_at dksX9_loads_1 4 rfl rfl)
theorem dX9_loads_29 : decode cX9_loads 29 = .ok (.getfield 154, 3) := dk_180 0 154 (dk_at dksX9_loads_1 5 rfl rfl)
theorem dX9_loads_32 : decode cX9_loads 32 = .ok (.iload_n 3, 1) := dk_29 (dk_at dksX9_loads_1 8 rfl rfl)
theorem dX9_loads_33 : decode cX9_loads 33 = .ok (.iaload, 1) := dk_46 (dk_at dksX9_loads_1 9 rfl rfl)
theorem dX9_loads_34 : decode cX9_loads 34 = .ok (.iconst 1, 1) := dk_4 (dk_at dksX9_loads_1 10 rfl rfl)
theorem dX9_loads_35 : decode cX9_loads 35 = .ok (.if_icmp .ne 7, 3) := dk_160 0 7 (dk_at dksX9_loads_1 11 rfl rfl)
theorem dX9_loads_38 : decode cX9_loads 38 = .ok (.iconst 1, 1) := dk_4 (dk_at dksX9_loads_1 14 rfl rfl)
theorem dX9_loads_39 : decode cX9_loads 39 = .ok (.goto 4, 3) := dk_167 0 4 (dk_at dksX9_loads_1 15 rfl rfl)
theorem dX9_loads_42 : decode cX9_loads 42 = .ok (.iconst 0, 1) := dk_3 (dk_at dksX9_loads_1 18 rfl rfl)
theorem dX9_loads_43 : decode cX9_loads 43 = .ok (.putfield 184, 3) := dk_181 0 184 (dk_at dksX9_loads_1 19 rfl rfl)
theorem dX9_loads_46 : decode cX9_loads 46 = .ok (.iconst 0, 1) := dk_3 (dk_at dksX9_loads_1 22 rfl rfl)
theorem dX9_loads_47 : decode cX9_loads 47 = .ok (.istore 4, 2) := dk_54 4 (dk_at dksX9_loads_2 0 rfl rfl)
theorem dX9_loads_49 : decode cX9_loads 49 = .ok (.iload 4, 2) := dk_21 4 (dk_at dksX9_loads_2 2 rfl rfl)
theorem dX9_loads_51 : decode cX9_loads 51 = .ok (.aload_n 0, 1) := dk_42 (dk_at dksX9_loads_2 4 rfl rfl)
theorem dX9_loads_52 : decode cX9_loads 52 = .ok (.getfield 178, 3) := dk_180 0 178 (dk_at dksX9_loads_2 5 rfl rfl)
theorem dX9_loads_55 : decode cX9_loads 55 = .ok (.aload_n 0, 1) := dk_42 (dk_at dksX9_loads_2 8 rfl rfl)
theorem dX9_loads_56 : decode cX9_loads 56 = .ok (.getfield 181, 3) := dk_180 0 181 (dk_at dksX9_loads_2 9 rfl rfl)
theorem dX9_loads_59 : decode cX9_loads 59 = .ok (.iadd, 1) := dk_96 (dk_at dksX9_loads_2 12 rfl rfl)
theorem dX9_loads_60 : decode cX9_loads 60 = .ok (.if_icmp .ge 28, 3) := dk_162 0 28 (dk_at dksX9_loads_2 13 rfl rfl)
theorem dX9_loads_63 : decode cX9_loads 63 = .ok (.aload_n 0, 1) := dk_42 (dk_at dksX9_loads_2 16 rfl rfl)
theorem dX9_loads_64 : decode cX9_loads 64 = .ok (.getfield 175, 3) := dk_180 0 175 (dk_at dksX9_loads_2 17 rfl rfl)
theorem dX9_loads_67 : decode cX9_loads 67 = .ok (.iload 4, 2) := dk_21 4 (dk_at dksX9_loads_2 20 rfl rfl)
theorem dX9_loads_69 : decode cX9_loads 69 = .ok (.aload_n 0, 1) := dk_42 (dk_at dksX9_loads_2 22 rfl rfl)
theorem dX9_loads_70 : decode cX9_loads 70 = .ok (.getfield 157, 3) := dk_180 0 157 (dk_at dksX9_loads_3 0 rfl rfl)
theorem dX9_loads_73 : decode cX9_loads 73 = .ok (.bipush 12, 2) := dk_16 12 (dk_at dksX9_loads_3 3 rfl rfl)
theorem dX9_loads_75 : decode cX9_loads 75 = .ok (.iload_n 3, 1) := dk_29 (dk_at dksX9_loads_3 5 rfl rfl)
theorem dX9_loads_76 : decode cX9_loads 76 = .ok (.imul, 1) := dk_104 (dk_at dksX9_loads_3 6 rfl rfl)
theorem dX9_loads_77 : decode cX9_loads 77 = .ok (.iload 4, 2) := dk_21 4 (dk_at dksX9_loads_3 7 rfl rfl)
theorem dX9_loads_79 : decode cX9_loads 79 = .ok (.iadd, 1) := dk_96 (dk_at dksX9_loads_3 9 rfl rfl)
theorem dX9_loads_80 : decode cX9_loads 80 = .ok (.iaload, 1) := dk_46 (dk_at dksX9_loads_3 10 rfl rfl)
theorem dX9_loads_81 : decode cX9_loads 81 = .ok (.iastore, 1) := dk_79 (dk_at dksX9_loads_3 11 rfl rfl)
theorem dX9_loads_82 : decode cX9_loads 82 = .ok (.iinc 4 1, 3) := dk_132 4 1 (dk_at dksX9_loads_3 12 rfl rfl)
theorem dX9_loads_85 : decode cX9_loads 85 = .ok (.goto (-36), 3) := dk_167 255 220 (dk_at dksX9_loads_3 15 rfl rfl)
theorem dX9_loads_88 : decode cX9_loads 88 = .ok (.return_, 1) := dk_177 (dk_at dksX9_loads_3 18 rfl rfl)
def dkwX9_utters_13 : List UInt8 := [21, 4, 153, 0, 7, 3, 167, 0, 4, 4, 181, 0, 197, 177]
abbrev dktX9_utters_13 : List UInt8 := dkwX9_utters_13 ++ []
def dkwX9_utters_12 : List UInt8 := [28, 156, 0, 7, 3, 167, 0, 7, 42, 180, 0, 181, 181, 0, 194, 42, 28, 156, 0, 7, 5, 167, 0, 13]
abbrev dktX9_utters_12 : List UInt8 := dkwX9_utters_12 ++ dktX9_utters_13
def dkwX9_utters_11 : List UInt8 := [21, 5, 96, 46, 160, 0, 7, 4, 167, 0, 4, 3, 54, 4, 21, 6, 62, 132, 5, 1, 167, 255, 165, 42]
abbrev dktX9_utters_11 : List UInt8 := dkwX9_utters_11 ++ dktX9_utters_12
def dkwX9_utters_10 : List UInt8 := [180, 0, 178, 21, 5, 96, 21, 6, 79, 21, 4, 153, 0, 24, 21, 6, 42, 180, 0, 175, 42, 180, 0, 178]
abbrev dktX9_utters_10 : List UInt8 := dkwX9_utters_10 ++ dktX9_utters_11
def dkwX9_utters_9 : List UInt8 := [21, 5, 96, 46, 182, 1, 167, 54, 6, 28, 42, 29, 21, 6, 182, 1, 170, 100, 61, 42, 180, 0, 188, 42]
abbrev dktX9_utters_9 : List UInt8 := dkwX9_utters_9 ++ dktX9_utters_10
def dkwX9_utters_8 : List UInt8 := [21, 5, 42, 180, 0, 181, 162, 0, 88, 28, 155, 0, 84, 42, 27, 42, 180, 0, 175, 42, 180, 0, 178]
abbrev dktX9_utters_8 : List UInt8 := dkwX9_utters_8 ++ dktX9_utters_9
def dkwX9_utters_7 : List UInt8 := [132, 5, 1, 167, 255, 164, 28, 42, 180, 0, 181, 158, 0, 7, 4, 167, 0, 4, 3, 100, 61, 3, 54, 5]
abbrev dktX9_utters_7 : List UInt8 := dkwX9_utters_7 ++ dktX9_utters_8
def dkwX9_utters_6 : List UInt8 := [160, 0, 7, 4, 167, 0, 4, 3, 54, 4, 21, 6, 62, 42, 89, 180, 0, 191, 4, 96, 181, 0, 191]
abbrev dktX9_utters_6 : List UInt8 := dkwX9_utters_6 ++ dktX9_utters_7
def dkwX9_utters_5 : List UInt8 := [177, 42, 180, 0, 188, 21, 5, 21, 6, 79, 21, 4, 153, 0, 19, 21, 6, 42, 180, 0, 175, 21, 5, 46]
abbrev dktX9_utters_5 : List UInt8 := dkwX9_utters_5 ++ dktX9_utters_6
def dkwX9_utters_4 : List UInt8 := [182, 1, 167, 54, 6, 28, 42, 29, 21, 6, 182, 1, 170, 100, 61, 28, 156, 0, 9, 42, 3, 181, 0, 191]
abbrev dktX9_utters_4 : List UInt8 := dkwX9_utters_4 ++ dktX9_utters_5
def dkwX9_utters_3 : List UInt8 := [181, 0, 197, 3, 54, 5, 21, 5, 42, 180, 0, 178, 162, 0, 89, 42, 27, 42, 180, 0, 175, 21, 5, 46]
abbrev dktX9_utters_3 : List UInt8 := dkwX9_utters_3 ++ dktX9_utters_4
def dkwX9_utters_2 : List UInt8 := [167, 0, 4, 3, 96, 61, 2, 62, 4, 54, 4, 42, 3, 181, 0, 191, 42, 3, 181, 0, 194, 42, 6]
abbrev dktX9_utters_2 : List UInt8 := dkwX9_utters_2 ++ dktX9_utters_3
def dkwX9_utters_1 : List UInt8 := [167, 0, 7, 42, 180, 0, 200, 42, 180, 0, 184, 153, 0, 15, 42, 180, 0, 124, 42, 180, 0, 51, 46]
abbrev dktX9_utters_1 : List UInt8 := dkwX9_utters_1 ++ dktX9_utters_2
def dkwX9_utters_0 : List UInt8 := [42, 180, 0, 200, 2, 160, 0, 20, 42, 180, 0, 94, 16, 10, 42, 180, 0, 51, 104, 27, 96, 46]
abbrev dktX9_utters_0 : List UInt8 := dkwX9_utters_0 ++ dktX9_utters_1
theorem dksX9_utters_0 : cX9_utters.data.toList.drop 0 = dktX9_utters_0 := by decide +kernel
theorem dksX9_utters_1 : cX9_utters.data.toList.drop 22 = dktX9_utters_1 := dk_seg dksX9_utters_0 22 rfl rfl
theorem dksX9_utters_2 : cX9_utters.data.toList.drop 45 = dktX9_utters_2 := dk_seg dksX9_utters_1 23 rfl rfl
theorem dksX9_utters_3 : cX9_utters.data.toList.drop 68 = dktX9_utters_3 := dk_seg dksX9_utters_2 23 rfl rfl
theorem dksX9_utters_4 : cX9_utters.data.toList.drop 92 = dktX9_utters_4 := dk_seg dksX9_utters_3 24 rfl rfl
theorem dksX9_utters_5 : cX9_utters.data.toList.drop 116 = dktX9_utters_5 := dk_seg dksX9_utters_4 24 rfl rfl
theorem dksX9_utters_6 : cX9_utters.data.toList.drop 140 = dktX9_utters_6 := dk_seg dksX9_utters_5 24 rfl rfl
theorem dksX9_utters_7 : cX9_utters.data.toList.drop 163 = dktX9_utters_7 := dk_seg dksX9_utters_6 23 rfl rfl
theorem dksX9_utters_8 : cX9_utters.data.toList.drop 187 = dktX9_utters_8 := dk_seg dksX9_utters_7 24 rfl rfl
theorem dksX9_utters_9 : cX9_utters.data.toList.drop 210 = dktX9_utters_9 := dk_seg dksX9_utters_8 23 rfl rfl
theorem dksX9_utters_10 : cX9_utters.data.toList.drop 234 = dktX9_utters_10 := dk_seg dksX9_utters_9 24 rfl rfl
theorem dksX9_utters_11 : cX9_utters.data.toList.drop 258 = dktX9_utters_11 := dk_seg dksX9_utters_10 24 rfl rfl
theorem dksX9_utters_12 : cX9_utters.data.toList.drop 282 = dktX9_utters_12 := dk_seg dksX9_utters_11 24 rfl rfl
theorem dksX9_utters_13 : cX9_utters.data.toList.drop 306 = dktX9_utters_13 := dk_seg dksX9_utters_12 24 rfl rfl
theorem dX9_utters_0 : decode cX9_utters 0 = .ok (.aload_n 0, 1) := dk_42 (dk_at dksX9_utters_0 0 rfl rfl)
theorem dX9_utters_1 : decode cX9_utters 1 = .ok (.getfield 200, 3) := dk_180 0 200 (dk_at dksX9_utters_0 1 rfl rfl)
theorem dX9_utters_4 : decode cX9_utters 4 = .ok (.iconst (-1), 1) := dk_2 (dk_at dksX9_utters_0 4 rfl rfl)
theorem dX9_utters_5 : decode cX9_utters 5 = .ok (.if_icmp .ne 20, 3) := dk_160 0 20 (dk_at dksX9_utters_0 5 rfl rfl)
theorem dX9_utters_8 : decode cX9_utters 8 = .ok (.aload_n 0, 1) := dk_42 (dk_at dksX9_utters_0 8 rfl rfl)
theorem dX9_utters_9 : decode cX9_utters 9 = .ok (.getfield 94, 3) := dk_180 0 94 (dk_at dksX9_utters_0 9 rfl rfl)
theorem dX9_utters_12 : decode cX9_utters 12 = .ok (.bipush 10, 2) := dk_16 10 (dk_at dksX9_utters_0 12 rfl rfl)
theorem dX9_utters_14 : decode cX9_utters 14 = .ok (.aload_n 0, 1) := dk_42 (dk_at dksX9_utters_0 14 rfl rfl)
theorem dX9_utters_15 : decode cX9_utters 15 = .ok (.getfield 51, 3) := dk_180 0 51 (dk_at dksX9_utters_0 15 rfl rfl)
theorem dX9_utters_18 : decode cX9_utters 18 = .ok (.imul, 1) := dk_104 (dk_at dksX9_utters_0 18 rfl rfl)
theorem dX9_utters_19 : decode cX9_utters 19 = .ok (.iload_n 1, 1) := dk_27 (dk_at dksX9_utters_0 19 rfl rfl)
theorem dX9_utters_20 : decode cX9_utters 20 = .ok (.iadd, 1) := dk_96 (dk_at dksX9_utters_0 20 rfl rfl)
theorem dX9_utters_21 : decode cX9_utters 21 = .ok (.iaload, 1) := dk_46 (dk_at dksX9_utters_0 21 rfl rfl)
theorem dX9_utters_22 : decode cX9_utters 22 = .ok (.goto 7, 3) := dk_167 0 7 (dk_at dksX9_utters_1 0 rfl rfl)
theorem dX9_utters_25 : decode cX9_utters 25 = .ok (.aload_n 0, 1) := dk_42 (dk_at dksX9_utters_1 3 rfl rfl)
theorem dX9_utters_26 : decode cX9_utters 26 = .ok (.getfield 200, 3) := dk_180 0 200 (dk_at dksX9_utters_1 4 rfl rfl)
theorem dX9_utters_29 : decode cX9_utters 29 = .ok (.aload_n 0, 1) := dk_42 (dk_at dksX9_utters_1 7 rfl rfl)
theorem dX9_utters_30 : decode cX9_utters 30 = .ok (.getfield 184, 3) := dk_180 0 184 (dk_at dksX9_utters_1 8 rfl rfl)
theorem dX9_utters_33 : decode cX9_utters 33 = .ok (.ifCond .eq 15, 3) := dk_153 0 15 (dk_at dksX9_utters_1 11 rfl rfl)
theorem dX9_utters_36 : decode cX9_utters 36 = .ok (.aload_n 0, 1) := dk_42 (dk_at dksX9_utters_1 14 rfl rfl)
theorem dX9_utters_37 : decode cX9_utters 37 = .ok (.getfield 124, 3) := dk_180 0 124 (dk_at dksX9_utters_1 15 rfl rfl)
theorem dX9_utters_40 : decode cX9_utters 40 = .ok (.aload_n 0, 1) := dk_42 (dk_at dksX9_utters_1 18 rfl rfl)
theorem dX9_utters_41 : decode cX9_utters 41 = .ok (.getfield 51, 3) := dk_180 0 51 (dk_at dksX9_utters_1 19 rfl rfl)
theorem dX9_utters_44 : decode cX9_utters 44 = .ok (.iaload, 1) := dk_46 (dk_at dksX9_utters_1 22 rfl rfl)
theorem dX9_utters_45 : decode cX9_utters 45 = .ok (.goto 4, 3) := dk_167 0 4 (dk_at dksX9_utters_2 0 rfl rfl)
theorem dX9_utters_48 : decode cX9_utters 48 = .ok (.iconst 0, 1) := dk_3 (dk_at dksX9_utters_2 3 rfl rfl)
theorem dX9_utters_49 : decode cX9_utters 49 = .ok (.iadd, 1) := dk_96 (dk_at dksX9_utters_2 4 rfl rfl)
theorem dX9_utters_50 : decode cX9_utters 50 = .ok (.istore_n 2, 1) := dk_61 (dk_at dksX9_utters_2 5 rfl rfl)
theorem dX9_utters_51 : decode cX9_utters 51 = .ok (.iconst (-1), 1) := dk_2 (dk_at dksX9_utters_2 6 rfl rfl)
theorem dX9_utters_52 : decode cX9_utters 52 = .ok (.istore_n 3, 1) := dk_62 (dk_at dksX9_utters_2 7 rfl rfl)
theorem dX9_utters_53 : decode cX9_utters 53 = .ok (.iconst 1, 1) := dk_4 (dk_at dksX9_utters_2 8 rfl rfl)
theorem dX9_utters_54 : decode cX9_utters 54 = .ok (.istore 4, 2) := dk_54 4 (dk_at dksX9_utters_2 9 rfl rfl)
theorem dX9_utters_56 : decode cX9_utters 56 = .ok (.aload_n 0, 1) := dk_42 (dk_at dksX9_utters_2 11 rfl rfl)
theorem dX9_utters_57 : decode cX9_utters 57 = .ok (.iconst 0, 1) := dk_3 (dk_at dksX9_utters_2 12 rfl rfl)
theorem dX9_utters_58 : decode cX9_utters 58 = .ok (.putfield 191, 3) := dk_181 0 191 (dk_at dksX9_utters_2 13 rfl rfl)
theorem dX9_utters_61 : decode cX9_utters 61 = .ok (.aload_n 0, 1) := dk_42 (dk_at dksX9_utters_2 16 rfl rfl)
theorem dX9_utters_62 : decode cX9_utters 62 = .ok (.iconst 0, 1) := dk_3 (dk_at dksX9_utters_2 17 rfl rfl)
theorem dX9_utters_63 : decode cX9_utters 63 = .ok (.putfield 194, 3) := dk_181 0 194 (dk_at dksX9_utters_2 18 rfl rfl)
theorem dX9_utters_66 : decode cX9_utters 66 = .ok (.aload_n 0, 1) := dk_42 (dk_at dksX9_utters_2 21 rfl rfl)
theorem dX9_utters_67 : decode cX9_utters 67 = .ok (.iconst 3, 1) := dk_6 (dk_at dksX9_utters_2 22 rfl rfl)
theorem dX9_utters_68 : decode cX9_utters 68 = .ok (.putfield 197, 3) := dk_181 0 197 (dk_at dksX9_utters_3 0 rfl rfl)
theorem dX9_utters_71 : decode cX9_utters 71 = .ok (.iconst 0, 1) := dk_3 (dk_at dksX9_utters_3 3 rfl rfl)
theorem dX9_utters_72 : decode cX9_utters 72 = .ok (.istore 5, 2) := dk_54 5 (dk_at dksX9_utters_3 4 rfl rfl)
theorem dX9_utters_74 : decode cX9_utters 74 = .ok (.iload 5, 2) := dk_21 5 (dk_at dksX9_utters_3 6 rfl rfl)
theorem dX9_utters_76 : decode cX9_utters 76 = .ok (.aload_n 0, 1) := dk_42 (dk_at dksX9_utters_3 8 rfl rfl)
theorem dX9_utters_77 : decode cX9_utters 77 = .ok (.getfield 178, 3) := dk_180 0 178 (dk_at dksX9_utters_3 9 rfl rfl)
theorem dX9_utters_80 : decode cX9_utters 80 = .ok (.if_icmp .ge 89, 3) := dk_162 0 89 (dk_at dksX9_utters_3 12 rfl rfl)
theorem dX9_utters_83 : decode cX9_utters 83 = .ok (.aload_n 0, 1) := dk_42 (dk_at dksX9_utters_3 15 rfl rfl)
theorem dX9_utters_84 : decode cX9_utters 84 = .ok (.iload_n 1, 1) := dk_27 (dk_at dksX9_utters_3 16 rfl rfl)
theorem dX9_utters_85 : decode cX9_utters 85 = .ok (.aload_n 0, 1) := dk_42 (dk_at dksX9_utters_3 17 rfl rfl)
theorem dX9_utters_86 : decode cX9_utters 86 = .ok (.getfield 175, 3) := dk_180 0 175 (dk_at dksX9_utters_3 18 rfl rfl)
theorem dX9_utters_89 : decode cX9_utters 89 = .ok (.iload 5, 2) := dk_21 5 (dk_at dksX9_utters_3 21 rfl rfl)
theorem dX9_utters_91 : decode cX9_utters 91 = .ok (.iaload, 1) := dk_46 (dk_at dksX9_utters_3 23 rfl rfl)
theorem dX9_utters_92 : decode cX9_utters 92 = .ok (.invokevirtual 423, 3) := dk_182 1 167 (dk_at dksX9_utters_4 0 rfl rfl)
theorem dX9_utters_95 : decode cX9_utters 95 = .ok (.istore 6, 2) := dk_54 6 (dk_at dksX9_utters_4 3 rfl rfl)
theorem dX9_utters_97 : decode cX9_utters 97 = .ok (.iload_n 2, 1) := dk_28 (dk_at dksX9_utters_4 5 rfl rfl)
theorem dX9_utters_98 : decode cX9_utters 98 = .ok (.aload_n 0, 1) := dk_42 (dk_at dksX9_utters_4 6 rfl rfl)
theorem dX9_utters_99 : decode cX9_utters 99 = .ok (.iload_n 3, 1) := dk_29 (dk_at dksX9_utters_4 7 rfl rfl)
theorem dX9_utters_100 : decode cX9_utters 100 = .ok (.iload 6, 2) := dk_21 6 (dk_at dksX9_utters_4 8 rfl rfl)
theorem dX9_utters_102 : decode cX9_utters 102 = .ok (.invokevirtual 426, 3) := dk_182 1 170 (dk_at dksX9_utters_4 10 rfl rfl)
theorem dX9_utters_105 : decode cX9_utters 105 = .ok (.isub, 1) := dk_100 (dk_at dksX9_utters_4 13 rfl rfl)
theorem dX9_utters_106 : decode cX9_utters 106 = .ok (.istore_n 2, 1) := dk_61 (dk_at dksX9_utters_4 14 rfl rfl)
theorem dX9_utters_107 : decode cX9_utters 107 = .ok (.iload_n 2, 1) := dk_28 (dk_at dksX9_utters_4 15 rfl rfl)
theorem dX9_utters_108 : decode cX9_utters 108 = .ok (.ifCond .ge 9, 3) := dk_156 0 9 (dk_at dksX9_utters_4 16 rfl rfl)
theorem dX9_utters_111 : decode cX9_utters 111 = .ok (.aload_n 0, 1) := dk_42 (dk_at dksX9_utters_4 19 rfl rfl)
theorem dX9_utters_112 : decode cX9_utters 112 = .ok (.iconst 0, 1) := dk_3 (dk_at dksX9_utters_4 20 rfl rfl)
theorem dX9_utters_113 : decode cX9_utters 113 = .ok (.putfield 191, 3) := dk_181 0 191 (dk_at dksX9_utters_4 21 rfl rfl)
theorem dX9_utters_116 : decode cX9_utters 116 = .ok (.return_, 1) := dk_177 (dk_at dksX9_utters_5 0 rfl rfl)
theorem dX9_utters_117 : decode cX9_utters 117 = .ok (.aload_n 0, 1) := dk_42 (dk_at dksX9_utters_5 1 rfl rfl)
theorem dX9_utters_118 : decode cX9_utters 118 = .ok (.getfield 188, 3) := dk_180 0 188 (dk_at dksX9_utters_5 2 rfl rfl)
theorem dX9_utters_121 : decode cX9_utters 121 = .ok (.iload 5, 2) := dk_21 5 (dk_at dksX9_utters_5 5 rfl rfl)
theorem dX9_utters_123 : decode cX9_utters 123 = .ok (.iload 6, 2) := dk_21 6 (dk_at dksX9_utters_5 7 rfl rfl)
theorem dX9_utters_125 : decode cX9_utters 125 = .ok (.iastore, 1) := dk_79 (dk_at dksX9_utters_5 9 rfl rfl)
theorem dX9_utters_126 : decode cX9_utters 126 = .ok (.iload 4, 2) := dk_21 4 (dk_at dksX9_utters_5 10 rfl rfl)
theorem dX9_utters_128 : decode cX9_utters 128 = .ok (.ifCond .eq 19, 3) := dk_153 0 19 (dk_at dksX9_utters_5 12 rfl rfl)
theorem dX9_utters_131 : decode cX9_utters 131 = .ok (.iload 6, 2) := dk_21 6 (dk_at dksX9_utters_5 15 rfl rfl)
theorem dX9_utters_133 : decode cX9_utters 133 = .ok (.aload_n 0, 1) := dk_42 (dk_at dksX9_utters_5 17 rfl rfl)
theorem dX9_utters_134 : decode cX9_utters 134 = .ok (.getfield 175, 3) := dk_180 0 175 (dk_at dksX9_utters_5 18 rfl rfl)
theorem dX9_utters_137 : decode cX9_utters 137 = .ok (.iload 5, 2) := dk_21 5 (dk_at dksX9_utters_5 21 rfl rfl)
theorem dX9_utters_139 : decode cX9_utters 139 = .ok (.iaload, 1) := dk_46 (dk_at dksX9_utters_5 23 rfl rfl)
theorem dX9_utters_140 : decode cX9_utters 140 = .ok (.if_icmp .ne 7, 3) := dk_160 0 7 (dk_at dksX9_utters_6 0 rfl rfl)
theorem dX9_utters_143 : decode cX9_utters 143 = .ok (.iconst 1, 1) := dk_4 (dk_at dksX9_utters_6 3 rfl rfl)
theorem dX9_utters_144 : decode cX9_utters 144 = .ok (.goto 4, 3) := dk_167 0 4 (dk_at dksX9_utters_6 4 rfl rfl)
theorem dX9_utters_147 : decode cX9_utters 147 = .ok (.iconst 0, 1) := dk_3 (dk_at dksX9_utters_6 7 rfl rfl)
theorem dX9_utters_148 : decode cX9_utters 148 = .ok (.istore 4, 2) := dk_54 4 (dk_at dksX9_utters_6 8 rfl rfl)
theorem dX9_utters_150 : decode cX9_utters 150 = .ok (.iload 6, 2) := dk_21 6 (dk_at dksX9_utters_6 10 rfl rfl)
theorem dX9_utters_152 : decode cX9_utters 152 = .ok (.istore_n 3, 1) := dk_62 (dk_at dksX9_utters_6 12 rfl rfl)
theorem dX9_utters_153 : decode cX9_utters 153 = .ok (.aload_n 0, 1) := dk_42 (dk_at dksX9_utters_6 13 rfl rfl)
theorem dX9_utters_154 : decode cX9_utters 154 = .ok (.dup, 1) := dk_89 (dk_at dksX9_utters_6 14 rfl rfl)
theorem dX9_utters_155 : decode cX9_utters 155 = .ok (.getfield 191, 3) := dk_180 0 191 (dk_at dksX9_utters_6 15 rfl rfl)
theorem dX9_utters_158 : decode cX9_utters 158 = .ok (.iconst 1, 1) := dk_4 (dk_at dksX9_utters_6 18 rfl rfl)
theorem dX9_utters_159 : decode cX9_utters 159 = .ok (.iadd, 1) := dk_96 (dk_at dksX9_utters_6 19 rfl rfl)
theorem dX9_utters_160 : decode cX9_utters 160 = .ok (.putfield 191, 3) := dk_181 0 191 (dk_at dksX9_utters_6 20 rfl rfl)
theorem dX9_utters_163 : decode cX9_utters 163 = .ok (.iinc 5 1, 3) := dk_132 5 1 (dk_at dksX9_utters_7 0 rfl rfl)
theorem dX9_utters_166 : decode cX9_utters 166 = .ok (.goto (-92), 3) := dk_167 255 164 (dk_at dksX9_utters_7 3 rfl rfl)
theorem dX9_utters_169 : decode cX9_utters 169 = .ok (.iload_n 2, 1) := dk_28 (dk_at dksX9_utters_7 6 rfl rfl)
theorem dX9_utters_170 : decode cX9_utters 170 = .ok (.aload_n 0, 1) := dk_42 (dk_at dksX9_utters_7 7 rfl rfl)
theorem dX9_utters_171 : decode cX9_utters 171 = .ok (.getfield 181, 3) := dk_180 0 181 (dk_at dksX9_utters_7 8 rfl rfl)
theorem dX9_utters_174 : decode cX9_utters 174 = .ok (.ifCond .le 7, 3) := dk_158 0 7 (dk_at dksX9_utters_7 11 rfl rfl)
theorem dX9_utters_177 : decode cX9_utters 177 = .ok (.iconst 1, 1) := dk_4 (dk_at dksX9_utters_7 14 rfl rfl)
theorem dX9_utters_178 : decode cX9_utters 178 = .ok (.goto 4, 3) := dk_167 0 4 (dk_at dksX9_utters_7 15 rfl rfl)
theorem dX9_utters_181 : decode cX9_utters 181 = .ok (.iconst 0, 1) := dk_3 (dk_at dksX9_utters_7 18 rfl rfl)
theorem dX9_utters_182 : decode cX9_utters 182 = .ok (.isub, 1) := dk_100 (dk_at dksX9_utters_7 19 rfl rfl)
theorem dX9_utters_183 : decode cX9_utters 183 = .ok (.istore_n 2, 1) := dk_61 (dk_at dksX9_utters_7 20 rfl rfl)
theorem dX9_utters_184 : decode cX9_utters 184 = .ok (.iconst 0, 1) := dk_3 (dk_at dksX9_utters_7 21 rfl rfl)
theorem dX9_utters_185 : decode cX9_utters 185 = .ok (.istore 5, 2) := dk_54 5 (dk_at dksX9_utters_7 22 rfl rfl)
theorem dX9_utters_187 : decode cX9_utters 187 = .ok (.iload 5, 2) := dk_21 5 (dk_at dksX9_utters_8 0 rfl rfl)
theorem dX9_utters_189 : decode cX9_utters 189 = .ok (.aload_n 0, 1) := dk_42 (dk_at dksX9_utters_8 2 rfl rfl)
theorem dX9_utters_190 : decode cX9_utters 190 = .ok (.getfield 181, 3) := dk_180 0 181 (dk_at dksX9_utters_8 3 rfl rfl)
theorem dX9_utters_193 : decode cX9_utters 193 = .ok (.if_icmp .ge 88, 3) := dk_162 0 88 (dk_at dksX9_utters_8 6 rfl rfl)
theorem dX9_utters_196 : decode cX9_utters 196 = .ok (.iload_n 2, 1) := dk_28 (dk_at dksX9_utters_8 9 rfl rfl)
theorem dX9_utters_197 : decode cX9_utters 197 = .ok (.ifCond .lt 84, 3) := dk_155 0 84 (dk_at dksX9_utters_8 10 rfl rfl)
theorem dX9_utters_200 : decode cX9_utters 200 = .ok (.aload_n 0, 1) := dk_42 (dk_at dksX9_utters_8 13 rfl rfl)
theorem dX9_utters_201 : decode cX9_utters 201 = .ok (.iload_n 1, 1) := dk_27 (dk_at dksX9_utters_8 14 rfl rfl)
theorem dX9_utters_202 : decode cX9_utters 202 = .ok (.aload_n 0, 1) := dk_42 (dk_at dksX9_utters_8 15 rfl rfl)
theorem dX9_utters_203 : decode cX9_utters 203 = .ok (.getfield 175, 3) := dk_180 0 175 (dk_at dksX9_utters_8 16 rfl rfl)
theorem dX9_utters_206 : decode cX9_utters 206 = .ok (.aload_n 0, 1) := dk_42 (dk_at dksX9_utters_8 19 rfl rfl)
theorem dX9_utters_207 : decode cX9_utters 207 = .ok (.getfield 178, 3) := dk_180 0 178 (dk_at dksX9_utters_8 20 rfl rfl)
theorem dX9_utters_210 : decode cX9_utters 210 = .ok (.iload 5, 2) := dk_21 5 (dk_at dksX9_utters_9 0 rfl rfl)
theorem dX9_utters_212 : decode cX9_utters 212 = .ok (.iadd, 1) := dk_96 (dk_at dksX9_utters_9 2 rfl rfl)
theorem dX9_utters_213 : decode cX9_utters 213 = .ok (.iaload, 1) := dk_46 (dk_at dksX9_utters_9 3 rfl rfl)
theorem dX9_utters_214 : decode cX9_utters 214 = .ok (.invokevirtual 423, 3) := dk_182 1 167 (dk_at dksX9_utters_9 4 rfl rfl)
theorem dX9_utters_217 : decode cX9_utters 217 = .ok (.istore 6, 2) := dk_54 6 (dk_at dksX9_utters_9 7 rfl rfl)
theorem dX9_utters_219 : decode cX9_utters 219 = .ok (.iload_n 2, 1) := dk_28 (dk_at dksX9_utters_9 9 rfl rfl)
theorem dX9_utters_220 : decode cX9_utters 220 = .ok (.aload_n 0, 1) := dk_42 (dk_at dksX9_utters_9 10 rfl rfl)
theorem dX9_utters_221 : decode cX9_utters 221 = .ok (.iload_n 3, 1) := dk_29 (dk_at dksX9_utters_9 11 rfl rfl)
theorem dX9_utters_222 : decode cX9_utters 222 = .ok (.iload 6, 2) := dk_21 6 (dk_at dksX9_utters_9 12 rfl rfl)
theorem dX9_utters_224 : decode cX9_utters 224 = .ok (.invokevirtual 426, 3) := dk_182 1 170 (dk_at dksX9_utters_9 14 rfl rfl)
theorem dX9_utters_227 : decode cX9_utters 227 = .ok (.isub, 1) := dk_100 (dk_at dksX9_utters_9 17 rfl rfl)
theorem dX9_utters_228 : decode cX9_utters 228 = .ok (.istore_n 2, 1) := dk_61 (dk_at dksX9_utters_9 18 rfl rfl)
theorem dX9_utters_229 : decode cX9_utters 229 = .ok (.aload_n 0, 1) := dk_42 (dk_at dksX9_utters_9 19 rfl rfl)
theorem dX9_utters_230 : decode cX9_utters 230 = .ok (.getfield 188, 3) := dk_180 0 188 (dk_at dksX9_utters_9 20 rfl rfl)
theorem dX9_utters_233 : decode cX9_utters 233 = .ok (.aload_n 0, 1) := dk_42 (dk_at dksX9_utters_9 23 rfl rfl)
theorem dX9_utters_234 : decode cX9_utters 234 = .ok (.getfield 178, 3) := dk_180 0 178 (dk_at dksX9_utters_10 0 rfl rfl)
theorem dX9_utters_237 : decode cX9_utters 237 = .ok (.iload 5, 2) := dk_21 5 (dk_at dksX9_utters_10 3 rfl rfl)
theorem dX9_utters_239 : decode cX9_utters 239 = .ok (.iadd, 1) := dk_96 (dk_at dksX9_utters_10 5 rfl rfl)
theorem dX9_utters_240 : decode cX9_utters 240 = .ok (.iload 6, 2) := dk_21 6 (dk_at dksX9_utters_10 6 rfl rfl)
theorem dX9_utters_242 : decode cX9_utters 242 = .ok (.iastore, 1) := dk_79 (dk_at dksX9_utters_10 8 rfl rfl)
theorem dX9_utters_243 : decode cX9_utters 243 = .ok (.iload 4, 2) := dk_21 4 (dk_at dksX9_utters_10 9 rfl rfl)
theorem dX9_utters_245 : decode cX9_utters 245 = .ok (.ifCond .eq 24, 3) := dk_153 0 24 (dk_at dksX9_utters_10 11 rfl rfl)
theorem dX9_utters_248 : decode cX9_utters 248 = .ok (.iload 6, 2) := dk_21 6 (dk_at dksX9_utters_10 14 rfl rfl)
theorem dX9_utters_250 : decode cX9_utters 250 = .ok (.aload_n 0, 1) := dk_42 (dk_at dksX9_utters_10 16 rfl rfl)
theorem dX9_utters_251 : decode cX9_utters 251 = .ok (.getfield 175, 3) := dk_180 0 175 (dk_at dksX9_utters_10 17 rfl rfl)
theorem dX9_utters_254 : decode cX9_utters 254 = .ok (.aload_n 0, 1) := dk_42 (dk_at dksX9_utters_10 20 rfl rfl)
theorem dX9_utters_255 : decode cX9_utters 255 = .ok (.getfield 178, 3) := dk_180 0 178 (dk_at dksX9_utters_10 21 rfl rfl)
theorem dX9_utters_258 : decode cX9_utters 258 = .ok (.iload 5, 2) := dk_21 5 (dk_at dksX9_utters_11 0 rfl rfl)
theorem dX9_utters_260 : decode cX9_utters 260 = .ok (.iadd, 1) := dk_96 (dk_at dksX9_utters_11 2 rfl rfl)
theorem dX9_utters_261 : decode cX9_utters 261 = .ok (.iaload, 1) := dk_46 (dk_at dksX9_utters_11 3 rfl rfl)
theorem dX9_utters_262 : decode cX9_utters 262 = .ok (.if_icmp .ne 7, 3) := dk_160 0 7 (dk_at dksX9_utters_11 4 rfl rfl)
theorem dX9_utters_265 : decode cX9_utters 265 = .ok (.iconst 1, 1) := dk_4 (dk_at dksX9_utters_11 7 rfl rfl)
theorem dX9_utters_266 : decode cX9_utters 266 = .ok (.goto 4, 3) := dk_167 0 4 (dk_at dksX9_utters_11 8 rfl rfl)
theorem dX9_utters_269 : decode cX9_utters 269 = .ok (.iconst 0, 1) := dk_3 (dk_at dksX9_utters_11 11 rfl rfl)
theorem dX9_utters_270 : decode cX9_utters 270 = .ok (.istore 4, 2) := dk_54 4 (dk_at dksX9_utters_11 12 rfl rfl)
theorem dX9_utters_272 : decode cX9_utters 272 = .ok (.iload 6, 2) := dk_21 6 (dk_at dksX9_utters_11 14 rfl rfl)
theorem dX9_utters_274 : decode cX9_utters 274 = .ok (.istore_n 3, 1) := dk_62 (dk_at dksX9_utters_11 16 rfl rfl)
theorem dX9_utters_275 : decode cX9_utters 275 = .ok (.iinc 5 1, 3) := dk_132 5 1 (dk_at dksX9_utters_11 17 rfl rfl)
theorem dX9_utters_278 : decode cX9_utters 278 = .ok (.goto (-91), 3) := dk_167 255 165 (dk_at dksX9_utters_11 20 rfl rfl)
theorem dX9_utters_281 : decode cX9_utters 281 = .ok (.aload_n 0, 1) := dk_42 (dk_at dksX9_utters_11 23 rfl rfl)
theorem dX9_utters_282 : decode cX9_utters 282 = .ok (.iload_n 2, 1) := dk_28 (dk_at dksX9_utters_12 0 rfl rfl)
theorem dX9_utters_283 : decode cX9_utters 283 = .ok (.ifCond .ge 7, 3) := dk_156 0 7 (dk_at dksX9_utters_12 1 rfl rfl)
theorem dX9_utters_286 : decode cX9_utters 286 = .ok (.iconst 0, 1) := dk_3 (dk_at dksX9_utters_12 4 rfl rfl)
theorem dX9_utters_287 : decode cX9_utters 287 = .ok (.goto 7, 3) := dk_167 0 7 (dk_at dksX9_utters_12 5 rfl rfl)
theorem dX9_utters_290 : decode cX9_utters 290 = .ok (.aload_n 0, 1) := dk_42 (dk_at dksX9_utters_12 8 rfl rfl)
theorem dX9_utters_291 : decode cX9_utters 291 = .ok (.getfield 181, 3) := dk_180 0 181 (dk_at dksX9_utters_12 9 rfl rfl)
theorem dX9_utters_294 : decode cX9_utters 294 = .ok (.putfield 194, 3) := dk_181 0 194 (dk_at dksX9_utters_12 12 rfl rfl)
theorem dX9_utters_297 : decode cX9_utters 297 = .ok (.aload_n 0, 1) := dk_42 (dk_at dksX9_utters_12 15 rfl rfl)
theorem dX9_utters_298 : decode cX9_utters 298 = .ok (.iload_n 2, 1) := dk_28 (dk_at dksX9_utters_12 16 rfl rfl)
theorem dX9_utters_299 : decode cX9_utters 299 = .ok (.ifCond .ge 7, 3) := dk_156 0 7 (dk_at dksX9_utters_12 17 rfl rfl)
theorem dX9_utters_302 : decode cX9_utters 302 = .ok (.iconst 2, 1) := dk_5 (dk_at dksX9_utters_12 20 rfl rfl)
theorem dX9_utters_303 : decode cX9_utters 303 = .ok (.goto 13, 3) := dk_167 0 13 (dk_at dksX9_utters_12 21 rfl rfl)
theorem dX9_utters_306 : decode cX9_utters 306 = .ok (.iload 4, 2) := dk_21 4 (dk_at dksX9_utters_13 0 rfl rfl)
theorem dX9_utters_308 : decode cX9_utters 308 = .ok (.ifCond .eq 7, 3) := dk_153 0 7 (dk_at dksX9_utters_13 2 rfl rfl)
theorem dX9_utters_311 : decode cX9_utters 311 = .ok (.iconst 0, 1) := dk_3 (dk_at dksX9_utters_13 5 rfl rfl)
theorem dX9_utters_312 : decode cX9_utters 312 = .ok (.goto 4, 3) := dk_167 0 4 (dk_at dksX9_utters_13 6 rfl rfl)
theorem dX9_utters_315 : decode cX9_utters 315 = .ok (.iconst 1, 1) := dk_4 (dk_at dksX9_utters_13 9 rfl rfl)
theorem dX9_utters_316 : decode cX9_utters 316 = .ok (.putfield 197, 3) := dk_181 0 197 (dk_at dksX9_utters_13 10 rfl rfl)
theorem dX9_utters_319 : decode cX9_utters 319 = .ok (.return_, 1) := dk_177 (dk_at dksX9_utters_13 13 rfl rfl)
def dkwX9_costs_2 : List UInt8 := [160, 0, 6, 132, 3, 255, 29, 172]
abbrev dktX9_costs_2 : List UInt8 := dkwX9_costs_2 ++ []
def dkwX9_costs_1 : List UInt8 := [16, 24, 42, 180, 0, 51, 104, 27, 96, 46, 42, 180, 0, 67, 16, 24, 42, 180, 0, 51, 104, 28, 96, 46]
abbrev dktX9_costs_1 : List UInt8 := dkwX9_costs_1 ++ dktX9_costs_2
def dkwX9_costs_0 : List UInt8 := [42, 180, 0, 61, 16, 24, 42, 180, 0, 51, 104, 28, 96, 46, 62, 27, 2, 159, 0, 37, 42, 180, 0, 67]
abbrev dktX9_costs_0 : List UInt8 := dkwX9_costs_0 ++ dktX9_costs_1
theorem dksX9_costs_0 : cX9_costs.data.toList.drop 0 = dktX9_costs_0 := by decide +kernel
theorem dksX9_costs_1 : cX9_costs.data.toList.drop 24 = dktX9_costs_1 := dk_seg dksX9_costs_0 24 rfl rfl
theorem dksX9_costs_2 : cX9_costs.data.toList.drop 48 = dktX9_costs_2 := dk_seg dksX9_costs_1 24 rfl rfl
theorem dX9_costs_0 : decode cX9_costs 0 = .ok (.aload_n 0, 1) := dk_42 (dk_at dksX9_costs_0 0 rfl rfl)
theorem dX9_costs_1 : decode cX9_costs 1 = .ok (.getfield 61, 3) := dk_180 0 61 (dk_at dksX9_costs_0 1 rfl rfl)
theorem dX9_costs_4 : decode cX9_costs 4 = .ok (.bipush 24, 2) := dk_16 24 (dk_at dksX9_costs_0 4 rfl rfl)
theorem dX9_costs_6 : decode cX9_costs 6 = .ok (.aload_n 0, 1) := dk_42 (dk_at dksX9_costs_0 6 rfl rfl)
theorem dX9_costs_7 : decode cX9_costs 7 = .ok (.getfield 51, 3) := dk_180 0 51 (dk_at dksX9_costs_0 7 rfl rfl)
theorem dX9_costs_10 : decode cX9_costs 10 = .ok (.imul, 1) := dk_104 (dk_at dksX9_costs_0 10 rfl rfl)
theorem dX9_costs_11 : decode cX9_costs 11 = .ok (.iload_n 2, 1) := dk_28 (dk_at dksX9_costs_0 11 rfl rfl)
theorem dX9_costs_12 : decode cX9_costs 12 = .ok (.iadd, 1) := dk_96 (dk_at dksX9_costs_0 12 rfl rfl)
theorem dX9_costs_13 : decode cX9_costs 13 = .ok (.iaload, 1) := dk_46 (dk_at dksX9_costs_0 13 rfl rfl)
theorem dX9_costs_14 : decode cX9_costs 14 = .ok (.istore_n 3, 1) := dk_62 (dk_at dksX9_costs_0 14 rfl rfl)
theorem dX9_costs_15 : decode cX9_costs 15 = .ok (.iload_n 1, 1) := dk_27 (dk_at dksX9_costs_0 15 rfl rfl)
theorem dX9_costs_16 : decode cX9_costs 16 = .ok (.iconst (-1), 1) := dk_2 (dk_at dksX9_costs_0 16 rfl rfl)
theorem dX9_costs_17 : decode cX9_costs 17 = .ok (.if_icmp .eq 37, 3) := dk_159 0 37 (dk_at dksX9_costs_0 17 rfl rfl)
theorem dX9_costs_20 : decode cX9_costs 20 = .ok (.aload_n 0, 1) := dk_42 (dk_at dksX9_costs_0 20 rfl rfl)
theorem dX9_costs_21 : decode cX9_costs 21 = .ok (.getfield 67, 3) := dk_180 0 67 (dk_at dksX9_costs_0 21 rfl rfl)
theorem dX9_costs_24 : decode cX9_costs 24 = .ok (.bipush 24, 2) := dk_16 24 (dk_at dksX9_costs_1 0 rfl rfl)
theorem dX9_costs_26 : decode cX9_costs 26 = .ok (.aload_n 0, 1) := dk_42 (dk_at dksX9_costs_1 2 rfl rfl)
theorem dX9_costs_27 : decode cX9_costs 27 = .ok (.getfield 51, 3) := dk_180 0 51 (dk_at dksX9_costs_1 3 rfl rfl)
theorem dX9_costs_30 : decode cX9_costs 30 = .ok (.imul, 1) := dk_104 (dk_at dksX9_costs_1 6 rfl rfl)
theorem dX9_costs_31 : decode cX9_costs 31 = .ok (.iload_n 1, 1) := dk_27 (dk_at dksX9_costs_1 7 rfl rfl)
theorem dX9_costs_32 : decode cX9_costs 32 = .ok (.iadd, 1) := dk_96 (dk_at dksX9_costs_1 8 rfl rfl)
theorem dX9_costs_33 : decode cX9_costs 33 = .ok (.iaload, 1) := dk_46 (dk_at dksX9_costs_1 9 rfl rfl)
theorem dX9_costs_34 : decode cX9_costs 34 = .ok (.aload_n 0, 1) := dk_42 (dk_at dksX9_costs_1 10 rfl rfl)
theorem dX9_costs_35 : decode cX9_costs 35 = .ok (.getfield 67, 3) := dk_180 0 67 (dk_at dksX9_costs_1 11 rfl rfl)
theorem dX9_costs_38 : decode cX9_costs 38 = .ok (.bipush 24, 2) := dk_16 24 (dk_at dksX9_costs_1 14 rfl rfl)
theorem dX9_costs_40 : decode cX9_costs 40 = .ok (.aload_n 0, 1) := dk_42 (dk_at dksX9_costs_1 16 rfl rfl)
theorem dX9_costs_41 : decode cX9_costs 41 = .ok (.getfield 51, 3) := dk_180 0 51 (dk_at dksX9_costs_1 17 rfl rfl)
theorem dX9_costs_44 : decode cX9_costs 44 = .ok (.imul, 1) := dk_104 (dk_at dksX9_costs_1 20 rfl rfl)
theorem dX9_costs_45 : decode cX9_costs 45 = .ok (.iload_n 2, 1) := dk_28 (dk_at dksX9_costs_1 21 rfl rfl)
theorem dX9_costs_46 : decode cX9_costs 46 = .ok (.iadd, 1) := dk_96 (dk_at dksX9_costs_1 22 rfl rfl)
theorem dX9_costs_47 : decode cX9_costs 47 = .ok (.iaload, 1) := dk_46 (dk_at dksX9_costs_1 23 rfl rfl)
theorem dX9_costs_48 : decode cX9_costs 48 = .ok (.if_icmp .ne 6, 3) := dk_160 0 6 (dk_at dksX9_costs_2 0 rfl rfl)
theorem dX9_costs_51 : decode cX9_costs 51 = .ok (.iinc 3 (-1), 3) := dk_132 3 255 (dk_at dksX9_costs_2 3 rfl rfl)
theorem dX9_costs_54 : decode cX9_costs 54 = .ok (.iload_n 3, 1) := dk_29 (dk_at dksX9_costs_2 6 rfl rfl)
theorem dX9_costs_55 : decode cX9_costs 55 = .ok (.ireturn, 1) := dk_172 (dk_at dksX9_costs_2 7 rfl rfl)
def dkwX9_sits_3 : List UInt8 := [184, 1, 68, 153, 0, 17, 42, 180, 0, 218, 16, 12, 28, 104, 29, 96, 46, 167, 0, 4, 2, 172]
abbrev dktX9_sits_3 : List UInt8 := dkwX9_sits_3 ++ []
def dkwX9_sits_2 : List UInt8 := [28, 46, 167, 0, 41, 29, 16, 20, 160, 0, 8, 21, 4, 167, 0, 30, 29, 3, 21, 4, 4, 100]
abbrev dktX9_sits_2 : List UInt8 := dkwX9_sits_2 ++ dktX9_sits_3
def dkwX9_sits_1 : List UInt8 := [42, 180, 0, 212, 28, 46, 42, 180, 0, 215, 28, 46, 96, 54, 4, 29, 2, 160, 0, 12, 42, 180, 0, 209]
abbrev dktX9_sits_1 : List UInt8 := dkwX9_sits_1 ++ dktX9_sits_2
def dkwX9_sits_0 : List UInt8 := [42, 27, 182, 1, 164, 153, 0, 11, 42, 28, 182, 1, 173, 154, 0, 5, 2, 172, 42, 27, 182, 1, 191, 87]
abbrev dktX9_sits_0 : List UInt8 := dkwX9_sits_0 ++ dktX9_sits_1
theorem dksX9_sits_0 : cX9_sits.data.toList.drop 0 = dktX9_sits_0 := by decide +kernel
theorem dksX9_sits_1 : cX9_sits.data.toList.drop 24 = dktX9_sits_1 := dk_seg dksX9_sits_0 24 rfl rfl
theorem dksX9_sits_2 : cX9_sits.data.toList.drop 48 = dktX9_sits_2 := dk_seg dksX9_sits_1 24 rfl rfl
theorem dksX9_sits_3 : cX9_sits.data.toList.drop 70 = dktX9_sits_3 := dk_seg dksX9_sits_2 22 rfl rfl
theorem dX9_sits_0 : decode cX9_sits 0 = .ok (.aload_n 0, 1) := dk_42 (dk_at dksX9_sits_0 0 rfl rfl)
theorem dX9_sits_1 : decode cX9_sits 1 = .ok (.iload_n 1, 1) := dk_27 (dk_at dksX9_sits_0 1 rfl rfl)
theorem dX9_sits_2 : decode cX9_sits 2 = .ok (.invokevirtual 420, 3) := dk_182 1 164 (dk_at dksX9_sits_0 2 rfl rfl)
theorem dX9_sits_5 : decode cX9_sits 5 = .ok (.ifCond .eq 11, 3) := dk_153 0 11 (dk_at dksX9_sits_0 5 rfl rfl)
theorem dX9_sits_8 : decode cX9_sits 8 = .ok (.aload_n 0, 1) := dk_42 (dk_at dksX9_sits_0 8 rfl rfl)
theorem dX9_sits_9 : decode cX9_sits 9 = .ok (.iload_n 2, 1) := dk_28 (dk_at dksX9_sits_0 9 rfl rfl)
theorem dX9_sits_10 : decode cX9_sits 10 = .ok (.invokevirtual 429, 3) := dk_182 1 173 (dk_at dksX9_sits_0 10 rfl rfl)
theorem dX9_sits_13 : decode cX9_sits 13 = .ok (.ifCond .ne 5, 3) := dk_154 0 5 (dk_at dksX9_sits_0 13 rfl rfl)
theorem dX9_sits_16 : decode cX9_sits 16 = .ok (.iconst (-1), 1) := dk_2 (dk_at dksX9_sits_0 16 rfl rfl)
theorem dX9_sits_17 : decode cX9_sits 17 = .ok (.ireturn, 1) := dk_172 (dk_at dksX9_sits_0 17 rfl rfl)
theorem dX9_sits_18 : decode cX9_sits 18 = .ok (.aload_n 0, 1) := dk_42 (dk_at dksX9_sits_0 18 rfl rfl)
theorem dX9_sits_19 : decode cX9_sits 19 = .ok (.iload_n 1, 1) := dk_27 (dk_at dksX9_sits_0 19 rfl rfl)
theorem dX9_sits_20 : decode cX9_sits 20 = .ok (.invokevirtual 447, 3) := dk_182 1 191 (dk_at dksX9_sits_0 20 rfl rfl)
theorem dX9_sits_23 : decode cX9_sits 23 = .ok (.pop, 1) := dk_87 (dk_at dksX9_sits_0 23 rfl rfl)
theorem dX9_sits_24 : decode cX9_sits 24 = .ok (.aload_n 0, 1) := dk_42 (dk_at dksX9_sits_1 0 rfl rfl)
theorem dX9_sits_25 : decode cX9_sits 25 = .ok (.getfield 212, 3) := dk_180 0 212 (dk_at dksX9_sits_1 1 rfl rfl)
theorem dX9_sits_28 : decode cX9_sits 28 = .ok (.iload_n 2, 1) := dk_28 (dk_at dksX9_sits_1 4 rfl rfl)
theorem dX9_sits_29 : decode cX9_sits 29 = .ok (.iaload, 1) := dk_46 (dk_at dksX9_sits_1 5 rfl rfl)
theorem dX9_sits_30 : decode cX9_sits 30 = .ok (.aload_n 0, 1) := dk_42 (dk_at dksX9_sits_1 6 rfl rfl)
theorem dX9_sits_31 : decode cX9_sits 31 = .ok (.getfield 215, 3) := dk_180 0 215 (dk_at dksX9_sits_1 7 rfl rfl)
theorem dX9_sits_34 : decode cX9_sits 34 = .ok (.iload_n 2, 1) := dk_28 (dk_at dksX9_sits_1 10 rfl rfl)
theorem dX9_sits_35 : decode cX9_sits 35 = .ok (.iaload, 1) := dk_46 (dk_at dksX9_sits_1 11 rfl rfl)
theorem dX9_sits_36 : decode cX9_sits 36 = .ok (.iadd, 1) := dk_96 (dk_at dksX9_sits_1 12 rfl rfl)
theorem dX9_sits_37 : decode cX9_sits 37 = .ok (.istore 4, 2) := dk_54 4 (dk_at dksX9_sits_1 13 rfl rfl)
theorem dX9_sits_39 : decode cX9_sits 39 = .ok (.iload_n 3, 1) := dk_29 (dk_at dksX9_sits_1 15 rfl rfl)
theorem dX9_sits_40 : decode cX9_sits 40 = .ok (.iconst (-1), 1) := dk_2 (dk_at dksX9_sits_1 16 rfl rfl)
theorem dX9_sits_41 : decode cX9_sits 41 = .ok (.if_icmp .ne 12, 3) := dk_160 0 12 (dk_at dksX9_sits_1 17 rfl rfl)
theorem dX9_sits_44 : decode cX9_sits 44 = .ok (.aload_n 0, 1) := dk_42 (dk_at dksX9_sits_1 20 rfl rfl)
theorem dX9_sits_45 : decode cX9_sits 45 = .ok (.getfield 209, 3) := dk_180 0 209 (dk_at dksX9_sits_1 21 rfl rfl)
theorem dX9_sits_48 : decode cX9_sits 48 = .ok (.iload_n 2, 1) := dk_28 (dk_at dksX9_sits_2 0 rfl rfl)
theorem dX9_sits_49 : decode cX9_sits 49 = .ok (.iaload, 1) := dk_46 (dk_at dksX9_sits_2 1 rfl rfl)
theorem dX9_sits_50 : decode cX9_sits 50 = .ok (.goto 41, 3) := dk_167 0 41 (dk_at dksX9_sits_2 2 rfl rfl)
theorem dX9_sits_53 : decode cX9_sits 53 = .ok (.iload_n 3, 1) := dk_29 (dk_at dksX9_sits_2 5 rfl rfl)
theorem dX9_sits_54 : decode cX9_sits 54 = .ok (.bipush 20, 2) := dk_16 20 (dk_at dksX9_sits_2 6 rfl rfl)
theorem dX9_sits_56 : decode cX9_sits 56 = .ok (.if_icmp .ne 8, 3) := dk_160 0 8 (dk_at dksX9_sits_2 8 rfl rfl)
theorem dX9_sits_59 : decode cX9_sits 59 = .ok (.iload 4, 2) := dk_21 4 (dk_at dksX9_sits_2 11 rfl rfl)
theorem dX9_sits_61 : decode cX9_sits 61 = .ok (.goto 30, 3) := dk_167 0 30 (dk_at dksX9_sits_2 13 rfl rfl)
theorem dX9_sits_64 : decode cX9_sits 64 = .ok (.iload_n 3, 1) := dk_29 (dk_at dksX9_sits_2 16 rfl rfl)
theorem dX9_sits_65 : decode cX9_sits 65 = .ok (.iconst 0, 1) := dk_3 (dk_at dksX9_sits_2 17 rfl rfl)
theorem dX9_sits_66 : decode cX9_sits 66 = .ok (.iload 4, 2) := dk_21 4 (dk_at dksX9_sits_2 18 rfl rfl)
theorem dX9_sits_68 : decode cX9_sits 68 = .ok (.iconst 1, 1) := dk_4 (dk_at dksX9_sits_2 20 rfl rfl)
theorem dX9_sits_69 : decode cX9_sits 69 = .ok (.isub, 1) := dk_100 (dk_at dksX9_sits_2 21 rfl rfl)
theorem dX9_sits_70 : decode cX9_sits 70 = .ok (.invokestatic 324, 3) := dk_184 1 68 (dk_at dksX9_sits_3 0 rfl rfl)
theorem dX9_sits_73 : decode cX9_sits 73 = .ok (.ifCond .eq 17, 3) := dk_153 0 17 (dk_at dksX9_sits_3 3 rfl rfl)
theorem dX9_sits_76 : decode cX9_sits 76 = .ok (.aload_n 0, 1) := dk_42 (dk_at dksX9_sits_3 6 rfl rfl)
theorem dX9_sits_77 : decode cX9_sits 77 = .ok (.getfield 218, 3) := dk_180 0 218 (dk_at dksX9_sits_3 7 rfl rfl)
theorem dX9_sits_80 : decode cX9_sits 80 = .ok (.bipush 12, 2) := dk_16 12 (dk_at dksX9_sits_3 10 rfl rfl)
theorem dX9_sits_82 : decode cX9_sits 82 = .ok (.iload_n 2, 1) := dk_28 (dk_at dksX9_sits_3 12 rfl rfl)
theorem dX9_sits_83 : decode cX9_sits 83 = .ok (.imul, 1) := dk_104 (dk_at dksX9_sits_3 13 rfl rfl)
theorem dX9_sits_84 : decode cX9_sits 84 = .ok (.iload_n 3, 1) := dk_29 (dk_at dksX9_sits_3 14 rfl rfl)
theorem dX9_sits_85 : decode cX9_sits 85 = .ok (.iadd, 1) := dk_96 (dk_at dksX9_sits_3 15 rfl rfl)
theorem dX9_sits_86 : decode cX9_sits 86 = .ok (.iaload, 1) := dk_46 (dk_at dksX9_sits_3 16 rfl rfl)
theorem dX9_sits_87 : decode cX9_sits 87 = .ok (.goto 4, 3) := dk_167 0 4 (dk_at dksX9_sits_3 17 rfl rfl)
theorem dX9_sits_90 : decode cX9_sits 90 = .ok (.iconst (-1), 1) := dk_2 (dk_at dksX9_sits_3 20 rfl rfl)
theorem dX9_sits_91 : decode cX9_sits 91 = .ok (.ireturn, 1) := dk_172 (dk_at dksX9_sits_3 21 rfl rfl)
def dkwX9_sitsNow_0 : List UInt8 := [42, 3, 182, 1, 185, 42, 3, 27, 182, 1, 188, 4, 172]
abbrev dktX9_sitsNow_0 : List UInt8 := dkwX9_sitsNow_0 ++ []
theorem dksX9_sitsNow_0 : cX9_sitsNow.data.toList.drop 0 = dktX9_sitsNow_0 := by decide +kernel
theorem dX9_sitsNow_0 : decode cX9_sitsNow 0 = .ok (.aload_n 0, 1) := dk_42 (dk_at dksX9_sitsNow_0 0 rfl rfl)
theorem dX9_sitsNow_1 : decode cX9_sitsNow 1 = .ok (.iconst 0, 1) := dk_3 (dk_at dksX9_sitsNow_0 1 rfl rfl)
theorem dX9_sitsNow_2 : decode cX9_sitsNow 2 = .ok (.invokevirtual 441, 3) := dk_182 1 185 (dk_at dksX9_sitsNow_0 2 rfl rfl)
theorem dX9_sitsNow_5 : decode cX9_sitsNow 5 = .ok (.aload_n 0, 1) := dk_42 (dk_at dksX9_sitsNow_0 5 rfl rfl)
theorem dX9_sitsNow_6 : decode cX9_sitsNow 6 = .ok (.iconst 0, 1) := dk_3 (dk_at dksX9_sitsNow_0 6 rfl rfl)
theorem dX9_sitsNow_7 : decode cX9_sitsNow 7 = .ok (.iload_n 1, 1) := dk_27 (dk_at dksX9_sitsNow_0 7 rfl rfl)
theorem dX9_sitsNow_8 : decode cX9_sitsNow 8 = .ok (.invokevirtual 444, 3) := dk_182 1 188 (dk_at dksX9_sitsNow_0 8 rfl rfl)
theorem dX9_sitsNow_11 : decode cX9_sitsNow 11 = .ok (.iconst 1, 1) := dk_4 (dk_at dksX9_sitsNow_0 11 rfl rfl)
theorem dX9_sitsNow_12 : decode cX9_sitsNow 12 = .ok (.ireturn, 1) := dk_172 (dk_at dksX9_sitsNow_0 12 rfl rfl)
def dkwX9_seatsOf_2 : List UInt8 := [42, 180, 0, 206, 29, 79, 42, 89, 180, 0, 206, 4, 96, 181, 0, 206, 132, 2, 1, 167, 255, 196, 177]
abbrev dktX9_seatsOf_2 : List UInt8 := dkwX9_seatsOf_2 ++ []
def dkwX9_seatsOf_1 : List UInt8 := [16, 12, 27, 104, 28, 96, 46, 62, 42, 27, 29, 182, 1, 143, 154, 0, 6, 167, 0, 23, 42, 180, 0, 203]
abbrev dktX9_seatsOf_1 : List UInt8 := dkwX9_seatsOf_1 ++ dktX9_seatsOf_2
def dkwX9_seatsOf_0 : List UInt8 := [42, 3, 181, 0, 206, 3, 61, 28, 42, 180, 0, 100, 42, 180, 0, 51, 46, 162, 0, 53, 42, 180, 0, 145]
abbrev dktX9_seatsOf_0 : List UInt8 := dkwX9_seatsOf_0 ++ dktX9_seatsOf_1
theorem dksX9_seatsOf_0 : cX9_seatsOf.data.toList.drop 0 = dktX9_seatsOf_0 := by decide +kernel
theorem dksX9_seatsOf_1 : cX9_seatsOf.data.toList.drop 24 = dktX9_seatsOf_1 := dk_seg dksX9_seatsOf_0 24 rfl rfl
theorem dksX9_seatsOf_2 : cX9_seatsOf.data.toList.drop 48 = dktX9_seatsOf_2 := dk_seg dksX9_seatsOf_1 24 rfl rfl
theorem dX9_seatsOf_0 : decode cX9_seatsOf 0 = .ok (.aload_n 0, 1) := dk_42 (dk_at dksX9_seatsOf_0 0 rfl rfl)
theorem dX9_seatsOf_1 : decode cX9_seatsOf 1 = .ok (.iconst 0, 1) := dk_3 (dk_at dksX9_seatsOf_0 1 rfl rfl)
theorem dX9_seatsOf_2 : decode cX9_seatsOf 2 = .ok (.putfield 206, 3) := dk_181 0 206 (dk_at dksX9_seatsOf_0 2 rfl rfl)
theorem dX9_seatsOf_5 : decode cX9_seatsOf 5 = .ok (.iconst 0, 1) := dk_3 (dk_at dksX9_seatsOf_0 5 rfl rfl)
theorem dX9_seatsOf_6 : decode cX9_seatsOf 6 = .ok (.istore_n 2, 1) := dk_61 (dk_at dksX9_seatsOf_0 6 rfl rfl)
theorem dX9_seatsOf_7 : decode cX9_seatsOf 7 = .ok (.iload_n 2, 1) := dk_28 (dk_at dksX9_seatsOf_0 7 rfl rfl)
theorem dX9_seatsOf_8 : decode cX9_seatsOf 8 = .ok (.aload_n 0, 1) := dk_42 (dk_at dksX9_seatsOf_0 8 rfl rfl)
theorem dX9_seatsOf_9 : decode cX9_seatsOf 9 = .ok (.getfield 100, 3) := dk_180 0 100 (dk_at dksX9_seatsOf_0 9 rfl rfl)
theorem dX9_seatsOf_12 : decode cX9_seatsOf 12 = .ok (.aload_n 0, 1) := dk_42 (dk_at dksX9_seatsOf_0 12 rfl rfl)
theorem dX9_seatsOf_13 : decode cX9_seatsOf 13 = .ok (.getfield 51, 3) := dk_180 0 51 (dk_at dksX9_seatsOf_0 13 rfl rfl)
theorem dX9_seatsOf_16 : decode cX9_seatsOf 16 = .ok (.iaload, 1) := dk_46 (dk_at dksX9_seatsOf_0 16 rfl rfl)
theorem dX9_seatsOf_17 : decode cX9_seatsOf 17 = .ok (.if_icmp .ge 53, 3) := dk_162 0 53 (dk_at dksX9_seatsOf_0 17 rfl rfl)
theorem dX9_seatsOf_20 : decode cX9_seatsOf 20 = .ok (.aload_n 0, 1) := dk_42 (dk_at dksX9_seatsOf_0 20 rfl rfl)
theorem dX9_seatsOf_21 : decode cX9_seatsOf 21 = .ok (.getfield 145, 3) := dk_180 0 145 (dk_at dksX9_seatsOf_0 21 rfl rfl)
theorem dX9_seatsOf_24 : decode cX9_seatsOf 24 = .ok (.bipush 12, 2) := dk_16 12 (dk_at dksX9_seatsOf_1 0 rfl rfl)
theorem dX9_seatsOf_26 : decode cX9_seatsOf 26 = .ok (.iload_n 1, 1) := dk_27 (dk_at dksX9_seatsOf_1 2 rfl rfl)
theorem dX9_seatsOf_27 : decode cX9_seatsOf 27 = .ok (.imul, 1) := dk_104 (dk_at dksX9_seatsOf_1 3 rfl rfl)
theorem dX9_seatsOf_28 : decode cX9_seatsOf 28 = .ok (.iload_n 2, 1) := dk_28 (dk_at dksX9_seatsOf_1 4 rfl rfl)
theorem dX9_seatsOf_29 : decode cX9_seatsOf 29 = .ok (.iadd, 1) := dk_96 (dk_at dksX9_seatsOf_1 5 rfl rfl)
theorem dX9_seatsOf_30 : decode cX9_seatsOf 30 = .ok (.iaload, 1) := dk_46 (dk_at dksX9_seatsOf_1 6 rfl rfl)
theorem dX9_seatsOf_31 : decode cX9_seatsOf 31 = .ok (.istore_n 3, 1) := dk_62 (dk_at dksX9_seatsOf_1 7 rfl rfl)
theorem dX9_seatsOf_32 : decode cX9_seatsOf 32 = .ok (.aload_n 0, 1) := dk_42 (dk_at dksX9_seatsOf_1 8 rfl rfl)
theorem dX9_seatsOf_33 : decode cX9_seatsOf 33 = .ok (.iload_n 1, 1) := dk_27 (dk_at dksX9_seatsOf_1 9 rfl rfl)
theorem dX9_seatsOf_34 : decode cX9_seatsOf 34 = .ok (.iload_n 3, 1) := dk_29 (dk_at dksX9_seatsOf_1 10 rfl rfl)
theorem dX9_seatsOf_35 : decode cX9_seatsOf 35 = .ok (.invokevirtual 399, 3) := dk_182 1 143 (dk_at dksX9_seatsOf_1 11 rfl rfl)
theorem dX9_seatsOf_38 : decode cX9_seatsOf 38 = .ok (.ifCond .ne 6, 3) := dk_154 0 6 (dk_at dksX9_seatsOf_1 14 rfl rfl)
theorem dX9_seatsOf_41 : decode cX9_seatsOf 41 = .ok (.goto 23, 3) := dk_167 0 23 (dk_at dksX9_seatsOf_1 17 rfl rfl)
theorem dX9_seatsOf_44 : decode cX9_seatsOf 44 = .ok (.aload_n 0, 1) := dk_42 (dk_at dksX9_seatsOf_1 20 rfl rfl)
theorem dX9_seatsOf_45 : decode cX9_seatsOf 45 = .ok (.getfield 203, 3) := dk_180 0 203 (dk_at dksX9_seatsOf_1 21 rfl rfl)
theorem dX9_seatsOf_48 : decode cX9_seatsOf 48 = .ok (.aload_n 0, 1) := dk_42 (dk_at dksX9_seatsOf_2 0 rfl rfl)
theorem dX9_seatsOf_49 : decode cX9_seatsOf 49 = .ok (.getfield 206, 3) := dk_180 0 206 (dk_at dksX9_seatsOf_2 1 rfl rfl)
theorem dX9_seatsOf_52 : decode cX9_seatsOf 52 = .ok (.iload_n 3, 1) := dk_29 (dk_at dksX9_seatsOf_2 4 rfl rfl)
theorem dX9_seatsOf_53 : decode cX9_seatsOf 53 = .ok (.iastore, 1) := dk_79 (dk_at dksX9_seatsOf_2 5 rfl rfl)
theorem dX9_seatsOf_54 : decode cX9_seatsOf 54 = .ok (.aload_n 0, 1) := dk_42 (dk_at dksX9_seatsOf_2 6 rfl rfl)
theorem dX9_seatsOf_55 : decode cX9_seatsOf 55 = .ok (.dup, 1) := dk_89 (dk_at dksX9_seatsOf_2 7 rfl rfl)
theorem dX9_seatsOf_56 : decode cX9_seatsOf 56 = .ok (.getfield 206, 3) := dk_180 0 206 (dk_at dksX9_seatsOf_2 8 rfl rfl)
theorem dX9_seatsOf_59 : decode cX9_seatsOf 59 = .ok (.iconst 1, 1) := dk_4 (dk_at dksX9_seatsOf_2 11 rfl rfl)
theorem dX9_seatsOf_60 : decode cX9_seatsOf 60 = .ok (.iadd, 1) := dk_96 (dk_at dksX9_seatsOf_2 12 rfl rfl)
theorem dX9_seatsOf_61 : decode cX9_seatsOf 61 = .ok (.putfield 206, 3) := dk_181 0 206 (dk_at dksX9_seatsOf_2 13 rfl rfl)
theorem dX9_seatsOf_64 : decode cX9_seatsOf 64 = .ok (.iinc 2 1, 3) := dk_132 2 1 (dk_at dksX9_seatsOf_2 16 rfl rfl)
theorem dX9_seatsOf_67 : decode cX9_seatsOf 67 = .ok (.goto (-60), 3) := dk_167 255 196 (dk_at dksX9_seatsOf_2 19 rfl rfl)
theorem dX9_seatsOf_70 : decode cX9_seatsOf 70 = .ok (.return_, 1) := dk_177 (dk_at dksX9_seatsOf_2 22 rfl rfl)
def dkwX9_sittingOf_10 : List UInt8 := [132, 4, 1, 167, 255, 23, 177]
abbrev dktX9_sittingOf_10 : List UInt8 := dkwX9_sittingOf_10 ++ []
def dkwX9_sittingOf_9 : List UInt8 := [132, 7, 1, 167, 255, 204, 29, 42, 180, 0, 197, 6, 160, 0, 7, 3, 167, 0, 4, 4, 96, 62]
abbrev dktX9_sittingOf_9 : List UInt8 := dkwX9_sittingOf_9 ++ dktX9_sittingOf_10
def dkwX9_sittingOf_8 : List UInt8 := [180, 0, 218, 16, 12, 21, 6, 104, 21, 7, 96, 46, 167, 0, 10, 42, 180, 0, 188, 21, 7, 46, 79]
abbrev dktX9_sittingOf_8 : List UInt8 := dkwX9_sittingOf_8 ++ dktX9_sittingOf_9
def dkwX9_sittingOf_7 : List UInt8 := [16, 12, 162, 0, 51, 42, 180, 0, 218, 16, 12, 21, 5, 104, 21, 7, 96, 21, 6, 2, 159, 0, 19, 42]
abbrev dktX9_sittingOf_7 : List UInt8 := dkwX9_sittingOf_7 ++ dktX9_sittingOf_8
def dkwX9_sittingOf_6 : List UInt8 := [159, 0, 13, 42, 180, 0, 215, 21, 6, 46, 167, 0, 7, 42, 180, 0, 194, 79, 3, 54, 7, 21, 7]
abbrev dktX9_sittingOf_6 : List UInt8 := dkwX9_sittingOf_6 ++ dktX9_sittingOf_7
def dkwX9_sittingOf_5 : List UInt8 := [42, 180, 0, 212, 21, 6, 46, 167, 0, 7, 42, 180, 0, 191, 79, 42, 180, 0, 215, 21, 5, 21, 6, 2]
abbrev dktX9_sittingOf_5 : List UInt8 := dkwX9_sittingOf_5 ++ dktX9_sittingOf_6
def dkwX9_sittingOf_4 : List UInt8 := [159, 0, 7, 7, 167, 0, 7, 42, 180, 0, 197, 79, 42, 180, 0, 212, 21, 5, 21, 6, 2, 159, 0, 13]
abbrev dktX9_sittingOf_4 : List UInt8 := dkwX9_sittingOf_4 ++ dktX9_sittingOf_5
def dkwX9_sittingOf_3 : List UInt8 := [160, 0, 7, 2, 167, 0, 9, 42, 21, 4, 182, 1, 182, 54, 6, 42, 180, 0, 209, 21, 5, 21, 6, 2]
abbrev dktX9_sittingOf_3 : List UInt8 := dkwX9_sittingOf_3 ++ dktX9_sittingOf_4
def dkwX9_sittingOf_2 : List UInt8 := [167, 0, 18, 42, 6, 181, 0, 197, 42, 3, 181, 0, 191, 42, 3, 181, 0, 194, 42, 180, 0, 197, 6]
abbrev dktX9_sittingOf_2 : List UInt8 := dkwX9_sittingOf_2 ++ dktX9_sittingOf_3
def dkwX9_sittingOf_1 : List UInt8 := [27, 21, 5, 182, 1, 176, 29, 42, 180, 0, 118, 42, 180, 0, 51, 46, 162, 0, 11, 42, 28, 182, 1, 179]
abbrev dktX9_sittingOf_1 : List UInt8 := dkwX9_sittingOf_1 ++ dktX9_sittingOf_2
def dkwX9_sittingOf_0 : List UInt8 := [3, 62, 3, 54, 4, 21, 4, 42, 180, 0, 206, 162, 0, 230, 42, 180, 0, 203, 21, 4, 46, 54, 5, 42]
abbrev dktX9_sittingOf_0 : List UInt8 := dkwX9_sittingOf_0 ++ dktX9_sittingOf_1
theorem dksX9_sittingOf_0 : cX9_sittingOf.data.toList.drop 0 = dktX9_sittingOf_0 := by decide +kernel
theorem dksX9_sittingOf_1 : cX9_sittingOf.data.toList.drop 24 = dktX9_sittingOf_1 := dk_seg dksX9_sittingOf_0 24 rfl rfl
theorem dksX9_sittingOf_2 : cX9_sittingOf.data.toList.drop 48 = dktX9_sittingOf_2 := dk_seg dksX9_sittingOf_1 24 rfl rfl
theorem dksX9_sittingOf_3 : cX9_sittingOf.data.toList.drop 71 = dktX9_sittingOf_3 := dk_seg dksX9_sittingOf_2 23 rfl rfl
theorem dksX9_sittingOf_4 : cX9_sittingOf.data.toList.drop 95 = dktX9_sittingOf_4 := dk_seg dksX9_sittingOf_3 24 rfl rfl
theorem dksX9_sittingOf_5 : cX9_sittingOf.data.toList.drop 119 = dktX9_sittingOf_5 := dk_seg dksX9_sittingOf_4 24 rfl rfl
theorem dksX9_sittingOf_6 : cX9_sittingOf.data.toList.drop 143 = dktX9_sittingOf_6 := dk_seg dksX9_sittingOf_5 24 rfl rfl
theorem dksX9_sittingOf_7 : cX9_sittingOf.data.toList.drop 166 = dktX9_sittingOf_7 := dk_seg dksX9_sittingOf_6 23 rfl rfl
theorem dksX9_sittingOf_8 : cX9_sittingOf.data.toList.drop 190 = dktX9_sittingOf_8 := dk_seg dksX9_sittingOf_7 24 rfl rfl
theorem dksX9_sittingOf_9 : cX9_sittingOf.data.toList.drop 213 = dktX9_sittingOf_9 := dk_seg dksX9_sittingOf_8 23 rfl rfl
theorem dksX9_sittingOf_10 : cX9_sittingOf.data.toList.drop 235 = dktX9_sittingOf_10 := dk_seg dksX9_sittingOf_9 22 rfl rfl
theorem dX9_sittingOf_0 : decode cX9_sittingOf 0 = .ok (.iconst 0, 1) := dk_3 (dk_at dksX9_sittingOf_0 0 rfl rfl)
theorem dX9_sittingOf_1 : decode cX9_sittingOf 1 = .ok (.istore_n 3, 1) := dk_62 (dk_at dksX9_sittingOf_0 1 rfl rfl)
theorem dX9_sittingOf_2 : decode cX9_sittingOf 2 = .ok (.iconst 0, 1) := dk_3 (dk_at dksX9_sittingOf_0 2 rfl rfl)
theorem dX9_sittingOf_3 : decode cX9_sittingOf 3 = .ok (.istore 4, 2) := dk_54 4 (dk_at dksX9_sittingOf_0 3 rfl rfl)
theorem dX9_sittingOf_5 : decode cX9_sittingOf 5 = .ok (.iload 4, 2) := dk_21 4 (dk_at dksX9_sittingOf_0 5 rfl rfl)
theorem dX9_sittingOf_7 : decode cX9_sittingOf 7 = .ok (.aload_n 0, 1) := dk_42 (dk_at dksX9_sittingOf_0 7 rfl rfl)
theorem dX9_sittingOf_8 : decode cX9_sittingOf 8 = .ok (.getfield 206, 3) := dk_180 0 206 (dk_at dksX9_sittingOf_0 8 rfl rfl)
theorem dX9_sittingOf_11 : decode cX9_sittingOf 11 = .ok (.if_icmp .ge 230, 3) := dk_162 0 230 (dk_at dksX9_sittingOf_0 11 rfl rfl)
theorem dX9_sittingOf_14 : decode cX9_sittingOf 14 = .ok (.aload_n 0, 1) := dk_42 (dk_at dksX9_sittingOf_0 14 rfl rfl)
theorem dX9_sittingOf_15 : decode cX9_sittingOf 15 = .ok (.getfield 203, 3) := dk_180 0 203 (dk_at dksX9_sittingOf_0 15 rfl rfl)
theorem dX9_sittingOf_18 : decode cX9_sittingOf 18 = .ok (.iload 4, 2) := dk_21 4 (dk_at dksX9_sittingOf_0 18 rfl rfl)
theorem dX9_sittingOf_20 : decode cX9_sittingOf 20 = .ok (.iaload, 1) := dk_46 (dk_at dksX9_sittingOf_0 20 rfl rfl)
theorem dX9_sittingOf_21 : decode cX9_sittingOf 21 = .ok (.istore 5, 2) := dk_54 5 (dk_at dksX9_sittingOf_0 21 rfl rfl)
theorem dX9_sittingOf_23 : decode cX9_sittingOf 23 = .ok (.aload_n 0, 1) := dk_42 (dk_at dksX9_sittingOf_0 23 rfl rfl)
theorem dX9_sittingOf_24 : decode cX9_sittingOf 24 = .ok (.iload_n 1, 1) := dk_27 (dk_at dksX9_sittingOf_1 0 rfl rfl)
theorem dX9_sittingOf_25 : decode cX9_sittingOf 25 = .ok (.iload 5, 2) := dk_21 5 (dk_at dksX9_sittingOf_1 1 rfl rfl)
theorem dX9_sittingOf_27 : decode cX9_sittingOf 27 = .ok (.invokevirtual 432, 3) := dk_182 1 176 (dk_at dksX9_sittingOf_1 3 rfl rfl)
theorem dX9_sittingOf_30 : decode cX9_sittingOf 30 = .ok (.iload_n 3, 1) := dk_29 (dk_at dksX9_sittingOf_1 6 rfl rfl)
theorem dX9_sittingOf_31 : decode cX9_sittingOf 31 = .ok (.aload_n 0, 1) := dk_42 (dk_at dksX9_sittingOf_1 7 rfl rfl)
theorem dX9_sittingOf_32 : decode cX9_sittingOf 32 = .ok (.getfield 118, 3) := dk_180 0 118 (dk_at dksX9_sittingOf_1 8 rfl rfl)
theorem dX9_sittingOf_35 : decode cX9_sittingOf 35 = .ok (.aload_n 0, 1) := dk_42 (dk_at dksX9_sittingOf_1 11 rfl rfl)
theorem dX9_sittingOf_36 : decode cX9_sittingOf 36 = .ok (.getfield 51, 3) := dk_180 0 51 (dk_at dksX9_sittingOf_1 12 rfl rfl)
theorem dX9_sittingOf_39 : decode cX9_sittingOf 39 = .ok (.iaload, 1) := dk_46 (dk_at dksX9_sittingOf_1 15 rfl rfl)
theorem dX9_sittingOf_40 : decode cX9_sittingOf 40 = .ok (.if_icmp .ge 11, 3) := dk_162 0 11 (dk_at dksX9_sittingOf_1 16 rfl rfl)
theorem dX9_sittingOf_43 : decode cX9_sittingOf 43 = .ok (.aload_n 0, 1) := dk_42 (dk_at dksX9_sittingOf_1 19 rfl rfl)
theorem dX9_sittingOf_44 : decode cX9_sittingOf 44 = .ok (.iload_n 2, 1) := dk_28 (dk_at dksX9_sittingOf_1 20 rfl rfl)
theorem dX9_sittingOf_45 : decode cX9_sittingOf 45 = .ok (.invokevirtual 435, 3) := dk_182 1 179 (dk_at dksX9_sittingOf_1 21 rfl rfl)
theorem dX9_sittingOf_48 : decode cX9_sittingOf 48 = .ok (.goto 18, 3) := dk_167 0 18 (dk_at dksX9_sittingOf_2 0 rfl rfl)
theorem dX9_sittingOf_51 : decode cX9_sittingOf 51 = .ok (.aload_n 0, 1) := dk_42 (dk_at dksX9_sittingOf_2 3 rfl rfl)
theorem dX9_sittingOf_52 : decode cX9_sittingOf 52 = .ok (.iconst 3, 1) := dk_6 (dk_at dksX9_sittingOf_2 4 rfl rfl)
theorem dX9_sittingOf_53 : decode cX9_sittingOf 53 = .ok (.putfield 197, 3) := dk_181 0 197 (dk_at dksX9_sittingOf_2 5 rfl rfl)
theorem dX9_sittingOf_56 : decode cX9_sittingOf 56 = .ok (.aload_n 0, 1) := dk_42 (dk_at dksX9_sittingOf_2 8 rfl rfl)
theorem dX9_sittingOf_57 : decode cX9_sittingOf 57 = .ok (.iconst 0, 1) := dk_3 (dk_at dksX9_sittingOf_2 9 rfl rfl)
theorem dX9_sittingOf_58 : decode cX9_sittingOf 58 = .ok (.putfield 191, 3) := dk_181 0 191 (dk_at dksX9_sittingOf_2 10 rfl rfl)
theorem dX9_sittingOf_61 : decode cX9_sittingOf 61 = .ok (.aload_n 0, 1) := dk_42 (dk_at dksX9_sittingOf_2 13 rfl rfl)
theorem dX9_sittingOf_62 : decode cX9_sittingOf 62 = .ok (.iconst 0, 1) := dk_3 (dk_at dksX9_sittingOf_2 14 rfl rfl)
theorem dX9_sittingOf_63 : decode cX9_sittingOf 63 = .ok (.putfield 194, 3) := dk_181 0 194 (dk_at dksX9_sittingOf_2 15 rfl rfl)
theorem dX9_sittingOf_66 : decode cX9_sittingOf 66 = .ok (.aload_n 0, 1) := dk_42 (dk_at dksX9_sittingOf_2 18 rfl rfl)
theorem dX9_sittingOf_67 : decode cX9_sittingOf 67 = .ok (.getfield 197, 3) := dk_180 0 197 (dk_at dksX9_sittingOf_2 19 rfl rfl)
theorem dX9_sittingOf_70 : decode cX9_sittingOf 70 = .ok (.iconst 3, 1) := dk_6 (dk_at dksX9_sittingOf_2 22 rfl rfl)
theorem dX9_sittingOf_71 : decode cX9_sittingOf 71 = .ok (.if_icmp .ne 7, 3) := dk_160 0 7 (dk_at dksX9_sittingOf_3 0 rfl rfl)
theorem dX9_sittingOf_74 : decode cX9_sittingOf 74 = .ok (.iconst (-1), 1) := dk_2 (dk_at dksX9_sittingOf_3 3 rfl rfl)
theorem dX9_sittingOf_75 : decode cX9_sittingOf 75 = .ok (.goto 9, 3) := dk_167 0 9 (dk_at dksX9_sittingOf_3 4 rfl rfl)
theorem dX9_sittingOf_78 : decode cX9_sittingOf 78 = .ok (.aload_n 0, 1) := dk_42 (dk_at dksX9_sittingOf_3 7 rfl rfl)
theorem dX9_sittingOf_79 : decode cX9_sittingOf 79 = .ok (.iload 4, 2) := dk_21 4 (dk_at dksX9_sittingOf_3 8 rfl rfl)
theorem dX9_sittingOf_81 : decode cX9_sittingOf 81 = .ok (.invokevirtual 438, 3) := dk_182 1 182 (dk_at dksX9_sittingOf_3 10 rfl rfl)
theorem dX9_sittingOf_84 : decode cX9_sittingOf 84 = .ok (.istore 6, 2) := dk_54 6 (dk_at dksX9_sittingOf_3 13 rfl rfl)
theorem dX9_sittingOf_86 : decode cX9_sittingOf 86 = .ok (.aload_n 0, 1) := dk_42 (dk_at dksX9_sittingOf_3 15 rfl rfl)
theorem dX9_sittingOf_87 : decode cX9_sittingOf 87 = .ok (.getfield 209, 3) := dk_180 0 209 (dk_at dksX9_sittingOf_3 16 rfl rfl)
theorem dX9_sittingOf_90 : decode cX9_sittingOf 90 = .ok (.iload 5, 2) := dk_21 5 (dk_at dksX9_sittingOf_3 19 rfl rfl)
theorem dX9_sittingOf_92 : decode cX9_sittingOf 92 = .ok (.iload 6, 2) := dk_21 6 (dk_at dksX9_sittingOf_3 21 rfl rfl)
theorem dX9_sittingOf_94 : decode cX9_sittingOf 94 = .ok (.iconst (-1), 1) := dk_2 (dk_at dksX9_sittingOf_3 23 rfl rfl)
theorem dX9_sittingOf_95 : decode cX9_sittingOf 95 = .ok (.if_icmp .eq 7, 3) := dk_159 0 7 (dk_at dksX9_sittingOf_4 0 rfl rfl)
theorem dX9_sittingOf_98 : decode cX9_sittingOf 98 = .ok (.iconst 4, 1) := dk_7 (dk_at dksX9_sittingOf_4 3 rfl rfl)
theorem dX9_sittingOf_99 : decode cX9_sittingOf 99 = .ok (.goto 7, 3) := dk_167 0 7 (dk_at dksX9_sittingOf_4 4 rfl rfl)
theorem dX9_sittingOf_102 : decode cX9_sittingOf 102 = .ok (.aload_n 0, 1) := dk_42 (dk_at dksX9_sittingOf_4 7 rfl rfl)
theorem dX9_sittingOf_103 : decode cX9_sittingOf 103 = .ok (.getfield 197, 3) := dk_180 0 197 (dk_at dksX9_sittingOf_4 8 rfl rfl)
theorem dX9_sittingOf_106 : decode cX9_sittingOf 106 = .ok (.iastore, 1) := dk_79 (dk_at dksX9_sittingOf_4 11 rfl rfl)
theorem dX9_sittingOf_107 : decode cX9_sittingOf 107 = .ok (.aload_n 0, 1) := dk_42 (dk_at dksX9_sittingOf_4 12 rfl rfl)
theorem dX9_sittingOf_108 : decode cX9_sittingOf 108 = .ok (.getfield 212, 3) := dk_180 0 212 (dk_at dksX9_sittingOf_4 13 rfl rfl)
theorem dX9_sittingOf_111 : decode cX9_sittingOf 111 = .ok (.iload 5, 2) := dk_21 5 (dk_at dksX9_sittingOf_4 16 rfl rfl)
theorem dX9_sittingOf_113 : decode cX9_sittingOf 113 = .ok (.iload 6, 2) := dk_21 6 (dk_at dksX9_sittingOf_4 18 rfl rfl)
theorem dX9_sittingOf_115 : decode cX9_sittingOf 115 = .ok (.iconst (-1), 1) := dk_2 (dk_at dksX9_sittingOf_4 20 rfl rfl)
theorem dX9_sittingOf_116 : decode cX9_sittingOf 116 = .ok (.if_icmp .eq 13, 3) := dk_159 0 13 (dk_at dksX9_sittingOf_4 21 rfl rfl)
theorem dX9_sittingOf_119 : decode cX9_sittingOf 119 = .ok (.aload_n 0, 1) := dk_42 (dk_at dksX9_sittingOf_5 0 rfl rfl)
theorem dX9_sittingOf_120 : decode cX9_sittingOf 120 = .ok (.getfield 212, 3) := dk_180 0 212 (dk_at dksX9_sittingOf_5 1 rfl rfl)
theorem dX9_sittingOf_123 : decode cX9_sittingOf 123 = .ok (.iload 6, 2) := dk_21 6 (dk_at dksX9_sittingOf_5 4 rfl rfl)
theorem dX9_sittingOf_125 : decode cX9_sittingOf 125 = .ok (.iaload, 1) := dk_46 (dk_at dksX9_sittingOf_5 6 rfl rfl)
theorem dX9_sittingOf_126 : decode cX9_sittingOf 126 = .ok (.goto 7, 3) := dk_167 0 7 (dk_at dksX9_sittingOf_5 7 rfl rfl)
theorem dX9_sittingOf_129 : decode cX9_sittingOf 129 = .ok (.aload_n 0, 1) := dk_42 (dk_at dksX9_sittingOf_5 10 rfl rfl)
theorem dX9_sittingOf_130 : decode cX9_sittingOf 130 = .ok (.getfield 191, 3) := dk_180 0 191 (dk_at dksX9_sittingOf_5 11 rfl rfl)
theorem dX9_sittingOf_133 : decode cX9_sittingOf 133 = .ok (.iastore, 1) := dk_79 (dk_at dksX9_sittingOf_5 14 rfl rfl)
theorem dX9_sittingOf_134 : decode cX9_sittingOf 134 = .ok (.aload_n 0, 1) := dk_42 (dk_at dksX9_sittingOf_5 15 rfl rfl)
theorem dX9_sittingOf_135 : decode cX9_sittingOf 135 = .ok (.getfield 215, 3) := dk_180 0 215 (dk_at dksX9_sittingOf_5 16 rfl rfl)
theorem dX9_sittingOf_138 : decode cX9_sittingOf 138 = .ok (.iload 5, 2) := dk_21 5 (dk_at dksX9_sittingOf_5 19 rfl rfl)
theorem dX9_sittingOf_140 : decode cX9_sittingOf 140 = .ok (.iload 6, 2) := dk_21 6 (dk_at dksX9_sittingOf_5 21 rfl rfl)
theorem dX9_sittingOf_142 : decode cX9_sittingOf 142 = .ok (.iconst (-1), 1) := dk_2 (dk_at dksX9_sittingOf_5 23 rfl rfl)
theorem dX9_sittingOf_143 : decode cX9_sittingOf 143 = .ok (.if_icmp .eq 13, 3) := dk_159 0 13 (dk_at dksX9_sittingOf_6 0 rfl rfl)
theorem dX9_sittingOf_146 : decode cX9_sittingOf 146 = .ok (.aload_n 0, 1) := dk_42 (dk_at dksX9_sittingOf_6 3 rfl rfl)
theorem dX9_sittingOf_147 : decode cX9_sittingOf 147 = .ok (.getfield 215, 3) := dk_180 0 215 (dk_at dksX9_sittingOf_6 4 rfl rfl)
theorem dX9_sittingOf_150 : decode cX9_sittingOf 150 = .ok (.iload 6, 2) := dk_21 6 (dk_at dksX9_sittingOf_6 7 rfl rfl)
theorem dX9_sittingOf_152 : decode cX9_sittingOf 152 = .ok (.iaload, 1) := dk_46 (dk_at dksX9_sittingOf_6 9 rfl rfl)
theorem dX9_sittingOf_153 : decode cX9_sittingOf 153 = .ok (.goto 7, 3) := dk_167 0 7 (dk_at dksX9_sittingOf_6 10 rfl rfl)
theorem dX9_sittingOf_156 : decode cX9_sittingOf 156 = .ok (.aload_n 0, 1) := dk_42 (dk_at dksX9_sittingOf_6 13 rfl rfl)
theorem dX9_sittingOf_157 : decode cX9_sittingOf 157 = .ok (.getfield 194, 3) := dk_180 0 194 (dk_at dksX9_sittingOf_6 14 rfl rfl)
theorem dX9_sittingOf_160 : decode cX9_sittingOf 160 = .ok (.iastore, 1) := dk_79 (dk_at dksX9_sittingOf_6 17 rfl rfl)
theorem dX9_sittingOf_161 : decode cX9_sittingOf 161 = .ok (.iconst 0, 1) := dk_3 (dk_at dksX9_sittingOf_6 18 rfl rfl)
theorem dX9_sittingOf_162 : decode cX9_sittingOf 162 = .ok (.istore 7, 2) := dk_54 7 (dk_at dksX9_sittingOf_6 19 rfl rfl)
theorem dX9_sittingOf_164 : decode cX9_sittingOf 164 = .ok (.iload 7, 2) := dk_21 7 (dk_at dksX9_sittingOf_6 21 rfl rfl)
theorem dX9_sittingOf_166 : decode cX9_sittingOf 166 = .ok (.bipush 12, 2) := dk_16 12 (dk_at dksX9_sittingOf_7 0 rfl rfl)
theorem dX9_sittingOf_168 : decode cX9_sittingOf 168 = .ok (.if_icmp .ge 51, 3) := dk_162 0 51 (dk_at dksX9_sittingOf_7 2 rfl rfl)
theorem dX9_sittingOf_171 : decode cX9_sittingOf 171 = .ok (.aload_n 0, 1) := dk_42 (dk_at dksX9_sittingOf_7 5 rfl rfl)
theorem dX9_sittingOf_172 : decode cX9_sittingOf 172 = .ok (.getfield 218, 3) := dk_180 0 218 (dk_at dksX9_sittingOf_7 6 rfl rfl)
theorem dX9_sittingOf_175 : decode cX9_sittingOf 175 = .ok (.bipush 12, 2) := dk_16 12 (dk_at dksX9_sittingOf_7 9 rfl rfl)
theorem dX9_sittingOf_177 : decode cX9_sittingOf 177 = .ok (.iload 5, 2) := dk_21 5 (dk_at dksX9_sittingOf_7 11 rfl rfl)
theorem dX9_sittingOf_179 : decode cX9_sittingOf 179 = .ok (.imul, 1) := dk_104 (dk_at dksX9_sittingOf_7 13 rfl rfl)
theorem dX9_sittingOf_180 : decode cX9_sittingOf 180 = .ok (.iload 7, 2) := dk_21 7 (dk_at dksX9_sittingOf_7 14 rfl rfl)
theorem dX9_sittingOf_182 : decode cX9_sittingOf 182 = .ok (.iadd, 1) := dk_96 (dk_at dksX9_sittingOf_7 16 rfl rfl)
theorem dX9_sittingOf_183 : decode cX9_sittingOf 183 = .ok (.iload 6, 2) := dk_21 6 (dk_at dksX9_sittingOf_7 17 rfl rfl)
theorem dX9_sittingOf_185 : decode cX9_sittingOf 185 = .ok (.iconst (-1), 1) := dk_2 (dk_at dksX9_sittingOf_7 19 rfl rfl)
theorem dX9_sittingOf_186 : decode cX9_sittingOf 186 = .ok (.if_icmp .eq 19, 3) := dk_159 0 19 (dk_at dksX9_sittingOf_7 20 rfl rfl)
theorem dX9_sittingOf_189 : decode cX9_sittingOf 189 = .ok (.aload_n 0, 1) := dk_42 (dk_at dksX9_sittingOf_7 23 rfl rfl)
theorem dX9_sittingOf_190 : decode cX9_sittingOf 190 = .ok (.getfield 218, 3) := dk_180 0 218 (dk_at dksX9_sittingOf_8 0 rfl rfl)
theorem dX9_sittingOf_193 : decode cX9_sittingOf 193 = .ok (.bipush 12, 2) := dk_16 12 (dk_at dksX9_sittingOf_8 3 rfl rfl)
theorem dX9_sittingOf_195 : decode cX9_sittingOf 195 = .ok (.iload 6, 2) := dk_21 6 (dk_at dksX9_sittingOf_8 5 rfl rfl)
theorem dX9_sittingOf_197 : decode cX9_sittingOf 197 = .ok (.imul, 1) := dk_104 (dk_at dksX9_sittingOf_8 7 rfl rfl)
theorem dX9_sittingOf_198 : decode cX9_sittingOf 198 = .ok (.iload 7, 2) := dk_21 7 (dk_at dksX9_sittingOf_8 8 rfl rfl)
theorem dX9_sittingOf_200 : decode cX9_sittingOf 200 = .ok (.iadd, 1) := dk_96 (dk_at dksX9_sittingOf_8 10 rfl rfl)
theorem dX9_sittingOf_201 : decode cX9_sittingOf 201 = .ok (.iaload, 1) := dk_46 (dk_at dksX9_sittingOf_8 11 rfl rfl)
theorem dX9_sittingOf_202 : decode cX9_sittingOf 202 = .ok (.goto 10, 3) := dk_167 0 10 (dk_at dksX9_sittingOf_8 12 rfl rfl)
theorem dX9_sittingOf_205 : decode cX9_sittingOf 205 = .ok (.aload_n 0, 1) := dk_42 (dk_at dksX9_sittingOf_8 15 rfl rfl)
theorem dX9_sittingOf_206 : decode cX9_sittingOf 206 = .ok (.getfield 188, 3) := dk_180 0 188 (dk_at dksX9_sittingOf_8 16 rfl rfl)
theorem dX9_sittingOf_209 : decode cX9_sittingOf 209 = .ok (.iload 7, 2) := dk_21 7 (dk_at dksX9_sittingOf_8 19 rfl rfl)
theorem dX9_sittingOf_211 : decode cX9_sittingOf 211 = .ok (.iaload, 1) := dk_46 (dk_at dksX9_sittingOf_8 21 rfl rfl)
theorem dX9_sittingOf_212 : decode cX9_sittingOf 212 = .ok (.iastore, 1) := dk_79 (dk_at dksX9_sittingOf_8 22 rfl rfl)
theorem dX9_sittingOf_213 : decode cX9_sittingOf 213 = .ok (.iinc 7 1, 3) := dk_132 7 1 (dk_at dksX9_sittingOf_9 0 rfl rfl)
theorem dX9_sittingOf_216 : decode cX9_sittingOf 216 = .ok (.goto (-52), 3) := dk_167 255 204 (dk_at dksX9_sittingOf_9 3 rfl rfl)
theorem dX9_sittingOf_219 : decode cX9_sittingOf 219 = .ok (.iload_n 3, 1) := dk_29 (dk_at dksX9_sittingOf_9 6 rfl rfl)
theorem dX9_sittingOf_220 : decode cX9_sittingOf 220 = .ok (.aload_n 0, 1) := dk_42 (dk_at dksX9_sittingOf_9 7 rfl rfl)
theorem dX9_sittingOf_221 : decode cX9_sittingOf 221 = .ok (.getfield 197, 3) := dk_180 0 197 (dk_at dksX9_sittingOf_9 8 rfl rfl)
theorem dX9_sittingOf_224 : decode cX9_sittingOf 224 = .ok (.iconst 3, 1) := dk_6 (dk_at dksX9_sittingOf_9 11 rfl rfl)
theorem dX9_sittingOf_225 : decode cX9_sittingOf 225 = .ok (.if_icmp .ne 7, 3) := dk_160 0 7 (dk_at dksX9_sittingOf_9 12 rfl rfl)
theorem dX9_sittingOf_228 : decode cX9_sittingOf 228 = .ok (.iconst 0, 1) := dk_3 (dk_at dksX9_sittingOf_9 15 rfl rfl)
theorem dX9_sittingOf_229 : decode cX9_sittingOf 229 = .ok (.goto 4, 3) := dk_167 0 4 (dk_at dksX9_sittingOf_9 16 rfl rfl)
theorem dX9_sittingOf_232 : decode cX9_sittingOf 232 = .ok (.iconst 1, 1) := dk_4 (dk_at dksX9_sittingOf_9 19 rfl rfl)
theorem dX9_sittingOf_233 : decode cX9_sittingOf 233 = .ok (.iadd, 1) := dk_96 (dk_at dksX9_sittingOf_9 20 rfl rfl)
theorem dX9_sittingOf_234 : decode cX9_sittingOf 234 = .ok (.istore_n 3, 1) := dk_62 (dk_at dksX9_sittingOf_9 21 rfl rfl)
theorem dX9_sittingOf_235 : decode cX9_sittingOf 235 = .ok (.iinc 4 1, 3) := dk_132 4 1 (dk_at dksX9_sittingOf_10 0 rfl rfl)
theorem dX9_sittingOf_238 : decode cX9_sittingOf 238 = .ok (.goto (-233), 3) := dk_167 255 23 (dk_at dksX9_sittingOf_10 3 rfl rfl)
theorem dX9_sittingOf_241 : decode cX9_sittingOf 241 = .ok (.return_, 1) := dk_177 (dk_at dksX9_sittingOf_10 6 rfl rfl)
def dkwX9_runsInto_3 : List UInt8 := [46, 42, 180, 0, 188, 4, 46, 160, 0, 5, 29, 172, 132, 2, 1, 167, 255, 181, 2, 172]
abbrev dktX9_runsInto_3 : List UInt8 := dkwX9_runsInto_3 ++ []
def dkwX9_runsInto_2 : List UInt8 := [16, 12, 29, 104, 46, 42, 180, 0, 188, 3, 46, 160, 0, 25, 42, 180, 0, 218, 16, 12, 29, 104, 4, 96]
abbrev dktX9_runsInto_2 : List UInt8 := dkwX9_runsInto_2 ++ dktX9_runsInto_3
def dkwX9_runsInto_1 : List UInt8 := [42, 180, 0, 209, 29, 46, 6, 159, 0, 53, 42, 180, 0, 212, 29, 46, 4, 164, 0, 43, 42, 180, 0, 218]
abbrev dktX9_runsInto_1 : List UInt8 := dkwX9_runsInto_1 ++ dktX9_runsInto_2
def dkwX9_runsInto_0 : List UInt8 := [42, 180, 0, 191, 5, 162, 0, 5, 2, 172, 3, 61, 28, 27, 162, 0, 76, 42, 180, 0, 203, 28, 46, 62]
abbrev dktX9_runsInto_0 : List UInt8 := dkwX9_runsInto_0 ++ dktX9_runsInto_1
theorem dksX9_runsInto_0 : cX9_runsInto.data.toList.drop 0 = dktX9_runsInto_0 := by decide +kernel
theorem dksX9_runsInto_1 : cX9_runsInto.data.toList.drop 24 = dktX9_runsInto_1 := dk_seg dksX9_runsInto_0 24 rfl rfl
theorem dksX9_runsInto_2 : cX9_runsInto.data.toList.drop 48 = dktX9_runsInto_2 := dk_seg dksX9_runsInto_1 24 rfl rfl
theorem dksX9_runsInto_3 : cX9_runsInto.data.toList.drop 72 = dktX9_runsInto_3 := dk_seg dksX9_runsInto_2 24 rfl rfl
theorem dX9_runsInto_0 : decode cX9_runsInto 0 = .ok (.aload_n 0, 1) := dk_42 (dk_at dksX9_runsInto_0 0 rfl rfl)
theorem dX9_runsInto_1 : decode cX9_runsInto 1 = .ok (.getfield 191, 3) := dk_180 0 191 (dk_at dksX9_runsInto_0 1 rfl rfl)
theorem dX9_runsInto_4 : decode cX9_runsInto 4 = .ok (.iconst 2, 1) := dk_5 (dk_at dksX9_runsInto_0 4 rfl rfl)
theorem dX9_runsInto_5 : decode cX9_runsInto 5 = .ok (.if_icmp .ge 5, 3) := dk_162 0 5 (dk_at dksX9_runsInto_0 5 rfl rfl)
theorem dX9_runsInto_8 : decode cX9_runsInto 8 = .ok (.iconst (-1), 1) := dk_2 (dk_at dksX9_runsInto_0 8 rfl rfl)
theorem dX9_runsInto_9 : decode cX9_runsInto 9 = .ok (.ireturn, 1) := dk_172 (dk_at dksX9_runsInto_0 9 rfl rfl)
theorem dX9_runsInto_10 : decode cX9_runsInto 10 = .ok (.iconst 0, 1) := dk_3 (dk_at dksX9_runsInto_0 10 rfl rfl)
theorem dX9_runsInto_11 : decode cX9_runsInto 11 = .ok (.istore_n 2, 1) := dk_61 (dk_at dksX9_runsInto_0 11 rfl rfl)
theorem dX9_runsInto_12 : decode cX9_runsInto 12 = .ok (.iload_n 2, 1) := dk_28 (dk_at dksX9_runsInto_0 12 rfl rfl)
theorem dX9_runsInto_13 : decode cX9_runsInto 13 = .ok (.iload_n 1, 1) := dk_27 (dk_at dksX9_runsInto_0 13 rfl rfl)
theorem dX9_runsInto_14 : decode cX9_runsInto 14 = .ok (.if_icmp .ge 76, 3) := dk_162 0 76 (dk_at dksX9_runsInto_0 14 rfl rfl)
theorem dX9_runsInto_17 : decode cX9_runsInto 17 = .ok (.aload_n 0, 1) := dk_42 (dk_at dksX9_runsInto_0 17 rfl rfl)
theorem dX9_runsInto_18 : decode cX9_runsInto 18 = .ok (.getfield 203, 3) := dk_180 0 203 (dk_at dksX9_runsInto_0 18 rfl rfl)
theorem dX9_runsInto_21 : decode cX9_runsInto 21 = .ok (.iload_n 2, 1) := dk_28 (dk_at dksX9_runsInto_0 21 rfl rfl)
theorem dX9_runsInto_22 : decode cX9_runsInto 22 = .ok (.iaload, 1) := dk_46 (dk_at dksX9_runsInto_0 22 rfl rfl)
theorem dX9_runsInto_23 : decode cX9_runsInto 23 = .ok (.istore_n 3, 1) := dk_62 (dk_at dksX9_runsInto_0 23 rfl rfl)
theorem dX9_runsInto_24 : decode cX9_runsInto 24 = .ok (.aload_n 0, 1) := dk_42 (dk_at dksX9_runsInto_1 0 rfl rfl)
theorem dX9_runsInto_25 : decode cX9_runsInto 25 = .ok (.getfield 209, 3) := dk_180 0 209 (dk_at dksX9_runsInto_1 1 rfl rfl)
theorem dX9_runsInto_28 : decode cX9_runsInto 28 = .ok (.iload_n 3, 1) := dk_29 (dk_at dksX9_runsInto_1 4 rfl rfl)
theorem dX9_runsInto_29 : decode cX9_runsInto 29 = .ok (.iaload, 1) := dk_46 (dk_at dksX9_runsInto_1 5 rfl rfl)
theorem dX9_runsInto_30 : decode cX9_runsInto 30 = .ok (.iconst 3, 1) := dk_6 (dk_at dksX9_runsInto_1 6 rfl rfl)
theorem dX9_runsInto_31 : decode cX9_runsInto 31 = .ok (.if_icmp .eq 53, 3) := dk_159 0 53 (dk_at dksX9_runsInto_1 7 rfl rfl)
theorem dX9_runsInto_34 : decode cX9_runsInto 34 = .ok (.aload_n 0, 1) := dk_42 (dk_at dksX9_runsInto_1 10 rfl rfl)
theorem dX9_runsInto_35 : decode cX9_runsInto 35 = .ok (.getfield 212, 3) := dk_180 0 212 (dk_at dksX9_runsInto_1 11 rfl rfl)
theorem dX9_runsInto_38 : decode cX9_runsInto 38 = .ok (.iload_n 3, 1) := dk_29 (dk_at dksX9_runsInto_1 14 rfl rfl)
theorem dX9_runsInto_39 : decode cX9_runsInto 39 = .ok (.iaload, 1) := dk_46 (dk_at dksX9_runsInto_1 15 rfl rfl)
theorem dX9_runsInto_40 : decode cX9_runsInto 40 = .ok (.iconst 1, 1) := dk_4 (dk_at dksX9_runsInto_1 16 rfl rfl)
theorem dX9_runsInto_41 : decode cX9_runsInto 41 = .ok (.if_icmp .le 43, 3) := dk_164 0 43 (dk_at dksX9_runsInto_1 17 rfl rfl)
theorem dX9_runsInto_44 : decode cX9_runsInto 44 = .ok (.aload_n 0, 1) := dk_42 (dk_at dksX9_runsInto_1 20 rfl rfl)
theorem dX9_runsInto_45 : decode cX9_runsInto 45 = .ok (.getfield 218, 3) := dk_180 0 218 (dk_at dksX9_runsInto_1 21 rfl rfl)
theorem dX9_runsInto_48 : decode cX9_runsInto 48 = .ok (.bipush 12, 2) := dk_16 12 (dk_at dksX9_runsInto_2 0 rfl rfl)
theorem dX9_runsInto_50 : decode cX9_runsInto 50 = .ok (.iload_n 3, 1) := dk_29 (dk_at dksX9_runsInto_2 2 rfl rfl)
theorem dX9_runsInto_51 : decode cX9_runsInto 51 = .ok (.imul, 1) := dk_104 (dk_at dksX9_runsInto_2 3 rfl rfl)
theorem dX9_runsInto_52 : decode cX9_runsInto 52 = .ok (.iaload, 1) := dk_46 (dk_at dksX9_runsInto_2 4 rfl rfl)
theorem dX9_runsInto_53 : decode cX9_runsInto 53 = .ok (.aload_n 0, 1) := dk_42 (dk_at dksX9_runsInto_2 5 rfl rfl)
theorem dX9_runsInto_54 : decode cX9_runsInto 54 = .ok (.getfield 188, 3) := dk_180 0 188 (dk_at dksX9_runsInto_2 6 rfl rfl)
theorem dX9_runsInto_57 : decode cX9_runsInto 57 = .ok (.iconst 0, 1) := dk_3 (dk_at dksX9_runsInto_2 9 rfl rfl)
theorem dX9_runsInto_58 : decode cX9_runsInto 58 = .ok (.iaload, 1) := dk_46 (dk_at dksX9_runsInto_2 10 rfl rfl)
theorem dX9_runsInto_59 : decode cX9_runsInto 59 = .ok (.if_icmp .ne 25, 3) := dk_160 0 25 (dk_at dksX9_runsInto_2 11 rfl rfl)
theorem dX9_runsInto_62 : decode cX9_runsInto 62 = .ok (.aload_n 0, 1) := dk_42 (dk_at dksX9_runsInto_2 14 rfl rfl)
theorem dX9_runsInto_63 : decode cX9_runsInto 63 = .ok (.getfield 218, 3) := dk_180 0 218 (dk_at dksX9_runsInto_2 15 rfl rfl)
theorem dX9_runsInto_66 : decode cX9_runsInto 66 = .ok (.bipush 12, 2) := dk_16 12 (dk_at dksX9_runsInto_2 18 rfl rfl)
theorem dX9_runsInto_68 : decode cX9_runsInto 68 = .ok (.iload_n 3, 1) := dk_29 (dk_at dksX9_runsInto_2 20 rfl rfl)
theorem dX9_runsInto_69 : decode cX9_runsInto 69 = .ok (.imul, 1) := dk_104 (dk_at dksX9_runsInto_2 21 rfl rfl)
theorem dX9_runsInto_70 : decode cX9_runsInto 70 = .ok (.iconst 1, 1) := dk_4 (dk_at dksX9_runsInto_2 22 rfl rfl)
theorem dX9_runsInto_71 : decode cX9_runsInto 71 = .ok (.iadd, 1) := dk_96 (dk_at dksX9_runsInto_2 23 rfl rfl)
theorem dX9_runsInto_72 : decode cX9_runsInto 72 = .ok (.iaload, 1) := dk_46 (dk_at dksX9_runsInto_3 0 rfl rfl)
theorem dX9_runsInto_73 : decode cX9_runsInto 73 = .ok (.aload_n 0, 1) := dk_42 (dk_at dksX9_runsInto_3 1 rfl rfl)
theorem dX9_runsInto_74 : decode cX9_runsInto 74 = .ok (.getfield 188, 3) := dk_180 0 188 (dk_at dksX9_runsInto_3 2 rfl rfl)
theorem dX9_runsInto_77 : decode cX9_runsInto 77 = .ok (.iconst 1, 1) := dk_4 (dk_at dksX9_runsInto_3 5 rfl rfl)
theorem dX9_runsInto_78 : decode cX9_runsInto 78 = .ok (.iaload, 1) := dk_46 (dk_at dksX9_runsInto_3 6 rfl rfl)
theorem dX9_runsInto_79 : decode cX9_runsInto 79 = .ok (.if_icmp .ne 5, 3) := dk_160 0 5 (dk_at dksX9_runsInto_3 7 rfl rfl)
theorem dX9_runsInto_82 : decode cX9_runsInto 82 = .ok (.iload_n 3, 1) := dk_29 (dk_at dksX9_runsInto_3 10 rfl rfl)
theorem dX9_runsInto_83 : decode cX9_runsInto 83 = .ok (.ireturn, 1) := dk_172 (dk_at dksX9_runsInto_3 11 rfl rfl)
theorem dX9_runsInto_84 : decode cX9_runsInto 84 = .ok (.iinc 2 1, 3) := dk_132 2 1 (dk_at dksX9_runsInto_3 12 rfl rfl)
theorem dX9_runsInto_87 : decode cX9_runsInto 87 = .ok (.goto (-75), 3) := dk_167 255 181 (dk_at dksX9_runsInto_3 15 rfl rfl)
theorem dX9_runsInto_90 : decode cX9_runsInto 90 = .ok (.iconst (-1), 1) := dk_2 (dk_at dksX9_runsInto_3 18 rfl rfl)
theorem dX9_runsInto_91 : decode cX9_runsInto 91 = .ok (.ireturn, 1) := dk_172 (dk_at dksX9_runsInto_3 19 rfl rfl)
def dkwX9_sitting_2 : List UInt8 := [21, 4, 46, 46, 28, 160, 0, 7, 4, 167, 0, 4, 3, 96, 62, 132, 4, 1, 167, 255, 220, 29, 172]
abbrev dktX9_sitting_2 : List UInt8 := dkwX9_sitting_2 ++ []
def dkwX9_sitting_1 : List UInt8 := [87, 3, 62, 3, 54, 4, 21, 4, 42, 180, 0, 206, 162, 0, 33, 29, 42, 180, 0, 209, 42, 180, 0, 203]
abbrev dktX9_sitting_1 : List UInt8 := dkwX9_sitting_1 ++ dktX9_sitting_2
def dkwX9_sitting_0 : List UInt8 := [42, 27, 182, 1, 164, 153, 0, 12, 28, 3, 7, 184, 1, 68, 154, 0, 5, 2, 172, 42, 27, 182, 1, 191]
abbrev dktX9_sitting_0 : List UInt8 := dkwX9_sitting_0 ++ dktX9_sitting_1
theorem dksX9_sitting_0 : cX9_sitting.data.toList.drop 0 = dktX9_sitting_0 := by decide +kernel
theorem dksX9_sitting_1 : cX9_sitting.data.toList.drop 24 = dktX9_sitting_1 := dk_seg dksX9_sitting_0 24 rfl rfl
theorem dksX9_sitting_2 : cX9_sitting.data.toList.drop 48 = dktX9_sitting_2 := dk_seg dksX9_sitting_1 24 rfl rfl
theorem dX9_sitting_0 : decode cX9_sitting 0 = .ok (.aload_n 0, 1) := dk_42 (dk_at dksX9_sitting_0 0 rfl rfl)
theorem dX9_sitting_1 : decode cX9_sitting 1 = .ok (.iload_n 1, 1) := dk_27 (dk_at dksX9_sitting_0 1 rfl rfl)
theorem dX9_sitting_2 : decode cX9_sitting 2 = .ok (.invokevirtual 420, 3) := dk_182 1 164 (dk_at dksX9_sitting_0 2 rfl rfl)
theorem dX9_sitting_5 : decode cX9_sitting 5 = .ok (.ifCond .eq 12, 3) := dk_153 0 12 (dk_at dksX9_sitting_0 5 rfl rfl)
theorem dX9_sitting_8 : decode cX9_sitting 8 = .ok (.iload_n 2, 1) := dk_28 (dk_at dksX9_sitting_0 8 rfl rfl)
theorem dX9_sitting_9 : decode cX9_sitting 9 = .ok (.iconst 0, 1) := dk_3 (dk_at dksX9_sitting_0 9 rfl rfl)
theorem dX9_sitting_10 : decode cX9_sitting 10 = .ok (.iconst 4, 1) := dk_7 (dk_at dksX9_sitting_0 10 rfl rfl)
theorem dX9_sitting_11 : decode cX9_sitting 11 = .ok (.invokestatic 324, 3) := dk_184 1 68 (dk_at dksX9_sitting_0 11 rfl rfl)
theorem dX9_sitting_14 : decode cX9_sitting 14 = .ok (.ifCond .ne 5, 3) := dk_154 0 5 (dk_at dksX9_sitting_0 14 rfl rfl)
theorem dX9_sitting_17 : decode cX9_sitting 17 = .ok (.iconst (-1), 1) := dk_2 (dk_at dksX9_sitting_0 17 rfl rfl)
theorem dX9_sitting_18 : decode cX9_sitting 18 = .ok (.ireturn, 1) := dk_172 (dk_at dksX9_sitting_0 18 rfl rfl)
theorem dX9_sitting_19 : decode cX9_sitting 19 = .ok (.aload_n 0, 1) := dk_42 (dk_at dksX9_sitting_0 19 rfl rfl)
theorem dX9_sitting_20 : decode cX9_sitting 20 = .ok (.iload_n 1, 1) := dk_27 (dk_at dksX9_sitting_0 20 rfl rfl)
theorem dX9_sitting_21 : decode cX9_sitting 21 = .ok (.invokevirtual 447, 3) := dk_182 1 191 (dk_at dksX9_sitting_0 21 rfl rfl)
theorem dX9_sitting_24 : decode cX9_sitting 24 = .ok (.pop, 1) := dk_87 (dk_at dksX9_sitting_1 0 rfl rfl)
theorem dX9_sitting_25 : decode cX9_sitting 25 = .ok (.iconst 0, 1) := dk_3 (dk_at dksX9_sitting_1 1 rfl rfl)
theorem dX9_sitting_26 : decode cX9_sitting 26 = .ok (.istore_n 3, 1) := dk_62 (dk_at dksX9_sitting_1 2 rfl rfl)
theorem dX9_sitting_27 : decode cX9_sitting 27 = .ok (.iconst 0, 1) := dk_3 (dk_at dksX9_sitting_1 3 rfl rfl)
theorem dX9_sitting_28 : decode cX9_sitting 28 = .ok (.istore 4, 2) := dk_54 4 (dk_at dksX9_sitting_1 4 rfl rfl)
theorem dX9_sitting_30 : decode cX9_sitting 30 = .ok (.iload 4, 2) := dk_21 4 (dk_at dksX9_sitting_1 6 rfl rfl)
theorem dX9_sitting_32 : decode cX9_sitting 32 = .ok (.aload_n 0, 1) := dk_42 (dk_at dksX9_sitting_1 8 rfl rfl)
theorem dX9_sitting_33 : decode cX9_sitting 33 = .ok (.getfield 206, 3) := dk_180 0 206 (dk_at dksX9_sitting_1 9 rfl rfl)
theorem dX9_sitting_36 : decode cX9_sitting 36 = .ok (.if_icmp .ge 33, 3) := dk_162 0 33 (dk_at dksX9_sitting_1 12 rfl rfl)
theorem dX9_sitting_39 : decode cX9_sitting 39 = .ok (.iload_n 3, 1) := dk_29 (dk_at dksX9_sitting_1 15 rfl rfl)
theorem dX9_sitting_40 : decode cX9_sitting 40 = .ok (.aload_n 0, 1) := dk_42 (dk_at dksX9_sitting_1 16 rfl rfl)
theorem dX9_sitting_41 : decode cX9_sitting 41 = .ok (.getfield 209, 3) := dk_180 0 209 (dk_at dksX9_sitting_1 17 rfl rfl)
theorem dX9_sitting_44 : decode cX9_sitting 44 = .ok (.aload_n 0, 1) := dk_42 (dk_at dksX9_sitting_1 20 rfl rfl)
theorem dX9_sitting_45 : decode cX9_sitting 45 = .ok (.getfield 203, 3) := dk_180 0 203 (dk_at dksX9_sitting_1 21 rfl rfl)
theorem dX9_sitting_48 : decode cX9_sitting 48 = .ok (.iload 4, 2) := dk_21 4 (dk_at dksX9_sitting_2 0 rfl rfl)
theorem dX9_sitting_50 : decode cX9_sitting 50 = .ok (.iaload, 1) := dk_46 (dk_at dksX9_sitting_2 2 rfl rfl)
theorem dX9_sitting_51 : decode cX9_sitting 51 = .ok (.iaload, 1) := dk_46 (dk_at dksX9_sitting_2 3 rfl rfl)
theorem dX9_sitting_52 : decode cX9_sitting 52 = .ok (.iload_n 2, 1) := dk_28 (dk_at dksX9_sitting_2 4 rfl rfl)
theorem dX9_sitting_53 : decode cX9_sitting 53 = .ok (.if_icmp .ne 7, 3) := dk_160 0 7 (dk_at dksX9_sitting_2 5 rfl rfl)
theorem dX9_sitting_56 : decode cX9_sitting 56 = .ok (.iconst 1, 1) := dk_4 (dk_at dksX9_sitting_2 8 rfl rfl)
theorem dX9_sitting_57 : decode cX9_sitting 57 = .ok (.goto 4, 3) := dk_167 0 4 (dk_at dksX9_sitting_2 9 rfl rfl)
theorem dX9_sitting_60 : decode cX9_sitting 60 = .ok (.iconst 0, 1) := dk_3 (dk_at dksX9_sitting_2 12 rfl rfl)
theorem dX9_sitting_61 : decode cX9_sitting 61 = .ok (.iadd, 1) := dk_96 (dk_at dksX9_sitting_2 13 rfl rfl)
theorem dX9_sitting_62 : decode cX9_sitting 62 = .ok (.istore_n 3, 1) := dk_62 (dk_at dksX9_sitting_2 14 rfl rfl)
theorem dX9_sitting_63 : decode cX9_sitting 63 = .ok (.iinc 4 1, 3) := dk_132 4 1 (dk_at dksX9_sitting_2 15 rfl rfl)
theorem dX9_sitting_66 : decode cX9_sitting 66 = .ok (.goto (-36), 3) := dk_167 255 220 (dk_at dksX9_sitting_2 18 rfl rfl)
theorem dX9_sitting_69 : decode cX9_sitting 69 = .ok (.iload_n 3, 1) := dk_29 (dk_at dksX9_sitting_2 21 rfl rfl)
theorem dX9_sitting_70 : decode cX9_sitting 70 = .ok (.ireturn, 1) := dk_172 (dk_at dksX9_sitting_2 22 rfl rfl)
def dkwX9_tell_2 : List UInt8 := [182, 1, 198, 29, 172]
abbrev dktX9_tell_2 : List UInt8 := dkwX9_tell_2 ++ []
def dkwX9_tell_1 : List UInt8 := [182, 1, 201, 42, 3, 27, 182, 1, 176, 42, 28, 182, 1, 179, 42, 180, 0, 197, 62, 42, 3, 27, 28, 29]
abbrev dktX9_tell_1 : List UInt8 := dkwX9_tell_1 ++ dktX9_tell_2
def dkwX9_tell_0 : List UInt8 := [42, 28, 182, 1, 164, 153, 0, 11, 42, 27, 182, 1, 173, 154, 0, 9, 42, 5, 182, 0, 254, 172, 42]
abbrev dktX9_tell_0 : List UInt8 := dkwX9_tell_0 ++ dktX9_tell_1
theorem dksX9_tell_0 : cX9_tell.data.toList.drop 0 = dktX9_tell_0 := by decide +kernel
theorem dksX9_tell_1 : cX9_tell.data.toList.drop 23 = dktX9_tell_1 := dk_seg dksX9_tell_0 23 rfl rfl
theorem dksX9_tell_2 : cX9_tell.data.toList.drop 47 = dktX9_tell_2 := dk_seg dksX9_tell_1 24 rfl rfl
theorem dX9_tell_0 : decode cX9_tell 0 = .ok (.aload_n 0, 1) := dk_42 (dk_at dksX9_tell_0 0 rfl rfl)
theorem dX9_tell_1 : decode cX9_tell 1 = .ok (.iload_n 2, 1) := dk_28 (dk_at dksX9_tell_0 1 rfl rfl)
theorem dX9_tell_2 : decode cX9_tell 2 = .ok (.invokevirtual 420, 3) := dk_182 1 164 (dk_at dksX9_tell_0 2 rfl rfl)
theorem dX9_tell_5 : decode cX9_tell 5 = .ok (.ifCond .eq 11, 3) := dk_153 0 11 (dk_at dksX9_tell_0 5 rfl rfl)
theorem dX9_tell_8 : decode cX9_tell 8 = .ok (.aload_n 0, 1) := dk_42 (dk_at dksX9_tell_0 8 rfl rfl)
theorem dX9_tell_9 : decode cX9_tell 9 = .ok (.iload_n 1, 1) := dk_27 (dk_at dksX9_tell_0 9 rfl rfl)
theorem dX9_tell_10 : decode cX9_tell 10 = .ok (.invokevirtual 429, 3) := dk_182 1 173 (dk_at dksX9_tell_0 10 rfl rfl)
theorem dX9_tell_13 : decode cX9_tell 13 = .ok (.ifCond .ne 9, 3) := dk_154 0 9 (dk_at dksX9_tell_0 13 rfl rfl)
theorem dX9_tell_16 : decode cX9_tell 16 = .ok (.aload_n 0, 1) := dk_42 (dk_at dksX9_tell_0 16 rfl rfl)
theorem dX9_tell_17 : decode cX9_tell 17 = .ok (.iconst 2, 1) := dk_5 (dk_at dksX9_tell_0 17 rfl rfl)
theorem dX9_tell_18 : decode cX9_tell 18 = .ok (.invokevirtual 254, 3) := dk_182 0 254 (dk_at dksX9_tell_0 18 rfl rfl)
theorem dX9_tell_21 : decode cX9_tell 21 = .ok (.ireturn, 1) := dk_172 (dk_at dksX9_tell_0 21 rfl rfl)
theorem dX9_tell_22 : decode cX9_tell 22 = .ok (.aload_n 0, 1) := dk_42 (dk_at dksX9_tell_0 22 rfl rfl)
theorem dX9_tell_23 : decode cX9_tell 23 = .ok (.invokevirtual 457, 3) := dk_182 1 201 (dk_at dksX9_tell_1 0 rfl rfl)
theorem dX9_tell_26 : decode cX9_tell 26 = .ok (.aload_n 0, 1) := dk_42 (dk_at dksX9_tell_1 3 rfl rfl)
theorem dX9_tell_27 : decode cX9_tell 27 = .ok (.iconst 0, 1) := dk_3 (dk_at dksX9_tell_1 4 rfl rfl)
theorem dX9_tell_28 : decode cX9_tell 28 = .ok (.iload_n 1, 1) := dk_27 (dk_at dksX9_tell_1 5 rfl rfl)
theorem dX9_tell_29 : decode cX9_tell 29 = .ok (.invokevirtual 432, 3) := dk_182 1 176 (dk_at dksX9_tell_1 6 rfl rfl)
theorem dX9_tell_32 : decode cX9_tell 32 = .ok (.aload_n 0, 1) := dk_42 (dk_at dksX9_tell_1 9 rfl rfl)
theorem dX9_tell_33 : decode cX9_tell 33 = .ok (.iload_n 2, 1) := dk_28 (dk_at dksX9_tell_1 10 rfl rfl)
theorem dX9_tell_34 : decode cX9_tell 34 = .ok (.invokevirtual 435, 3) := dk_182 1 179 (dk_at dksX9_tell_1 11 rfl rfl)
theorem dX9_tell_37 : decode cX9_tell 37 = .ok (.aload_n 0, 1) := dk_42 (dk_at dksX9_tell_1 14 rfl rfl)
theorem dX9_tell_38 : decode cX9_tell 38 = .ok (.getfield 197, 3) := dk_180 0 197 (dk_at dksX9_tell_1 15 rfl rfl)
theorem dX9_tell_41 : decode cX9_tell 41 = .ok (.istore_n 3, 1) := dk_62 (dk_at dksX9_tell_1 18 rfl rfl)
theorem dX9_tell_42 : decode cX9_tell 42 = .ok (.aload_n 0, 1) := dk_42 (dk_at dksX9_tell_1 19 rfl rfl)
theorem dX9_tell_43 : decode cX9_tell 43 = .ok (.iconst 0, 1) := dk_3 (dk_at dksX9_tell_1 20 rfl rfl)
theorem dX9_tell_44 : decode cX9_tell 44 = .ok (.iload_n 1, 1) := dk_27 (dk_at dksX9_tell_1 21 rfl rfl)
theorem dX9_tell_45 : decode cX9_tell 45 = .ok (.iload_n 2, 1) := dk_28 (dk_at dksX9_tell_1 22 rfl rfl)
theorem dX9_tell_46 : decode cX9_tell 46 = .ok (.iload_n 3, 1) := dk_29 (dk_at dksX9_tell_1 23 rfl rfl)
theorem dX9_tell_47 : decode cX9_tell 47 = .ok (.invokevirtual 454, 3) := dk_182 1 198 (dk_at dksX9_tell_2 0 rfl rfl)
theorem dX9_tell_50 : decode cX9_tell 50 = .ok (.iload_n 3, 1) := dk_29 (dk_at dksX9_tell_2 3 rfl rfl)
theorem dX9_tell_51 : decode cX9_tell 51 = .ok (.ireturn, 1) := dk_172 (dk_at dksX9_tell_2 4 rfl rfl)
def dkwX9_keeps_2 : List UInt8 := [180, 0, 169, 4, 96, 181, 0, 169, 177]
abbrev dktX9_keeps_2 : List UInt8 := dkwX9_keeps_2 ++ []
def dkwX9_keeps_1 : List UInt8 := [180, 0, 169, 4, 100, 181, 0, 169, 42, 42, 42, 180, 0, 169, 182, 1, 147, 3, 182, 1, 150, 42, 89]
abbrev dktX9_keeps_1 : List UInt8 := dkwX9_keeps_1 ++ dktX9_keeps_2
def dkwX9_keeps_0 : List UInt8 := [42, 180, 0, 169, 16, 20, 160, 0, 26, 42, 42, 180, 0, 166, 4, 96, 16, 20, 112, 181, 0, 166, 42, 89]
abbrev dktX9_keeps_0 : List UInt8 := dkwX9_keeps_0 ++ dktX9_keeps_1
theorem dksX9_keeps_0 : cX9_keeps.data.toList.drop 0 = dktX9_keeps_0 := by decide +kernel
theorem dksX9_keeps_1 : cX9_keeps.data.toList.drop 24 = dktX9_keeps_1 := dk_seg dksX9_keeps_0 24 rfl rfl
theorem dksX9_keeps_2 : cX9_keeps.data.toList.drop 47 = dktX9_keeps_2 := dk_seg dksX9_keeps_1 23 rfl rfl
theorem dX9_keeps_0 : decode cX9_keeps 0 = .ok (.aload_n 0, 1) := dk_42 (dk_at dksX9_keeps_0 0 rfl rfl)
theorem dX9_keeps_1 : decode cX9_keeps 1 = .ok (.getfield 169, 3) := dk_180 0 169 (dk_at dksX9_keeps_0 1 rfl rfl)
theorem dX9_keeps_4 : decode cX9_keeps 4 = .ok (.bipush 20, 2) := dk_16 20 (dk_at dksX9_keeps_0 4 rfl rfl)
theorem dX9_keeps_6 : decode cX9_keeps 6 = .ok (.if_icmp .ne 26, 3) := dk_160 0 26 (dk_at dksX9_keeps_0 6 rfl rfl)
theorem dX9_keeps_9 : decode cX9_keeps 9 = .ok (.aload_n 0, 1) := dk_42 (dk_at dksX9_keeps_0 9 rfl rfl)
theorem dX9_keeps_10 : decode cX9_keeps 10 = .ok (.aload_n 0, 1) := dk_42 (dk_at dksX9_keeps_0 10 rfl rfl)
theorem dX9_keeps_11 : decode cX9_keeps 11 = .ok (.getfield 166, 3) := dk_180 0 166 (dk_at dksX9_keeps_0 11 rfl rfl)
theorem dX9_keeps_14 : decode cX9_keeps 14 = .ok (.iconst 1, 1) := dk_4 (dk_at dksX9_keeps_0 14 rfl rfl)
theorem dX9_keeps_15 : decode cX9_keeps 15 = .ok (.iadd, 1) := dk_96 (dk_at dksX9_keeps_0 15 rfl rfl)
theorem dX9_keeps_16 : decode cX9_keeps 16 = .ok (.bipush 20, 2) := dk_16 20 (dk_at dksX9_keeps_0 16 rfl rfl)
theorem dX9_keeps_18 : decode cX9_keeps 18 = .ok (.irem, 1) := dk_112 (dk_at dksX9_keeps_0 18 rfl rfl)
theorem dX9_keeps_19 : decode cX9_keeps 19 = .ok (.putfield 166, 3) := dk_181 0 166 (dk_at dksX9_keeps_0 19 rfl rfl)
theorem dX9_keeps_22 : decode cX9_keeps 22 = .ok (.aload_n 0, 1) := dk_42 (dk_at dksX9_keeps_0 22 rfl rfl)
theorem dX9_keeps_23 : decode cX9_keeps 23 = .ok (.dup, 1) := dk_89 (dk_at dksX9_keeps_0 23 rfl rfl)
theorem dX9_keeps_24 : decode cX9_keeps 24 = .ok (.getfield 169, 3) := dk_180 0 169 (dk_at dksX9_keeps_1 0 rfl rfl)
theorem dX9_keeps_27 : decode cX9_keeps 27 = .ok (.iconst 1, 1) := dk_4 (dk_at dksX9_keeps_1 3 rfl rfl)
theorem dX9_keeps_28 : decode cX9_keeps 28 = .ok (.isub, 1) := dk_100 (dk_at dksX9_keeps_1 4 rfl rfl)
theorem dX9_keeps_29 : decode cX9_keeps 29 = .ok (.putfield 169, 3) := dk_181 0 169 (dk_at dksX9_keeps_1 5 rfl rfl)
theorem dX9_keeps_32 : decode cX9_keeps 32 = .ok (.aload_n 0, 1) := dk_42 (dk_at dksX9_keeps_1 8 rfl rfl)
theorem dX9_keeps_33 : decode cX9_keeps 33 = .ok (.aload_n 0, 1) := dk_42 (dk_at dksX9_keeps_1 9 rfl rfl)
theorem dX9_keeps_34 : decode cX9_keeps 34 = .ok (.aload_n 0, 1) := dk_42 (dk_at dksX9_keeps_1 10 rfl rfl)
theorem dX9_keeps_35 : decode cX9_keeps 35 = .ok (.getfield 169, 3) := dk_180 0 169 (dk_at dksX9_keeps_1 11 rfl rfl)
theorem dX9_keeps_38 : decode cX9_keeps 38 = .ok (.invokevirtual 403, 3) := dk_182 1 147 (dk_at dksX9_keeps_1 14 rfl rfl)
theorem dX9_keeps_41 : decode cX9_keeps 41 = .ok (.iconst 0, 1) := dk_3 (dk_at dksX9_keeps_1 17 rfl rfl)
theorem dX9_keeps_42 : decode cX9_keeps 42 = .ok (.invokevirtual 406, 3) := dk_182 1 150 (dk_at dksX9_keeps_1 18 rfl rfl)
theorem dX9_keeps_45 : decode cX9_keeps 45 = .ok (.aload_n 0, 1) := dk_42 (dk_at dksX9_keeps_1 21 rfl rfl)
theorem dX9_keeps_46 : decode cX9_keeps 46 = .ok (.dup, 1) := dk_89 (dk_at dksX9_keeps_1 22 rfl rfl)
theorem dX9_keeps_47 : decode cX9_keeps 47 = .ok (.getfield 169, 3) := dk_180 0 169 (dk_at dksX9_keeps_2 0 rfl rfl)
theorem dX9_keeps_50 : decode cX9_keeps 50 = .ok (.iconst 1, 1) := dk_4 (dk_at dksX9_keeps_2 3 rfl rfl)
theorem dX9_keeps_51 : decode cX9_keeps 51 = .ok (.iadd, 1) := dk_96 (dk_at dksX9_keeps_2 4 rfl rfl)
theorem dX9_keeps_52 : decode cX9_keeps 52 = .ok (.putfield 169, 3) := dk_181 0 169 (dk_at dksX9_keeps_2 5 rfl rfl)
theorem dX9_keeps_55 : decode cX9_keeps 55 = .ok (.return_, 1) := dk_177 (dk_at dksX9_keeps_2 8 rfl rfl)
def dkwX9_becomesSaid_7 : List UInt8 := [21, 7, 46, 79, 132, 7, 1, 167, 255, 219, 42, 27, 28, 29, 21, 4, 182, 1, 194, 177]
abbrev dktX9_becomesSaid_7 : List UInt8 := dkwX9_becomesSaid_7 ++ []
def dkwX9_becomesSaid_6 : List UInt8 := [180, 0, 194, 96, 162, 0, 29, 42, 180, 0, 157, 16, 12, 21, 5, 104, 21, 7, 96, 42, 180, 0, 188]
abbrev dktX9_becomesSaid_6 : List UInt8 := dkwX9_becomesSaid_6 ++ dktX9_becomesSaid_7
def dkwX9_becomesSaid_5 : List UInt8 := [79, 42, 180, 0, 151, 21, 5, 42, 180, 0, 194, 79, 3, 54, 7, 21, 7, 42, 180, 0, 191, 42]
abbrev dktX9_becomesSaid_5 : List UInt8 := dkwX9_becomesSaid_5 ++ dktX9_becomesSaid_6
def dkwX9_becomesSaid_4 : List UInt8 := [54, 6, 132, 7, 1, 167, 255, 204, 21, 6, 153, 0, 4, 177, 42, 180, 0, 148, 21, 5, 42, 180, 0, 191]
abbrev dktX9_becomesSaid_4 : List UInt8 := dkwX9_becomesSaid_4 ++ dktX9_becomesSaid_5
def dkwX9_becomesSaid_3 : List UInt8 := [16, 12, 21, 5, 104, 21, 7, 96, 46, 42, 180, 0, 188, 21, 7, 46, 160, 0, 7, 4, 167, 0, 4, 3]
abbrev dktX9_becomesSaid_3 : List UInt8 := dkwX9_becomesSaid_3 ++ dktX9_becomesSaid_4
def dkwX9_becomesSaid_2 : List UInt8 := [21, 7, 42, 180, 0, 191, 42, 180, 0, 194, 96, 162, 0, 44, 21, 6, 153, 0, 39, 42, 180, 0, 157]
abbrev dktX9_becomesSaid_2 : List UInt8 := dkwX9_becomesSaid_2 ++ dktX9_becomesSaid_3
def dkwX9_becomesSaid_1 : List UInt8 := [180, 0, 151, 21, 5, 46, 42, 180, 0, 194, 160, 0, 7, 4, 167, 0, 4, 3, 54, 6, 3, 54, 7]
abbrev dktX9_becomesSaid_1 : List UInt8 := dkwX9_becomesSaid_1 ++ dktX9_becomesSaid_2
def dkwX9_becomesSaid_0 : List UInt8 := [16, 12, 27, 104, 28, 96, 54, 5, 42, 180, 0, 148, 21, 5, 46, 42, 180, 0, 191, 160, 0, 21, 42]
abbrev dktX9_becomesSaid_0 : List UInt8 := dkwX9_becomesSaid_0 ++ dktX9_becomesSaid_1
theorem dksX9_becomesSaid_0 : cX9_becomesSaid.data.toList.drop 0 = dktX9_becomesSaid_0 := by decide +kernel
theorem dksX9_becomesSaid_1 : cX9_becomesSaid.data.toList.drop 23 = dktX9_becomesSaid_1 := dk_seg dksX9_becomesSaid_0 23 rfl rfl
theorem dksX9_becomesSaid_2 : cX9_becomesSaid.data.toList.drop 46 = dktX9_becomesSaid_2 := dk_seg dksX9_becomesSaid_1 23 rfl rfl
theorem dksX9_becomesSaid_3 : cX9_becomesSaid.data.toList.drop 69 = dktX9_becomesSaid_3 := dk_seg dksX9_becomesSaid_2 23 rfl rfl
theorem dksX9_becomesSaid_4 : cX9_becomesSaid.data.toList.drop 93 = dktX9_becomesSaid_4 := dk_seg dksX9_becomesSaid_3 24 rfl rfl
theorem dksX9_becomesSaid_5 : cX9_becomesSaid.data.toList.drop 117 = dktX9_becomesSaid_5 := dk_seg dksX9_becomesSaid_4 24 rfl rfl
theorem dksX9_becomesSaid_6 : cX9_becomesSaid.data.toList.drop 139 = dktX9_becomesSaid_6 := dk_seg dksX9_becomesSaid_5 22 rfl rfl
theorem dksX9_becomesSaid_7 : cX9_becomesSaid.data.toList.drop 162 = dktX9_becomesSaid_7 := dk_seg dksX9_becomesSaid_6 23 rfl rfl
theorem dX9_becomesSaid_0 : decode cX9_becomesSaid 0 = .ok (.bipush 12, 2) := dk_16 12 (dk_at dksX9_becomesSaid_0 0 rfl rfl)
theorem dX9_becomesSaid_2 : decode cX9_becomesSaid 2 = .ok (.iload_n 1, 1) := dk_27 (dk_at dksX9_becomesSaid_0 2 rfl rfl)
theorem dX9_becomesSaid_3 : decode cX9_becomesSaid 3 = .ok (.imul, 1) := dk_104 (dk_at dksX9_becomesSaid_0 3 rfl rfl)
theorem dX9_becomesSaid_4 : decode cX9_becomesSaid 4 = .ok (.iload_n 2, 1) := dk_28 (dk_at dksX9_becomesSaid_0 4 rfl rfl)
theorem dX9_becomesSaid_5 : decode cX9_becomesSaid 5 = .ok (.iadd, 1) := dk_96 (dk_at dksX9_becomesSaid_0 5 rfl rfl)
theorem dX9_becomesSaid_6 : decode cX9_becomesSaid 6 = .ok (.istore 5, 2) := dk_54 5 (dk_at dksX9_becomesSaid_0 6 rfl rfl)
theorem dX9_becomesSaid_8 : decode cX9_becomesSaid 8 = .ok (.aload_n 0, 1) := dk_42 (dk_at dksX9_becomesSaid_0 8 rfl rfl)
theorem dX9_becomesSaid_9 : decode cX9_becomesSaid 9 = .ok (.getfield 148, 3) := dk_180 0 148 (dk_at dksX9_becomesSaid_0 9 rfl rfl)
theorem dX9_becomesSaid_12 : decode cX9_becomesSaid 12 = .ok (.iload 5, 2) := dk_21 5 (dk_at dksX9_becomesSaid_0 12 rfl rfl)
theorem dX9_becomesSaid_14 : decode cX9_becomesSaid 14 = .ok (.iaload, 1) := dk_46 (dk_at dksX9_becomesSaid_0 14 rfl rfl)
theorem dX9_becomesSaid_15 : decode cX9_becomesSaid 15 = .ok (.aload_n 0, 1) := dk_42 (dk_at dksX9_becomesSaid_0 15 rfl rfl)
theorem dX9_becomesSaid_16 : decode cX9_becomesSaid 16 = .ok (.getfield 191, 3) := dk_180 0 191 (dk_at dksX9_becomesSaid_0 16 rfl rfl)
theorem dX9_becomesSaid_19 : decode cX9_becomesSaid 19 = .ok (.if_icmp .ne 21, 3) := dk_160 0 21 (dk_at dksX9_becomesSaid_0 19 rfl rfl)
theorem dX9_becomesSaid_22 : decode cX9_becomesSaid 22 = .ok (.aload_n 0, 1) := dk_42 (dk_at dksX9_becomesSaid_0 22 rfl rfl)
theorem dX9_becomesSaid_23 : decode cX9_becomesSaid 23 = .ok (.getfield 151, 3) := dk_180 0 151 (dk_at dksX9_becomesSaid_1 0 rfl rfl)
theorem dX9_becomesSaid_26 : decode cX9_becomesSaid 26 = .ok (.iload 5, 2) := dk_21 5 (dk_at dksX9_becomesSaid_1 3 rfl rfl)
theorem dX9_becomesSaid_28 : decode cX9_becomesSaid 28 = .ok (.iaload, 1) := dk_46 (dk_at dksX9_becomesSaid_1 5 rfl rfl)
theorem dX9_becomesSaid_29 : decode cX9_becomesSaid 29 = .ok (.aload_n 0, 1) := dk_42 (dk_at dksX9_becomesSaid_1 6 rfl rfl)
theorem dX9_becomesSaid_30 : decode cX9_becomesSaid 30 = .ok (.getfield 194, 3) := dk_180 0 194 (dk_at dksX9_becomesSaid_1 7 rfl rfl)
theorem dX9_becomesSaid_33 : decode cX9_becomesSaid 33 = .ok (.if_icmp .ne 7, 3) := dk_160 0 7 (dk_at dksX9_becomesSaid_1 10 rfl rfl)
theorem dX9_becomesSaid_36 : decode cX9_becomesSaid 36 = .ok (.iconst 1, 1) := dk_4 (dk_at dksX9_becomesSaid_1 13 rfl rfl)
theorem dX9_becomesSaid_37 : decode cX9_becomesSaid 37 = .ok (.goto 4, 3) := dk_167 0 4 (dk_at dksX9_becomesSaid_1 14 rfl rfl)
theorem dX9_becomesSaid_40 : decode cX9_becomesSaid 40 = .ok (.iconst 0, 1) := dk_3 (dk_at dksX9_becomesSaid_1 17 rfl rfl)
theorem dX9_becomesSaid_41 : decode cX9_becomesSaid 41 = .ok (.istore 6, 2) := dk_54 6 (dk_at dksX9_becomesSaid_1 18 rfl rfl)
theorem dX9_becomesSaid_43 : decode cX9_becomesSaid 43 = .ok (.iconst 0, 1) := dk_3 (dk_at dksX9_becomesSaid_1 20 rfl rfl)
theorem dX9_becomesSaid_44 : decode cX9_becomesSaid 44 = .ok (.istore 7, 2) := dk_54 7 (dk_at dksX9_becomesSaid_1 21 rfl rfl)
theorem dX9_becomesSaid_46 : decode cX9_becomesSaid 46 = .ok (.iload 7, 2) := dk_21 7 (dk_at dksX9_becomesSaid_2 0 rfl rfl)
theorem dX9_becomesSaid_48 : decode cX9_becomesSaid 48 = .ok (.aload_n 0, 1) := dk_42 (dk_at dksX9_becomesSaid_2 2 rfl rfl)
theorem dX9_becomesSaid_49 : decode cX9_becomesSaid 49 = .ok (.getfield 191, 3) := dk_180 0 191 (dk_at dksX9_becomesSaid_2 3 rfl rfl)
theorem dX9_becomesSaid_52 : decode cX9_becomesSaid 52 = .ok (.aload_n 0, 1) := dk_42 (dk_at dksX9_becomesSaid_2 6 rfl rfl)
theorem dX9_becomesSaid_53 : decode cX9_becomesSaid 53 = .ok (.getfield 194, 3) := dk_180 0 194 (dk_at dksX9_becomesSaid_2 7 rfl rfl)
theorem dX9_becomesSaid_56 : decode cX9_becomesSaid 56 = .ok (.iadd, 1) := dk_96 (dk_at dksX9_becomesSaid_2 10 rfl rfl)
theorem dX9_becomesSaid_57 : decode cX9_becomesSaid 57 = .ok (.if_icmp .ge 44, 3) := dk_162 0 44 (dk_at dksX9_becomesSaid_2 11 rfl rfl)
theorem dX9_becomesSaid_60 : decode cX9_becomesSaid 60 = .ok (.iload 6, 2) := dk_21 6 (dk_at dksX9_becomesSaid_2 14 rfl rfl)
theorem dX9_becomesSaid_62 : decode cX9_becomesSaid 62 = .ok (.ifCond .eq 39, 3) := dk_153 0 39 (dk_at dksX9_becomesSaid_2 16 rfl rfl)
theorem dX9_becomesSaid_65 : decode cX9_becomesSaid 65 = .ok (.aload_n 0, 1) := dk_42 (dk_at dksX9_becomesSaid_2 19 rfl rfl)
theorem dX9_becomesSaid_66 : decode cX9_becomesSaid 66 = .ok (.getfield 157, 3) := dk_180 0 157 (dk_at dksX9_becomesSaid_2 20 rfl rfl)
theorem dX9_becomesSaid_69 : decode cX9_becomesSaid 69 = .ok (.bipush 12, 2) := dk_16 12 (dk_at dksX9_becomesSaid_3 0 rfl rfl)
theorem dX9_becomesSaid_71 : decode cX9_becomesSaid 71 = .ok (.iload 5, 2) := dk_21 5 (dk_at dksX9_becomesSaid_3 2 rfl rfl)
theorem dX9_becomesSaid_73 : decode cX9_becomesSaid 73 = .ok (.imul, 1) := dk_104 (dk_at dksX9_becomesSaid_3 4 rfl rfl)
theorem dX9_becomesSaid_74 : decode cX9_becomesSaid 74 = .ok (.iload 7, 2) := dk_21 7 (dk_at dksX9_becomesSaid_3 5 rfl rfl)
theorem dX9_becomesSaid_76 : decode cX9_becomesSaid 76 = .ok (.iadd, 1) := dk_96 (dk_at dksX9_becomesSaid_3 7 rfl rfl)
theorem dX9_becomesSaid_77 : decode cX9_becomesSaid 77 = .ok (.iaload, 1) := dk_46 (dk_at dksX9_becomesSaid_3 8 rfl rfl)
theorem dX9_becomesSaid_78 : decode cX9_becomesSaid 78 = .ok (.aload_n 0, 1) := dk_42 (dk_at dksX9_becomesSaid_3 9 rfl rfl)
theorem dX9_becomesSaid_79 : decode cX9_becomesSaid 79 = .ok (.getfield 188, 3) := dk_180 0 188 (dk_at dksX9_becomesSaid_3 10 rfl rfl)
theorem dX9_becomesSaid_82 : decode cX9_becomesSaid 82 = .ok (.iload 7, 2) := dk_21 7 (dk_at dksX9_becomesSaid_3 13 rfl rfl)
theorem dX9_becomesSaid_84 : decode cX9_becomesSaid 84 = .ok (.iaload, 1) := dk_46 (dk_at dksX9_becomesSaid_3 15 rfl rfl)
theorem dX9_becomesSaid_85 : decode cX9_becomesSaid 85 = .ok (.if_icmp .ne 7, 3) := dk_160 0 7 (dk_at dksX9_becomesSaid_3 16 rfl rfl)
theorem dX9_becomesSaid_88 : decode cX9_becomesSaid 88 = .ok (.iconst 1, 1) := dk_4 (dk_at dksX9_becomesSaid_3 19 rfl rfl)
theorem dX9_becomesSaid_89 : decode cX9_becomesSaid 89 = .ok (.goto 4, 3) := dk_167 0 4 (dk_at dksX9_becomesSaid_3 20 rfl rfl)
theorem dX9_becomesSaid_92 : decode cX9_becomesSaid 92 = .ok (.iconst 0, 1) := dk_3 (dk_at dksX9_becomesSaid_3 23 rfl rfl)
theorem dX9_becomesSaid_93 : decode cX9_becomesSaid 93 = .ok (.istore 6, 2) := dk_54 6 (dk_at dksX9_becomesSaid_4 0 rfl rfl)
theorem dX9_becomesSaid_95 : decode cX9_becomesSaid 95 = .ok (.iinc 7 1, 3) := dk_132 7 1 (dk_at dksX9_becomesSaid_4 2 rfl rfl)
theorem dX9_becomesSaid_98 : decode cX9_becomesSaid 98 = .ok (.goto (-52), 3) := dk_167 255 204 (dk_at dksX9_becomesSaid_4 5 rfl rfl)
theorem dX9_becomesSaid_101 : decode cX9_becomesSaid 101 = .ok (.iload 6, 2) := dk_21 6 (dk_at dksX9_becomesSaid_4 8 rfl rfl)
theorem dX9_becomesSaid_103 : decode cX9_becomesSaid 103 = .ok (.ifCond .eq 4, 3) := dk_153 0 4 (dk_at dksX9_becomesSaid_4 10 rfl rfl)
theorem dX9_becomesSaid_106 : decode cX9_becomesSaid 106 = .ok (.return_, 1) := dk_177 (dk_at dksX9_becomesSaid_4 13 rfl rfl)
theorem dX9_becomesSaid_107 : decode cX9_becomesSaid 107 = .ok (.aload_n 0, 1) := dk_42 (dk_at dksX9_becomesSaid_4 14 rfl rfl)
theorem dX9_becomesSaid_108 : decode cX9_becomesSaid 108 = .ok (.getfield 148, 3) := dk_180 0 148 (dk_at dksX9_becomesSaid_4 15 rfl rfl)
theorem dX9_becomesSaid_111 : decode cX9_becomesSaid 111 = .ok (.iload 5, 2) := dk_21 5 (dk_at dksX9_becomesSaid_4 18 rfl rfl)
theorem dX9_becomesSaid_113 : decode cX9_becomesSaid 113 = .ok (.aload_n 0, 1) := dk_42 (dk_at dksX9_becomesSaid_4 20 rfl rfl)
theorem dX9_becomesSaid_114 : decode cX9_becomesSaid 114 = .ok (.getfield 191, 3) := dk_180 0 191 (dk_at dksX9_becomesSaid_4 21 rfl rfl)
theorem dX9_becomesSaid_117 : decode cX9_becomesSaid 117 = .ok (.iastore, 1) := dk_79 (dk_at dksX9_becomesSaid_5 0 rfl rfl)
theorem dX9_becomesSaid_118 : decode cX9_becomesSaid 118 = .ok (.aload_n 0, 1) := dk_42 (dk_at dksX9_becomesSaid_5 1 rfl rfl)
theorem dX9_becomesSaid_119 : decode cX9_becomesSaid 119 = .ok (.getfield 151, 3) := dk_180 0 151 (dk_at dksX9_becomesSaid_5 2 rfl rfl)
theorem dX9_becomesSaid_122 : decode cX9_becomesSaid 122 = .ok (.iload 5, 2) := dk_21 5 (dk_at dksX9_becomesSaid_5 5 rfl rfl)
theorem dX9_becomesSaid_124 : decode cX9_becomesSaid 124 = .ok (.aload_n 0, 1) := dk_42 (dk_at dksX9_becomesSaid_5 7 rfl rfl)
theorem dX9_becomesSaid_125 : decode cX9_becomesSaid 125 = .ok (.getfield 194, 3) := dk_180 0 194 (dk_at dksX9_becomesSaid_5 8 rfl rfl)
theorem dX9_becomesSaid_128 : decode cX9_becomesSaid 128 = .ok (.iastore, 1) := dk_79 (dk_at dksX9_becomesSaid_5 11 rfl rfl)
theorem dX9_becomesSaid_129 : decode cX9_becomesSaid 129 = .ok (.iconst 0, 1) := dk_3 (dk_at dksX9_becomesSaid_5 12 rfl rfl)
theorem dX9_becomesSaid_130 : decode cX9_becomesSaid 130 = .ok (.istore 7, 2) := dk_54 7 (dk_at dksX9_becomesSaid_5 13 rfl rfl)
theorem dX9_becomesSaid_132 : decode cX9_becomesSaid 132 = .ok (.iload 7, 2) := dk_21 7 (dk_at dksX9_becomesSaid_5 15 rfl rfl)
theorem dX9_becomesSaid_134 : decode cX9_becomesSaid 134 = .ok (.aload_n 0, 1) := dk_42 (dk_at dksX9_becomesSaid_5 17 rfl rfl)
theorem dX9_becomesSaid_135 : decode cX9_becomesSaid 135 = .ok (.getfield 191, 3) := dk_180 0 191 (dk_at dksX9_becomesSaid_5 18 rfl rfl)
theorem dX9_becomesSaid_138 : decode cX9_becomesSaid 138 = .ok (.aload_n 0, 1) := dk_42 (dk_at dksX9_becomesSaid_5 21 rfl rfl)
theorem dX9_becomesSaid_139 : decode cX9_becomesSaid 139 = .ok (.getfield 194, 3) := dk_180 0 194 (dk_at dksX9_becomesSaid_6 0 rfl rfl)
theorem dX9_becomesSaid_142 : decode cX9_becomesSaid 142 = .ok (.iadd, 1) := dk_96 (dk_at dksX9_becomesSaid_6 3 rfl rfl)
theorem dX9_becomesSaid_143 : decode cX9_becomesSaid 143 = .ok (.if_icmp .ge 29, 3) := dk_162 0 29 (dk_at dksX9_becomesSaid_6 4 rfl rfl)
theorem dX9_becomesSaid_146 : decode cX9_becomesSaid 146 = .ok (.aload_n 0, 1) := dk_42 (dk_at dksX9_becomesSaid_6 7 rfl rfl)
theorem dX9_becomesSaid_147 : decode cX9_becomesSaid 147 = .ok (.getfield 157, 3) := dk_180 0 157 (dk_at dksX9_becomesSaid_6 8 rfl rfl)
theorem dX9_becomesSaid_150 : decode cX9_becomesSaid 150 = .ok (.bipush 12, 2) := dk_16 12 (dk_at dksX9_becomesSaid_6 11 rfl rfl)
theorem dX9_becomesSaid_152 : decode cX9_becomesSaid 152 = .ok (.iload 5, 2) := dk_21 5 (dk_at dksX9_becomesSaid_6 13 rfl rfl)
theorem dX9_becomesSaid_154 : decode cX9_becomesSaid 154 = .ok (.imul, 1) := dk_104 (dk_at dksX9_becomesSaid_6 15 rfl rfl)
theorem dX9_becomesSaid_155 : decode cX9_becomesSaid 155 = .ok (.iload 7, 2) := dk_21 7 (dk_at dksX9_becomesSaid_6 16 rfl rfl)
theorem dX9_becomesSaid_157 : decode cX9_becomesSaid 157 = .ok (.iadd, 1) := dk_96 (dk_at dksX9_becomesSaid_6 18 rfl rfl)
theorem dX9_becomesSaid_158 : decode cX9_becomesSaid 158 = .ok (.aload_n 0, 1) := dk_42 (dk_at dksX9_becomesSaid_6 19 rfl rfl)
theorem dX9_becomesSaid_159 : decode cX9_becomesSaid 159 = .ok (.getfield 188, 3) := dk_180 0 188 (dk_at dksX9_becomesSaid_6 20 rfl rfl)
theorem dX9_becomesSaid_162 : decode cX9_becomesSaid 162 = .ok (.iload 7, 2) := dk_21 7 (dk_at dksX9_becomesSaid_7 0 rfl rfl)
theorem dX9_becomesSaid_164 : decode cX9_becomesSaid 164 = .ok (.iaload, 1) := dk_46 (dk_at dksX9_becomesSaid_7 2 rfl rfl)
theorem dX9_becomesSaid_165 : decode cX9_becomesSaid 165 = .ok (.iastore, 1) := dk_79 (dk_at dksX9_becomesSaid_7 3 rfl rfl)
theorem dX9_becomesSaid_166 : decode cX9_becomesSaid 166 = .ok (.iinc 7 1, 3) := dk_132 7 1 (dk_at dksX9_becomesSaid_7 4 rfl rfl)
theorem dX9_becomesSaid_169 : decode cX9_becomesSaid 169 = .ok (.goto (-37), 3) := dk_167 255 219 (dk_at dksX9_becomesSaid_7 7 rfl rfl)
theorem dX9_becomesSaid_172 : decode cX9_becomesSaid 172 = .ok (.aload_n 0, 1) := dk_42 (dk_at dksX9_becomesSaid_7 10 rfl rfl)
theorem dX9_becomesSaid_173 : decode cX9_becomesSaid 173 = .ok (.iload_n 1, 1) := dk_27 (dk_at dksX9_becomesSaid_7 11 rfl rfl)
theorem dX9_becomesSaid_174 : decode cX9_becomesSaid 174 = .ok (.iload_n 2, 1) := dk_28 (dk_at dksX9_becomesSaid_7 12 rfl rfl)
theorem dX9_becomesSaid_175 : decode cX9_becomesSaid 175 = .ok (.iload_n 3, 1) := dk_29 (dk_at dksX9_becomesSaid_7 13 rfl rfl)
theorem dX9_becomesSaid_176 : decode cX9_becomesSaid 176 = .ok (.iload 4, 2) := dk_21 4 (dk_at dksX9_becomesSaid_7 14 rfl rfl)
theorem dX9_becomesSaid_178 : decode cX9_becomesSaid 178 = .ok (.invokevirtual 450, 3) := dk_182 1 194 (dk_at dksX9_becomesSaid_7 16 rfl rfl)
theorem dX9_becomesSaid_181 : decode cX9_becomesSaid 181 = .ok (.return_, 1) := dk_177 (dk_at dksX9_becomesSaid_7 19 rfl rfl)
def dkwX9_notes_5 : List UInt8 := [21, 5, 6, 96, 21, 4, 79, 42, 180, 0, 160, 27, 92, 46, 4, 96, 79, 177]
abbrev dktX9_notes_5 : List UInt8 := dkwX9_notes_5 ++ []
def dkwX9_notes_4 : List UInt8 := [42, 180, 0, 163, 21, 5, 4, 96, 28, 79, 42, 180, 0, 163, 21, 5, 5, 96, 29, 79, 42, 180, 0, 163]
abbrev dktX9_notes_4 : List UInt8 := dkwX9_notes_4 ++ dktX9_notes_5
def dkwX9_notes_3 : List UInt8 := [7, 42, 180, 0, 160, 27, 46, 104, 96, 54, 5, 42, 180, 0, 163, 21, 5, 42, 180, 0, 142, 27, 46, 79]
abbrev dktX9_notes_3 : List UInt8 := dkwX9_notes_3 ++ dktX9_notes_4
def dkwX9_notes_2 : List UInt8 := [96, 46, 79, 132, 5, 1, 167, 255, 217, 42, 180, 0, 160, 27, 92, 46, 4, 100, 79, 17, 1, 144, 27, 104]
abbrev dktX9_notes_2 : List UInt8 := dkwX9_notes_2 ++ dktX9_notes_3
def dkwX9_notes_1 : List UInt8 := [180, 0, 163, 17, 1, 144, 27, 104, 21, 5, 96, 7, 100, 42, 180, 0, 163, 17, 1, 144, 27, 104, 21, 5]
abbrev dktX9_notes_1 : List UInt8 := dkwX9_notes_1 ++ dktX9_notes_2
def dkwX9_notes_0 : List UInt8 := [42, 180, 0, 160, 27, 46, 16, 100, 160, 0, 58, 7, 54, 5, 21, 5, 17, 1, 144, 162, 0, 37, 42]
abbrev dktX9_notes_0 : List UInt8 := dkwX9_notes_0 ++ dktX9_notes_1
theorem dksX9_notes_0 : cX9_notes.data.toList.drop 0 = dktX9_notes_0 := by decide +kernel
theorem dksX9_notes_1 : cX9_notes.data.toList.drop 23 = dktX9_notes_1 := dk_seg dksX9_notes_0 23 rfl rfl
theorem dksX9_notes_2 : cX9_notes.data.toList.drop 47 = dktX9_notes_2 := dk_seg dksX9_notes_1 24 rfl rfl
theorem dksX9_notes_3 : cX9_notes.data.toList.drop 71 = dktX9_notes_3 := dk_seg dksX9_notes_2 24 rfl rfl
theorem dksX9_notes_4 : cX9_notes.data.toList.drop 95 = dktX9_notes_4 := dk_seg dksX9_notes_3 24 rfl rfl
theorem dksX9_notes_5 : cX9_notes.data.toList.drop 119 = dktX9_notes_5 := dk_seg dksX9_notes_4 24 rfl rfl
theorem dX9_notes_0 : decode cX9_notes 0 = .ok (.aload_n 0, 1) := dk_42 (dk_at dksX9_notes_0 0 rfl rfl)
theorem dX9_notes_1 : decode cX9_notes 1 = .ok (.getfield 160, 3) := dk_180 0 160 (dk_at dksX9_notes_0 1 rfl rfl)
theorem dX9_notes_4 : decode cX9_notes 4 = .ok (.iload_n 1, 1) := dk_27 (dk_at dksX9_notes_0 4 rfl rfl)
theorem dX9_notes_5 : decode cX9_notes 5 = .ok (.iaload, 1) := dk_46 (dk_at dksX9_notes_0 5 rfl rfl)
theorem dX9_notes_6 : decode cX9_notes 6 = .ok (.bipush 100, 2) := dk_16 100 (dk_at dksX9_notes_0 6 rfl rfl)
theorem dX9_notes_8 : decode cX9_notes 8 = .ok (.if_icmp .ne 58, 3) := dk_160 0 58 (dk_at dksX9_notes_0 8 rfl rfl)
theorem dX9_notes_11 : decode cX9_notes 11 = .ok (.iconst 4, 1) := dk_7 (dk_at dksX9_notes_0 11 rfl rfl)
theorem dX9_notes_12 : decode cX9_notes 12 = .ok (.istore 5, 2) := dk_54 5 (dk_at dksX9_notes_0 12 rfl rfl)
theorem dX9_notes_14 : decode cX9_notes 14 = .ok (.iload 5, 2) := dk_21 5 (dk_at dksX9_notes_0 14 rfl rfl)
theorem dX9_notes_16 : decode cX9_notes 16 = .ok (.sipush 400, 3) := dk_17 1 144 (dk_at dksX9_notes_0 16 rfl rfl)
theorem dX9_notes_19 : decode cX9_notes 19 = .ok (.if_icmp .ge 37, 3) := dk_162 0 37 (dk_at dksX9_notes_0 19 rfl rfl)
theorem dX9_notes_22 : decode cX9_notes 22 = .ok (.aload_n 0, 1) := dk_42 (dk_at dksX9_notes_0 22 rfl rfl)
theorem dX9_notes_23 : decode cX9_notes 23 = .ok (.getfield 163, 3) := dk_180 0 163 (dk_at dksX9_notes_1 0 rfl rfl)
theorem dX9_notes_26 : decode cX9_notes 26 = .ok (.sipush 400, 3) := dk_17 1 144 (dk_at dksX9_notes_1 3 rfl rfl)
theorem dX9_notes_29 : decode cX9_notes 29 = .ok (.iload_n 1, 1) := dk_27 (dk_at dksX9_notes_1 6 rfl rfl)
theorem dX9_notes_30 : decode cX9_notes 30 = .ok (.imul, 1) := dk_104 (dk_at dksX9_notes_1 7 rfl rfl)
theorem dX9_notes_31 : decode cX9_notes 31 = .ok (.iload 5, 2) := dk_21 5 (dk_at dksX9_notes_1 8 rfl rfl)
theorem dX9_notes_33 : decode cX9_notes 33 = .ok (.iadd, 1) := dk_96 (dk_at dksX9_notes_1 10 rfl rfl)
theorem dX9_notes_34 : decode cX9_notes 34 = .ok (.iconst 4, 1) := dk_7 (dk_at dksX9_notes_1 11 rfl rfl)
theorem dX9_notes_35 : decode cX9_notes 35 = .ok (.isub, 1) := dk_100 (dk_at dksX9_notes_1 12 rfl rfl)
theorem dX9_notes_36 : decode cX9_notes 36 = .ok (.aload_n 0, 1) := dk_42 (dk_at dksX9_notes_1 13 rfl rfl)
theorem dX9_notes_37 : decode cX9_notes 37 = .ok (.getfield 163, 3) := dk_180 0 163 (dk_at dksX9_notes_1 14 rfl rfl)
theorem dX9_notes_40 : decode cX9_notes 40 = .ok (.sipush 400, 3) := dk_17 1 144 (dk_at dksX9_notes_1 17 rfl rfl)
theorem dX9_notes_43 : decode cX9_notes 43 = .ok (.iload_n 1, 1) := dk_27 (dk_at dksX9_notes_1 20 rfl rfl)
theorem dX9_notes_44 : decode cX9_notes 44 = .ok (.imul, 1) := dk_104 (dk_at dksX9_notes_1 21 rfl rfl)
theorem dX9_notes_45 : decode cX9_notes 45 = .ok (.iload 5, 2) := dk_21 5 (dk_at dksX9_notes_1 22 rfl rfl)
theorem dX9_notes_47 : decode cX9_notes 47 = .ok (.iadd, 1) := dk_96 (dk_at dksX9_notes_2 0 rfl rfl)
theorem dX9_notes_48 : decode cX9_notes 48 = .ok (.iaload, 1) := dk_46 (dk_at dksX9_notes_2 1 rfl rfl)
theorem dX9_notes_49 : decode cX9_notes 49 = .ok (.iastore, 1) := dk_79 (dk_at dksX9_notes_2 2 rfl rfl)
theorem dX9_notes_50 : decode cX9_notes 50 = .ok (.iinc 5 1, 3) := dk_132 5 1 (dk_at dksX9_notes_2 3 rfl rfl)
theorem dX9_notes_53 : decode cX9_notes 53 = .ok (.goto (-39), 3) := dk_167 255 217 (dk_at dksX9_notes_2 6 rfl rfl)
theorem dX9_notes_56 : decode cX9_notes 56 = .ok (.aload_n 0, 1) := dk_42 (dk_at dksX9_notes_2 9 rfl rfl)
theorem dX9_notes_57 : decode cX9_notes 57 = .ok (.getfield 160, 3) := dk_180 0 160 (dk_at dksX9_notes_2 10 rfl rfl)
theorem dX9_notes_60 : decode cX9_notes 60 = .ok (.iload_n 1, 1) := dk_27 (dk_at dksX9_notes_2 13 rfl rfl)
theorem dX9_notes_61 : decode cX9_notes 61 = .ok (.dup2, 1) := dk_92 (dk_at dksX9_notes_2 14 rfl rfl)
theorem dX9_notes_62 : decode cX9_notes 62 = .ok (.iaload, 1) := dk_46 (dk_at dksX9_notes_2 15 rfl rfl)
theorem dX9_notes_63 : decode cX9_notes 63 = .ok (.iconst 1, 1) := dk_4 (dk_at dksX9_notes_2 16 rfl rfl)
theorem dX9_notes_64 : decode cX9_notes 64 = .ok (.isub, 1) := dk_100 (dk_at dksX9_notes_2 17 rfl rfl)
theorem dX9_notes_65 : decode cX9_notes 65 = .ok (.iastore, 1) := dk_79 (dk_at dksX9_notes_2 18 rfl rfl)
theorem dX9_notes_66 : decode cX9_notes 66 = .ok (.sipush 400, 3) := dk_17 1 144 (dk_at dksX9_notes_2 19 rfl rfl)
theorem dX9_notes_69 : decode cX9_notes 69 = .ok (.iload_n 1, 1) := dk_27 (dk_at dksX9_notes_2 22 rfl rfl)
theorem dX9_notes_70 : decode cX9_notes 70 = .ok (.imul, 1) := dk_104 (dk_at dksX9_notes_2 23 rfl rfl)
theorem dX9_notes_71 : decode cX9_notes 71 = .ok (.iconst 4, 1) := dk_7 (dk_at dksX9_notes_3 0 rfl rfl)
theorem dX9_notes_72 : decode cX9_notes 72 = .ok (.aload_n 0, 1) := dk_42 (dk_at dksX9_notes_3 1 rfl rfl)
theorem dX9_notes_73 : decode cX9_notes 73 = .ok (.getfield 160, 3) := dk_180 0 160 (dk_at dksX9_notes_3 2 rfl rfl)
theorem dX9_notes_76 : decode cX9_notes 76 = .ok (.iload_n 1, 1) := dk_27 (dk_at dksX9_notes_3 5 rfl rfl)
theorem dX9_notes_77 : decode cX9_notes 77 = .ok (.iaload, 1) := dk_46 (dk_at dksX9_notes_3 6 rfl rfl)
theorem dX9_notes_78 : decode cX9_notes 78 = .ok (.imul, 1) := dk_104 (dk_at dksX9_notes_3 7 rfl rfl)
theorem dX9_notes_79 : decode cX9_notes 79 = .ok (.iadd, 1) := dk_96 (dk_at dksX9_notes_3 8 rfl rfl)
theorem dX9_notes_80 : decode cX9_notes 80 = .ok (.istore 5, 2) := dk_54 5 (dk_at dksX9_notes_3 9 rfl rfl)
theorem dX9_notes_82 : decode cX9_notes 82 = .ok (.aload_n 0, 1) := dk_42 (dk_at dksX9_notes_3 11 rfl rfl)
theorem dX9_notes_83 : decode cX9_notes 83 = .ok (.getfield 163, 3) := dk_180 0 163 (dk_at dksX9_notes_3 12 rfl rfl)
theorem dX9_notes_86 : decode cX9_notes 86 = .ok (.iload 5, 2) := dk_21 5 (dk_at dksX9_notes_3 15 rfl rfl)
theorem dX9_notes_88 : decode cX9_notes 88 = .ok (.aload_n 0, 1) := dk_42 (dk_at dksX9_notes_3 17 rfl rfl)
theorem dX9_notes_89 : decode cX9_notes 89 = .ok (.getfield 142, 3) := dk_180 0 142 (dk_at dksX9_notes_3 18 rfl rfl)
theorem dX9_notes_92 : decode cX9_notes 92 = .ok (.iload_n 1, 1) := dk_27 (dk_at dksX9_notes_3 21 rfl rfl)
theorem dX9_notes_93 : decode cX9_notes 93 = .ok (.iaload, 1) := dk_46 (dk_at dksX9_notes_3 22 rfl rfl)
theorem dX9_notes_94 : decode cX9_notes 94 = .ok (.iastore, 1) := dk_79 (dk_at dksX9_notes_3 23 rfl rfl)
theorem dX9_notes_95 : decode cX9_notes 95 = .ok (.aload_n 0, 1) := dk_42 (dk_at dksX9_notes_4 0 rfl rfl)
theorem dX9_notes_96 : decode cX9_notes 96 = .ok (.getfield 163, 3) := dk_180 0 163 (dk_at dksX9_notes_4 1 rfl rfl)
theorem dX9_notes_99 : decode cX9_notes 99 = .ok (.iload 5, 2) := dk_21 5 (dk_at dksX9_notes_4 4 rfl rfl)
theorem dX9_notes_101 : decode cX9_notes 101 = .ok (.iconst 1, 1) := dk_4 (dk_at dksX9_notes_4 6 rfl rfl)
theorem dX9_notes_102 : decode cX9_notes 102 = .ok (.iadd, 1) := dk_96 (dk_at dksX9_notes_4 7 rfl rfl)
theorem dX9_notes_103 : decode cX9_notes 103 = .ok (.iload_n 2, 1) := dk_28 (dk_at dksX9_notes_4 8 rfl rfl)
theorem dX9_notes_104 : decode cX9_notes 104 = .ok (.iastore, 1) := dk_79 (dk_at dksX9_notes_4 9 rfl rfl)
theorem dX9_notes_105 : decode cX9_notes 105 = .ok (.aload_n 0, 1) := dk_42 (dk_at dksX9_notes_4 10 rfl rfl)
theorem dX9_notes_106 : decode cX9_notes 106 = .ok (.getfield 163, 3) := dk_180 0 163 (dk_at dksX9_notes_4 11 rfl rfl)
theorem dX9_notes_109 : decode cX9_notes 109 = .ok (.iload 5, 2) := dk_21 5 (dk_at dksX9_notes_4 14 rfl rfl)
theorem dX9_notes_111 : decode cX9_notes 111 = .ok (.iconst 2, 1) := dk_5 (dk_at dksX9_notes_4 16 rfl rfl)
theorem dX9_notes_112 : decode cX9_notes 112 = .ok (.iadd, 1) := dk_96 (dk_at dksX9_notes_4 17 rfl rfl)
theorem dX9_notes_113 : decode cX9_notes 113 = .ok (.iload_n 3, 1) := dk_29 (dk_at dksX9_notes_4 18 rfl rfl)
theorem dX9_notes_114 : decode cX9_notes 114 = .ok (.iastore, 1) := dk_79 (dk_at dksX9_notes_4 19 rfl rfl)
theorem dX9_notes_115 : decode cX9_notes 115 = .ok (.aload_n 0, 1) := dk_42 (dk_at dksX9_notes_4 20 rfl rfl)
theorem dX9_notes_116 : decode cX9_notes 116 = .ok (.getfield 163, 3) := dk_180 0 163 (dk_at dksX9_notes_4 21 rfl rfl)
theorem dX9_notes_119 : decode cX9_notes 119 = .ok (.iload 5, 2) := dk_21 5 (dk_at dksX9_notes_5 0 rfl rfl)
theorem dX9_notes_121 : decode cX9_notes 121 = .ok (.iconst 3, 1) := dk_6 (dk_at dksX9_notes_5 2 rfl rfl)
theorem dX9_notes_122 : decode cX9_notes 122 = .ok (.iadd, 1) := dk_96 (dk_at dksX9_notes_5 3 rfl rfl)
theorem dX9_notes_123 : decode cX9_notes 123 = .ok (.iload 4, 2) := dk_21 4 (dk_at dksX9_notes_5 4 rfl rfl)
theorem dX9_notes_125 : decode cX9_notes 125 = .ok (.iastore, 1) := dk_79 (dk_at dksX9_notes_5 6 rfl rfl)
theorem dX9_notes_126 : decode cX9_notes 126 = .ok (.aload_n 0, 1) := dk_42 (dk_at dksX9_notes_5 7 rfl rfl)
theorem dX9_notes_127 : decode cX9_notes 127 = .ok (.getfield 160, 3) := dk_180 0 160 (dk_at dksX9_notes_5 8 rfl rfl)
theorem dX9_notes_130 : decode cX9_notes 130 = .ok (.iload_n 1, 1) := dk_27 (dk_at dksX9_notes_5 11 rfl rfl)
theorem dX9_notes_131 : decode cX9_notes 131 = .ok (.dup2, 1) := dk_92 (dk_at dksX9_notes_5 12 rfl rfl)
theorem dX9_notes_132 : decode cX9_notes 132 = .ok (.iaload, 1) := dk_46 (dk_at dksX9_notes_5 13 rfl rfl)
theorem dX9_notes_133 : decode cX9_notes 133 = .ok (.iconst 1, 1) := dk_4 (dk_at dksX9_notes_5 14 rfl rfl)
theorem dX9_notes_134 : decode cX9_notes 134 = .ok (.iadd, 1) := dk_96 (dk_at dksX9_notes_5 15 rfl rfl)
theorem dX9_notes_135 : decode cX9_notes 135 = .ok (.iastore, 1) := dk_79 (dk_at dksX9_notes_5 16 rfl rfl)
theorem dX9_notes_136 : decode cX9_notes 136 = .ok (.return_, 1) := dk_177 (dk_at dksX9_notes_5 17 rfl rfl)
def dkwX9_anew_1 : List UInt8 := [42, 3, 182, 1, 207, 172]
abbrev dktX9_anew_1 : List UInt8 := dkwX9_anew_1 ++ []
def dkwX9_anew_0 : List UInt8 := [42, 27, 182, 1, 164, 154, 0, 9, 42, 5, 182, 0, 254, 172, 42, 182, 1, 201, 42, 3, 27, 182, 1, 204]
abbrev dktX9_anew_0 : List UInt8 := dkwX9_anew_0 ++ dktX9_anew_1
theorem dksX9_anew_0 : cX9_anew.data.toList.drop 0 = dktX9_anew_0 := by decide +kernel
theorem dksX9_anew_1 : cX9_anew.data.toList.drop 24 = dktX9_anew_1 := dk_seg dksX9_anew_0 24 rfl rfl
theorem dX9_anew_0 : decode cX9_anew 0 = .ok (.aload_n 0, 1) := dk_42 (dk_at dksX9_anew_0 0 rfl rfl)
theorem dX9_anew_1 : decode cX9_anew 1 = .ok (.iload_n 1, 1) := dk_27 (dk_at dksX9_anew_0 1 rfl rfl)
theorem dX9_anew_2 : decode cX9_anew 2 = .ok (.invokevirtual 420, 3) := dk_182 1 164 (dk_at dksX9_anew_0 2 rfl rfl)
theorem dX9_anew_5 : decode cX9_anew 5 = .ok (.ifCond .ne 9, 3) := dk_154 0 9 (dk_at dksX9_anew_0 5 rfl rfl)
theorem dX9_anew_8 : decode cX9_anew 8 = .ok (.aload_n 0, 1) := dk_42 (dk_at dksX9_anew_0 8 rfl rfl)
theorem dX9_anew_9 : decode cX9_anew 9 = .ok (.iconst 2, 1) := dk_5 (dk_at dksX9_anew_0 9 rfl rfl)
theorem dX9_anew_10 : decode cX9_anew 10 = .ok (.invokevirtual 254, 3) := dk_182 0 254 (dk_at dksX9_anew_0 10 rfl rfl)
theorem dX9_anew_13 : decode cX9_anew 13 = .ok (.ireturn, 1) := dk_172 (dk_at dksX9_anew_0 13 rfl rfl)
theorem dX9_anew_14 : decode cX9_anew 14 = .ok (.aload_n 0, 1) := dk_42 (dk_at dksX9_anew_0 14 rfl rfl)
theorem dX9_anew_15 : decode cX9_anew 15 = .ok (.invokevirtual 457, 3) := dk_182 1 201 (dk_at dksX9_anew_0 15 rfl rfl)
theorem dX9_anew_18 : decode cX9_anew 18 = .ok (.aload_n 0, 1) := dk_42 (dk_at dksX9_anew_0 18 rfl rfl)
theorem dX9_anew_19 : decode cX9_anew 19 = .ok (.iconst 0, 1) := dk_3 (dk_at dksX9_anew_0 19 rfl rfl)
theorem dX9_anew_20 : decode cX9_anew 20 = .ok (.iload_n 1, 1) := dk_27 (dk_at dksX9_anew_0 20 rfl rfl)
theorem dX9_anew_21 : decode cX9_anew 21 = .ok (.invokevirtual 460, 3) := dk_182 1 204 (dk_at dksX9_anew_0 21 rfl rfl)
theorem dX9_anew_24 : decode cX9_anew 24 = .ok (.aload_n 0, 1) := dk_42 (dk_at dksX9_anew_1 0 rfl rfl)
theorem dX9_anew_25 : decode cX9_anew 25 = .ok (.iconst 0, 1) := dk_3 (dk_at dksX9_anew_1 1 rfl rfl)
theorem dX9_anew_26 : decode cX9_anew 26 = .ok (.invokevirtual 463, 3) := dk_182 1 207 (dk_at dksX9_anew_1 2 rfl rfl)
theorem dX9_anew_29 : decode cX9_anew 29 = .ok (.ireturn, 1) := dk_172 (dk_at dksX9_anew_1 5 rfl rfl)
def dkwX9_renews_4 : List UInt8 := [42, 180, 0, 209, 21, 4, 46, 182, 1, 198, 132, 3, 1, 167, 255, 164, 177]
abbrev dktX9_renews_4 : List UInt8 := dkwX9_renews_4 ++ []
def dkwX9_renews_3 : List UInt8 := [180, 0, 218, 16, 12, 21, 4, 104, 21, 5, 96, 46, 79, 132, 5, 1, 167, 255, 226, 42, 27, 21, 4, 28]
abbrev dktX9_renews_3 : List UInt8 := dkwX9_renews_3 ++ dktX9_renews_4
def dkwX9_renews_2 : List UInt8 := [21, 4, 46, 181, 0, 194, 3, 54, 5, 21, 5, 16, 12, 162, 0, 29, 42, 180, 0, 188, 21, 5, 42]
abbrev dktX9_renews_2 : List UInt8 := dkwX9_renews_2 ++ dktX9_renews_3
def dkwX9_renews_1 : List UInt8 := [180, 0, 203, 29, 46, 54, 4, 42, 42, 180, 0, 212, 21, 4, 46, 181, 0, 191, 42, 42, 180, 0, 215]
abbrev dktX9_renews_1 : List UInt8 := dkwX9_renews_1 ++ dktX9_renews_2
def dkwX9_renews_0 : List UInt8 := [42, 27, 182, 1, 185, 42, 27, 28, 182, 1, 188, 3, 62, 29, 42, 180, 0, 206, 162, 0, 90, 42]
abbrev dktX9_renews_0 : List UInt8 := dkwX9_renews_0 ++ dktX9_renews_1
theorem dksX9_renews_0 : cX9_renews.data.toList.drop 0 = dktX9_renews_0 := by decide +kernel
theorem dksX9_renews_1 : cX9_renews.data.toList.drop 22 = dktX9_renews_1 := dk_seg dksX9_renews_0 22 rfl rfl
theorem dksX9_renews_2 : cX9_renews.data.toList.drop 45 = dktX9_renews_2 := dk_seg dksX9_renews_1 23 rfl rfl
theorem dksX9_renews_3 : cX9_renews.data.toList.drop 68 = dktX9_renews_3 := dk_seg dksX9_renews_2 23 rfl rfl
theorem dksX9_renews_4 : cX9_renews.data.toList.drop 92 = dktX9_renews_4 := dk_seg dksX9_renews_3 24 rfl rfl
theorem dX9_renews_0 : decode cX9_renews 0 = .ok (.aload_n 0, 1) := dk_42 (dk_at dksX9_renews_0 0 rfl rfl)
theorem dX9_renews_1 : decode cX9_renews 1 = .ok (.iload_n 1, 1) := dk_27 (dk_at dksX9_renews_0 1 rfl rfl)
theorem dX9_renews_2 : decode cX9_renews 2 = .ok (.invokevirtual 441, 3) := dk_182 1 185 (dk_at dksX9_renews_0 2 rfl rfl)
theorem dX9_renews_5 : decode cX9_renews 5 = .ok (.aload_n 0, 1) := dk_42 (dk_at dksX9_renews_0 5 rfl rfl)
theorem dX9_renews_6 : decode cX9_renews 6 = .ok (.iload_n 1, 1) := dk_27 (dk_at dksX9_renews_0 6 rfl rfl)
theorem dX9_renews_7 : decode cX9_renews 7 = .ok (.iload_n 2, 1) := dk_28 (dk_at dksX9_renews_0 7 rfl rfl)
theorem dX9_renews_8 : decode cX9_renews 8 = .ok (.invokevirtual 444, 3) := dk_182 1 188 (dk_at dksX9_renews_0 8 rfl rfl)
theorem dX9_renews_11 : decode cX9_renews 11 = .ok (.iconst 0, 1) := dk_3 (dk_at dksX9_renews_0 11 rfl rfl)
theorem dX9_renews_12 : decode cX9_renews 12 = .ok (.istore_n 3, 1) := dk_62 (dk_at dksX9_renews_0 12 rfl rfl)
theorem dX9_renews_13 : decode cX9_renews 13 = .ok (.iload_n 3, 1) := dk_29 (dk_at dksX9_renews_0 13 rfl rfl)
theorem dX9_renews_14 : decode cX9_renews 14 = .ok (.aload_n 0, 1) := dk_42 (dk_at dksX9_renews_0 14 rfl rfl)
theorem dX9_renews_15 : decode cX9_renews 15 = .ok (.getfield 206, 3) := dk_180 0 206 (dk_at dksX9_renews_0 15 rfl rfl)
theorem dX9_renews_18 : decode cX9_renews 18 = .ok (.if_icmp .ge 90, 3) := dk_162 0 90 (dk_at dksX9_renews_0 18 rfl rfl)
theorem dX9_renews_21 : decode cX9_renews 21 = .ok (.aload_n 0, 1) := dk_42 (dk_at dksX9_renews_0 21 rfl rfl)
theorem dX9_renews_22 : decode cX9_renews 22 = .ok (.getfield 203, 3) := dk_180 0 203 (dk_at dksX9_renews_1 0 rfl rfl)
theorem dX9_renews_25 : decode cX9_renews 25 = .ok (.iload_n 3, 1) := dk_29 (dk_at dksX9_renews_1 3 rfl rfl)
theorem dX9_renews_26 : decode cX9_renews 26 = .ok (.iaload, 1) := dk_46 (dk_at dksX9_renews_1 4 rfl rfl)
theorem dX9_renews_27 : decode cX9_renews 27 = .ok (.istore 4, 2) := dk_54 4 (dk_at dksX9_renews_1 5 rfl rfl)
theorem dX9_renews_29 : decode cX9_renews 29 = .ok (.aload_n 0, 1) := dk_42 (dk_at dksX9_renews_1 7 rfl rfl)
theorem dX9_renews_30 : decode cX9_renews 30 = .ok (.aload_n 0, 1) := dk_42 (dk_at dksX9_renews_1 8 rfl rfl)
theorem dX9_renews_31 : decode cX9_renews 31 = .ok (.getfield 212, 3) := dk_180 0 212 (dk_at dksX9_renews_1 9 rfl rfl)
theorem dX9_renews_34 : decode cX9_renews 34 = .ok (.iload 4, 2) := dk_21 4 (dk_at dksX9_renews_1 12 rfl rfl)
theorem dX9_renews_36 : decode cX9_renews 36 = .ok (.iaload, 1) := dk_46 (dk_at dksX9_renews_1 14 rfl rfl)
theorem dX9_renews_37 : decode cX9_renews 37 = .ok (.putfield 191, 3) := dk_181 0 191 (dk_at dksX9_renews_1 15 rfl rfl)
theorem dX9_renews_40 : decode cX9_renews 40 = .ok (.aload_n 0, 1) := dk_42 (dk_at dksX9_renews_1 18 rfl rfl)
theorem dX9_renews_41 : decode cX9_renews 41 = .ok (.aload_n 0, 1) := dk_42 (dk_at dksX9_renews_1 19 rfl rfl)
theorem dX9_renews_42 : decode cX9_renews 42 = .ok (.getfield 215, 3) := dk_180 0 215 (dk_at dksX9_renews_1 20 rfl rfl)
theorem dX9_renews_45 : decode cX9_renews 45 = .ok (.iload 4, 2) := dk_21 4 (dk_at dksX9_renews_2 0 rfl rfl)
theorem dX9_renews_47 : decode cX9_renews 47 = .ok (.iaload, 1) := dk_46 (dk_at dksX9_renews_2 2 rfl rfl)
theorem dX9_renews_48 : decode cX9_renews 48 = .ok (.putfield 194, 3) := dk_181 0 194 (dk_at dksX9_renews_2 3 rfl rfl)
theorem dX9_renews_51 : decode cX9_renews 51 = .ok (.iconst 0, 1) := dk_3 (dk_at dksX9_renews_2 6 rfl rfl)
theorem dX9_renews_52 : decode cX9_renews 52 = .ok (.istore 5, 2) := dk_54 5 (dk_at dksX9_renews_2 7 rfl rfl)
theorem dX9_renews_54 : decode cX9_renews 54 = .ok (.iload 5, 2) := dk_21 5 (dk_at dksX9_renews_2 9 rfl rfl)
theorem dX9_renews_56 : decode cX9_renews 56 = .ok (.bipush 12, 2) := dk_16 12 (dk_at dksX9_renews_2 11 rfl rfl)
theorem dX9_renews_58 : decode cX9_renews 58 = .ok (.if_icmp .ge 29, 3) := dk_162 0 29 (dk_at dksX9_renews_2 13 rfl rfl)
theorem dX9_renews_61 : decode cX9_renews 61 = .ok (.aload_n 0, 1) := dk_42 (dk_at dksX9_renews_2 16 rfl rfl)
theorem dX9_renews_62 : decode cX9_renews 62 = .ok (.getfield 188, 3) := dk_180 0 188 (dk_at dksX9_renews_2 17 rfl rfl)
theorem dX9_renews_65 : decode cX9_renews 65 = .ok (.iload 5, 2) := dk_21 5 (dk_at dksX9_renews_2 20 rfl rfl)
theorem dX9_renews_67 : decode cX9_renews 67 = .ok (.aload_n 0, 1) := dk_42 (dk_at dksX9_renews_2 22 rfl rfl)
theorem dX9_renews_68 : decode cX9_renews 68 = .ok (.getfield 218, 3) := dk_180 0 218 (dk_at dksX9_renews_3 0 rfl rfl)
theorem dX9_renews_71 : decode cX9_renews 71 = .ok (.bipush 12, 2) := dk_16 12 (dk_at dksX9_renews_3 3 rfl rfl)
theorem dX9_renews_73 : decode cX9_renews 73 = .ok (.iload 4, 2) := dk_21 4 (dk_at dksX9_renews_3 5 rfl rfl)
theorem dX9_renews_75 : decode cX9_renews 75 = .ok (.imul, 1) := dk_104 (dk_at dksX9_renews_3 7 rfl rfl)
theorem dX9_renews_76 : decode cX9_renews 76 = .ok (.iload 5, 2) := dk_21 5 (dk_at dksX9_renews_3 8 rfl rfl)
theorem dX9_renews_78 : decode cX9_renews 78 = .ok (.iadd, 1) := dk_96 (dk_at dksX9_renews_3 10 rfl rfl)
theorem dX9_renews_79 : decode cX9_renews 79 = .ok (.iaload, 1) := dk_46 (dk_at dksX9_renews_3 11 rfl rfl)
theorem dX9_renews_80 : decode cX9_renews 80 = .ok (.iastore, 1) := dk_79 (dk_at dksX9_renews_3 12 rfl rfl)
theorem dX9_renews_81 : decode cX9_renews 81 = .ok (.iinc 5 1, 3) := dk_132 5 1 (dk_at dksX9_renews_3 13 rfl rfl)
theorem dX9_renews_84 : decode cX9_renews 84 = .ok (.goto (-30), 3) := dk_167 255 226 (dk_at dksX9_renews_3 16 rfl rfl)
theorem dX9_renews_87 : decode cX9_renews 87 = .ok (.aload_n 0, 1) := dk_42 (dk_at dksX9_renews_3 19 rfl rfl)
theorem dX9_renews_88 : decode cX9_renews 88 = .ok (.iload_n 1, 1) := dk_27 (dk_at dksX9_renews_3 20 rfl rfl)
theorem dX9_renews_89 : decode cX9_renews 89 = .ok (.iload 4, 2) := dk_21 4 (dk_at dksX9_renews_3 21 rfl rfl)
theorem dX9_renews_91 : decode cX9_renews 91 = .ok (.iload_n 2, 1) := dk_28 (dk_at dksX9_renews_3 23 rfl rfl)
theorem dX9_renews_92 : decode cX9_renews 92 = .ok (.aload_n 0, 1) := dk_42 (dk_at dksX9_renews_4 0 rfl rfl)
theorem dX9_renews_93 : decode cX9_renews 93 = .ok (.getfield 209, 3) := dk_180 0 209 (dk_at dksX9_renews_4 1 rfl rfl)
theorem dX9_renews_96 : decode cX9_renews 96 = .ok (.iload 4, 2) := dk_21 4 (dk_at dksX9_renews_4 4 rfl rfl)
theorem dX9_renews_98 : decode cX9_renews 98 = .ok (.iaload, 1) := dk_46 (dk_at dksX9_renews_4 6 rfl rfl)
theorem dX9_renews_99 : decode cX9_renews 99 = .ok (.invokevirtual 454, 3) := dk_182 1 198 (dk_at dksX9_renews_4 7 rfl rfl)
theorem dX9_renews_102 : decode cX9_renews 102 = .ok (.iinc 3 1, 3) := dk_132 3 1 (dk_at dksX9_renews_4 10 rfl rfl)
theorem dX9_renews_105 : decode cX9_renews 105 = .ok (.goto (-92), 3) := dk_167 255 164 (dk_at dksX9_renews_4 13 rfl rfl)
theorem dX9_renews_108 : decode cX9_renews 108 = .ok (.return_, 1) := dk_177 (dk_at dksX9_renews_4 16 rfl rfl)
def dkwX9_standing_1 : List UInt8 := [153, 0, 7, 4, 167, 0, 4, 3, 96, 61, 132, 3, 1, 167, 255, 223, 28, 172]
abbrev dktX9_standing_1 : List UInt8 := dkwX9_standing_1 ++ []
def dkwX9_standing_0 : List UInt8 := [3, 61, 3, 62, 29, 42, 180, 0, 100, 42, 180, 0, 51, 46, 162, 0, 26, 28, 42, 27, 29, 182, 1, 143]
abbrev dktX9_standing_0 : List UInt8 := dkwX9_standing_0 ++ dktX9_standing_1
theorem dksX9_standing_0 : cX9_standing.data.toList.drop 0 = dktX9_standing_0 := by decide +kernel
theorem dksX9_standing_1 : cX9_standing.data.toList.drop 24 = dktX9_standing_1 := dk_seg dksX9_standing_0 24 rfl rfl
theorem dX9_standing_0 : decode cX9_standing 0 = .ok (.iconst 0, 1) := dk_3 (dk_at dksX9_standing_0 0 rfl rfl)
theorem dX9_standing_1 : decode cX9_standing 1 = .ok (.istore_n 2, 1) := dk_61 (dk_at dksX9_standing_0 1 rfl rfl)
theorem dX9_standing_2 : decode cX9_standing 2 = .ok (.iconst 0, 1) := dk_3 (dk_at dksX9_standing_0 2 rfl rfl)
theorem dX9_standing_3 : decode cX9_standing 3 = .ok (.istore_n 3, 1) := dk_62 (dk_at dksX9_standing_0 3 rfl rfl)
theorem dX9_standing_4 : decode cX9_standing 4 = .ok (.iload_n 3, 1) := dk_29 (dk_at dksX9_standing_0 4 rfl rfl)
theorem dX9_standing_5 : decode cX9_standing 5 = .ok (.aload_n 0, 1) := dk_42 (dk_at dksX9_standing_0 5 rfl rfl)
theorem dX9_standing_6 : decode cX9_standing 6 = .ok (.getfield 100, 3) := dk_180 0 100 (dk_at dksX9_standing_0 6 rfl rfl)
theorem dX9_standing_9 : decode cX9_standing 9 = .ok (.aload_n 0, 1) := dk_42 (dk_at dksX9_standing_0 9 rfl rfl)
theorem dX9_standing_10 : decode cX9_standing 10 = .ok (.getfield 51, 3) := dk_180 0 51 (dk_at dksX9_standing_0 10 rfl rfl)
theorem dX9_standing_13 : decode cX9_standing 13 = .ok (.iaload, 1) := dk_46 (dk_at dksX9_standing_0 13 rfl rfl)
theorem dX9_standing_14 : decode cX9_standing 14 = .ok (.if_icmp .ge 26, 3) := dk_162 0 26 (dk_at dksX9_standing_0 14 rfl rfl)
theorem dX9_standing_17 : decode cX9_standing 17 = .ok (.iload_n 2, 1) := dk_28 (dk_at dksX9_standing_0 17 rfl rfl)
theorem dX9_standing_18 : decode cX9_standing 18 = .ok (.aload_n 0, 1) := dk_42 (dk_at dksX9_standing_0 18 rfl rfl)
theorem dX9_standing_19 : decode cX9_standing 19 = .ok (.iload_n 1, 1) := dk_27 (dk_at dksX9_standing_0 19 rfl rfl)
theorem dX9_standing_20 : decode cX9_standing 20 = .ok (.iload_n 3, 1) := dk_29 (dk_at dksX9_standing_0 20 rfl rfl)
theorem dX9_standing_21 : decode cX9_standing 21 = .ok (.invokevirtual 399, 3) := dk_182 1 143 (dk_at dksX9_standing_0 21 rfl rfl)
theorem dX9_standing_24 : decode cX9_standing 24 = .ok (.ifCond .eq 7, 3) := dk_153 0 7 (dk_at dksX9_standing_1 0 rfl rfl)
theorem dX9_standing_27 : decode cX9_standing 27 = .ok (.iconst 1, 1) := dk_4 (dk_at dksX9_standing_1 3 rfl rfl)
theorem dX9_standing_28 : decode cX9_standing 28 = .ok (.goto 4, 3) := dk_167 0 4 (dk_at dksX9_standing_1 4 rfl rfl)
theorem dX9_standing_31 : decode cX9_standing 31 = .ok (.iconst 0, 1) := dk_3 (dk_at dksX9_standing_1 7 rfl rfl)
theorem dX9_standing_32 : decode cX9_standing 32 = .ok (.iadd, 1) := dk_96 (dk_at dksX9_standing_1 8 rfl rfl)
theorem dX9_standing_33 : decode cX9_standing 33 = .ok (.istore_n 2, 1) := dk_61 (dk_at dksX9_standing_1 9 rfl rfl)
theorem dX9_standing_34 : decode cX9_standing 34 = .ok (.iinc 3 1, 3) := dk_132 3 1 (dk_at dksX9_standing_1 10 rfl rfl)
theorem dX9_standing_37 : decode cX9_standing 37 = .ok (.goto (-33), 3) := dk_167 255 223 (dk_at dksX9_standing_1 13 rfl rfl)
theorem dX9_standing_40 : decode cX9_standing 40 = .ok (.iload_n 2, 1) := dk_28 (dk_at dksX9_standing_1 16 rfl rfl)
theorem dX9_standing_41 : decode cX9_standing 41 = .ok (.ireturn, 1) := dk_172 (dk_at dksX9_standing_1 17 rfl rfl)
def dkwX9_council_6 : List UInt8 := [180, 0, 130, 28, 46, 79, 132, 2, 1, 167, 255, 223, 42, 180, 0, 133, 42, 180, 0, 136, 96, 172]
abbrev dktX9_council_6 : List UInt8 := dkwX9_council_6 ++ []
def dkwX9_council_5 : List UInt8 := [180, 0, 133, 42, 180, 0, 136, 96, 162, 0, 26, 42, 180, 0, 157, 16, 12, 27, 104, 28, 96, 42]
abbrev dktX9_council_5 : List UInt8 := dkwX9_council_5 ++ dktX9_council_6
def dkwX9_council_4 : List UInt8 := [42, 180, 0, 148, 27, 42, 180, 0, 133, 79, 42, 180, 0, 151, 27, 42, 180, 0, 136, 79, 3, 61, 28, 42]
abbrev dktX9_council_4 : List UInt8 := dkwX9_council_4 ++ dktX9_council_5
def dkwX9_council_3 : List UInt8 := [42, 180, 0, 39, 181, 0, 45, 42, 180, 0, 36, 158, 0, 9, 42, 5, 182, 0, 254, 172, 42, 182, 1, 201]
abbrev dktX9_council_3 : List UInt8 := dkwX9_council_3 ++ dktX9_council_4
def dkwX9_council_2 : List UInt8 := [180, 0, 20, 153, 0, 12, 42, 4, 42, 180, 0, 23, 182, 1, 6, 42, 42, 180, 0, 36, 181, 0, 42, 42]
abbrev dktX9_council_2 : List UInt8 := dkwX9_council_2 ++ dktX9_council_3
def dkwX9_council_1 : List UInt8 := [181, 0, 127, 42, 182, 1, 128, 42, 182, 1, 108, 42, 182, 1, 17, 42, 180, 0, 36, 154, 0, 19, 42]
abbrev dktX9_council_1 : List UInt8 := dkwX9_council_1 ++ dktX9_council_2
def dkwX9_council_0 : List UInt8 := [42, 27, 182, 1, 140, 154, 0, 14, 42, 3, 181, 0, 13, 42, 5, 182, 0, 254, 172, 42, 42, 180, 0, 51]
abbrev dktX9_council_0 : List UInt8 := dkwX9_council_0 ++ dktX9_council_1
theorem dksX9_council_0 : cX9_council.data.toList.drop 0 = dktX9_council_0 := by decide +kernel
theorem dksX9_council_1 : cX9_council.data.toList.drop 24 = dktX9_council_1 := dk_seg dksX9_council_0 24 rfl rfl
theorem dksX9_council_2 : cX9_council.data.toList.drop 47 = dktX9_council_2 := dk_seg dksX9_council_1 23 rfl rfl
theorem dksX9_council_3 : cX9_council.data.toList.drop 71 = dktX9_council_3 := dk_seg dksX9_council_2 24 rfl rfl
theorem dksX9_council_4 : cX9_council.data.toList.drop 95 = dktX9_council_4 := dk_seg dksX9_council_3 24 rfl rfl
theorem dksX9_council_5 : cX9_council.data.toList.drop 119 = dktX9_council_5 := dk_seg dksX9_council_4 24 rfl rfl
theorem dksX9_council_6 : cX9_council.data.toList.drop 141 = dktX9_council_6 := dk_seg dksX9_council_5 22 rfl rfl
theorem dX9_council_0 : decode cX9_council 0 = .ok (.aload_n 0, 1) := dk_42 (dk_at dksX9_council_0 0 rfl rfl)
theorem dX9_council_1 : decode cX9_council 1 = .ok (.iload_n 1, 1) := dk_27 (dk_at dksX9_council_0 1 rfl rfl)
theorem dX9_council_2 : decode cX9_council 2 = .ok (.invokevirtual 396, 3) := dk_182 1 140 (dk_at dksX9_council_0 2 rfl rfl)
theorem dX9_council_5 : decode cX9_council 5 = .ok (.ifCond .ne 14, 3) := dk_154 0 14 (dk_at dksX9_council_0 5 rfl rfl)
theorem dX9_council_8 : decode cX9_council 8 = .ok (.aload_n 0, 1) := dk_42 (dk_at dksX9_council_0 8 rfl rfl)
theorem dX9_council_9 : decode cX9_council 9 = .ok (.iconst 0, 1) := dk_3 (dk_at dksX9_council_0 9 rfl rfl)
theorem dX9_council_10 : decode cX9_council 10 = .ok (.putfield 13, 3) := dk_181 0 13 (dk_at dksX9_council_0 10 rfl rfl)
theorem dX9_council_13 : decode cX9_council 13 = .ok (.aload_n 0, 1) := dk_42 (dk_at dksX9_council_0 13 rfl rfl)
theorem dX9_council_14 : decode cX9_council 14 = .ok (.iconst 2, 1) := dk_5 (dk_at dksX9_council_0 14 rfl rfl)
theorem dX9_council_15 : decode cX9_council 15 = .ok (.invokevirtual 254, 3) := dk_182 0 254 (dk_at dksX9_council_0 15 rfl rfl)
theorem dX9_council_18 : decode cX9_council 18 = .ok (.ireturn, 1) := dk_172 (dk_at dksX9_council_0 18 rfl rfl)
theorem dX9_council_19 : decode cX9_council 19 = .ok (.aload_n 0, 1) := dk_42 (dk_at dksX9_council_0 19 rfl rfl)
theorem dX9_council_20 : decode cX9_council 20 = .ok (.aload_n 0, 1) := dk_42 (dk_at dksX9_council_0 20 rfl rfl)
theorem dX9_council_21 : decode cX9_council 21 = .ok (.getfield 51, 3) := dk_180 0 51 (dk_at dksX9_council_0 21 rfl rfl)
theorem dX9_council_24 : decode cX9_council 24 = .ok (.putfield 127, 3) := dk_181 0 127 (dk_at dksX9_council_1 0 rfl rfl)
theorem dX9_council_27 : decode cX9_council 27 = .ok (.aload_n 0, 1) := dk_42 (dk_at dksX9_council_1 3 rfl rfl)
theorem dX9_council_28 : decode cX9_council 28 = .ok (.invokevirtual 384, 3) := dk_182 1 128 (dk_at dksX9_council_1 4 rfl rfl)
theorem dX9_council_31 : decode cX9_council 31 = .ok (.aload_n 0, 1) := dk_42 (dk_at dksX9_council_1 7 rfl rfl)
theorem dX9_council_32 : decode cX9_council 32 = .ok (.invokevirtual 364, 3) := dk_182 1 108 (dk_at dksX9_council_1 8 rfl rfl)
theorem dX9_council_35 : decode cX9_council 35 = .ok (.aload_n 0, 1) := dk_42 (dk_at dksX9_council_1 11 rfl rfl)
theorem dX9_council_36 : decode cX9_council 36 = .ok (.invokevirtual 273, 3) := dk_182 1 17 (dk_at dksX9_council_1 12 rfl rfl)
theorem dX9_council_39 : decode cX9_council 39 = .ok (.aload_n 0, 1) := dk_42 (dk_at dksX9_council_1 15 rfl rfl)
theorem dX9_council_40 : decode cX9_council 40 = .ok (.getfield 36, 3) := dk_180 0 36 (dk_at dksX9_council_1 16 rfl rfl)
theorem dX9_council_43 : decode cX9_council 43 = .ok (.ifCond .ne 19, 3) := dk_154 0 19 (dk_at dksX9_council_1 19 rfl rfl)
theorem dX9_council_46 : decode cX9_council 46 = .ok (.aload_n 0, 1) := dk_42 (dk_at dksX9_council_1 22 rfl rfl)
theorem dX9_council_47 : decode cX9_council 47 = .ok (.getfield 20, 3) := dk_180 0 20 (dk_at dksX9_council_2 0 rfl rfl)
theorem dX9_council_50 : decode cX9_council 50 = .ok (.ifCond .eq 12, 3) := dk_153 0 12 (dk_at dksX9_council_2 3 rfl rfl)
theorem dX9_council_53 : decode cX9_council 53 = .ok (.aload_n 0, 1) := dk_42 (dk_at dksX9_council_2 6 rfl rfl)
theorem dX9_council_54 : decode cX9_council 54 = .ok (.iconst 1, 1) := dk_4 (dk_at dksX9_council_2 7 rfl rfl)
theorem dX9_council_55 : decode cX9_council 55 = .ok (.aload_n 0, 1) := dk_42 (dk_at dksX9_council_2 8 rfl rfl)
theorem dX9_council_56 : decode cX9_council 56 = .ok (.getfield 23, 3) := dk_180 0 23 (dk_at dksX9_council_2 9 rfl rfl)
theorem dX9_council_59 : decode cX9_council 59 = .ok (.invokevirtual 262, 3) := dk_182 1 6 (dk_at dksX9_council_2 12 rfl rfl)
theorem dX9_council_62 : decode cX9_council 62 = .ok (.aload_n 0, 1) := dk_42 (dk_at dksX9_council_2 15 rfl rfl)
theorem dX9_council_63 : decode cX9_council 63 = .ok (.aload_n 0, 1) := dk_42 (dk_at dksX9_council_2 16 rfl rfl)
theorem dX9_council_64 : decode cX9_council 64 = .ok (.getfield 36, 3) := dk_180 0 36 (dk_at dksX9_council_2 17 rfl rfl)
theorem dX9_council_67 : decode cX9_council 67 = .ok (.putfield 42, 3) := dk_181 0 42 (dk_at dksX9_council_2 20 rfl rfl)
theorem dX9_council_70 : decode cX9_council 70 = .ok (.aload_n 0, 1) := dk_42 (dk_at dksX9_council_2 23 rfl rfl)
theorem dX9_council_71 : decode cX9_council 71 = .ok (.aload_n 0, 1) := dk_42 (dk_at dksX9_council_3 0 rfl rfl)
theorem dX9_council_72 : decode cX9_council 72 = .ok (.getfield 39, 3) := dk_180 0 39 (dk_at dksX9_council_3 1 rfl rfl)
theorem dX9_council_75 : decode cX9_council 75 = .ok (.putfield 45, 3) := dk_181 0 45 (dk_at dksX9_council_3 4 rfl rfl)
theorem dX9_council_78 : decode cX9_council 78 = .ok (.aload_n 0, 1) := dk_42 (dk_at dksX9_council_3 7 rfl rfl)
theorem dX9_council_79 : decode cX9_council 79 = .ok (.getfield 36, 3) := dk_180 0 36 (dk_at dksX9_council_3 8 rfl rfl)
theorem dX9_council_82 : decode cX9_council 82 = .ok (.ifCond .le 9, 3) := dk_158 0 9 (dk_at dksX9_council_3 11 rfl rfl)
theorem dX9_council_85 : decode cX9_council 85 = .ok (.aload_n 0, 1) := dk_42 (dk_at dksX9_council_3 14 rfl rfl)
theorem dX9_council_86 : decode cX9_council 86 = .ok (.iconst 2, 1) := dk_5 (dk_at dksX9_council_3 15 rfl rfl)
theorem dX9_council_87 : decode cX9_council 87 = .ok (.invokevirtual 254, 3) := dk_182 0 254 (dk_at dksX9_council_3 16 rfl rfl)
theorem dX9_council_90 : decode cX9_council 90 = .ok (.ireturn, 1) := dk_172 (dk_at dksX9_council_3 19 rfl rfl)
theorem dX9_council_91 : decode cX9_council 91 = .ok (.aload_n 0, 1) := dk_42 (dk_at dksX9_council_3 20 rfl rfl)
theorem dX9_council_92 : decode cX9_council 92 = .ok (.invokevirtual 457, 3) := dk_182 1 201 (dk_at dksX9_council_3 21 rfl rfl)
theorem dX9_council_95 : decode cX9_council 95 = .ok (.aload_n 0, 1) := dk_42 (dk_at dksX9_council_4 0 rfl rfl)
theorem dX9_council_96 : decode cX9_council 96 = .ok (.getfield 148, 3) := dk_180 0 148 (dk_at dksX9_council_4 1 rfl rfl)
theorem dX9_council_99 : decode cX9_council 99 = .ok (.iload_n 1, 1) := dk_27 (dk_at dksX9_council_4 4 rfl rfl)
theorem dX9_council_100 : decode cX9_council 100 = .ok (.aload_n 0, 1) := dk_42 (dk_at dksX9_council_4 5 rfl rfl)
theorem dX9_council_101 : decode cX9_council 101 = .ok (.getfield 133, 3) := dk_180 0 133 (dk_at dksX9_council_4 6 rfl rfl)
theorem dX9_council_104 : decode cX9_council 104 = .ok (.iastore, 1) := dk_79 (dk_at dksX9_council_4 9 rfl rfl)
theorem dX9_council_105 : decode cX9_council 105 = .ok (.aload_n 0, 1) := dk_42 (dk_at dksX9_council_4 10 rfl rfl)
theorem dX9_council_106 : decode cX9_council 106 = .ok (.getfield 151, 3) := dk_180 0 151 (dk_at dksX9_council_4 11 rfl rfl)
theorem dX9_council_109 : decode cX9_council 109 = .ok (.iload_n 1, 1) := dk_27 (dk_at dksX9_council_4 14 rfl rfl)
theorem dX9_council_110 : decode cX9_council 110 = .ok (.aload_n 0, 1) := dk_42 (dk_at dksX9_council_4 15 rfl rfl)
theorem dX9_council_111 : decode cX9_council 111 = .ok (.getfield 136, 3) := dk_180 0 136 (dk_at dksX9_council_4 16 rfl rfl)
theorem dX9_council_114 : decode cX9_council 114 = .ok (.iastore, 1) := dk_79 (dk_at dksX9_council_4 19 rfl rfl)
theorem dX9_council_115 : decode cX9_council 115 = .ok (.iconst 0, 1) := dk_3 (dk_at dksX9_council_4 20 rfl rfl)
theorem dX9_council_116 : decode cX9_council 116 = .ok (.istore_n 2, 1) := dk_61 (dk_at dksX9_council_4 21 rfl rfl)
theorem dX9_council_117 : decode cX9_council 117 = .ok (.iload_n 2, 1) := dk_28 (dk_at dksX9_council_4 22 rfl rfl)
theorem dX9_council_118 : decode cX9_council 118 = .ok (.aload_n 0, 1) := dk_42 (dk_at dksX9_council_4 23 rfl rfl)
theorem dX9_council_119 : decode cX9_council 119 = .ok (.getfield 133, 3) := dk_180 0 133 (dk_at dksX9_council_5 0 rfl rfl)
theorem dX9_council_122 : decode cX9_council 122 = .ok (.aload_n 0, 1) := dk_42 (dk_at dksX9_council_5 3 rfl rfl)
theorem dX9_council_123 : decode cX9_council 123 = .ok (.getfield 136, 3) := dk_180 0 136 (dk_at dksX9_council_5 4 rfl rfl)
theorem dX9_council_126 : decode cX9_council 126 = .ok (.iadd, 1) := dk_96 (dk_at dksX9_council_5 7 rfl rfl)
theorem dX9_council_127 : decode cX9_council 127 = .ok (.if_icmp .ge 26, 3) := dk_162 0 26 (dk_at dksX9_council_5 8 rfl rfl)
theorem dX9_council_130 : decode cX9_council 130 = .ok (.aload_n 0, 1) := dk_42 (dk_at dksX9_council_5 11 rfl rfl)
theorem dX9_council_131 : decode cX9_council 131 = .ok (.getfield 157, 3) := dk_180 0 157 (dk_at dksX9_council_5 12 rfl rfl)
theorem dX9_council_134 : decode cX9_council 134 = .ok (.bipush 12, 2) := dk_16 12 (dk_at dksX9_council_5 15 rfl rfl)
theorem dX9_council_136 : decode cX9_council 136 = .ok (.iload_n 1, 1) := dk_27 (dk_at dksX9_council_5 17 rfl rfl)
theorem dX9_council_137 : decode cX9_council 137 = .ok (.imul, 1) := dk_104 (dk_at dksX9_council_5 18 rfl rfl)
theorem dX9_council_138 : decode cX9_council 138 = .ok (.iload_n 2, 1) := dk_28 (dk_at dksX9_council_5 19 rfl rfl)
theorem dX9_council_139 : decode cX9_council 139 = .ok (.iadd, 1) := dk_96 (dk_at dksX9_council_5 20 rfl rfl)
theorem dX9_council_140 : decode cX9_council 140 = .ok (.aload_n 0, 1) := dk_42 (dk_at dksX9_council_5 21 rfl rfl)
theorem dX9_council_141 : decode cX9_council 141 = .ok (.getfield 130, 3) := dk_180 0 130 (dk_at dksX9_council_6 0 rfl rfl)
theorem dX9_council_144 : decode cX9_council 144 = .ok (.iload_n 2, 1) := dk_28 (dk_at dksX9_council_6 3 rfl rfl)
theorem dX9_council_145 : decode cX9_council 145 = .ok (.iaload, 1) := dk_46 (dk_at dksX9_council_6 4 rfl rfl)
theorem dX9_council_146 : decode cX9_council 146 = .ok (.iastore, 1) := dk_79 (dk_at dksX9_council_6 5 rfl rfl)
theorem dX9_council_147 : decode cX9_council 147 = .ok (.iinc 2 1, 3) := dk_132 2 1 (dk_at dksX9_council_6 6 rfl rfl)
theorem dX9_council_150 : decode cX9_council 150 = .ok (.goto (-33), 3) := dk_167 255 223 (dk_at dksX9_council_6 9 rfl rfl)
theorem dX9_council_153 : decode cX9_council 153 = .ok (.aload_n 0, 1) := dk_42 (dk_at dksX9_council_6 12 rfl rfl)
theorem dX9_council_154 : decode cX9_council 154 = .ok (.getfield 133, 3) := dk_180 0 133 (dk_at dksX9_council_6 13 rfl rfl)
theorem dX9_council_157 : decode cX9_council 157 = .ok (.aload_n 0, 1) := dk_42 (dk_at dksX9_council_6 16 rfl rfl)
theorem dX9_council_158 : decode cX9_council 158 = .ok (.getfield 136, 3) := dk_180 0 136 (dk_at dksX9_council_6 17 rfl rfl)
theorem dX9_council_161 : decode cX9_council 161 = .ok (.iadd, 1) := dk_96 (dk_at dksX9_council_6 20 rfl rfl)
theorem dX9_council_162 : decode cX9_council 162 = .ok (.ireturn, 1) := dk_172 (dk_at dksX9_council_6 21 rfl rfl)
def dkwX9_sing_2 : List UInt8 := [180, 0, 154, 27, 28, 153, 0, 7, 4, 167, 0, 4, 3, 79, 4, 172]
abbrev dktX9_sing_2 : List UInt8 := dkwX9_sing_2 ++ []
def dkwX9_sing_1 : List UInt8 := [160, 0, 17, 42, 5, 182, 0, 254, 155, 0, 7, 4, 167, 0, 4, 3, 172, 42, 182, 1, 201, 42]
abbrev dktX9_sing_1 : List UInt8 := dkwX9_sing_1 ++ dktX9_sing_2
def dkwX9_sing_0 : List UInt8 := [42, 27, 182, 1, 140, 153, 0, 22, 42, 180, 0, 154, 27, 46, 4, 160, 0, 7, 4, 167, 0, 4, 3, 28]
abbrev dktX9_sing_0 : List UInt8 := dkwX9_sing_0 ++ dktX9_sing_1
theorem dksX9_sing_0 : cX9_sing.data.toList.drop 0 = dktX9_sing_0 := by decide +kernel
theorem dksX9_sing_1 : cX9_sing.data.toList.drop 24 = dktX9_sing_1 := dk_seg dksX9_sing_0 24 rfl rfl
theorem dksX9_sing_2 : cX9_sing.data.toList.drop 46 = dktX9_sing_2 := dk_seg dksX9_sing_1 22 rfl rfl
theorem dX9_sing_0 : decode cX9_sing 0 = .ok (.aload_n 0, 1) := dk_42 (dk_at dksX9_sing_0 0 rfl rfl)
theorem dX9_sing_1 : decode cX9_sing 1 = .ok (.iload_n 1, 1) := dk_27 (dk_at dksX9_sing_0 1 rfl rfl)
theorem dX9_sing_2 : decode cX9_sing 2 = .ok (.invokevirtual 396, 3) := dk_182 1 140 (dk_at dksX9_sing_0 2 rfl rfl)
theorem dX9_sing_5 : decode cX9_sing 5 = .ok (.ifCond .eq 22, 3) := dk_153 0 22 (dk_at dksX9_sing_0 5 rfl rfl)
theorem dX9_sing_8 : decode cX9_sing 8 = .ok (.aload_n 0, 1) := dk_42 (dk_at dksX9_sing_0 8 rfl rfl)
theorem dX9_sing_9 : decode cX9_sing 9 = .ok (.getfield 154, 3) := dk_180 0 154 (dk_at dksX9_sing_0 9 rfl rfl)
theorem dX9_sing_12 : decode cX9_sing 12 = .ok (.iload_n 1, 1) := dk_27 (dk_at dksX9_sing_0 12 rfl rfl)
theorem dX9_sing_13 : decode cX9_sing 13 = .ok (.iaload, 1) := dk_46 (dk_at dksX9_sing_0 13 rfl rfl)
theorem dX9_sing_14 : decode cX9_sing 14 = .ok (.iconst 1, 1) := dk_4 (dk_at dksX9_sing_0 14 rfl rfl)
theorem dX9_sing_15 : decode cX9_sing 15 = .ok (.if_icmp .ne 7, 3) := dk_160 0 7 (dk_at dksX9_sing_0 15 rfl rfl)
theorem dX9_sing_18 : decode cX9_sing 18 = .ok (.iconst 1, 1) := dk_4 (dk_at dksX9_sing_0 18 rfl rfl)
theorem dX9_sing_19 : decode cX9_sing 19 = .ok (.goto 4, 3) := dk_167 0 4 (dk_at dksX9_sing_0 19 rfl rfl)
theorem dX9_sing_22 : decode cX9_sing 22 = .ok (.iconst 0, 1) := dk_3 (dk_at dksX9_sing_0 22 rfl rfl)
theorem dX9_sing_23 : decode cX9_sing 23 = .ok (.iload_n 2, 1) := dk_28 (dk_at dksX9_sing_0 23 rfl rfl)
theorem dX9_sing_24 : decode cX9_sing 24 = .ok (.if_icmp .ne 17, 3) := dk_160 0 17 (dk_at dksX9_sing_1 0 rfl rfl)
theorem dX9_sing_27 : decode cX9_sing 27 = .ok (.aload_n 0, 1) := dk_42 (dk_at dksX9_sing_1 3 rfl rfl)
theorem dX9_sing_28 : decode cX9_sing 28 = .ok (.iconst 2, 1) := dk_5 (dk_at dksX9_sing_1 4 rfl rfl)
theorem dX9_sing_29 : decode cX9_sing 29 = .ok (.invokevirtual 254, 3) := dk_182 0 254 (dk_at dksX9_sing_1 5 rfl rfl)
theorem dX9_sing_32 : decode cX9_sing 32 = .ok (.ifCond .lt 7, 3) := dk_155 0 7 (dk_at dksX9_sing_1 8 rfl rfl)
theorem dX9_sing_35 : decode cX9_sing 35 = .ok (.iconst 1, 1) := dk_4 (dk_at dksX9_sing_1 11 rfl rfl)
theorem dX9_sing_36 : decode cX9_sing 36 = .ok (.goto 4, 3) := dk_167 0 4 (dk_at dksX9_sing_1 12 rfl rfl)
theorem dX9_sing_39 : decode cX9_sing 39 = .ok (.iconst 0, 1) := dk_3 (dk_at dksX9_sing_1 15 rfl rfl)
theorem dX9_sing_40 : decode cX9_sing 40 = .ok (.ireturn, 1) := dk_172 (dk_at dksX9_sing_1 16 rfl rfl)
theorem dX9_sing_41 : decode cX9_sing 41 = .ok (.aload_n 0, 1) := dk_42 (dk_at dksX9_sing_1 17 rfl rfl)
theorem dX9_sing_42 : decode cX9_sing 42 = .ok (.invokevirtual 457, 3) := dk_182 1 201 (dk_at dksX9_sing_1 18 rfl rfl)
theorem dX9_sing_45 : decode cX9_sing 45 = .ok (.aload_n 0, 1) := dk_42 (dk_at dksX9_sing_1 21 rfl rfl)
theorem dX9_sing_46 : decode cX9_sing 46 = .ok (.getfield 154, 3) := dk_180 0 154 (dk_at dksX9_sing_2 0 rfl rfl)
theorem dX9_sing_49 : decode cX9_sing 49 = .ok (.iload_n 1, 1) := dk_27 (dk_at dksX9_sing_2 3 rfl rfl)
theorem dX9_sing_50 : decode cX9_sing 50 = .ok (.iload_n 2, 1) := dk_28 (dk_at dksX9_sing_2 4 rfl rfl)
theorem dX9_sing_51 : decode cX9_sing 51 = .ok (.ifCond .eq 7, 3) := dk_153 0 7 (dk_at dksX9_sing_2 5 rfl rfl)
theorem dX9_sing_54 : decode cX9_sing 54 = .ok (.iconst 1, 1) := dk_4 (dk_at dksX9_sing_2 8 rfl rfl)
theorem dX9_sing_55 : decode cX9_sing 55 = .ok (.goto 4, 3) := dk_167 0 4 (dk_at dksX9_sing_2 9 rfl rfl)
theorem dX9_sing_58 : decode cX9_sing 58 = .ok (.iconst 0, 1) := dk_3 (dk_at dksX9_sing_2 12 rfl rfl)
theorem dX9_sing_59 : decode cX9_sing 59 = .ok (.iastore, 1) := dk_79 (dk_at dksX9_sing_2 13 rfl rfl)
theorem dX9_sing_60 : decode cX9_sing 60 = .ok (.iconst 1, 1) := dk_4 (dk_at dksX9_sing_2 14 rfl rfl)
theorem dX9_sing_61 : decode cX9_sing 61 = .ok (.ireturn, 1) := dk_172 (dk_at dksX9_sing_2 15 rfl rfl)
def dkwX9_swap_2 : List UInt8 := [180, 0, 145, 27, 42, 180, 0, 145, 28, 46, 79, 42, 180, 0, 145, 28, 29, 79, 4, 172]
abbrev dktX9_swap_2 : List UInt8 := dkwX9_swap_2 ++ []
def dkwX9_swap_1 : List UInt8 := [182, 0, 254, 155, 0, 7, 4, 167, 0, 4, 3, 172, 42, 182, 1, 201, 42, 180, 0, 145, 27, 46, 62, 42]
abbrev dktX9_swap_1 : List UInt8 := dkwX9_swap_1 ++ dktX9_swap_2
def dkwX9_swap_0 : List UInt8 := [42, 27, 182, 1, 140, 153, 0, 16, 42, 28, 182, 1, 140, 153, 0, 8, 27, 28, 160, 0, 17, 42, 6]
abbrev dktX9_swap_0 : List UInt8 := dkwX9_swap_0 ++ dktX9_swap_1
theorem dksX9_swap_0 : cX9_swap.data.toList.drop 0 = dktX9_swap_0 := by decide +kernel
theorem dksX9_swap_1 : cX9_swap.data.toList.drop 23 = dktX9_swap_1 := dk_seg dksX9_swap_0 23 rfl rfl
theorem dksX9_swap_2 : cX9_swap.data.toList.drop 47 = dktX9_swap_2 := dk_seg dksX9_swap_1 24 rfl rfl
theorem dX9_swap_0 : decode cX9_swap 0 = .ok (.aload_n 0, 1) := dk_42 (dk_at dksX9_swap_0 0 rfl rfl)
theorem dX9_swap_1 : decode cX9_swap 1 = .ok (.iload_n 1, 1) := dk_27 (dk_at dksX9_swap_0 1 rfl rfl)
theorem dX9_swap_2 : decode cX9_swap 2 = .ok (.invokevirtual 396, 3) := dk_182 1 140 (dk_at dksX9_swap_0 2 rfl rfl)
theorem dX9_swap_5 : decode cX9_swap 5 = .ok (.ifCond .eq 16, 3) := dk_153 0 16 (dk_at dksX9_swap_0 5 rfl rfl)
theorem dX9_swap_8 : decode cX9_swap 8 = .ok (.aload_n 0, 1) := dk_42 (dk_at dksX9_swap_0 8 rfl rfl)
theorem dX9_swap_9 : decode cX9_swap 9 = .ok (.iload_n 2, 1) := dk_28 (dk_at dksX9_swap_0 9 rfl rfl)
theorem dX9_swap_10 : decode cX9_swap 10 = .ok (.invokevirtual 396, 3) := dk_182 1 140 (dk_at dksX9_swap_0 10 rfl rfl)
theorem dX9_swap_13 : decode cX9_swap 13 = .ok (.ifCond .eq 8, 3) := dk_153 0 8 (dk_at dksX9_swap_0 13 rfl rfl)
theorem dX9_swap_16 : decode cX9_swap 16 = .ok (.iload_n 1, 1) := dk_27 (dk_at dksX9_swap_0 16 rfl rfl)
theorem dX9_swap_17 : decode cX9_swap 17 = .ok (.iload_n 2, 1) := dk_28 (dk_at dksX9_swap_0 17 rfl rfl)
theorem dX9_swap_18 : decode cX9_swap 18 = .ok (.if_icmp .ne 17, 3) := dk_160 0 17 (dk_at dksX9_swap_0 18 rfl rfl)
theorem dX9_swap_21 : decode cX9_swap 21 = .ok (.aload_n 0, 1) := dk_42 (dk_at dksX9_swap_0 21 rfl rfl)
theorem dX9_swap_22 : decode cX9_swap 22 = .ok (.iconst 3, 1) := dk_6 (dk_at dksX9_swap_0 22 rfl rfl)
theorem dX9_swap_23 : decode cX9_swap 23 = .ok (.invokevirtual 254, 3) := dk_182 0 254 (dk_at dksX9_swap_1 0 rfl rfl)
theorem dX9_swap_26 : decode cX9_swap 26 = .ok (.ifCond .lt 7, 3) := dk_155 0 7 (dk_at dksX9_swap_1 3 rfl rfl)
theorem dX9_swap_29 : decode cX9_swap 29 = .ok (.iconst 1, 1) := dk_4 (dk_at dksX9_swap_1 6 rfl rfl)
theorem dX9_swap_30 : decode cX9_swap 30 = .ok (.goto 4, 3) := dk_167 0 4 (dk_at dksX9_swap_1 7 rfl rfl)
theorem dX9_swap_33 : decode cX9_swap 33 = .ok (.iconst 0, 1) := dk_3 (dk_at dksX9_swap_1 10 rfl rfl)
theorem dX9_swap_34 : decode cX9_swap 34 = .ok (.ireturn, 1) := dk_172 (dk_at dksX9_swap_1 11 rfl rfl)
theorem dX9_swap_35 : decode cX9_swap 35 = .ok (.aload_n 0, 1) := dk_42 (dk_at dksX9_swap_1 12 rfl rfl)
theorem dX9_swap_36 : decode cX9_swap 36 = .ok (.invokevirtual 457, 3) := dk_182 1 201 (dk_at dksX9_swap_1 13 rfl rfl)
theorem dX9_swap_39 : decode cX9_swap 39 = .ok (.aload_n 0, 1) := dk_42 (dk_at dksX9_swap_1 16 rfl rfl)
theorem dX9_swap_40 : decode cX9_swap 40 = .ok (.getfield 145, 3) := dk_180 0 145 (dk_at dksX9_swap_1 17 rfl rfl)
theorem dX9_swap_43 : decode cX9_swap 43 = .ok (.iload_n 1, 1) := dk_27 (dk_at dksX9_swap_1 20 rfl rfl)
theorem dX9_swap_44 : decode cX9_swap 44 = .ok (.iaload, 1) := dk_46 (dk_at dksX9_swap_1 21 rfl rfl)
theorem dX9_swap_45 : decode cX9_swap 45 = .ok (.istore_n 3, 1) := dk_62 (dk_at dksX9_swap_1 22 rfl rfl)
theorem dX9_swap_46 : decode cX9_swap 46 = .ok (.aload_n 0, 1) := dk_42 (dk_at dksX9_swap_1 23 rfl rfl)
theorem dX9_swap_47 : decode cX9_swap 47 = .ok (.getfield 145, 3) := dk_180 0 145 (dk_at dksX9_swap_2 0 rfl rfl)
theorem dX9_swap_50 : decode cX9_swap 50 = .ok (.iload_n 1, 1) := dk_27 (dk_at dksX9_swap_2 3 rfl rfl)
theorem dX9_swap_51 : decode cX9_swap 51 = .ok (.aload_n 0, 1) := dk_42 (dk_at dksX9_swap_2 4 rfl rfl)
theorem dX9_swap_52 : decode cX9_swap 52 = .ok (.getfield 145, 3) := dk_180 0 145 (dk_at dksX9_swap_2 5 rfl rfl)
theorem dX9_swap_55 : decode cX9_swap 55 = .ok (.iload_n 2, 1) := dk_28 (dk_at dksX9_swap_2 8 rfl rfl)
theorem dX9_swap_56 : decode cX9_swap 56 = .ok (.iaload, 1) := dk_46 (dk_at dksX9_swap_2 9 rfl rfl)
theorem dX9_swap_57 : decode cX9_swap 57 = .ok (.iastore, 1) := dk_79 (dk_at dksX9_swap_2 10 rfl rfl)
theorem dX9_swap_58 : decode cX9_swap 58 = .ok (.aload_n 0, 1) := dk_42 (dk_at dksX9_swap_2 11 rfl rfl)
theorem dX9_swap_59 : decode cX9_swap 59 = .ok (.getfield 145, 3) := dk_180 0 145 (dk_at dksX9_swap_2 12 rfl rfl)
theorem dX9_swap_62 : decode cX9_swap 62 = .ok (.iload_n 2, 1) := dk_28 (dk_at dksX9_swap_2 15 rfl rfl)
theorem dX9_swap_63 : decode cX9_swap 63 = .ok (.iload_n 3, 1) := dk_29 (dk_at dksX9_swap_2 16 rfl rfl)
theorem dX9_swap_64 : decode cX9_swap 64 = .ok (.iastore, 1) := dk_79 (dk_at dksX9_swap_2 17 rfl rfl)
theorem dX9_swap_65 : decode cX9_swap 65 = .ok (.iconst 1, 1) := dk_4 (dk_at dksX9_swap_2 18 rfl rfl)
theorem dX9_swap_66 : decode cX9_swap 66 = .ok (.ireturn, 1) := dk_172 (dk_at dksX9_swap_2 19 rfl rfl)
def dkwX9_years_2 : List UInt8 := [132, 2, 1, 167, 255, 243, 42, 3, 182, 1, 207, 172]
abbrev dktX9_years_2 : List UInt8 := dkwX9_years_2 ++ []
def dkwX9_years_1 : List UInt8 := [42, 6, 182, 0, 254, 172, 42, 182, 1, 201, 3, 61, 28, 27, 162, 0, 14, 42, 3, 182, 1, 221]
abbrev dktX9_years_1 : List UInt8 := dkwX9_years_1 ++ dktX9_years_2
def dkwX9_years_0 : List UInt8 := [27, 4, 16, 99, 184, 1, 68, 153, 0, 17, 42, 180, 0, 142, 3, 46, 27, 96, 17, 39, 15, 164, 0, 9]
abbrev dktX9_years_0 : List UInt8 := dkwX9_years_0 ++ dktX9_years_1
theorem dksX9_years_0 : cX9_years.data.toList.drop 0 = dktX9_years_0 := by decide +kernel
theorem dksX9_years_1 : cX9_years.data.toList.drop 24 = dktX9_years_1 := dk_seg dksX9_years_0 24 rfl rfl
theorem dksX9_years_2 : cX9_years.data.toList.drop 46 = dktX9_years_2 := dk_seg dksX9_years_1 22 rfl rfl
theorem dX9_years_0 : decode cX9_years 0 = .ok (.iload_n 1, 1) := dk_27 (dk_at dksX9_years_0 0 rfl rfl)
theorem dX9_years_1 : decode cX9_years 1 = .ok (.iconst 1, 1) := dk_4 (dk_at dksX9_years_0 1 rfl rfl)
theorem dX9_years_2 : decode cX9_years 2 = .ok (.bipush 99, 2) := dk_16 99 (dk_at dksX9_years_0 2 rfl rfl)
theorem dX9_years_4 : decode cX9_years 4 = .ok (.invokestatic 324, 3) := dk_184 1 68 (dk_at dksX9_years_0 4 rfl rfl)
theorem dX9_years_7 : decode cX9_years 7 = .ok (.ifCond .eq 17, 3) := dk_153 0 17 (dk_at dksX9_years_0 7 rfl rfl)
theorem dX9_years_10 : decode cX9_years 10 = .ok (.aload_n 0, 1) := dk_42 (dk_at dksX9_years_0 10 rfl rfl)
theorem dX9_years_11 : decode cX9_years 11 = .ok (.getfield 142, 3) := dk_180 0 142 (dk_at dksX9_years_0 11 rfl rfl)
theorem dX9_years_14 : decode cX9_years 14 = .ok (.iconst 0, 1) := dk_3 (dk_at dksX9_years_0 14 rfl rfl)
theorem dX9_years_15 : decode cX9_years 15 = .ok (.iaload, 1) := dk_46 (dk_at dksX9_years_0 15 rfl rfl)
theorem dX9_years_16 : decode cX9_years 16 = .ok (.iload_n 1, 1) := dk_27 (dk_at dksX9_years_0 16 rfl rfl)
theorem dX9_years_17 : decode cX9_years 17 = .ok (.iadd, 1) := dk_96 (dk_at dksX9_years_0 17 rfl rfl)
theorem dX9_years_18 : decode cX9_years 18 = .ok (.sipush 9999, 3) := dk_17 39 15 (dk_at dksX9_years_0 18 rfl rfl)
theorem dX9_years_21 : decode cX9_years 21 = .ok (.if_icmp .le 9, 3) := dk_164 0 9 (dk_at dksX9_years_0 21 rfl rfl)
theorem dX9_years_24 : decode cX9_years 24 = .ok (.aload_n 0, 1) := dk_42 (dk_at dksX9_years_1 0 rfl rfl)
theorem dX9_years_25 : decode cX9_years 25 = .ok (.iconst 3, 1) := dk_6 (dk_at dksX9_years_1 1 rfl rfl)
theorem dX9_years_26 : decode cX9_years 26 = .ok (.invokevirtual 254, 3) := dk_182 0 254 (dk_at dksX9_years_1 2 rfl rfl)
theorem dX9_years_29 : decode cX9_years 29 = .ok (.ireturn, 1) := dk_172 (dk_at dksX9_years_1 5 rfl rfl)
theorem dX9_years_30 : decode cX9_years 30 = .ok (.aload_n 0, 1) := dk_42 (dk_at dksX9_years_1 6 rfl rfl)
theorem dX9_years_31 : decode cX9_years 31 = .ok (.invokevirtual 457, 3) := dk_182 1 201 (dk_at dksX9_years_1 7 rfl rfl)
theorem dX9_years_34 : decode cX9_years 34 = .ok (.iconst 0, 1) := dk_3 (dk_at dksX9_years_1 10 rfl rfl)
theorem dX9_years_35 : decode cX9_years 35 = .ok (.istore_n 2, 1) := dk_61 (dk_at dksX9_years_1 11 rfl rfl)
theorem dX9_years_36 : decode cX9_years 36 = .ok (.iload_n 2, 1) := dk_28 (dk_at dksX9_years_1 12 rfl rfl)
theorem dX9_years_37 : decode cX9_years 37 = .ok (.iload_n 1, 1) := dk_27 (dk_at dksX9_years_1 13 rfl rfl)
theorem dX9_years_38 : decode cX9_years 38 = .ok (.if_icmp .ge 14, 3) := dk_162 0 14 (dk_at dksX9_years_1 14 rfl rfl)
theorem dX9_years_41 : decode cX9_years 41 = .ok (.aload_n 0, 1) := dk_42 (dk_at dksX9_years_1 17 rfl rfl)
theorem dX9_years_42 : decode cX9_years 42 = .ok (.iconst 0, 1) := dk_3 (dk_at dksX9_years_1 18 rfl rfl)
theorem dX9_years_43 : decode cX9_years 43 = .ok (.invokevirtual 477, 3) := dk_182 1 221 (dk_at dksX9_years_1 19 rfl rfl)
theorem dX9_years_46 : decode cX9_years 46 = .ok (.iinc 2 1, 3) := dk_132 2 1 (dk_at dksX9_years_2 0 rfl rfl)
theorem dX9_years_49 : decode cX9_years 49 = .ok (.goto (-13), 3) := dk_167 255 243 (dk_at dksX9_years_2 3 rfl rfl)
theorem dX9_years_52 : decode cX9_years 52 = .ok (.aload_n 0, 1) := dk_42 (dk_at dksX9_years_2 6 rfl rfl)
theorem dX9_years_53 : decode cX9_years 53 = .ok (.iconst 0, 1) := dk_3 (dk_at dksX9_years_2 7 rfl rfl)
theorem dX9_years_54 : decode cX9_years 54 = .ok (.invokevirtual 463, 3) := dk_182 1 207 (dk_at dksX9_years_2 8 rfl rfl)
theorem dX9_years_57 : decode cX9_years 57 = .ok (.ireturn, 1) := dk_172 (dk_at dksX9_years_2 11 rfl rfl)
def dkwX9_yearGoes_2 : List UInt8 := [182, 1, 218, 182, 1, 204, 177]
abbrev dktX9_yearGoes_2 : List UInt8 := dkwX9_yearGoes_2 ++ []
def dkwX9_yearGoes_1 : List UInt8 := [180, 0, 85, 42, 180, 0, 51, 46, 158, 0, 21, 42, 27, 42, 42, 180, 0, 85, 42, 180, 0, 51, 46]
abbrev dktX9_yearGoes_1 : List UInt8 := dkwX9_yearGoes_1 ++ dktX9_yearGoes_2
def dkwX9_yearGoes_0 : List UInt8 := [42, 180, 0, 142, 27, 92, 46, 4, 96, 79, 42, 180, 0, 142, 27, 46, 16, 9, 112, 154, 0, 33, 42]
abbrev dktX9_yearGoes_0 : List UInt8 := dkwX9_yearGoes_0 ++ dktX9_yearGoes_1
theorem dksX9_yearGoes_0 : cX9_yearGoes.data.toList.drop 0 = dktX9_yearGoes_0 := by decide +kernel
theorem dksX9_yearGoes_1 : cX9_yearGoes.data.toList.drop 23 = dktX9_yearGoes_1 := dk_seg dksX9_yearGoes_0 23 rfl rfl
theorem dksX9_yearGoes_2 : cX9_yearGoes.data.toList.drop 46 = dktX9_yearGoes_2 := dk_seg dksX9_yearGoes_1 23 rfl rfl
theorem dX9_yearGoes_0 : decode cX9_yearGoes 0 = .ok (.aload_n 0, 1) := dk_42 (dk_at dksX9_yearGoes_0 0 rfl rfl)
theorem dX9_yearGoes_1 : decode cX9_yearGoes 1 = .ok (.getfield 142, 3) := dk_180 0 142 (dk_at dksX9_yearGoes_0 1 rfl rfl)
theorem dX9_yearGoes_4 : decode cX9_yearGoes 4 = .ok (.iload_n 1, 1) := dk_27 (dk_at dksX9_yearGoes_0 4 rfl rfl)
theorem dX9_yearGoes_5 : decode cX9_yearGoes 5 = .ok (.dup2, 1) := dk_92 (dk_at dksX9_yearGoes_0 5 rfl rfl)
theorem dX9_yearGoes_6 : decode cX9_yearGoes 6 = .ok (.iaload, 1) := dk_46 (dk_at dksX9_yearGoes_0 6 rfl rfl)
theorem dX9_yearGoes_7 : decode cX9_yearGoes 7 = .ok (.iconst 1, 1) := dk_4 (dk_at dksX9_yearGoes_0 7 rfl rfl)
theorem dX9_yearGoes_8 : decode cX9_yearGoes 8 = .ok (.iadd, 1) := dk_96 (dk_at dksX9_yearGoes_0 8 rfl rfl)
theorem dX9_yearGoes_9 : decode cX9_yearGoes 9 = .ok (.iastore, 1) := dk_79 (dk_at dksX9_yearGoes_0 9 rfl rfl)
theorem dX9_yearGoes_10 : decode cX9_yearGoes 10 = .ok (.aload_n 0, 1) := dk_42 (dk_at dksX9_yearGoes_0 10 rfl rfl)
theorem dX9_yearGoes_11 : decode cX9_yearGoes 11 = .ok (.getfield 142, 3) := dk_180 0 142 (dk_at dksX9_yearGoes_0 11 rfl rfl)
theorem dX9_yearGoes_14 : decode cX9_yearGoes 14 = .ok (.iload_n 1, 1) := dk_27 (dk_at dksX9_yearGoes_0 14 rfl rfl)
theorem dX9_yearGoes_15 : decode cX9_yearGoes 15 = .ok (.iaload, 1) := dk_46 (dk_at dksX9_yearGoes_0 15 rfl rfl)
theorem dX9_yearGoes_16 : decode cX9_yearGoes 16 = .ok (.bipush 9, 2) := dk_16 9 (dk_at dksX9_yearGoes_0 16 rfl rfl)
theorem dX9_yearGoes_18 : decode cX9_yearGoes 18 = .ok (.irem, 1) := dk_112 (dk_at dksX9_yearGoes_0 18 rfl rfl)
theorem dX9_yearGoes_19 : decode cX9_yearGoes 19 = .ok (.ifCond .ne 33, 3) := dk_154 0 33 (dk_at dksX9_yearGoes_0 19 rfl rfl)
theorem dX9_yearGoes_22 : decode cX9_yearGoes 22 = .ok (.aload_n 0, 1) := dk_42 (dk_at dksX9_yearGoes_0 22 rfl rfl)
theorem dX9_yearGoes_23 : decode cX9_yearGoes 23 = .ok (.getfield 85, 3) := dk_180 0 85 (dk_at dksX9_yearGoes_1 0 rfl rfl)
theorem dX9_yearGoes_26 : decode cX9_yearGoes 26 = .ok (.aload_n 0, 1) := dk_42 (dk_at dksX9_yearGoes_1 3 rfl rfl)
theorem dX9_yearGoes_27 : decode cX9_yearGoes 27 = .ok (.getfield 51, 3) := dk_180 0 51 (dk_at dksX9_yearGoes_1 4 rfl rfl)
theorem dX9_yearGoes_30 : decode cX9_yearGoes 30 = .ok (.iaload, 1) := dk_46 (dk_at dksX9_yearGoes_1 7 rfl rfl)
theorem dX9_yearGoes_31 : decode cX9_yearGoes 31 = .ok (.ifCond .le 21, 3) := dk_158 0 21 (dk_at dksX9_yearGoes_1 8 rfl rfl)
theorem dX9_yearGoes_34 : decode cX9_yearGoes 34 = .ok (.aload_n 0, 1) := dk_42 (dk_at dksX9_yearGoes_1 11 rfl rfl)
theorem dX9_yearGoes_35 : decode cX9_yearGoes 35 = .ok (.iload_n 1, 1) := dk_27 (dk_at dksX9_yearGoes_1 12 rfl rfl)
theorem dX9_yearGoes_36 : decode cX9_yearGoes 36 = .ok (.aload_n 0, 1) := dk_42 (dk_at dksX9_yearGoes_1 13 rfl rfl)
theorem dX9_yearGoes_37 : decode cX9_yearGoes 37 = .ok (.aload_n 0, 1) := dk_42 (dk_at dksX9_yearGoes_1 14 rfl rfl)
theorem dX9_yearGoes_38 : decode cX9_yearGoes 38 = .ok (.getfield 85, 3) := dk_180 0 85 (dk_at dksX9_yearGoes_1 15 rfl rfl)
theorem dX9_yearGoes_41 : decode cX9_yearGoes 41 = .ok (.aload_n 0, 1) := dk_42 (dk_at dksX9_yearGoes_1 18 rfl rfl)
theorem dX9_yearGoes_42 : decode cX9_yearGoes 42 = .ok (.getfield 51, 3) := dk_180 0 51 (dk_at dksX9_yearGoes_1 19 rfl rfl)
theorem dX9_yearGoes_45 : decode cX9_yearGoes 45 = .ok (.iaload, 1) := dk_46 (dk_at dksX9_yearGoes_1 22 rfl rfl)
theorem dX9_yearGoes_46 : decode cX9_yearGoes 46 = .ok (.invokevirtual 474, 3) := dk_182 1 218 (dk_at dksX9_yearGoes_2 0 rfl rfl)
theorem dX9_yearGoes_49 : decode cX9_yearGoes 49 = .ok (.invokevirtual 460, 3) := dk_182 1 204 (dk_at dksX9_yearGoes_2 3 rfl rfl)
theorem dX9_yearGoes_52 : decode cX9_yearGoes 52 = .ok (.return_, 1) := dk_177 (dk_at dksX9_yearGoes_2 6 rfl rfl)
def dkwX9_draw_1 : List UInt8 := [20, 1, 216, 109, 27, 133, 113, 136, 172]
abbrev dktX9_draw_1 : List UInt8 := dkwX9_draw_1 ++ []
def dkwX9_draw_0 : List UInt8 := [42, 20, 1, 210, 42, 180, 0, 172, 105, 20, 1, 212, 97, 20, 1, 214, 113, 181, 0, 172, 42, 180, 0, 172]
abbrev dktX9_draw_0 : List UInt8 := dkwX9_draw_0 ++ dktX9_draw_1
theorem dksX9_draw_0 : cX9_draw.data.toList.drop 0 = dktX9_draw_0 := by decide +kernel
theorem dksX9_draw_1 : cX9_draw.data.toList.drop 24 = dktX9_draw_1 := dk_seg dksX9_draw_0 24 rfl rfl
theorem dX9_draw_0 : decode cX9_draw 0 = .ok (.aload_n 0, 1) := dk_42 (dk_at dksX9_draw_0 0 rfl rfl)
theorem dX9_draw_1 : decode cX9_draw 1 = .ok (.ldc2_w 466, 3) := dk_20 1 210 (dk_at dksX9_draw_0 1 rfl rfl)
theorem dX9_draw_4 : decode cX9_draw 4 = .ok (.aload_n 0, 1) := dk_42 (dk_at dksX9_draw_0 4 rfl rfl)
theorem dX9_draw_5 : decode cX9_draw 5 = .ok (.getfield 172, 3) := dk_180 0 172 (dk_at dksX9_draw_0 5 rfl rfl)
theorem dX9_draw_8 : decode cX9_draw 8 = .ok (.lmul, 1) := dk_105 (dk_at dksX9_draw_0 8 rfl rfl)
theorem dX9_draw_9 : decode cX9_draw 9 = .ok (.ldc2_w 468, 3) := dk_20 1 212 (dk_at dksX9_draw_0 9 rfl rfl)
theorem dX9_draw_12 : decode cX9_draw 12 = .ok (.ladd, 1) := dk_97 (dk_at dksX9_draw_0 12 rfl rfl)
theorem dX9_draw_13 : decode cX9_draw 13 = .ok (.ldc2_w 470, 3) := dk_20 1 214 (dk_at dksX9_draw_0 13 rfl rfl)
theorem dX9_draw_16 : decode cX9_draw 16 = .ok (.lrem, 1) := dk_113 (dk_at dksX9_draw_0 16 rfl rfl)
theorem dX9_draw_17 : decode cX9_draw 17 = .ok (.putfield 172, 3) := dk_181 0 172 (dk_at dksX9_draw_0 17 rfl rfl)
theorem dX9_draw_20 : decode cX9_draw 20 = .ok (.aload_n 0, 1) := dk_42 (dk_at dksX9_draw_0 20 rfl rfl)
theorem dX9_draw_21 : decode cX9_draw 21 = .ok (.getfield 172, 3) := dk_180 0 172 (dk_at dksX9_draw_0 21 rfl rfl)
theorem dX9_draw_24 : decode cX9_draw 24 = .ok (.ldc2_w 472, 3) := dk_20 1 216 (dk_at dksX9_draw_1 0 rfl rfl)
theorem dX9_draw_27 : decode cX9_draw 27 = .ok (.ldiv, 1) := dk_109 (dk_at dksX9_draw_1 3 rfl rfl)
theorem dX9_draw_28 : decode cX9_draw 28 = .ok (.iload_n 1, 1) := dk_27 (dk_at dksX9_draw_1 4 rfl rfl)
theorem dX9_draw_29 : decode cX9_draw 29 = .ok (.i2l, 1) := dk_133 (dk_at dksX9_draw_1 5 rfl rfl)
theorem dX9_draw_30 : decode cX9_draw 30 = .ok (.lrem, 1) := dk_113 (dk_at dksX9_draw_1 6 rfl rfl)
theorem dX9_draw_31 : decode cX9_draw 31 = .ok (.l2i, 1) := dk_136 (dk_at dksX9_draw_1 7 rfl rfl)
theorem dX9_draw_32 : decode cX9_draw 32 = .ok (.ireturn, 1) := dk_172 (dk_at dksX9_draw_1 8 rfl rfl)
def dkwX9_seed_1 : List UInt8 := [4, 172]
abbrev dktX9_seed_1 : List UInt8 := dkwX9_seed_1 ++ []
def dkwX9_seed_0 : List UInt8 := [27, 156, 0, 17, 42, 8, 182, 0, 254, 155, 0, 7, 4, 167, 0, 4, 3, 172, 42, 27, 133, 181, 0, 172]
abbrev dktX9_seed_0 : List UInt8 := dkwX9_seed_0 ++ dktX9_seed_1
theorem dksX9_seed_0 : cX9_seed.data.toList.drop 0 = dktX9_seed_0 := by decide +kernel
theorem dksX9_seed_1 : cX9_seed.data.toList.drop 24 = dktX9_seed_1 := dk_seg dksX9_seed_0 24 rfl rfl
theorem dX9_seed_0 : decode cX9_seed 0 = .ok (.iload_n 1, 1) := dk_27 (dk_at dksX9_seed_0 0 rfl rfl)
theorem dX9_seed_1 : decode cX9_seed 1 = .ok (.ifCond .ge 17, 3) := dk_156 0 17 (dk_at dksX9_seed_0 1 rfl rfl)
theorem dX9_seed_4 : decode cX9_seed 4 = .ok (.aload_n 0, 1) := dk_42 (dk_at dksX9_seed_0 4 rfl rfl)
theorem dX9_seed_5 : decode cX9_seed 5 = .ok (.iconst 5, 1) := dk_8 (dk_at dksX9_seed_0 5 rfl rfl)
theorem dX9_seed_6 : decode cX9_seed 6 = .ok (.invokevirtual 254, 3) := dk_182 0 254 (dk_at dksX9_seed_0 6 rfl rfl)
theorem dX9_seed_9 : decode cX9_seed 9 = .ok (.ifCond .lt 7, 3) := dk_155 0 7 (dk_at dksX9_seed_0 9 rfl rfl)
theorem dX9_seed_12 : decode cX9_seed 12 = .ok (.iconst 1, 1) := dk_4 (dk_at dksX9_seed_0 12 rfl rfl)
theorem dX9_seed_13 : decode cX9_seed 13 = .ok (.goto 4, 3) := dk_167 0 4 (dk_at dksX9_seed_0 13 rfl rfl)
theorem dX9_seed_16 : decode cX9_seed 16 = .ok (.iconst 0, 1) := dk_3 (dk_at dksX9_seed_0 16 rfl rfl)
theorem dX9_seed_17 : decode cX9_seed 17 = .ok (.ireturn, 1) := dk_172 (dk_at dksX9_seed_0 17 rfl rfl)
theorem dX9_seed_18 : decode cX9_seed 18 = .ok (.aload_n 0, 1) := dk_42 (dk_at dksX9_seed_0 18 rfl rfl)
theorem dX9_seed_19 : decode cX9_seed 19 = .ok (.iload_n 1, 1) := dk_27 (dk_at dksX9_seed_0 19 rfl rfl)
theorem dX9_seed_20 : decode cX9_seed 20 = .ok (.i2l, 1) := dk_133 (dk_at dksX9_seed_0 20 rfl rfl)
theorem dX9_seed_21 : decode cX9_seed 21 = .ok (.putfield 172, 3) := dk_181 0 172 (dk_at dksX9_seed_0 21 rfl rfl)
theorem dX9_seed_24 : decode cX9_seed 24 = .ok (.iconst 1, 1) := dk_4 (dk_at dksX9_seed_1 0 rfl rfl)
theorem dX9_seed_25 : decode cX9_seed 25 = .ok (.ireturn, 1) := dk_172 (dk_at dksX9_seed_1 1 rfl rfl)
def dkwX9_book_1 : List UInt8 := [153, 0, 16, 42, 180, 0, 163, 7, 27, 104, 28, 96, 46, 167, 0, 4, 2, 172]
abbrev dktX9_book_1 : List UInt8 := dkwX9_book_1 ++ []
def dkwX9_book_0 : List UInt8 := [27, 3, 42, 180, 0, 160, 3, 46, 4, 100, 184, 1, 68, 153, 0, 25, 28, 3, 6, 184, 1, 68]
abbrev dktX9_book_0 : List UInt8 := dkwX9_book_0 ++ dktX9_book_1
theorem dksX9_book_0 : cX9_book.data.toList.drop 0 = dktX9_book_0 := by decide +kernel
theorem dksX9_book_1 : cX9_book.data.toList.drop 22 = dktX9_book_1 := dk_seg dksX9_book_0 22 rfl rfl
theorem dX9_book_0 : decode cX9_book 0 = .ok (.iload_n 1, 1) := dk_27 (dk_at dksX9_book_0 0 rfl rfl)
theorem dX9_book_1 : decode cX9_book 1 = .ok (.iconst 0, 1) := dk_3 (dk_at dksX9_book_0 1 rfl rfl)
theorem dX9_book_2 : decode cX9_book 2 = .ok (.aload_n 0, 1) := dk_42 (dk_at dksX9_book_0 2 rfl rfl)
theorem dX9_book_3 : decode cX9_book 3 = .ok (.getfield 160, 3) := dk_180 0 160 (dk_at dksX9_book_0 3 rfl rfl)
theorem dX9_book_6 : decode cX9_book 6 = .ok (.iconst 0, 1) := dk_3 (dk_at dksX9_book_0 6 rfl rfl)
theorem dX9_book_7 : decode cX9_book 7 = .ok (.iaload, 1) := dk_46 (dk_at dksX9_book_0 7 rfl rfl)
theorem dX9_book_8 : decode cX9_book 8 = .ok (.iconst 1, 1) := dk_4 (dk_at dksX9_book_0 8 rfl rfl)
theorem dX9_book_9 : decode cX9_book 9 = .ok (.isub, 1) := dk_100 (dk_at dksX9_book_0 9 rfl rfl)
theorem dX9_book_10 : decode cX9_book 10 = .ok (.invokestatic 324, 3) := dk_184 1 68 (dk_at dksX9_book_0 10 rfl rfl)
theorem dX9_book_13 : decode cX9_book 13 = .ok (.ifCond .eq 25, 3) := dk_153 0 25 (dk_at dksX9_book_0 13 rfl rfl)
theorem dX9_book_16 : decode cX9_book 16 = .ok (.iload_n 2, 1) := dk_28 (dk_at dksX9_book_0 16 rfl rfl)
theorem dX9_book_17 : decode cX9_book 17 = .ok (.iconst 0, 1) := dk_3 (dk_at dksX9_book_0 17 rfl rfl)
theorem dX9_book_18 : decode cX9_book 18 = .ok (.iconst 3, 1) := dk_6 (dk_at dksX9_book_0 18 rfl rfl)
theorem dX9_book_19 : decode cX9_book 19 = .ok (.invokestatic 324, 3) := dk_184 1 68 (dk_at dksX9_book_0 19 rfl rfl)
theorem dX9_book_22 : decode cX9_book 22 = .ok (.ifCond .eq 16, 3) := dk_153 0 16 (dk_at dksX9_book_1 0 rfl rfl)
theorem dX9_book_25 : decode cX9_book 25 = .ok (.aload_n 0, 1) := dk_42 (dk_at dksX9_book_1 3 rfl rfl)
theorem dX9_book_26 : decode cX9_book 26 = .ok (.getfield 163, 3) := dk_180 0 163 (dk_at dksX9_book_1 4 rfl rfl)
theorem dX9_book_29 : decode cX9_book 29 = .ok (.iconst 4, 1) := dk_7 (dk_at dksX9_book_1 7 rfl rfl)
theorem dX9_book_30 : decode cX9_book 30 = .ok (.iload_n 1, 1) := dk_27 (dk_at dksX9_book_1 8 rfl rfl)
theorem dX9_book_31 : decode cX9_book 31 = .ok (.imul, 1) := dk_104 (dk_at dksX9_book_1 9 rfl rfl)
theorem dX9_book_32 : decode cX9_book 32 = .ok (.iload_n 2, 1) := dk_28 (dk_at dksX9_book_1 10 rfl rfl)
theorem dX9_book_33 : decode cX9_book 33 = .ok (.iadd, 1) := dk_96 (dk_at dksX9_book_1 11 rfl rfl)
theorem dX9_book_34 : decode cX9_book 34 = .ok (.iaload, 1) := dk_46 (dk_at dksX9_book_1 12 rfl rfl)
theorem dX9_book_35 : decode cX9_book 35 = .ok (.goto 4, 3) := dk_167 0 4 (dk_at dksX9_book_1 13 rfl rfl)
theorem dX9_book_38 : decode cX9_book 38 = .ok (.iconst (-1), 1) := dk_2 (dk_at dksX9_book_1 16 rfl rfl)
theorem dX9_book_39 : decode cX9_book 39 = .ok (.ireturn, 1) := dk_172 (dk_at dksX9_book_1 17 rfl rfl)
def dkwX9_has_6 : List UInt8 := [42, 180, 0, 172, 136, 172, 2, 172]
abbrev dktX9_has_6 : List UInt8 := dkwX9_has_6 ++ []
def dkwX9_has_5 : List UInt8 := [180, 0, 51, 46, 172, 42, 180, 0, 142, 3, 46, 172, 42, 180, 0, 160, 3, 46, 172, 42, 180, 0, 169, 172]
abbrev dktX9_has_5 : List UInt8 := dkwX9_has_5 ++ dktX9_has_6
def dkwX9_has_4 : List UInt8 := [180, 0, 118, 42, 180, 0, 51, 46, 172, 42, 180, 0, 121, 42, 180, 0, 51, 46, 172, 42, 180, 0, 124, 42]
abbrev dktX9_has_4 : List UInt8 := dkwX9_has_4 ++ dktX9_has_5
def dkwX9_has_3 : List UInt8 := [42, 180, 0, 51, 46, 172, 42, 180, 0, 100, 42, 180, 0, 51, 46, 172, 42, 3, 182, 1, 207, 172, 42]
abbrev dktX9_has_3 : List UInt8 := dkwX9_has_3 ++ dktX9_has_4
def dkwX9_has_2 : List UInt8 := [42, 180, 0, 54, 42, 180, 0, 51, 46, 172, 42, 180, 0, 76, 42, 180, 0, 51, 46, 172, 42, 180, 0, 85]
abbrev dktX9_has_2 : List UInt8 := dkwX9_has_2 ++ dktX9_has_3
def dkwX9_has_1 : List UInt8 := [170, 0, 0, 0, 0, 0, 164, 0, 0, 0, 0, 0, 0, 0, 11, 0, 0, 0, 63, 0, 0, 0, 73, 0, 0, 0, 83, 0, 0, 0, 93, 0, 0, 0, 103, 0, 0, 0, 109, 0, 0, 0, 119, 0, 0, 0, 129, 0, 0, 0, 139, 0, 0, 0, 146, 0, 0, 0, 153, 0, 0, 0, 158]
abbrev dktX9_has_1 : List UInt8 := dkwX9_has_1 ++ dktX9_has_2
def dkwX9_has_0 : List UInt8 := [27]
abbrev dktX9_has_0 : List UInt8 := dkwX9_has_0 ++ dktX9_has_1
theorem dksX9_has_0 : cX9_has.data.toList.drop 0 = dktX9_has_0 := by decide +kernel
theorem dksX9_has_1 : cX9_has.data.toList.drop 1 = dktX9_has_1 := dk_seg dksX9_has_0 1 rfl rfl
theorem dksX9_has_2 : cX9_has.data.toList.drop 64 = dktX9_has_2 := dk_seg dksX9_has_1 63 rfl rfl
theorem dksX9_has_3 : cX9_has.data.toList.drop 88 = dktX9_has_3 := dk_seg dksX9_has_2 24 rfl rfl
theorem dksX9_has_4 : cX9_has.data.toList.drop 111 = dktX9_has_4 := dk_seg dksX9_has_3 23 rfl rfl
theorem dksX9_has_5 : cX9_has.data.toList.drop 135 = dktX9_has_5 := dk_seg dksX9_has_4 24 rfl rfl
theorem dksX9_has_6 : cX9_has.data.toList.drop 159 = dktX9_has_6 := dk_seg dksX9_has_5 24 rfl rfl
theorem dX9_has_0 : decode cX9_has 0 = .ok (.iload_n 1, 1) := dk_27 (dk_at dksX9_has_0 0 rfl rfl)
theorem dX9_has_1 : decode cX9_has 1 = .ok (.tableswitch 164 0 11 #[63, 73, 83, 93, 103, 109, 119, 129, 139, 146, 153, 158], 63) := by decide +kernel
theorem dX9_has_64 : decode cX9_has 64 = .ok (.aload_n 0, 1) := dk_42 (dk_at dksX9_has_2 0 rfl rfl)
theorem dX9_has_65 : decode cX9_has 65 = .ok (.getfield 54, 3) := dk_180 0 54 (dk_at dksX9_has_2 1 rfl rfl)
theorem dX9_has_68 : decode cX9_has 68 = .ok (.aload_n 0, 1) := dk_42 (dk_at dksX9_has_2 4 rfl rfl)
theorem dX9_has_69 : decode cX9_has 69 = .ok (.getfield 51, 3) := dk_180 0 51 (dk_at dksX9_has_2 5 rfl rfl)
theorem dX9_has_72 : decode cX9_has 72 = .ok (.iaload, 1) := dk_46 (dk_at dksX9_has_2 8 rfl rfl)
theorem dX9_has_73 : decode cX9_has 73 = .ok (.ireturn, 1) := dk_172 (dk_at dksX9_has_2 9 rfl rfl)
theorem dX9_has_74 : decode cX9_has 74 = .ok (.aload_n 0, 1) := dk_42 (dk_at dksX9_has_2 10 rfl rfl)
theorem dX9_has_75 : decode cX9_has 75 = .ok (.getfield 76, 3) := dk_180 0 76 (dk_at dksX9_has_2 11 rfl rfl)
theorem dX9_has_78 : decode cX9_has 78 = .ok (.aload_n 0, 1) := dk_42 (dk_at dksX9_has_2 14 rfl rfl)
theorem dX9_has_79 : decode cX9_has 79 = .ok (.getfield 51, 3) := dk_180 0 51 (dk_at dksX9_has_2 15 rfl rfl)
theorem dX9_has_82 : decode cX9_has 82 = .ok (.iaload, 1) := dk_46 (dk_at dksX9_has_2 18 rfl rfl)
theorem dX9_has_83 : decode cX9_has 83 = .ok (.ireturn, 1) := dk_172 (dk_at dksX9_has_2 19 rfl rfl)
theorem dX9_has_84 : decode cX9_has 84 = .ok (.aload_n 0, 1) := dk_42 (dk_at dksX9_has_2 20 rfl rfl)
theorem dX9_has_85 : decode cX9_has 85 = .ok (.getfield 85, 3) := dk_180 0 85 (dk_at dksX9_has_2 21 rfl rfl)
theorem dX9_has_88 : decode cX9_has 88 = .ok (.aload_n 0, 1) := dk_42 (dk_at dksX9_has_3 0 rfl rfl)
theorem dX9_has_89 : decode cX9_has 89 = .ok (.getfield 51, 3) := dk_180 0 51 (dk_at dksX9_has_3 1 rfl rfl)
theorem dX9_has_92 : decode cX9_has 92 = .ok (.iaload, 1) := dk_46 (dk_at dksX9_has_3 4 rfl rfl)
theorem dX9_has_93 : decode cX9_has 93 = .ok (.ireturn, 1) := dk_172 (dk_at dksX9_has_3 5 rfl rfl)
theorem dX9_has_94 : decode cX9_has 94 = .ok (.aload_n 0, 1) := dk_42 (dk_at dksX9_has_3 6 rfl rfl)
theorem dX9_has_95 : decode cX9_has 95 = .ok (.getfield 100, 3) := dk_180 0 100 (dk_at dksX9_has_3 7 rfl rfl)
theorem dX9_has_98 : decode cX9_has 98 = .ok (.aload_n 0, 1) := dk_42 (dk_at dksX9_has_3 10 rfl rfl)
theorem dX9_has_99 : decode cX9_has 99 = .ok (.getfield 51, 3) := dk_180 0 51 (dk_at dksX9_has_3 11 rfl rfl)
theorem dX9_has_102 : decode cX9_has 102 = .ok (.iaload, 1) := dk_46 (dk_at dksX9_has_3 14 rfl rfl)
theorem dX9_has_103 : decode cX9_has 103 = .ok (.ireturn, 1) := dk_172 (dk_at dksX9_has_3 15 rfl rfl)
theorem dX9_has_104 : decode cX9_has 104 = .ok (.aload_n 0, 1) := dk_42 (dk_at dksX9_has_3 16 rfl rfl)
theorem dX9_has_105 : decode cX9_has 105 = .ok (.iconst 0, 1) := dk_3 (dk_at dksX9_has_3 17 rfl rfl)
theorem dX9_has_106 : decode cX9_has 106 = .ok (.invokevirtual 463, 3) := dk_182 1 207 (dk_at dksX9_has_3 18 rfl rfl)
theorem dX9_has_109 : decode cX9_has 109 = .ok (.ireturn, 1) := dk_172 (dk_at dksX9_has_3 21 rfl rfl)
theorem dX9_has_110 : decode cX9_has 110 = .ok (.aload_n 0, 1) := dk_42 (dk_at dksX9_has_3 22 rfl rfl)
theorem dX9_has_111 : decode cX9_has 111 = .ok (.getfield 118, 3) := dk_180 0 118 (dk_at dksX9_has_4 0 rfl rfl)
theorem dX9_has_114 : decode cX9_has 114 = .ok (.aload_n 0, 1) := dk_42 (dk_at dksX9_has_4 3 rfl rfl)
theorem dX9_has_115 : decode cX9_has 115 = .ok (.getfield 51, 3) := dk_180 0 51 (dk_at dksX9_has_4 4 rfl rfl)
theorem dX9_has_118 : decode cX9_has 118 = .ok (.iaload, 1) := dk_46 (dk_at dksX9_has_4 7 rfl rfl)
theorem dX9_has_119 : decode cX9_has 119 = .ok (.ireturn, 1) := dk_172 (dk_at dksX9_has_4 8 rfl rfl)
theorem dX9_has_120 : decode cX9_has 120 = .ok (.aload_n 0, 1) := dk_42 (dk_at dksX9_has_4 9 rfl rfl)
theorem dX9_has_121 : decode cX9_has 121 = .ok (.getfield 121, 3) := dk_180 0 121 (dk_at dksX9_has_4 10 rfl rfl)
theorem dX9_has_124 : decode cX9_has 124 = .ok (.aload_n 0, 1) := dk_42 (dk_at dksX9_has_4 13 rfl rfl)
theorem dX9_has_125 : decode cX9_has 125 = .ok (.getfield 51, 3) := dk_180 0 51 (dk_at dksX9_has_4 14 rfl rfl)
theorem dX9_has_128 : decode cX9_has 128 = .ok (.iaload, 1) := dk_46 (dk_at dksX9_has_4 17 rfl rfl)
theorem dX9_has_129 : decode cX9_has 129 = .ok (.ireturn, 1) := dk_172 (dk_at dksX9_has_4 18 rfl rfl)
theorem dX9_has_130 : decode cX9_has 130 = .ok (.aload_n 0, 1) := dk_42 (dk_at dksX9_has_4 19 rfl rfl)
theorem dX9_has_131 : decode cX9_has 131 = .ok (.getfield 124, 3) := dk_180 0 124 (dk_at dksX9_has_4 20 rfl rfl)
theorem dX9_has_134 : decode cX9_has 134 = .ok (.aload_n 0, 1) := dk_42 (dk_at dksX9_has_4 23 rfl rfl)
theorem dX9_has_135 : decode cX9_has 135 = .ok (.getfield 51, 3) := dk_180 0 51 (dk_at dksX9_has_5 0 rfl rfl)
theorem dX9_has_138 : decode cX9_has 138 = .ok (.iaload, 1) := dk_46 (dk_at dksX9_has_5 3 rfl rfl)
theorem dX9_has_139 : decode cX9_has 139 = .ok (.ireturn, 1) := dk_172 (dk_at dksX9_has_5 4 rfl rfl)
theorem dX9_has_140 : decode cX9_has 140 = .ok (.aload_n 0, 1) := dk_42 (dk_at dksX9_has_5 5 rfl rfl)
theorem dX9_has_141 : decode cX9_has 141 = .ok (.getfield 142, 3) := dk_180 0 142 (dk_at dksX9_has_5 6 rfl rfl)
theorem dX9_has_144 : decode cX9_has 144 = .ok (.iconst 0, 1) := dk_3 (dk_at dksX9_has_5 9 rfl rfl)
theorem dX9_has_145 : decode cX9_has 145 = .ok (.iaload, 1) := dk_46 (dk_at dksX9_has_5 10 rfl rfl)
theorem dX9_has_146 : decode cX9_has 146 = .ok (.ireturn, 1) := dk_172 (dk_at dksX9_has_5 11 rfl rfl)
theorem dX9_has_147 : decode cX9_has 147 = .ok (.aload_n 0, 1) := dk_42 (dk_at dksX9_has_5 12 rfl rfl)
theorem dX9_has_148 : decode cX9_has 148 = .ok (.getfield 160, 3) := dk_180 0 160 (dk_at dksX9_has_5 13 rfl rfl)
theorem dX9_has_151 : decode cX9_has 151 = .ok (.iconst 0, 1) := dk_3 (dk_at dksX9_has_5 16 rfl rfl)
theorem dX9_has_152 : decode cX9_has 152 = .ok (.iaload, 1) := dk_46 (dk_at dksX9_has_5 17 rfl rfl)
theorem dX9_has_153 : decode cX9_has 153 = .ok (.ireturn, 1) := dk_172 (dk_at dksX9_has_5 18 rfl rfl)
theorem dX9_has_154 : decode cX9_has 154 = .ok (.aload_n 0, 1) := dk_42 (dk_at dksX9_has_5 19 rfl rfl)
theorem dX9_has_155 : decode cX9_has 155 = .ok (.getfield 169, 3) := dk_180 0 169 (dk_at dksX9_has_5 20 rfl rfl)
theorem dX9_has_158 : decode cX9_has 158 = .ok (.ireturn, 1) := dk_172 (dk_at dksX9_has_5 23 rfl rfl)
theorem dX9_has_159 : decode cX9_has 159 = .ok (.aload_n 0, 1) := dk_42 (dk_at dksX9_has_6 0 rfl rfl)
theorem dX9_has_160 : decode cX9_has 160 = .ok (.getfield 172, 3) := dk_180 0 172 (dk_at dksX9_has_6 1 rfl rfl)
theorem dX9_has_163 : decode cX9_has 163 = .ok (.l2i, 1) := dk_136 (dk_at dksX9_has_6 4 rfl rfl)
theorem dX9_has_164 : decode cX9_has 164 = .ok (.ireturn, 1) := dk_172 (dk_at dksX9_has_6 5 rfl rfl)
theorem dX9_has_165 : decode cX9_has 165 = .ok (.iconst (-1), 1) := dk_2 (dk_at dksX9_has_6 6 rfl rfl)
theorem dX9_has_166 : decode cX9_has 166 = .ok (.ireturn, 1) := dk_172 (dk_at dksX9_has_6 7 rfl rfl)
def dkwX9_letter_4 : List UInt8 := [4, 100, 29, 100, 104, 123, 20, 1, 224, 127, 136, 16, 97, 100, 4, 96, 172]
abbrev dktX9_letter_4 : List UInt8 := dkwX9_letter_4 ++ []
def dkwX9_letter_3 : List UInt8 := [16, 8, 123, 55, 7, 167, 255, 239, 29, 21, 6, 161, 0, 7, 3, 167, 0, 25, 22, 4, 16, 8, 21, 6]
abbrev dktX9_letter_3 : List UInt8 := dkwX9_letter_3 ++ dktX9_letter_4
def dkwX9_letter_2 : List UInt8 := [182, 1, 64, 55, 4, 3, 54, 6, 22, 4, 55, 7, 22, 7, 9, 148, 158, 0, 16, 132, 6, 1, 22, 7]
abbrev dktX9_letter_2 : List UInt8 := dkwX9_letter_2 ++ dktX9_letter_3
def dkwX9_letter_1 : List UInt8 := [184, 1, 68, 153, 0, 12, 29, 3, 8, 184, 1, 68, 154, 0, 5, 2, 172, 42, 42, 180, 0, 51, 27, 28]
abbrev dktX9_letter_1 : List UInt8 := dkwX9_letter_1 ++ dktX9_letter_2
def dkwX9_letter_0 : List UInt8 := [27, 3, 6, 184, 1, 68, 153, 0, 31, 28, 3, 42, 42, 180, 0, 51, 27, 182, 1, 60, 4, 100]
abbrev dktX9_letter_0 : List UInt8 := dkwX9_letter_0 ++ dktX9_letter_1
theorem dksX9_letter_0 : cX9_letter.data.toList.drop 0 = dktX9_letter_0 := by decide +kernel
theorem dksX9_letter_1 : cX9_letter.data.toList.drop 22 = dktX9_letter_1 := dk_seg dksX9_letter_0 22 rfl rfl
theorem dksX9_letter_2 : cX9_letter.data.toList.drop 46 = dktX9_letter_2 := dk_seg dksX9_letter_1 24 rfl rfl
theorem dksX9_letter_3 : cX9_letter.data.toList.drop 70 = dktX9_letter_3 := dk_seg dksX9_letter_2 24 rfl rfl
theorem dksX9_letter_4 : cX9_letter.data.toList.drop 94 = dktX9_letter_4 := dk_seg dksX9_letter_3 24 rfl rfl
theorem dX9_letter_0 : decode cX9_letter 0 = .ok (.iload_n 1, 1) := dk_27 (dk_at dksX9_letter_0 0 rfl rfl)
theorem dX9_letter_1 : decode cX9_letter 1 = .ok (.iconst 0, 1) := dk_3 (dk_at dksX9_letter_0 1 rfl rfl)
theorem dX9_letter_2 : decode cX9_letter 2 = .ok (.iconst 3, 1) := dk_6 (dk_at dksX9_letter_0 2 rfl rfl)
theorem dX9_letter_3 : decode cX9_letter 3 = .ok (.invokestatic 324, 3) := dk_184 1 68 (dk_at dksX9_letter_0 3 rfl rfl)
theorem dX9_letter_6 : decode cX9_letter 6 = .ok (.ifCond .eq 31, 3) := dk_153 0 31 (dk_at dksX9_letter_0 6 rfl rfl)
theorem dX9_letter_9 : decode cX9_letter 9 = .ok (.iload_n 2, 1) := dk_28 (dk_at dksX9_letter_0 9 rfl rfl)
theorem dX9_letter_10 : decode cX9_letter 10 = .ok (.iconst 0, 1) := dk_3 (dk_at dksX9_letter_0 10 rfl rfl)
theorem dX9_letter_11 : decode cX9_letter 11 = .ok (.aload_n 0, 1) := dk_42 (dk_at dksX9_letter_0 11 rfl rfl)
theorem dX9_letter_12 : decode cX9_letter 12 = .ok (.aload_n 0, 1) := dk_42 (dk_at dksX9_letter_0 12 rfl rfl)
theorem dX9_letter_13 : decode cX9_letter 13 = .ok (.getfield 51, 3) := dk_180 0 51 (dk_at dksX9_letter_0 13 rfl rfl)
theorem dX9_letter_16 : decode cX9_letter 16 = .ok (.iload_n 1, 1) := dk_27 (dk_at dksX9_letter_0 16 rfl rfl)
theorem dX9_letter_17 : decode cX9_letter 17 = .ok (.invokevirtual 316, 3) := dk_182 1 60 (dk_at dksX9_letter_0 17 rfl rfl)
theorem dX9_letter_20 : decode cX9_letter 20 = .ok (.iconst 1, 1) := dk_4 (dk_at dksX9_letter_0 20 rfl rfl)
theorem dX9_letter_21 : decode cX9_letter 21 = .ok (.isub, 1) := dk_100 (dk_at dksX9_letter_0 21 rfl rfl)
theorem dX9_letter_22 : decode cX9_letter 22 = .ok (.invokestatic 324, 3) := dk_184 1 68 (dk_at dksX9_letter_1 0 rfl rfl)
theorem dX9_letter_25 : decode cX9_letter 25 = .ok (.ifCond .eq 12, 3) := dk_153 0 12 (dk_at dksX9_letter_1 3 rfl rfl)
theorem dX9_letter_28 : decode cX9_letter 28 = .ok (.iload_n 3, 1) := dk_29 (dk_at dksX9_letter_1 6 rfl rfl)
theorem dX9_letter_29 : decode cX9_letter 29 = .ok (.iconst 0, 1) := dk_3 (dk_at dksX9_letter_1 7 rfl rfl)
theorem dX9_letter_30 : decode cX9_letter 30 = .ok (.iconst 5, 1) := dk_8 (dk_at dksX9_letter_1 8 rfl rfl)
theorem dX9_letter_31 : decode cX9_letter 31 = .ok (.invokestatic 324, 3) := dk_184 1 68 (dk_at dksX9_letter_1 9 rfl rfl)
theorem dX9_letter_34 : decode cX9_letter 34 = .ok (.ifCond .ne 5, 3) := dk_154 0 5 (dk_at dksX9_letter_1 12 rfl rfl)
theorem dX9_letter_37 : decode cX9_letter 37 = .ok (.iconst (-1), 1) := dk_2 (dk_at dksX9_letter_1 15 rfl rfl)
theorem dX9_letter_38 : decode cX9_letter 38 = .ok (.ireturn, 1) := dk_172 (dk_at dksX9_letter_1 16 rfl rfl)
theorem dX9_letter_39 : decode cX9_letter 39 = .ok (.aload_n 0, 1) := dk_42 (dk_at dksX9_letter_1 17 rfl rfl)
theorem dX9_letter_40 : decode cX9_letter 40 = .ok (.aload_n 0, 1) := dk_42 (dk_at dksX9_letter_1 18 rfl rfl)
theorem dX9_letter_41 : decode cX9_letter 41 = .ok (.getfield 51, 3) := dk_180 0 51 (dk_at dksX9_letter_1 19 rfl rfl)
theorem dX9_letter_44 : decode cX9_letter 44 = .ok (.iload_n 1, 1) := dk_27 (dk_at dksX9_letter_1 22 rfl rfl)
theorem dX9_letter_45 : decode cX9_letter 45 = .ok (.iload_n 2, 1) := dk_28 (dk_at dksX9_letter_1 23 rfl rfl)
theorem dX9_letter_46 : decode cX9_letter 46 = .ok (.invokevirtual 320, 3) := dk_182 1 64 (dk_at dksX9_letter_2 0 rfl rfl)
theorem dX9_letter_49 : decode cX9_letter 49 = .ok (.lstore 4, 2) := dk_55 4 (dk_at dksX9_letter_2 3 rfl rfl)
theorem dX9_letter_51 : decode cX9_letter 51 = .ok (.iconst 0, 1) := dk_3 (dk_at dksX9_letter_2 5 rfl rfl)
theorem dX9_letter_52 : decode cX9_letter 52 = .ok (.istore 6, 2) := dk_54 6 (dk_at dksX9_letter_2 6 rfl rfl)
theorem dX9_letter_54 : decode cX9_letter 54 = .ok (.lload 4, 2) := dk_22 4 (dk_at dksX9_letter_2 8 rfl rfl)
theorem dX9_letter_56 : decode cX9_letter 56 = .ok (.lstore 7, 2) := dk_55 7 (dk_at dksX9_letter_2 10 rfl rfl)
theorem dX9_letter_58 : decode cX9_letter 58 = .ok (.lload 7, 2) := dk_22 7 (dk_at dksX9_letter_2 12 rfl rfl)
theorem dX9_letter_60 : decode cX9_letter 60 = .ok (.lconst 0, 1) := dk_9 (dk_at dksX9_letter_2 14 rfl rfl)
theorem dX9_letter_61 : decode cX9_letter 61 = .ok (.lcmp, 1) := dk_148 (dk_at dksX9_letter_2 15 rfl rfl)
theorem dX9_letter_62 : decode cX9_letter 62 = .ok (.ifCond .le 16, 3) := dk_158 0 16 (dk_at dksX9_letter_2 16 rfl rfl)
theorem dX9_letter_65 : decode cX9_letter 65 = .ok (.iinc 6 1, 3) := dk_132 6 1 (dk_at dksX9_letter_2 19 rfl rfl)
theorem dX9_letter_68 : decode cX9_letter 68 = .ok (.lload 7, 2) := dk_22 7 (dk_at dksX9_letter_2 22 rfl rfl)
theorem dX9_letter_70 : decode cX9_letter 70 = .ok (.bipush 8, 2) := dk_16 8 (dk_at dksX9_letter_3 0 rfl rfl)
theorem dX9_letter_72 : decode cX9_letter 72 = .ok (.lshr, 1) := dk_123 (dk_at dksX9_letter_3 2 rfl rfl)
theorem dX9_letter_73 : decode cX9_letter 73 = .ok (.lstore 7, 2) := dk_55 7 (dk_at dksX9_letter_3 3 rfl rfl)
theorem dX9_letter_75 : decode cX9_letter 75 = .ok (.goto (-17), 3) := dk_167 255 239 (dk_at dksX9_letter_3 5 rfl rfl)
theorem dX9_letter_78 : decode cX9_letter 78 = .ok (.iload_n 3, 1) := dk_29 (dk_at dksX9_letter_3 8 rfl rfl)
theorem dX9_letter_79 : decode cX9_letter 79 = .ok (.iload 6, 2) := dk_21 6 (dk_at dksX9_letter_3 9 rfl rfl)
theorem dX9_letter_81 : decode cX9_letter 81 = .ok (.if_icmp .lt 7, 3) := dk_161 0 7 (dk_at dksX9_letter_3 11 rfl rfl)
theorem dX9_letter_84 : decode cX9_letter 84 = .ok (.iconst 0, 1) := dk_3 (dk_at dksX9_letter_3 14 rfl rfl)
theorem dX9_letter_85 : decode cX9_letter 85 = .ok (.goto 25, 3) := dk_167 0 25 (dk_at dksX9_letter_3 15 rfl rfl)
theorem dX9_letter_88 : decode cX9_letter 88 = .ok (.lload 4, 2) := dk_22 4 (dk_at dksX9_letter_3 18 rfl rfl)
theorem dX9_letter_90 : decode cX9_letter 90 = .ok (.bipush 8, 2) := dk_16 8 (dk_at dksX9_letter_3 20 rfl rfl)
theorem dX9_letter_92 : decode cX9_letter 92 = .ok (.iload 6, 2) := dk_21 6 (dk_at dksX9_letter_3 22 rfl rfl)
theorem dX9_letter_94 : decode cX9_letter 94 = .ok (.iconst 1, 1) := dk_4 (dk_at dksX9_letter_4 0 rfl rfl)
theorem dX9_letter_95 : decode cX9_letter 95 = .ok (.isub, 1) := dk_100 (dk_at dksX9_letter_4 1 rfl rfl)
theorem dX9_letter_96 : decode cX9_letter 96 = .ok (.iload_n 3, 1) := dk_29 (dk_at dksX9_letter_4 2 rfl rfl)
theorem dX9_letter_97 : decode cX9_letter 97 = .ok (.isub, 1) := dk_100 (dk_at dksX9_letter_4 3 rfl rfl)
theorem dX9_letter_98 : decode cX9_letter 98 = .ok (.imul, 1) := dk_104 (dk_at dksX9_letter_4 4 rfl rfl)
theorem dX9_letter_99 : decode cX9_letter 99 = .ok (.lshr, 1) := dk_123 (dk_at dksX9_letter_4 5 rfl rfl)
theorem dX9_letter_100 : decode cX9_letter 100 = .ok (.ldc2_w 480, 3) := dk_20 1 224 (dk_at dksX9_letter_4 6 rfl rfl)
theorem dX9_letter_103 : decode cX9_letter 103 = .ok (.land, 1) := dk_127 (dk_at dksX9_letter_4 9 rfl rfl)
theorem dX9_letter_104 : decode cX9_letter 104 = .ok (.l2i, 1) := dk_136 (dk_at dksX9_letter_4 10 rfl rfl)
theorem dX9_letter_105 : decode cX9_letter 105 = .ok (.bipush 97, 2) := dk_16 97 (dk_at dksX9_letter_4 11 rfl rfl)
theorem dX9_letter_107 : decode cX9_letter 107 = .ok (.isub, 1) := dk_100 (dk_at dksX9_letter_4 13 rfl rfl)
theorem dX9_letter_108 : decode cX9_letter 108 = .ok (.iconst 1, 1) := dk_4 (dk_at dksX9_letter_4 14 rfl rfl)
theorem dX9_letter_109 : decode cX9_letter 109 = .ok (.iadd, 1) := dk_96 (dk_at dksX9_letter_4 15 rfl rfl)
theorem dX9_letter_110 : decode cX9_letter 110 = .ok (.ireturn, 1) := dk_172 (dk_at dksX9_letter_4 16 rfl rfl)
def dkwX9_word_6 : List UInt8 := [21, 4, 172, 2, 172]
abbrev dktX9_word_6 : List UInt8 := dkwX9_word_6 ++ []
def dkwX9_word_5 : List UInt8 := [21, 5, 27, 182, 1, 226, 153, 0, 7, 4, 167, 0, 4, 3, 96, 54, 4, 132, 5, 1, 167, 255, 209]
abbrev dktX9_word_5 : List UInt8 := dkwX9_word_5 ++ dktX9_word_6
def dkwX9_word_4 : List UInt8 := [180, 0, 100, 42, 180, 0, 51, 46, 162, 0, 39, 21, 4, 42, 3, 21, 5, 182, 1, 143, 153, 0, 17, 42]
abbrev dktX9_word_4 : List UInt8 := dkwX9_word_4 ++ dktX9_word_5
def dkwX9_word_3 : List UInt8 := [180, 0, 70, 29, 46, 172, 42, 180, 0, 73, 29, 46, 172, 3, 54, 4, 3, 54, 5, 21, 5, 42]
abbrev dktX9_word_3 : List UInt8 := dkwX9_word_3 ++ dktX9_word_4
def dkwX9_word_2 : List UInt8 := [42, 180, 0, 61, 29, 46, 172, 42, 180, 0, 64, 29, 46, 172, 42, 180, 0, 67, 29, 46, 172, 42]
abbrev dktX9_word_2 : List UInt8 := dkwX9_word_2 ++ dktX9_word_3
def dkwX9_word_1 : List UInt8 := [170, 0, 0, 0, 0, 0, 133, 0, 0, 0, 0, 0, 0, 0, 5, 0, 0, 0, 39, 0, 0, 0, 46, 0, 0, 0, 53, 0, 0, 0, 60, 0, 0, 0, 67, 0, 0, 0, 74]
abbrev dktX9_word_1 : List UInt8 := dkwX9_word_1 ++ dktX9_word_2
def dkwX9_word_0 : List UInt8 := [42, 27, 182, 1, 153, 154, 0, 5, 2, 172, 16, 24, 42, 180, 0, 51, 104, 27, 96, 62, 28]
abbrev dktX9_word_0 : List UInt8 := dkwX9_word_0 ++ dktX9_word_1
theorem dksX9_word_0 : cX9_word.data.toList.drop 0 = dktX9_word_0 := by decide +kernel
theorem dksX9_word_1 : cX9_word.data.toList.drop 21 = dktX9_word_1 := dk_seg dksX9_word_0 21 rfl rfl
theorem dksX9_word_2 : cX9_word.data.toList.drop 60 = dktX9_word_2 := dk_seg dksX9_word_1 39 rfl rfl
theorem dksX9_word_3 : cX9_word.data.toList.drop 82 = dktX9_word_3 := dk_seg dksX9_word_2 22 rfl rfl
theorem dksX9_word_4 : cX9_word.data.toList.drop 104 = dktX9_word_4 := dk_seg dksX9_word_3 22 rfl rfl
theorem dksX9_word_5 : cX9_word.data.toList.drop 128 = dktX9_word_5 := dk_seg dksX9_word_4 24 rfl rfl
theorem dksX9_word_6 : cX9_word.data.toList.drop 151 = dktX9_word_6 := dk_seg dksX9_word_5 23 rfl rfl
theorem dX9_word_0 : decode cX9_word 0 = .ok (.aload_n 0, 1) := dk_42 (dk_at dksX9_word_0 0 rfl rfl)
theorem dX9_word_1 : decode cX9_word 1 = .ok (.iload_n 1, 1) := dk_27 (dk_at dksX9_word_0 1 rfl rfl)
theorem dX9_word_2 : decode cX9_word 2 = .ok (.invokevirtual 409, 3) := dk_182 1 153 (dk_at dksX9_word_0 2 rfl rfl)
theorem dX9_word_5 : decode cX9_word 5 = .ok (.ifCond .ne 5, 3) := dk_154 0 5 (dk_at dksX9_word_0 5 rfl rfl)
theorem dX9_word_8 : decode cX9_word 8 = .ok (.iconst (-1), 1) := dk_2 (dk_at dksX9_word_0 8 rfl rfl)
theorem dX9_word_9 : decode cX9_word 9 = .ok (.ireturn, 1) := dk_172 (dk_at dksX9_word_0 9 rfl rfl)
theorem dX9_word_10 : decode cX9_word 10 = .ok (.bipush 24, 2) := dk_16 24 (dk_at dksX9_word_0 10 rfl rfl)
theorem dX9_word_12 : decode cX9_word 12 = .ok (.aload_n 0, 1) := dk_42 (dk_at dksX9_word_0 12 rfl rfl)
theorem dX9_word_13 : decode cX9_word 13 = .ok (.getfield 51, 3) := dk_180 0 51 (dk_at dksX9_word_0 13 rfl rfl)
theorem dX9_word_16 : decode cX9_word 16 = .ok (.imul, 1) := dk_104 (dk_at dksX9_word_0 16 rfl rfl)
theorem dX9_word_17 : decode cX9_word 17 = .ok (.iload_n 1, 1) := dk_27 (dk_at dksX9_word_0 17 rfl rfl)
theorem dX9_word_18 : decode cX9_word 18 = .ok (.iadd, 1) := dk_96 (dk_at dksX9_word_0 18 rfl rfl)
theorem dX9_word_19 : decode cX9_word 19 = .ok (.istore_n 3, 1) := dk_62 (dk_at dksX9_word_0 19 rfl rfl)
theorem dX9_word_20 : decode cX9_word 20 = .ok (.iload_n 2, 1) := dk_28 (dk_at dksX9_word_0 20 rfl rfl)
theorem dX9_word_21 : decode cX9_word 21 = .ok (.tableswitch 133 0 5 #[39, 46, 53, 60, 67, 74], 39) := by decide +kernel
theorem dX9_word_60 : decode cX9_word 60 = .ok (.aload_n 0, 1) := dk_42 (dk_at dksX9_word_2 0 rfl rfl)
theorem dX9_word_61 : decode cX9_word 61 = .ok (.getfield 61, 3) := dk_180 0 61 (dk_at dksX9_word_2 1 rfl rfl)
theorem dX9_word_64 : decode cX9_word 64 = .ok (.iload_n 3, 1) := dk_29 (dk_at dksX9_word_2 4 rfl rfl)
theorem dX9_word_65 : decode cX9_word 65 = .ok (.iaload, 1) := dk_46 (dk_at dksX9_word_2 5 rfl rfl)
theorem dX9_word_66 : decode cX9_word 66 = .ok (.ireturn, 1) := dk_172 (dk_at dksX9_word_2 6 rfl rfl)
theorem dX9_word_67 : decode cX9_word 67 = .ok (.aload_n 0, 1) := dk_42 (dk_at dksX9_word_2 7 rfl rfl)
theorem dX9_word_68 : decode cX9_word 68 = .ok (.getfield 64, 3) := dk_180 0 64 (dk_at dksX9_word_2 8 rfl rfl)
theorem dX9_word_71 : decode cX9_word 71 = .ok (.iload_n 3, 1) := dk_29 (dk_at dksX9_word_2 11 rfl rfl)
theorem dX9_word_72 : decode cX9_word 72 = .ok (.iaload, 1) := dk_46 (dk_at dksX9_word_2 12 rfl rfl)
theorem dX9_word_73 : decode cX9_word 73 = .ok (.ireturn, 1) := dk_172 (dk_at dksX9_word_2 13 rfl rfl)
theorem dX9_word_74 : decode cX9_word 74 = .ok (.aload_n 0, 1) := dk_42 (dk_at dksX9_word_2 14 rfl rfl)
theorem dX9_word_75 : decode cX9_word 75 = .ok (.getfield 67, 3) := dk_180 0 67 (dk_at dksX9_word_2 15 rfl rfl)
theorem dX9_word_78 : decode cX9_word 78 = .ok (.iload_n 3, 1) := dk_29 (dk_at dksX9_word_2 18 rfl rfl)
theorem dX9_word_79 : decode cX9_word 79 = .ok (.iaload, 1) := dk_46 (dk_at dksX9_word_2 19 rfl rfl)
theorem dX9_word_80 : decode cX9_word 80 = .ok (.ireturn, 1) := dk_172 (dk_at dksX9_word_2 20 rfl rfl)
theorem dX9_word_81 : decode cX9_word 81 = .ok (.aload_n 0, 1) := dk_42 (dk_at dksX9_word_2 21 rfl rfl)
theorem dX9_word_82 : decode cX9_word 82 = .ok (.getfield 70, 3) := dk_180 0 70 (dk_at dksX9_word_3 0 rfl rfl)
theorem dX9_word_85 : decode cX9_word 85 = .ok (.iload_n 3, 1) := dk_29 (dk_at dksX9_word_3 3 rfl rfl)
theorem dX9_word_86 : decode cX9_word 86 = .ok (.iaload, 1) := dk_46 (dk_at dksX9_word_3 4 rfl rfl)
theorem dX9_word_87 : decode cX9_word 87 = .ok (.ireturn, 1) := dk_172 (dk_at dksX9_word_3 5 rfl rfl)
theorem dX9_word_88 : decode cX9_word 88 = .ok (.aload_n 0, 1) := dk_42 (dk_at dksX9_word_3 6 rfl rfl)
theorem dX9_word_89 : decode cX9_word 89 = .ok (.getfield 73, 3) := dk_180 0 73 (dk_at dksX9_word_3 7 rfl rfl)
theorem dX9_word_92 : decode cX9_word 92 = .ok (.iload_n 3, 1) := dk_29 (dk_at dksX9_word_3 10 rfl rfl)
theorem dX9_word_93 : decode cX9_word 93 = .ok (.iaload, 1) := dk_46 (dk_at dksX9_word_3 11 rfl rfl)
theorem dX9_word_94 : decode cX9_word 94 = .ok (.ireturn, 1) := dk_172 (dk_at dksX9_word_3 12 rfl rfl)
theorem dX9_word_95 : decode cX9_word 95 = .ok (.iconst 0, 1) := dk_3 (dk_at dksX9_word_3 13 rfl rfl)
theorem dX9_word_96 : decode cX9_word 96 = .ok (.istore 4, 2) := dk_54 4 (dk_at dksX9_word_3 14 rfl rfl)
theorem dX9_word_98 : decode cX9_word 98 = .ok (.iconst 0, 1) := dk_3 (dk_at dksX9_word_3 16 rfl rfl)
theorem dX9_word_99 : decode cX9_word 99 = .ok (.istore 5, 2) := dk_54 5 (dk_at dksX9_word_3 17 rfl rfl)
theorem dX9_word_101 : decode cX9_word 101 = .ok (.iload 5, 2) := dk_21 5 (dk_at dksX9_word_3 19 rfl rfl)
theorem dX9_word_103 : decode cX9_word 103 = .ok (.aload_n 0, 1) := dk_42 (dk_at dksX9_word_3 21 rfl rfl)
theorem dX9_word_104 : decode cX9_word 104 = .ok (.getfield 100, 3) := dk_180 0 100 (dk_at dksX9_word_4 0 rfl rfl)
theorem dX9_word_107 : decode cX9_word 107 = .ok (.aload_n 0, 1) := dk_42 (dk_at dksX9_word_4 3 rfl rfl)
theorem dX9_word_108 : decode cX9_word 108 = .ok (.getfield 51, 3) := dk_180 0 51 (dk_at dksX9_word_4 4 rfl rfl)
theorem dX9_word_111 : decode cX9_word 111 = .ok (.iaload, 1) := dk_46 (dk_at dksX9_word_4 7 rfl rfl)
theorem dX9_word_112 : decode cX9_word 112 = .ok (.if_icmp .ge 39, 3) := dk_162 0 39 (dk_at dksX9_word_4 8 rfl rfl)
theorem dX9_word_115 : decode cX9_word 115 = .ok (.iload 4, 2) := dk_21 4 (dk_at dksX9_word_4 11 rfl rfl)
theorem dX9_word_117 : decode cX9_word 117 = .ok (.aload_n 0, 1) := dk_42 (dk_at dksX9_word_4 13 rfl rfl)
theorem dX9_word_118 : decode cX9_word 118 = .ok (.iconst 0, 1) := dk_3 (dk_at dksX9_word_4 14 rfl rfl)
theorem dX9_word_119 : decode cX9_word 119 = .ok (.iload 5, 2) := dk_21 5 (dk_at dksX9_word_4 15 rfl rfl)
theorem dX9_word_121 : decode cX9_word 121 = .ok (.invokevirtual 399, 3) := dk_182 1 143 (dk_at dksX9_word_4 17 rfl rfl)
theorem dX9_word_124 : decode cX9_word 124 = .ok (.ifCond .eq 17, 3) := dk_153 0 17 (dk_at dksX9_word_4 20 rfl rfl)
theorem dX9_word_127 : decode cX9_word 127 = .ok (.aload_n 0, 1) := dk_42 (dk_at dksX9_word_4 23 rfl rfl)
theorem dX9_word_128 : decode cX9_word 128 = .ok (.iload 5, 2) := dk_21 5 (dk_at dksX9_word_5 0 rfl rfl)
theorem dX9_word_130 : decode cX9_word 130 = .ok (.iload_n 1, 1) := dk_27 (dk_at dksX9_word_5 2 rfl rfl)
theorem dX9_word_131 : decode cX9_word 131 = .ok (.invokevirtual 482, 3) := dk_182 1 226 (dk_at dksX9_word_5 3 rfl rfl)
theorem dX9_word_134 : decode cX9_word 134 = .ok (.ifCond .eq 7, 3) := dk_153 0 7 (dk_at dksX9_word_5 6 rfl rfl)
theorem dX9_word_137 : decode cX9_word 137 = .ok (.iconst 1, 1) := dk_4 (dk_at dksX9_word_5 9 rfl rfl)
theorem dX9_word_138 : decode cX9_word 138 = .ok (.goto 4, 3) := dk_167 0 4 (dk_at dksX9_word_5 10 rfl rfl)
theorem dX9_word_141 : decode cX9_word 141 = .ok (.iconst 0, 1) := dk_3 (dk_at dksX9_word_5 13 rfl rfl)
theorem dX9_word_142 : decode cX9_word 142 = .ok (.iadd, 1) := dk_96 (dk_at dksX9_word_5 14 rfl rfl)
theorem dX9_word_143 : decode cX9_word 143 = .ok (.istore 4, 2) := dk_54 4 (dk_at dksX9_word_5 15 rfl rfl)
theorem dX9_word_145 : decode cX9_word 145 = .ok (.iinc 5 1, 3) := dk_132 5 1 (dk_at dksX9_word_5 17 rfl rfl)
theorem dX9_word_148 : decode cX9_word 148 = .ok (.goto (-47), 3) := dk_167 255 209 (dk_at dksX9_word_5 20 rfl rfl)
theorem dX9_word_151 : decode cX9_word 151 = .ok (.iload 4, 2) := dk_21 4 (dk_at dksX9_word_6 0 rfl rfl)
theorem dX9_word_153 : decode cX9_word 153 = .ok (.ireturn, 1) := dk_172 (dk_at dksX9_word_6 2 rfl rfl)
theorem dX9_word_154 : decode cX9_word 154 = .ok (.iconst (-1), 1) := dk_2 (dk_at dksX9_word_6 3 rfl rfl)
theorem dX9_word_155 : decode cX9_word 155 = .ok (.ireturn, 1) := dk_172 (dk_at dksX9_word_6 4 rfl rfl)
def dkwX9_hasWord_1 : List UInt8 := [16, 12, 27, 104, 29, 96, 46, 28, 160, 0, 5, 4, 172, 132, 3, 1, 167, 255, 219, 3, 172]
abbrev dktX9_hasWord_1 : List UInt8 := dkwX9_hasWord_1 ++ []
def dkwX9_hasWord_0 : List UInt8 := [3, 62, 29, 42, 180, 0, 148, 27, 46, 42, 180, 0, 151, 27, 46, 96, 162, 0, 26, 42, 180, 0, 157]
abbrev dktX9_hasWord_0 : List UInt8 := dkwX9_hasWord_0 ++ dktX9_hasWord_1
theorem dksX9_hasWord_0 : cX9_hasWord.data.toList.drop 0 = dktX9_hasWord_0 := by decide +kernel
theorem dksX9_hasWord_1 : cX9_hasWord.data.toList.drop 23 = dktX9_hasWord_1 := dk_seg dksX9_hasWord_0 23 rfl rfl
theorem dX9_hasWord_0 : decode cX9_hasWord 0 = .ok (.iconst 0, 1) := dk_3 (dk_at dksX9_hasWord_0 0 rfl rfl)
theorem dX9_hasWord_1 : decode cX9_hasWord 1 = .ok (.istore_n 3, 1) := dk_62 (dk_at dksX9_hasWord_0 1 rfl rfl)
theorem dX9_hasWord_2 : decode cX9_hasWord 2 = .ok (.iload_n 3, 1) := dk_29 (dk_at dksX9_hasWord_0 2 rfl rfl)
theorem dX9_hasWord_3 : decode cX9_hasWord 3 = .ok (.aload_n 0, 1) := dk_42 (dk_at dksX9_hasWord_0 3 rfl rfl)
theorem dX9_hasWord_4 : decode cX9_hasWord 4 = .ok (.getfield 148, 3) := dk_180 0 148 (dk_at dksX9_hasWord_0 4 rfl rfl)
theorem dX9_hasWord_7 : decode cX9_hasWord 7 = .ok (.iload_n 1, 1) := dk_27 (dk_at dksX9_hasWord_0 7 rfl rfl)
theorem dX9_hasWord_8 : decode cX9_hasWord 8 = .ok (.iaload, 1) := dk_46 (dk_at dksX9_hasWord_0 8 rfl rfl)
theorem dX9_hasWord_9 : decode cX9_hasWord 9 = .ok (.aload_n 0, 1) := dk_42 (dk_at dksX9_hasWord_0 9 rfl rfl)
theorem dX9_hasWord_10 : decode cX9_hasWord 10 = .ok (.getfield 151, 3) := dk_180 0 151 (dk_at dksX9_hasWord_0 10 rfl rfl)
theorem dX9_hasWord_13 : decode cX9_hasWord 13 = .ok (.iload_n 1, 1) := dk_27 (dk_at dksX9_hasWord_0 13 rfl rfl)
theorem dX9_hasWord_14 : decode cX9_hasWord 14 = .ok (.iaload, 1) := dk_46 (dk_at dksX9_hasWord_0 14 rfl rfl)
theorem dX9_hasWord_15 : decode cX9_hasWord 15 = .ok (.iadd, 1) := dk_96 (dk_at dksX9_hasWord_0 15 rfl rfl)
theorem dX9_hasWord_16 : decode cX9_hasWord 16 = .ok (.if_icmp .ge 26, 3) := dk_162 0 26 (dk_at dksX9_hasWord_0 16 rfl rfl)
theorem dX9_hasWord_19 : decode cX9_hasWord 19 = .ok (.aload_n 0, 1) := dk_42 (dk_at dksX9_hasWord_0 19 rfl rfl)
theorem dX9_hasWord_20 : decode cX9_hasWord 20 = .ok (.getfield 157, 3) := dk_180 0 157 (dk_at dksX9_hasWord_0 20 rfl rfl)
theorem dX9_hasWord_23 : decode cX9_hasWord 23 = .ok (.bipush 12, 2) := dk_16 12 (dk_at dksX9_hasWord_1 0 rfl rfl)
theorem dX9_hasWord_25 : decode cX9_hasWord 25 = .ok (.iload_n 1, 1) := dk_27 (dk_at dksX9_hasWord_1 2 rfl rfl)
theorem dX9_hasWord_26 : decode cX9_hasWord 26 = .ok (.imul, 1) := dk_104 (dk_at dksX9_hasWord_1 3 rfl rfl)
theorem dX9_hasWord_27 : decode cX9_hasWord 27 = .ok (.iload_n 3, 1) := dk_29 (dk_at dksX9_hasWord_1 4 rfl rfl)
theorem dX9_hasWord_28 : decode cX9_hasWord 28 = .ok (.iadd, 1) := dk_96 (dk_at dksX9_hasWord_1 5 rfl rfl)
theorem dX9_hasWord_29 : decode cX9_hasWord 29 = .ok (.iaload, 1) := dk_46 (dk_at dksX9_hasWord_1 6 rfl rfl)
theorem dX9_hasWord_30 : decode cX9_hasWord 30 = .ok (.iload_n 2, 1) := dk_28 (dk_at dksX9_hasWord_1 7 rfl rfl)
theorem dX9_hasWord_31 : decode cX9_hasWord 31 = .ok (.if_icmp .ne 5, 3) := dk_160 0 5 (dk_at dksX9_hasWord_1 8 rfl rfl)
theorem dX9_hasWord_34 : decode cX9_hasWord 34 = .ok (.iconst 1, 1) := dk_4 (dk_at dksX9_hasWord_1 11 rfl rfl)
theorem dX9_hasWord_35 : decode cX9_hasWord 35 = .ok (.ireturn, 1) := dk_172 (dk_at dksX9_hasWord_1 12 rfl rfl)
theorem dX9_hasWord_36 : decode cX9_hasWord 36 = .ok (.iinc 3 1, 3) := dk_132 3 1 (dk_at dksX9_hasWord_1 13 rfl rfl)
theorem dX9_hasWord_39 : decode cX9_hasWord 39 = .ok (.goto (-37), 3) := dk_167 255 219 (dk_at dksX9_hasWord_1 16 rfl rfl)
theorem dX9_hasWord_42 : decode cX9_hasWord 42 = .ok (.iconst 0, 1) := dk_3 (dk_at dksX9_hasWord_1 19 rfl rfl)
theorem dX9_hasWord_43 : decode cX9_hasWord 43 = .ok (.ireturn, 1) := dk_172 (dk_at dksX9_hasWord_1 20 rfl rfl)
def dkwX9_child_7 : List UInt8 := [96, 62, 132, 4, 1, 167, 255, 211, 29, 172, 2, 172]
abbrev dktX9_child_7 : List UInt8 := dkwX9_child_7 ++ []
def dkwX9_child_6 : List UInt8 := [3, 21, 4, 182, 1, 143, 153, 0, 17, 42, 21, 4, 27, 182, 1, 229, 153, 0, 7, 4, 167, 0, 4, 3]
abbrev dktX9_child_6 : List UInt8 := dkwX9_child_6 ++ dktX9_child_7
def dkwX9_child_5 : List UInt8 := [167, 255, 221, 29, 172, 3, 54, 4, 21, 4, 42, 180, 0, 100, 42, 180, 0, 51, 46, 162, 0, 37, 29, 42]
abbrev dktX9_child_5 : List UInt8 := dkwX9_child_5 ++ dktX9_child_6
def dkwX9_child_4 : List UInt8 := [162, 0, 27, 29, 42, 27, 21, 4, 182, 1, 162, 153, 0, 7, 4, 167, 0, 4, 3, 96, 62, 132, 4, 1]
abbrev dktX9_child_4 : List UInt8 := dkwX9_child_4 ++ dktX9_child_5
def dkwX9_child_3 : List UInt8 := [180, 0, 51, 104, 27, 96, 46, 172, 3, 54, 4, 21, 4, 42, 180, 0, 54, 42, 180, 0, 51, 46]
abbrev dktX9_child_3 : List UInt8 := dkwX9_child_3 ++ dktX9_child_4
def dkwX9_child_2 : List UInt8 := [42, 180, 0, 91, 16, 10, 42, 180, 0, 51, 104, 27, 96, 46, 172, 42, 180, 0, 94, 16, 10, 42]
abbrev dktX9_child_2 : List UInt8 := dkwX9_child_2 ++ dktX9_child_3
def dkwX9_child_1 : List UInt8 := [170, 0, 0, 0, 0, 0, 157, 0, 0, 0, 0, 0, 0, 0, 3, 0, 0, 0, 31, 0, 0, 0, 46, 0, 0, 0, 61, 0, 0, 0, 104]
abbrev dktX9_child_1 : List UInt8 := dkwX9_child_1 ++ dktX9_child_2
def dkwX9_child_0 : List UInt8 := [42, 27, 182, 1, 164, 154, 0, 5, 2, 172, 3, 62, 28]
abbrev dktX9_child_0 : List UInt8 := dkwX9_child_0 ++ dktX9_child_1
theorem dksX9_child_0 : cX9_child.data.toList.drop 0 = dktX9_child_0 := by decide +kernel
theorem dksX9_child_1 : cX9_child.data.toList.drop 13 = dktX9_child_1 := dk_seg dksX9_child_0 13 rfl rfl
theorem dksX9_child_2 : cX9_child.data.toList.drop 44 = dktX9_child_2 := dk_seg dksX9_child_1 31 rfl rfl
theorem dksX9_child_3 : cX9_child.data.toList.drop 66 = dktX9_child_3 := dk_seg dksX9_child_2 22 rfl rfl
theorem dksX9_child_4 : cX9_child.data.toList.drop 88 = dktX9_child_4 := dk_seg dksX9_child_3 22 rfl rfl
theorem dksX9_child_5 : cX9_child.data.toList.drop 112 = dktX9_child_5 := dk_seg dksX9_child_4 24 rfl rfl
theorem dksX9_child_6 : cX9_child.data.toList.drop 136 = dktX9_child_6 := dk_seg dksX9_child_5 24 rfl rfl
theorem dksX9_child_7 : cX9_child.data.toList.drop 160 = dktX9_child_7 := dk_seg dksX9_child_6 24 rfl rfl
theorem dX9_child_0 : decode cX9_child 0 = .ok (.aload_n 0, 1) := dk_42 (dk_at dksX9_child_0 0 rfl rfl)
theorem dX9_child_1 : decode cX9_child 1 = .ok (.iload_n 1, 1) := dk_27 (dk_at dksX9_child_0 1 rfl rfl)
theorem dX9_child_2 : decode cX9_child 2 = .ok (.invokevirtual 420, 3) := dk_182 1 164 (dk_at dksX9_child_0 2 rfl rfl)
theorem dX9_child_5 : decode cX9_child 5 = .ok (.ifCond .ne 5, 3) := dk_154 0 5 (dk_at dksX9_child_0 5 rfl rfl)
theorem dX9_child_8 : decode cX9_child 8 = .ok (.iconst (-1), 1) := dk_2 (dk_at dksX9_child_0 8 rfl rfl)
theorem dX9_child_9 : decode cX9_child 9 = .ok (.ireturn, 1) := dk_172 (dk_at dksX9_child_0 9 rfl rfl)
theorem dX9_child_10 : decode cX9_child 10 = .ok (.iconst 0, 1) := dk_3 (dk_at dksX9_child_0 10 rfl rfl)
theorem dX9_child_11 : decode cX9_child 11 = .ok (.istore_n 3, 1) := dk_62 (dk_at dksX9_child_0 11 rfl rfl)
theorem dX9_child_12 : decode cX9_child 12 = .ok (.iload_n 2, 1) := dk_28 (dk_at dksX9_child_0 12 rfl rfl)
theorem dX9_child_13 : decode cX9_child 13 = .ok (.tableswitch 157 0 3 #[31, 46, 61, 104], 31) := by decide +kernel
theorem dX9_child_44 : decode cX9_child 44 = .ok (.aload_n 0, 1) := dk_42 (dk_at dksX9_child_2 0 rfl rfl)
theorem dX9_child_45 : decode cX9_child 45 = .ok (.getfield 91, 3) := dk_180 0 91 (dk_at dksX9_child_2 1 rfl rfl)
theorem dX9_child_48 : decode cX9_child 48 = .ok (.bipush 10, 2) := dk_16 10 (dk_at dksX9_child_2 4 rfl rfl)
theorem dX9_child_50 : decode cX9_child 50 = .ok (.aload_n 0, 1) := dk_42 (dk_at dksX9_child_2 6 rfl rfl)
theorem dX9_child_51 : decode cX9_child 51 = .ok (.getfield 51, 3) := dk_180 0 51 (dk_at dksX9_child_2 7 rfl rfl)
theorem dX9_child_54 : decode cX9_child 54 = .ok (.imul, 1) := dk_104 (dk_at dksX9_child_2 10 rfl rfl)
theorem dX9_child_55 : decode cX9_child 55 = .ok (.iload_n 1, 1) := dk_27 (dk_at dksX9_child_2 11 rfl rfl)
theorem dX9_child_56 : decode cX9_child 56 = .ok (.iadd, 1) := dk_96 (dk_at dksX9_child_2 12 rfl rfl)
theorem dX9_child_57 : decode cX9_child 57 = .ok (.iaload, 1) := dk_46 (dk_at dksX9_child_2 13 rfl rfl)
theorem dX9_child_58 : decode cX9_child 58 = .ok (.ireturn, 1) := dk_172 (dk_at dksX9_child_2 14 rfl rfl)
theorem dX9_child_59 : decode cX9_child 59 = .ok (.aload_n 0, 1) := dk_42 (dk_at dksX9_child_2 15 rfl rfl)
theorem dX9_child_60 : decode cX9_child 60 = .ok (.getfield 94, 3) := dk_180 0 94 (dk_at dksX9_child_2 16 rfl rfl)
theorem dX9_child_63 : decode cX9_child 63 = .ok (.bipush 10, 2) := dk_16 10 (dk_at dksX9_child_2 19 rfl rfl)
theorem dX9_child_65 : decode cX9_child 65 = .ok (.aload_n 0, 1) := dk_42 (dk_at dksX9_child_2 21 rfl rfl)
theorem dX9_child_66 : decode cX9_child 66 = .ok (.getfield 51, 3) := dk_180 0 51 (dk_at dksX9_child_3 0 rfl rfl)
theorem dX9_child_69 : decode cX9_child 69 = .ok (.imul, 1) := dk_104 (dk_at dksX9_child_3 3 rfl rfl)
theorem dX9_child_70 : decode cX9_child 70 = .ok (.iload_n 1, 1) := dk_27 (dk_at dksX9_child_3 4 rfl rfl)
theorem dX9_child_71 : decode cX9_child 71 = .ok (.iadd, 1) := dk_96 (dk_at dksX9_child_3 5 rfl rfl)
theorem dX9_child_72 : decode cX9_child 72 = .ok (.iaload, 1) := dk_46 (dk_at dksX9_child_3 6 rfl rfl)
theorem dX9_child_73 : decode cX9_child 73 = .ok (.ireturn, 1) := dk_172 (dk_at dksX9_child_3 7 rfl rfl)
theorem dX9_child_74 : decode cX9_child 74 = .ok (.iconst 0, 1) := dk_3 (dk_at dksX9_child_3 8 rfl rfl)
theorem dX9_child_75 : decode cX9_child 75 = .ok (.istore 4, 2) := dk_54 4 (dk_at dksX9_child_3 9 rfl rfl)
theorem dX9_child_77 : decode cX9_child 77 = .ok (.iload 4, 2) := dk_21 4 (dk_at dksX9_child_3 11 rfl rfl)
theorem dX9_child_79 : decode cX9_child 79 = .ok (.aload_n 0, 1) := dk_42 (dk_at dksX9_child_3 13 rfl rfl)
theorem dX9_child_80 : decode cX9_child 80 = .ok (.getfield 54, 3) := dk_180 0 54 (dk_at dksX9_child_3 14 rfl rfl)
theorem dX9_child_83 : decode cX9_child 83 = .ok (.aload_n 0, 1) := dk_42 (dk_at dksX9_child_3 17 rfl rfl)
theorem dX9_child_84 : decode cX9_child 84 = .ok (.getfield 51, 3) := dk_180 0 51 (dk_at dksX9_child_3 18 rfl rfl)
theorem dX9_child_87 : decode cX9_child 87 = .ok (.iaload, 1) := dk_46 (dk_at dksX9_child_3 21 rfl rfl)
theorem dX9_child_88 : decode cX9_child 88 = .ok (.if_icmp .ge 27, 3) := dk_162 0 27 (dk_at dksX9_child_4 0 rfl rfl)
theorem dX9_child_91 : decode cX9_child 91 = .ok (.iload_n 3, 1) := dk_29 (dk_at dksX9_child_4 3 rfl rfl)
theorem dX9_child_92 : decode cX9_child 92 = .ok (.aload_n 0, 1) := dk_42 (dk_at dksX9_child_4 4 rfl rfl)
theorem dX9_child_93 : decode cX9_child 93 = .ok (.iload_n 1, 1) := dk_27 (dk_at dksX9_child_4 5 rfl rfl)
theorem dX9_child_94 : decode cX9_child 94 = .ok (.iload 4, 2) := dk_21 4 (dk_at dksX9_child_4 6 rfl rfl)
theorem dX9_child_96 : decode cX9_child 96 = .ok (.invokevirtual 418, 3) := dk_182 1 162 (dk_at dksX9_child_4 8 rfl rfl)
theorem dX9_child_99 : decode cX9_child 99 = .ok (.ifCond .eq 7, 3) := dk_153 0 7 (dk_at dksX9_child_4 11 rfl rfl)
theorem dX9_child_102 : decode cX9_child 102 = .ok (.iconst 1, 1) := dk_4 (dk_at dksX9_child_4 14 rfl rfl)
theorem dX9_child_103 : decode cX9_child 103 = .ok (.goto 4, 3) := dk_167 0 4 (dk_at dksX9_child_4 15 rfl rfl)
theorem dX9_child_106 : decode cX9_child 106 = .ok (.iconst 0, 1) := dk_3 (dk_at dksX9_child_4 18 rfl rfl)
theorem dX9_child_107 : decode cX9_child 107 = .ok (.iadd, 1) := dk_96 (dk_at dksX9_child_4 19 rfl rfl)
theorem dX9_child_108 : decode cX9_child 108 = .ok (.istore_n 3, 1) := dk_62 (dk_at dksX9_child_4 20 rfl rfl)
theorem dX9_child_109 : decode cX9_child 109 = .ok (.iinc 4 1, 3) := dk_132 4 1 (dk_at dksX9_child_4 21 rfl rfl)
theorem dX9_child_112 : decode cX9_child 112 = .ok (.goto (-35), 3) := dk_167 255 221 (dk_at dksX9_child_5 0 rfl rfl)
theorem dX9_child_115 : decode cX9_child 115 = .ok (.iload_n 3, 1) := dk_29 (dk_at dksX9_child_5 3 rfl rfl)
theorem dX9_child_116 : decode cX9_child 116 = .ok (.ireturn, 1) := dk_172 (dk_at dksX9_child_5 4 rfl rfl)
theorem dX9_child_117 : decode cX9_child 117 = .ok (.iconst 0, 1) := dk_3 (dk_at dksX9_child_5 5 rfl rfl)
theorem dX9_child_118 : decode cX9_child 118 = .ok (.istore 4, 2) := dk_54 4 (dk_at dksX9_child_5 6 rfl rfl)
theorem dX9_child_120 : decode cX9_child 120 = .ok (.iload 4, 2) := dk_21 4 (dk_at dksX9_child_5 8 rfl rfl)
theorem dX9_child_122 : decode cX9_child 122 = .ok (.aload_n 0, 1) := dk_42 (dk_at dksX9_child_5 10 rfl rfl)
theorem dX9_child_123 : decode cX9_child 123 = .ok (.getfield 100, 3) := dk_180 0 100 (dk_at dksX9_child_5 11 rfl rfl)
theorem dX9_child_126 : decode cX9_child 126 = .ok (.aload_n 0, 1) := dk_42 (dk_at dksX9_child_5 14 rfl rfl)
theorem dX9_child_127 : decode cX9_child 127 = .ok (.getfield 51, 3) := dk_180 0 51 (dk_at dksX9_child_5 15 rfl rfl)
theorem dX9_child_130 : decode cX9_child 130 = .ok (.iaload, 1) := dk_46 (dk_at dksX9_child_5 18 rfl rfl)
theorem dX9_child_131 : decode cX9_child 131 = .ok (.if_icmp .ge 37, 3) := dk_162 0 37 (dk_at dksX9_child_5 19 rfl rfl)
theorem dX9_child_134 : decode cX9_child 134 = .ok (.iload_n 3, 1) := dk_29 (dk_at dksX9_child_5 22 rfl rfl)
theorem dX9_child_135 : decode cX9_child 135 = .ok (.aload_n 0, 1) := dk_42 (dk_at dksX9_child_5 23 rfl rfl)
theorem dX9_child_136 : decode cX9_child 136 = .ok (.iconst 0, 1) := dk_3 (dk_at dksX9_child_6 0 rfl rfl)
theorem dX9_child_137 : decode cX9_child 137 = .ok (.iload 4, 2) := dk_21 4 (dk_at dksX9_child_6 1 rfl rfl)
theorem dX9_child_139 : decode cX9_child 139 = .ok (.invokevirtual 399, 3) := dk_182 1 143 (dk_at dksX9_child_6 3 rfl rfl)
theorem dX9_child_142 : decode cX9_child 142 = .ok (.ifCond .eq 17, 3) := dk_153 0 17 (dk_at dksX9_child_6 6 rfl rfl)
theorem dX9_child_145 : decode cX9_child 145 = .ok (.aload_n 0, 1) := dk_42 (dk_at dksX9_child_6 9 rfl rfl)
theorem dX9_child_146 : decode cX9_child 146 = .ok (.iload 4, 2) := dk_21 4 (dk_at dksX9_child_6 10 rfl rfl)
theorem dX9_child_148 : decode cX9_child 148 = .ok (.iload_n 1, 1) := dk_27 (dk_at dksX9_child_6 12 rfl rfl)
theorem dX9_child_149 : decode cX9_child 149 = .ok (.invokevirtual 485, 3) := dk_182 1 229 (dk_at dksX9_child_6 13 rfl rfl)
theorem dX9_child_152 : decode cX9_child 152 = .ok (.ifCond .eq 7, 3) := dk_153 0 7 (dk_at dksX9_child_6 16 rfl rfl)
theorem dX9_child_155 : decode cX9_child 155 = .ok (.iconst 1, 1) := dk_4 (dk_at dksX9_child_6 19 rfl rfl)
theorem dX9_child_156 : decode cX9_child 156 = .ok (.goto 4, 3) := dk_167 0 4 (dk_at dksX9_child_6 20 rfl rfl)
theorem dX9_child_159 : decode cX9_child 159 = .ok (.iconst 0, 1) := dk_3 (dk_at dksX9_child_6 23 rfl rfl)
theorem dX9_child_160 : decode cX9_child 160 = .ok (.iadd, 1) := dk_96 (dk_at dksX9_child_7 0 rfl rfl)
theorem dX9_child_161 : decode cX9_child 161 = .ok (.istore_n 3, 1) := dk_62 (dk_at dksX9_child_7 1 rfl rfl)
theorem dX9_child_162 : decode cX9_child 162 = .ok (.iinc 4 1, 3) := dk_132 4 1 (dk_at dksX9_child_7 2 rfl rfl)
theorem dX9_child_165 : decode cX9_child 165 = .ok (.goto (-45), 3) := dk_167 255 211 (dk_at dksX9_child_7 5 rfl rfl)
theorem dX9_child_168 : decode cX9_child 168 = .ok (.iload_n 3, 1) := dk_29 (dk_at dksX9_child_7 8 rfl rfl)
theorem dX9_child_169 : decode cX9_child 169 = .ok (.ireturn, 1) := dk_172 (dk_at dksX9_child_7 9 rfl rfl)
theorem dX9_child_170 : decode cX9_child 170 = .ok (.iconst (-1), 1) := dk_2 (dk_at dksX9_child_7 10 rfl rfl)
theorem dX9_child_171 : decode cX9_child 171 = .ok (.ireturn, 1) := dk_172 (dk_at dksX9_child_7 11 rfl rfl)
def dkwX9_standsBy_0 : List UInt8 := [42, 3, 27, 182, 1, 176, 42, 28, 182, 1, 179, 42, 180, 0, 197, 154, 0, 7, 4, 167, 0, 4, 3, 172]
abbrev dktX9_standsBy_0 : List UInt8 := dkwX9_standsBy_0 ++ []
theorem dksX9_standsBy_0 : cX9_standsBy.data.toList.drop 0 = dktX9_standsBy_0 := by decide +kernel
theorem dX9_standsBy_0 : decode cX9_standsBy 0 = .ok (.aload_n 0, 1) := dk_42 (dk_at dksX9_standsBy_0 0 rfl rfl)
theorem dX9_standsBy_1 : decode cX9_standsBy 1 = .ok (.iconst 0, 1) := dk_3 (dk_at dksX9_standsBy_0 1 rfl rfl)
theorem dX9_standsBy_2 : decode cX9_standsBy 2 = .ok (.iload_n 1, 1) := dk_27 (dk_at dksX9_standsBy_0 2 rfl rfl)
theorem dX9_standsBy_3 : decode cX9_standsBy 3 = .ok (.invokevirtual 432, 3) := dk_182 1 176 (dk_at dksX9_standsBy_0 3 rfl rfl)
theorem dX9_standsBy_6 : decode cX9_standsBy 6 = .ok (.aload_n 0, 1) := dk_42 (dk_at dksX9_standsBy_0 6 rfl rfl)
theorem dX9_standsBy_7 : decode cX9_standsBy 7 = .ok (.iload_n 2, 1) := dk_28 (dk_at dksX9_standsBy_0 7 rfl rfl)
theorem dX9_standsBy_8 : decode cX9_standsBy 8 = .ok (.invokevirtual 435, 3) := dk_182 1 179 (dk_at dksX9_standsBy_0 8 rfl rfl)
theorem dX9_standsBy_11 : decode cX9_standsBy 11 = .ok (.aload_n 0, 1) := dk_42 (dk_at dksX9_standsBy_0 11 rfl rfl)
theorem dX9_standsBy_12 : decode cX9_standsBy 12 = .ok (.getfield 197, 3) := dk_180 0 197 (dk_at dksX9_standsBy_0 12 rfl rfl)
theorem dX9_standsBy_15 : decode cX9_standsBy 15 = .ok (.ifCond .ne 7, 3) := dk_154 0 7 (dk_at dksX9_standsBy_0 15 rfl rfl)
theorem dX9_standsBy_18 : decode cX9_standsBy 18 = .ok (.iconst 1, 1) := dk_4 (dk_at dksX9_standsBy_0 18 rfl rfl)
theorem dX9_standsBy_19 : decode cX9_standsBy 19 = .ok (.goto 4, 3) := dk_167 0 4 (dk_at dksX9_standsBy_0 19 rfl rfl)
theorem dX9_standsBy_22 : decode cX9_standsBy 22 = .ok (.iconst 0, 1) := dk_3 (dk_at dksX9_standsBy_0 22 rfl rfl)
theorem dX9_standsBy_23 : decode cX9_standsBy 23 = .ok (.ireturn, 1) := dk_172 (dk_at dksX9_standsBy_0 23 rfl rfl)
def dkwX9_law_9 : List UInt8 := [2, 172]
abbrev dktX9_law_9 : List UInt8 := dkwX9_law_9 ++ []
def dkwX9_law_8 : List UInt8 := [167, 255, 207, 29, 172, 42, 3, 27, 182, 1, 143, 153, 0, 11, 42, 27, 182, 1, 232, 167, 0, 4, 3, 172]
abbrev dktX9_law_8 : List UInt8 := dkwX9_law_8 ++ dktX9_law_9
def dkwX9_law_7 : List UInt8 := [180, 0, 51, 104, 42, 180, 0, 157, 16, 12, 27, 104, 21, 4, 96, 46, 96, 46, 96, 62, 132, 4, 1]
abbrev dktX9_law_7 : List UInt8 := dkwX9_law_7 ++ dktX9_law_8
def dkwX9_law_6 : List UInt8 := [180, 0, 148, 27, 46, 42, 180, 0, 151, 27, 46, 96, 162, 0, 37, 29, 42, 180, 0, 61, 16, 24, 42]
abbrev dktX9_law_6 : List UInt8 := dkwX9_law_6 ++ dktX9_law_7
def dkwX9_law_5 : List UInt8 := [180, 0, 145, 29, 46, 27, 159, 0, 9, 132, 3, 1, 167, 255, 243, 29, 172, 3, 54, 4, 21, 4, 42]
abbrev dktX9_law_5 : List UInt8 := dkwX9_law_5 ++ dktX9_law_6
def dkwX9_law_4 : List UInt8 := [42, 180, 0, 148, 27, 46, 172, 42, 180, 0, 151, 27, 46, 172, 42, 180, 0, 154, 27, 46, 172, 42]
abbrev dktX9_law_4 : List UInt8 := dkwX9_law_4 ++ dktX9_law_5
def dkwX9_law_3 : List UInt8 := [170, 0, 0, 0, 0, 0, 154, 0, 0, 0, 0, 0, 0, 0, 5, 0, 0, 0, 39, 0, 0, 0, 46, 0, 0, 0, 53, 0, 0, 0, 60, 0, 0, 0, 78, 0, 0, 0, 135]
abbrev dktX9_law_3 : List UInt8 := dkwX9_law_3 ++ dktX9_law_4
def dkwX9_law_2 : List UInt8 := [100, 46, 172, 3, 62, 28]
abbrev dktX9_law_2 : List UInt8 := dkwX9_law_2 ++ dktX9_law_3
def dkwX9_law_1 : List UInt8 := [180, 0, 151, 27, 46, 96, 184, 1, 68, 153, 0, 18, 42, 180, 0, 157, 16, 12, 27, 104, 28, 96, 16, 10]
abbrev dktX9_law_1 : List UInt8 := dkwX9_law_1 ++ dktX9_law_2
def dkwX9_law_0 : List UInt8 := [42, 27, 182, 1, 140, 154, 0, 5, 2, 172, 28, 16, 10, 16, 9, 42, 180, 0, 148, 27, 46, 96, 42]
abbrev dktX9_law_0 : List UInt8 := dkwX9_law_0 ++ dktX9_law_1
theorem dksX9_law_0 : cX9_law.data.toList.drop 0 = dktX9_law_0 := by decide +kernel
theorem dksX9_law_1 : cX9_law.data.toList.drop 23 = dktX9_law_1 := dk_seg dksX9_law_0 23 rfl rfl
theorem dksX9_law_2 : cX9_law.data.toList.drop 47 = dktX9_law_2 := dk_seg dksX9_law_1 24 rfl rfl
theorem dksX9_law_3 : cX9_law.data.toList.drop 53 = dktX9_law_3 := dk_seg dksX9_law_2 6 rfl rfl
theorem dksX9_law_4 : cX9_law.data.toList.drop 92 = dktX9_law_4 := dk_seg dksX9_law_3 39 rfl rfl
theorem dksX9_law_5 : cX9_law.data.toList.drop 114 = dktX9_law_5 := dk_seg dksX9_law_4 22 rfl rfl
theorem dksX9_law_6 : cX9_law.data.toList.drop 137 = dktX9_law_6 := dk_seg dksX9_law_5 23 rfl rfl
theorem dksX9_law_7 : cX9_law.data.toList.drop 160 = dktX9_law_7 := dk_seg dksX9_law_6 23 rfl rfl
theorem dksX9_law_8 : cX9_law.data.toList.drop 183 = dktX9_law_8 := dk_seg dksX9_law_7 23 rfl rfl
theorem dksX9_law_9 : cX9_law.data.toList.drop 207 = dktX9_law_9 := dk_seg dksX9_law_8 24 rfl rfl
theorem dX9_law_0 : decode cX9_law 0 = .ok (.aload_n 0, 1) := dk_42 (dk_at dksX9_law_0 0 rfl rfl)
theorem dX9_law_1 : decode cX9_law 1 = .ok (.iload_n 1, 1) := dk_27 (dk_at dksX9_law_0 1 rfl rfl)
theorem dX9_law_2 : decode cX9_law 2 = .ok (.invokevirtual 396, 3) := dk_182 1 140 (dk_at dksX9_law_0 2 rfl rfl)
theorem dX9_law_5 : decode cX9_law 5 = .ok (.ifCond .ne 5, 3) := dk_154 0 5 (dk_at dksX9_law_0 5 rfl rfl)
theorem dX9_law_8 : decode cX9_law 8 = .ok (.iconst (-1), 1) := dk_2 (dk_at dksX9_law_0 8 rfl rfl)
theorem dX9_law_9 : decode cX9_law 9 = .ok (.ireturn, 1) := dk_172 (dk_at dksX9_law_0 9 rfl rfl)
theorem dX9_law_10 : decode cX9_law 10 = .ok (.iload_n 2, 1) := dk_28 (dk_at dksX9_law_0 10 rfl rfl)
theorem dX9_law_11 : decode cX9_law 11 = .ok (.bipush 10, 2) := dk_16 10 (dk_at dksX9_law_0 11 rfl rfl)
theorem dX9_law_13 : decode cX9_law 13 = .ok (.bipush 9, 2) := dk_16 9 (dk_at dksX9_law_0 13 rfl rfl)
theorem dX9_law_15 : decode cX9_law 15 = .ok (.aload_n 0, 1) := dk_42 (dk_at dksX9_law_0 15 rfl rfl)
theorem dX9_law_16 : decode cX9_law 16 = .ok (.getfield 148, 3) := dk_180 0 148 (dk_at dksX9_law_0 16 rfl rfl)
theorem dX9_law_19 : decode cX9_law 19 = .ok (.iload_n 1, 1) := dk_27 (dk_at dksX9_law_0 19 rfl rfl)
theorem dX9_law_20 : decode cX9_law 20 = .ok (.iaload, 1) := dk_46 (dk_at dksX9_law_0 20 rfl rfl)
theorem dX9_law_21 : decode cX9_law 21 = .ok (.iadd, 1) := dk_96 (dk_at dksX9_law_0 21 rfl rfl)
theorem dX9_law_22 : decode cX9_law 22 = .ok (.aload_n 0, 1) := dk_42 (dk_at dksX9_law_0 22 rfl rfl)
theorem dX9_law_23 : decode cX9_law 23 = .ok (.getfield 151, 3) := dk_180 0 151 (dk_at dksX9_law_1 0 rfl rfl)
theorem dX9_law_26 : decode cX9_law 26 = .ok (.iload_n 1, 1) := dk_27 (dk_at dksX9_law_1 3 rfl rfl)
theorem dX9_law_27 : decode cX9_law 27 = .ok (.iaload, 1) := dk_46 (dk_at dksX9_law_1 4 rfl rfl)
theorem dX9_law_28 : decode cX9_law 28 = .ok (.iadd, 1) := dk_96 (dk_at dksX9_law_1 5 rfl rfl)
theorem dX9_law_29 : decode cX9_law 29 = .ok (.invokestatic 324, 3) := dk_184 1 68 (dk_at dksX9_law_1 6 rfl rfl)
theorem dX9_law_32 : decode cX9_law 32 = .ok (.ifCond .eq 18, 3) := dk_153 0 18 (dk_at dksX9_law_1 9 rfl rfl)
theorem dX9_law_35 : decode cX9_law 35 = .ok (.aload_n 0, 1) := dk_42 (dk_at dksX9_law_1 12 rfl rfl)
theorem dX9_law_36 : decode cX9_law 36 = .ok (.getfield 157, 3) := dk_180 0 157 (dk_at dksX9_law_1 13 rfl rfl)
theorem dX9_law_39 : decode cX9_law 39 = .ok (.bipush 12, 2) := dk_16 12 (dk_at dksX9_law_1 16 rfl rfl)
theorem dX9_law_41 : decode cX9_law 41 = .ok (.iload_n 1, 1) := dk_27 (dk_at dksX9_law_1 18 rfl rfl)
theorem dX9_law_42 : decode cX9_law 42 = .ok (.imul, 1) := dk_104 (dk_at dksX9_law_1 19 rfl rfl)
theorem dX9_law_43 : decode cX9_law 43 = .ok (.iload_n 2, 1) := dk_28 (dk_at dksX9_law_1 20 rfl rfl)
theorem dX9_law_44 : decode cX9_law 44 = .ok (.iadd, 1) := dk_96 (dk_at dksX9_law_1 21 rfl rfl)
theorem dX9_law_45 : decode cX9_law 45 = .ok (.bipush 10, 2) := dk_16 10 (dk_at dksX9_law_1 22 rfl rfl)
theorem dX9_law_47 : decode cX9_law 47 = .ok (.isub, 1) := dk_100 (dk_at dksX9_law_2 0 rfl rfl)
theorem dX9_law_48 : decode cX9_law 48 = .ok (.iaload, 1) := dk_46 (dk_at dksX9_law_2 1 rfl rfl)
theorem dX9_law_49 : decode cX9_law 49 = .ok (.ireturn, 1) := dk_172 (dk_at dksX9_law_2 2 rfl rfl)
theorem dX9_law_50 : decode cX9_law 50 = .ok (.iconst 0, 1) := dk_3 (dk_at dksX9_law_2 3 rfl rfl)
theorem dX9_law_51 : decode cX9_law 51 = .ok (.istore_n 3, 1) := dk_62 (dk_at dksX9_law_2 4 rfl rfl)
theorem dX9_law_52 : decode cX9_law 52 = .ok (.iload_n 2, 1) := dk_28 (dk_at dksX9_law_2 5 rfl rfl)
theorem dX9_law_53 : decode cX9_law 53 = .ok (.tableswitch 154 0 5 #[39, 46, 53, 60, 78, 135], 39) := by decide +kernel
theorem dX9_law_92 : decode cX9_law 92 = .ok (.aload_n 0, 1) := dk_42 (dk_at dksX9_law_4 0 rfl rfl)
theorem dX9_law_93 : decode cX9_law 93 = .ok (.getfield 148, 3) := dk_180 0 148 (dk_at dksX9_law_4 1 rfl rfl)
theorem dX9_law_96 : decode cX9_law 96 = .ok (.iload_n 1, 1) := dk_27 (dk_at dksX9_law_4 4 rfl rfl)
theorem dX9_law_97 : decode cX9_law 97 = .ok (.iaload, 1) := dk_46 (dk_at dksX9_law_4 5 rfl rfl)
theorem dX9_law_98 : decode cX9_law 98 = .ok (.ireturn, 1) := dk_172 (dk_at dksX9_law_4 6 rfl rfl)
theorem dX9_law_99 : decode cX9_law 99 = .ok (.aload_n 0, 1) := dk_42 (dk_at dksX9_law_4 7 rfl rfl)
theorem dX9_law_100 : decode cX9_law 100 = .ok (.getfield 151, 3) := dk_180 0 151 (dk_at dksX9_law_4 8 rfl rfl)
theorem dX9_law_103 : decode cX9_law 103 = .ok (.iload_n 1, 1) := dk_27 (dk_at dksX9_law_4 11 rfl rfl)
theorem dX9_law_104 : decode cX9_law 104 = .ok (.iaload, 1) := dk_46 (dk_at dksX9_law_4 12 rfl rfl)
theorem dX9_law_105 : decode cX9_law 105 = .ok (.ireturn, 1) := dk_172 (dk_at dksX9_law_4 13 rfl rfl)
theorem dX9_law_106 : decode cX9_law 106 = .ok (.aload_n 0, 1) := dk_42 (dk_at dksX9_law_4 14 rfl rfl)
theorem dX9_law_107 : decode cX9_law 107 = .ok (.getfield 154, 3) := dk_180 0 154 (dk_at dksX9_law_4 15 rfl rfl)
theorem dX9_law_110 : decode cX9_law 110 = .ok (.iload_n 1, 1) := dk_27 (dk_at dksX9_law_4 18 rfl rfl)
theorem dX9_law_111 : decode cX9_law 111 = .ok (.iaload, 1) := dk_46 (dk_at dksX9_law_4 19 rfl rfl)
theorem dX9_law_112 : decode cX9_law 112 = .ok (.ireturn, 1) := dk_172 (dk_at dksX9_law_4 20 rfl rfl)
theorem dX9_law_113 : decode cX9_law 113 = .ok (.aload_n 0, 1) := dk_42 (dk_at dksX9_law_4 21 rfl rfl)
theorem dX9_law_114 : decode cX9_law 114 = .ok (.getfield 145, 3) := dk_180 0 145 (dk_at dksX9_law_5 0 rfl rfl)
theorem dX9_law_117 : decode cX9_law 117 = .ok (.iload_n 3, 1) := dk_29 (dk_at dksX9_law_5 3 rfl rfl)
theorem dX9_law_118 : decode cX9_law 118 = .ok (.iaload, 1) := dk_46 (dk_at dksX9_law_5 4 rfl rfl)
theorem dX9_law_119 : decode cX9_law 119 = .ok (.iload_n 1, 1) := dk_27 (dk_at dksX9_law_5 5 rfl rfl)
theorem dX9_law_120 : decode cX9_law 120 = .ok (.if_icmp .eq 9, 3) := dk_159 0 9 (dk_at dksX9_law_5 6 rfl rfl)
theorem dX9_law_123 : decode cX9_law 123 = .ok (.iinc 3 1, 3) := dk_132 3 1 (dk_at dksX9_law_5 9 rfl rfl)
theorem dX9_law_126 : decode cX9_law 126 = .ok (.goto (-13), 3) := dk_167 255 243 (dk_at dksX9_law_5 12 rfl rfl)
theorem dX9_law_129 : decode cX9_law 129 = .ok (.iload_n 3, 1) := dk_29 (dk_at dksX9_law_5 15 rfl rfl)
theorem dX9_law_130 : decode cX9_law 130 = .ok (.ireturn, 1) := dk_172 (dk_at dksX9_law_5 16 rfl rfl)
theorem dX9_law_131 : decode cX9_law 131 = .ok (.iconst 0, 1) := dk_3 (dk_at dksX9_law_5 17 rfl rfl)
theorem dX9_law_132 : decode cX9_law 132 = .ok (.istore 4, 2) := dk_54 4 (dk_at dksX9_law_5 18 rfl rfl)
theorem dX9_law_134 : decode cX9_law 134 = .ok (.iload 4, 2) := dk_21 4 (dk_at dksX9_law_5 20 rfl rfl)
theorem dX9_law_136 : decode cX9_law 136 = .ok (.aload_n 0, 1) := dk_42 (dk_at dksX9_law_5 22 rfl rfl)
theorem dX9_law_137 : decode cX9_law 137 = .ok (.getfield 148, 3) := dk_180 0 148 (dk_at dksX9_law_6 0 rfl rfl)
theorem dX9_law_140 : decode cX9_law 140 = .ok (.iload_n 1, 1) := dk_27 (dk_at dksX9_law_6 3 rfl rfl)
theorem dX9_law_141 : decode cX9_law 141 = .ok (.iaload, 1) := dk_46 (dk_at dksX9_law_6 4 rfl rfl)
theorem dX9_law_142 : decode cX9_law 142 = .ok (.aload_n 0, 1) := dk_42 (dk_at dksX9_law_6 5 rfl rfl)
theorem dX9_law_143 : decode cX9_law 143 = .ok (.getfield 151, 3) := dk_180 0 151 (dk_at dksX9_law_6 6 rfl rfl)
theorem dX9_law_146 : decode cX9_law 146 = .ok (.iload_n 1, 1) := dk_27 (dk_at dksX9_law_6 9 rfl rfl)
theorem dX9_law_147 : decode cX9_law 147 = .ok (.iaload, 1) := dk_46 (dk_at dksX9_law_6 10 rfl rfl)
theorem dX9_law_148 : decode cX9_law 148 = .ok (.iadd, 1) := dk_96 (dk_at dksX9_law_6 11 rfl rfl)
theorem dX9_law_149 : decode cX9_law 149 = .ok (.if_icmp .ge 37, 3) := dk_162 0 37 (dk_at dksX9_law_6 12 rfl rfl)
theorem dX9_law_152 : decode cX9_law 152 = .ok (.iload_n 3, 1) := dk_29 (dk_at dksX9_law_6 15 rfl rfl)
theorem dX9_law_153 : decode cX9_law 153 = .ok (.aload_n 0, 1) := dk_42 (dk_at dksX9_law_6 16 rfl rfl)
theorem dX9_law_154 : decode cX9_law 154 = .ok (.getfield 61, 3) := dk_180 0 61 (dk_at dksX9_law_6 17 rfl rfl)
theorem dX9_law_157 : decode cX9_law 157 = .ok (.bipush 24, 2) := dk_16 24 (dk_at dksX9_law_6 20 rfl rfl)
theorem dX9_law_159 : decode cX9_law 159 = .ok (.aload_n 0, 1) := dk_42 (dk_at dksX9_law_6 22 rfl rfl)
theorem dX9_law_160 : decode cX9_law 160 = .ok (.getfield 51, 3) := dk_180 0 51 (dk_at dksX9_law_7 0 rfl rfl)
theorem dX9_law_163 : decode cX9_law 163 = .ok (.imul, 1) := dk_104 (dk_at dksX9_law_7 3 rfl rfl)
theorem dX9_law_164 : decode cX9_law 164 = .ok (.aload_n 0, 1) := dk_42 (dk_at dksX9_law_7 4 rfl rfl)
theorem dX9_law_165 : decode cX9_law 165 = .ok (.getfield 157, 3) := dk_180 0 157 (dk_at dksX9_law_7 5 rfl rfl)
theorem dX9_law_168 : decode cX9_law 168 = .ok (.bipush 12, 2) := dk_16 12 (dk_at dksX9_law_7 8 rfl rfl)
theorem dX9_law_170 : decode cX9_law 170 = .ok (.iload_n 1, 1) := dk_27 (dk_at dksX9_law_7 10 rfl rfl)
theorem dX9_law_171 : decode cX9_law 171 = .ok (.imul, 1) := dk_104 (dk_at dksX9_law_7 11 rfl rfl)
theorem dX9_law_172 : decode cX9_law 172 = .ok (.iload 4, 2) := dk_21 4 (dk_at dksX9_law_7 12 rfl rfl)
theorem dX9_law_174 : decode cX9_law 174 = .ok (.iadd, 1) := dk_96 (dk_at dksX9_law_7 14 rfl rfl)
theorem dX9_law_175 : decode cX9_law 175 = .ok (.iaload, 1) := dk_46 (dk_at dksX9_law_7 15 rfl rfl)
theorem dX9_law_176 : decode cX9_law 176 = .ok (.iadd, 1) := dk_96 (dk_at dksX9_law_7 16 rfl rfl)
theorem dX9_law_177 : decode cX9_law 177 = .ok (.iaload, 1) := dk_46 (dk_at dksX9_law_7 17 rfl rfl)
theorem dX9_law_178 : decode cX9_law 178 = .ok (.iadd, 1) := dk_96 (dk_at dksX9_law_7 18 rfl rfl)
theorem dX9_law_179 : decode cX9_law 179 = .ok (.istore_n 3, 1) := dk_62 (dk_at dksX9_law_7 19 rfl rfl)
theorem dX9_law_180 : decode cX9_law 180 = .ok (.iinc 4 1, 3) := dk_132 4 1 (dk_at dksX9_law_7 20 rfl rfl)
theorem dX9_law_183 : decode cX9_law 183 = .ok (.goto (-49), 3) := dk_167 255 207 (dk_at dksX9_law_8 0 rfl rfl)
theorem dX9_law_186 : decode cX9_law 186 = .ok (.iload_n 3, 1) := dk_29 (dk_at dksX9_law_8 3 rfl rfl)
theorem dX9_law_187 : decode cX9_law 187 = .ok (.ireturn, 1) := dk_172 (dk_at dksX9_law_8 4 rfl rfl)
theorem dX9_law_188 : decode cX9_law 188 = .ok (.aload_n 0, 1) := dk_42 (dk_at dksX9_law_8 5 rfl rfl)
theorem dX9_law_189 : decode cX9_law 189 = .ok (.iconst 0, 1) := dk_3 (dk_at dksX9_law_8 6 rfl rfl)
theorem dX9_law_190 : decode cX9_law 190 = .ok (.iload_n 1, 1) := dk_27 (dk_at dksX9_law_8 7 rfl rfl)
theorem dX9_law_191 : decode cX9_law 191 = .ok (.invokevirtual 399, 3) := dk_182 1 143 (dk_at dksX9_law_8 8 rfl rfl)
theorem dX9_law_194 : decode cX9_law 194 = .ok (.ifCond .eq 11, 3) := dk_153 0 11 (dk_at dksX9_law_8 11 rfl rfl)
theorem dX9_law_197 : decode cX9_law 197 = .ok (.aload_n 0, 1) := dk_42 (dk_at dksX9_law_8 14 rfl rfl)
theorem dX9_law_198 : decode cX9_law 198 = .ok (.iload_n 1, 1) := dk_27 (dk_at dksX9_law_8 15 rfl rfl)
theorem dX9_law_199 : decode cX9_law 199 = .ok (.invokevirtual 488, 3) := dk_182 1 232 (dk_at dksX9_law_8 16 rfl rfl)
theorem dX9_law_202 : decode cX9_law 202 = .ok (.goto 4, 3) := dk_167 0 4 (dk_at dksX9_law_8 19 rfl rfl)
theorem dX9_law_205 : decode cX9_law 205 = .ok (.iconst 0, 1) := dk_3 (dk_at dksX9_law_8 22 rfl rfl)
theorem dX9_law_206 : decode cX9_law 206 = .ok (.ireturn, 1) := dk_172 (dk_at dksX9_law_8 23 rfl rfl)
theorem dX9_law_207 : decode cX9_law 207 = .ok (.iconst (-1), 1) := dk_2 (dk_at dksX9_law_9 0 rfl rfl)
theorem dX9_law_208 : decode cX9_law 208 = .ok (.ireturn, 1) := dk_172 (dk_at dksX9_law_9 1 rfl rfl)
def dkwX9_childrenOf_1 : List UInt8 := [153, 0, 7, 4, 167, 0, 4, 3, 96, 61, 132, 3, 1, 167, 255, 223, 28, 172]
abbrev dktX9_childrenOf_1 : List UInt8 := dkwX9_childrenOf_1 ++ []
def dkwX9_childrenOf_0 : List UInt8 := [3, 61, 3, 62, 29, 42, 180, 0, 85, 42, 180, 0, 51, 46, 162, 0, 26, 28, 42, 27, 29, 182, 1, 229]
abbrev dktX9_childrenOf_0 : List UInt8 := dkwX9_childrenOf_0 ++ dktX9_childrenOf_1
theorem dksX9_childrenOf_0 : cX9_childrenOf.data.toList.drop 0 = dktX9_childrenOf_0 := by decide +kernel
theorem dksX9_childrenOf_1 : cX9_childrenOf.data.toList.drop 24 = dktX9_childrenOf_1 := dk_seg dksX9_childrenOf_0 24 rfl rfl
theorem dX9_childrenOf_0 : decode cX9_childrenOf 0 = .ok (.iconst 0, 1) := dk_3 (dk_at dksX9_childrenOf_0 0 rfl rfl)
theorem dX9_childrenOf_1 : decode cX9_childrenOf 1 = .ok (.istore_n 2, 1) := dk_61 (dk_at dksX9_childrenOf_0 1 rfl rfl)
theorem dX9_childrenOf_2 : decode cX9_childrenOf 2 = .ok (.iconst 0, 1) := dk_3 (dk_at dksX9_childrenOf_0 2 rfl rfl)
theorem dX9_childrenOf_3 : decode cX9_childrenOf 3 = .ok (.istore_n 3, 1) := dk_62 (dk_at dksX9_childrenOf_0 3 rfl rfl)
theorem dX9_childrenOf_4 : decode cX9_childrenOf 4 = .ok (.iload_n 3, 1) := dk_29 (dk_at dksX9_childrenOf_0 4 rfl rfl)
theorem dX9_childrenOf_5 : decode cX9_childrenOf 5 = .ok (.aload_n 0, 1) := dk_42 (dk_at dksX9_childrenOf_0 5 rfl rfl)
theorem dX9_childrenOf_6 : decode cX9_childrenOf 6 = .ok (.getfield 85, 3) := dk_180 0 85 (dk_at dksX9_childrenOf_0 6 rfl rfl)
theorem dX9_childrenOf_9 : decode cX9_childrenOf 9 = .ok (.aload_n 0, 1) := dk_42 (dk_at dksX9_childrenOf_0 9 rfl rfl)
theorem dX9_childrenOf_10 : decode cX9_childrenOf 10 = .ok (.getfield 51, 3) := dk_180 0 51 (dk_at dksX9_childrenOf_0 10 rfl rfl)
theorem dX9_childrenOf_13 : decode cX9_childrenOf 13 = .ok (.iaload, 1) := dk_46 (dk_at dksX9_childrenOf_0 13 rfl rfl)
theorem dX9_childrenOf_14 : decode cX9_childrenOf 14 = .ok (.if_icmp .ge 26, 3) := dk_162 0 26 (dk_at dksX9_childrenOf_0 14 rfl rfl)
theorem dX9_childrenOf_17 : decode cX9_childrenOf 17 = .ok (.iload_n 2, 1) := dk_28 (dk_at dksX9_childrenOf_0 17 rfl rfl)
theorem dX9_childrenOf_18 : decode cX9_childrenOf 18 = .ok (.aload_n 0, 1) := dk_42 (dk_at dksX9_childrenOf_0 18 rfl rfl)
theorem dX9_childrenOf_19 : decode cX9_childrenOf 19 = .ok (.iload_n 1, 1) := dk_27 (dk_at dksX9_childrenOf_0 19 rfl rfl)
theorem dX9_childrenOf_20 : decode cX9_childrenOf 20 = .ok (.iload_n 3, 1) := dk_29 (dk_at dksX9_childrenOf_0 20 rfl rfl)
theorem dX9_childrenOf_21 : decode cX9_childrenOf 21 = .ok (.invokevirtual 485, 3) := dk_182 1 229 (dk_at dksX9_childrenOf_0 21 rfl rfl)
theorem dX9_childrenOf_24 : decode cX9_childrenOf 24 = .ok (.ifCond .eq 7, 3) := dk_153 0 7 (dk_at dksX9_childrenOf_1 0 rfl rfl)
theorem dX9_childrenOf_27 : decode cX9_childrenOf 27 = .ok (.iconst 1, 1) := dk_4 (dk_at dksX9_childrenOf_1 3 rfl rfl)
theorem dX9_childrenOf_28 : decode cX9_childrenOf 28 = .ok (.goto 4, 3) := dk_167 0 4 (dk_at dksX9_childrenOf_1 4 rfl rfl)
theorem dX9_childrenOf_31 : decode cX9_childrenOf 31 = .ok (.iconst 0, 1) := dk_3 (dk_at dksX9_childrenOf_1 7 rfl rfl)
theorem dX9_childrenOf_32 : decode cX9_childrenOf 32 = .ok (.iadd, 1) := dk_96 (dk_at dksX9_childrenOf_1 8 rfl rfl)
theorem dX9_childrenOf_33 : decode cX9_childrenOf 33 = .ok (.istore_n 2, 1) := dk_61 (dk_at dksX9_childrenOf_1 9 rfl rfl)
theorem dX9_childrenOf_34 : decode cX9_childrenOf 34 = .ok (.iinc 3 1, 3) := dk_132 3 1 (dk_at dksX9_childrenOf_1 10 rfl rfl)
theorem dX9_childrenOf_37 : decode cX9_childrenOf 37 = .ok (.goto (-33), 3) := dk_167 255 223 (dk_at dksX9_childrenOf_1 13 rfl rfl)
theorem dX9_childrenOf_40 : decode cX9_childrenOf 40 = .ok (.iload_n 2, 1) := dk_28 (dk_at dksX9_childrenOf_1 16 rfl rfl)
theorem dX9_childrenOf_41 : decode cX9_childrenOf 41 = .ok (.ireturn, 1) := dk_172 (dk_at dksX9_childrenOf_1 17 rfl rfl)
def dkwX9_order_0 : List UInt8 := [42, 27, 182, 1, 140, 153, 0, 12, 42, 180, 0, 145, 27, 46, 167, 0, 4, 2, 172]
abbrev dktX9_order_0 : List UInt8 := dkwX9_order_0 ++ []
theorem dksX9_order_0 : cX9_order.data.toList.drop 0 = dktX9_order_0 := by decide +kernel
theorem dX9_order_0 : decode cX9_order 0 = .ok (.aload_n 0, 1) := dk_42 (dk_at dksX9_order_0 0 rfl rfl)
theorem dX9_order_1 : decode cX9_order 1 = .ok (.iload_n 1, 1) := dk_27 (dk_at dksX9_order_0 1 rfl rfl)
theorem dX9_order_2 : decode cX9_order 2 = .ok (.invokevirtual 396, 3) := dk_182 1 140 (dk_at dksX9_order_0 2 rfl rfl)
theorem dX9_order_5 : decode cX9_order 5 = .ok (.ifCond .eq 12, 3) := dk_153 0 12 (dk_at dksX9_order_0 5 rfl rfl)
theorem dX9_order_8 : decode cX9_order 8 = .ok (.aload_n 0, 1) := dk_42 (dk_at dksX9_order_0 8 rfl rfl)
theorem dX9_order_9 : decode cX9_order 9 = .ok (.getfield 145, 3) := dk_180 0 145 (dk_at dksX9_order_0 9 rfl rfl)
theorem dX9_order_12 : decode cX9_order 12 = .ok (.iload_n 1, 1) := dk_27 (dk_at dksX9_order_0 12 rfl rfl)
theorem dX9_order_13 : decode cX9_order 13 = .ok (.iaload, 1) := dk_46 (dk_at dksX9_order_0 13 rfl rfl)
theorem dX9_order_14 : decode cX9_order 14 = .ok (.goto 4, 3) := dk_167 0 4 (dk_at dksX9_order_0 14 rfl rfl)
theorem dX9_order_17 : decode cX9_order 17 = .ok (.iconst (-1), 1) := dk_2 (dk_at dksX9_order_0 17 rfl rfl)
theorem dX9_order_18 : decode cX9_order 18 = .ok (.ireturn, 1) := dk_172 (dk_at dksX9_order_0 18 rfl rfl)
def dkwX9_odds_1 : List UInt8 := [27, 182, 1, 232, 104, 42, 180, 0, 85, 42, 180, 0, 51, 46, 108, 167, 0, 4, 2, 172]
abbrev dktX9_odds_1 : List UInt8 := dkwX9_odds_1 ++ []
def dkwX9_odds_0 : List UInt8 := [42, 27, 182, 1, 173, 153, 0, 37, 42, 180, 0, 85, 42, 180, 0, 51, 46, 158, 0, 25, 17, 3, 232, 42]
abbrev dktX9_odds_0 : List UInt8 := dkwX9_odds_0 ++ dktX9_odds_1
theorem dksX9_odds_0 : cX9_odds.data.toList.drop 0 = dktX9_odds_0 := by decide +kernel
theorem dksX9_odds_1 : cX9_odds.data.toList.drop 24 = dktX9_odds_1 := dk_seg dksX9_odds_0 24 rfl rfl
theorem dX9_odds_0 : decode cX9_odds 0 = .ok (.aload_n 0, 1) := dk_42 (dk_at dksX9_odds_0 0 rfl rfl)
theorem dX9_odds_1 : decode cX9_odds 1 = .ok (.iload_n 1, 1) := dk_27 (dk_at dksX9_odds_0 1 rfl rfl)
theorem dX9_odds_2 : decode cX9_odds 2 = .ok (.invokevirtual 429, 3) := dk_182 1 173 (dk_at dksX9_odds_0 2 rfl rfl)
theorem dX9_odds_5 : decode cX9_odds 5 = .ok (.ifCond .eq 37, 3) := dk_153 0 37 (dk_at dksX9_odds_0 5 rfl rfl)
theorem dX9_odds_8 : decode cX9_odds 8 = .ok (.aload_n 0, 1) := dk_42 (dk_at dksX9_odds_0 8 rfl rfl)
theorem dX9_odds_9 : decode cX9_odds 9 = .ok (.getfield 85, 3) := dk_180 0 85 (dk_at dksX9_odds_0 9 rfl rfl)
theorem dX9_odds_12 : decode cX9_odds 12 = .ok (.aload_n 0, 1) := dk_42 (dk_at dksX9_odds_0 12 rfl rfl)
theorem dX9_odds_13 : decode cX9_odds 13 = .ok (.getfield 51, 3) := dk_180 0 51 (dk_at dksX9_odds_0 13 rfl rfl)
theorem dX9_odds_16 : decode cX9_odds 16 = .ok (.iaload, 1) := dk_46 (dk_at dksX9_odds_0 16 rfl rfl)
theorem dX9_odds_17 : decode cX9_odds 17 = .ok (.ifCond .le 25, 3) := dk_158 0 25 (dk_at dksX9_odds_0 17 rfl rfl)
theorem dX9_odds_20 : decode cX9_odds 20 = .ok (.sipush 1000, 3) := dk_17 3 232 (dk_at dksX9_odds_0 20 rfl rfl)
theorem dX9_odds_23 : decode cX9_odds 23 = .ok (.aload_n 0, 1) := dk_42 (dk_at dksX9_odds_0 23 rfl rfl)
theorem dX9_odds_24 : decode cX9_odds 24 = .ok (.iload_n 1, 1) := dk_27 (dk_at dksX9_odds_1 0 rfl rfl)
theorem dX9_odds_25 : decode cX9_odds 25 = .ok (.invokevirtual 488, 3) := dk_182 1 232 (dk_at dksX9_odds_1 1 rfl rfl)
theorem dX9_odds_28 : decode cX9_odds 28 = .ok (.imul, 1) := dk_104 (dk_at dksX9_odds_1 4 rfl rfl)
theorem dX9_odds_29 : decode cX9_odds 29 = .ok (.aload_n 0, 1) := dk_42 (dk_at dksX9_odds_1 5 rfl rfl)
theorem dX9_odds_30 : decode cX9_odds 30 = .ok (.getfield 85, 3) := dk_180 0 85 (dk_at dksX9_odds_1 6 rfl rfl)
theorem dX9_odds_33 : decode cX9_odds 33 = .ok (.aload_n 0, 1) := dk_42 (dk_at dksX9_odds_1 9 rfl rfl)
theorem dX9_odds_34 : decode cX9_odds 34 = .ok (.getfield 51, 3) := dk_180 0 51 (dk_at dksX9_odds_1 10 rfl rfl)
theorem dX9_odds_37 : decode cX9_odds 37 = .ok (.iaload, 1) := dk_46 (dk_at dksX9_odds_1 13 rfl rfl)
theorem dX9_odds_38 : decode cX9_odds 38 = .ok (.idiv, 1) := dk_108 (dk_at dksX9_odds_1 14 rfl rfl)
theorem dX9_odds_39 : decode cX9_odds 39 = .ok (.goto 4, 3) := dk_167 0 4 (dk_at dksX9_odds_1 15 rfl rfl)
theorem dX9_odds_42 : decode cX9_odds 42 = .ok (.iconst (-1), 1) := dk_2 (dk_at dksX9_odds_1 18 rfl rfl)
theorem dX9_odds_43 : decode cX9_odds 43 = .ok (.ireturn, 1) := dk_172 (dk_at dksX9_odds_1 19 rfl rfl)
def dkwX9_becomes_6 : List UInt8 := [29, 153, 0, 12, 42, 180, 0, 227, 28, 46, 167, 0, 9, 42, 180, 0, 224, 28, 46, 172]
abbrev dktX9_becomes_6 : List UInt8 := dkwX9_becomes_6 ++ []
def dkwX9_becomes_5 : List UInt8 := [160, 0, 8, 21, 4, 167, 0, 38, 28, 3, 21, 4, 4, 100, 184, 1, 68, 154, 0, 7, 2, 167, 0, 22]
abbrev dktX9_becomes_5 : List UInt8 := dkwX9_becomes_5 ++ dktX9_becomes_6
def dkwX9_becomes_4 : List UInt8 := [21, 4, 4, 79, 42, 180, 0, 227, 21, 4, 21, 5, 79, 132, 4, 1, 132, 5, 1, 167, 255, 179, 28, 2]
abbrev dktX9_becomes_4 : List UInt8 := dkwX9_becomes_4 ++ dktX9_becomes_5
def dkwX9_becomes_3 : List UInt8 := [180, 0, 224, 21, 6, 92, 46, 4, 96, 79, 167, 0, 29, 42, 21, 4, 182, 1, 241, 42, 180, 0, 224]
abbrev dktX9_becomes_3 : List UInt8 := dkwX9_becomes_3 ++ dktX9_becomes_4
def dkwX9_becomes_2 : List UInt8 := [162, 0, 69, 42, 21, 5, 182, 1, 179, 42, 21, 4, 182, 1, 238, 54, 6, 21, 6, 2, 159, 0, 17, 42]
abbrev dktX9_becomes_2 : List UInt8 := dkwX9_becomes_2 ++ dktX9_becomes_3
def dkwX9_becomes_1 : List UInt8 := [54, 4, 42, 3, 27, 182, 1, 176, 3, 54, 5, 21, 5, 42, 180, 0, 85, 42, 180, 0, 51, 46]
abbrev dktX9_becomes_1 : List UInt8 := dkwX9_becomes_1 ++ dktX9_becomes_2
def dkwX9_becomes_0 : List UInt8 := [42, 27, 182, 1, 173, 153, 0, 15, 42, 180, 0, 85, 42, 180, 0, 51, 46, 154, 0, 5, 2, 172, 3]
abbrev dktX9_becomes_0 : List UInt8 := dkwX9_becomes_0 ++ dktX9_becomes_1
theorem dksX9_becomes_0 : cX9_becomes.data.toList.drop 0 = dktX9_becomes_0 := by decide +kernel
theorem dksX9_becomes_1 : cX9_becomes.data.toList.drop 23 = dktX9_becomes_1 := dk_seg dksX9_becomes_0 23 rfl rfl
theorem dksX9_becomes_2 : cX9_becomes.data.toList.drop 45 = dktX9_becomes_2 := dk_seg dksX9_becomes_1 22 rfl rfl
theorem dksX9_becomes_3 : cX9_becomes.data.toList.drop 69 = dktX9_becomes_3 := dk_seg dksX9_becomes_2 24 rfl rfl
theorem dksX9_becomes_4 : cX9_becomes.data.toList.drop 92 = dktX9_becomes_4 := dk_seg dksX9_becomes_3 23 rfl rfl
theorem dksX9_becomes_5 : cX9_becomes.data.toList.drop 116 = dktX9_becomes_5 := dk_seg dksX9_becomes_4 24 rfl rfl
theorem dksX9_becomes_6 : cX9_becomes.data.toList.drop 140 = dktX9_becomes_6 := dk_seg dksX9_becomes_5 24 rfl rfl
theorem dX9_becomes_0 : decode cX9_becomes 0 = .ok (.aload_n 0, 1) := dk_42 (dk_at dksX9_becomes_0 0 rfl rfl)
theorem dX9_becomes_1 : decode cX9_becomes 1 = .ok (.iload_n 1, 1) := dk_27 (dk_at dksX9_becomes_0 1 rfl rfl)
theorem dX9_becomes_2 : decode cX9_becomes 2 = .ok (.invokevirtual 429, 3) := dk_182 1 173 (dk_at dksX9_becomes_0 2 rfl rfl)
theorem dX9_becomes_5 : decode cX9_becomes 5 = .ok (.ifCond .eq 15, 3) := dk_153 0 15 (dk_at dksX9_becomes_0 5 rfl rfl)
theorem dX9_becomes_8 : decode cX9_becomes 8 = .ok (.aload_n 0, 1) := dk_42 (dk_at dksX9_becomes_0 8 rfl rfl)
theorem dX9_becomes_9 : decode cX9_becomes 9 = .ok (.getfield 85, 3) := dk_180 0 85 (dk_at dksX9_becomes_0 9 rfl rfl)
theorem dX9_becomes_12 : decode cX9_becomes 12 = .ok (.aload_n 0, 1) := dk_42 (dk_at dksX9_becomes_0 12 rfl rfl)
theorem dX9_becomes_13 : decode cX9_becomes 13 = .ok (.getfield 51, 3) := dk_180 0 51 (dk_at dksX9_becomes_0 13 rfl rfl)
theorem dX9_becomes_16 : decode cX9_becomes 16 = .ok (.iaload, 1) := dk_46 (dk_at dksX9_becomes_0 16 rfl rfl)
theorem dX9_becomes_17 : decode cX9_becomes 17 = .ok (.ifCond .ne 5, 3) := dk_154 0 5 (dk_at dksX9_becomes_0 17 rfl rfl)
theorem dX9_becomes_20 : decode cX9_becomes 20 = .ok (.iconst (-1), 1) := dk_2 (dk_at dksX9_becomes_0 20 rfl rfl)
theorem dX9_becomes_21 : decode cX9_becomes 21 = .ok (.ireturn, 1) := dk_172 (dk_at dksX9_becomes_0 21 rfl rfl)
theorem dX9_becomes_22 : decode cX9_becomes 22 = .ok (.iconst 0, 1) := dk_3 (dk_at dksX9_becomes_0 22 rfl rfl)
theorem dX9_becomes_23 : decode cX9_becomes 23 = .ok (.istore 4, 2) := dk_54 4 (dk_at dksX9_becomes_1 0 rfl rfl)
theorem dX9_becomes_25 : decode cX9_becomes 25 = .ok (.aload_n 0, 1) := dk_42 (dk_at dksX9_becomes_1 2 rfl rfl)
theorem dX9_becomes_26 : decode cX9_becomes 26 = .ok (.iconst 0, 1) := dk_3 (dk_at dksX9_becomes_1 3 rfl rfl)
theorem dX9_becomes_27 : decode cX9_becomes 27 = .ok (.iload_n 1, 1) := dk_27 (dk_at dksX9_becomes_1 4 rfl rfl)
theorem dX9_becomes_28 : decode cX9_becomes 28 = .ok (.invokevirtual 432, 3) := dk_182 1 176 (dk_at dksX9_becomes_1 5 rfl rfl)
theorem dX9_becomes_31 : decode cX9_becomes 31 = .ok (.iconst 0, 1) := dk_3 (dk_at dksX9_becomes_1 8 rfl rfl)
theorem dX9_becomes_32 : decode cX9_becomes 32 = .ok (.istore 5, 2) := dk_54 5 (dk_at dksX9_becomes_1 9 rfl rfl)
theorem dX9_becomes_34 : decode cX9_becomes 34 = .ok (.iload 5, 2) := dk_21 5 (dk_at dksX9_becomes_1 11 rfl rfl)
theorem dX9_becomes_36 : decode cX9_becomes 36 = .ok (.aload_n 0, 1) := dk_42 (dk_at dksX9_becomes_1 13 rfl rfl)
theorem dX9_becomes_37 : decode cX9_becomes 37 = .ok (.getfield 85, 3) := dk_180 0 85 (dk_at dksX9_becomes_1 14 rfl rfl)
theorem dX9_becomes_40 : decode cX9_becomes 40 = .ok (.aload_n 0, 1) := dk_42 (dk_at dksX9_becomes_1 17 rfl rfl)
theorem dX9_becomes_41 : decode cX9_becomes 41 = .ok (.getfield 51, 3) := dk_180 0 51 (dk_at dksX9_becomes_1 18 rfl rfl)
theorem dX9_becomes_44 : decode cX9_becomes 44 = .ok (.iaload, 1) := dk_46 (dk_at dksX9_becomes_1 21 rfl rfl)
theorem dX9_becomes_45 : decode cX9_becomes 45 = .ok (.if_icmp .ge 69, 3) := dk_162 0 69 (dk_at dksX9_becomes_2 0 rfl rfl)
theorem dX9_becomes_48 : decode cX9_becomes 48 = .ok (.aload_n 0, 1) := dk_42 (dk_at dksX9_becomes_2 3 rfl rfl)
theorem dX9_becomes_49 : decode cX9_becomes 49 = .ok (.iload 5, 2) := dk_21 5 (dk_at dksX9_becomes_2 4 rfl rfl)
theorem dX9_becomes_51 : decode cX9_becomes 51 = .ok (.invokevirtual 435, 3) := dk_182 1 179 (dk_at dksX9_becomes_2 6 rfl rfl)
theorem dX9_becomes_54 : decode cX9_becomes 54 = .ok (.aload_n 0, 1) := dk_42 (dk_at dksX9_becomes_2 9 rfl rfl)
theorem dX9_becomes_55 : decode cX9_becomes 55 = .ok (.iload 4, 2) := dk_21 4 (dk_at dksX9_becomes_2 10 rfl rfl)
theorem dX9_becomes_57 : decode cX9_becomes 57 = .ok (.invokevirtual 494, 3) := dk_182 1 238 (dk_at dksX9_becomes_2 12 rfl rfl)
theorem dX9_becomes_60 : decode cX9_becomes 60 = .ok (.istore 6, 2) := dk_54 6 (dk_at dksX9_becomes_2 15 rfl rfl)
theorem dX9_becomes_62 : decode cX9_becomes 62 = .ok (.iload 6, 2) := dk_21 6 (dk_at dksX9_becomes_2 17 rfl rfl)
theorem dX9_becomes_64 : decode cX9_becomes 64 = .ok (.iconst (-1), 1) := dk_2 (dk_at dksX9_becomes_2 19 rfl rfl)
theorem dX9_becomes_65 : decode cX9_becomes 65 = .ok (.if_icmp .eq 17, 3) := dk_159 0 17 (dk_at dksX9_becomes_2 20 rfl rfl)
theorem dX9_becomes_68 : decode cX9_becomes 68 = .ok (.aload_n 0, 1) := dk_42 (dk_at dksX9_becomes_2 23 rfl rfl)
theorem dX9_becomes_69 : decode cX9_becomes 69 = .ok (.getfield 224, 3) := dk_180 0 224 (dk_at dksX9_becomes_3 0 rfl rfl)
theorem dX9_becomes_72 : decode cX9_becomes 72 = .ok (.iload 6, 2) := dk_21 6 (dk_at dksX9_becomes_3 3 rfl rfl)
theorem dX9_becomes_74 : decode cX9_becomes 74 = .ok (.dup2, 1) := dk_92 (dk_at dksX9_becomes_3 5 rfl rfl)
theorem dX9_becomes_75 : decode cX9_becomes 75 = .ok (.iaload, 1) := dk_46 (dk_at dksX9_becomes_3 6 rfl rfl)
theorem dX9_becomes_76 : decode cX9_becomes 76 = .ok (.iconst 1, 1) := dk_4 (dk_at dksX9_becomes_3 7 rfl rfl)
theorem dX9_becomes_77 : decode cX9_becomes 77 = .ok (.iadd, 1) := dk_96 (dk_at dksX9_becomes_3 8 rfl rfl)
theorem dX9_becomes_78 : decode cX9_becomes 78 = .ok (.iastore, 1) := dk_79 (dk_at dksX9_becomes_3 9 rfl rfl)
theorem dX9_becomes_79 : decode cX9_becomes 79 = .ok (.goto 29, 3) := dk_167 0 29 (dk_at dksX9_becomes_3 10 rfl rfl)
theorem dX9_becomes_82 : decode cX9_becomes 82 = .ok (.aload_n 0, 1) := dk_42 (dk_at dksX9_becomes_3 13 rfl rfl)
theorem dX9_becomes_83 : decode cX9_becomes 83 = .ok (.iload 4, 2) := dk_21 4 (dk_at dksX9_becomes_3 14 rfl rfl)
theorem dX9_becomes_85 : decode cX9_becomes 85 = .ok (.invokevirtual 497, 3) := dk_182 1 241 (dk_at dksX9_becomes_3 16 rfl rfl)
theorem dX9_becomes_88 : decode cX9_becomes 88 = .ok (.aload_n 0, 1) := dk_42 (dk_at dksX9_becomes_3 19 rfl rfl)
theorem dX9_becomes_89 : decode cX9_becomes 89 = .ok (.getfield 224, 3) := dk_180 0 224 (dk_at dksX9_becomes_3 20 rfl rfl)
theorem dX9_becomes_92 : decode cX9_becomes 92 = .ok (.iload 4, 2) := dk_21 4 (dk_at dksX9_becomes_4 0 rfl rfl)
theorem dX9_becomes_94 : decode cX9_becomes 94 = .ok (.iconst 1, 1) := dk_4 (dk_at dksX9_becomes_4 2 rfl rfl)
theorem dX9_becomes_95 : decode cX9_becomes 95 = .ok (.iastore, 1) := dk_79 (dk_at dksX9_becomes_4 3 rfl rfl)
theorem dX9_becomes_96 : decode cX9_becomes 96 = .ok (.aload_n 0, 1) := dk_42 (dk_at dksX9_becomes_4 4 rfl rfl)
theorem dX9_becomes_97 : decode cX9_becomes 97 = .ok (.getfield 227, 3) := dk_180 0 227 (dk_at dksX9_becomes_4 5 rfl rfl)
theorem dX9_becomes_100 : decode cX9_becomes 100 = .ok (.iload 4, 2) := dk_21 4 (dk_at dksX9_becomes_4 8 rfl rfl)
theorem dX9_becomes_102 : decode cX9_becomes 102 = .ok (.iload 5, 2) := dk_21 5 (dk_at dksX9_becomes_4 10 rfl rfl)
theorem dX9_becomes_104 : decode cX9_becomes 104 = .ok (.iastore, 1) := dk_79 (dk_at dksX9_becomes_4 12 rfl rfl)
theorem dX9_becomes_105 : decode cX9_becomes 105 = .ok (.iinc 4 1, 3) := dk_132 4 1 (dk_at dksX9_becomes_4 13 rfl rfl)
theorem dX9_becomes_108 : decode cX9_becomes 108 = .ok (.iinc 5 1, 3) := dk_132 5 1 (dk_at dksX9_becomes_4 16 rfl rfl)
theorem dX9_becomes_111 : decode cX9_becomes 111 = .ok (.goto (-77), 3) := dk_167 255 179 (dk_at dksX9_becomes_4 19 rfl rfl)
theorem dX9_becomes_114 : decode cX9_becomes 114 = .ok (.iload_n 2, 1) := dk_28 (dk_at dksX9_becomes_4 22 rfl rfl)
theorem dX9_becomes_115 : decode cX9_becomes 115 = .ok (.iconst (-1), 1) := dk_2 (dk_at dksX9_becomes_4 23 rfl rfl)
theorem dX9_becomes_116 : decode cX9_becomes 116 = .ok (.if_icmp .ne 8, 3) := dk_160 0 8 (dk_at dksX9_becomes_5 0 rfl rfl)
theorem dX9_becomes_119 : decode cX9_becomes 119 = .ok (.iload 4, 2) := dk_21 4 (dk_at dksX9_becomes_5 3 rfl rfl)
theorem dX9_becomes_121 : decode cX9_becomes 121 = .ok (.goto 38, 3) := dk_167 0 38 (dk_at dksX9_becomes_5 5 rfl rfl)
theorem dX9_becomes_124 : decode cX9_becomes 124 = .ok (.iload_n 2, 1) := dk_28 (dk_at dksX9_becomes_5 8 rfl rfl)
theorem dX9_becomes_125 : decode cX9_becomes 125 = .ok (.iconst 0, 1) := dk_3 (dk_at dksX9_becomes_5 9 rfl rfl)
theorem dX9_becomes_126 : decode cX9_becomes 126 = .ok (.iload 4, 2) := dk_21 4 (dk_at dksX9_becomes_5 10 rfl rfl)
theorem dX9_becomes_128 : decode cX9_becomes 128 = .ok (.iconst 1, 1) := dk_4 (dk_at dksX9_becomes_5 12 rfl rfl)
theorem dX9_becomes_129 : decode cX9_becomes 129 = .ok (.isub, 1) := dk_100 (dk_at dksX9_becomes_5 13 rfl rfl)
theorem dX9_becomes_130 : decode cX9_becomes 130 = .ok (.invokestatic 324, 3) := dk_184 1 68 (dk_at dksX9_becomes_5 14 rfl rfl)
theorem dX9_becomes_133 : decode cX9_becomes 133 = .ok (.ifCond .ne 7, 3) := dk_154 0 7 (dk_at dksX9_becomes_5 17 rfl rfl)
theorem dX9_becomes_136 : decode cX9_becomes 136 = .ok (.iconst (-1), 1) := dk_2 (dk_at dksX9_becomes_5 20 rfl rfl)
theorem dX9_becomes_137 : decode cX9_becomes 137 = .ok (.goto 22, 3) := dk_167 0 22 (dk_at dksX9_becomes_5 21 rfl rfl)
theorem dX9_becomes_140 : decode cX9_becomes 140 = .ok (.iload_n 3, 1) := dk_29 (dk_at dksX9_becomes_6 0 rfl rfl)
theorem dX9_becomes_141 : decode cX9_becomes 141 = .ok (.ifCond .eq 12, 3) := dk_153 0 12 (dk_at dksX9_becomes_6 1 rfl rfl)
theorem dX9_becomes_144 : decode cX9_becomes 144 = .ok (.aload_n 0, 1) := dk_42 (dk_at dksX9_becomes_6 4 rfl rfl)
theorem dX9_becomes_145 : decode cX9_becomes 145 = .ok (.getfield 227, 3) := dk_180 0 227 (dk_at dksX9_becomes_6 5 rfl rfl)
theorem dX9_becomes_148 : decode cX9_becomes 148 = .ok (.iload_n 2, 1) := dk_28 (dk_at dksX9_becomes_6 8 rfl rfl)
theorem dX9_becomes_149 : decode cX9_becomes 149 = .ok (.iaload, 1) := dk_46 (dk_at dksX9_becomes_6 9 rfl rfl)
theorem dX9_becomes_150 : decode cX9_becomes 150 = .ok (.goto 9, 3) := dk_167 0 9 (dk_at dksX9_becomes_6 10 rfl rfl)
theorem dX9_becomes_153 : decode cX9_becomes 153 = .ok (.aload_n 0, 1) := dk_42 (dk_at dksX9_becomes_6 13 rfl rfl)
theorem dX9_becomes_154 : decode cX9_becomes 154 = .ok (.getfield 224, 3) := dk_180 0 224 (dk_at dksX9_becomes_6 14 rfl rfl)
theorem dX9_becomes_157 : decode cX9_becomes 157 = .ok (.iload_n 2, 1) := dk_28 (dk_at dksX9_becomes_6 17 rfl rfl)
theorem dX9_becomes_158 : decode cX9_becomes 158 = .ok (.iaload, 1) := dk_46 (dk_at dksX9_becomes_6 18 rfl rfl)
theorem dX9_becomes_159 : decode cX9_becomes 159 = .ok (.ireturn, 1) := dk_172 (dk_at dksX9_becomes_6 19 rfl rfl)
def dkwX9_recalled_1 : List UInt8 := [172]
abbrev dktX9_recalled_1 : List UInt8 := dkwX9_recalled_1 ++ []
def dkwX9_recalled_0 : List UInt8 := [3, 61, 28, 27, 162, 0, 19, 42, 28, 182, 1, 235, 153, 0, 5, 28, 172, 132, 2, 1, 167, 255, 238, 2]
abbrev dktX9_recalled_0 : List UInt8 := dkwX9_recalled_0 ++ dktX9_recalled_1
theorem dksX9_recalled_0 : cX9_recalled.data.toList.drop 0 = dktX9_recalled_0 := by decide +kernel
theorem dksX9_recalled_1 : cX9_recalled.data.toList.drop 24 = dktX9_recalled_1 := dk_seg dksX9_recalled_0 24 rfl rfl
theorem dX9_recalled_0 : decode cX9_recalled 0 = .ok (.iconst 0, 1) := dk_3 (dk_at dksX9_recalled_0 0 rfl rfl)
theorem dX9_recalled_1 : decode cX9_recalled 1 = .ok (.istore_n 2, 1) := dk_61 (dk_at dksX9_recalled_0 1 rfl rfl)
theorem dX9_recalled_2 : decode cX9_recalled 2 = .ok (.iload_n 2, 1) := dk_28 (dk_at dksX9_recalled_0 2 rfl rfl)
theorem dX9_recalled_3 : decode cX9_recalled 3 = .ok (.iload_n 1, 1) := dk_27 (dk_at dksX9_recalled_0 3 rfl rfl)
theorem dX9_recalled_4 : decode cX9_recalled 4 = .ok (.if_icmp .ge 19, 3) := dk_162 0 19 (dk_at dksX9_recalled_0 4 rfl rfl)
theorem dX9_recalled_7 : decode cX9_recalled 7 = .ok (.aload_n 0, 1) := dk_42 (dk_at dksX9_recalled_0 7 rfl rfl)
theorem dX9_recalled_8 : decode cX9_recalled 8 = .ok (.iload_n 2, 1) := dk_28 (dk_at dksX9_recalled_0 8 rfl rfl)
theorem dX9_recalled_9 : decode cX9_recalled 9 = .ok (.invokevirtual 491, 3) := dk_182 1 235 (dk_at dksX9_recalled_0 9 rfl rfl)
theorem dX9_recalled_12 : decode cX9_recalled 12 = .ok (.ifCond .eq 5, 3) := dk_153 0 5 (dk_at dksX9_recalled_0 12 rfl rfl)
theorem dX9_recalled_15 : decode cX9_recalled 15 = .ok (.iload_n 2, 1) := dk_28 (dk_at dksX9_recalled_0 15 rfl rfl)
theorem dX9_recalled_16 : decode cX9_recalled 16 = .ok (.ireturn, 1) := dk_172 (dk_at dksX9_recalled_0 16 rfl rfl)
theorem dX9_recalled_17 : decode cX9_recalled 17 = .ok (.iinc 2 1, 3) := dk_132 2 1 (dk_at dksX9_recalled_0 17 rfl rfl)
theorem dX9_recalled_20 : decode cX9_recalled 20 = .ok (.goto (-18), 3) := dk_167 255 238 (dk_at dksX9_recalled_0 20 rfl rfl)
theorem dX9_recalled_23 : decode cX9_recalled 23 = .ok (.iconst (-1), 1) := dk_2 (dk_at dksX9_recalled_0 23 rfl rfl)
theorem dX9_recalled_24 : decode cX9_recalled 24 = .ok (.ireturn, 1) := dk_172 (dk_at dksX9_recalled_1 0 rfl rfl)
def dkwX9_isRemembered_3 : List UInt8 := [159, 0, 5, 3, 172, 132, 2, 1, 167, 255, 216, 4, 172]
abbrev dktX9_isRemembered_3 : List UInt8 := dkwX9_isRemembered_3 ++ []
def dkwX9_isRemembered_2 : List UInt8 := [162, 0, 33, 42, 180, 0, 221, 16, 14, 27, 104, 5, 96, 28, 96, 46, 42, 180, 0, 188, 28, 46]
abbrev dktX9_isRemembered_2 : List UInt8 := dkwX9_isRemembered_2 ++ dktX9_isRemembered_3
def dkwX9_isRemembered_1 : List UInt8 := [4, 96, 46, 42, 180, 0, 194, 159, 0, 5, 3, 172, 3, 61, 28, 42, 180, 0, 191, 42, 180, 0, 194, 96]
abbrev dktX9_isRemembered_1 : List UInt8 := dkwX9_isRemembered_1 ++ dktX9_isRemembered_2
def dkwX9_isRemembered_0 : List UInt8 := [42, 180, 0, 221, 16, 14, 27, 104, 46, 42, 180, 0, 191, 160, 0, 21, 42, 180, 0, 221, 16, 14, 27, 104]
abbrev dktX9_isRemembered_0 : List UInt8 := dkwX9_isRemembered_0 ++ dktX9_isRemembered_1
theorem dksX9_isRemembered_0 : cX9_isRemembered.data.toList.drop 0 = dktX9_isRemembered_0 := by decide +kernel
theorem dksX9_isRemembered_1 : cX9_isRemembered.data.toList.drop 24 = dktX9_isRemembered_1 := dk_seg dksX9_isRemembered_0 24 rfl rfl
theorem dksX9_isRemembered_2 : cX9_isRemembered.data.toList.drop 48 = dktX9_isRemembered_2 := dk_seg dksX9_isRemembered_1 24 rfl rfl
theorem dksX9_isRemembered_3 : cX9_isRemembered.data.toList.drop 70 = dktX9_isRemembered_3 := dk_seg dksX9_isRemembered_2 22 rfl rfl
theorem dX9_isRemembered_0 : decode cX9_isRemembered 0 = .ok (.aload_n 0, 1) := dk_42 (dk_at dksX9_isRemembered_0 0 rfl rfl)
theorem dX9_isRemembered_1 : decode cX9_isRemembered 1 = .ok (.getfield 221, 3) := dk_180 0 221 (dk_at dksX9_isRemembered_0 1 rfl rfl)
theorem dX9_isRemembered_4 : decode cX9_isRemembered 4 = .ok (.bipush 14, 2) := dk_16 14 (dk_at dksX9_isRemembered_0 4 rfl rfl)
theorem dX9_isRemembered_6 : decode cX9_isRemembered 6 = .ok (.iload_n 1, 1) := dk_27 (dk_at dksX9_isRemembered_0 6 rfl rfl)
theorem dX9_isRemembered_7 : decode cX9_isRemembered 7 = .ok (.imul, 1) := dk_104 (dk_at dksX9_isRemembered_0 7 rfl rfl)
theorem dX9_isRemembered_8 : decode cX9_isRemembered 8 = .ok (.iaload, 1) := dk_46 (dk_at dksX9_isRemembered_0 8 rfl rfl)
theorem dX9_isRemembered_9 : decode cX9_isRemembered 9 = .ok (.aload_n 0, 1) := dk_42 (dk_at dksX9_isRemembered_0 9 rfl rfl)
theorem dX9_isRemembered_10 : decode cX9_isRemembered 10 = .ok (.getfield 191, 3) := dk_180 0 191 (dk_at dksX9_isRemembered_0 10 rfl rfl)
theorem dX9_isRemembered_13 : decode cX9_isRemembered 13 = .ok (.if_icmp .ne 21, 3) := dk_160 0 21 (dk_at dksX9_isRemembered_0 13 rfl rfl)
theorem dX9_isRemembered_16 : decode cX9_isRemembered 16 = .ok (.aload_n 0, 1) := dk_42 (dk_at dksX9_isRemembered_0 16 rfl rfl)
theorem dX9_isRemembered_17 : decode cX9_isRemembered 17 = .ok (.getfield 221, 3) := dk_180 0 221 (dk_at dksX9_isRemembered_0 17 rfl rfl)
theorem dX9_isRemembered_20 : decode cX9_isRemembered 20 = .ok (.bipush 14, 2) := dk_16 14 (dk_at dksX9_isRemembered_0 20 rfl rfl)
theorem dX9_isRemembered_22 : decode cX9_isRemembered 22 = .ok (.iload_n 1, 1) := dk_27 (dk_at dksX9_isRemembered_0 22 rfl rfl)
theorem dX9_isRemembered_23 : decode cX9_isRemembered 23 = .ok (.imul, 1) := dk_104 (dk_at dksX9_isRemembered_0 23 rfl rfl)
theorem dX9_isRemembered_24 : decode cX9_isRemembered 24 = .ok (.iconst 1, 1) := dk_4 (dk_at dksX9_isRemembered_1 0 rfl rfl)
theorem dX9_isRemembered_25 : decode cX9_isRemembered 25 = .ok (.iadd, 1) := dk_96 (dk_at dksX9_isRemembered_1 1 rfl rfl)
theorem dX9_isRemembered_26 : decode cX9_isRemembered 26 = .ok (.iaload, 1) := dk_46 (dk_at dksX9_isRemembered_1 2 rfl rfl)
theorem dX9_isRemembered_27 : decode cX9_isRemembered 27 = .ok (.aload_n 0, 1) := dk_42 (dk_at dksX9_isRemembered_1 3 rfl rfl)
theorem dX9_isRemembered_28 : decode cX9_isRemembered 28 = .ok (.getfield 194, 3) := dk_180 0 194 (dk_at dksX9_isRemembered_1 4 rfl rfl)
theorem dX9_isRemembered_31 : decode cX9_isRemembered 31 = .ok (.if_icmp .eq 5, 3) := dk_159 0 5 (dk_at dksX9_isRemembered_1 7 rfl rfl)
theorem dX9_isRemembered_34 : decode cX9_isRemembered 34 = .ok (.iconst 0, 1) := dk_3 (dk_at dksX9_isRemembered_1 10 rfl rfl)
theorem dX9_isRemembered_35 : decode cX9_isRemembered 35 = .ok (.ireturn, 1) := dk_172 (dk_at dksX9_isRemembered_1 11 rfl rfl)
theorem dX9_isRemembered_36 : decode cX9_isRemembered 36 = .ok (.iconst 0, 1) := dk_3 (dk_at dksX9_isRemembered_1 12 rfl rfl)
theorem dX9_isRemembered_37 : decode cX9_isRemembered 37 = .ok (.istore_n 2, 1) := dk_61 (dk_at dksX9_isRemembered_1 13 rfl rfl)
theorem dX9_isRemembered_38 : decode cX9_isRemembered 38 = .ok (.iload_n 2, 1) := dk_28 (dk_at dksX9_isRemembered_1 14 rfl rfl)
theorem dX9_isRemembered_39 : decode cX9_isRemembered 39 = .ok (.aload_n 0, 1) := dk_42 (dk_at dksX9_isRemembered_1 15 rfl rfl)
theorem dX9_isRemembered_40 : decode cX9_isRemembered 40 = .ok (.getfield 191, 3) := dk_180 0 191 (dk_at dksX9_isRemembered_1 16 rfl rfl)
theorem dX9_isRemembered_43 : decode cX9_isRemembered 43 = .ok (.aload_n 0, 1) := dk_42 (dk_at dksX9_isRemembered_1 19 rfl rfl)
theorem dX9_isRemembered_44 : decode cX9_isRemembered 44 = .ok (.getfield 194, 3) := dk_180 0 194 (dk_at dksX9_isRemembered_1 20 rfl rfl)
theorem dX9_isRemembered_47 : decode cX9_isRemembered 47 = .ok (.iadd, 1) := dk_96 (dk_at dksX9_isRemembered_1 23 rfl rfl)
theorem dX9_isRemembered_48 : decode cX9_isRemembered 48 = .ok (.if_icmp .ge 33, 3) := dk_162 0 33 (dk_at dksX9_isRemembered_2 0 rfl rfl)
theorem dX9_isRemembered_51 : decode cX9_isRemembered 51 = .ok (.aload_n 0, 1) := dk_42 (dk_at dksX9_isRemembered_2 3 rfl rfl)
theorem dX9_isRemembered_52 : decode cX9_isRemembered 52 = .ok (.getfield 221, 3) := dk_180 0 221 (dk_at dksX9_isRemembered_2 4 rfl rfl)
theorem dX9_isRemembered_55 : decode cX9_isRemembered 55 = .ok (.bipush 14, 2) := dk_16 14 (dk_at dksX9_isRemembered_2 7 rfl rfl)
theorem dX9_isRemembered_57 : decode cX9_isRemembered 57 = .ok (.iload_n 1, 1) := dk_27 (dk_at dksX9_isRemembered_2 9 rfl rfl)
theorem dX9_isRemembered_58 : decode cX9_isRemembered 58 = .ok (.imul, 1) := dk_104 (dk_at dksX9_isRemembered_2 10 rfl rfl)
theorem dX9_isRemembered_59 : decode cX9_isRemembered 59 = .ok (.iconst 2, 1) := dk_5 (dk_at dksX9_isRemembered_2 11 rfl rfl)
theorem dX9_isRemembered_60 : decode cX9_isRemembered 60 = .ok (.iadd, 1) := dk_96 (dk_at dksX9_isRemembered_2 12 rfl rfl)
theorem dX9_isRemembered_61 : decode cX9_isRemembered 61 = .ok (.iload_n 2, 1) := dk_28 (dk_at dksX9_isRemembered_2 13 rfl rfl)
theorem dX9_isRemembered_62 : decode cX9_isRemembered 62 = .ok (.iadd, 1) := dk_96 (dk_at dksX9_isRemembered_2 14 rfl rfl)
theorem dX9_isRemembered_63 : decode cX9_isRemembered 63 = .ok (.iaload, 1) := dk_46 (dk_at dksX9_isRemembered_2 15 rfl rfl)
theorem dX9_isRemembered_64 : decode cX9_isRemembered 64 = .ok (.aload_n 0, 1) := dk_42 (dk_at dksX9_isRemembered_2 16 rfl rfl)
theorem dX9_isRemembered_65 : decode cX9_isRemembered 65 = .ok (.getfield 188, 3) := dk_180 0 188 (dk_at dksX9_isRemembered_2 17 rfl rfl)
theorem dX9_isRemembered_68 : decode cX9_isRemembered 68 = .ok (.iload_n 2, 1) := dk_28 (dk_at dksX9_isRemembered_2 20 rfl rfl)
theorem dX9_isRemembered_69 : decode cX9_isRemembered 69 = .ok (.iaload, 1) := dk_46 (dk_at dksX9_isRemembered_2 21 rfl rfl)
theorem dX9_isRemembered_70 : decode cX9_isRemembered 70 = .ok (.if_icmp .eq 5, 3) := dk_159 0 5 (dk_at dksX9_isRemembered_3 0 rfl rfl)
theorem dX9_isRemembered_73 : decode cX9_isRemembered 73 = .ok (.iconst 0, 1) := dk_3 (dk_at dksX9_isRemembered_3 3 rfl rfl)
theorem dX9_isRemembered_74 : decode cX9_isRemembered 74 = .ok (.ireturn, 1) := dk_172 (dk_at dksX9_isRemembered_3 4 rfl rfl)
theorem dX9_isRemembered_75 : decode cX9_isRemembered 75 = .ok (.iinc 2 1, 3) := dk_132 2 1 (dk_at dksX9_isRemembered_3 5 rfl rfl)
theorem dX9_isRemembered_78 : decode cX9_isRemembered 78 = .ok (.goto (-40), 3) := dk_167 255 216 (dk_at dksX9_isRemembered_3 8 rfl rfl)
theorem dX9_isRemembered_81 : decode cX9_isRemembered 81 = .ok (.iconst 1, 1) := dk_4 (dk_at dksX9_isRemembered_3 11 rfl rfl)
theorem dX9_isRemembered_82 : decode cX9_isRemembered 82 = .ok (.ireturn, 1) := dk_172 (dk_at dksX9_isRemembered_3 12 rfl rfl)
